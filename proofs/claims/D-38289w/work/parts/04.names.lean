/-! NightwatchWallModel -/
set_option maxRecDepth 100000
def RX4 : String := "NightwatchWallModel"
def TX4 : u_T := fun k => match k with
  | 0 => ("NightwatchWallModel", "thrown", "I", false)
  | 1 => ("NightwatchWallModel", "wide", "I", false)
  | 2 => ("NightwatchWallModel", "high", "I", false)
  | 3 => ("NightwatchWallModel", "kinds", "[I", false)
  | 4 => ("NightwatchWallModel", "openFrom", "I", false)
  | 5 => ("NightwatchWallModel", "openTo", "I", false)
  | 6 => ("NightwatchWallModel", "lamps", "Ljava/util/List;", false)
  | 7 => ("NightwatchWallModel", "fogs", "Ljava/util/List;", false)
  | 8 => ("NightwatchWallModel", "guards", "Ljava/util/List;", false)
  | 9 => ("NightwatchWallModel", "posts", "Ljava/util/List;", false)
  | 10 => ("NightwatchWallModel", "seed", "I", false)
  | 11 => ("NightwatchWallModel", "leaks", "I", false)
  | 12 => ("NightwatchWallModel", "next", "I", false)
  | 13 => ("NightwatchWallModel", "words", "[I", true)
  | 14 => ("NightwatchWallModel", "old", "Ljava/util/List;", false)
  | 15 => ("NightwatchWallModel", "right", "I", false)
  | 16 => ("NightwatchWallModel", "keys", "[I", true)
  | 17 => ("NightwatchWallModel", "intruders", "Ljava/util/List;", false)
  | 18 => ("NightwatchWallModel", "wires", "Ljava/util/List;", false)
  | _ => ("NightwatchWallModel", "refused", "I", false)
def tyX4 : Nat → FieldType := fun k => match k with
  | 0 => .int
  | 1 => .int
  | 2 => .int
  | 3 => .array .int
  | 4 => .int
  | 5 => .int
  | 6 => .object "java/util/List"
  | 7 => .object "java/util/List"
  | 8 => .object "java/util/List"
  | 9 => .object "java/util/List"
  | 10 => .int
  | 11 => .int
  | 12 => .int
  | 13 => .array .int
  | 14 => .object "java/util/List"
  | 15 => .int
  | 16 => .array .int
  | 17 => .object "java/util/List"
  | 18 => .object "java/util/List"
  | _ => .int
abbrev wsX40 : List Cond := u_ws RX4 TX4 20
set_option maxRecDepth 100000 in
theorem nmX4 : ∀ a, a < 20 → ∀ b, b < 20 → a ≠ b → (TX4 a).2.1 ≠ (TX4 b).2.1 := by decide +kernel
set_option maxRecDepth 100000 in
theorem tyX4_ok : ∀ k, k < 20 → parseFieldDescriptor (TX4 k).2.2.1 = some (tyX4 k) := by decide +kernel
abbrev cX4_init : ByteArray := prog_17_method_1_code
def yX4_init : MethodName := ⟨RX4, "<init>", "()V"⟩
def dkwX4_init_4 : List UInt8 := [183, 0, 19, 181, 0, 42, 42, 187, 0, 17, 89, 183, 0, 19, 181, 0, 45, 42, 182, 0, 48, 177]
abbrev dktX4_init_4 : List UInt8 := dkwX4_init_4 ++ []
def dkwX4_init_3 : List UInt8 := [187, 0, 17, 89, 183, 0, 19, 181, 0, 36, 42, 16, 6, 188, 10, 181, 0, 39, 42, 187, 0, 17, 89]
abbrev dktX4_init_3 : List UInt8 := dkwX4_init_3 ++ dktX4_init_4
def dkwX4_init_2 : List UInt8 := [181, 0, 27, 42, 187, 0, 17, 89, 183, 0, 19, 181, 0, 30, 42, 7, 188, 10, 181, 0, 33, 42]
abbrev dktX4_init_2 : List UInt8 := dkwX4_init_2 ++ dktX4_init_3
def dkwX4_init_1 : List UInt8 := [181, 0, 20, 42, 187, 0, 17, 89, 183, 0, 19, 181, 0, 24, 42, 187, 0, 17, 89, 183, 0, 19]
abbrev dktX4_init_1 : List UInt8 := dkwX4_init_1 ++ dktX4_init_2
def dkwX4_init_0 : List UInt8 := [42, 183, 0, 1, 42, 3, 188, 10, 181, 0, 7, 42, 2, 181, 0, 13, 42, 187, 0, 17, 89, 183, 0, 19]
abbrev dktX4_init_0 : List UInt8 := dkwX4_init_0 ++ dktX4_init_1
theorem dksX4_init_0 : cX4_init.data.toList.drop 0 = dktX4_init_0 := by decide +kernel
theorem dksX4_init_1 : cX4_init.data.toList.drop 24 = dktX4_init_1 := dk_seg dksX4_init_0 24 rfl rfl
theorem dksX4_init_2 : cX4_init.data.toList.drop 46 = dktX4_init_2 := dk_seg dksX4_init_1 22 rfl rfl
theorem dksX4_init_3 : cX4_init.data.toList.drop 68 = dktX4_init_3 := dk_seg dksX4_init_2 22 rfl rfl
theorem dksX4_init_4 : cX4_init.data.toList.drop 91 = dktX4_init_4 := dk_seg dksX4_init_3 23 rfl rfl
theorem dX4_init_0 : decode cX4_init 0 = .ok (.aload_n 0, 1) := dk_42 (dk_at dksX4_init_0 0 rfl rfl)
theorem dX4_init_1 : decode cX4_init 1 = .ok (.invokespecial 1, 3) := dk_183 0 1 (dk_at dksX4_init_0 1 rfl rfl)
theorem dX4_init_4 : decode cX4_init 4 = .ok (.aload_n 0, 1) := dk_42 (dk_at dksX4_init_0 4 rfl rfl)
theorem dX4_init_5 : decode cX4_init 5 = .ok (.iconst 0, 1) := dk_3 (dk_at dksX4_init_0 5 rfl rfl)
theorem dX4_init_6 : decode cX4_init 6 = .ok (.newarray .int, 2) := dk_188_10 (dk_at dksX4_init_0 6 rfl rfl)
theorem dX4_init_8 : decode cX4_init 8 = .ok (.putfield 7, 3) := dk_181 0 7 (dk_at dksX4_init_0 8 rfl rfl)
theorem dX4_init_11 : decode cX4_init 11 = .ok (.aload_n 0, 1) := dk_42 (dk_at dksX4_init_0 11 rfl rfl)
theorem dX4_init_12 : decode cX4_init 12 = .ok (.iconst (-1), 1) := dk_2 (dk_at dksX4_init_0 12 rfl rfl)
theorem dX4_init_13 : decode cX4_init 13 = .ok (.putfield 13, 3) := dk_181 0 13 (dk_at dksX4_init_0 13 rfl rfl)
theorem dX4_init_16 : decode cX4_init 16 = .ok (.aload_n 0, 1) := dk_42 (dk_at dksX4_init_0 16 rfl rfl)
theorem dX4_init_17 : decode cX4_init 17 = .ok (.new 17, 3) := dk_187 0 17 (dk_at dksX4_init_0 17 rfl rfl)
theorem dX4_init_20 : decode cX4_init 20 = .ok (.dup, 1) := dk_89 (dk_at dksX4_init_0 20 rfl rfl)
theorem dX4_init_21 : decode cX4_init 21 = .ok (.invokespecial 19, 3) := dk_183 0 19 (dk_at dksX4_init_0 21 rfl rfl)
theorem dX4_init_24 : decode cX4_init 24 = .ok (.putfield 20, 3) := dk_181 0 20 (dk_at dksX4_init_1 0 rfl rfl)
theorem dX4_init_27 : decode cX4_init 27 = .ok (.aload_n 0, 1) := dk_42 (dk_at dksX4_init_1 3 rfl rfl)
theorem dX4_init_28 : decode cX4_init 28 = .ok (.new 17, 3) := dk_187 0 17 (dk_at dksX4_init_1 4 rfl rfl)
theorem dX4_init_31 : decode cX4_init 31 = .ok (.dup, 1) := dk_89 (dk_at dksX4_init_1 7 rfl rfl)
theorem dX4_init_32 : decode cX4_init 32 = .ok (.invokespecial 19, 3) := dk_183 0 19 (dk_at dksX4_init_1 8 rfl rfl)
theorem dX4_init_35 : decode cX4_init 35 = .ok (.putfield 24, 3) := dk_181 0 24 (dk_at dksX4_init_1 11 rfl rfl)
theorem dX4_init_38 : decode cX4_init 38 = .ok (.aload_n 0, 1) := dk_42 (dk_at dksX4_init_1 14 rfl rfl)
theorem dX4_init_39 : decode cX4_init 39 = .ok (.new 17, 3) := dk_187 0 17 (dk_at dksX4_init_1 15 rfl rfl)
theorem dX4_init_42 : decode cX4_init 42 = .ok (.dup, 1) := dk_89 (dk_at dksX4_init_1 18 rfl rfl)
theorem dX4_init_43 : decode cX4_init 43 = .ok (.invokespecial 19, 3) := dk_183 0 19 (dk_at dksX4_init_1 19 rfl rfl)
theorem dX4_init_46 : decode cX4_init 46 = .ok (.putfield 27, 3) := dk_181 0 27 (dk_at dksX4_init_2 0 rfl rfl)
theorem dX4_init_49 : decode cX4_init 49 = .ok (.aload_n 0, 1) := dk_42 (dk_at dksX4_init_2 3 rfl rfl)
theorem dX4_init_50 : decode cX4_init 50 = .ok (.new 17, 3) := dk_187 0 17 (dk_at dksX4_init_2 4 rfl rfl)
theorem dX4_init_53 : decode cX4_init 53 = .ok (.dup, 1) := dk_89 (dk_at dksX4_init_2 7 rfl rfl)
theorem dX4_init_54 : decode cX4_init 54 = .ok (.invokespecial 19, 3) := dk_183 0 19 (dk_at dksX4_init_2 8 rfl rfl)
theorem dX4_init_57 : decode cX4_init 57 = .ok (.putfield 30, 3) := dk_181 0 30 (dk_at dksX4_init_2 11 rfl rfl)
theorem dX4_init_60 : decode cX4_init 60 = .ok (.aload_n 0, 1) := dk_42 (dk_at dksX4_init_2 14 rfl rfl)
theorem dX4_init_61 : decode cX4_init 61 = .ok (.iconst 4, 1) := dk_7 (dk_at dksX4_init_2 15 rfl rfl)
theorem dX4_init_62 : decode cX4_init 62 = .ok (.newarray .int, 2) := dk_188_10 (dk_at dksX4_init_2 16 rfl rfl)
theorem dX4_init_64 : decode cX4_init 64 = .ok (.putfield 33, 3) := dk_181 0 33 (dk_at dksX4_init_2 18 rfl rfl)
theorem dX4_init_67 : decode cX4_init 67 = .ok (.aload_n 0, 1) := dk_42 (dk_at dksX4_init_2 21 rfl rfl)
theorem dX4_init_68 : decode cX4_init 68 = .ok (.new 17, 3) := dk_187 0 17 (dk_at dksX4_init_3 0 rfl rfl)
theorem dX4_init_71 : decode cX4_init 71 = .ok (.dup, 1) := dk_89 (dk_at dksX4_init_3 3 rfl rfl)
theorem dX4_init_72 : decode cX4_init 72 = .ok (.invokespecial 19, 3) := dk_183 0 19 (dk_at dksX4_init_3 4 rfl rfl)
theorem dX4_init_75 : decode cX4_init 75 = .ok (.putfield 36, 3) := dk_181 0 36 (dk_at dksX4_init_3 7 rfl rfl)
theorem dX4_init_78 : decode cX4_init 78 = .ok (.aload_n 0, 1) := dk_42 (dk_at dksX4_init_3 10 rfl rfl)
theorem dX4_init_79 : decode cX4_init 79 = .ok (.bipush 6, 2) := dk_16 6 (dk_at dksX4_init_3 11 rfl rfl)
theorem dX4_init_81 : decode cX4_init 81 = .ok (.newarray .int, 2) := dk_188_10 (dk_at dksX4_init_3 13 rfl rfl)
theorem dX4_init_83 : decode cX4_init 83 = .ok (.putfield 39, 3) := dk_181 0 39 (dk_at dksX4_init_3 15 rfl rfl)
theorem dX4_init_86 : decode cX4_init 86 = .ok (.aload_n 0, 1) := dk_42 (dk_at dksX4_init_3 18 rfl rfl)
theorem dX4_init_87 : decode cX4_init 87 = .ok (.new 17, 3) := dk_187 0 17 (dk_at dksX4_init_3 19 rfl rfl)
theorem dX4_init_90 : decode cX4_init 90 = .ok (.dup, 1) := dk_89 (dk_at dksX4_init_3 22 rfl rfl)
theorem dX4_init_91 : decode cX4_init 91 = .ok (.invokespecial 19, 3) := dk_183 0 19 (dk_at dksX4_init_4 0 rfl rfl)
theorem dX4_init_94 : decode cX4_init 94 = .ok (.putfield 42, 3) := dk_181 0 42 (dk_at dksX4_init_4 3 rfl rfl)
theorem dX4_init_97 : decode cX4_init 97 = .ok (.aload_n 0, 1) := dk_42 (dk_at dksX4_init_4 6 rfl rfl)
theorem dX4_init_98 : decode cX4_init 98 = .ok (.new 17, 3) := dk_187 0 17 (dk_at dksX4_init_4 7 rfl rfl)
theorem dX4_init_101 : decode cX4_init 101 = .ok (.dup, 1) := dk_89 (dk_at dksX4_init_4 10 rfl rfl)
theorem dX4_init_102 : decode cX4_init 102 = .ok (.invokespecial 19, 3) := dk_183 0 19 (dk_at dksX4_init_4 11 rfl rfl)
theorem dX4_init_105 : decode cX4_init 105 = .ok (.putfield 45, 3) := dk_181 0 45 (dk_at dksX4_init_4 14 rfl rfl)
theorem dX4_init_108 : decode cX4_init 108 = .ok (.aload_n 0, 1) := dk_42 (dk_at dksX4_init_4 17 rfl rfl)
theorem dX4_init_109 : decode cX4_init 109 = .ok (.invokevirtual 48, 3) := dk_182 0 48 (dk_at dksX4_init_4 18 rfl rfl)
theorem dX4_init_112 : decode cX4_init 112 = .ok (.return_, 1) := dk_177 (dk_at dksX4_init_4 21 rfl rfl)
abbrev cX4_begin : ByteArray := prog_17_method_10_code
def yX4_begin : MethodName := ⟨RX4, "begin", "()V"⟩
def dkwX4_begin_6 : List UInt8 := [2, 79, 132, 1, 1, 167, 255, 240, 177]
abbrev dktX4_begin_6 : List UInt8 := dkwX4_begin_6 ++ []
def dkwX4_begin_5 : List UInt8 := [167, 255, 206, 42, 180, 0, 7, 190, 154, 0, 24, 3, 60, 27, 16, 6, 162, 0, 16, 42, 180, 0, 39, 27]
abbrev dktX4_begin_5 : List UInt8 := dkwX4_begin_5 ++ dktX4_begin_6
def dkwX4_begin_4 : List UInt8 := [3, 181, 0, 86, 42, 180, 0, 27, 27, 185, 0, 80, 2, 0, 192, 0, 84, 3, 181, 0, 89, 132, 1, 1]
abbrev dktX4_begin_4 : List UInt8 := dkwX4_begin_4 ++ dktX4_begin_5
def dkwX4_begin_3 : List UInt8 := [180, 0, 27, 185, 0, 58, 1, 0, 162, 0, 43, 42, 180, 0, 27, 27, 185, 0, 80, 2, 0, 192, 0, 84]
abbrev dktX4_begin_3 : List UInt8 := dkwX4_begin_3 ++ dktX4_begin_4
def dkwX4_begin_2 : List UInt8 := [181, 0, 74, 42, 3, 181, 0, 77, 42, 187, 0, 17, 89, 183, 0, 19, 181, 0, 36, 3, 60, 27, 42]
abbrev dktX4_begin_2 : List UInt8 := dkwX4_begin_2 ++ dktX4_begin_3
def dkwX4_begin_1 : List UInt8 := [180, 0, 71, 79, 42, 42, 180, 0, 71, 184, 0, 67, 181, 0, 71, 132, 1, 1, 167, 255, 227, 42, 3]
abbrev dktX4_begin_1 : List UInt8 := dkwX4_begin_1 ++ dktX4_begin_2
def dkwX4_begin_0 : List UInt8 := [42, 42, 180, 0, 64, 184, 0, 67, 181, 0, 71, 3, 60, 27, 7, 162, 0, 30, 42, 180, 0, 33, 27, 42]
abbrev dktX4_begin_0 : List UInt8 := dkwX4_begin_0 ++ dktX4_begin_1
theorem dksX4_begin_0 : cX4_begin.data.toList.drop 0 = dktX4_begin_0 := by decide +kernel
theorem dksX4_begin_1 : cX4_begin.data.toList.drop 24 = dktX4_begin_1 := dk_seg dksX4_begin_0 24 rfl rfl
theorem dksX4_begin_2 : cX4_begin.data.toList.drop 47 = dktX4_begin_2 := dk_seg dksX4_begin_1 23 rfl rfl
theorem dksX4_begin_3 : cX4_begin.data.toList.drop 70 = dktX4_begin_3 := dk_seg dksX4_begin_2 23 rfl rfl
theorem dksX4_begin_4 : cX4_begin.data.toList.drop 94 = dktX4_begin_4 := dk_seg dksX4_begin_3 24 rfl rfl
theorem dksX4_begin_5 : cX4_begin.data.toList.drop 118 = dktX4_begin_5 := dk_seg dksX4_begin_4 24 rfl rfl
theorem dksX4_begin_6 : cX4_begin.data.toList.drop 142 = dktX4_begin_6 := dk_seg dksX4_begin_5 24 rfl rfl
theorem dX4_begin_0 : decode cX4_begin 0 = .ok (.aload_n 0, 1) := dk_42 (dk_at dksX4_begin_0 0 rfl rfl)
theorem dX4_begin_1 : decode cX4_begin 1 = .ok (.aload_n 0, 1) := dk_42 (dk_at dksX4_begin_0 1 rfl rfl)
theorem dX4_begin_2 : decode cX4_begin 2 = .ok (.getfield 64, 3) := dk_180 0 64 (dk_at dksX4_begin_0 2 rfl rfl)
theorem dX4_begin_5 : decode cX4_begin 5 = .ok (.invokestatic 67, 3) := dk_184 0 67 (dk_at dksX4_begin_0 5 rfl rfl)
theorem dX4_begin_8 : decode cX4_begin 8 = .ok (.putfield 71, 3) := dk_181 0 71 (dk_at dksX4_begin_0 8 rfl rfl)
theorem dX4_begin_11 : decode cX4_begin 11 = .ok (.iconst 0, 1) := dk_3 (dk_at dksX4_begin_0 11 rfl rfl)
theorem dX4_begin_12 : decode cX4_begin 12 = .ok (.istore_n 1, 1) := dk_60 (dk_at dksX4_begin_0 12 rfl rfl)
theorem dX4_begin_13 : decode cX4_begin 13 = .ok (.iload_n 1, 1) := dk_27 (dk_at dksX4_begin_0 13 rfl rfl)
theorem dX4_begin_14 : decode cX4_begin 14 = .ok (.iconst 4, 1) := dk_7 (dk_at dksX4_begin_0 14 rfl rfl)
theorem dX4_begin_15 : decode cX4_begin 15 = .ok (.if_icmp .ge 30, 3) := dk_162 0 30 (dk_at dksX4_begin_0 15 rfl rfl)
theorem dX4_begin_18 : decode cX4_begin 18 = .ok (.aload_n 0, 1) := dk_42 (dk_at dksX4_begin_0 18 rfl rfl)
theorem dX4_begin_19 : decode cX4_begin 19 = .ok (.getfield 33, 3) := dk_180 0 33 (dk_at dksX4_begin_0 19 rfl rfl)
theorem dX4_begin_22 : decode cX4_begin 22 = .ok (.iload_n 1, 1) := dk_27 (dk_at dksX4_begin_0 22 rfl rfl)
theorem dX4_begin_23 : decode cX4_begin 23 = .ok (.aload_n 0, 1) := dk_42 (dk_at dksX4_begin_0 23 rfl rfl)
theorem dX4_begin_24 : decode cX4_begin 24 = .ok (.getfield 71, 3) := dk_180 0 71 (dk_at dksX4_begin_1 0 rfl rfl)
theorem dX4_begin_27 : decode cX4_begin 27 = .ok (.iastore, 1) := dk_79 (dk_at dksX4_begin_1 3 rfl rfl)
theorem dX4_begin_28 : decode cX4_begin 28 = .ok (.aload_n 0, 1) := dk_42 (dk_at dksX4_begin_1 4 rfl rfl)
theorem dX4_begin_29 : decode cX4_begin 29 = .ok (.aload_n 0, 1) := dk_42 (dk_at dksX4_begin_1 5 rfl rfl)
theorem dX4_begin_30 : decode cX4_begin 30 = .ok (.getfield 71, 3) := dk_180 0 71 (dk_at dksX4_begin_1 6 rfl rfl)
theorem dX4_begin_33 : decode cX4_begin 33 = .ok (.invokestatic 67, 3) := dk_184 0 67 (dk_at dksX4_begin_1 9 rfl rfl)
theorem dX4_begin_36 : decode cX4_begin 36 = .ok (.putfield 71, 3) := dk_181 0 71 (dk_at dksX4_begin_1 12 rfl rfl)
theorem dX4_begin_39 : decode cX4_begin 39 = .ok (.iinc 1 1, 3) := dk_132 1 1 (dk_at dksX4_begin_1 15 rfl rfl)
theorem dX4_begin_42 : decode cX4_begin 42 = .ok (.goto (-29), 3) := dk_167 255 227 (dk_at dksX4_begin_1 18 rfl rfl)
theorem dX4_begin_45 : decode cX4_begin 45 = .ok (.aload_n 0, 1) := dk_42 (dk_at dksX4_begin_1 21 rfl rfl)
theorem dX4_begin_46 : decode cX4_begin 46 = .ok (.iconst 0, 1) := dk_3 (dk_at dksX4_begin_1 22 rfl rfl)
theorem dX4_begin_47 : decode cX4_begin 47 = .ok (.putfield 74, 3) := dk_181 0 74 (dk_at dksX4_begin_2 0 rfl rfl)
theorem dX4_begin_50 : decode cX4_begin 50 = .ok (.aload_n 0, 1) := dk_42 (dk_at dksX4_begin_2 3 rfl rfl)
theorem dX4_begin_51 : decode cX4_begin 51 = .ok (.iconst 0, 1) := dk_3 (dk_at dksX4_begin_2 4 rfl rfl)
theorem dX4_begin_52 : decode cX4_begin 52 = .ok (.putfield 77, 3) := dk_181 0 77 (dk_at dksX4_begin_2 5 rfl rfl)
theorem dX4_begin_55 : decode cX4_begin 55 = .ok (.aload_n 0, 1) := dk_42 (dk_at dksX4_begin_2 8 rfl rfl)
theorem dX4_begin_56 : decode cX4_begin 56 = .ok (.new 17, 3) := dk_187 0 17 (dk_at dksX4_begin_2 9 rfl rfl)
theorem dX4_begin_59 : decode cX4_begin 59 = .ok (.dup, 1) := dk_89 (dk_at dksX4_begin_2 12 rfl rfl)
theorem dX4_begin_60 : decode cX4_begin 60 = .ok (.invokespecial 19, 3) := dk_183 0 19 (dk_at dksX4_begin_2 13 rfl rfl)
theorem dX4_begin_63 : decode cX4_begin 63 = .ok (.putfield 36, 3) := dk_181 0 36 (dk_at dksX4_begin_2 16 rfl rfl)
theorem dX4_begin_66 : decode cX4_begin 66 = .ok (.iconst 0, 1) := dk_3 (dk_at dksX4_begin_2 19 rfl rfl)
theorem dX4_begin_67 : decode cX4_begin 67 = .ok (.istore_n 1, 1) := dk_60 (dk_at dksX4_begin_2 20 rfl rfl)
theorem dX4_begin_68 : decode cX4_begin 68 = .ok (.iload_n 1, 1) := dk_27 (dk_at dksX4_begin_2 21 rfl rfl)
theorem dX4_begin_69 : decode cX4_begin 69 = .ok (.aload_n 0, 1) := dk_42 (dk_at dksX4_begin_2 22 rfl rfl)
theorem dX4_begin_70 : decode cX4_begin 70 = .ok (.getfield 27, 3) := dk_180 0 27 (dk_at dksX4_begin_3 0 rfl rfl)
theorem dX4_begin_73 : decode cX4_begin 73 = .ok (.invokeinterface 58 1, 5) := by decide +kernel
theorem dX4_begin_78 : decode cX4_begin 78 = .ok (.if_icmp .ge 43, 3) := dk_162 0 43 (dk_at dksX4_begin_3 8 rfl rfl)
theorem dX4_begin_81 : decode cX4_begin 81 = .ok (.aload_n 0, 1) := dk_42 (dk_at dksX4_begin_3 11 rfl rfl)
theorem dX4_begin_82 : decode cX4_begin 82 = .ok (.getfield 27, 3) := dk_180 0 27 (dk_at dksX4_begin_3 12 rfl rfl)
theorem dX4_begin_85 : decode cX4_begin 85 = .ok (.iload_n 1, 1) := dk_27 (dk_at dksX4_begin_3 15 rfl rfl)
theorem dX4_begin_86 : decode cX4_begin 86 = .ok (.invokeinterface 80 2, 5) := by decide +kernel
theorem dX4_begin_91 : decode cX4_begin 91 = .ok (.checkcast 84, 3) := dk_192 0 84 (dk_at dksX4_begin_3 21 rfl rfl)
theorem dX4_begin_94 : decode cX4_begin 94 = .ok (.iconst 0, 1) := dk_3 (dk_at dksX4_begin_4 0 rfl rfl)
theorem dX4_begin_95 : decode cX4_begin 95 = .ok (.putfield 86, 3) := dk_181 0 86 (dk_at dksX4_begin_4 1 rfl rfl)
theorem dX4_begin_98 : decode cX4_begin 98 = .ok (.aload_n 0, 1) := dk_42 (dk_at dksX4_begin_4 4 rfl rfl)
theorem dX4_begin_99 : decode cX4_begin 99 = .ok (.getfield 27, 3) := dk_180 0 27 (dk_at dksX4_begin_4 5 rfl rfl)
theorem dX4_begin_102 : decode cX4_begin 102 = .ok (.iload_n 1, 1) := dk_27 (dk_at dksX4_begin_4 8 rfl rfl)
theorem dX4_begin_103 : decode cX4_begin 103 = .ok (.invokeinterface 80 2, 5) := by decide +kernel
theorem dX4_begin_108 : decode cX4_begin 108 = .ok (.checkcast 84, 3) := dk_192 0 84 (dk_at dksX4_begin_4 14 rfl rfl)
theorem dX4_begin_111 : decode cX4_begin 111 = .ok (.iconst 0, 1) := dk_3 (dk_at dksX4_begin_4 17 rfl rfl)
theorem dX4_begin_112 : decode cX4_begin 112 = .ok (.putfield 89, 3) := dk_181 0 89 (dk_at dksX4_begin_4 18 rfl rfl)
theorem dX4_begin_115 : decode cX4_begin 115 = .ok (.iinc 1 1, 3) := dk_132 1 1 (dk_at dksX4_begin_4 21 rfl rfl)
theorem dX4_begin_118 : decode cX4_begin 118 = .ok (.goto (-50), 3) := dk_167 255 206 (dk_at dksX4_begin_5 0 rfl rfl)
theorem dX4_begin_121 : decode cX4_begin 121 = .ok (.aload_n 0, 1) := dk_42 (dk_at dksX4_begin_5 3 rfl rfl)
theorem dX4_begin_122 : decode cX4_begin 122 = .ok (.getfield 7, 3) := dk_180 0 7 (dk_at dksX4_begin_5 4 rfl rfl)
theorem dX4_begin_125 : decode cX4_begin 125 = .ok (.arraylength, 1) := dk_190 (dk_at dksX4_begin_5 7 rfl rfl)
theorem dX4_begin_126 : decode cX4_begin 126 = .ok (.ifCond .ne 24, 3) := dk_154 0 24 (dk_at dksX4_begin_5 8 rfl rfl)
theorem dX4_begin_129 : decode cX4_begin 129 = .ok (.iconst 0, 1) := dk_3 (dk_at dksX4_begin_5 11 rfl rfl)
theorem dX4_begin_130 : decode cX4_begin 130 = .ok (.istore_n 1, 1) := dk_60 (dk_at dksX4_begin_5 12 rfl rfl)
theorem dX4_begin_131 : decode cX4_begin 131 = .ok (.iload_n 1, 1) := dk_27 (dk_at dksX4_begin_5 13 rfl rfl)
theorem dX4_begin_132 : decode cX4_begin 132 = .ok (.bipush 6, 2) := dk_16 6 (dk_at dksX4_begin_5 14 rfl rfl)
theorem dX4_begin_134 : decode cX4_begin 134 = .ok (.if_icmp .ge 16, 3) := dk_162 0 16 (dk_at dksX4_begin_5 16 rfl rfl)
theorem dX4_begin_137 : decode cX4_begin 137 = .ok (.aload_n 0, 1) := dk_42 (dk_at dksX4_begin_5 19 rfl rfl)
theorem dX4_begin_138 : decode cX4_begin 138 = .ok (.getfield 39, 3) := dk_180 0 39 (dk_at dksX4_begin_5 20 rfl rfl)
theorem dX4_begin_141 : decode cX4_begin 141 = .ok (.iload_n 1, 1) := dk_27 (dk_at dksX4_begin_5 23 rfl rfl)
theorem dX4_begin_142 : decode cX4_begin 142 = .ok (.iconst (-1), 1) := dk_2 (dk_at dksX4_begin_6 0 rfl rfl)
theorem dX4_begin_143 : decode cX4_begin 143 = .ok (.iastore, 1) := dk_79 (dk_at dksX4_begin_6 1 rfl rfl)
theorem dX4_begin_144 : decode cX4_begin 144 = .ok (.iinc 1 1, 3) := dk_132 1 1 (dk_at dksX4_begin_6 2 rfl rfl)
theorem dX4_begin_147 : decode cX4_begin 147 = .ok (.goto (-16), 3) := dk_167 255 240 (dk_at dksX4_begin_6 5 rfl rfl)
theorem dX4_begin_150 : decode cX4_begin 150 = .ok (.return_, 1) := dk_177 (dk_at dksX4_begin_6 8 rfl rfl)
abbrev cX4_after : ByteArray := prog_17_method_9_code
def yX4_after : MethodName := ⟨RX4, "after", "(I)I"⟩
def dkwX4_after_0 : List UInt8 := [16, 23, 26, 104, 16, 15, 96, 16, 97, 112, 172]
abbrev dktX4_after_0 : List UInt8 := dkwX4_after_0 ++ []
theorem dksX4_after_0 : cX4_after.data.toList.drop 0 = dktX4_after_0 := by decide +kernel
theorem dX4_after_0 : decode cX4_after 0 = .ok (.bipush 23, 2) := dk_16 23 (dk_at dksX4_after_0 0 rfl rfl)
theorem dX4_after_2 : decode cX4_after 2 = .ok (.iload_n 0, 1) := dk_26 (dk_at dksX4_after_0 2 rfl rfl)
theorem dX4_after_3 : decode cX4_after 3 = .ok (.imul, 1) := dk_104 (dk_at dksX4_after_0 3 rfl rfl)
theorem dX4_after_4 : decode cX4_after 4 = .ok (.bipush 15, 2) := dk_16 15 (dk_at dksX4_after_0 4 rfl rfl)
theorem dX4_after_6 : decode cX4_after 6 = .ok (.iadd, 1) := dk_96 (dk_at dksX4_after_0 6 rfl rfl)
theorem dX4_after_7 : decode cX4_after 7 = .ok (.bipush 97, 2) := dk_16 97 (dk_at dksX4_after_0 7 rfl rfl)
theorem dX4_after_9 : decode cX4_after 9 = .ok (.irem, 1) := dk_112 (dk_at dksX4_after_0 9 rfl rfl)
theorem dX4_after_10 : decode cX4_after 10 = .ok (.ireturn, 1) := dk_172 (dk_at dksX4_after_0 10 rfl rfl)
abbrev cX4_thrown : ByteArray := prog_17_method_2_code
def yX4_thrown : MethodName := ⟨RX4, "thrown", "()I"⟩
theorem dX4_thrown_0 : decode cX4_thrown 0 = .ok (.aload_n 0, 1) := by decide +kernel
theorem dX4_thrown_1 : decode cX4_thrown 1 = .ok (.getfield 51, 3) := by decide +kernel
theorem dX4_thrown_4 : decode cX4_thrown 4 = .ok (.ireturn, 1) := by decide +kernel
abbrev cX4_base : ByteArray := prog_17_method_21_code
def yX4_base : MethodName := ⟨RX4, "base", "(III)I"⟩
def dkwX4_base_11 : List UInt8 := [132, 6, 1, 167, 255, 173, 21, 4, 172]
abbrev dktX4_base_11 : List UInt8 := dkwX4_base_11 ++ []
def dkwX4_base_10 : List UInt8 := [21, 7, 79, 21, 4, 42, 180, 0, 7, 21, 6, 46, 4, 160, 0, 7, 3, 167, 0, 4, 4, 96, 54, 4]
abbrev dktX4_base_10 : List UInt8 := dkwX4_base_10 ++ dktX4_base_11
def dkwX4_base_9 : List UInt8 := [159, 0, 9, 21, 7, 6, 164, 0, 7, 3, 167, 0, 15, 21, 7, 5, 162, 0, 7, 4, 167, 0, 5]
abbrev dktX4_base_9 : List UInt8 := dkwX4_base_9 ++ dktX4_base_10
def dkwX4_base_8 : List UInt8 := [21, 5, 184, 0, 67, 54, 5, 21, 5, 16, 10, 112, 54, 7, 42, 180, 0, 7, 21, 6, 29, 16, 100]
abbrev dktX4_base_8 : List UInt8 := dkwX4_base_8 ++ dktX4_base_9
def dkwX4_base_7 : List UInt8 := [42, 182, 0, 48, 3, 54, 4, 29, 54, 5, 3, 54, 6, 21, 6, 42, 180, 0, 7, 190, 162, 0, 79]
abbrev dktX4_base_7 : List UInt8 := dkwX4_base_7 ++ dktX4_base_8
def dkwX4_base_6 : List UInt8 := [3, 54, 4, 21, 4, 16, 6, 162, 0, 17, 42, 180, 0, 39, 21, 4, 2, 79, 132, 4, 1, 167, 255, 238]
abbrev dktX4_base_6 : List UInt8 := dkwX4_base_6 ++ dktX4_base_7
def dkwX4_base_5 : List UInt8 := [181, 0, 42, 42, 187, 0, 17, 89, 183, 0, 19, 181, 0, 45, 42, 3, 181, 0, 137, 42, 2, 181, 0, 13]
abbrev dktX4_base_5 : List UInt8 := dkwX4_base_5 ++ dktX4_base_6
def dkwX4_base_4 : List UInt8 := [181, 0, 27, 42, 187, 0, 17, 89, 183, 0, 19, 181, 0, 30, 42, 187, 0, 17, 89, 183, 0, 19]
abbrev dktX4_base_4 : List UInt8 := dkwX4_base_4 ++ dktX4_base_5
def dkwX4_base_3 : List UInt8 := [181, 0, 20, 42, 187, 0, 17, 89, 183, 0, 19, 181, 0, 24, 42, 187, 0, 17, 89, 183, 0, 19]
abbrev dktX4_base_3 : List UInt8 := dkwX4_base_3 ++ dktX4_base_4
def dkwX4_base_2 : List UInt8 := [42, 28, 181, 0, 143, 42, 27, 28, 104, 188, 10, 181, 0, 7, 42, 187, 0, 17, 89, 183, 0, 19]
abbrev dktX4_base_2 : List UInt8 := dkwX4_base_2 ++ dktX4_base_3
def dkwX4_base_1 : List UInt8 := [153, 0, 13, 29, 3, 16, 100, 184, 0, 54, 154, 0, 9, 42, 4, 182, 0, 140, 172, 42, 27, 181, 0, 92]
abbrev dktX4_base_1 : List UInt8 := dkwX4_base_1 ++ dktX4_base_2
def dkwX4_base_0 : List UInt8 := [42, 3, 181, 0, 51, 27, 6, 16, 8, 184, 0, 54, 153, 0, 23, 28, 6, 16, 8, 184, 0, 54]
abbrev dktX4_base_0 : List UInt8 := dkwX4_base_0 ++ dktX4_base_1
theorem dksX4_base_0 : cX4_base.data.toList.drop 0 = dktX4_base_0 := by decide +kernel
theorem dksX4_base_1 : cX4_base.data.toList.drop 22 = dktX4_base_1 := dk_seg dksX4_base_0 22 rfl rfl
theorem dksX4_base_2 : cX4_base.data.toList.drop 46 = dktX4_base_2 := dk_seg dksX4_base_1 24 rfl rfl
theorem dksX4_base_3 : cX4_base.data.toList.drop 68 = dktX4_base_3 := dk_seg dksX4_base_2 22 rfl rfl
theorem dksX4_base_4 : cX4_base.data.toList.drop 90 = dktX4_base_4 := dk_seg dksX4_base_3 22 rfl rfl
theorem dksX4_base_5 : cX4_base.data.toList.drop 112 = dktX4_base_5 := dk_seg dksX4_base_4 22 rfl rfl
theorem dksX4_base_6 : cX4_base.data.toList.drop 136 = dktX4_base_6 := dk_seg dksX4_base_5 24 rfl rfl
theorem dksX4_base_7 : cX4_base.data.toList.drop 160 = dktX4_base_7 := dk_seg dksX4_base_6 24 rfl rfl
theorem dksX4_base_8 : cX4_base.data.toList.drop 183 = dktX4_base_8 := dk_seg dksX4_base_7 23 rfl rfl
theorem dksX4_base_9 : cX4_base.data.toList.drop 206 = dktX4_base_9 := dk_seg dksX4_base_8 23 rfl rfl
theorem dksX4_base_10 : cX4_base.data.toList.drop 229 = dktX4_base_10 := dk_seg dksX4_base_9 23 rfl rfl
theorem dksX4_base_11 : cX4_base.data.toList.drop 253 = dktX4_base_11 := dk_seg dksX4_base_10 24 rfl rfl
theorem dX4_base_0 : decode cX4_base 0 = .ok (.aload_n 0, 1) := dk_42 (dk_at dksX4_base_0 0 rfl rfl)
theorem dX4_base_1 : decode cX4_base 1 = .ok (.iconst 0, 1) := dk_3 (dk_at dksX4_base_0 1 rfl rfl)
theorem dX4_base_2 : decode cX4_base 2 = .ok (.putfield 51, 3) := dk_181 0 51 (dk_at dksX4_base_0 2 rfl rfl)
theorem dX4_base_5 : decode cX4_base 5 = .ok (.iload_n 1, 1) := dk_27 (dk_at dksX4_base_0 5 rfl rfl)
theorem dX4_base_6 : decode cX4_base 6 = .ok (.iconst 3, 1) := dk_6 (dk_at dksX4_base_0 6 rfl rfl)
theorem dX4_base_7 : decode cX4_base 7 = .ok (.bipush 8, 2) := dk_16 8 (dk_at dksX4_base_0 7 rfl rfl)
theorem dX4_base_9 : decode cX4_base 9 = .ok (.invokestatic 54, 3) := dk_184 0 54 (dk_at dksX4_base_0 9 rfl rfl)
theorem dX4_base_12 : decode cX4_base 12 = .ok (.ifCond .eq 23, 3) := dk_153 0 23 (dk_at dksX4_base_0 12 rfl rfl)
theorem dX4_base_15 : decode cX4_base 15 = .ok (.iload_n 2, 1) := dk_28 (dk_at dksX4_base_0 15 rfl rfl)
theorem dX4_base_16 : decode cX4_base 16 = .ok (.iconst 3, 1) := dk_6 (dk_at dksX4_base_0 16 rfl rfl)
theorem dX4_base_17 : decode cX4_base 17 = .ok (.bipush 8, 2) := dk_16 8 (dk_at dksX4_base_0 17 rfl rfl)
theorem dX4_base_19 : decode cX4_base 19 = .ok (.invokestatic 54, 3) := dk_184 0 54 (dk_at dksX4_base_0 19 rfl rfl)
theorem dX4_base_22 : decode cX4_base 22 = .ok (.ifCond .eq 13, 3) := dk_153 0 13 (dk_at dksX4_base_1 0 rfl rfl)
theorem dX4_base_25 : decode cX4_base 25 = .ok (.iload_n 3, 1) := dk_29 (dk_at dksX4_base_1 3 rfl rfl)
theorem dX4_base_26 : decode cX4_base 26 = .ok (.iconst 0, 1) := dk_3 (dk_at dksX4_base_1 4 rfl rfl)
theorem dX4_base_27 : decode cX4_base 27 = .ok (.bipush 100, 2) := dk_16 100 (dk_at dksX4_base_1 5 rfl rfl)
theorem dX4_base_29 : decode cX4_base 29 = .ok (.invokestatic 54, 3) := dk_184 0 54 (dk_at dksX4_base_1 7 rfl rfl)
theorem dX4_base_32 : decode cX4_base 32 = .ok (.ifCond .ne 9, 3) := dk_154 0 9 (dk_at dksX4_base_1 10 rfl rfl)
theorem dX4_base_35 : decode cX4_base 35 = .ok (.aload_n 0, 1) := dk_42 (dk_at dksX4_base_1 13 rfl rfl)
theorem dX4_base_36 : decode cX4_base 36 = .ok (.iconst 1, 1) := dk_4 (dk_at dksX4_base_1 14 rfl rfl)
theorem dX4_base_37 : decode cX4_base 37 = .ok (.invokevirtual 140, 3) := dk_182 0 140 (dk_at dksX4_base_1 15 rfl rfl)
theorem dX4_base_40 : decode cX4_base 40 = .ok (.ireturn, 1) := dk_172 (dk_at dksX4_base_1 18 rfl rfl)
theorem dX4_base_41 : decode cX4_base 41 = .ok (.aload_n 0, 1) := dk_42 (dk_at dksX4_base_1 19 rfl rfl)
theorem dX4_base_42 : decode cX4_base 42 = .ok (.iload_n 1, 1) := dk_27 (dk_at dksX4_base_1 20 rfl rfl)
theorem dX4_base_43 : decode cX4_base 43 = .ok (.putfield 92, 3) := dk_181 0 92 (dk_at dksX4_base_1 21 rfl rfl)
theorem dX4_base_46 : decode cX4_base 46 = .ok (.aload_n 0, 1) := dk_42 (dk_at dksX4_base_2 0 rfl rfl)
theorem dX4_base_47 : decode cX4_base 47 = .ok (.iload_n 2, 1) := dk_28 (dk_at dksX4_base_2 1 rfl rfl)
theorem dX4_base_48 : decode cX4_base 48 = .ok (.putfield 143, 3) := dk_181 0 143 (dk_at dksX4_base_2 2 rfl rfl)
theorem dX4_base_51 : decode cX4_base 51 = .ok (.aload_n 0, 1) := dk_42 (dk_at dksX4_base_2 5 rfl rfl)
theorem dX4_base_52 : decode cX4_base 52 = .ok (.iload_n 1, 1) := dk_27 (dk_at dksX4_base_2 6 rfl rfl)
theorem dX4_base_53 : decode cX4_base 53 = .ok (.iload_n 2, 1) := dk_28 (dk_at dksX4_base_2 7 rfl rfl)
theorem dX4_base_54 : decode cX4_base 54 = .ok (.imul, 1) := dk_104 (dk_at dksX4_base_2 8 rfl rfl)
theorem dX4_base_55 : decode cX4_base 55 = .ok (.newarray .int, 2) := dk_188_10 (dk_at dksX4_base_2 9 rfl rfl)
theorem dX4_base_57 : decode cX4_base 57 = .ok (.putfield 7, 3) := dk_181 0 7 (dk_at dksX4_base_2 11 rfl rfl)
theorem dX4_base_60 : decode cX4_base 60 = .ok (.aload_n 0, 1) := dk_42 (dk_at dksX4_base_2 14 rfl rfl)
theorem dX4_base_61 : decode cX4_base 61 = .ok (.new 17, 3) := dk_187 0 17 (dk_at dksX4_base_2 15 rfl rfl)
theorem dX4_base_64 : decode cX4_base 64 = .ok (.dup, 1) := dk_89 (dk_at dksX4_base_2 18 rfl rfl)
theorem dX4_base_65 : decode cX4_base 65 = .ok (.invokespecial 19, 3) := dk_183 0 19 (dk_at dksX4_base_2 19 rfl rfl)
theorem dX4_base_68 : decode cX4_base 68 = .ok (.putfield 20, 3) := dk_181 0 20 (dk_at dksX4_base_3 0 rfl rfl)
theorem dX4_base_71 : decode cX4_base 71 = .ok (.aload_n 0, 1) := dk_42 (dk_at dksX4_base_3 3 rfl rfl)
theorem dX4_base_72 : decode cX4_base 72 = .ok (.new 17, 3) := dk_187 0 17 (dk_at dksX4_base_3 4 rfl rfl)
theorem dX4_base_75 : decode cX4_base 75 = .ok (.dup, 1) := dk_89 (dk_at dksX4_base_3 7 rfl rfl)
theorem dX4_base_76 : decode cX4_base 76 = .ok (.invokespecial 19, 3) := dk_183 0 19 (dk_at dksX4_base_3 8 rfl rfl)
theorem dX4_base_79 : decode cX4_base 79 = .ok (.putfield 24, 3) := dk_181 0 24 (dk_at dksX4_base_3 11 rfl rfl)
theorem dX4_base_82 : decode cX4_base 82 = .ok (.aload_n 0, 1) := dk_42 (dk_at dksX4_base_3 14 rfl rfl)
theorem dX4_base_83 : decode cX4_base 83 = .ok (.new 17, 3) := dk_187 0 17 (dk_at dksX4_base_3 15 rfl rfl)
theorem dX4_base_86 : decode cX4_base 86 = .ok (.dup, 1) := dk_89 (dk_at dksX4_base_3 18 rfl rfl)
theorem dX4_base_87 : decode cX4_base 87 = .ok (.invokespecial 19, 3) := dk_183 0 19 (dk_at dksX4_base_3 19 rfl rfl)
theorem dX4_base_90 : decode cX4_base 90 = .ok (.putfield 27, 3) := dk_181 0 27 (dk_at dksX4_base_4 0 rfl rfl)
theorem dX4_base_93 : decode cX4_base 93 = .ok (.aload_n 0, 1) := dk_42 (dk_at dksX4_base_4 3 rfl rfl)
theorem dX4_base_94 : decode cX4_base 94 = .ok (.new 17, 3) := dk_187 0 17 (dk_at dksX4_base_4 4 rfl rfl)
theorem dX4_base_97 : decode cX4_base 97 = .ok (.dup, 1) := dk_89 (dk_at dksX4_base_4 7 rfl rfl)
theorem dX4_base_98 : decode cX4_base 98 = .ok (.invokespecial 19, 3) := dk_183 0 19 (dk_at dksX4_base_4 8 rfl rfl)
theorem dX4_base_101 : decode cX4_base 101 = .ok (.putfield 30, 3) := dk_181 0 30 (dk_at dksX4_base_4 11 rfl rfl)
theorem dX4_base_104 : decode cX4_base 104 = .ok (.aload_n 0, 1) := dk_42 (dk_at dksX4_base_4 14 rfl rfl)
theorem dX4_base_105 : decode cX4_base 105 = .ok (.new 17, 3) := dk_187 0 17 (dk_at dksX4_base_4 15 rfl rfl)
theorem dX4_base_108 : decode cX4_base 108 = .ok (.dup, 1) := dk_89 (dk_at dksX4_base_4 18 rfl rfl)
theorem dX4_base_109 : decode cX4_base 109 = .ok (.invokespecial 19, 3) := dk_183 0 19 (dk_at dksX4_base_4 19 rfl rfl)
theorem dX4_base_112 : decode cX4_base 112 = .ok (.putfield 42, 3) := dk_181 0 42 (dk_at dksX4_base_5 0 rfl rfl)
theorem dX4_base_115 : decode cX4_base 115 = .ok (.aload_n 0, 1) := dk_42 (dk_at dksX4_base_5 3 rfl rfl)
theorem dX4_base_116 : decode cX4_base 116 = .ok (.new 17, 3) := dk_187 0 17 (dk_at dksX4_base_5 4 rfl rfl)
theorem dX4_base_119 : decode cX4_base 119 = .ok (.dup, 1) := dk_89 (dk_at dksX4_base_5 7 rfl rfl)
theorem dX4_base_120 : decode cX4_base 120 = .ok (.invokespecial 19, 3) := dk_183 0 19 (dk_at dksX4_base_5 8 rfl rfl)
theorem dX4_base_123 : decode cX4_base 123 = .ok (.putfield 45, 3) := dk_181 0 45 (dk_at dksX4_base_5 11 rfl rfl)
theorem dX4_base_126 : decode cX4_base 126 = .ok (.aload_n 0, 1) := dk_42 (dk_at dksX4_base_5 14 rfl rfl)
theorem dX4_base_127 : decode cX4_base 127 = .ok (.iconst 0, 1) := dk_3 (dk_at dksX4_base_5 15 rfl rfl)
theorem dX4_base_128 : decode cX4_base 128 = .ok (.putfield 137, 3) := dk_181 0 137 (dk_at dksX4_base_5 16 rfl rfl)
theorem dX4_base_131 : decode cX4_base 131 = .ok (.aload_n 0, 1) := dk_42 (dk_at dksX4_base_5 19 rfl rfl)
theorem dX4_base_132 : decode cX4_base 132 = .ok (.iconst (-1), 1) := dk_2 (dk_at dksX4_base_5 20 rfl rfl)
theorem dX4_base_133 : decode cX4_base 133 = .ok (.putfield 13, 3) := dk_181 0 13 (dk_at dksX4_base_5 21 rfl rfl)
theorem dX4_base_136 : decode cX4_base 136 = .ok (.iconst 0, 1) := dk_3 (dk_at dksX4_base_6 0 rfl rfl)
theorem dX4_base_137 : decode cX4_base 137 = .ok (.istore 4, 2) := dk_54 4 (dk_at dksX4_base_6 1 rfl rfl)
theorem dX4_base_139 : decode cX4_base 139 = .ok (.iload 4, 2) := dk_21 4 (dk_at dksX4_base_6 3 rfl rfl)
theorem dX4_base_141 : decode cX4_base 141 = .ok (.bipush 6, 2) := dk_16 6 (dk_at dksX4_base_6 5 rfl rfl)
theorem dX4_base_143 : decode cX4_base 143 = .ok (.if_icmp .ge 17, 3) := dk_162 0 17 (dk_at dksX4_base_6 7 rfl rfl)
theorem dX4_base_146 : decode cX4_base 146 = .ok (.aload_n 0, 1) := dk_42 (dk_at dksX4_base_6 10 rfl rfl)
theorem dX4_base_147 : decode cX4_base 147 = .ok (.getfield 39, 3) := dk_180 0 39 (dk_at dksX4_base_6 11 rfl rfl)
theorem dX4_base_150 : decode cX4_base 150 = .ok (.iload 4, 2) := dk_21 4 (dk_at dksX4_base_6 14 rfl rfl)
theorem dX4_base_152 : decode cX4_base 152 = .ok (.iconst (-1), 1) := dk_2 (dk_at dksX4_base_6 16 rfl rfl)
theorem dX4_base_153 : decode cX4_base 153 = .ok (.iastore, 1) := dk_79 (dk_at dksX4_base_6 17 rfl rfl)
theorem dX4_base_154 : decode cX4_base 154 = .ok (.iinc 4 1, 3) := dk_132 4 1 (dk_at dksX4_base_6 18 rfl rfl)
theorem dX4_base_157 : decode cX4_base 157 = .ok (.goto (-18), 3) := dk_167 255 238 (dk_at dksX4_base_6 21 rfl rfl)
theorem dX4_base_160 : decode cX4_base 160 = .ok (.aload_n 0, 1) := dk_42 (dk_at dksX4_base_7 0 rfl rfl)
theorem dX4_base_161 : decode cX4_base 161 = .ok (.invokevirtual 48, 3) := dk_182 0 48 (dk_at dksX4_base_7 1 rfl rfl)
theorem dX4_base_164 : decode cX4_base 164 = .ok (.iconst 0, 1) := dk_3 (dk_at dksX4_base_7 4 rfl rfl)
theorem dX4_base_165 : decode cX4_base 165 = .ok (.istore 4, 2) := dk_54 4 (dk_at dksX4_base_7 5 rfl rfl)
theorem dX4_base_167 : decode cX4_base 167 = .ok (.iload_n 3, 1) := dk_29 (dk_at dksX4_base_7 7 rfl rfl)
theorem dX4_base_168 : decode cX4_base 168 = .ok (.istore 5, 2) := dk_54 5 (dk_at dksX4_base_7 8 rfl rfl)
theorem dX4_base_170 : decode cX4_base 170 = .ok (.iconst 0, 1) := dk_3 (dk_at dksX4_base_7 10 rfl rfl)
theorem dX4_base_171 : decode cX4_base 171 = .ok (.istore 6, 2) := dk_54 6 (dk_at dksX4_base_7 11 rfl rfl)
theorem dX4_base_173 : decode cX4_base 173 = .ok (.iload 6, 2) := dk_21 6 (dk_at dksX4_base_7 13 rfl rfl)
theorem dX4_base_175 : decode cX4_base 175 = .ok (.aload_n 0, 1) := dk_42 (dk_at dksX4_base_7 15 rfl rfl)
theorem dX4_base_176 : decode cX4_base 176 = .ok (.getfield 7, 3) := dk_180 0 7 (dk_at dksX4_base_7 16 rfl rfl)
theorem dX4_base_179 : decode cX4_base 179 = .ok (.arraylength, 1) := dk_190 (dk_at dksX4_base_7 19 rfl rfl)
theorem dX4_base_180 : decode cX4_base 180 = .ok (.if_icmp .ge 79, 3) := dk_162 0 79 (dk_at dksX4_base_7 20 rfl rfl)
theorem dX4_base_183 : decode cX4_base 183 = .ok (.iload 5, 2) := dk_21 5 (dk_at dksX4_base_8 0 rfl rfl)
theorem dX4_base_185 : decode cX4_base 185 = .ok (.invokestatic 67, 3) := dk_184 0 67 (dk_at dksX4_base_8 2 rfl rfl)
theorem dX4_base_188 : decode cX4_base 188 = .ok (.istore 5, 2) := dk_54 5 (dk_at dksX4_base_8 5 rfl rfl)
theorem dX4_base_190 : decode cX4_base 190 = .ok (.iload 5, 2) := dk_21 5 (dk_at dksX4_base_8 7 rfl rfl)
theorem dX4_base_192 : decode cX4_base 192 = .ok (.bipush 10, 2) := dk_16 10 (dk_at dksX4_base_8 9 rfl rfl)
theorem dX4_base_194 : decode cX4_base 194 = .ok (.irem, 1) := dk_112 (dk_at dksX4_base_8 11 rfl rfl)
theorem dX4_base_195 : decode cX4_base 195 = .ok (.istore 7, 2) := dk_54 7 (dk_at dksX4_base_8 12 rfl rfl)
theorem dX4_base_197 : decode cX4_base 197 = .ok (.aload_n 0, 1) := dk_42 (dk_at dksX4_base_8 14 rfl rfl)
theorem dX4_base_198 : decode cX4_base 198 = .ok (.getfield 7, 3) := dk_180 0 7 (dk_at dksX4_base_8 15 rfl rfl)
theorem dX4_base_201 : decode cX4_base 201 = .ok (.iload 6, 2) := dk_21 6 (dk_at dksX4_base_8 18 rfl rfl)
theorem dX4_base_203 : decode cX4_base 203 = .ok (.iload_n 3, 1) := dk_29 (dk_at dksX4_base_8 20 rfl rfl)
theorem dX4_base_204 : decode cX4_base 204 = .ok (.bipush 100, 2) := dk_16 100 (dk_at dksX4_base_8 21 rfl rfl)
theorem dX4_base_206 : decode cX4_base 206 = .ok (.if_icmp .eq 9, 3) := dk_159 0 9 (dk_at dksX4_base_9 0 rfl rfl)
theorem dX4_base_209 : decode cX4_base 209 = .ok (.iload 7, 2) := dk_21 7 (dk_at dksX4_base_9 3 rfl rfl)
theorem dX4_base_211 : decode cX4_base 211 = .ok (.iconst 3, 1) := dk_6 (dk_at dksX4_base_9 5 rfl rfl)
theorem dX4_base_212 : decode cX4_base 212 = .ok (.if_icmp .le 7, 3) := dk_164 0 7 (dk_at dksX4_base_9 6 rfl rfl)
theorem dX4_base_215 : decode cX4_base 215 = .ok (.iconst 0, 1) := dk_3 (dk_at dksX4_base_9 9 rfl rfl)
theorem dX4_base_216 : decode cX4_base 216 = .ok (.goto 15, 3) := dk_167 0 15 (dk_at dksX4_base_9 10 rfl rfl)
theorem dX4_base_219 : decode cX4_base 219 = .ok (.iload 7, 2) := dk_21 7 (dk_at dksX4_base_9 13 rfl rfl)
theorem dX4_base_221 : decode cX4_base 221 = .ok (.iconst 2, 1) := dk_5 (dk_at dksX4_base_9 15 rfl rfl)
theorem dX4_base_222 : decode cX4_base 222 = .ok (.if_icmp .ge 7, 3) := dk_162 0 7 (dk_at dksX4_base_9 16 rfl rfl)
theorem dX4_base_225 : decode cX4_base 225 = .ok (.iconst 1, 1) := dk_4 (dk_at dksX4_base_9 19 rfl rfl)
theorem dX4_base_226 : decode cX4_base 226 = .ok (.goto 5, 3) := dk_167 0 5 (dk_at dksX4_base_9 20 rfl rfl)
theorem dX4_base_229 : decode cX4_base 229 = .ok (.iload 7, 2) := dk_21 7 (dk_at dksX4_base_10 0 rfl rfl)
theorem dX4_base_231 : decode cX4_base 231 = .ok (.iastore, 1) := dk_79 (dk_at dksX4_base_10 2 rfl rfl)
theorem dX4_base_232 : decode cX4_base 232 = .ok (.iload 4, 2) := dk_21 4 (dk_at dksX4_base_10 3 rfl rfl)
theorem dX4_base_234 : decode cX4_base 234 = .ok (.aload_n 0, 1) := dk_42 (dk_at dksX4_base_10 5 rfl rfl)
theorem dX4_base_235 : decode cX4_base 235 = .ok (.getfield 7, 3) := dk_180 0 7 (dk_at dksX4_base_10 6 rfl rfl)
theorem dX4_base_238 : decode cX4_base 238 = .ok (.iload 6, 2) := dk_21 6 (dk_at dksX4_base_10 9 rfl rfl)
theorem dX4_base_240 : decode cX4_base 240 = .ok (.iaload, 1) := dk_46 (dk_at dksX4_base_10 11 rfl rfl)
theorem dX4_base_241 : decode cX4_base 241 = .ok (.iconst 1, 1) := dk_4 (dk_at dksX4_base_10 12 rfl rfl)
theorem dX4_base_242 : decode cX4_base 242 = .ok (.if_icmp .ne 7, 3) := dk_160 0 7 (dk_at dksX4_base_10 13 rfl rfl)
theorem dX4_base_245 : decode cX4_base 245 = .ok (.iconst 0, 1) := dk_3 (dk_at dksX4_base_10 16 rfl rfl)
theorem dX4_base_246 : decode cX4_base 246 = .ok (.goto 4, 3) := dk_167 0 4 (dk_at dksX4_base_10 17 rfl rfl)
theorem dX4_base_249 : decode cX4_base 249 = .ok (.iconst 1, 1) := dk_4 (dk_at dksX4_base_10 20 rfl rfl)
theorem dX4_base_250 : decode cX4_base 250 = .ok (.iadd, 1) := dk_96 (dk_at dksX4_base_10 21 rfl rfl)
theorem dX4_base_251 : decode cX4_base 251 = .ok (.istore 4, 2) := dk_54 4 (dk_at dksX4_base_10 22 rfl rfl)
theorem dX4_base_253 : decode cX4_base 253 = .ok (.iinc 6 1, 3) := dk_132 6 1 (dk_at dksX4_base_11 0 rfl rfl)
theorem dX4_base_256 : decode cX4_base 256 = .ok (.goto (-83), 3) := dk_167 255 173 (dk_at dksX4_base_11 3 rfl rfl)
theorem dX4_base_259 : decode cX4_base 259 = .ok (.iload 4, 2) := dk_21 4 (dk_at dksX4_base_11 6 rfl rfl)
theorem dX4_base_261 : decode cX4_base 261 = .ok (.ireturn, 1) := dk_172 (dk_at dksX4_base_11 8 rfl rfl)
abbrev cX4_in : ByteArray := prog_17_method_4_code
def yX4_in : MethodName := ⟨RX4, "in", "(III)Z"⟩
def dkwX4_in_0 : List UInt8 := [26, 27, 161, 0, 12, 26, 28, 163, 0, 7, 4, 167, 0, 4, 3, 172]
abbrev dktX4_in_0 : List UInt8 := dkwX4_in_0 ++ []
theorem dksX4_in_0 : cX4_in.data.toList.drop 0 = dktX4_in_0 := by decide +kernel
theorem dX4_in_0 : decode cX4_in 0 = .ok (.iload_n 0, 1) := dk_26 (dk_at dksX4_in_0 0 rfl rfl)
theorem dX4_in_1 : decode cX4_in 1 = .ok (.iload_n 1, 1) := dk_27 (dk_at dksX4_in_0 1 rfl rfl)
theorem dX4_in_2 : decode cX4_in 2 = .ok (.if_icmp .lt 12, 3) := dk_161 0 12 (dk_at dksX4_in_0 2 rfl rfl)
theorem dX4_in_5 : decode cX4_in 5 = .ok (.iload_n 0, 1) := dk_26 (dk_at dksX4_in_0 5 rfl rfl)
theorem dX4_in_6 : decode cX4_in 6 = .ok (.iload_n 2, 1) := dk_28 (dk_at dksX4_in_0 6 rfl rfl)
theorem dX4_in_7 : decode cX4_in 7 = .ok (.if_icmp .gt 7, 3) := dk_163 0 7 (dk_at dksX4_in_0 7 rfl rfl)
theorem dX4_in_10 : decode cX4_in 10 = .ok (.iconst 1, 1) := dk_4 (dk_at dksX4_in_0 10 rfl rfl)
theorem dX4_in_11 : decode cX4_in 11 = .ok (.goto 4, 3) := dk_167 0 4 (dk_at dksX4_in_0 11 rfl rfl)
theorem dX4_in_14 : decode cX4_in 14 = .ok (.iconst 0, 1) := dk_3 (dk_at dksX4_in_0 14 rfl rfl)
theorem dX4_in_15 : decode cX4_in 15 = .ok (.ireturn, 1) := dk_172 (dk_at dksX4_in_0 15 rfl rfl)
abbrev cX4_no : ByteArray := prog_17_method_3_code
def yX4_no : MethodName := ⟨RX4, "no", "(I)I"⟩
def dkwX4_no_0 : List UInt8 := [42, 27, 181, 0, 51, 3, 172]
abbrev dktX4_no_0 : List UInt8 := dkwX4_no_0 ++ []
theorem dksX4_no_0 : cX4_no.data.toList.drop 0 = dktX4_no_0 := by decide +kernel
theorem dX4_no_0 : decode cX4_no 0 = .ok (.aload_n 0, 1) := dk_42 (dk_at dksX4_no_0 0 rfl rfl)
theorem dX4_no_1 : decode cX4_no 1 = .ok (.iload_n 1, 1) := dk_27 (dk_at dksX4_no_0 1 rfl rfl)
theorem dX4_no_2 : decode cX4_no 2 = .ok (.putfield 51, 3) := dk_181 0 51 (dk_at dksX4_no_0 2 rfl rfl)
theorem dX4_no_5 : decode cX4_no 5 = .ok (.iconst 0, 1) := dk_3 (dk_at dksX4_no_0 5 rfl rfl)
theorem dX4_no_6 : decode cX4_no 6 = .ok (.ireturn, 1) := dk_172 (dk_at dksX4_no_0 6 rfl rfl)
abbrev cX4_lay : ByteArray := prog_17_method_23_code
def yX4_lay : MethodName := ⟨RX4, "lay", "(II)I"⟩
def dkwX4_lay_3 : List UInt8 := [172]
abbrev dktX4_lay_3 : List UInt8 := dkwX4_lay_3 ++ []
def dkwX4_lay_2 : List UInt8 := [153, 0, 9, 42, 6, 182, 0, 140, 172, 42, 180, 0, 7, 27, 46, 62, 42, 180, 0, 7, 27, 28, 79, 29]
abbrev dktX4_lay_2 : List UInt8 := dkwX4_lay_2 ++ dktX4_lay_3
def dkwX4_lay_1 : List UInt8 := [184, 0, 54, 154, 0, 9, 42, 5, 182, 0, 140, 172, 28, 4, 160, 0, 17, 42, 27, 182, 0, 160]
abbrev dktX4_lay_1 : List UInt8 := dkwX4_lay_1 ++ dktX4_lay_2
def dkwX4_lay_0 : List UInt8 := [42, 3, 181, 0, 51, 42, 27, 182, 0, 157, 154, 0, 9, 42, 4, 182, 0, 140, 172, 28, 3, 6]
abbrev dktX4_lay_0 : List UInt8 := dkwX4_lay_0 ++ dktX4_lay_1
theorem dksX4_lay_0 : cX4_lay.data.toList.drop 0 = dktX4_lay_0 := by decide +kernel
theorem dksX4_lay_1 : cX4_lay.data.toList.drop 22 = dktX4_lay_1 := dk_seg dksX4_lay_0 22 rfl rfl
theorem dksX4_lay_2 : cX4_lay.data.toList.drop 44 = dktX4_lay_2 := dk_seg dksX4_lay_1 22 rfl rfl
theorem dksX4_lay_3 : cX4_lay.data.toList.drop 68 = dktX4_lay_3 := dk_seg dksX4_lay_2 24 rfl rfl
theorem dX4_lay_0 : decode cX4_lay 0 = .ok (.aload_n 0, 1) := dk_42 (dk_at dksX4_lay_0 0 rfl rfl)
theorem dX4_lay_1 : decode cX4_lay 1 = .ok (.iconst 0, 1) := dk_3 (dk_at dksX4_lay_0 1 rfl rfl)
theorem dX4_lay_2 : decode cX4_lay 2 = .ok (.putfield 51, 3) := dk_181 0 51 (dk_at dksX4_lay_0 2 rfl rfl)
theorem dX4_lay_5 : decode cX4_lay 5 = .ok (.aload_n 0, 1) := dk_42 (dk_at dksX4_lay_0 5 rfl rfl)
theorem dX4_lay_6 : decode cX4_lay 6 = .ok (.iload_n 1, 1) := dk_27 (dk_at dksX4_lay_0 6 rfl rfl)
theorem dX4_lay_7 : decode cX4_lay 7 = .ok (.invokevirtual 157, 3) := dk_182 0 157 (dk_at dksX4_lay_0 7 rfl rfl)
theorem dX4_lay_10 : decode cX4_lay 10 = .ok (.ifCond .ne 9, 3) := dk_154 0 9 (dk_at dksX4_lay_0 10 rfl rfl)
theorem dX4_lay_13 : decode cX4_lay 13 = .ok (.aload_n 0, 1) := dk_42 (dk_at dksX4_lay_0 13 rfl rfl)
theorem dX4_lay_14 : decode cX4_lay 14 = .ok (.iconst 1, 1) := dk_4 (dk_at dksX4_lay_0 14 rfl rfl)
theorem dX4_lay_15 : decode cX4_lay 15 = .ok (.invokevirtual 140, 3) := dk_182 0 140 (dk_at dksX4_lay_0 15 rfl rfl)
theorem dX4_lay_18 : decode cX4_lay 18 = .ok (.ireturn, 1) := dk_172 (dk_at dksX4_lay_0 18 rfl rfl)
theorem dX4_lay_19 : decode cX4_lay 19 = .ok (.iload_n 2, 1) := dk_28 (dk_at dksX4_lay_0 19 rfl rfl)
theorem dX4_lay_20 : decode cX4_lay 20 = .ok (.iconst 0, 1) := dk_3 (dk_at dksX4_lay_0 20 rfl rfl)
theorem dX4_lay_21 : decode cX4_lay 21 = .ok (.iconst 3, 1) := dk_6 (dk_at dksX4_lay_0 21 rfl rfl)
theorem dX4_lay_22 : decode cX4_lay 22 = .ok (.invokestatic 54, 3) := dk_184 0 54 (dk_at dksX4_lay_1 0 rfl rfl)
theorem dX4_lay_25 : decode cX4_lay 25 = .ok (.ifCond .ne 9, 3) := dk_154 0 9 (dk_at dksX4_lay_1 3 rfl rfl)
theorem dX4_lay_28 : decode cX4_lay 28 = .ok (.aload_n 0, 1) := dk_42 (dk_at dksX4_lay_1 6 rfl rfl)
theorem dX4_lay_29 : decode cX4_lay 29 = .ok (.iconst 2, 1) := dk_5 (dk_at dksX4_lay_1 7 rfl rfl)
theorem dX4_lay_30 : decode cX4_lay 30 = .ok (.invokevirtual 140, 3) := dk_182 0 140 (dk_at dksX4_lay_1 8 rfl rfl)
theorem dX4_lay_33 : decode cX4_lay 33 = .ok (.ireturn, 1) := dk_172 (dk_at dksX4_lay_1 11 rfl rfl)
theorem dX4_lay_34 : decode cX4_lay 34 = .ok (.iload_n 2, 1) := dk_28 (dk_at dksX4_lay_1 12 rfl rfl)
theorem dX4_lay_35 : decode cX4_lay 35 = .ok (.iconst 1, 1) := dk_4 (dk_at dksX4_lay_1 13 rfl rfl)
theorem dX4_lay_36 : decode cX4_lay 36 = .ok (.if_icmp .ne 17, 3) := dk_160 0 17 (dk_at dksX4_lay_1 14 rfl rfl)
theorem dX4_lay_39 : decode cX4_lay 39 = .ok (.aload_n 0, 1) := dk_42 (dk_at dksX4_lay_1 17 rfl rfl)
theorem dX4_lay_40 : decode cX4_lay 40 = .ok (.iload_n 1, 1) := dk_27 (dk_at dksX4_lay_1 18 rfl rfl)
theorem dX4_lay_41 : decode cX4_lay 41 = .ok (.invokevirtual 160, 3) := dk_182 0 160 (dk_at dksX4_lay_1 19 rfl rfl)
theorem dX4_lay_44 : decode cX4_lay 44 = .ok (.ifCond .eq 9, 3) := dk_153 0 9 (dk_at dksX4_lay_2 0 rfl rfl)
theorem dX4_lay_47 : decode cX4_lay 47 = .ok (.aload_n 0, 1) := dk_42 (dk_at dksX4_lay_2 3 rfl rfl)
theorem dX4_lay_48 : decode cX4_lay 48 = .ok (.iconst 3, 1) := dk_6 (dk_at dksX4_lay_2 4 rfl rfl)
theorem dX4_lay_49 : decode cX4_lay 49 = .ok (.invokevirtual 140, 3) := dk_182 0 140 (dk_at dksX4_lay_2 5 rfl rfl)
theorem dX4_lay_52 : decode cX4_lay 52 = .ok (.ireturn, 1) := dk_172 (dk_at dksX4_lay_2 8 rfl rfl)
theorem dX4_lay_53 : decode cX4_lay 53 = .ok (.aload_n 0, 1) := dk_42 (dk_at dksX4_lay_2 9 rfl rfl)
theorem dX4_lay_54 : decode cX4_lay 54 = .ok (.getfield 7, 3) := dk_180 0 7 (dk_at dksX4_lay_2 10 rfl rfl)
theorem dX4_lay_57 : decode cX4_lay 57 = .ok (.iload_n 1, 1) := dk_27 (dk_at dksX4_lay_2 13 rfl rfl)
theorem dX4_lay_58 : decode cX4_lay 58 = .ok (.iaload, 1) := dk_46 (dk_at dksX4_lay_2 14 rfl rfl)
theorem dX4_lay_59 : decode cX4_lay 59 = .ok (.istore_n 3, 1) := dk_62 (dk_at dksX4_lay_2 15 rfl rfl)
theorem dX4_lay_60 : decode cX4_lay 60 = .ok (.aload_n 0, 1) := dk_42 (dk_at dksX4_lay_2 16 rfl rfl)
theorem dX4_lay_61 : decode cX4_lay 61 = .ok (.getfield 7, 3) := dk_180 0 7 (dk_at dksX4_lay_2 17 rfl rfl)
theorem dX4_lay_64 : decode cX4_lay 64 = .ok (.iload_n 1, 1) := dk_27 (dk_at dksX4_lay_2 20 rfl rfl)
theorem dX4_lay_65 : decode cX4_lay 65 = .ok (.iload_n 2, 1) := dk_28 (dk_at dksX4_lay_2 21 rfl rfl)
theorem dX4_lay_66 : decode cX4_lay 66 = .ok (.iastore, 1) := dk_79 (dk_at dksX4_lay_2 22 rfl rfl)
theorem dX4_lay_67 : decode cX4_lay 67 = .ok (.iload_n 3, 1) := dk_29 (dk_at dksX4_lay_2 23 rfl rfl)
theorem dX4_lay_68 : decode cX4_lay 68 = .ok (.ireturn, 1) := dk_172 (dk_at dksX4_lay_3 0 rfl rfl)
abbrev cX4_isCell : ByteArray := prog_17_method_6_code
def yX4_isCell : MethodName := ⟨RX4, "isCell", "(I)Z"⟩
def dkwX4_isCell_0 : List UInt8 := [27, 3, 42, 180, 0, 7, 190, 4, 100, 184, 0, 54, 172]
abbrev dktX4_isCell_0 : List UInt8 := dkwX4_isCell_0 ++ []
theorem dksX4_isCell_0 : cX4_isCell.data.toList.drop 0 = dktX4_isCell_0 := by decide +kernel
theorem dX4_isCell_0 : decode cX4_isCell 0 = .ok (.iload_n 1, 1) := dk_27 (dk_at dksX4_isCell_0 0 rfl rfl)
theorem dX4_isCell_1 : decode cX4_isCell 1 = .ok (.iconst 0, 1) := dk_3 (dk_at dksX4_isCell_0 1 rfl rfl)
theorem dX4_isCell_2 : decode cX4_isCell 2 = .ok (.aload_n 0, 1) := dk_42 (dk_at dksX4_isCell_0 2 rfl rfl)
theorem dX4_isCell_3 : decode cX4_isCell 3 = .ok (.getfield 7, 3) := dk_180 0 7 (dk_at dksX4_isCell_0 3 rfl rfl)
theorem dX4_isCell_6 : decode cX4_isCell 6 = .ok (.arraylength, 1) := dk_190 (dk_at dksX4_isCell_0 6 rfl rfl)
theorem dX4_isCell_7 : decode cX4_isCell 7 = .ok (.iconst 1, 1) := dk_4 (dk_at dksX4_isCell_0 7 rfl rfl)
theorem dX4_isCell_8 : decode cX4_isCell 8 = .ok (.isub, 1) := dk_100 (dk_at dksX4_isCell_0 8 rfl rfl)
theorem dX4_isCell_9 : decode cX4_isCell 9 = .ok (.invokestatic 54, 3) := dk_184 0 54 (dk_at dksX4_isCell_0 9 rfl rfl)
theorem dX4_isCell_12 : decode cX4_isCell 12 = .ok (.ireturn, 1) := dk_172 (dk_at dksX4_isCell_0 12 rfl rfl)
abbrev cX4_isTaken : ByteArray := prog_17_method_22_code
def yX4_isTaken : MethodName := ⟨RX4, "isTaken", "(I)Z"⟩
def dkwX4_isTaken_10 : List UInt8 := [167, 255, 202, 3, 172]
abbrev dktX4_isTaken_10 : List UInt8 := dkwX4_isTaken_10 ++ []
def dkwX4_isTaken_9 : List UInt8 := [192, 0, 152, 29, 182, 0, 154, 27, 160, 0, 5, 4, 172, 132, 3, 1, 167, 255, 223, 132, 2, 1]
abbrev dktX4_isTaken_9 : List UInt8 := dkwX4_isTaken_9 ++ dktX4_isTaken_10
def dkwX4_isTaken_8 : List UInt8 := [162, 0, 47, 3, 62, 29, 17, 0, 239, 163, 0, 32, 42, 180, 0, 42, 28, 185, 0, 80, 2, 0]
abbrev dktX4_isTaken_8 : List UInt8 := dkwX4_isTaken_8 ++ dktX4_isTaken_9
def dkwX4_isTaken_7 : List UInt8 := [132, 3, 1, 167, 255, 194, 132, 2, 1, 167, 255, 173, 3, 61, 28, 42, 180, 0, 42, 185, 0, 58, 1, 0]
abbrev dktX4_isTaken_7 : List UInt8 := dkwX4_isTaken_7 ++ dktX4_isTaken_8
def dkwX4_isTaken_6 : List UInt8 := [192, 0, 84, 180, 0, 149, 29, 185, 0, 80, 2, 0, 192, 0, 108, 182, 0, 146, 27, 160, 0, 5, 4, 172]
abbrev dktX4_isTaken_6 : List UInt8 := dkwX4_isTaken_6 ++ dktX4_isTaken_7
def dkwX4_isTaken_5 : List UInt8 := [192, 0, 84, 180, 0, 149, 185, 0, 58, 1, 0, 162, 0, 43, 42, 180, 0, 27, 28, 185, 0, 80, 2, 0]
abbrev dktX4_isTaken_5 : List UInt8 := dkwX4_isTaken_5 ++ dktX4_isTaken_6
def dkwX4_isTaken_4 : List UInt8 := [180, 0, 27, 185, 0, 58, 1, 0, 162, 0, 76, 3, 62, 29, 42, 180, 0, 27, 28, 185, 0, 80, 2, 0]
abbrev dktX4_isTaken_4 : List UInt8 := dkwX4_isTaken_4 ++ dktX4_isTaken_5
def dkwX4_isTaken_3 : List UInt8 := [192, 0, 108, 182, 0, 146, 27, 160, 0, 5, 4, 172, 132, 2, 1, 167, 255, 218, 3, 61, 28, 42]
abbrev dktX4_isTaken_3 : List UInt8 := dkwX4_isTaken_3 ++ dktX4_isTaken_4
def dkwX4_isTaken_2 : List UInt8 := [28, 42, 180, 0, 30, 185, 0, 58, 1, 0, 162, 0, 31, 42, 180, 0, 30, 28, 185, 0, 80, 2, 0]
abbrev dktX4_isTaken_2 : List UInt8 := dkwX4_isTaken_2 ++ dktX4_isTaken_3
def dkwX4_isTaken_1 : List UInt8 := [185, 0, 80, 2, 0, 192, 0, 116, 3, 46, 27, 160, 0, 5, 4, 172, 132, 2, 1, 167, 255, 219, 3, 61]
abbrev dktX4_isTaken_1 : List UInt8 := dkwX4_isTaken_1 ++ dktX4_isTaken_2
def dkwX4_isTaken_0 : List UInt8 := [3, 61, 28, 42, 180, 0, 20, 185, 0, 58, 1, 0, 162, 0, 30, 42, 180, 0, 20, 28]
abbrev dktX4_isTaken_0 : List UInt8 := dkwX4_isTaken_0 ++ dktX4_isTaken_1
theorem dksX4_isTaken_0 : cX4_isTaken.data.toList.drop 0 = dktX4_isTaken_0 := by decide +kernel
theorem dksX4_isTaken_1 : cX4_isTaken.data.toList.drop 20 = dktX4_isTaken_1 := dk_seg dksX4_isTaken_0 20 rfl rfl
theorem dksX4_isTaken_2 : cX4_isTaken.data.toList.drop 44 = dktX4_isTaken_2 := dk_seg dksX4_isTaken_1 24 rfl rfl
theorem dksX4_isTaken_3 : cX4_isTaken.data.toList.drop 67 = dktX4_isTaken_3 := dk_seg dksX4_isTaken_2 23 rfl rfl
theorem dksX4_isTaken_4 : cX4_isTaken.data.toList.drop 89 = dktX4_isTaken_4 := dk_seg dksX4_isTaken_3 22 rfl rfl
theorem dksX4_isTaken_5 : cX4_isTaken.data.toList.drop 113 = dktX4_isTaken_5 := dk_seg dksX4_isTaken_4 24 rfl rfl
theorem dksX4_isTaken_6 : cX4_isTaken.data.toList.drop 137 = dktX4_isTaken_6 := dk_seg dksX4_isTaken_5 24 rfl rfl
theorem dksX4_isTaken_7 : cX4_isTaken.data.toList.drop 161 = dktX4_isTaken_7 := dk_seg dksX4_isTaken_6 24 rfl rfl
theorem dksX4_isTaken_8 : cX4_isTaken.data.toList.drop 185 = dktX4_isTaken_8 := dk_seg dksX4_isTaken_7 24 rfl rfl
theorem dksX4_isTaken_9 : cX4_isTaken.data.toList.drop 207 = dktX4_isTaken_9 := dk_seg dksX4_isTaken_8 22 rfl rfl
theorem dksX4_isTaken_10 : cX4_isTaken.data.toList.drop 229 = dktX4_isTaken_10 := dk_seg dksX4_isTaken_9 22 rfl rfl
theorem dX4_isTaken_0 : decode cX4_isTaken 0 = .ok (.iconst 0, 1) := dk_3 (dk_at dksX4_isTaken_0 0 rfl rfl)
theorem dX4_isTaken_1 : decode cX4_isTaken 1 = .ok (.istore_n 2, 1) := dk_61 (dk_at dksX4_isTaken_0 1 rfl rfl)
theorem dX4_isTaken_2 : decode cX4_isTaken 2 = .ok (.iload_n 2, 1) := dk_28 (dk_at dksX4_isTaken_0 2 rfl rfl)
theorem dX4_isTaken_3 : decode cX4_isTaken 3 = .ok (.aload_n 0, 1) := dk_42 (dk_at dksX4_isTaken_0 3 rfl rfl)
theorem dX4_isTaken_4 : decode cX4_isTaken 4 = .ok (.getfield 20, 3) := dk_180 0 20 (dk_at dksX4_isTaken_0 4 rfl rfl)
theorem dX4_isTaken_7 : decode cX4_isTaken 7 = .ok (.invokeinterface 58 1, 5) := by decide +kernel
theorem dX4_isTaken_12 : decode cX4_isTaken 12 = .ok (.if_icmp .ge 30, 3) := dk_162 0 30 (dk_at dksX4_isTaken_0 12 rfl rfl)
theorem dX4_isTaken_15 : decode cX4_isTaken 15 = .ok (.aload_n 0, 1) := dk_42 (dk_at dksX4_isTaken_0 15 rfl rfl)
theorem dX4_isTaken_16 : decode cX4_isTaken 16 = .ok (.getfield 20, 3) := dk_180 0 20 (dk_at dksX4_isTaken_0 16 rfl rfl)
theorem dX4_isTaken_19 : decode cX4_isTaken 19 = .ok (.iload_n 2, 1) := dk_28 (dk_at dksX4_isTaken_0 19 rfl rfl)
theorem dX4_isTaken_20 : decode cX4_isTaken 20 = .ok (.invokeinterface 80 2, 5) := by decide +kernel
theorem dX4_isTaken_25 : decode cX4_isTaken 25 = .ok (.checkcast 116, 3) := dk_192 0 116 (dk_at dksX4_isTaken_1 5 rfl rfl)
theorem dX4_isTaken_28 : decode cX4_isTaken 28 = .ok (.iconst 0, 1) := dk_3 (dk_at dksX4_isTaken_1 8 rfl rfl)
theorem dX4_isTaken_29 : decode cX4_isTaken 29 = .ok (.iaload, 1) := dk_46 (dk_at dksX4_isTaken_1 9 rfl rfl)
theorem dX4_isTaken_30 : decode cX4_isTaken 30 = .ok (.iload_n 1, 1) := dk_27 (dk_at dksX4_isTaken_1 10 rfl rfl)
theorem dX4_isTaken_31 : decode cX4_isTaken 31 = .ok (.if_icmp .ne 5, 3) := dk_160 0 5 (dk_at dksX4_isTaken_1 11 rfl rfl)
theorem dX4_isTaken_34 : decode cX4_isTaken 34 = .ok (.iconst 1, 1) := dk_4 (dk_at dksX4_isTaken_1 14 rfl rfl)
theorem dX4_isTaken_35 : decode cX4_isTaken 35 = .ok (.ireturn, 1) := dk_172 (dk_at dksX4_isTaken_1 15 rfl rfl)
theorem dX4_isTaken_36 : decode cX4_isTaken 36 = .ok (.iinc 2 1, 3) := dk_132 2 1 (dk_at dksX4_isTaken_1 16 rfl rfl)
theorem dX4_isTaken_39 : decode cX4_isTaken 39 = .ok (.goto (-37), 3) := dk_167 255 219 (dk_at dksX4_isTaken_1 19 rfl rfl)
theorem dX4_isTaken_42 : decode cX4_isTaken 42 = .ok (.iconst 0, 1) := dk_3 (dk_at dksX4_isTaken_1 22 rfl rfl)
theorem dX4_isTaken_43 : decode cX4_isTaken 43 = .ok (.istore_n 2, 1) := dk_61 (dk_at dksX4_isTaken_1 23 rfl rfl)
theorem dX4_isTaken_44 : decode cX4_isTaken 44 = .ok (.iload_n 2, 1) := dk_28 (dk_at dksX4_isTaken_2 0 rfl rfl)
theorem dX4_isTaken_45 : decode cX4_isTaken 45 = .ok (.aload_n 0, 1) := dk_42 (dk_at dksX4_isTaken_2 1 rfl rfl)
theorem dX4_isTaken_46 : decode cX4_isTaken 46 = .ok (.getfield 30, 3) := dk_180 0 30 (dk_at dksX4_isTaken_2 2 rfl rfl)
theorem dX4_isTaken_49 : decode cX4_isTaken 49 = .ok (.invokeinterface 58 1, 5) := by decide +kernel
theorem dX4_isTaken_54 : decode cX4_isTaken 54 = .ok (.if_icmp .ge 31, 3) := dk_162 0 31 (dk_at dksX4_isTaken_2 10 rfl rfl)
theorem dX4_isTaken_57 : decode cX4_isTaken 57 = .ok (.aload_n 0, 1) := dk_42 (dk_at dksX4_isTaken_2 13 rfl rfl)
theorem dX4_isTaken_58 : decode cX4_isTaken 58 = .ok (.getfield 30, 3) := dk_180 0 30 (dk_at dksX4_isTaken_2 14 rfl rfl)
theorem dX4_isTaken_61 : decode cX4_isTaken 61 = .ok (.iload_n 2, 1) := dk_28 (dk_at dksX4_isTaken_2 17 rfl rfl)
theorem dX4_isTaken_62 : decode cX4_isTaken 62 = .ok (.invokeinterface 80 2, 5) := by decide +kernel
theorem dX4_isTaken_67 : decode cX4_isTaken 67 = .ok (.checkcast 108, 3) := dk_192 0 108 (dk_at dksX4_isTaken_3 0 rfl rfl)
theorem dX4_isTaken_70 : decode cX4_isTaken 70 = .ok (.invokevirtual 146, 3) := dk_182 0 146 (dk_at dksX4_isTaken_3 3 rfl rfl)
theorem dX4_isTaken_73 : decode cX4_isTaken 73 = .ok (.iload_n 1, 1) := dk_27 (dk_at dksX4_isTaken_3 6 rfl rfl)
theorem dX4_isTaken_74 : decode cX4_isTaken 74 = .ok (.if_icmp .ne 5, 3) := dk_160 0 5 (dk_at dksX4_isTaken_3 7 rfl rfl)
theorem dX4_isTaken_77 : decode cX4_isTaken 77 = .ok (.iconst 1, 1) := dk_4 (dk_at dksX4_isTaken_3 10 rfl rfl)
theorem dX4_isTaken_78 : decode cX4_isTaken 78 = .ok (.ireturn, 1) := dk_172 (dk_at dksX4_isTaken_3 11 rfl rfl)
theorem dX4_isTaken_79 : decode cX4_isTaken 79 = .ok (.iinc 2 1, 3) := dk_132 2 1 (dk_at dksX4_isTaken_3 12 rfl rfl)
theorem dX4_isTaken_82 : decode cX4_isTaken 82 = .ok (.goto (-38), 3) := dk_167 255 218 (dk_at dksX4_isTaken_3 15 rfl rfl)
theorem dX4_isTaken_85 : decode cX4_isTaken 85 = .ok (.iconst 0, 1) := dk_3 (dk_at dksX4_isTaken_3 18 rfl rfl)
theorem dX4_isTaken_86 : decode cX4_isTaken 86 = .ok (.istore_n 2, 1) := dk_61 (dk_at dksX4_isTaken_3 19 rfl rfl)
theorem dX4_isTaken_87 : decode cX4_isTaken 87 = .ok (.iload_n 2, 1) := dk_28 (dk_at dksX4_isTaken_3 20 rfl rfl)
theorem dX4_isTaken_88 : decode cX4_isTaken 88 = .ok (.aload_n 0, 1) := dk_42 (dk_at dksX4_isTaken_3 21 rfl rfl)
theorem dX4_isTaken_89 : decode cX4_isTaken 89 = .ok (.getfield 27, 3) := dk_180 0 27 (dk_at dksX4_isTaken_4 0 rfl rfl)
theorem dX4_isTaken_92 : decode cX4_isTaken 92 = .ok (.invokeinterface 58 1, 5) := by decide +kernel
theorem dX4_isTaken_97 : decode cX4_isTaken 97 = .ok (.if_icmp .ge 76, 3) := dk_162 0 76 (dk_at dksX4_isTaken_4 8 rfl rfl)
theorem dX4_isTaken_100 : decode cX4_isTaken 100 = .ok (.iconst 0, 1) := dk_3 (dk_at dksX4_isTaken_4 11 rfl rfl)
theorem dX4_isTaken_101 : decode cX4_isTaken 101 = .ok (.istore_n 3, 1) := dk_62 (dk_at dksX4_isTaken_4 12 rfl rfl)
theorem dX4_isTaken_102 : decode cX4_isTaken 102 = .ok (.iload_n 3, 1) := dk_29 (dk_at dksX4_isTaken_4 13 rfl rfl)
theorem dX4_isTaken_103 : decode cX4_isTaken 103 = .ok (.aload_n 0, 1) := dk_42 (dk_at dksX4_isTaken_4 14 rfl rfl)
theorem dX4_isTaken_104 : decode cX4_isTaken 104 = .ok (.getfield 27, 3) := dk_180 0 27 (dk_at dksX4_isTaken_4 15 rfl rfl)
theorem dX4_isTaken_107 : decode cX4_isTaken 107 = .ok (.iload_n 2, 1) := dk_28 (dk_at dksX4_isTaken_4 18 rfl rfl)
theorem dX4_isTaken_108 : decode cX4_isTaken 108 = .ok (.invokeinterface 80 2, 5) := by decide +kernel
theorem dX4_isTaken_113 : decode cX4_isTaken 113 = .ok (.checkcast 84, 3) := dk_192 0 84 (dk_at dksX4_isTaken_5 0 rfl rfl)
theorem dX4_isTaken_116 : decode cX4_isTaken 116 = .ok (.getfield 149, 3) := dk_180 0 149 (dk_at dksX4_isTaken_5 3 rfl rfl)
theorem dX4_isTaken_119 : decode cX4_isTaken 119 = .ok (.invokeinterface 58 1, 5) := by decide +kernel
theorem dX4_isTaken_124 : decode cX4_isTaken 124 = .ok (.if_icmp .ge 43, 3) := dk_162 0 43 (dk_at dksX4_isTaken_5 11 rfl rfl)
theorem dX4_isTaken_127 : decode cX4_isTaken 127 = .ok (.aload_n 0, 1) := dk_42 (dk_at dksX4_isTaken_5 14 rfl rfl)
theorem dX4_isTaken_128 : decode cX4_isTaken 128 = .ok (.getfield 27, 3) := dk_180 0 27 (dk_at dksX4_isTaken_5 15 rfl rfl)
theorem dX4_isTaken_131 : decode cX4_isTaken 131 = .ok (.iload_n 2, 1) := dk_28 (dk_at dksX4_isTaken_5 18 rfl rfl)
theorem dX4_isTaken_132 : decode cX4_isTaken 132 = .ok (.invokeinterface 80 2, 5) := by decide +kernel
theorem dX4_isTaken_137 : decode cX4_isTaken 137 = .ok (.checkcast 84, 3) := dk_192 0 84 (dk_at dksX4_isTaken_6 0 rfl rfl)
theorem dX4_isTaken_140 : decode cX4_isTaken 140 = .ok (.getfield 149, 3) := dk_180 0 149 (dk_at dksX4_isTaken_6 3 rfl rfl)
theorem dX4_isTaken_143 : decode cX4_isTaken 143 = .ok (.iload_n 3, 1) := dk_29 (dk_at dksX4_isTaken_6 6 rfl rfl)
theorem dX4_isTaken_144 : decode cX4_isTaken 144 = .ok (.invokeinterface 80 2, 5) := by decide +kernel
theorem dX4_isTaken_149 : decode cX4_isTaken 149 = .ok (.checkcast 108, 3) := dk_192 0 108 (dk_at dksX4_isTaken_6 12 rfl rfl)
theorem dX4_isTaken_152 : decode cX4_isTaken 152 = .ok (.invokevirtual 146, 3) := dk_182 0 146 (dk_at dksX4_isTaken_6 15 rfl rfl)
theorem dX4_isTaken_155 : decode cX4_isTaken 155 = .ok (.iload_n 1, 1) := dk_27 (dk_at dksX4_isTaken_6 18 rfl rfl)
theorem dX4_isTaken_156 : decode cX4_isTaken 156 = .ok (.if_icmp .ne 5, 3) := dk_160 0 5 (dk_at dksX4_isTaken_6 19 rfl rfl)
theorem dX4_isTaken_159 : decode cX4_isTaken 159 = .ok (.iconst 1, 1) := dk_4 (dk_at dksX4_isTaken_6 22 rfl rfl)
theorem dX4_isTaken_160 : decode cX4_isTaken 160 = .ok (.ireturn, 1) := dk_172 (dk_at dksX4_isTaken_6 23 rfl rfl)
theorem dX4_isTaken_161 : decode cX4_isTaken 161 = .ok (.iinc 3 1, 3) := dk_132 3 1 (dk_at dksX4_isTaken_7 0 rfl rfl)
theorem dX4_isTaken_164 : decode cX4_isTaken 164 = .ok (.goto (-62), 3) := dk_167 255 194 (dk_at dksX4_isTaken_7 3 rfl rfl)
theorem dX4_isTaken_167 : decode cX4_isTaken 167 = .ok (.iinc 2 1, 3) := dk_132 2 1 (dk_at dksX4_isTaken_7 6 rfl rfl)
theorem dX4_isTaken_170 : decode cX4_isTaken 170 = .ok (.goto (-83), 3) := dk_167 255 173 (dk_at dksX4_isTaken_7 9 rfl rfl)
theorem dX4_isTaken_173 : decode cX4_isTaken 173 = .ok (.iconst 0, 1) := dk_3 (dk_at dksX4_isTaken_7 12 rfl rfl)
theorem dX4_isTaken_174 : decode cX4_isTaken 174 = .ok (.istore_n 2, 1) := dk_61 (dk_at dksX4_isTaken_7 13 rfl rfl)
theorem dX4_isTaken_175 : decode cX4_isTaken 175 = .ok (.iload_n 2, 1) := dk_28 (dk_at dksX4_isTaken_7 14 rfl rfl)
theorem dX4_isTaken_176 : decode cX4_isTaken 176 = .ok (.aload_n 0, 1) := dk_42 (dk_at dksX4_isTaken_7 15 rfl rfl)
theorem dX4_isTaken_177 : decode cX4_isTaken 177 = .ok (.getfield 42, 3) := dk_180 0 42 (dk_at dksX4_isTaken_7 16 rfl rfl)
theorem dX4_isTaken_180 : decode cX4_isTaken 180 = .ok (.invokeinterface 58 1, 5) := by decide +kernel
theorem dX4_isTaken_185 : decode cX4_isTaken 185 = .ok (.if_icmp .ge 47, 3) := dk_162 0 47 (dk_at dksX4_isTaken_8 0 rfl rfl)
theorem dX4_isTaken_188 : decode cX4_isTaken 188 = .ok (.iconst 0, 1) := dk_3 (dk_at dksX4_isTaken_8 3 rfl rfl)
theorem dX4_isTaken_189 : decode cX4_isTaken 189 = .ok (.istore_n 3, 1) := dk_62 (dk_at dksX4_isTaken_8 4 rfl rfl)
theorem dX4_isTaken_190 : decode cX4_isTaken 190 = .ok (.iload_n 3, 1) := dk_29 (dk_at dksX4_isTaken_8 5 rfl rfl)
theorem dX4_isTaken_191 : decode cX4_isTaken 191 = .ok (.sipush 239, 3) := dk_17 0 239 (dk_at dksX4_isTaken_8 6 rfl rfl)
theorem dX4_isTaken_194 : decode cX4_isTaken 194 = .ok (.if_icmp .gt 32, 3) := dk_163 0 32 (dk_at dksX4_isTaken_8 9 rfl rfl)
theorem dX4_isTaken_197 : decode cX4_isTaken 197 = .ok (.aload_n 0, 1) := dk_42 (dk_at dksX4_isTaken_8 12 rfl rfl)
theorem dX4_isTaken_198 : decode cX4_isTaken 198 = .ok (.getfield 42, 3) := dk_180 0 42 (dk_at dksX4_isTaken_8 13 rfl rfl)
theorem dX4_isTaken_201 : decode cX4_isTaken 201 = .ok (.iload_n 2, 1) := dk_28 (dk_at dksX4_isTaken_8 16 rfl rfl)
theorem dX4_isTaken_202 : decode cX4_isTaken 202 = .ok (.invokeinterface 80 2, 5) := by decide +kernel
theorem dX4_isTaken_207 : decode cX4_isTaken 207 = .ok (.checkcast 152, 3) := dk_192 0 152 (dk_at dksX4_isTaken_9 0 rfl rfl)
theorem dX4_isTaken_210 : decode cX4_isTaken 210 = .ok (.iload_n 3, 1) := dk_29 (dk_at dksX4_isTaken_9 3 rfl rfl)
theorem dX4_isTaken_211 : decode cX4_isTaken 211 = .ok (.invokevirtual 154, 3) := dk_182 0 154 (dk_at dksX4_isTaken_9 4 rfl rfl)
theorem dX4_isTaken_214 : decode cX4_isTaken 214 = .ok (.iload_n 1, 1) := dk_27 (dk_at dksX4_isTaken_9 7 rfl rfl)
theorem dX4_isTaken_215 : decode cX4_isTaken 215 = .ok (.if_icmp .ne 5, 3) := dk_160 0 5 (dk_at dksX4_isTaken_9 8 rfl rfl)
theorem dX4_isTaken_218 : decode cX4_isTaken 218 = .ok (.iconst 1, 1) := dk_4 (dk_at dksX4_isTaken_9 11 rfl rfl)
theorem dX4_isTaken_219 : decode cX4_isTaken 219 = .ok (.ireturn, 1) := dk_172 (dk_at dksX4_isTaken_9 12 rfl rfl)
theorem dX4_isTaken_220 : decode cX4_isTaken 220 = .ok (.iinc 3 1, 3) := dk_132 3 1 (dk_at dksX4_isTaken_9 13 rfl rfl)
theorem dX4_isTaken_223 : decode cX4_isTaken 223 = .ok (.goto (-33), 3) := dk_167 255 223 (dk_at dksX4_isTaken_9 16 rfl rfl)
theorem dX4_isTaken_226 : decode cX4_isTaken 226 = .ok (.iinc 2 1, 3) := dk_132 2 1 (dk_at dksX4_isTaken_9 19 rfl rfl)
theorem dX4_isTaken_229 : decode cX4_isTaken 229 = .ok (.goto (-54), 3) := dk_167 255 202 (dk_at dksX4_isTaken_10 0 rfl rfl)
theorem dX4_isTaken_232 : decode cX4_isTaken 232 = .ok (.iconst 0, 1) := dk_3 (dk_at dksX4_isTaken_10 3 rfl rfl)
theorem dX4_isTaken_233 : decode cX4_isTaken 233 = .ok (.ireturn, 1) := dk_172 (dk_at dksX4_isTaken_10 4 rfl rfl)
abbrev cX4_gates : ByteArray := prog_17_method_24_code
def yX4_gates : MethodName := ⟨RX4, "gates", "(II)I"⟩
def dkwX4_gates_3 : List UInt8 := [4, 167, 0, 4, 3, 96, 62, 132, 6, 1, 167, 255, 225, 29, 172]
abbrev dktX4_gates_3 : List UInt8 := dkwX4_gates_3 ++ []
def dkwX4_gates_2 : List UInt8 := [3, 54, 6, 21, 6, 21, 5, 162, 0, 30, 25, 4, 21, 6, 46, 54, 7, 29, 21, 7, 6, 160, 0, 7]
abbrev dktX4_gates_2 : List UInt8 := dkwX4_gates_2 ++ dktX4_gates_3
def dkwX4_gates_1 : List UInt8 := [172, 42, 27, 181, 0, 137, 42, 28, 181, 0, 13, 3, 62, 42, 180, 0, 7, 58, 4, 25, 4, 190, 54, 5]
abbrev dktX4_gates_1 : List UInt8 := dkwX4_gates_1 ++ dktX4_gates_2
def dkwX4_gates_0 : List UInt8 := [42, 3, 181, 0, 51, 27, 184, 0, 163, 153, 0, 10, 28, 184, 0, 163, 154, 0, 9, 42, 4, 182, 0, 140]
abbrev dktX4_gates_0 : List UInt8 := dkwX4_gates_0 ++ dktX4_gates_1
theorem dksX4_gates_0 : cX4_gates.data.toList.drop 0 = dktX4_gates_0 := by decide +kernel
theorem dksX4_gates_1 : cX4_gates.data.toList.drop 24 = dktX4_gates_1 := dk_seg dksX4_gates_0 24 rfl rfl
theorem dksX4_gates_2 : cX4_gates.data.toList.drop 48 = dktX4_gates_2 := dk_seg dksX4_gates_1 24 rfl rfl
theorem dksX4_gates_3 : cX4_gates.data.toList.drop 72 = dktX4_gates_3 := dk_seg dksX4_gates_2 24 rfl rfl
theorem dX4_gates_0 : decode cX4_gates 0 = .ok (.aload_n 0, 1) := dk_42 (dk_at dksX4_gates_0 0 rfl rfl)
theorem dX4_gates_1 : decode cX4_gates 1 = .ok (.iconst 0, 1) := dk_3 (dk_at dksX4_gates_0 1 rfl rfl)
theorem dX4_gates_2 : decode cX4_gates 2 = .ok (.putfield 51, 3) := dk_181 0 51 (dk_at dksX4_gates_0 2 rfl rfl)
theorem dX4_gates_5 : decode cX4_gates 5 = .ok (.iload_n 1, 1) := dk_27 (dk_at dksX4_gates_0 5 rfl rfl)
theorem dX4_gates_6 : decode cX4_gates 6 = .ok (.invokestatic 163, 3) := dk_184 0 163 (dk_at dksX4_gates_0 6 rfl rfl)
theorem dX4_gates_9 : decode cX4_gates 9 = .ok (.ifCond .eq 10, 3) := dk_153 0 10 (dk_at dksX4_gates_0 9 rfl rfl)
theorem dX4_gates_12 : decode cX4_gates 12 = .ok (.iload_n 2, 1) := dk_28 (dk_at dksX4_gates_0 12 rfl rfl)
theorem dX4_gates_13 : decode cX4_gates 13 = .ok (.invokestatic 163, 3) := dk_184 0 163 (dk_at dksX4_gates_0 13 rfl rfl)
theorem dX4_gates_16 : decode cX4_gates 16 = .ok (.ifCond .ne 9, 3) := dk_154 0 9 (dk_at dksX4_gates_0 16 rfl rfl)
theorem dX4_gates_19 : decode cX4_gates 19 = .ok (.aload_n 0, 1) := dk_42 (dk_at dksX4_gates_0 19 rfl rfl)
theorem dX4_gates_20 : decode cX4_gates 20 = .ok (.iconst 1, 1) := dk_4 (dk_at dksX4_gates_0 20 rfl rfl)
theorem dX4_gates_21 : decode cX4_gates 21 = .ok (.invokevirtual 140, 3) := dk_182 0 140 (dk_at dksX4_gates_0 21 rfl rfl)
theorem dX4_gates_24 : decode cX4_gates 24 = .ok (.ireturn, 1) := dk_172 (dk_at dksX4_gates_1 0 rfl rfl)
theorem dX4_gates_25 : decode cX4_gates 25 = .ok (.aload_n 0, 1) := dk_42 (dk_at dksX4_gates_1 1 rfl rfl)
theorem dX4_gates_26 : decode cX4_gates 26 = .ok (.iload_n 1, 1) := dk_27 (dk_at dksX4_gates_1 2 rfl rfl)
theorem dX4_gates_27 : decode cX4_gates 27 = .ok (.putfield 137, 3) := dk_181 0 137 (dk_at dksX4_gates_1 3 rfl rfl)
theorem dX4_gates_30 : decode cX4_gates 30 = .ok (.aload_n 0, 1) := dk_42 (dk_at dksX4_gates_1 6 rfl rfl)
theorem dX4_gates_31 : decode cX4_gates 31 = .ok (.iload_n 2, 1) := dk_28 (dk_at dksX4_gates_1 7 rfl rfl)
theorem dX4_gates_32 : decode cX4_gates 32 = .ok (.putfield 13, 3) := dk_181 0 13 (dk_at dksX4_gates_1 8 rfl rfl)
theorem dX4_gates_35 : decode cX4_gates 35 = .ok (.iconst 0, 1) := dk_3 (dk_at dksX4_gates_1 11 rfl rfl)
theorem dX4_gates_36 : decode cX4_gates 36 = .ok (.istore_n 3, 1) := dk_62 (dk_at dksX4_gates_1 12 rfl rfl)
theorem dX4_gates_37 : decode cX4_gates 37 = .ok (.aload_n 0, 1) := dk_42 (dk_at dksX4_gates_1 13 rfl rfl)
theorem dX4_gates_38 : decode cX4_gates 38 = .ok (.getfield 7, 3) := dk_180 0 7 (dk_at dksX4_gates_1 14 rfl rfl)
theorem dX4_gates_41 : decode cX4_gates 41 = .ok (.astore 4, 2) := dk_58 4 (dk_at dksX4_gates_1 17 rfl rfl)
theorem dX4_gates_43 : decode cX4_gates 43 = .ok (.aload 4, 2) := dk_25 4 (dk_at dksX4_gates_1 19 rfl rfl)
theorem dX4_gates_45 : decode cX4_gates 45 = .ok (.arraylength, 1) := dk_190 (dk_at dksX4_gates_1 21 rfl rfl)
theorem dX4_gates_46 : decode cX4_gates 46 = .ok (.istore 5, 2) := dk_54 5 (dk_at dksX4_gates_1 22 rfl rfl)
theorem dX4_gates_48 : decode cX4_gates 48 = .ok (.iconst 0, 1) := dk_3 (dk_at dksX4_gates_2 0 rfl rfl)
theorem dX4_gates_49 : decode cX4_gates 49 = .ok (.istore 6, 2) := dk_54 6 (dk_at dksX4_gates_2 1 rfl rfl)
theorem dX4_gates_51 : decode cX4_gates 51 = .ok (.iload 6, 2) := dk_21 6 (dk_at dksX4_gates_2 3 rfl rfl)
theorem dX4_gates_53 : decode cX4_gates 53 = .ok (.iload 5, 2) := dk_21 5 (dk_at dksX4_gates_2 5 rfl rfl)
theorem dX4_gates_55 : decode cX4_gates 55 = .ok (.if_icmp .ge 30, 3) := dk_162 0 30 (dk_at dksX4_gates_2 7 rfl rfl)
theorem dX4_gates_58 : decode cX4_gates 58 = .ok (.aload 4, 2) := dk_25 4 (dk_at dksX4_gates_2 10 rfl rfl)
theorem dX4_gates_60 : decode cX4_gates 60 = .ok (.iload 6, 2) := dk_21 6 (dk_at dksX4_gates_2 12 rfl rfl)
theorem dX4_gates_62 : decode cX4_gates 62 = .ok (.iaload, 1) := dk_46 (dk_at dksX4_gates_2 14 rfl rfl)
theorem dX4_gates_63 : decode cX4_gates 63 = .ok (.istore 7, 2) := dk_54 7 (dk_at dksX4_gates_2 15 rfl rfl)
theorem dX4_gates_65 : decode cX4_gates 65 = .ok (.iload_n 3, 1) := dk_29 (dk_at dksX4_gates_2 17 rfl rfl)
theorem dX4_gates_66 : decode cX4_gates 66 = .ok (.iload 7, 2) := dk_21 7 (dk_at dksX4_gates_2 18 rfl rfl)
theorem dX4_gates_68 : decode cX4_gates 68 = .ok (.iconst 3, 1) := dk_6 (dk_at dksX4_gates_2 20 rfl rfl)
theorem dX4_gates_69 : decode cX4_gates 69 = .ok (.if_icmp .ne 7, 3) := dk_160 0 7 (dk_at dksX4_gates_2 21 rfl rfl)
theorem dX4_gates_72 : decode cX4_gates 72 = .ok (.iconst 1, 1) := dk_4 (dk_at dksX4_gates_3 0 rfl rfl)
theorem dX4_gates_73 : decode cX4_gates 73 = .ok (.goto 4, 3) := dk_167 0 4 (dk_at dksX4_gates_3 1 rfl rfl)
theorem dX4_gates_76 : decode cX4_gates 76 = .ok (.iconst 0, 1) := dk_3 (dk_at dksX4_gates_3 4 rfl rfl)
theorem dX4_gates_77 : decode cX4_gates 77 = .ok (.iadd, 1) := dk_96 (dk_at dksX4_gates_3 5 rfl rfl)
theorem dX4_gates_78 : decode cX4_gates 78 = .ok (.istore_n 3, 1) := dk_62 (dk_at dksX4_gates_3 6 rfl rfl)
theorem dX4_gates_79 : decode cX4_gates 79 = .ok (.iinc 6 1, 3) := dk_132 6 1 (dk_at dksX4_gates_3 7 rfl rfl)
theorem dX4_gates_82 : decode cX4_gates 82 = .ok (.goto (-31), 3) := dk_167 255 225 (dk_at dksX4_gates_3 10 rfl rfl)
theorem dX4_gates_85 : decode cX4_gates 85 = .ok (.iload_n 3, 1) := dk_29 (dk_at dksX4_gates_3 13 rfl rfl)
theorem dX4_gates_86 : decode cX4_gates 86 = .ok (.ireturn, 1) := dk_172 (dk_at dksX4_gates_3 14 rfl rfl)
abbrev cX4_isMinute : ByteArray := prog_17_method_5_code
def yX4_isMinute : MethodName := ⟨RX4, "isMinute", "(I)Z"⟩
def dkwX4_isMinute_0 : List UInt8 := [26, 3, 17, 0, 239, 184, 0, 54, 172]
abbrev dktX4_isMinute_0 : List UInt8 := dkwX4_isMinute_0 ++ []
theorem dksX4_isMinute_0 : cX4_isMinute.data.toList.drop 0 = dktX4_isMinute_0 := by decide +kernel
theorem dX4_isMinute_0 : decode cX4_isMinute 0 = .ok (.iload_n 0, 1) := dk_26 (dk_at dksX4_isMinute_0 0 rfl rfl)
theorem dX4_isMinute_1 : decode cX4_isMinute 1 = .ok (.iconst 0, 1) := dk_3 (dk_at dksX4_isMinute_0 1 rfl rfl)
theorem dX4_isMinute_2 : decode cX4_isMinute 2 = .ok (.sipush 239, 3) := dk_17 0 239 (dk_at dksX4_isMinute_0 2 rfl rfl)
theorem dX4_isMinute_5 : decode cX4_isMinute 5 = .ok (.invokestatic 54, 3) := dk_184 0 54 (dk_at dksX4_isMinute_0 5 rfl rfl)
theorem dX4_isMinute_8 : decode cX4_isMinute 8 = .ok (.ireturn, 1) := dk_172 (dk_at dksX4_isMinute_0 8 rfl rfl)
abbrev cX4_lamp : ByteArray := prog_17_method_25_code
def yX4_lamp : MethodName := ⟨RX4, "lamp", "(II)I"⟩
def dkwX4_lamp_4 : List UInt8 := [185, 0, 58, 1, 0, 4, 100, 172]
abbrev dktX4_lamp_4 : List UInt8 := dkwX4_lamp_4 ++ []
def dkwX4_lamp_3 : List UInt8 := [188, 10, 89, 3, 27, 79, 89, 4, 28, 79, 89, 5, 4, 79, 185, 0, 166, 2, 0, 87, 42, 180, 0, 20]
abbrev dktX4_lamp_3 : List UInt8 := dkwX4_lamp_3 ++ dktX4_lamp_4
def dkwX4_lamp_2 : List UInt8 := [159, 0, 13, 42, 180, 0, 7, 27, 46, 4, 160, 0, 9, 42, 6, 182, 0, 140, 172, 42, 180, 0, 20, 6]
abbrev dktX4_lamp_2 : List UInt8 := dkwX4_lamp_2 ++ dktX4_lamp_3
def dkwX4_lamp_1 : List UInt8 := [184, 0, 54, 154, 0, 9, 42, 5, 182, 0, 140, 172, 42, 180, 0, 20, 185, 0, 58, 1, 0, 16, 6]
abbrev dktX4_lamp_1 : List UInt8 := dkwX4_lamp_1 ++ dktX4_lamp_2
def dkwX4_lamp_0 : List UInt8 := [42, 3, 181, 0, 51, 42, 27, 182, 0, 157, 154, 0, 9, 42, 4, 182, 0, 140, 172, 28, 4, 7]
abbrev dktX4_lamp_0 : List UInt8 := dkwX4_lamp_0 ++ dktX4_lamp_1
theorem dksX4_lamp_0 : cX4_lamp.data.toList.drop 0 = dktX4_lamp_0 := by decide +kernel
theorem dksX4_lamp_1 : cX4_lamp.data.toList.drop 22 = dktX4_lamp_1 := dk_seg dksX4_lamp_0 22 rfl rfl
theorem dksX4_lamp_2 : cX4_lamp.data.toList.drop 45 = dktX4_lamp_2 := dk_seg dksX4_lamp_1 23 rfl rfl
theorem dksX4_lamp_3 : cX4_lamp.data.toList.drop 69 = dktX4_lamp_3 := dk_seg dksX4_lamp_2 24 rfl rfl
theorem dksX4_lamp_4 : cX4_lamp.data.toList.drop 93 = dktX4_lamp_4 := dk_seg dksX4_lamp_3 24 rfl rfl
theorem dX4_lamp_0 : decode cX4_lamp 0 = .ok (.aload_n 0, 1) := dk_42 (dk_at dksX4_lamp_0 0 rfl rfl)
theorem dX4_lamp_1 : decode cX4_lamp 1 = .ok (.iconst 0, 1) := dk_3 (dk_at dksX4_lamp_0 1 rfl rfl)
theorem dX4_lamp_2 : decode cX4_lamp 2 = .ok (.putfield 51, 3) := dk_181 0 51 (dk_at dksX4_lamp_0 2 rfl rfl)
theorem dX4_lamp_5 : decode cX4_lamp 5 = .ok (.aload_n 0, 1) := dk_42 (dk_at dksX4_lamp_0 5 rfl rfl)
theorem dX4_lamp_6 : decode cX4_lamp 6 = .ok (.iload_n 1, 1) := dk_27 (dk_at dksX4_lamp_0 6 rfl rfl)
theorem dX4_lamp_7 : decode cX4_lamp 7 = .ok (.invokevirtual 157, 3) := dk_182 0 157 (dk_at dksX4_lamp_0 7 rfl rfl)
theorem dX4_lamp_10 : decode cX4_lamp 10 = .ok (.ifCond .ne 9, 3) := dk_154 0 9 (dk_at dksX4_lamp_0 10 rfl rfl)
theorem dX4_lamp_13 : decode cX4_lamp 13 = .ok (.aload_n 0, 1) := dk_42 (dk_at dksX4_lamp_0 13 rfl rfl)
theorem dX4_lamp_14 : decode cX4_lamp 14 = .ok (.iconst 1, 1) := dk_4 (dk_at dksX4_lamp_0 14 rfl rfl)
theorem dX4_lamp_15 : decode cX4_lamp 15 = .ok (.invokevirtual 140, 3) := dk_182 0 140 (dk_at dksX4_lamp_0 15 rfl rfl)
theorem dX4_lamp_18 : decode cX4_lamp 18 = .ok (.ireturn, 1) := dk_172 (dk_at dksX4_lamp_0 18 rfl rfl)
theorem dX4_lamp_19 : decode cX4_lamp 19 = .ok (.iload_n 2, 1) := dk_28 (dk_at dksX4_lamp_0 19 rfl rfl)
theorem dX4_lamp_20 : decode cX4_lamp 20 = .ok (.iconst 1, 1) := dk_4 (dk_at dksX4_lamp_0 20 rfl rfl)
theorem dX4_lamp_21 : decode cX4_lamp 21 = .ok (.iconst 4, 1) := dk_7 (dk_at dksX4_lamp_0 21 rfl rfl)
theorem dX4_lamp_22 : decode cX4_lamp 22 = .ok (.invokestatic 54, 3) := dk_184 0 54 (dk_at dksX4_lamp_1 0 rfl rfl)
theorem dX4_lamp_25 : decode cX4_lamp 25 = .ok (.ifCond .ne 9, 3) := dk_154 0 9 (dk_at dksX4_lamp_1 3 rfl rfl)
theorem dX4_lamp_28 : decode cX4_lamp 28 = .ok (.aload_n 0, 1) := dk_42 (dk_at dksX4_lamp_1 6 rfl rfl)
theorem dX4_lamp_29 : decode cX4_lamp 29 = .ok (.iconst 2, 1) := dk_5 (dk_at dksX4_lamp_1 7 rfl rfl)
theorem dX4_lamp_30 : decode cX4_lamp 30 = .ok (.invokevirtual 140, 3) := dk_182 0 140 (dk_at dksX4_lamp_1 8 rfl rfl)
theorem dX4_lamp_33 : decode cX4_lamp 33 = .ok (.ireturn, 1) := dk_172 (dk_at dksX4_lamp_1 11 rfl rfl)
theorem dX4_lamp_34 : decode cX4_lamp 34 = .ok (.aload_n 0, 1) := dk_42 (dk_at dksX4_lamp_1 12 rfl rfl)
theorem dX4_lamp_35 : decode cX4_lamp 35 = .ok (.getfield 20, 3) := dk_180 0 20 (dk_at dksX4_lamp_1 13 rfl rfl)
theorem dX4_lamp_38 : decode cX4_lamp 38 = .ok (.invokeinterface 58 1, 5) := by decide +kernel
theorem dX4_lamp_43 : decode cX4_lamp 43 = .ok (.bipush 6, 2) := dk_16 6 (dk_at dksX4_lamp_1 21 rfl rfl)
theorem dX4_lamp_45 : decode cX4_lamp 45 = .ok (.if_icmp .eq 13, 3) := dk_159 0 13 (dk_at dksX4_lamp_2 0 rfl rfl)
theorem dX4_lamp_48 : decode cX4_lamp 48 = .ok (.aload_n 0, 1) := dk_42 (dk_at dksX4_lamp_2 3 rfl rfl)
theorem dX4_lamp_49 : decode cX4_lamp 49 = .ok (.getfield 7, 3) := dk_180 0 7 (dk_at dksX4_lamp_2 4 rfl rfl)
theorem dX4_lamp_52 : decode cX4_lamp 52 = .ok (.iload_n 1, 1) := dk_27 (dk_at dksX4_lamp_2 7 rfl rfl)
theorem dX4_lamp_53 : decode cX4_lamp 53 = .ok (.iaload, 1) := dk_46 (dk_at dksX4_lamp_2 8 rfl rfl)
theorem dX4_lamp_54 : decode cX4_lamp 54 = .ok (.iconst 1, 1) := dk_4 (dk_at dksX4_lamp_2 9 rfl rfl)
theorem dX4_lamp_55 : decode cX4_lamp 55 = .ok (.if_icmp .ne 9, 3) := dk_160 0 9 (dk_at dksX4_lamp_2 10 rfl rfl)
theorem dX4_lamp_58 : decode cX4_lamp 58 = .ok (.aload_n 0, 1) := dk_42 (dk_at dksX4_lamp_2 13 rfl rfl)
theorem dX4_lamp_59 : decode cX4_lamp 59 = .ok (.iconst 3, 1) := dk_6 (dk_at dksX4_lamp_2 14 rfl rfl)
theorem dX4_lamp_60 : decode cX4_lamp 60 = .ok (.invokevirtual 140, 3) := dk_182 0 140 (dk_at dksX4_lamp_2 15 rfl rfl)
theorem dX4_lamp_63 : decode cX4_lamp 63 = .ok (.ireturn, 1) := dk_172 (dk_at dksX4_lamp_2 18 rfl rfl)
theorem dX4_lamp_64 : decode cX4_lamp 64 = .ok (.aload_n 0, 1) := dk_42 (dk_at dksX4_lamp_2 19 rfl rfl)
theorem dX4_lamp_65 : decode cX4_lamp 65 = .ok (.getfield 20, 3) := dk_180 0 20 (dk_at dksX4_lamp_2 20 rfl rfl)
theorem dX4_lamp_68 : decode cX4_lamp 68 = .ok (.iconst 3, 1) := dk_6 (dk_at dksX4_lamp_2 23 rfl rfl)
theorem dX4_lamp_69 : decode cX4_lamp 69 = .ok (.newarray .int, 2) := dk_188_10 (dk_at dksX4_lamp_3 0 rfl rfl)
theorem dX4_lamp_71 : decode cX4_lamp 71 = .ok (.dup, 1) := dk_89 (dk_at dksX4_lamp_3 2 rfl rfl)
theorem dX4_lamp_72 : decode cX4_lamp 72 = .ok (.iconst 0, 1) := dk_3 (dk_at dksX4_lamp_3 3 rfl rfl)
theorem dX4_lamp_73 : decode cX4_lamp 73 = .ok (.iload_n 1, 1) := dk_27 (dk_at dksX4_lamp_3 4 rfl rfl)
theorem dX4_lamp_74 : decode cX4_lamp 74 = .ok (.iastore, 1) := dk_79 (dk_at dksX4_lamp_3 5 rfl rfl)
theorem dX4_lamp_75 : decode cX4_lamp 75 = .ok (.dup, 1) := dk_89 (dk_at dksX4_lamp_3 6 rfl rfl)
theorem dX4_lamp_76 : decode cX4_lamp 76 = .ok (.iconst 1, 1) := dk_4 (dk_at dksX4_lamp_3 7 rfl rfl)
theorem dX4_lamp_77 : decode cX4_lamp 77 = .ok (.iload_n 2, 1) := dk_28 (dk_at dksX4_lamp_3 8 rfl rfl)
theorem dX4_lamp_78 : decode cX4_lamp 78 = .ok (.iastore, 1) := dk_79 (dk_at dksX4_lamp_3 9 rfl rfl)
theorem dX4_lamp_79 : decode cX4_lamp 79 = .ok (.dup, 1) := dk_89 (dk_at dksX4_lamp_3 10 rfl rfl)
theorem dX4_lamp_80 : decode cX4_lamp 80 = .ok (.iconst 2, 1) := dk_5 (dk_at dksX4_lamp_3 11 rfl rfl)
theorem dX4_lamp_81 : decode cX4_lamp 81 = .ok (.iconst 1, 1) := dk_4 (dk_at dksX4_lamp_3 12 rfl rfl)
theorem dX4_lamp_82 : decode cX4_lamp 82 = .ok (.iastore, 1) := dk_79 (dk_at dksX4_lamp_3 13 rfl rfl)
theorem dX4_lamp_83 : decode cX4_lamp 83 = .ok (.invokeinterface 166 2, 5) := by decide +kernel
theorem dX4_lamp_88 : decode cX4_lamp 88 = .ok (.pop, 1) := dk_87 (dk_at dksX4_lamp_3 19 rfl rfl)
theorem dX4_lamp_89 : decode cX4_lamp 89 = .ok (.aload_n 0, 1) := dk_42 (dk_at dksX4_lamp_3 20 rfl rfl)
theorem dX4_lamp_90 : decode cX4_lamp 90 = .ok (.getfield 20, 3) := dk_180 0 20 (dk_at dksX4_lamp_3 21 rfl rfl)
theorem dX4_lamp_93 : decode cX4_lamp 93 = .ok (.invokeinterface 58 1, 5) := by decide +kernel
theorem dX4_lamp_98 : decode cX4_lamp 98 = .ok (.iconst 1, 1) := dk_4 (dk_at dksX4_lamp_4 5 rfl rfl)
theorem dX4_lamp_99 : decode cX4_lamp 99 = .ok (.isub, 1) := dk_100 (dk_at dksX4_lamp_4 6 rfl rfl)
theorem dX4_lamp_100 : decode cX4_lamp 100 = .ok (.ireturn, 1) := dk_172 (dk_at dksX4_lamp_4 7 rfl rfl)
abbrev cX4_light : ByteArray := prog_17_method_26_code
def yX4_light : MethodName := ⟨RX4, "light", "(IZ)I"⟩
def dkwX4_light_2 : List UInt8 := [4, 167, 0, 4, 3, 79, 42, 182, 0, 170, 172]
abbrev dktX4_light_2 : List UInt8 := dkwX4_light_2 ++ []
def dkwX4_light_1 : List UInt8 := [42, 4, 182, 0, 140, 172, 42, 180, 0, 20, 27, 185, 0, 80, 2, 0, 192, 0, 116, 5, 28, 153, 0, 7]
abbrev dktX4_light_1 : List UInt8 := dkwX4_light_1 ++ dktX4_light_2
def dkwX4_light_0 : List UInt8 := [42, 3, 181, 0, 51, 27, 3, 42, 180, 0, 20, 185, 0, 58, 1, 0, 4, 100, 184, 0, 54, 154, 0, 9]
abbrev dktX4_light_0 : List UInt8 := dkwX4_light_0 ++ dktX4_light_1
theorem dksX4_light_0 : cX4_light.data.toList.drop 0 = dktX4_light_0 := by decide +kernel
theorem dksX4_light_1 : cX4_light.data.toList.drop 24 = dktX4_light_1 := dk_seg dksX4_light_0 24 rfl rfl
theorem dksX4_light_2 : cX4_light.data.toList.drop 48 = dktX4_light_2 := dk_seg dksX4_light_1 24 rfl rfl
theorem dX4_light_0 : decode cX4_light 0 = .ok (.aload_n 0, 1) := dk_42 (dk_at dksX4_light_0 0 rfl rfl)
theorem dX4_light_1 : decode cX4_light 1 = .ok (.iconst 0, 1) := dk_3 (dk_at dksX4_light_0 1 rfl rfl)
theorem dX4_light_2 : decode cX4_light 2 = .ok (.putfield 51, 3) := dk_181 0 51 (dk_at dksX4_light_0 2 rfl rfl)
theorem dX4_light_5 : decode cX4_light 5 = .ok (.iload_n 1, 1) := dk_27 (dk_at dksX4_light_0 5 rfl rfl)
theorem dX4_light_6 : decode cX4_light 6 = .ok (.iconst 0, 1) := dk_3 (dk_at dksX4_light_0 6 rfl rfl)
theorem dX4_light_7 : decode cX4_light 7 = .ok (.aload_n 0, 1) := dk_42 (dk_at dksX4_light_0 7 rfl rfl)
theorem dX4_light_8 : decode cX4_light 8 = .ok (.getfield 20, 3) := dk_180 0 20 (dk_at dksX4_light_0 8 rfl rfl)
theorem dX4_light_11 : decode cX4_light 11 = .ok (.invokeinterface 58 1, 5) := by decide +kernel
theorem dX4_light_16 : decode cX4_light 16 = .ok (.iconst 1, 1) := dk_4 (dk_at dksX4_light_0 16 rfl rfl)
theorem dX4_light_17 : decode cX4_light 17 = .ok (.isub, 1) := dk_100 (dk_at dksX4_light_0 17 rfl rfl)
theorem dX4_light_18 : decode cX4_light 18 = .ok (.invokestatic 54, 3) := dk_184 0 54 (dk_at dksX4_light_0 18 rfl rfl)
theorem dX4_light_21 : decode cX4_light 21 = .ok (.ifCond .ne 9, 3) := dk_154 0 9 (dk_at dksX4_light_0 21 rfl rfl)
theorem dX4_light_24 : decode cX4_light 24 = .ok (.aload_n 0, 1) := dk_42 (dk_at dksX4_light_1 0 rfl rfl)
theorem dX4_light_25 : decode cX4_light 25 = .ok (.iconst 1, 1) := dk_4 (dk_at dksX4_light_1 1 rfl rfl)
theorem dX4_light_26 : decode cX4_light 26 = .ok (.invokevirtual 140, 3) := dk_182 0 140 (dk_at dksX4_light_1 2 rfl rfl)
theorem dX4_light_29 : decode cX4_light 29 = .ok (.ireturn, 1) := dk_172 (dk_at dksX4_light_1 5 rfl rfl)
theorem dX4_light_30 : decode cX4_light 30 = .ok (.aload_n 0, 1) := dk_42 (dk_at dksX4_light_1 6 rfl rfl)
theorem dX4_light_31 : decode cX4_light 31 = .ok (.getfield 20, 3) := dk_180 0 20 (dk_at dksX4_light_1 7 rfl rfl)
theorem dX4_light_34 : decode cX4_light 34 = .ok (.iload_n 1, 1) := dk_27 (dk_at dksX4_light_1 10 rfl rfl)
theorem dX4_light_35 : decode cX4_light 35 = .ok (.invokeinterface 80 2, 5) := by decide +kernel
theorem dX4_light_40 : decode cX4_light 40 = .ok (.checkcast 116, 3) := dk_192 0 116 (dk_at dksX4_light_1 16 rfl rfl)
theorem dX4_light_43 : decode cX4_light 43 = .ok (.iconst 2, 1) := dk_5 (dk_at dksX4_light_1 19 rfl rfl)
theorem dX4_light_44 : decode cX4_light 44 = .ok (.iload_n 2, 1) := dk_28 (dk_at dksX4_light_1 20 rfl rfl)
theorem dX4_light_45 : decode cX4_light 45 = .ok (.ifCond .eq 7, 3) := dk_153 0 7 (dk_at dksX4_light_1 21 rfl rfl)
theorem dX4_light_48 : decode cX4_light 48 = .ok (.iconst 1, 1) := dk_4 (dk_at dksX4_light_2 0 rfl rfl)
theorem dX4_light_49 : decode cX4_light 49 = .ok (.goto 4, 3) := dk_167 0 4 (dk_at dksX4_light_2 1 rfl rfl)
theorem dX4_light_52 : decode cX4_light 52 = .ok (.iconst 0, 1) := dk_3 (dk_at dksX4_light_2 4 rfl rfl)
theorem dX4_light_53 : decode cX4_light 53 = .ok (.iastore, 1) := dk_79 (dk_at dksX4_light_2 5 rfl rfl)
theorem dX4_light_54 : decode cX4_light 54 = .ok (.aload_n 0, 1) := dk_42 (dk_at dksX4_light_2 6 rfl rfl)
theorem dX4_light_55 : decode cX4_light 55 = .ok (.invokevirtual 170, 3) := dk_182 0 170 (dk_at dksX4_light_2 7 rfl rfl)
theorem dX4_light_58 : decode cX4_light 58 = .ok (.ireturn, 1) := dk_172 (dk_at dksX4_light_2 10 rfl rfl)
abbrev cX4_brights : ByteArray := prog_17_method_15_code
def yX4_brights : MethodName := ⟨RX4, "brights", "()I"⟩
def dkwX4_brights_1 : List UInt8 := [167, 0, 4, 3, 96, 60, 132, 2, 1, 167, 255, 228, 27, 172]
abbrev dktX4_brights_1 : List UInt8 := dkwX4_brights_1 ++ []
def dkwX4_brights_0 : List UInt8 := [3, 60, 3, 61, 28, 42, 180, 0, 7, 190, 162, 0, 25, 27, 42, 28, 182, 0, 120, 153, 0, 7, 4]
abbrev dktX4_brights_0 : List UInt8 := dkwX4_brights_0 ++ dktX4_brights_1
theorem dksX4_brights_0 : cX4_brights.data.toList.drop 0 = dktX4_brights_0 := by decide +kernel
theorem dksX4_brights_1 : cX4_brights.data.toList.drop 23 = dktX4_brights_1 := dk_seg dksX4_brights_0 23 rfl rfl
theorem dX4_brights_0 : decode cX4_brights 0 = .ok (.iconst 0, 1) := dk_3 (dk_at dksX4_brights_0 0 rfl rfl)
theorem dX4_brights_1 : decode cX4_brights 1 = .ok (.istore_n 1, 1) := dk_60 (dk_at dksX4_brights_0 1 rfl rfl)
theorem dX4_brights_2 : decode cX4_brights 2 = .ok (.iconst 0, 1) := dk_3 (dk_at dksX4_brights_0 2 rfl rfl)
theorem dX4_brights_3 : decode cX4_brights 3 = .ok (.istore_n 2, 1) := dk_61 (dk_at dksX4_brights_0 3 rfl rfl)
theorem dX4_brights_4 : decode cX4_brights 4 = .ok (.iload_n 2, 1) := dk_28 (dk_at dksX4_brights_0 4 rfl rfl)
theorem dX4_brights_5 : decode cX4_brights 5 = .ok (.aload_n 0, 1) := dk_42 (dk_at dksX4_brights_0 5 rfl rfl)
theorem dX4_brights_6 : decode cX4_brights 6 = .ok (.getfield 7, 3) := dk_180 0 7 (dk_at dksX4_brights_0 6 rfl rfl)
theorem dX4_brights_9 : decode cX4_brights 9 = .ok (.arraylength, 1) := dk_190 (dk_at dksX4_brights_0 9 rfl rfl)
theorem dX4_brights_10 : decode cX4_brights 10 = .ok (.if_icmp .ge 25, 3) := dk_162 0 25 (dk_at dksX4_brights_0 10 rfl rfl)
theorem dX4_brights_13 : decode cX4_brights 13 = .ok (.iload_n 1, 1) := dk_27 (dk_at dksX4_brights_0 13 rfl rfl)
theorem dX4_brights_14 : decode cX4_brights 14 = .ok (.aload_n 0, 1) := dk_42 (dk_at dksX4_brights_0 14 rfl rfl)
theorem dX4_brights_15 : decode cX4_brights 15 = .ok (.iload_n 2, 1) := dk_28 (dk_at dksX4_brights_0 15 rfl rfl)
theorem dX4_brights_16 : decode cX4_brights 16 = .ok (.invokevirtual 120, 3) := dk_182 0 120 (dk_at dksX4_brights_0 16 rfl rfl)
theorem dX4_brights_19 : decode cX4_brights 19 = .ok (.ifCond .eq 7, 3) := dk_153 0 7 (dk_at dksX4_brights_0 19 rfl rfl)
theorem dX4_brights_22 : decode cX4_brights 22 = .ok (.iconst 1, 1) := dk_4 (dk_at dksX4_brights_0 22 rfl rfl)
theorem dX4_brights_23 : decode cX4_brights 23 = .ok (.goto 4, 3) := dk_167 0 4 (dk_at dksX4_brights_1 0 rfl rfl)
theorem dX4_brights_26 : decode cX4_brights 26 = .ok (.iconst 0, 1) := dk_3 (dk_at dksX4_brights_1 3 rfl rfl)
theorem dX4_brights_27 : decode cX4_brights 27 = .ok (.iadd, 1) := dk_96 (dk_at dksX4_brights_1 4 rfl rfl)
theorem dX4_brights_28 : decode cX4_brights 28 = .ok (.istore_n 1, 1) := dk_60 (dk_at dksX4_brights_1 5 rfl rfl)
theorem dX4_brights_29 : decode cX4_brights 29 = .ok (.iinc 2 1, 3) := dk_132 2 1 (dk_at dksX4_brights_1 6 rfl rfl)
theorem dX4_brights_32 : decode cX4_brights 32 = .ok (.goto (-28), 3) := dk_167 255 228 (dk_at dksX4_brights_1 9 rfl rfl)
theorem dX4_brights_35 : decode cX4_brights 35 = .ok (.iload_n 1, 1) := dk_27 (dk_at dksX4_brights_1 12 rfl rfl)
theorem dX4_brights_36 : decode cX4_brights 36 = .ok (.ireturn, 1) := dk_172 (dk_at dksX4_brights_1 13 rfl rfl)
abbrev cX4_isBright : ByteArray := prog_17_method_14_code
def yX4_isBright : MethodName := ⟨RX4, "isBright", "(I)Z"⟩
def dkwX4_isBright_3 : List UInt8 := [46, 27, 182, 0, 117, 153, 0, 5, 4, 172, 132, 2, 1, 167, 255, 181, 3, 172]
abbrev dktX4_isBright_3 : List UInt8 := dkwX4_isBright_3 ++ []
def dkwX4_isBright_2 : List UInt8 := [185, 0, 80, 2, 0, 192, 0, 116, 3, 46, 42, 180, 0, 20, 28, 185, 0, 80, 2, 0, 192, 0, 116, 4]
abbrev dktX4_isBright_2 : List UInt8 := dkwX4_isBright_2 ++ dktX4_isBright_3
def dkwX4_isBright_1 : List UInt8 := [185, 0, 80, 2, 0, 192, 0, 116, 5, 46, 4, 160, 0, 43, 42, 42, 180, 0, 20, 28]
abbrev dktX4_isBright_1 : List UInt8 := dkwX4_isBright_1 ++ dktX4_isBright_2
def dkwX4_isBright_0 : List UInt8 := [3, 61, 28, 42, 180, 0, 20, 185, 0, 58, 1, 0, 162, 0, 68, 42, 180, 0, 20, 28]
abbrev dktX4_isBright_0 : List UInt8 := dkwX4_isBright_0 ++ dktX4_isBright_1
theorem dksX4_isBright_0 : cX4_isBright.data.toList.drop 0 = dktX4_isBright_0 := by decide +kernel
theorem dksX4_isBright_1 : cX4_isBright.data.toList.drop 20 = dktX4_isBright_1 := dk_seg dksX4_isBright_0 20 rfl rfl
theorem dksX4_isBright_2 : cX4_isBright.data.toList.drop 40 = dktX4_isBright_2 := dk_seg dksX4_isBright_1 20 rfl rfl
theorem dksX4_isBright_3 : cX4_isBright.data.toList.drop 64 = dktX4_isBright_3 := dk_seg dksX4_isBright_2 24 rfl rfl
theorem dX4_isBright_0 : decode cX4_isBright 0 = .ok (.iconst 0, 1) := dk_3 (dk_at dksX4_isBright_0 0 rfl rfl)
theorem dX4_isBright_1 : decode cX4_isBright 1 = .ok (.istore_n 2, 1) := dk_61 (dk_at dksX4_isBright_0 1 rfl rfl)
theorem dX4_isBright_2 : decode cX4_isBright 2 = .ok (.iload_n 2, 1) := dk_28 (dk_at dksX4_isBright_0 2 rfl rfl)
theorem dX4_isBright_3 : decode cX4_isBright 3 = .ok (.aload_n 0, 1) := dk_42 (dk_at dksX4_isBright_0 3 rfl rfl)
theorem dX4_isBright_4 : decode cX4_isBright 4 = .ok (.getfield 20, 3) := dk_180 0 20 (dk_at dksX4_isBright_0 4 rfl rfl)
theorem dX4_isBright_7 : decode cX4_isBright 7 = .ok (.invokeinterface 58 1, 5) := by decide +kernel
theorem dX4_isBright_12 : decode cX4_isBright 12 = .ok (.if_icmp .ge 68, 3) := dk_162 0 68 (dk_at dksX4_isBright_0 12 rfl rfl)
theorem dX4_isBright_15 : decode cX4_isBright 15 = .ok (.aload_n 0, 1) := dk_42 (dk_at dksX4_isBright_0 15 rfl rfl)
theorem dX4_isBright_16 : decode cX4_isBright 16 = .ok (.getfield 20, 3) := dk_180 0 20 (dk_at dksX4_isBright_0 16 rfl rfl)
theorem dX4_isBright_19 : decode cX4_isBright 19 = .ok (.iload_n 2, 1) := dk_28 (dk_at dksX4_isBright_0 19 rfl rfl)
theorem dX4_isBright_20 : decode cX4_isBright 20 = .ok (.invokeinterface 80 2, 5) := by decide +kernel
theorem dX4_isBright_25 : decode cX4_isBright 25 = .ok (.checkcast 116, 3) := dk_192 0 116 (dk_at dksX4_isBright_1 5 rfl rfl)
theorem dX4_isBright_28 : decode cX4_isBright 28 = .ok (.iconst 2, 1) := dk_5 (dk_at dksX4_isBright_1 8 rfl rfl)
theorem dX4_isBright_29 : decode cX4_isBright 29 = .ok (.iaload, 1) := dk_46 (dk_at dksX4_isBright_1 9 rfl rfl)
theorem dX4_isBright_30 : decode cX4_isBright 30 = .ok (.iconst 1, 1) := dk_4 (dk_at dksX4_isBright_1 10 rfl rfl)
theorem dX4_isBright_31 : decode cX4_isBright 31 = .ok (.if_icmp .ne 43, 3) := dk_160 0 43 (dk_at dksX4_isBright_1 11 rfl rfl)
theorem dX4_isBright_34 : decode cX4_isBright 34 = .ok (.aload_n 0, 1) := dk_42 (dk_at dksX4_isBright_1 14 rfl rfl)
theorem dX4_isBright_35 : decode cX4_isBright 35 = .ok (.aload_n 0, 1) := dk_42 (dk_at dksX4_isBright_1 15 rfl rfl)
theorem dX4_isBright_36 : decode cX4_isBright 36 = .ok (.getfield 20, 3) := dk_180 0 20 (dk_at dksX4_isBright_1 16 rfl rfl)
theorem dX4_isBright_39 : decode cX4_isBright 39 = .ok (.iload_n 2, 1) := dk_28 (dk_at dksX4_isBright_1 19 rfl rfl)
theorem dX4_isBright_40 : decode cX4_isBright 40 = .ok (.invokeinterface 80 2, 5) := by decide +kernel
theorem dX4_isBright_45 : decode cX4_isBright 45 = .ok (.checkcast 116, 3) := dk_192 0 116 (dk_at dksX4_isBright_2 5 rfl rfl)
theorem dX4_isBright_48 : decode cX4_isBright 48 = .ok (.iconst 0, 1) := dk_3 (dk_at dksX4_isBright_2 8 rfl rfl)
theorem dX4_isBright_49 : decode cX4_isBright 49 = .ok (.iaload, 1) := dk_46 (dk_at dksX4_isBright_2 9 rfl rfl)
theorem dX4_isBright_50 : decode cX4_isBright 50 = .ok (.aload_n 0, 1) := dk_42 (dk_at dksX4_isBright_2 10 rfl rfl)
theorem dX4_isBright_51 : decode cX4_isBright 51 = .ok (.getfield 20, 3) := dk_180 0 20 (dk_at dksX4_isBright_2 11 rfl rfl)
theorem dX4_isBright_54 : decode cX4_isBright 54 = .ok (.iload_n 2, 1) := dk_28 (dk_at dksX4_isBright_2 14 rfl rfl)
theorem dX4_isBright_55 : decode cX4_isBright 55 = .ok (.invokeinterface 80 2, 5) := by decide +kernel
theorem dX4_isBright_60 : decode cX4_isBright 60 = .ok (.checkcast 116, 3) := dk_192 0 116 (dk_at dksX4_isBright_2 20 rfl rfl)
theorem dX4_isBright_63 : decode cX4_isBright 63 = .ok (.iconst 1, 1) := dk_4 (dk_at dksX4_isBright_2 23 rfl rfl)
theorem dX4_isBright_64 : decode cX4_isBright 64 = .ok (.iaload, 1) := dk_46 (dk_at dksX4_isBright_3 0 rfl rfl)
theorem dX4_isBright_65 : decode cX4_isBright 65 = .ok (.iload_n 1, 1) := dk_27 (dk_at dksX4_isBright_3 1 rfl rfl)
theorem dX4_isBright_66 : decode cX4_isBright 66 = .ok (.invokevirtual 117, 3) := dk_182 0 117 (dk_at dksX4_isBright_3 2 rfl rfl)
theorem dX4_isBright_69 : decode cX4_isBright 69 = .ok (.ifCond .eq 5, 3) := dk_153 0 5 (dk_at dksX4_isBright_3 5 rfl rfl)
theorem dX4_isBright_72 : decode cX4_isBright 72 = .ok (.iconst 1, 1) := dk_4 (dk_at dksX4_isBright_3 8 rfl rfl)
theorem dX4_isBright_73 : decode cX4_isBright 73 = .ok (.ireturn, 1) := dk_172 (dk_at dksX4_isBright_3 9 rfl rfl)
theorem dX4_isBright_74 : decode cX4_isBright 74 = .ok (.iinc 2 1, 3) := dk_132 2 1 (dk_at dksX4_isBright_3 10 rfl rfl)
theorem dX4_isBright_77 : decode cX4_isBright 77 = .ok (.goto (-75), 3) := dk_167 255 181 (dk_at dksX4_isBright_3 13 rfl rfl)
theorem dX4_isBright_80 : decode cX4_isBright 80 = .ok (.iconst 0, 1) := dk_3 (dk_at dksX4_isBright_3 16 rfl rfl)
theorem dX4_isBright_81 : decode cX4_isBright 81 = .ok (.ireturn, 1) := dk_172 (dk_at dksX4_isBright_3 17 rfl rfl)
abbrev cX4_isLitBy : ByteArray := prog_17_method_13_code
def yX4_isLitBy : MethodName := ⟨RX4, "isLitBy", "(III)Z"⟩
def dkwX4_isLitBy_1 : List UInt8 := [172]
abbrev dktX4_isLitBy_1 : List UInt8 := dkwX4_isLitBy_1 ++ []
def dkwX4_isLitBy_0 : List UInt8 := [42, 27, 29, 182, 0, 104, 28, 163, 0, 16, 42, 27, 29, 182, 0, 112, 153, 0, 7, 4, 167, 0, 4, 3]
abbrev dktX4_isLitBy_0 : List UInt8 := dkwX4_isLitBy_0 ++ dktX4_isLitBy_1
theorem dksX4_isLitBy_0 : cX4_isLitBy.data.toList.drop 0 = dktX4_isLitBy_0 := by decide +kernel
theorem dksX4_isLitBy_1 : cX4_isLitBy.data.toList.drop 24 = dktX4_isLitBy_1 := dk_seg dksX4_isLitBy_0 24 rfl rfl
theorem dX4_isLitBy_0 : decode cX4_isLitBy 0 = .ok (.aload_n 0, 1) := dk_42 (dk_at dksX4_isLitBy_0 0 rfl rfl)
theorem dX4_isLitBy_1 : decode cX4_isLitBy 1 = .ok (.iload_n 1, 1) := dk_27 (dk_at dksX4_isLitBy_0 1 rfl rfl)
theorem dX4_isLitBy_2 : decode cX4_isLitBy 2 = .ok (.iload_n 3, 1) := dk_29 (dk_at dksX4_isLitBy_0 2 rfl rfl)
theorem dX4_isLitBy_3 : decode cX4_isLitBy 3 = .ok (.invokevirtual 104, 3) := dk_182 0 104 (dk_at dksX4_isLitBy_0 3 rfl rfl)
theorem dX4_isLitBy_6 : decode cX4_isLitBy 6 = .ok (.iload_n 2, 1) := dk_28 (dk_at dksX4_isLitBy_0 6 rfl rfl)
theorem dX4_isLitBy_7 : decode cX4_isLitBy 7 = .ok (.if_icmp .gt 16, 3) := dk_163 0 16 (dk_at dksX4_isLitBy_0 7 rfl rfl)
theorem dX4_isLitBy_10 : decode cX4_isLitBy 10 = .ok (.aload_n 0, 1) := dk_42 (dk_at dksX4_isLitBy_0 10 rfl rfl)
theorem dX4_isLitBy_11 : decode cX4_isLitBy 11 = .ok (.iload_n 1, 1) := dk_27 (dk_at dksX4_isLitBy_0 11 rfl rfl)
theorem dX4_isLitBy_12 : decode cX4_isLitBy 12 = .ok (.iload_n 3, 1) := dk_29 (dk_at dksX4_isLitBy_0 12 rfl rfl)
theorem dX4_isLitBy_13 : decode cX4_isLitBy 13 = .ok (.invokevirtual 112, 3) := dk_182 0 112 (dk_at dksX4_isLitBy_0 13 rfl rfl)
theorem dX4_isLitBy_16 : decode cX4_isLitBy 16 = .ok (.ifCond .eq 7, 3) := dk_153 0 7 (dk_at dksX4_isLitBy_0 16 rfl rfl)
theorem dX4_isLitBy_19 : decode cX4_isLitBy 19 = .ok (.iconst 1, 1) := dk_4 (dk_at dksX4_isLitBy_0 19 rfl rfl)
theorem dX4_isLitBy_20 : decode cX4_isLitBy 20 = .ok (.goto 4, 3) := dk_167 0 4 (dk_at dksX4_isLitBy_0 20 rfl rfl)
theorem dX4_isLitBy_23 : decode cX4_isLitBy 23 = .ok (.iconst 0, 1) := dk_3 (dk_at dksX4_isLitBy_0 23 rfl rfl)
theorem dX4_isLitBy_24 : decode cX4_isLitBy 24 = .ok (.ireturn, 1) := dk_172 (dk_at dksX4_isLitBy_1 0 rfl rfl)
abbrev cX4_apart : ByteArray := prog_17_method_11_code
def yX4_apart : MethodName := ⟨RX4, "apart", "(II)I"⟩
def dkwX4_apart_1 : List UInt8 := [180, 0, 92, 112, 100, 184, 0, 95, 184, 0, 100, 172]
abbrev dktX4_apart_1 : List UInt8 := dkwX4_apart_1 ++ []
def dkwX4_apart_0 : List UInt8 := [27, 42, 180, 0, 92, 108, 28, 42, 180, 0, 92, 108, 100, 184, 0, 95, 27, 42, 180, 0, 92, 112, 28, 42]
abbrev dktX4_apart_0 : List UInt8 := dkwX4_apart_0 ++ dktX4_apart_1
theorem dksX4_apart_0 : cX4_apart.data.toList.drop 0 = dktX4_apart_0 := by decide +kernel
theorem dksX4_apart_1 : cX4_apart.data.toList.drop 24 = dktX4_apart_1 := dk_seg dksX4_apart_0 24 rfl rfl
theorem dX4_apart_0 : decode cX4_apart 0 = .ok (.iload_n 1, 1) := dk_27 (dk_at dksX4_apart_0 0 rfl rfl)
theorem dX4_apart_1 : decode cX4_apart 1 = .ok (.aload_n 0, 1) := dk_42 (dk_at dksX4_apart_0 1 rfl rfl)
theorem dX4_apart_2 : decode cX4_apart 2 = .ok (.getfield 92, 3) := dk_180 0 92 (dk_at dksX4_apart_0 2 rfl rfl)
theorem dX4_apart_5 : decode cX4_apart 5 = .ok (.idiv, 1) := dk_108 (dk_at dksX4_apart_0 5 rfl rfl)
theorem dX4_apart_6 : decode cX4_apart 6 = .ok (.iload_n 2, 1) := dk_28 (dk_at dksX4_apart_0 6 rfl rfl)
theorem dX4_apart_7 : decode cX4_apart 7 = .ok (.aload_n 0, 1) := dk_42 (dk_at dksX4_apart_0 7 rfl rfl)
theorem dX4_apart_8 : decode cX4_apart 8 = .ok (.getfield 92, 3) := dk_180 0 92 (dk_at dksX4_apart_0 8 rfl rfl)
theorem dX4_apart_11 : decode cX4_apart 11 = .ok (.idiv, 1) := dk_108 (dk_at dksX4_apart_0 11 rfl rfl)
theorem dX4_apart_12 : decode cX4_apart 12 = .ok (.isub, 1) := dk_100 (dk_at dksX4_apart_0 12 rfl rfl)
theorem dX4_apart_13 : decode cX4_apart 13 = .ok (.invokestatic 95, 3) := dk_184 0 95 (dk_at dksX4_apart_0 13 rfl rfl)
theorem dX4_apart_16 : decode cX4_apart 16 = .ok (.iload_n 1, 1) := dk_27 (dk_at dksX4_apart_0 16 rfl rfl)
theorem dX4_apart_17 : decode cX4_apart 17 = .ok (.aload_n 0, 1) := dk_42 (dk_at dksX4_apart_0 17 rfl rfl)
theorem dX4_apart_18 : decode cX4_apart 18 = .ok (.getfield 92, 3) := dk_180 0 92 (dk_at dksX4_apart_0 18 rfl rfl)
theorem dX4_apart_21 : decode cX4_apart 21 = .ok (.irem, 1) := dk_112 (dk_at dksX4_apart_0 21 rfl rfl)
theorem dX4_apart_22 : decode cX4_apart 22 = .ok (.iload_n 2, 1) := dk_28 (dk_at dksX4_apart_0 22 rfl rfl)
theorem dX4_apart_23 : decode cX4_apart 23 = .ok (.aload_n 0, 1) := dk_42 (dk_at dksX4_apart_0 23 rfl rfl)
theorem dX4_apart_24 : decode cX4_apart 24 = .ok (.getfield 92, 3) := dk_180 0 92 (dk_at dksX4_apart_1 0 rfl rfl)
theorem dX4_apart_27 : decode cX4_apart 27 = .ok (.irem, 1) := dk_112 (dk_at dksX4_apart_1 3 rfl rfl)
theorem dX4_apart_28 : decode cX4_apart 28 = .ok (.isub, 1) := dk_100 (dk_at dksX4_apart_1 4 rfl rfl)
theorem dX4_apart_29 : decode cX4_apart 29 = .ok (.invokestatic 95, 3) := dk_184 0 95 (dk_at dksX4_apart_1 5 rfl rfl)
theorem dX4_apart_32 : decode cX4_apart 32 = .ok (.invokestatic 100, 3) := dk_184 0 100 (dk_at dksX4_apart_1 8 rfl rfl)
theorem dX4_apart_35 : decode cX4_apart 35 = .ok (.ireturn, 1) := dk_172 (dk_at dksX4_apart_1 11 rfl rfl)
abbrev cX4_isClear : ByteArray := prog_17_method_12_code
def yX4_isClear : MethodName := ⟨RX4, "isClear", "(II)Z"⟩
def dkwX4_isClear_5 : List UInt8 := [160, 0, 5, 3, 172, 132, 7, 1, 167, 255, 212, 4, 172]
abbrev dktX4_isClear_5 : List UInt8 := dkwX4_isClear_5 ++ []
def dkwX4_isClear_4 : List UInt8 := [21, 7, 21, 6, 104, 96, 46, 4, 159, 0, 19, 42, 180, 0, 7, 27, 21, 7, 21, 6, 104, 96, 46, 5]
abbrev dktX4_isClear_4 : List UInt8 := dkwX4_isClear_4 ++ dktX4_isClear_5
def dkwX4_isClear_3 : List UInt8 := [104, 21, 4, 184, 0, 107, 96, 54, 6, 4, 54, 7, 21, 7, 21, 5, 162, 0, 43, 42, 180, 0, 7, 27]
abbrev dktX4_isClear_3 : List UInt8 := dkwX4_isClear_3 ++ dktX4_isClear_4
def dkwX4_isClear_2 : List UInt8 := [184, 0, 95, 159, 0, 5, 3, 172, 42, 27, 28, 182, 0, 104, 54, 5, 29, 184, 0, 107, 42, 180, 0, 92]
abbrev dktX4_isClear_2 : List UInt8 := dkwX4_isClear_2 ++ dktX4_isClear_3
def dkwX4_isClear_1 : List UInt8 := [180, 0, 92, 112, 100, 54, 4, 29, 153, 0, 22, 21, 4, 153, 0, 17, 29, 184, 0, 95, 21, 4]
abbrev dktX4_isClear_1 : List UInt8 := dkwX4_isClear_1 ++ dktX4_isClear_2
def dkwX4_isClear_0 : List UInt8 := [28, 42, 180, 0, 92, 108, 27, 42, 180, 0, 92, 108, 100, 62, 28, 42, 180, 0, 92, 112, 27, 42]
abbrev dktX4_isClear_0 : List UInt8 := dkwX4_isClear_0 ++ dktX4_isClear_1
theorem dksX4_isClear_0 : cX4_isClear.data.toList.drop 0 = dktX4_isClear_0 := by decide +kernel
theorem dksX4_isClear_1 : cX4_isClear.data.toList.drop 22 = dktX4_isClear_1 := dk_seg dksX4_isClear_0 22 rfl rfl
theorem dksX4_isClear_2 : cX4_isClear.data.toList.drop 44 = dktX4_isClear_2 := dk_seg dksX4_isClear_1 22 rfl rfl
theorem dksX4_isClear_3 : cX4_isClear.data.toList.drop 68 = dktX4_isClear_3 := dk_seg dksX4_isClear_2 24 rfl rfl
theorem dksX4_isClear_4 : cX4_isClear.data.toList.drop 92 = dktX4_isClear_4 := dk_seg dksX4_isClear_3 24 rfl rfl
theorem dksX4_isClear_5 : cX4_isClear.data.toList.drop 116 = dktX4_isClear_5 := dk_seg dksX4_isClear_4 24 rfl rfl
theorem dX4_isClear_0 : decode cX4_isClear 0 = .ok (.iload_n 2, 1) := dk_28 (dk_at dksX4_isClear_0 0 rfl rfl)
theorem dX4_isClear_1 : decode cX4_isClear 1 = .ok (.aload_n 0, 1) := dk_42 (dk_at dksX4_isClear_0 1 rfl rfl)
theorem dX4_isClear_2 : decode cX4_isClear 2 = .ok (.getfield 92, 3) := dk_180 0 92 (dk_at dksX4_isClear_0 2 rfl rfl)
theorem dX4_isClear_5 : decode cX4_isClear 5 = .ok (.idiv, 1) := dk_108 (dk_at dksX4_isClear_0 5 rfl rfl)
theorem dX4_isClear_6 : decode cX4_isClear 6 = .ok (.iload_n 1, 1) := dk_27 (dk_at dksX4_isClear_0 6 rfl rfl)
theorem dX4_isClear_7 : decode cX4_isClear 7 = .ok (.aload_n 0, 1) := dk_42 (dk_at dksX4_isClear_0 7 rfl rfl)
theorem dX4_isClear_8 : decode cX4_isClear 8 = .ok (.getfield 92, 3) := dk_180 0 92 (dk_at dksX4_isClear_0 8 rfl rfl)
theorem dX4_isClear_11 : decode cX4_isClear 11 = .ok (.idiv, 1) := dk_108 (dk_at dksX4_isClear_0 11 rfl rfl)
theorem dX4_isClear_12 : decode cX4_isClear 12 = .ok (.isub, 1) := dk_100 (dk_at dksX4_isClear_0 12 rfl rfl)
theorem dX4_isClear_13 : decode cX4_isClear 13 = .ok (.istore_n 3, 1) := dk_62 (dk_at dksX4_isClear_0 13 rfl rfl)
theorem dX4_isClear_14 : decode cX4_isClear 14 = .ok (.iload_n 2, 1) := dk_28 (dk_at dksX4_isClear_0 14 rfl rfl)
theorem dX4_isClear_15 : decode cX4_isClear 15 = .ok (.aload_n 0, 1) := dk_42 (dk_at dksX4_isClear_0 15 rfl rfl)
theorem dX4_isClear_16 : decode cX4_isClear 16 = .ok (.getfield 92, 3) := dk_180 0 92 (dk_at dksX4_isClear_0 16 rfl rfl)
theorem dX4_isClear_19 : decode cX4_isClear 19 = .ok (.irem, 1) := dk_112 (dk_at dksX4_isClear_0 19 rfl rfl)
theorem dX4_isClear_20 : decode cX4_isClear 20 = .ok (.iload_n 1, 1) := dk_27 (dk_at dksX4_isClear_0 20 rfl rfl)
theorem dX4_isClear_21 : decode cX4_isClear 21 = .ok (.aload_n 0, 1) := dk_42 (dk_at dksX4_isClear_0 21 rfl rfl)
theorem dX4_isClear_22 : decode cX4_isClear 22 = .ok (.getfield 92, 3) := dk_180 0 92 (dk_at dksX4_isClear_1 0 rfl rfl)
theorem dX4_isClear_25 : decode cX4_isClear 25 = .ok (.irem, 1) := dk_112 (dk_at dksX4_isClear_1 3 rfl rfl)
theorem dX4_isClear_26 : decode cX4_isClear 26 = .ok (.isub, 1) := dk_100 (dk_at dksX4_isClear_1 4 rfl rfl)
theorem dX4_isClear_27 : decode cX4_isClear 27 = .ok (.istore 4, 2) := dk_54 4 (dk_at dksX4_isClear_1 5 rfl rfl)
theorem dX4_isClear_29 : decode cX4_isClear 29 = .ok (.iload_n 3, 1) := dk_29 (dk_at dksX4_isClear_1 7 rfl rfl)
theorem dX4_isClear_30 : decode cX4_isClear 30 = .ok (.ifCond .eq 22, 3) := dk_153 0 22 (dk_at dksX4_isClear_1 8 rfl rfl)
theorem dX4_isClear_33 : decode cX4_isClear 33 = .ok (.iload 4, 2) := dk_21 4 (dk_at dksX4_isClear_1 11 rfl rfl)
theorem dX4_isClear_35 : decode cX4_isClear 35 = .ok (.ifCond .eq 17, 3) := dk_153 0 17 (dk_at dksX4_isClear_1 13 rfl rfl)
theorem dX4_isClear_38 : decode cX4_isClear 38 = .ok (.iload_n 3, 1) := dk_29 (dk_at dksX4_isClear_1 16 rfl rfl)
theorem dX4_isClear_39 : decode cX4_isClear 39 = .ok (.invokestatic 95, 3) := dk_184 0 95 (dk_at dksX4_isClear_1 17 rfl rfl)
theorem dX4_isClear_42 : decode cX4_isClear 42 = .ok (.iload 4, 2) := dk_21 4 (dk_at dksX4_isClear_1 20 rfl rfl)
theorem dX4_isClear_44 : decode cX4_isClear 44 = .ok (.invokestatic 95, 3) := dk_184 0 95 (dk_at dksX4_isClear_2 0 rfl rfl)
theorem dX4_isClear_47 : decode cX4_isClear 47 = .ok (.if_icmp .eq 5, 3) := dk_159 0 5 (dk_at dksX4_isClear_2 3 rfl rfl)
theorem dX4_isClear_50 : decode cX4_isClear 50 = .ok (.iconst 0, 1) := dk_3 (dk_at dksX4_isClear_2 6 rfl rfl)
theorem dX4_isClear_51 : decode cX4_isClear 51 = .ok (.ireturn, 1) := dk_172 (dk_at dksX4_isClear_2 7 rfl rfl)
theorem dX4_isClear_52 : decode cX4_isClear 52 = .ok (.aload_n 0, 1) := dk_42 (dk_at dksX4_isClear_2 8 rfl rfl)
theorem dX4_isClear_53 : decode cX4_isClear 53 = .ok (.iload_n 1, 1) := dk_27 (dk_at dksX4_isClear_2 9 rfl rfl)
theorem dX4_isClear_54 : decode cX4_isClear 54 = .ok (.iload_n 2, 1) := dk_28 (dk_at dksX4_isClear_2 10 rfl rfl)
theorem dX4_isClear_55 : decode cX4_isClear 55 = .ok (.invokevirtual 104, 3) := dk_182 0 104 (dk_at dksX4_isClear_2 11 rfl rfl)
theorem dX4_isClear_58 : decode cX4_isClear 58 = .ok (.istore 5, 2) := dk_54 5 (dk_at dksX4_isClear_2 14 rfl rfl)
theorem dX4_isClear_60 : decode cX4_isClear 60 = .ok (.iload_n 3, 1) := dk_29 (dk_at dksX4_isClear_2 16 rfl rfl)
theorem dX4_isClear_61 : decode cX4_isClear 61 = .ok (.invokestatic 107, 3) := dk_184 0 107 (dk_at dksX4_isClear_2 17 rfl rfl)
theorem dX4_isClear_64 : decode cX4_isClear 64 = .ok (.aload_n 0, 1) := dk_42 (dk_at dksX4_isClear_2 20 rfl rfl)
theorem dX4_isClear_65 : decode cX4_isClear 65 = .ok (.getfield 92, 3) := dk_180 0 92 (dk_at dksX4_isClear_2 21 rfl rfl)
theorem dX4_isClear_68 : decode cX4_isClear 68 = .ok (.imul, 1) := dk_104 (dk_at dksX4_isClear_3 0 rfl rfl)
theorem dX4_isClear_69 : decode cX4_isClear 69 = .ok (.iload 4, 2) := dk_21 4 (dk_at dksX4_isClear_3 1 rfl rfl)
theorem dX4_isClear_71 : decode cX4_isClear 71 = .ok (.invokestatic 107, 3) := dk_184 0 107 (dk_at dksX4_isClear_3 3 rfl rfl)
theorem dX4_isClear_74 : decode cX4_isClear 74 = .ok (.iadd, 1) := dk_96 (dk_at dksX4_isClear_3 6 rfl rfl)
theorem dX4_isClear_75 : decode cX4_isClear 75 = .ok (.istore 6, 2) := dk_54 6 (dk_at dksX4_isClear_3 7 rfl rfl)
theorem dX4_isClear_77 : decode cX4_isClear 77 = .ok (.iconst 1, 1) := dk_4 (dk_at dksX4_isClear_3 9 rfl rfl)
theorem dX4_isClear_78 : decode cX4_isClear 78 = .ok (.istore 7, 2) := dk_54 7 (dk_at dksX4_isClear_3 10 rfl rfl)
theorem dX4_isClear_80 : decode cX4_isClear 80 = .ok (.iload 7, 2) := dk_21 7 (dk_at dksX4_isClear_3 12 rfl rfl)
theorem dX4_isClear_82 : decode cX4_isClear 82 = .ok (.iload 5, 2) := dk_21 5 (dk_at dksX4_isClear_3 14 rfl rfl)
theorem dX4_isClear_84 : decode cX4_isClear 84 = .ok (.if_icmp .ge 43, 3) := dk_162 0 43 (dk_at dksX4_isClear_3 16 rfl rfl)
theorem dX4_isClear_87 : decode cX4_isClear 87 = .ok (.aload_n 0, 1) := dk_42 (dk_at dksX4_isClear_3 19 rfl rfl)
theorem dX4_isClear_88 : decode cX4_isClear 88 = .ok (.getfield 7, 3) := dk_180 0 7 (dk_at dksX4_isClear_3 20 rfl rfl)
theorem dX4_isClear_91 : decode cX4_isClear 91 = .ok (.iload_n 1, 1) := dk_27 (dk_at dksX4_isClear_3 23 rfl rfl)
theorem dX4_isClear_92 : decode cX4_isClear 92 = .ok (.iload 7, 2) := dk_21 7 (dk_at dksX4_isClear_4 0 rfl rfl)
theorem dX4_isClear_94 : decode cX4_isClear 94 = .ok (.iload 6, 2) := dk_21 6 (dk_at dksX4_isClear_4 2 rfl rfl)
theorem dX4_isClear_96 : decode cX4_isClear 96 = .ok (.imul, 1) := dk_104 (dk_at dksX4_isClear_4 4 rfl rfl)
theorem dX4_isClear_97 : decode cX4_isClear 97 = .ok (.iadd, 1) := dk_96 (dk_at dksX4_isClear_4 5 rfl rfl)
theorem dX4_isClear_98 : decode cX4_isClear 98 = .ok (.iaload, 1) := dk_46 (dk_at dksX4_isClear_4 6 rfl rfl)
theorem dX4_isClear_99 : decode cX4_isClear 99 = .ok (.iconst 1, 1) := dk_4 (dk_at dksX4_isClear_4 7 rfl rfl)
theorem dX4_isClear_100 : decode cX4_isClear 100 = .ok (.if_icmp .eq 19, 3) := dk_159 0 19 (dk_at dksX4_isClear_4 8 rfl rfl)
theorem dX4_isClear_103 : decode cX4_isClear 103 = .ok (.aload_n 0, 1) := dk_42 (dk_at dksX4_isClear_4 11 rfl rfl)
theorem dX4_isClear_104 : decode cX4_isClear 104 = .ok (.getfield 7, 3) := dk_180 0 7 (dk_at dksX4_isClear_4 12 rfl rfl)
theorem dX4_isClear_107 : decode cX4_isClear 107 = .ok (.iload_n 1, 1) := dk_27 (dk_at dksX4_isClear_4 15 rfl rfl)
theorem dX4_isClear_108 : decode cX4_isClear 108 = .ok (.iload 7, 2) := dk_21 7 (dk_at dksX4_isClear_4 16 rfl rfl)
theorem dX4_isClear_110 : decode cX4_isClear 110 = .ok (.iload 6, 2) := dk_21 6 (dk_at dksX4_isClear_4 18 rfl rfl)
theorem dX4_isClear_112 : decode cX4_isClear 112 = .ok (.imul, 1) := dk_104 (dk_at dksX4_isClear_4 20 rfl rfl)
theorem dX4_isClear_113 : decode cX4_isClear 113 = .ok (.iadd, 1) := dk_96 (dk_at dksX4_isClear_4 21 rfl rfl)
theorem dX4_isClear_114 : decode cX4_isClear 114 = .ok (.iaload, 1) := dk_46 (dk_at dksX4_isClear_4 22 rfl rfl)
theorem dX4_isClear_115 : decode cX4_isClear 115 = .ok (.iconst 2, 1) := dk_5 (dk_at dksX4_isClear_4 23 rfl rfl)
theorem dX4_isClear_116 : decode cX4_isClear 116 = .ok (.if_icmp .ne 5, 3) := dk_160 0 5 (dk_at dksX4_isClear_5 0 rfl rfl)
theorem dX4_isClear_119 : decode cX4_isClear 119 = .ok (.iconst 0, 1) := dk_3 (dk_at dksX4_isClear_5 3 rfl rfl)
theorem dX4_isClear_120 : decode cX4_isClear 120 = .ok (.ireturn, 1) := dk_172 (dk_at dksX4_isClear_5 4 rfl rfl)
theorem dX4_isClear_121 : decode cX4_isClear 121 = .ok (.iinc 7 1, 3) := dk_132 7 1 (dk_at dksX4_isClear_5 5 rfl rfl)
theorem dX4_isClear_124 : decode cX4_isClear 124 = .ok (.goto (-44), 3) := dk_167 255 212 (dk_at dksX4_isClear_5 8 rfl rfl)
theorem dX4_isClear_127 : decode cX4_isClear 127 = .ok (.iconst 1, 1) := dk_4 (dk_at dksX4_isClear_5 11 rfl rfl)
theorem dX4_isClear_128 : decode cX4_isClear 128 = .ok (.ireturn, 1) := dk_172 (dk_at dksX4_isClear_5 12 rfl rfl)
abbrev cX4_fog : ByteArray := prog_17_method_27_code
def yX4_fog : MethodName := ⟨RX4, "fog", "(II)I"⟩
def dkwX4_fog_3 : List UInt8 := [180, 0, 24, 185, 0, 58, 1, 0, 172]
abbrev dktX4_fog_3 : List UInt8 := dkwX4_fog_3 ++ []
def dkwX4_fog_2 : List UInt8 := [42, 180, 0, 24, 5, 188, 10, 89, 3, 27, 79, 89, 4, 28, 79, 185, 0, 166, 2, 0, 87, 42]
abbrev dktX4_fog_2 : List UInt8 := dkwX4_fog_2 ++ dktX4_fog_3
def dkwX4_fog_1 : List UInt8 := [182, 0, 140, 172, 42, 180, 0, 24, 185, 0, 58, 1, 0, 16, 8, 160, 0, 9, 42, 5, 182, 0, 140, 172]
abbrev dktX4_fog_1 : List UInt8 := dkwX4_fog_1 ++ dktX4_fog_2
def dkwX4_fog_0 : List UInt8 := [42, 3, 181, 0, 51, 27, 184, 0, 163, 153, 0, 12, 28, 3, 8, 184, 0, 54, 154, 0, 9, 42, 4]
abbrev dktX4_fog_0 : List UInt8 := dkwX4_fog_0 ++ dktX4_fog_1
theorem dksX4_fog_0 : cX4_fog.data.toList.drop 0 = dktX4_fog_0 := by decide +kernel
theorem dksX4_fog_1 : cX4_fog.data.toList.drop 23 = dktX4_fog_1 := dk_seg dksX4_fog_0 23 rfl rfl
theorem dksX4_fog_2 : cX4_fog.data.toList.drop 47 = dktX4_fog_2 := dk_seg dksX4_fog_1 24 rfl rfl
theorem dksX4_fog_3 : cX4_fog.data.toList.drop 69 = dktX4_fog_3 := dk_seg dksX4_fog_2 22 rfl rfl
theorem dX4_fog_0 : decode cX4_fog 0 = .ok (.aload_n 0, 1) := dk_42 (dk_at dksX4_fog_0 0 rfl rfl)
theorem dX4_fog_1 : decode cX4_fog 1 = .ok (.iconst 0, 1) := dk_3 (dk_at dksX4_fog_0 1 rfl rfl)
theorem dX4_fog_2 : decode cX4_fog 2 = .ok (.putfield 51, 3) := dk_181 0 51 (dk_at dksX4_fog_0 2 rfl rfl)
theorem dX4_fog_5 : decode cX4_fog 5 = .ok (.iload_n 1, 1) := dk_27 (dk_at dksX4_fog_0 5 rfl rfl)
theorem dX4_fog_6 : decode cX4_fog 6 = .ok (.invokestatic 163, 3) := dk_184 0 163 (dk_at dksX4_fog_0 6 rfl rfl)
theorem dX4_fog_9 : decode cX4_fog 9 = .ok (.ifCond .eq 12, 3) := dk_153 0 12 (dk_at dksX4_fog_0 9 rfl rfl)
theorem dX4_fog_12 : decode cX4_fog 12 = .ok (.iload_n 2, 1) := dk_28 (dk_at dksX4_fog_0 12 rfl rfl)
theorem dX4_fog_13 : decode cX4_fog 13 = .ok (.iconst 0, 1) := dk_3 (dk_at dksX4_fog_0 13 rfl rfl)
theorem dX4_fog_14 : decode cX4_fog 14 = .ok (.iconst 5, 1) := dk_8 (dk_at dksX4_fog_0 14 rfl rfl)
theorem dX4_fog_15 : decode cX4_fog 15 = .ok (.invokestatic 54, 3) := dk_184 0 54 (dk_at dksX4_fog_0 15 rfl rfl)
theorem dX4_fog_18 : decode cX4_fog 18 = .ok (.ifCond .ne 9, 3) := dk_154 0 9 (dk_at dksX4_fog_0 18 rfl rfl)
theorem dX4_fog_21 : decode cX4_fog 21 = .ok (.aload_n 0, 1) := dk_42 (dk_at dksX4_fog_0 21 rfl rfl)
theorem dX4_fog_22 : decode cX4_fog 22 = .ok (.iconst 1, 1) := dk_4 (dk_at dksX4_fog_0 22 rfl rfl)
theorem dX4_fog_23 : decode cX4_fog 23 = .ok (.invokevirtual 140, 3) := dk_182 0 140 (dk_at dksX4_fog_1 0 rfl rfl)
theorem dX4_fog_26 : decode cX4_fog 26 = .ok (.ireturn, 1) := dk_172 (dk_at dksX4_fog_1 3 rfl rfl)
theorem dX4_fog_27 : decode cX4_fog 27 = .ok (.aload_n 0, 1) := dk_42 (dk_at dksX4_fog_1 4 rfl rfl)
theorem dX4_fog_28 : decode cX4_fog 28 = .ok (.getfield 24, 3) := dk_180 0 24 (dk_at dksX4_fog_1 5 rfl rfl)
theorem dX4_fog_31 : decode cX4_fog 31 = .ok (.invokeinterface 58 1, 5) := by decide +kernel
theorem dX4_fog_36 : decode cX4_fog 36 = .ok (.bipush 8, 2) := dk_16 8 (dk_at dksX4_fog_1 13 rfl rfl)
theorem dX4_fog_38 : decode cX4_fog 38 = .ok (.if_icmp .ne 9, 3) := dk_160 0 9 (dk_at dksX4_fog_1 15 rfl rfl)
theorem dX4_fog_41 : decode cX4_fog 41 = .ok (.aload_n 0, 1) := dk_42 (dk_at dksX4_fog_1 18 rfl rfl)
theorem dX4_fog_42 : decode cX4_fog 42 = .ok (.iconst 2, 1) := dk_5 (dk_at dksX4_fog_1 19 rfl rfl)
theorem dX4_fog_43 : decode cX4_fog 43 = .ok (.invokevirtual 140, 3) := dk_182 0 140 (dk_at dksX4_fog_1 20 rfl rfl)
theorem dX4_fog_46 : decode cX4_fog 46 = .ok (.ireturn, 1) := dk_172 (dk_at dksX4_fog_1 23 rfl rfl)
theorem dX4_fog_47 : decode cX4_fog 47 = .ok (.aload_n 0, 1) := dk_42 (dk_at dksX4_fog_2 0 rfl rfl)
theorem dX4_fog_48 : decode cX4_fog 48 = .ok (.getfield 24, 3) := dk_180 0 24 (dk_at dksX4_fog_2 1 rfl rfl)
theorem dX4_fog_51 : decode cX4_fog 51 = .ok (.iconst 2, 1) := dk_5 (dk_at dksX4_fog_2 4 rfl rfl)
theorem dX4_fog_52 : decode cX4_fog 52 = .ok (.newarray .int, 2) := dk_188_10 (dk_at dksX4_fog_2 5 rfl rfl)
theorem dX4_fog_54 : decode cX4_fog 54 = .ok (.dup, 1) := dk_89 (dk_at dksX4_fog_2 7 rfl rfl)
theorem dX4_fog_55 : decode cX4_fog 55 = .ok (.iconst 0, 1) := dk_3 (dk_at dksX4_fog_2 8 rfl rfl)
theorem dX4_fog_56 : decode cX4_fog 56 = .ok (.iload_n 1, 1) := dk_27 (dk_at dksX4_fog_2 9 rfl rfl)
theorem dX4_fog_57 : decode cX4_fog 57 = .ok (.iastore, 1) := dk_79 (dk_at dksX4_fog_2 10 rfl rfl)
theorem dX4_fog_58 : decode cX4_fog 58 = .ok (.dup, 1) := dk_89 (dk_at dksX4_fog_2 11 rfl rfl)
theorem dX4_fog_59 : decode cX4_fog 59 = .ok (.iconst 1, 1) := dk_4 (dk_at dksX4_fog_2 12 rfl rfl)
theorem dX4_fog_60 : decode cX4_fog 60 = .ok (.iload_n 2, 1) := dk_28 (dk_at dksX4_fog_2 13 rfl rfl)
theorem dX4_fog_61 : decode cX4_fog 61 = .ok (.iastore, 1) := dk_79 (dk_at dksX4_fog_2 14 rfl rfl)
theorem dX4_fog_62 : decode cX4_fog 62 = .ok (.invokeinterface 166 2, 5) := by decide +kernel
theorem dX4_fog_67 : decode cX4_fog 67 = .ok (.pop, 1) := dk_87 (dk_at dksX4_fog_2 20 rfl rfl)
theorem dX4_fog_68 : decode cX4_fog 68 = .ok (.aload_n 0, 1) := dk_42 (dk_at dksX4_fog_2 21 rfl rfl)
theorem dX4_fog_69 : decode cX4_fog 69 = .ok (.getfield 24, 3) := dk_180 0 24 (dk_at dksX4_fog_3 0 rfl rfl)
theorem dX4_fog_72 : decode cX4_fog 72 = .ok (.invokeinterface 58 1, 5) := by decide +kernel
theorem dX4_fog_77 : decode cX4_fog 77 = .ok (.ireturn, 1) := dk_172 (dk_at dksX4_fog_3 8 rfl rfl)
abbrev cX4_guard : ByteArray := prog_17_method_28_code
def yX4_guard : MethodName := ⟨RX4, "guard", "(IIII)I"⟩
def dkwX4_guard_5 : List UInt8 := [172]
abbrev dktX4_guard_5 : List UInt8 := dkwX4_guard_5 ++ []
def dkwX4_guard_4 : List UInt8 := [28, 29, 21, 4, 183, 0, 173, 185, 0, 166, 2, 0, 87, 42, 180, 0, 27, 185, 0, 58, 1, 0, 4, 100]
abbrev dktX4_guard_4 : List UInt8 := dkwX4_guard_4 ++ dktX4_guard_5
def dkwX4_guard_3 : List UInt8 := [180, 0, 7, 27, 46, 4, 160, 0, 9, 42, 6, 182, 0, 140, 172, 42, 180, 0, 27, 187, 0, 84, 89, 27]
abbrev dktX4_guard_3 : List UInt8 := dkwX4_guard_3 ++ dktX4_guard_4
def dkwX4_guard_2 : List UInt8 := [154, 0, 9, 42, 5, 182, 0, 140, 172, 42, 180, 0, 27, 185, 0, 58, 1, 0, 16, 6, 159, 0, 13, 42]
abbrev dktX4_guard_2 : List UInt8 := dkwX4_guard_2 ++ dktX4_guard_3
def dkwX4_guard_1 : List UInt8 := [153, 0, 25, 29, 28, 17, 0, 239, 184, 0, 54, 153, 0, 14, 21, 4, 4, 16, 20, 184, 0, 54]
abbrev dktX4_guard_1 : List UInt8 := dkwX4_guard_1 ++ dktX4_guard_2
def dkwX4_guard_0 : List UInt8 := [42, 3, 181, 0, 51, 42, 27, 182, 0, 157, 154, 0, 9, 42, 4, 182, 0, 140, 172, 28, 184, 0, 163]
abbrev dktX4_guard_0 : List UInt8 := dkwX4_guard_0 ++ dktX4_guard_1
theorem dksX4_guard_0 : cX4_guard.data.toList.drop 0 = dktX4_guard_0 := by decide +kernel
theorem dksX4_guard_1 : cX4_guard.data.toList.drop 23 = dktX4_guard_1 := dk_seg dksX4_guard_0 23 rfl rfl
theorem dksX4_guard_2 : cX4_guard.data.toList.drop 45 = dktX4_guard_2 := dk_seg dksX4_guard_1 22 rfl rfl
theorem dksX4_guard_3 : cX4_guard.data.toList.drop 69 = dktX4_guard_3 := dk_seg dksX4_guard_2 24 rfl rfl
theorem dksX4_guard_4 : cX4_guard.data.toList.drop 93 = dktX4_guard_4 := dk_seg dksX4_guard_3 24 rfl rfl
theorem dksX4_guard_5 : cX4_guard.data.toList.drop 117 = dktX4_guard_5 := dk_seg dksX4_guard_4 24 rfl rfl
theorem dX4_guard_0 : decode cX4_guard 0 = .ok (.aload_n 0, 1) := dk_42 (dk_at dksX4_guard_0 0 rfl rfl)
theorem dX4_guard_1 : decode cX4_guard 1 = .ok (.iconst 0, 1) := dk_3 (dk_at dksX4_guard_0 1 rfl rfl)
theorem dX4_guard_2 : decode cX4_guard 2 = .ok (.putfield 51, 3) := dk_181 0 51 (dk_at dksX4_guard_0 2 rfl rfl)
theorem dX4_guard_5 : decode cX4_guard 5 = .ok (.aload_n 0, 1) := dk_42 (dk_at dksX4_guard_0 5 rfl rfl)
theorem dX4_guard_6 : decode cX4_guard 6 = .ok (.iload_n 1, 1) := dk_27 (dk_at dksX4_guard_0 6 rfl rfl)
theorem dX4_guard_7 : decode cX4_guard 7 = .ok (.invokevirtual 157, 3) := dk_182 0 157 (dk_at dksX4_guard_0 7 rfl rfl)
theorem dX4_guard_10 : decode cX4_guard 10 = .ok (.ifCond .ne 9, 3) := dk_154 0 9 (dk_at dksX4_guard_0 10 rfl rfl)
theorem dX4_guard_13 : decode cX4_guard 13 = .ok (.aload_n 0, 1) := dk_42 (dk_at dksX4_guard_0 13 rfl rfl)
theorem dX4_guard_14 : decode cX4_guard 14 = .ok (.iconst 1, 1) := dk_4 (dk_at dksX4_guard_0 14 rfl rfl)
theorem dX4_guard_15 : decode cX4_guard 15 = .ok (.invokevirtual 140, 3) := dk_182 0 140 (dk_at dksX4_guard_0 15 rfl rfl)
theorem dX4_guard_18 : decode cX4_guard 18 = .ok (.ireturn, 1) := dk_172 (dk_at dksX4_guard_0 18 rfl rfl)
theorem dX4_guard_19 : decode cX4_guard 19 = .ok (.iload_n 2, 1) := dk_28 (dk_at dksX4_guard_0 19 rfl rfl)
theorem dX4_guard_20 : decode cX4_guard 20 = .ok (.invokestatic 163, 3) := dk_184 0 163 (dk_at dksX4_guard_0 20 rfl rfl)
theorem dX4_guard_23 : decode cX4_guard 23 = .ok (.ifCond .eq 25, 3) := dk_153 0 25 (dk_at dksX4_guard_1 0 rfl rfl)
theorem dX4_guard_26 : decode cX4_guard 26 = .ok (.iload_n 3, 1) := dk_29 (dk_at dksX4_guard_1 3 rfl rfl)
theorem dX4_guard_27 : decode cX4_guard 27 = .ok (.iload_n 2, 1) := dk_28 (dk_at dksX4_guard_1 4 rfl rfl)
theorem dX4_guard_28 : decode cX4_guard 28 = .ok (.sipush 239, 3) := dk_17 0 239 (dk_at dksX4_guard_1 5 rfl rfl)
theorem dX4_guard_31 : decode cX4_guard 31 = .ok (.invokestatic 54, 3) := dk_184 0 54 (dk_at dksX4_guard_1 8 rfl rfl)
theorem dX4_guard_34 : decode cX4_guard 34 = .ok (.ifCond .eq 14, 3) := dk_153 0 14 (dk_at dksX4_guard_1 11 rfl rfl)
theorem dX4_guard_37 : decode cX4_guard 37 = .ok (.iload 4, 2) := dk_21 4 (dk_at dksX4_guard_1 14 rfl rfl)
theorem dX4_guard_39 : decode cX4_guard 39 = .ok (.iconst 1, 1) := dk_4 (dk_at dksX4_guard_1 16 rfl rfl)
theorem dX4_guard_40 : decode cX4_guard 40 = .ok (.bipush 20, 2) := dk_16 20 (dk_at dksX4_guard_1 17 rfl rfl)
theorem dX4_guard_42 : decode cX4_guard 42 = .ok (.invokestatic 54, 3) := dk_184 0 54 (dk_at dksX4_guard_1 19 rfl rfl)
theorem dX4_guard_45 : decode cX4_guard 45 = .ok (.ifCond .ne 9, 3) := dk_154 0 9 (dk_at dksX4_guard_2 0 rfl rfl)
theorem dX4_guard_48 : decode cX4_guard 48 = .ok (.aload_n 0, 1) := dk_42 (dk_at dksX4_guard_2 3 rfl rfl)
theorem dX4_guard_49 : decode cX4_guard 49 = .ok (.iconst 2, 1) := dk_5 (dk_at dksX4_guard_2 4 rfl rfl)
theorem dX4_guard_50 : decode cX4_guard 50 = .ok (.invokevirtual 140, 3) := dk_182 0 140 (dk_at dksX4_guard_2 5 rfl rfl)
theorem dX4_guard_53 : decode cX4_guard 53 = .ok (.ireturn, 1) := dk_172 (dk_at dksX4_guard_2 8 rfl rfl)
theorem dX4_guard_54 : decode cX4_guard 54 = .ok (.aload_n 0, 1) := dk_42 (dk_at dksX4_guard_2 9 rfl rfl)
theorem dX4_guard_55 : decode cX4_guard 55 = .ok (.getfield 27, 3) := dk_180 0 27 (dk_at dksX4_guard_2 10 rfl rfl)
theorem dX4_guard_58 : decode cX4_guard 58 = .ok (.invokeinterface 58 1, 5) := by decide +kernel
theorem dX4_guard_63 : decode cX4_guard 63 = .ok (.bipush 6, 2) := dk_16 6 (dk_at dksX4_guard_2 18 rfl rfl)
theorem dX4_guard_65 : decode cX4_guard 65 = .ok (.if_icmp .eq 13, 3) := dk_159 0 13 (dk_at dksX4_guard_2 20 rfl rfl)
theorem dX4_guard_68 : decode cX4_guard 68 = .ok (.aload_n 0, 1) := dk_42 (dk_at dksX4_guard_2 23 rfl rfl)
theorem dX4_guard_69 : decode cX4_guard 69 = .ok (.getfield 7, 3) := dk_180 0 7 (dk_at dksX4_guard_3 0 rfl rfl)
theorem dX4_guard_72 : decode cX4_guard 72 = .ok (.iload_n 1, 1) := dk_27 (dk_at dksX4_guard_3 3 rfl rfl)
theorem dX4_guard_73 : decode cX4_guard 73 = .ok (.iaload, 1) := dk_46 (dk_at dksX4_guard_3 4 rfl rfl)
theorem dX4_guard_74 : decode cX4_guard 74 = .ok (.iconst 1, 1) := dk_4 (dk_at dksX4_guard_3 5 rfl rfl)
theorem dX4_guard_75 : decode cX4_guard 75 = .ok (.if_icmp .ne 9, 3) := dk_160 0 9 (dk_at dksX4_guard_3 6 rfl rfl)
theorem dX4_guard_78 : decode cX4_guard 78 = .ok (.aload_n 0, 1) := dk_42 (dk_at dksX4_guard_3 9 rfl rfl)
theorem dX4_guard_79 : decode cX4_guard 79 = .ok (.iconst 3, 1) := dk_6 (dk_at dksX4_guard_3 10 rfl rfl)
theorem dX4_guard_80 : decode cX4_guard 80 = .ok (.invokevirtual 140, 3) := dk_182 0 140 (dk_at dksX4_guard_3 11 rfl rfl)
theorem dX4_guard_83 : decode cX4_guard 83 = .ok (.ireturn, 1) := dk_172 (dk_at dksX4_guard_3 14 rfl rfl)
theorem dX4_guard_84 : decode cX4_guard 84 = .ok (.aload_n 0, 1) := dk_42 (dk_at dksX4_guard_3 15 rfl rfl)
theorem dX4_guard_85 : decode cX4_guard 85 = .ok (.getfield 27, 3) := dk_180 0 27 (dk_at dksX4_guard_3 16 rfl rfl)
theorem dX4_guard_88 : decode cX4_guard 88 = .ok (.new 84, 3) := dk_187 0 84 (dk_at dksX4_guard_3 19 rfl rfl)
theorem dX4_guard_91 : decode cX4_guard 91 = .ok (.dup, 1) := dk_89 (dk_at dksX4_guard_3 22 rfl rfl)
theorem dX4_guard_92 : decode cX4_guard 92 = .ok (.iload_n 1, 1) := dk_27 (dk_at dksX4_guard_3 23 rfl rfl)
theorem dX4_guard_93 : decode cX4_guard 93 = .ok (.iload_n 2, 1) := dk_28 (dk_at dksX4_guard_4 0 rfl rfl)
theorem dX4_guard_94 : decode cX4_guard 94 = .ok (.iload_n 3, 1) := dk_29 (dk_at dksX4_guard_4 1 rfl rfl)
theorem dX4_guard_95 : decode cX4_guard 95 = .ok (.iload 4, 2) := dk_21 4 (dk_at dksX4_guard_4 2 rfl rfl)
theorem dX4_guard_97 : decode cX4_guard 97 = .ok (.invokespecial 173, 3) := dk_183 0 173 (dk_at dksX4_guard_4 4 rfl rfl)
theorem dX4_guard_100 : decode cX4_guard 100 = .ok (.invokeinterface 166 2, 5) := by decide +kernel
theorem dX4_guard_105 : decode cX4_guard 105 = .ok (.pop, 1) := dk_87 (dk_at dksX4_guard_4 12 rfl rfl)
theorem dX4_guard_106 : decode cX4_guard 106 = .ok (.aload_n 0, 1) := dk_42 (dk_at dksX4_guard_4 13 rfl rfl)
theorem dX4_guard_107 : decode cX4_guard 107 = .ok (.getfield 27, 3) := dk_180 0 27 (dk_at dksX4_guard_4 14 rfl rfl)
theorem dX4_guard_110 : decode cX4_guard 110 = .ok (.invokeinterface 58 1, 5) := by decide +kernel
theorem dX4_guard_115 : decode cX4_guard 115 = .ok (.iconst 1, 1) := dk_4 (dk_at dksX4_guard_4 22 rfl rfl)
theorem dX4_guard_116 : decode cX4_guard 116 = .ok (.isub, 1) := dk_100 (dk_at dksX4_guard_4 23 rfl rfl)
theorem dX4_guard_117 : decode cX4_guard 117 = .ok (.ireturn, 1) := dk_172 (dk_at dksX4_guard_5 0 rfl rfl)
abbrev cX4_round : ByteArray := prog_17_method_29_code
def yX4_round : MethodName := ⟨RX4, "round", "(II)I"⟩
def dkwX4_round_4 : List UInt8 := [185, 0, 58, 1, 0, 172]
abbrev dktX4_round_4 : List UInt8 := dkwX4_round_4 ++ []
def dkwX4_round_3 : List UInt8 := [182, 0, 140, 172, 45, 180, 0, 149, 28, 184, 0, 179, 185, 0, 166, 2, 0, 87, 45, 180, 0, 149]
abbrev dktX4_round_3 : List UInt8 := dkwX4_round_3 ++ dktX4_round_4
def dkwX4_round_2 : List UInt8 := [185, 0, 58, 1, 0, 16, 6, 159, 0, 13, 42, 180, 0, 7, 28, 46, 4, 160, 0, 9, 42, 5]
abbrev dktX4_round_2 : List UInt8 := dkwX4_round_2 ++ dktX4_round_3
def dkwX4_round_1 : List UInt8 := [182, 0, 140, 172, 42, 180, 0, 27, 27, 185, 0, 80, 2, 0, 192, 0, 84, 78, 45, 180, 0, 149]
abbrev dktX4_round_1 : List UInt8 := dkwX4_round_1 ++ dktX4_round_2
def dkwX4_round_0 : List UInt8 := [42, 3, 181, 0, 51, 42, 27, 182, 0, 176, 153, 0, 11, 42, 28, 182, 0, 157, 154, 0, 9, 42, 4]
abbrev dktX4_round_0 : List UInt8 := dkwX4_round_0 ++ dktX4_round_1
theorem dksX4_round_0 : cX4_round.data.toList.drop 0 = dktX4_round_0 := by decide +kernel
theorem dksX4_round_1 : cX4_round.data.toList.drop 23 = dktX4_round_1 := dk_seg dksX4_round_0 23 rfl rfl
theorem dksX4_round_2 : cX4_round.data.toList.drop 45 = dktX4_round_2 := dk_seg dksX4_round_1 22 rfl rfl
theorem dksX4_round_3 : cX4_round.data.toList.drop 67 = dktX4_round_3 := dk_seg dksX4_round_2 22 rfl rfl
theorem dksX4_round_4 : cX4_round.data.toList.drop 89 = dktX4_round_4 := dk_seg dksX4_round_3 22 rfl rfl
theorem dX4_round_0 : decode cX4_round 0 = .ok (.aload_n 0, 1) := dk_42 (dk_at dksX4_round_0 0 rfl rfl)
theorem dX4_round_1 : decode cX4_round 1 = .ok (.iconst 0, 1) := dk_3 (dk_at dksX4_round_0 1 rfl rfl)
theorem dX4_round_2 : decode cX4_round 2 = .ok (.putfield 51, 3) := dk_181 0 51 (dk_at dksX4_round_0 2 rfl rfl)
theorem dX4_round_5 : decode cX4_round 5 = .ok (.aload_n 0, 1) := dk_42 (dk_at dksX4_round_0 5 rfl rfl)
theorem dX4_round_6 : decode cX4_round 6 = .ok (.iload_n 1, 1) := dk_27 (dk_at dksX4_round_0 6 rfl rfl)
theorem dX4_round_7 : decode cX4_round 7 = .ok (.invokevirtual 176, 3) := dk_182 0 176 (dk_at dksX4_round_0 7 rfl rfl)
theorem dX4_round_10 : decode cX4_round 10 = .ok (.ifCond .eq 11, 3) := dk_153 0 11 (dk_at dksX4_round_0 10 rfl rfl)
theorem dX4_round_13 : decode cX4_round 13 = .ok (.aload_n 0, 1) := dk_42 (dk_at dksX4_round_0 13 rfl rfl)
theorem dX4_round_14 : decode cX4_round 14 = .ok (.iload_n 2, 1) := dk_28 (dk_at dksX4_round_0 14 rfl rfl)
theorem dX4_round_15 : decode cX4_round 15 = .ok (.invokevirtual 157, 3) := dk_182 0 157 (dk_at dksX4_round_0 15 rfl rfl)
theorem dX4_round_18 : decode cX4_round 18 = .ok (.ifCond .ne 9, 3) := dk_154 0 9 (dk_at dksX4_round_0 18 rfl rfl)
theorem dX4_round_21 : decode cX4_round 21 = .ok (.aload_n 0, 1) := dk_42 (dk_at dksX4_round_0 21 rfl rfl)
theorem dX4_round_22 : decode cX4_round 22 = .ok (.iconst 1, 1) := dk_4 (dk_at dksX4_round_0 22 rfl rfl)
theorem dX4_round_23 : decode cX4_round 23 = .ok (.invokevirtual 140, 3) := dk_182 0 140 (dk_at dksX4_round_1 0 rfl rfl)
theorem dX4_round_26 : decode cX4_round 26 = .ok (.ireturn, 1) := dk_172 (dk_at dksX4_round_1 3 rfl rfl)
theorem dX4_round_27 : decode cX4_round 27 = .ok (.aload_n 0, 1) := dk_42 (dk_at dksX4_round_1 4 rfl rfl)
theorem dX4_round_28 : decode cX4_round 28 = .ok (.getfield 27, 3) := dk_180 0 27 (dk_at dksX4_round_1 5 rfl rfl)
theorem dX4_round_31 : decode cX4_round 31 = .ok (.iload_n 1, 1) := dk_27 (dk_at dksX4_round_1 8 rfl rfl)
theorem dX4_round_32 : decode cX4_round 32 = .ok (.invokeinterface 80 2, 5) := by decide +kernel
theorem dX4_round_37 : decode cX4_round 37 = .ok (.checkcast 84, 3) := dk_192 0 84 (dk_at dksX4_round_1 14 rfl rfl)
theorem dX4_round_40 : decode cX4_round 40 = .ok (.astore_n 3, 1) := dk_78 (dk_at dksX4_round_1 17 rfl rfl)
theorem dX4_round_41 : decode cX4_round 41 = .ok (.aload_n 3, 1) := dk_45 (dk_at dksX4_round_1 18 rfl rfl)
theorem dX4_round_42 : decode cX4_round 42 = .ok (.getfield 149, 3) := dk_180 0 149 (dk_at dksX4_round_1 19 rfl rfl)
theorem dX4_round_45 : decode cX4_round 45 = .ok (.invokeinterface 58 1, 5) := by decide +kernel
theorem dX4_round_50 : decode cX4_round 50 = .ok (.bipush 6, 2) := dk_16 6 (dk_at dksX4_round_2 5 rfl rfl)
theorem dX4_round_52 : decode cX4_round 52 = .ok (.if_icmp .eq 13, 3) := dk_159 0 13 (dk_at dksX4_round_2 7 rfl rfl)
theorem dX4_round_55 : decode cX4_round 55 = .ok (.aload_n 0, 1) := dk_42 (dk_at dksX4_round_2 10 rfl rfl)
theorem dX4_round_56 : decode cX4_round 56 = .ok (.getfield 7, 3) := dk_180 0 7 (dk_at dksX4_round_2 11 rfl rfl)
theorem dX4_round_59 : decode cX4_round 59 = .ok (.iload_n 2, 1) := dk_28 (dk_at dksX4_round_2 14 rfl rfl)
theorem dX4_round_60 : decode cX4_round 60 = .ok (.iaload, 1) := dk_46 (dk_at dksX4_round_2 15 rfl rfl)
theorem dX4_round_61 : decode cX4_round 61 = .ok (.iconst 1, 1) := dk_4 (dk_at dksX4_round_2 16 rfl rfl)
theorem dX4_round_62 : decode cX4_round 62 = .ok (.if_icmp .ne 9, 3) := dk_160 0 9 (dk_at dksX4_round_2 17 rfl rfl)
theorem dX4_round_65 : decode cX4_round 65 = .ok (.aload_n 0, 1) := dk_42 (dk_at dksX4_round_2 20 rfl rfl)
theorem dX4_round_66 : decode cX4_round 66 = .ok (.iconst 2, 1) := dk_5 (dk_at dksX4_round_2 21 rfl rfl)
theorem dX4_round_67 : decode cX4_round 67 = .ok (.invokevirtual 140, 3) := dk_182 0 140 (dk_at dksX4_round_3 0 rfl rfl)
theorem dX4_round_70 : decode cX4_round 70 = .ok (.ireturn, 1) := dk_172 (dk_at dksX4_round_3 3 rfl rfl)
theorem dX4_round_71 : decode cX4_round 71 = .ok (.aload_n 3, 1) := dk_45 (dk_at dksX4_round_3 4 rfl rfl)
theorem dX4_round_72 : decode cX4_round 72 = .ok (.getfield 149, 3) := dk_180 0 149 (dk_at dksX4_round_3 5 rfl rfl)
theorem dX4_round_75 : decode cX4_round 75 = .ok (.iload_n 2, 1) := dk_28 (dk_at dksX4_round_3 8 rfl rfl)
theorem dX4_round_76 : decode cX4_round 76 = .ok (.invokestatic 179, 3) := dk_184 0 179 (dk_at dksX4_round_3 9 rfl rfl)
theorem dX4_round_79 : decode cX4_round 79 = .ok (.invokeinterface 166 2, 5) := by decide +kernel
theorem dX4_round_84 : decode cX4_round 84 = .ok (.pop, 1) := dk_87 (dk_at dksX4_round_3 17 rfl rfl)
theorem dX4_round_85 : decode cX4_round 85 = .ok (.aload_n 3, 1) := dk_45 (dk_at dksX4_round_3 18 rfl rfl)
theorem dX4_round_86 : decode cX4_round 86 = .ok (.getfield 149, 3) := dk_180 0 149 (dk_at dksX4_round_3 19 rfl rfl)
theorem dX4_round_89 : decode cX4_round 89 = .ok (.invokeinterface 58 1, 5) := by decide +kernel
theorem dX4_round_94 : decode cX4_round 94 = .ok (.ireturn, 1) := dk_172 (dk_at dksX4_round_4 5 rfl rfl)
abbrev cX4_isGuard : ByteArray := prog_17_method_7_code
def yX4_isGuard : MethodName := ⟨RX4, "isGuard", "(I)Z"⟩
def dkwX4_isGuard_0 : List UInt8 := [27, 3, 42, 180, 0, 27, 185, 0, 58, 1, 0, 4, 100, 184, 0, 54, 172]
abbrev dktX4_isGuard_0 : List UInt8 := dkwX4_isGuard_0 ++ []
theorem dksX4_isGuard_0 : cX4_isGuard.data.toList.drop 0 = dktX4_isGuard_0 := by decide +kernel
theorem dX4_isGuard_0 : decode cX4_isGuard 0 = .ok (.iload_n 1, 1) := dk_27 (dk_at dksX4_isGuard_0 0 rfl rfl)
theorem dX4_isGuard_1 : decode cX4_isGuard 1 = .ok (.iconst 0, 1) := dk_3 (dk_at dksX4_isGuard_0 1 rfl rfl)
theorem dX4_isGuard_2 : decode cX4_isGuard 2 = .ok (.aload_n 0, 1) := dk_42 (dk_at dksX4_isGuard_0 2 rfl rfl)
theorem dX4_isGuard_3 : decode cX4_isGuard 3 = .ok (.getfield 27, 3) := dk_180 0 27 (dk_at dksX4_isGuard_0 3 rfl rfl)
theorem dX4_isGuard_6 : decode cX4_isGuard 6 = .ok (.invokeinterface 58 1, 5) := by decide +kernel
theorem dX4_isGuard_11 : decode cX4_isGuard 11 = .ok (.iconst 1, 1) := dk_4 (dk_at dksX4_isGuard_0 11 rfl rfl)
theorem dX4_isGuard_12 : decode cX4_isGuard 12 = .ok (.isub, 1) := dk_100 (dk_at dksX4_isGuard_0 12 rfl rfl)
theorem dX4_isGuard_13 : decode cX4_isGuard 13 = .ok (.invokestatic 54, 3) := dk_184 0 54 (dk_at dksX4_isGuard_0 13 rfl rfl)
theorem dX4_isGuard_16 : decode cX4_isGuard 16 = .ok (.ireturn, 1) := dk_172 (dk_at dksX4_isGuard_0 16 rfl rfl)
abbrev cX4_post : ByteArray := prog_17_method_30_code
def yX4_post : MethodName := ⟨RX4, "post", "(I)I"⟩
def dkwX4_post_3 : List UInt8 := [4, 100, 172]
abbrev dktX4_post_3 : List UInt8 := dkwX4_post_3 ++ []
def dkwX4_post_2 : List UInt8 := [172, 42, 180, 0, 30, 27, 184, 0, 179, 185, 0, 166, 2, 0, 87, 42, 180, 0, 30, 185, 0, 58, 1, 0]
abbrev dktX4_post_2 : List UInt8 := dkwX4_post_2 ++ dktX4_post_3
def dkwX4_post_1 : List UInt8 := [185, 0, 58, 1, 0, 7, 159, 0, 13, 42, 180, 0, 7, 27, 46, 4, 160, 0, 9, 42, 5, 182, 0, 140]
abbrev dktX4_post_1 : List UInt8 := dkwX4_post_1 ++ dktX4_post_2
def dkwX4_post_0 : List UInt8 := [42, 3, 181, 0, 51, 42, 27, 182, 0, 157, 154, 0, 9, 42, 4, 182, 0, 140, 172, 42, 180, 0, 30]
abbrev dktX4_post_0 : List UInt8 := dkwX4_post_0 ++ dktX4_post_1
theorem dksX4_post_0 : cX4_post.data.toList.drop 0 = dktX4_post_0 := by decide +kernel
theorem dksX4_post_1 : cX4_post.data.toList.drop 23 = dktX4_post_1 := dk_seg dksX4_post_0 23 rfl rfl
theorem dksX4_post_2 : cX4_post.data.toList.drop 47 = dktX4_post_2 := dk_seg dksX4_post_1 24 rfl rfl
theorem dksX4_post_3 : cX4_post.data.toList.drop 71 = dktX4_post_3 := dk_seg dksX4_post_2 24 rfl rfl
theorem dX4_post_0 : decode cX4_post 0 = .ok (.aload_n 0, 1) := dk_42 (dk_at dksX4_post_0 0 rfl rfl)
theorem dX4_post_1 : decode cX4_post 1 = .ok (.iconst 0, 1) := dk_3 (dk_at dksX4_post_0 1 rfl rfl)
theorem dX4_post_2 : decode cX4_post 2 = .ok (.putfield 51, 3) := dk_181 0 51 (dk_at dksX4_post_0 2 rfl rfl)
theorem dX4_post_5 : decode cX4_post 5 = .ok (.aload_n 0, 1) := dk_42 (dk_at dksX4_post_0 5 rfl rfl)
theorem dX4_post_6 : decode cX4_post 6 = .ok (.iload_n 1, 1) := dk_27 (dk_at dksX4_post_0 6 rfl rfl)
theorem dX4_post_7 : decode cX4_post 7 = .ok (.invokevirtual 157, 3) := dk_182 0 157 (dk_at dksX4_post_0 7 rfl rfl)
theorem dX4_post_10 : decode cX4_post 10 = .ok (.ifCond .ne 9, 3) := dk_154 0 9 (dk_at dksX4_post_0 10 rfl rfl)
theorem dX4_post_13 : decode cX4_post 13 = .ok (.aload_n 0, 1) := dk_42 (dk_at dksX4_post_0 13 rfl rfl)
theorem dX4_post_14 : decode cX4_post 14 = .ok (.iconst 1, 1) := dk_4 (dk_at dksX4_post_0 14 rfl rfl)
theorem dX4_post_15 : decode cX4_post 15 = .ok (.invokevirtual 140, 3) := dk_182 0 140 (dk_at dksX4_post_0 15 rfl rfl)
theorem dX4_post_18 : decode cX4_post 18 = .ok (.ireturn, 1) := dk_172 (dk_at dksX4_post_0 18 rfl rfl)
theorem dX4_post_19 : decode cX4_post 19 = .ok (.aload_n 0, 1) := dk_42 (dk_at dksX4_post_0 19 rfl rfl)
theorem dX4_post_20 : decode cX4_post 20 = .ok (.getfield 30, 3) := dk_180 0 30 (dk_at dksX4_post_0 20 rfl rfl)
theorem dX4_post_23 : decode cX4_post 23 = .ok (.invokeinterface 58 1, 5) := by decide +kernel
theorem dX4_post_28 : decode cX4_post 28 = .ok (.iconst 4, 1) := dk_7 (dk_at dksX4_post_1 5 rfl rfl)
theorem dX4_post_29 : decode cX4_post 29 = .ok (.if_icmp .eq 13, 3) := dk_159 0 13 (dk_at dksX4_post_1 6 rfl rfl)
theorem dX4_post_32 : decode cX4_post 32 = .ok (.aload_n 0, 1) := dk_42 (dk_at dksX4_post_1 9 rfl rfl)
theorem dX4_post_33 : decode cX4_post 33 = .ok (.getfield 7, 3) := dk_180 0 7 (dk_at dksX4_post_1 10 rfl rfl)
theorem dX4_post_36 : decode cX4_post 36 = .ok (.iload_n 1, 1) := dk_27 (dk_at dksX4_post_1 13 rfl rfl)
theorem dX4_post_37 : decode cX4_post 37 = .ok (.iaload, 1) := dk_46 (dk_at dksX4_post_1 14 rfl rfl)
theorem dX4_post_38 : decode cX4_post 38 = .ok (.iconst 1, 1) := dk_4 (dk_at dksX4_post_1 15 rfl rfl)
theorem dX4_post_39 : decode cX4_post 39 = .ok (.if_icmp .ne 9, 3) := dk_160 0 9 (dk_at dksX4_post_1 16 rfl rfl)
theorem dX4_post_42 : decode cX4_post 42 = .ok (.aload_n 0, 1) := dk_42 (dk_at dksX4_post_1 19 rfl rfl)
theorem dX4_post_43 : decode cX4_post 43 = .ok (.iconst 2, 1) := dk_5 (dk_at dksX4_post_1 20 rfl rfl)
theorem dX4_post_44 : decode cX4_post 44 = .ok (.invokevirtual 140, 3) := dk_182 0 140 (dk_at dksX4_post_1 21 rfl rfl)
theorem dX4_post_47 : decode cX4_post 47 = .ok (.ireturn, 1) := dk_172 (dk_at dksX4_post_2 0 rfl rfl)
theorem dX4_post_48 : decode cX4_post 48 = .ok (.aload_n 0, 1) := dk_42 (dk_at dksX4_post_2 1 rfl rfl)
theorem dX4_post_49 : decode cX4_post 49 = .ok (.getfield 30, 3) := dk_180 0 30 (dk_at dksX4_post_2 2 rfl rfl)
theorem dX4_post_52 : decode cX4_post 52 = .ok (.iload_n 1, 1) := dk_27 (dk_at dksX4_post_2 5 rfl rfl)
theorem dX4_post_53 : decode cX4_post 53 = .ok (.invokestatic 179, 3) := dk_184 0 179 (dk_at dksX4_post_2 6 rfl rfl)
theorem dX4_post_56 : decode cX4_post 56 = .ok (.invokeinterface 166 2, 5) := by decide +kernel
theorem dX4_post_61 : decode cX4_post 61 = .ok (.pop, 1) := dk_87 (dk_at dksX4_post_2 14 rfl rfl)
theorem dX4_post_62 : decode cX4_post 62 = .ok (.aload_n 0, 1) := dk_42 (dk_at dksX4_post_2 15 rfl rfl)
theorem dX4_post_63 : decode cX4_post 63 = .ok (.getfield 30, 3) := dk_180 0 30 (dk_at dksX4_post_2 16 rfl rfl)
theorem dX4_post_66 : decode cX4_post 66 = .ok (.invokeinterface 58 1, 5) := by decide +kernel
theorem dX4_post_71 : decode cX4_post 71 = .ok (.iconst 1, 1) := dk_4 (dk_at dksX4_post_3 0 rfl rfl)
theorem dX4_post_72 : decode cX4_post 72 = .ok (.isub, 1) := dk_100 (dk_at dksX4_post_3 1 rfl rfl)
theorem dX4_post_73 : decode cX4_post 73 = .ok (.ireturn, 1) := dk_172 (dk_at dksX4_post_3 2 rfl rfl)
abbrev cX4_place : ByteArray := prog_17_method_31_code
def yX4_place : MethodName := ⟨RX4, "place", "(II)I"⟩
def dkwX4_place_2 : List UInt8 := [182, 0, 124, 172]
abbrev dktX4_place_2 : List UInt8 := dkwX4_place_2 ++ []
def dkwX4_place_1 : List UInt8 := [154, 0, 9, 42, 5, 182, 0, 140, 172, 42, 180, 0, 27, 27, 185, 0, 80, 2, 0, 192, 0, 84, 28]
abbrev dktX4_place_1 : List UInt8 := dkwX4_place_1 ++ dktX4_place_2
def dkwX4_place_0 : List UInt8 := [42, 3, 181, 0, 51, 42, 27, 182, 0, 176, 154, 0, 9, 42, 4, 182, 0, 140, 172, 28, 184, 0, 163]
abbrev dktX4_place_0 : List UInt8 := dkwX4_place_0 ++ dktX4_place_1
theorem dksX4_place_0 : cX4_place.data.toList.drop 0 = dktX4_place_0 := by decide +kernel
theorem dksX4_place_1 : cX4_place.data.toList.drop 23 = dktX4_place_1 := dk_seg dksX4_place_0 23 rfl rfl
theorem dksX4_place_2 : cX4_place.data.toList.drop 46 = dktX4_place_2 := dk_seg dksX4_place_1 23 rfl rfl
theorem dX4_place_0 : decode cX4_place 0 = .ok (.aload_n 0, 1) := dk_42 (dk_at dksX4_place_0 0 rfl rfl)
theorem dX4_place_1 : decode cX4_place 1 = .ok (.iconst 0, 1) := dk_3 (dk_at dksX4_place_0 1 rfl rfl)
theorem dX4_place_2 : decode cX4_place 2 = .ok (.putfield 51, 3) := dk_181 0 51 (dk_at dksX4_place_0 2 rfl rfl)
theorem dX4_place_5 : decode cX4_place 5 = .ok (.aload_n 0, 1) := dk_42 (dk_at dksX4_place_0 5 rfl rfl)
theorem dX4_place_6 : decode cX4_place 6 = .ok (.iload_n 1, 1) := dk_27 (dk_at dksX4_place_0 6 rfl rfl)
theorem dX4_place_7 : decode cX4_place 7 = .ok (.invokevirtual 176, 3) := dk_182 0 176 (dk_at dksX4_place_0 7 rfl rfl)
theorem dX4_place_10 : decode cX4_place 10 = .ok (.ifCond .ne 9, 3) := dk_154 0 9 (dk_at dksX4_place_0 10 rfl rfl)
theorem dX4_place_13 : decode cX4_place 13 = .ok (.aload_n 0, 1) := dk_42 (dk_at dksX4_place_0 13 rfl rfl)
theorem dX4_place_14 : decode cX4_place 14 = .ok (.iconst 1, 1) := dk_4 (dk_at dksX4_place_0 14 rfl rfl)
theorem dX4_place_15 : decode cX4_place 15 = .ok (.invokevirtual 140, 3) := dk_182 0 140 (dk_at dksX4_place_0 15 rfl rfl)
theorem dX4_place_18 : decode cX4_place 18 = .ok (.ireturn, 1) := dk_172 (dk_at dksX4_place_0 18 rfl rfl)
theorem dX4_place_19 : decode cX4_place 19 = .ok (.iload_n 2, 1) := dk_28 (dk_at dksX4_place_0 19 rfl rfl)
theorem dX4_place_20 : decode cX4_place 20 = .ok (.invokestatic 163, 3) := dk_184 0 163 (dk_at dksX4_place_0 20 rfl rfl)
theorem dX4_place_23 : decode cX4_place 23 = .ok (.ifCond .ne 9, 3) := dk_154 0 9 (dk_at dksX4_place_1 0 rfl rfl)
theorem dX4_place_26 : decode cX4_place 26 = .ok (.aload_n 0, 1) := dk_42 (dk_at dksX4_place_1 3 rfl rfl)
theorem dX4_place_27 : decode cX4_place 27 = .ok (.iconst 2, 1) := dk_5 (dk_at dksX4_place_1 4 rfl rfl)
theorem dX4_place_28 : decode cX4_place 28 = .ok (.invokevirtual 140, 3) := dk_182 0 140 (dk_at dksX4_place_1 5 rfl rfl)
theorem dX4_place_31 : decode cX4_place 31 = .ok (.ireturn, 1) := dk_172 (dk_at dksX4_place_1 8 rfl rfl)
theorem dX4_place_32 : decode cX4_place 32 = .ok (.aload_n 0, 1) := dk_42 (dk_at dksX4_place_1 9 rfl rfl)
theorem dX4_place_33 : decode cX4_place 33 = .ok (.getfield 27, 3) := dk_180 0 27 (dk_at dksX4_place_1 10 rfl rfl)
theorem dX4_place_36 : decode cX4_place 36 = .ok (.iload_n 1, 1) := dk_27 (dk_at dksX4_place_1 13 rfl rfl)
theorem dX4_place_37 : decode cX4_place 37 = .ok (.invokeinterface 80 2, 5) := by decide +kernel
theorem dX4_place_42 : decode cX4_place 42 = .ok (.checkcast 84, 3) := dk_192 0 84 (dk_at dksX4_place_1 19 rfl rfl)
theorem dX4_place_45 : decode cX4_place 45 = .ok (.iload_n 2, 1) := dk_28 (dk_at dksX4_place_1 22 rfl rfl)
theorem dX4_place_46 : decode cX4_place 46 = .ok (.invokevirtual 124, 3) := dk_182 0 124 (dk_at dksX4_place_2 0 rfl rfl)
theorem dX4_place_49 : decode cX4_place 49 = .ok (.ireturn, 1) := dk_172 (dk_at dksX4_place_2 3 rfl rfl)
abbrev cX4_sees : ByteArray := prog_17_method_32_code
def yX4_sees : MethodName := ⟨RX4, "sees", "(III)Z"⟩
def dkwX4_sees_4 : List UInt8 := [3, 172]
abbrev dktX4_sees_4 : List UInt8 := dkwX4_sees_4 ++ []
def dkwX4_sees_3 : List UInt8 := [182, 0, 183, 167, 0, 22, 42, 28, 29, 182, 0, 186, 27, 122, 4, 126, 4, 160, 0, 7, 4, 167, 0, 4]
abbrev dktX4_sees_3 : List UInt8 := dkwX4_sees_3 ++ dktX4_sees_4
def dkwX4_sees_2 : List UInt8 := [42, 5, 182, 0, 140, 158, 0, 7, 4, 167, 0, 4, 3, 172, 27, 2, 160, 0, 12, 42, 28, 29]
abbrev dktX4_sees_2 : List UInt8 := dkwX4_sees_2 ++ dktX4_sees_3
def dkwX4_sees_1 : List UInt8 := [154, 0, 17, 42, 4, 182, 0, 140, 158, 0, 7, 4, 167, 0, 4, 3, 172, 29, 184, 0, 163, 154, 0, 17]
abbrev dktX4_sees_1 : List UInt8 := dkwX4_sees_1 ++ dktX4_sees_2
def dkwX4_sees_0 : List UInt8 := [42, 3, 181, 0, 51, 27, 2, 159, 0, 11, 42, 27, 182, 0, 176, 153, 0, 11, 42, 28, 182, 0, 157]
abbrev dktX4_sees_0 : List UInt8 := dkwX4_sees_0 ++ dktX4_sees_1
theorem dksX4_sees_0 : cX4_sees.data.toList.drop 0 = dktX4_sees_0 := by decide +kernel
theorem dksX4_sees_1 : cX4_sees.data.toList.drop 23 = dktX4_sees_1 := dk_seg dksX4_sees_0 23 rfl rfl
theorem dksX4_sees_2 : cX4_sees.data.toList.drop 47 = dktX4_sees_2 := dk_seg dksX4_sees_1 24 rfl rfl
theorem dksX4_sees_3 : cX4_sees.data.toList.drop 69 = dktX4_sees_3 := dk_seg dksX4_sees_2 22 rfl rfl
theorem dksX4_sees_4 : cX4_sees.data.toList.drop 93 = dktX4_sees_4 := dk_seg dksX4_sees_3 24 rfl rfl
theorem dX4_sees_0 : decode cX4_sees 0 = .ok (.aload_n 0, 1) := dk_42 (dk_at dksX4_sees_0 0 rfl rfl)
theorem dX4_sees_1 : decode cX4_sees 1 = .ok (.iconst 0, 1) := dk_3 (dk_at dksX4_sees_0 1 rfl rfl)
theorem dX4_sees_2 : decode cX4_sees 2 = .ok (.putfield 51, 3) := dk_181 0 51 (dk_at dksX4_sees_0 2 rfl rfl)
theorem dX4_sees_5 : decode cX4_sees 5 = .ok (.iload_n 1, 1) := dk_27 (dk_at dksX4_sees_0 5 rfl rfl)
theorem dX4_sees_6 : decode cX4_sees 6 = .ok (.iconst (-1), 1) := dk_2 (dk_at dksX4_sees_0 6 rfl rfl)
theorem dX4_sees_7 : decode cX4_sees 7 = .ok (.if_icmp .eq 11, 3) := dk_159 0 11 (dk_at dksX4_sees_0 7 rfl rfl)
theorem dX4_sees_10 : decode cX4_sees 10 = .ok (.aload_n 0, 1) := dk_42 (dk_at dksX4_sees_0 10 rfl rfl)
theorem dX4_sees_11 : decode cX4_sees 11 = .ok (.iload_n 1, 1) := dk_27 (dk_at dksX4_sees_0 11 rfl rfl)
theorem dX4_sees_12 : decode cX4_sees 12 = .ok (.invokevirtual 176, 3) := dk_182 0 176 (dk_at dksX4_sees_0 12 rfl rfl)
theorem dX4_sees_15 : decode cX4_sees 15 = .ok (.ifCond .eq 11, 3) := dk_153 0 11 (dk_at dksX4_sees_0 15 rfl rfl)
theorem dX4_sees_18 : decode cX4_sees 18 = .ok (.aload_n 0, 1) := dk_42 (dk_at dksX4_sees_0 18 rfl rfl)
theorem dX4_sees_19 : decode cX4_sees 19 = .ok (.iload_n 2, 1) := dk_28 (dk_at dksX4_sees_0 19 rfl rfl)
theorem dX4_sees_20 : decode cX4_sees 20 = .ok (.invokevirtual 157, 3) := dk_182 0 157 (dk_at dksX4_sees_0 20 rfl rfl)
theorem dX4_sees_23 : decode cX4_sees 23 = .ok (.ifCond .ne 17, 3) := dk_154 0 17 (dk_at dksX4_sees_1 0 rfl rfl)
theorem dX4_sees_26 : decode cX4_sees 26 = .ok (.aload_n 0, 1) := dk_42 (dk_at dksX4_sees_1 3 rfl rfl)
theorem dX4_sees_27 : decode cX4_sees 27 = .ok (.iconst 1, 1) := dk_4 (dk_at dksX4_sees_1 4 rfl rfl)
theorem dX4_sees_28 : decode cX4_sees 28 = .ok (.invokevirtual 140, 3) := dk_182 0 140 (dk_at dksX4_sees_1 5 rfl rfl)
theorem dX4_sees_31 : decode cX4_sees 31 = .ok (.ifCond .le 7, 3) := dk_158 0 7 (dk_at dksX4_sees_1 8 rfl rfl)
theorem dX4_sees_34 : decode cX4_sees 34 = .ok (.iconst 1, 1) := dk_4 (dk_at dksX4_sees_1 11 rfl rfl)
theorem dX4_sees_35 : decode cX4_sees 35 = .ok (.goto 4, 3) := dk_167 0 4 (dk_at dksX4_sees_1 12 rfl rfl)
theorem dX4_sees_38 : decode cX4_sees 38 = .ok (.iconst 0, 1) := dk_3 (dk_at dksX4_sees_1 15 rfl rfl)
theorem dX4_sees_39 : decode cX4_sees 39 = .ok (.ireturn, 1) := dk_172 (dk_at dksX4_sees_1 16 rfl rfl)
theorem dX4_sees_40 : decode cX4_sees 40 = .ok (.iload_n 3, 1) := dk_29 (dk_at dksX4_sees_1 17 rfl rfl)
theorem dX4_sees_41 : decode cX4_sees 41 = .ok (.invokestatic 163, 3) := dk_184 0 163 (dk_at dksX4_sees_1 18 rfl rfl)
theorem dX4_sees_44 : decode cX4_sees 44 = .ok (.ifCond .ne 17, 3) := dk_154 0 17 (dk_at dksX4_sees_1 21 rfl rfl)
theorem dX4_sees_47 : decode cX4_sees 47 = .ok (.aload_n 0, 1) := dk_42 (dk_at dksX4_sees_2 0 rfl rfl)
theorem dX4_sees_48 : decode cX4_sees 48 = .ok (.iconst 2, 1) := dk_5 (dk_at dksX4_sees_2 1 rfl rfl)
theorem dX4_sees_49 : decode cX4_sees 49 = .ok (.invokevirtual 140, 3) := dk_182 0 140 (dk_at dksX4_sees_2 2 rfl rfl)
theorem dX4_sees_52 : decode cX4_sees 52 = .ok (.ifCond .le 7, 3) := dk_158 0 7 (dk_at dksX4_sees_2 5 rfl rfl)
theorem dX4_sees_55 : decode cX4_sees 55 = .ok (.iconst 1, 1) := dk_4 (dk_at dksX4_sees_2 8 rfl rfl)
theorem dX4_sees_56 : decode cX4_sees 56 = .ok (.goto 4, 3) := dk_167 0 4 (dk_at dksX4_sees_2 9 rfl rfl)
theorem dX4_sees_59 : decode cX4_sees 59 = .ok (.iconst 0, 1) := dk_3 (dk_at dksX4_sees_2 12 rfl rfl)
theorem dX4_sees_60 : decode cX4_sees 60 = .ok (.ireturn, 1) := dk_172 (dk_at dksX4_sees_2 13 rfl rfl)
theorem dX4_sees_61 : decode cX4_sees 61 = .ok (.iload_n 1, 1) := dk_27 (dk_at dksX4_sees_2 14 rfl rfl)
theorem dX4_sees_62 : decode cX4_sees 62 = .ok (.iconst (-1), 1) := dk_2 (dk_at dksX4_sees_2 15 rfl rfl)
theorem dX4_sees_63 : decode cX4_sees 63 = .ok (.if_icmp .ne 12, 3) := dk_160 0 12 (dk_at dksX4_sees_2 16 rfl rfl)
theorem dX4_sees_66 : decode cX4_sees 66 = .ok (.aload_n 0, 1) := dk_42 (dk_at dksX4_sees_2 19 rfl rfl)
theorem dX4_sees_67 : decode cX4_sees 67 = .ok (.iload_n 2, 1) := dk_28 (dk_at dksX4_sees_2 20 rfl rfl)
theorem dX4_sees_68 : decode cX4_sees 68 = .ok (.iload_n 3, 1) := dk_29 (dk_at dksX4_sees_2 21 rfl rfl)
theorem dX4_sees_69 : decode cX4_sees 69 = .ok (.invokevirtual 183, 3) := dk_182 0 183 (dk_at dksX4_sees_3 0 rfl rfl)
theorem dX4_sees_72 : decode cX4_sees 72 = .ok (.goto 22, 3) := dk_167 0 22 (dk_at dksX4_sees_3 3 rfl rfl)
theorem dX4_sees_75 : decode cX4_sees 75 = .ok (.aload_n 0, 1) := dk_42 (dk_at dksX4_sees_3 6 rfl rfl)
theorem dX4_sees_76 : decode cX4_sees 76 = .ok (.iload_n 2, 1) := dk_28 (dk_at dksX4_sees_3 7 rfl rfl)
theorem dX4_sees_77 : decode cX4_sees 77 = .ok (.iload_n 3, 1) := dk_29 (dk_at dksX4_sees_3 8 rfl rfl)
theorem dX4_sees_78 : decode cX4_sees 78 = .ok (.invokevirtual 186, 3) := dk_182 0 186 (dk_at dksX4_sees_3 9 rfl rfl)
theorem dX4_sees_81 : decode cX4_sees 81 = .ok (.iload_n 1, 1) := dk_27 (dk_at dksX4_sees_3 12 rfl rfl)
theorem dX4_sees_82 : decode cX4_sees 82 = .ok (.ishr, 1) := dk_122 (dk_at dksX4_sees_3 13 rfl rfl)
theorem dX4_sees_83 : decode cX4_sees 83 = .ok (.iconst 1, 1) := dk_4 (dk_at dksX4_sees_3 14 rfl rfl)
theorem dX4_sees_84 : decode cX4_sees 84 = .ok (.iand, 1) := dk_126 (dk_at dksX4_sees_3 15 rfl rfl)
theorem dX4_sees_85 : decode cX4_sees 85 = .ok (.iconst 1, 1) := dk_4 (dk_at dksX4_sees_3 16 rfl rfl)
theorem dX4_sees_86 : decode cX4_sees 86 = .ok (.if_icmp .ne 7, 3) := dk_160 0 7 (dk_at dksX4_sees_3 17 rfl rfl)
theorem dX4_sees_89 : decode cX4_sees 89 = .ok (.iconst 1, 1) := dk_4 (dk_at dksX4_sees_3 20 rfl rfl)
theorem dX4_sees_90 : decode cX4_sees 90 = .ok (.goto 4, 3) := dk_167 0 4 (dk_at dksX4_sees_3 21 rfl rfl)
theorem dX4_sees_93 : decode cX4_sees 93 = .ok (.iconst 0, 1) := dk_3 (dk_at dksX4_sees_4 0 rfl rfl)
theorem dX4_sees_94 : decode cX4_sees 94 = .ok (.ireturn, 1) := dk_172 (dk_at dksX4_sees_4 1 rfl rfl)
abbrev cX4_isWatched : ByteArray := prog_17_method_18_code
def yX4_isWatched : MethodName := ⟨RX4, "isWatched", "(II)Z"⟩
def dkwX4_isWatched_2 : List UInt8 := [28, 29, 21, 4, 182, 0, 133, 153, 0, 5, 4, 172, 132, 5, 1, 167, 255, 211, 3, 172]
abbrev dktX4_isWatched_2 : List UInt8 := dkwX4_isWatched_2 ++ []
def dkwX4_isWatched_1 : List UInt8 := [185, 0, 58, 1, 0, 162, 0, 37, 42, 42, 180, 0, 27, 21, 5, 185, 0, 80, 2, 0, 192, 0, 84, 27]
abbrev dktX4_isWatched_1 : List UInt8 := dkwX4_isWatched_1 ++ dktX4_isWatched_2
def dkwX4_isWatched_0 : List UInt8 := [42, 27, 182, 0, 120, 62, 42, 28, 182, 0, 130, 54, 4, 3, 54, 5, 21, 5, 42, 180, 0, 27]
abbrev dktX4_isWatched_0 : List UInt8 := dkwX4_isWatched_0 ++ dktX4_isWatched_1
theorem dksX4_isWatched_0 : cX4_isWatched.data.toList.drop 0 = dktX4_isWatched_0 := by decide +kernel
theorem dksX4_isWatched_1 : cX4_isWatched.data.toList.drop 22 = dktX4_isWatched_1 := dk_seg dksX4_isWatched_0 22 rfl rfl
theorem dksX4_isWatched_2 : cX4_isWatched.data.toList.drop 46 = dktX4_isWatched_2 := dk_seg dksX4_isWatched_1 24 rfl rfl
theorem dX4_isWatched_0 : decode cX4_isWatched 0 = .ok (.aload_n 0, 1) := dk_42 (dk_at dksX4_isWatched_0 0 rfl rfl)
theorem dX4_isWatched_1 : decode cX4_isWatched 1 = .ok (.iload_n 1, 1) := dk_27 (dk_at dksX4_isWatched_0 1 rfl rfl)
theorem dX4_isWatched_2 : decode cX4_isWatched 2 = .ok (.invokevirtual 120, 3) := dk_182 0 120 (dk_at dksX4_isWatched_0 2 rfl rfl)
theorem dX4_isWatched_5 : decode cX4_isWatched 5 = .ok (.istore_n 3, 1) := dk_62 (dk_at dksX4_isWatched_0 5 rfl rfl)
theorem dX4_isWatched_6 : decode cX4_isWatched 6 = .ok (.aload_n 0, 1) := dk_42 (dk_at dksX4_isWatched_0 6 rfl rfl)
theorem dX4_isWatched_7 : decode cX4_isWatched 7 = .ok (.iload_n 2, 1) := dk_28 (dk_at dksX4_isWatched_0 7 rfl rfl)
theorem dX4_isWatched_8 : decode cX4_isWatched 8 = .ok (.invokevirtual 130, 3) := dk_182 0 130 (dk_at dksX4_isWatched_0 8 rfl rfl)
theorem dX4_isWatched_11 : decode cX4_isWatched 11 = .ok (.istore 4, 2) := dk_54 4 (dk_at dksX4_isWatched_0 11 rfl rfl)
theorem dX4_isWatched_13 : decode cX4_isWatched 13 = .ok (.iconst 0, 1) := dk_3 (dk_at dksX4_isWatched_0 13 rfl rfl)
theorem dX4_isWatched_14 : decode cX4_isWatched 14 = .ok (.istore 5, 2) := dk_54 5 (dk_at dksX4_isWatched_0 14 rfl rfl)
theorem dX4_isWatched_16 : decode cX4_isWatched 16 = .ok (.iload 5, 2) := dk_21 5 (dk_at dksX4_isWatched_0 16 rfl rfl)
theorem dX4_isWatched_18 : decode cX4_isWatched 18 = .ok (.aload_n 0, 1) := dk_42 (dk_at dksX4_isWatched_0 18 rfl rfl)
theorem dX4_isWatched_19 : decode cX4_isWatched 19 = .ok (.getfield 27, 3) := dk_180 0 27 (dk_at dksX4_isWatched_0 19 rfl rfl)
theorem dX4_isWatched_22 : decode cX4_isWatched 22 = .ok (.invokeinterface 58 1, 5) := by decide +kernel
theorem dX4_isWatched_27 : decode cX4_isWatched 27 = .ok (.if_icmp .ge 37, 3) := dk_162 0 37 (dk_at dksX4_isWatched_1 5 rfl rfl)
theorem dX4_isWatched_30 : decode cX4_isWatched 30 = .ok (.aload_n 0, 1) := dk_42 (dk_at dksX4_isWatched_1 8 rfl rfl)
theorem dX4_isWatched_31 : decode cX4_isWatched 31 = .ok (.aload_n 0, 1) := dk_42 (dk_at dksX4_isWatched_1 9 rfl rfl)
theorem dX4_isWatched_32 : decode cX4_isWatched 32 = .ok (.getfield 27, 3) := dk_180 0 27 (dk_at dksX4_isWatched_1 10 rfl rfl)
theorem dX4_isWatched_35 : decode cX4_isWatched 35 = .ok (.iload 5, 2) := dk_21 5 (dk_at dksX4_isWatched_1 13 rfl rfl)
theorem dX4_isWatched_37 : decode cX4_isWatched 37 = .ok (.invokeinterface 80 2, 5) := by decide +kernel
theorem dX4_isWatched_42 : decode cX4_isWatched 42 = .ok (.checkcast 84, 3) := dk_192 0 84 (dk_at dksX4_isWatched_1 20 rfl rfl)
theorem dX4_isWatched_45 : decode cX4_isWatched 45 = .ok (.iload_n 1, 1) := dk_27 (dk_at dksX4_isWatched_1 23 rfl rfl)
theorem dX4_isWatched_46 : decode cX4_isWatched 46 = .ok (.iload_n 2, 1) := dk_28 (dk_at dksX4_isWatched_2 0 rfl rfl)
theorem dX4_isWatched_47 : decode cX4_isWatched 47 = .ok (.iload_n 3, 1) := dk_29 (dk_at dksX4_isWatched_2 1 rfl rfl)
theorem dX4_isWatched_48 : decode cX4_isWatched 48 = .ok (.iload 4, 2) := dk_21 4 (dk_at dksX4_isWatched_2 2 rfl rfl)
theorem dX4_isWatched_50 : decode cX4_isWatched 50 = .ok (.invokevirtual 133, 3) := dk_182 0 133 (dk_at dksX4_isWatched_2 4 rfl rfl)
theorem dX4_isWatched_53 : decode cX4_isWatched 53 = .ok (.ifCond .eq 5, 3) := dk_153 0 5 (dk_at dksX4_isWatched_2 7 rfl rfl)
theorem dX4_isWatched_56 : decode cX4_isWatched 56 = .ok (.iconst 1, 1) := dk_4 (dk_at dksX4_isWatched_2 10 rfl rfl)
theorem dX4_isWatched_57 : decode cX4_isWatched 57 = .ok (.ireturn, 1) := dk_172 (dk_at dksX4_isWatched_2 11 rfl rfl)
theorem dX4_isWatched_58 : decode cX4_isWatched 58 = .ok (.iinc 5 1, 3) := dk_132 5 1 (dk_at dksX4_isWatched_2 12 rfl rfl)
theorem dX4_isWatched_61 : decode cX4_isWatched 61 = .ok (.goto (-45), 3) := dk_167 255 211 (dk_at dksX4_isWatched_2 15 rfl rfl)
theorem dX4_isWatched_64 : decode cX4_isWatched 64 = .ok (.iconst 0, 1) := dk_3 (dk_at dksX4_isWatched_2 18 rfl rfl)
theorem dX4_isWatched_65 : decode cX4_isWatched 65 = .ok (.ireturn, 1) := dk_172 (dk_at dksX4_isWatched_2 19 rfl rfl)
abbrev cX4_fogAt : ByteArray := prog_17_method_16_code
def yX4_fogAt : MethodName := ⟨RX4, "fogAt", "(I)I"⟩
def dkwX4_fogAt_4 : List UInt8 := [192, 0, 116, 4, 46, 62, 132, 4, 1, 167, 255, 162, 29, 172]
abbrev dktX4_fogAt_4 : List UInt8 := dkwX4_fogAt_4 ++ []
def dkwX4_fogAt_3 : List UInt8 := [21, 4, 185, 0, 80, 2, 0, 192, 0, 116, 3, 46, 61, 42, 180, 0, 24, 21, 4, 185, 0, 80, 2, 0]
abbrev dktX4_fogAt_3 : List UInt8 := dkwX4_fogAt_3 ++ dktX4_fogAt_4
def dkwX4_fogAt_2 : List UInt8 := [21, 4, 185, 0, 80, 2, 0, 192, 0, 116, 3, 46, 28, 162, 0, 6, 167, 0, 37, 42, 180, 0, 24]
abbrev dktX4_fogAt_2 : List UInt8 := dkwX4_fogAt_2 ++ dktX4_fogAt_3
def dkwX4_fogAt_1 : List UInt8 := [180, 0, 24, 21, 4, 185, 0, 80, 2, 0, 192, 0, 116, 3, 46, 27, 163, 0, 60, 42, 180, 0, 24]
abbrev dktX4_fogAt_1 : List UInt8 := dkwX4_fogAt_1 ++ dktX4_fogAt_2
def dkwX4_fogAt_0 : List UInt8 := [2, 61, 3, 62, 3, 54, 4, 21, 4, 42, 180, 0, 24, 185, 0, 58, 1, 0, 162, 0, 86, 42]
abbrev dktX4_fogAt_0 : List UInt8 := dkwX4_fogAt_0 ++ dktX4_fogAt_1
theorem dksX4_fogAt_0 : cX4_fogAt.data.toList.drop 0 = dktX4_fogAt_0 := by decide +kernel
theorem dksX4_fogAt_1 : cX4_fogAt.data.toList.drop 22 = dktX4_fogAt_1 := dk_seg dksX4_fogAt_0 22 rfl rfl
theorem dksX4_fogAt_2 : cX4_fogAt.data.toList.drop 45 = dktX4_fogAt_2 := dk_seg dksX4_fogAt_1 23 rfl rfl
theorem dksX4_fogAt_3 : cX4_fogAt.data.toList.drop 68 = dktX4_fogAt_3 := dk_seg dksX4_fogAt_2 23 rfl rfl
theorem dksX4_fogAt_4 : cX4_fogAt.data.toList.drop 92 = dktX4_fogAt_4 := dk_seg dksX4_fogAt_3 24 rfl rfl
theorem dX4_fogAt_0 : decode cX4_fogAt 0 = .ok (.iconst (-1), 1) := dk_2 (dk_at dksX4_fogAt_0 0 rfl rfl)
theorem dX4_fogAt_1 : decode cX4_fogAt 1 = .ok (.istore_n 2, 1) := dk_61 (dk_at dksX4_fogAt_0 1 rfl rfl)
theorem dX4_fogAt_2 : decode cX4_fogAt 2 = .ok (.iconst 0, 1) := dk_3 (dk_at dksX4_fogAt_0 2 rfl rfl)
theorem dX4_fogAt_3 : decode cX4_fogAt 3 = .ok (.istore_n 3, 1) := dk_62 (dk_at dksX4_fogAt_0 3 rfl rfl)
theorem dX4_fogAt_4 : decode cX4_fogAt 4 = .ok (.iconst 0, 1) := dk_3 (dk_at dksX4_fogAt_0 4 rfl rfl)
theorem dX4_fogAt_5 : decode cX4_fogAt 5 = .ok (.istore 4, 2) := dk_54 4 (dk_at dksX4_fogAt_0 5 rfl rfl)
theorem dX4_fogAt_7 : decode cX4_fogAt 7 = .ok (.iload 4, 2) := dk_21 4 (dk_at dksX4_fogAt_0 7 rfl rfl)
theorem dX4_fogAt_9 : decode cX4_fogAt 9 = .ok (.aload_n 0, 1) := dk_42 (dk_at dksX4_fogAt_0 9 rfl rfl)
theorem dX4_fogAt_10 : decode cX4_fogAt 10 = .ok (.getfield 24, 3) := dk_180 0 24 (dk_at dksX4_fogAt_0 10 rfl rfl)
theorem dX4_fogAt_13 : decode cX4_fogAt 13 = .ok (.invokeinterface 58 1, 5) := by decide +kernel
theorem dX4_fogAt_18 : decode cX4_fogAt 18 = .ok (.if_icmp .ge 86, 3) := dk_162 0 86 (dk_at dksX4_fogAt_0 18 rfl rfl)
theorem dX4_fogAt_21 : decode cX4_fogAt 21 = .ok (.aload_n 0, 1) := dk_42 (dk_at dksX4_fogAt_0 21 rfl rfl)
theorem dX4_fogAt_22 : decode cX4_fogAt 22 = .ok (.getfield 24, 3) := dk_180 0 24 (dk_at dksX4_fogAt_1 0 rfl rfl)
theorem dX4_fogAt_25 : decode cX4_fogAt 25 = .ok (.iload 4, 2) := dk_21 4 (dk_at dksX4_fogAt_1 3 rfl rfl)
theorem dX4_fogAt_27 : decode cX4_fogAt 27 = .ok (.invokeinterface 80 2, 5) := by decide +kernel
theorem dX4_fogAt_32 : decode cX4_fogAt 32 = .ok (.checkcast 116, 3) := dk_192 0 116 (dk_at dksX4_fogAt_1 10 rfl rfl)
theorem dX4_fogAt_35 : decode cX4_fogAt 35 = .ok (.iconst 0, 1) := dk_3 (dk_at dksX4_fogAt_1 13 rfl rfl)
theorem dX4_fogAt_36 : decode cX4_fogAt 36 = .ok (.iaload, 1) := dk_46 (dk_at dksX4_fogAt_1 14 rfl rfl)
theorem dX4_fogAt_37 : decode cX4_fogAt 37 = .ok (.iload_n 1, 1) := dk_27 (dk_at dksX4_fogAt_1 15 rfl rfl)
theorem dX4_fogAt_38 : decode cX4_fogAt 38 = .ok (.if_icmp .gt 60, 3) := dk_163 0 60 (dk_at dksX4_fogAt_1 16 rfl rfl)
theorem dX4_fogAt_41 : decode cX4_fogAt 41 = .ok (.aload_n 0, 1) := dk_42 (dk_at dksX4_fogAt_1 19 rfl rfl)
theorem dX4_fogAt_42 : decode cX4_fogAt 42 = .ok (.getfield 24, 3) := dk_180 0 24 (dk_at dksX4_fogAt_1 20 rfl rfl)
theorem dX4_fogAt_45 : decode cX4_fogAt 45 = .ok (.iload 4, 2) := dk_21 4 (dk_at dksX4_fogAt_2 0 rfl rfl)
theorem dX4_fogAt_47 : decode cX4_fogAt 47 = .ok (.invokeinterface 80 2, 5) := by decide +kernel
theorem dX4_fogAt_52 : decode cX4_fogAt 52 = .ok (.checkcast 116, 3) := dk_192 0 116 (dk_at dksX4_fogAt_2 7 rfl rfl)
theorem dX4_fogAt_55 : decode cX4_fogAt 55 = .ok (.iconst 0, 1) := dk_3 (dk_at dksX4_fogAt_2 10 rfl rfl)
theorem dX4_fogAt_56 : decode cX4_fogAt 56 = .ok (.iaload, 1) := dk_46 (dk_at dksX4_fogAt_2 11 rfl rfl)
theorem dX4_fogAt_57 : decode cX4_fogAt 57 = .ok (.iload_n 2, 1) := dk_28 (dk_at dksX4_fogAt_2 12 rfl rfl)
theorem dX4_fogAt_58 : decode cX4_fogAt 58 = .ok (.if_icmp .ge 6, 3) := dk_162 0 6 (dk_at dksX4_fogAt_2 13 rfl rfl)
theorem dX4_fogAt_61 : decode cX4_fogAt 61 = .ok (.goto 37, 3) := dk_167 0 37 (dk_at dksX4_fogAt_2 16 rfl rfl)
theorem dX4_fogAt_64 : decode cX4_fogAt 64 = .ok (.aload_n 0, 1) := dk_42 (dk_at dksX4_fogAt_2 19 rfl rfl)
theorem dX4_fogAt_65 : decode cX4_fogAt 65 = .ok (.getfield 24, 3) := dk_180 0 24 (dk_at dksX4_fogAt_2 20 rfl rfl)
theorem dX4_fogAt_68 : decode cX4_fogAt 68 = .ok (.iload 4, 2) := dk_21 4 (dk_at dksX4_fogAt_3 0 rfl rfl)
theorem dX4_fogAt_70 : decode cX4_fogAt 70 = .ok (.invokeinterface 80 2, 5) := by decide +kernel
theorem dX4_fogAt_75 : decode cX4_fogAt 75 = .ok (.checkcast 116, 3) := dk_192 0 116 (dk_at dksX4_fogAt_3 7 rfl rfl)
theorem dX4_fogAt_78 : decode cX4_fogAt 78 = .ok (.iconst 0, 1) := dk_3 (dk_at dksX4_fogAt_3 10 rfl rfl)
theorem dX4_fogAt_79 : decode cX4_fogAt 79 = .ok (.iaload, 1) := dk_46 (dk_at dksX4_fogAt_3 11 rfl rfl)
theorem dX4_fogAt_80 : decode cX4_fogAt 80 = .ok (.istore_n 2, 1) := dk_61 (dk_at dksX4_fogAt_3 12 rfl rfl)
theorem dX4_fogAt_81 : decode cX4_fogAt 81 = .ok (.aload_n 0, 1) := dk_42 (dk_at dksX4_fogAt_3 13 rfl rfl)
theorem dX4_fogAt_82 : decode cX4_fogAt 82 = .ok (.getfield 24, 3) := dk_180 0 24 (dk_at dksX4_fogAt_3 14 rfl rfl)
theorem dX4_fogAt_85 : decode cX4_fogAt 85 = .ok (.iload 4, 2) := dk_21 4 (dk_at dksX4_fogAt_3 17 rfl rfl)
theorem dX4_fogAt_87 : decode cX4_fogAt 87 = .ok (.invokeinterface 80 2, 5) := by decide +kernel
theorem dX4_fogAt_92 : decode cX4_fogAt 92 = .ok (.checkcast 116, 3) := dk_192 0 116 (dk_at dksX4_fogAt_4 0 rfl rfl)
theorem dX4_fogAt_95 : decode cX4_fogAt 95 = .ok (.iconst 1, 1) := dk_4 (dk_at dksX4_fogAt_4 3 rfl rfl)
theorem dX4_fogAt_96 : decode cX4_fogAt 96 = .ok (.iaload, 1) := dk_46 (dk_at dksX4_fogAt_4 4 rfl rfl)
theorem dX4_fogAt_97 : decode cX4_fogAt 97 = .ok (.istore_n 3, 1) := dk_62 (dk_at dksX4_fogAt_4 5 rfl rfl)
theorem dX4_fogAt_98 : decode cX4_fogAt 98 = .ok (.iinc 4 1, 3) := dk_132 4 1 (dk_at dksX4_fogAt_4 6 rfl rfl)
theorem dX4_fogAt_101 : decode cX4_fogAt 101 = .ok (.goto (-94), 3) := dk_167 255 162 (dk_at dksX4_fogAt_4 9 rfl rfl)
theorem dX4_fogAt_104 : decode cX4_fogAt 104 = .ok (.iload_n 3, 1) := dk_29 (dk_at dksX4_fogAt_4 12 rfl rfl)
theorem dX4_fogAt_105 : decode cX4_fogAt 105 = .ok (.ireturn, 1) := dk_172 (dk_at dksX4_fogAt_4 13 rfl rfl)
abbrev cX4_sees_2 : ByteArray := prog_17_method_17_code
def yX4_sees_2 : MethodName := ⟨RX4, "sees", "(LNightwatchWallModel$Guard;IIZI)Z"⟩
def dkwX4_sees_2_3 : List UInt8 := [182, 0, 112, 153, 0, 7, 4, 167, 0, 4, 3, 172]
abbrev dktX4_sees_2_3 : List UInt8 := dkwX4_sees_2_3 ++ []
def dkwX4_sees_2_2 : List UInt8 := [54, 7, 21, 6, 28, 159, 0, 25, 42, 21, 6, 28, 182, 0, 104, 21, 7, 163, 0, 17, 42, 21, 6, 28]
abbrev dktX4_sees_2_2 : List UInt8 := dkwX4_sees_2_2 ++ dktX4_sees_2_3
def dkwX4_sees_2_1 : List UInt8 := [100, 167, 0, 9, 5, 21, 5, 5, 108, 100, 43, 29, 182, 0, 127, 153, 0, 7, 4, 167, 0, 4, 3, 100]
abbrev dktX4_sees_2_1 : List UInt8 := dkwX4_sees_2_1 ++ dktX4_sees_2_2
def dkwX4_sees_2_0 : List UInt8 := [43, 29, 182, 0, 124, 54, 6, 21, 6, 2, 160, 0, 5, 3, 172, 21, 4, 153, 0, 11, 16, 7, 21, 5]
abbrev dktX4_sees_2_0 : List UInt8 := dkwX4_sees_2_0 ++ dktX4_sees_2_1
theorem dksX4_sees_2_0 : cX4_sees_2.data.toList.drop 0 = dktX4_sees_2_0 := by decide +kernel
theorem dksX4_sees_2_1 : cX4_sees_2.data.toList.drop 24 = dktX4_sees_2_1 := dk_seg dksX4_sees_2_0 24 rfl rfl
theorem dksX4_sees_2_2 : cX4_sees_2.data.toList.drop 48 = dktX4_sees_2_2 := dk_seg dksX4_sees_2_1 24 rfl rfl
theorem dksX4_sees_2_3 : cX4_sees_2.data.toList.drop 72 = dktX4_sees_2_3 := dk_seg dksX4_sees_2_2 24 rfl rfl
theorem dX4_sees_2_0 : decode cX4_sees_2 0 = .ok (.aload_n 1, 1) := dk_43 (dk_at dksX4_sees_2_0 0 rfl rfl)
theorem dX4_sees_2_1 : decode cX4_sees_2 1 = .ok (.iload_n 3, 1) := dk_29 (dk_at dksX4_sees_2_0 1 rfl rfl)
theorem dX4_sees_2_2 : decode cX4_sees_2 2 = .ok (.invokevirtual 124, 3) := dk_182 0 124 (dk_at dksX4_sees_2_0 2 rfl rfl)
theorem dX4_sees_2_5 : decode cX4_sees_2 5 = .ok (.istore 6, 2) := dk_54 6 (dk_at dksX4_sees_2_0 5 rfl rfl)
theorem dX4_sees_2_7 : decode cX4_sees_2 7 = .ok (.iload 6, 2) := dk_21 6 (dk_at dksX4_sees_2_0 7 rfl rfl)
theorem dX4_sees_2_9 : decode cX4_sees_2 9 = .ok (.iconst (-1), 1) := dk_2 (dk_at dksX4_sees_2_0 9 rfl rfl)
theorem dX4_sees_2_10 : decode cX4_sees_2 10 = .ok (.if_icmp .ne 5, 3) := dk_160 0 5 (dk_at dksX4_sees_2_0 10 rfl rfl)
theorem dX4_sees_2_13 : decode cX4_sees_2 13 = .ok (.iconst 0, 1) := dk_3 (dk_at dksX4_sees_2_0 13 rfl rfl)
theorem dX4_sees_2_14 : decode cX4_sees_2 14 = .ok (.ireturn, 1) := dk_172 (dk_at dksX4_sees_2_0 14 rfl rfl)
theorem dX4_sees_2_15 : decode cX4_sees_2 15 = .ok (.iload 4, 2) := dk_21 4 (dk_at dksX4_sees_2_0 15 rfl rfl)
theorem dX4_sees_2_17 : decode cX4_sees_2 17 = .ok (.ifCond .eq 11, 3) := dk_153 0 11 (dk_at dksX4_sees_2_0 17 rfl rfl)
theorem dX4_sees_2_20 : decode cX4_sees_2 20 = .ok (.bipush 7, 2) := dk_16 7 (dk_at dksX4_sees_2_0 20 rfl rfl)
theorem dX4_sees_2_22 : decode cX4_sees_2 22 = .ok (.iload 5, 2) := dk_21 5 (dk_at dksX4_sees_2_0 22 rfl rfl)
theorem dX4_sees_2_24 : decode cX4_sees_2 24 = .ok (.isub, 1) := dk_100 (dk_at dksX4_sees_2_1 0 rfl rfl)
theorem dX4_sees_2_25 : decode cX4_sees_2 25 = .ok (.goto 9, 3) := dk_167 0 9 (dk_at dksX4_sees_2_1 1 rfl rfl)
theorem dX4_sees_2_28 : decode cX4_sees_2 28 = .ok (.iconst 2, 1) := dk_5 (dk_at dksX4_sees_2_1 4 rfl rfl)
theorem dX4_sees_2_29 : decode cX4_sees_2 29 = .ok (.iload 5, 2) := dk_21 5 (dk_at dksX4_sees_2_1 5 rfl rfl)
theorem dX4_sees_2_31 : decode cX4_sees_2 31 = .ok (.iconst 2, 1) := dk_5 (dk_at dksX4_sees_2_1 7 rfl rfl)
theorem dX4_sees_2_32 : decode cX4_sees_2 32 = .ok (.idiv, 1) := dk_108 (dk_at dksX4_sees_2_1 8 rfl rfl)
theorem dX4_sees_2_33 : decode cX4_sees_2 33 = .ok (.isub, 1) := dk_100 (dk_at dksX4_sees_2_1 9 rfl rfl)
theorem dX4_sees_2_34 : decode cX4_sees_2 34 = .ok (.aload_n 1, 1) := dk_43 (dk_at dksX4_sees_2_1 10 rfl rfl)
theorem dX4_sees_2_35 : decode cX4_sees_2 35 = .ok (.iload_n 3, 1) := dk_29 (dk_at dksX4_sees_2_1 11 rfl rfl)
theorem dX4_sees_2_36 : decode cX4_sees_2 36 = .ok (.invokevirtual 127, 3) := dk_182 0 127 (dk_at dksX4_sees_2_1 12 rfl rfl)
theorem dX4_sees_2_39 : decode cX4_sees_2 39 = .ok (.ifCond .eq 7, 3) := dk_153 0 7 (dk_at dksX4_sees_2_1 15 rfl rfl)
theorem dX4_sees_2_42 : decode cX4_sees_2 42 = .ok (.iconst 1, 1) := dk_4 (dk_at dksX4_sees_2_1 18 rfl rfl)
theorem dX4_sees_2_43 : decode cX4_sees_2 43 = .ok (.goto 4, 3) := dk_167 0 4 (dk_at dksX4_sees_2_1 19 rfl rfl)
theorem dX4_sees_2_46 : decode cX4_sees_2 46 = .ok (.iconst 0, 1) := dk_3 (dk_at dksX4_sees_2_1 22 rfl rfl)
theorem dX4_sees_2_47 : decode cX4_sees_2 47 = .ok (.isub, 1) := dk_100 (dk_at dksX4_sees_2_1 23 rfl rfl)
theorem dX4_sees_2_48 : decode cX4_sees_2 48 = .ok (.istore 7, 2) := dk_54 7 (dk_at dksX4_sees_2_2 0 rfl rfl)
theorem dX4_sees_2_50 : decode cX4_sees_2 50 = .ok (.iload 6, 2) := dk_21 6 (dk_at dksX4_sees_2_2 2 rfl rfl)
theorem dX4_sees_2_52 : decode cX4_sees_2 52 = .ok (.iload_n 2, 1) := dk_28 (dk_at dksX4_sees_2_2 4 rfl rfl)
theorem dX4_sees_2_53 : decode cX4_sees_2 53 = .ok (.if_icmp .eq 25, 3) := dk_159 0 25 (dk_at dksX4_sees_2_2 5 rfl rfl)
theorem dX4_sees_2_56 : decode cX4_sees_2 56 = .ok (.aload_n 0, 1) := dk_42 (dk_at dksX4_sees_2_2 8 rfl rfl)
theorem dX4_sees_2_57 : decode cX4_sees_2 57 = .ok (.iload 6, 2) := dk_21 6 (dk_at dksX4_sees_2_2 9 rfl rfl)
theorem dX4_sees_2_59 : decode cX4_sees_2 59 = .ok (.iload_n 2, 1) := dk_28 (dk_at dksX4_sees_2_2 11 rfl rfl)
theorem dX4_sees_2_60 : decode cX4_sees_2 60 = .ok (.invokevirtual 104, 3) := dk_182 0 104 (dk_at dksX4_sees_2_2 12 rfl rfl)
theorem dX4_sees_2_63 : decode cX4_sees_2 63 = .ok (.iload 7, 2) := dk_21 7 (dk_at dksX4_sees_2_2 15 rfl rfl)
theorem dX4_sees_2_65 : decode cX4_sees_2 65 = .ok (.if_icmp .gt 17, 3) := dk_163 0 17 (dk_at dksX4_sees_2_2 17 rfl rfl)
theorem dX4_sees_2_68 : decode cX4_sees_2 68 = .ok (.aload_n 0, 1) := dk_42 (dk_at dksX4_sees_2_2 20 rfl rfl)
theorem dX4_sees_2_69 : decode cX4_sees_2 69 = .ok (.iload 6, 2) := dk_21 6 (dk_at dksX4_sees_2_2 21 rfl rfl)
theorem dX4_sees_2_71 : decode cX4_sees_2 71 = .ok (.iload_n 2, 1) := dk_28 (dk_at dksX4_sees_2_2 23 rfl rfl)
theorem dX4_sees_2_72 : decode cX4_sees_2 72 = .ok (.invokevirtual 112, 3) := dk_182 0 112 (dk_at dksX4_sees_2_3 0 rfl rfl)
theorem dX4_sees_2_75 : decode cX4_sees_2 75 = .ok (.ifCond .eq 7, 3) := dk_153 0 7 (dk_at dksX4_sees_2_3 3 rfl rfl)
theorem dX4_sees_2_78 : decode cX4_sees_2 78 = .ok (.iconst 1, 1) := dk_4 (dk_at dksX4_sees_2_3 6 rfl rfl)
theorem dX4_sees_2_79 : decode cX4_sees_2 79 = .ok (.goto 4, 3) := dk_167 0 4 (dk_at dksX4_sees_2_3 7 rfl rfl)
theorem dX4_sees_2_82 : decode cX4_sees_2 82 = .ok (.iconst 0, 1) := dk_3 (dk_at dksX4_sees_2_3 10 rfl rfl)
theorem dX4_sees_2_83 : decode cX4_sees_2 83 = .ok (.ireturn, 1) := dk_172 (dk_at dksX4_sees_2_3 11 rfl rfl)
abbrev cX4_seers : ByteArray := prog_17_method_19_code
def yX4_seers : MethodName := ⟨RX4, "seers", "(II)I"⟩
def dkwX4_seers_3 : List UInt8 := [167, 0, 4, 3, 128, 54, 5, 132, 6, 1, 167, 255, 200, 21, 5, 172]
abbrev dktX4_seers_3 : List UInt8 := dkwX4_seers_3 ++ []
def dkwX4_seers_2 : List UInt8 := [185, 0, 80, 2, 0, 192, 0, 84, 27, 28, 29, 21, 4, 182, 0, 133, 153, 0, 10, 4, 21, 6, 120]
abbrev dktX4_seers_2 : List UInt8 := dkwX4_seers_2 ++ dktX4_seers_3
def dkwX4_seers_1 : List UInt8 := [180, 0, 27, 185, 0, 58, 1, 0, 162, 0, 48, 21, 5, 42, 42, 180, 0, 27, 21, 6]
abbrev dktX4_seers_1 : List UInt8 := dkwX4_seers_1 ++ dktX4_seers_2
def dkwX4_seers_0 : List UInt8 := [42, 27, 182, 0, 120, 62, 42, 28, 182, 0, 130, 54, 4, 3, 54, 5, 3, 54, 6, 21, 6, 42]
abbrev dktX4_seers_0 : List UInt8 := dkwX4_seers_0 ++ dktX4_seers_1
theorem dksX4_seers_0 : cX4_seers.data.toList.drop 0 = dktX4_seers_0 := by decide +kernel
theorem dksX4_seers_1 : cX4_seers.data.toList.drop 22 = dktX4_seers_1 := dk_seg dksX4_seers_0 22 rfl rfl
theorem dksX4_seers_2 : cX4_seers.data.toList.drop 42 = dktX4_seers_2 := dk_seg dksX4_seers_1 20 rfl rfl
theorem dksX4_seers_3 : cX4_seers.data.toList.drop 65 = dktX4_seers_3 := dk_seg dksX4_seers_2 23 rfl rfl
theorem dX4_seers_0 : decode cX4_seers 0 = .ok (.aload_n 0, 1) := dk_42 (dk_at dksX4_seers_0 0 rfl rfl)
theorem dX4_seers_1 : decode cX4_seers 1 = .ok (.iload_n 1, 1) := dk_27 (dk_at dksX4_seers_0 1 rfl rfl)
theorem dX4_seers_2 : decode cX4_seers 2 = .ok (.invokevirtual 120, 3) := dk_182 0 120 (dk_at dksX4_seers_0 2 rfl rfl)
theorem dX4_seers_5 : decode cX4_seers 5 = .ok (.istore_n 3, 1) := dk_62 (dk_at dksX4_seers_0 5 rfl rfl)
theorem dX4_seers_6 : decode cX4_seers 6 = .ok (.aload_n 0, 1) := dk_42 (dk_at dksX4_seers_0 6 rfl rfl)
theorem dX4_seers_7 : decode cX4_seers 7 = .ok (.iload_n 2, 1) := dk_28 (dk_at dksX4_seers_0 7 rfl rfl)
theorem dX4_seers_8 : decode cX4_seers 8 = .ok (.invokevirtual 130, 3) := dk_182 0 130 (dk_at dksX4_seers_0 8 rfl rfl)
theorem dX4_seers_11 : decode cX4_seers 11 = .ok (.istore 4, 2) := dk_54 4 (dk_at dksX4_seers_0 11 rfl rfl)
theorem dX4_seers_13 : decode cX4_seers 13 = .ok (.iconst 0, 1) := dk_3 (dk_at dksX4_seers_0 13 rfl rfl)
theorem dX4_seers_14 : decode cX4_seers 14 = .ok (.istore 5, 2) := dk_54 5 (dk_at dksX4_seers_0 14 rfl rfl)
theorem dX4_seers_16 : decode cX4_seers 16 = .ok (.iconst 0, 1) := dk_3 (dk_at dksX4_seers_0 16 rfl rfl)
theorem dX4_seers_17 : decode cX4_seers 17 = .ok (.istore 6, 2) := dk_54 6 (dk_at dksX4_seers_0 17 rfl rfl)
theorem dX4_seers_19 : decode cX4_seers 19 = .ok (.iload 6, 2) := dk_21 6 (dk_at dksX4_seers_0 19 rfl rfl)
theorem dX4_seers_21 : decode cX4_seers 21 = .ok (.aload_n 0, 1) := dk_42 (dk_at dksX4_seers_0 21 rfl rfl)
theorem dX4_seers_22 : decode cX4_seers 22 = .ok (.getfield 27, 3) := dk_180 0 27 (dk_at dksX4_seers_1 0 rfl rfl)
theorem dX4_seers_25 : decode cX4_seers 25 = .ok (.invokeinterface 58 1, 5) := by decide +kernel
theorem dX4_seers_30 : decode cX4_seers 30 = .ok (.if_icmp .ge 48, 3) := dk_162 0 48 (dk_at dksX4_seers_1 8 rfl rfl)
theorem dX4_seers_33 : decode cX4_seers 33 = .ok (.iload 5, 2) := dk_21 5 (dk_at dksX4_seers_1 11 rfl rfl)
theorem dX4_seers_35 : decode cX4_seers 35 = .ok (.aload_n 0, 1) := dk_42 (dk_at dksX4_seers_1 13 rfl rfl)
theorem dX4_seers_36 : decode cX4_seers 36 = .ok (.aload_n 0, 1) := dk_42 (dk_at dksX4_seers_1 14 rfl rfl)
theorem dX4_seers_37 : decode cX4_seers 37 = .ok (.getfield 27, 3) := dk_180 0 27 (dk_at dksX4_seers_1 15 rfl rfl)
theorem dX4_seers_40 : decode cX4_seers 40 = .ok (.iload 6, 2) := dk_21 6 (dk_at dksX4_seers_1 18 rfl rfl)
theorem dX4_seers_42 : decode cX4_seers 42 = .ok (.invokeinterface 80 2, 5) := by decide +kernel
theorem dX4_seers_47 : decode cX4_seers 47 = .ok (.checkcast 84, 3) := dk_192 0 84 (dk_at dksX4_seers_2 5 rfl rfl)
theorem dX4_seers_50 : decode cX4_seers 50 = .ok (.iload_n 1, 1) := dk_27 (dk_at dksX4_seers_2 8 rfl rfl)
theorem dX4_seers_51 : decode cX4_seers 51 = .ok (.iload_n 2, 1) := dk_28 (dk_at dksX4_seers_2 9 rfl rfl)
theorem dX4_seers_52 : decode cX4_seers 52 = .ok (.iload_n 3, 1) := dk_29 (dk_at dksX4_seers_2 10 rfl rfl)
theorem dX4_seers_53 : decode cX4_seers 53 = .ok (.iload 4, 2) := dk_21 4 (dk_at dksX4_seers_2 11 rfl rfl)
theorem dX4_seers_55 : decode cX4_seers 55 = .ok (.invokevirtual 133, 3) := dk_182 0 133 (dk_at dksX4_seers_2 13 rfl rfl)
theorem dX4_seers_58 : decode cX4_seers 58 = .ok (.ifCond .eq 10, 3) := dk_153 0 10 (dk_at dksX4_seers_2 16 rfl rfl)
theorem dX4_seers_61 : decode cX4_seers 61 = .ok (.iconst 1, 1) := dk_4 (dk_at dksX4_seers_2 19 rfl rfl)
theorem dX4_seers_62 : decode cX4_seers 62 = .ok (.iload 6, 2) := dk_21 6 (dk_at dksX4_seers_2 20 rfl rfl)
theorem dX4_seers_64 : decode cX4_seers 64 = .ok (.ishl, 1) := dk_120 (dk_at dksX4_seers_2 22 rfl rfl)
theorem dX4_seers_65 : decode cX4_seers 65 = .ok (.goto 4, 3) := dk_167 0 4 (dk_at dksX4_seers_3 0 rfl rfl)
theorem dX4_seers_68 : decode cX4_seers 68 = .ok (.iconst 0, 1) := dk_3 (dk_at dksX4_seers_3 3 rfl rfl)
theorem dX4_seers_69 : decode cX4_seers 69 = .ok (.ior, 1) := dk_128 (dk_at dksX4_seers_3 4 rfl rfl)
theorem dX4_seers_70 : decode cX4_seers 70 = .ok (.istore 5, 2) := dk_54 5 (dk_at dksX4_seers_3 5 rfl rfl)
theorem dX4_seers_72 : decode cX4_seers 72 = .ok (.iinc 6 1, 3) := dk_132 6 1 (dk_at dksX4_seers_3 7 rfl rfl)
theorem dX4_seers_75 : decode cX4_seers 75 = .ok (.goto (-56), 3) := dk_167 255 200 (dk_at dksX4_seers_3 10 rfl rfl)
theorem dX4_seers_78 : decode cX4_seers 78 = .ok (.iload 5, 2) := dk_21 5 (dk_at dksX4_seers_3 13 rfl rfl)
theorem dX4_seers_80 : decode cX4_seers 80 = .ok (.ireturn, 1) := dk_172 (dk_at dksX4_seers_3 15 rfl rfl)
abbrev cX4_ofCell : ByteArray := prog_17_method_35_code
def yX4_ofCell : MethodName := ⟨RX4, "ofCell", "(III)I"⟩
def dkwX4_ofCell_2 : List UInt8 := [182, 0, 195, 172]
abbrev dktX4_ofCell_2 : List UInt8 := dkwX4_ofCell_2 ++ []
def dkwX4_ofCell_1 : List UInt8 := [153, 0, 12, 29, 3, 7, 184, 0, 54, 154, 0, 9, 42, 5, 182, 0, 140, 172, 42, 27, 28, 29]
abbrev dktX4_ofCell_1 : List UInt8 := dkwX4_ofCell_1 ++ dktX4_ofCell_2
def dkwX4_ofCell_0 : List UInt8 := [42, 3, 181, 0, 51, 42, 27, 182, 0, 157, 154, 0, 9, 42, 4, 182, 0, 140, 172, 28, 184, 0, 163]
abbrev dktX4_ofCell_0 : List UInt8 := dkwX4_ofCell_0 ++ dktX4_ofCell_1
theorem dksX4_ofCell_0 : cX4_ofCell.data.toList.drop 0 = dktX4_ofCell_0 := by decide +kernel
theorem dksX4_ofCell_1 : cX4_ofCell.data.toList.drop 23 = dktX4_ofCell_1 := dk_seg dksX4_ofCell_0 23 rfl rfl
theorem dksX4_ofCell_2 : cX4_ofCell.data.toList.drop 45 = dktX4_ofCell_2 := dk_seg dksX4_ofCell_1 22 rfl rfl
theorem dX4_ofCell_0 : decode cX4_ofCell 0 = .ok (.aload_n 0, 1) := dk_42 (dk_at dksX4_ofCell_0 0 rfl rfl)
theorem dX4_ofCell_1 : decode cX4_ofCell 1 = .ok (.iconst 0, 1) := dk_3 (dk_at dksX4_ofCell_0 1 rfl rfl)
theorem dX4_ofCell_2 : decode cX4_ofCell 2 = .ok (.putfield 51, 3) := dk_181 0 51 (dk_at dksX4_ofCell_0 2 rfl rfl)
theorem dX4_ofCell_5 : decode cX4_ofCell 5 = .ok (.aload_n 0, 1) := dk_42 (dk_at dksX4_ofCell_0 5 rfl rfl)
theorem dX4_ofCell_6 : decode cX4_ofCell 6 = .ok (.iload_n 1, 1) := dk_27 (dk_at dksX4_ofCell_0 6 rfl rfl)
theorem dX4_ofCell_7 : decode cX4_ofCell 7 = .ok (.invokevirtual 157, 3) := dk_182 0 157 (dk_at dksX4_ofCell_0 7 rfl rfl)
theorem dX4_ofCell_10 : decode cX4_ofCell 10 = .ok (.ifCond .ne 9, 3) := dk_154 0 9 (dk_at dksX4_ofCell_0 10 rfl rfl)
theorem dX4_ofCell_13 : decode cX4_ofCell 13 = .ok (.aload_n 0, 1) := dk_42 (dk_at dksX4_ofCell_0 13 rfl rfl)
theorem dX4_ofCell_14 : decode cX4_ofCell 14 = .ok (.iconst 1, 1) := dk_4 (dk_at dksX4_ofCell_0 14 rfl rfl)
theorem dX4_ofCell_15 : decode cX4_ofCell 15 = .ok (.invokevirtual 140, 3) := dk_182 0 140 (dk_at dksX4_ofCell_0 15 rfl rfl)
theorem dX4_ofCell_18 : decode cX4_ofCell 18 = .ok (.ireturn, 1) := dk_172 (dk_at dksX4_ofCell_0 18 rfl rfl)
theorem dX4_ofCell_19 : decode cX4_ofCell 19 = .ok (.iload_n 2, 1) := dk_28 (dk_at dksX4_ofCell_0 19 rfl rfl)
theorem dX4_ofCell_20 : decode cX4_ofCell 20 = .ok (.invokestatic 163, 3) := dk_184 0 163 (dk_at dksX4_ofCell_0 20 rfl rfl)
theorem dX4_ofCell_23 : decode cX4_ofCell 23 = .ok (.ifCond .eq 12, 3) := dk_153 0 12 (dk_at dksX4_ofCell_1 0 rfl rfl)
theorem dX4_ofCell_26 : decode cX4_ofCell 26 = .ok (.iload_n 3, 1) := dk_29 (dk_at dksX4_ofCell_1 3 rfl rfl)
theorem dX4_ofCell_27 : decode cX4_ofCell 27 = .ok (.iconst 0, 1) := dk_3 (dk_at dksX4_ofCell_1 4 rfl rfl)
theorem dX4_ofCell_28 : decode cX4_ofCell 28 = .ok (.iconst 4, 1) := dk_7 (dk_at dksX4_ofCell_1 5 rfl rfl)
theorem dX4_ofCell_29 : decode cX4_ofCell 29 = .ok (.invokestatic 54, 3) := dk_184 0 54 (dk_at dksX4_ofCell_1 6 rfl rfl)
theorem dX4_ofCell_32 : decode cX4_ofCell 32 = .ok (.ifCond .ne 9, 3) := dk_154 0 9 (dk_at dksX4_ofCell_1 9 rfl rfl)
theorem dX4_ofCell_35 : decode cX4_ofCell 35 = .ok (.aload_n 0, 1) := dk_42 (dk_at dksX4_ofCell_1 12 rfl rfl)
theorem dX4_ofCell_36 : decode cX4_ofCell 36 = .ok (.iconst 2, 1) := dk_5 (dk_at dksX4_ofCell_1 13 rfl rfl)
theorem dX4_ofCell_37 : decode cX4_ofCell 37 = .ok (.invokevirtual 140, 3) := dk_182 0 140 (dk_at dksX4_ofCell_1 14 rfl rfl)
theorem dX4_ofCell_40 : decode cX4_ofCell 40 = .ok (.ireturn, 1) := dk_172 (dk_at dksX4_ofCell_1 17 rfl rfl)
theorem dX4_ofCell_41 : decode cX4_ofCell 41 = .ok (.aload_n 0, 1) := dk_42 (dk_at dksX4_ofCell_1 18 rfl rfl)
theorem dX4_ofCell_42 : decode cX4_ofCell 42 = .ok (.iload_n 1, 1) := dk_27 (dk_at dksX4_ofCell_1 19 rfl rfl)
theorem dX4_ofCell_43 : decode cX4_ofCell 43 = .ok (.iload_n 2, 1) := dk_28 (dk_at dksX4_ofCell_1 20 rfl rfl)
theorem dX4_ofCell_44 : decode cX4_ofCell 44 = .ok (.iload_n 3, 1) := dk_29 (dk_at dksX4_ofCell_1 21 rfl rfl)
theorem dX4_ofCell_45 : decode cX4_ofCell 45 = .ok (.invokevirtual 195, 3) := dk_182 0 195 (dk_at dksX4_ofCell_2 0 rfl rfl)
theorem dX4_ofCell_48 : decode cX4_ofCell 48 = .ok (.ireturn, 1) := dk_172 (dk_at dksX4_ofCell_2 3 rfl rfl)
abbrev cX4_cellNow : ByteArray := prog_17_method_34_code
def yX4_cellNow : MethodName := ⟨RX4, "cellNow", "(III)I"⟩
def dkwX4_cellNow_4 : List UInt8 := [3, 172]
abbrev dktX4_cellNow_4 : List UInt8 := dkwX4_cellNow_4 ++ []
def dkwX4_cellNow_3 : List UInt8 := [182, 0, 186, 172, 42, 27, 28, 182, 0, 189, 172, 42, 27, 28, 182, 0, 192, 153, 0, 7, 4, 167, 0, 4]
abbrev dktX4_cellNow_3 : List UInt8 := dkwX4_cellNow_3 ++ dktX4_cellNow_4
def dkwX4_cellNow_2 : List UInt8 := [42, 180, 0, 7, 27, 46, 172, 42, 27, 182, 0, 120, 153, 0, 7, 4, 167, 0, 4, 3, 172, 42, 27, 28]
abbrev dktX4_cellNow_2 : List UInt8 := dkwX4_cellNow_2 ++ dktX4_cellNow_3
def dkwX4_cellNow_1 : List UInt8 := [170, 0, 0, 0, 0, 0, 66, 0, 0, 0, 0, 0, 0, 0, 3, 0, 0, 0, 31, 0, 0, 0, 38, 0, 0, 0, 52, 0, 0, 0, 59]
abbrev dktX4_cellNow_1 : List UInt8 := dkwX4_cellNow_1 ++ dktX4_cellNow_2
def dkwX4_cellNow_0 : List UInt8 := [29]
abbrev dktX4_cellNow_0 : List UInt8 := dkwX4_cellNow_0 ++ dktX4_cellNow_1
theorem dksX4_cellNow_0 : cX4_cellNow.data.toList.drop 0 = dktX4_cellNow_0 := by decide +kernel
theorem dksX4_cellNow_1 : cX4_cellNow.data.toList.drop 1 = dktX4_cellNow_1 := dk_seg dksX4_cellNow_0 1 rfl rfl
theorem dksX4_cellNow_2 : cX4_cellNow.data.toList.drop 32 = dktX4_cellNow_2 := dk_seg dksX4_cellNow_1 31 rfl rfl
theorem dksX4_cellNow_3 : cX4_cellNow.data.toList.drop 56 = dktX4_cellNow_3 := dk_seg dksX4_cellNow_2 24 rfl rfl
theorem dksX4_cellNow_4 : cX4_cellNow.data.toList.drop 80 = dktX4_cellNow_4 := dk_seg dksX4_cellNow_3 24 rfl rfl
theorem dX4_cellNow_0 : decode cX4_cellNow 0 = .ok (.iload_n 3, 1) := dk_29 (dk_at dksX4_cellNow_0 0 rfl rfl)
theorem dX4_cellNow_1 : decode cX4_cellNow 1 = .ok (.tableswitch 66 0 3 #[31, 38, 52, 59], 31) := by decide +kernel
theorem dX4_cellNow_32 : decode cX4_cellNow 32 = .ok (.aload_n 0, 1) := dk_42 (dk_at dksX4_cellNow_2 0 rfl rfl)
theorem dX4_cellNow_33 : decode cX4_cellNow 33 = .ok (.getfield 7, 3) := dk_180 0 7 (dk_at dksX4_cellNow_2 1 rfl rfl)
theorem dX4_cellNow_36 : decode cX4_cellNow 36 = .ok (.iload_n 1, 1) := dk_27 (dk_at dksX4_cellNow_2 4 rfl rfl)
theorem dX4_cellNow_37 : decode cX4_cellNow 37 = .ok (.iaload, 1) := dk_46 (dk_at dksX4_cellNow_2 5 rfl rfl)
theorem dX4_cellNow_38 : decode cX4_cellNow 38 = .ok (.ireturn, 1) := dk_172 (dk_at dksX4_cellNow_2 6 rfl rfl)
theorem dX4_cellNow_39 : decode cX4_cellNow 39 = .ok (.aload_n 0, 1) := dk_42 (dk_at dksX4_cellNow_2 7 rfl rfl)
theorem dX4_cellNow_40 : decode cX4_cellNow 40 = .ok (.iload_n 1, 1) := dk_27 (dk_at dksX4_cellNow_2 8 rfl rfl)
theorem dX4_cellNow_41 : decode cX4_cellNow 41 = .ok (.invokevirtual 120, 3) := dk_182 0 120 (dk_at dksX4_cellNow_2 9 rfl rfl)
theorem dX4_cellNow_44 : decode cX4_cellNow 44 = .ok (.ifCond .eq 7, 3) := dk_153 0 7 (dk_at dksX4_cellNow_2 12 rfl rfl)
theorem dX4_cellNow_47 : decode cX4_cellNow 47 = .ok (.iconst 1, 1) := dk_4 (dk_at dksX4_cellNow_2 15 rfl rfl)
theorem dX4_cellNow_48 : decode cX4_cellNow 48 = .ok (.goto 4, 3) := dk_167 0 4 (dk_at dksX4_cellNow_2 16 rfl rfl)
theorem dX4_cellNow_51 : decode cX4_cellNow 51 = .ok (.iconst 0, 1) := dk_3 (dk_at dksX4_cellNow_2 19 rfl rfl)
theorem dX4_cellNow_52 : decode cX4_cellNow 52 = .ok (.ireturn, 1) := dk_172 (dk_at dksX4_cellNow_2 20 rfl rfl)
theorem dX4_cellNow_53 : decode cX4_cellNow 53 = .ok (.aload_n 0, 1) := dk_42 (dk_at dksX4_cellNow_2 21 rfl rfl)
theorem dX4_cellNow_54 : decode cX4_cellNow 54 = .ok (.iload_n 1, 1) := dk_27 (dk_at dksX4_cellNow_2 22 rfl rfl)
theorem dX4_cellNow_55 : decode cX4_cellNow 55 = .ok (.iload_n 2, 1) := dk_28 (dk_at dksX4_cellNow_2 23 rfl rfl)
theorem dX4_cellNow_56 : decode cX4_cellNow 56 = .ok (.invokevirtual 186, 3) := dk_182 0 186 (dk_at dksX4_cellNow_3 0 rfl rfl)
theorem dX4_cellNow_59 : decode cX4_cellNow 59 = .ok (.ireturn, 1) := dk_172 (dk_at dksX4_cellNow_3 3 rfl rfl)
theorem dX4_cellNow_60 : decode cX4_cellNow 60 = .ok (.aload_n 0, 1) := dk_42 (dk_at dksX4_cellNow_3 4 rfl rfl)
theorem dX4_cellNow_61 : decode cX4_cellNow 61 = .ok (.iload_n 1, 1) := dk_27 (dk_at dksX4_cellNow_3 5 rfl rfl)
theorem dX4_cellNow_62 : decode cX4_cellNow 62 = .ok (.iload_n 2, 1) := dk_28 (dk_at dksX4_cellNow_3 6 rfl rfl)
theorem dX4_cellNow_63 : decode cX4_cellNow 63 = .ok (.invokevirtual 189, 3) := dk_182 0 189 (dk_at dksX4_cellNow_3 7 rfl rfl)
theorem dX4_cellNow_66 : decode cX4_cellNow 66 = .ok (.ireturn, 1) := dk_172 (dk_at dksX4_cellNow_3 10 rfl rfl)
theorem dX4_cellNow_67 : decode cX4_cellNow 67 = .ok (.aload_n 0, 1) := dk_42 (dk_at dksX4_cellNow_3 11 rfl rfl)
theorem dX4_cellNow_68 : decode cX4_cellNow 68 = .ok (.iload_n 1, 1) := dk_27 (dk_at dksX4_cellNow_3 12 rfl rfl)
theorem dX4_cellNow_69 : decode cX4_cellNow 69 = .ok (.iload_n 2, 1) := dk_28 (dk_at dksX4_cellNow_3 13 rfl rfl)
theorem dX4_cellNow_70 : decode cX4_cellNow 70 = .ok (.invokevirtual 192, 3) := dk_182 0 192 (dk_at dksX4_cellNow_3 14 rfl rfl)
theorem dX4_cellNow_73 : decode cX4_cellNow 73 = .ok (.ifCond .eq 7, 3) := dk_153 0 7 (dk_at dksX4_cellNow_3 17 rfl rfl)
theorem dX4_cellNow_76 : decode cX4_cellNow 76 = .ok (.iconst 1, 1) := dk_4 (dk_at dksX4_cellNow_3 20 rfl rfl)
theorem dX4_cellNow_77 : decode cX4_cellNow 77 = .ok (.goto 4, 3) := dk_167 0 4 (dk_at dksX4_cellNow_3 21 rfl rfl)
theorem dX4_cellNow_80 : decode cX4_cellNow 80 = .ok (.iconst 0, 1) := dk_3 (dk_at dksX4_cellNow_4 0 rfl rfl)
theorem dX4_cellNow_81 : decode cX4_cellNow 81 = .ok (.ireturn, 1) := dk_172 (dk_at dksX4_cellNow_4 1 rfl rfl)
abbrev cX4_onCell : ByteArray := prog_17_method_33_code
def yX4_onCell : MethodName := ⟨RX4, "onCell", "(II)I"⟩
def dkwX4_onCell_2 : List UInt8 := [167, 0, 4, 3, 128, 62, 132, 4, 1, 167, 255, 206, 29, 172]
abbrev dktX4_onCell_2 : List UInt8 := dkwX4_onCell_2 ++ []
def dkwX4_onCell_1 : List UInt8 := [21, 4, 185, 0, 80, 2, 0, 192, 0, 84, 28, 182, 0, 124, 27, 160, 0, 10, 4, 21, 4, 120]
abbrev dktX4_onCell_1 : List UInt8 := dkwX4_onCell_1 ++ dktX4_onCell_2
def dkwX4_onCell_0 : List UInt8 := [3, 62, 3, 54, 4, 21, 4, 42, 180, 0, 27, 185, 0, 58, 1, 0, 162, 0, 42, 29, 42, 180, 0, 27]
abbrev dktX4_onCell_0 : List UInt8 := dkwX4_onCell_0 ++ dktX4_onCell_1
theorem dksX4_onCell_0 : cX4_onCell.data.toList.drop 0 = dktX4_onCell_0 := by decide +kernel
theorem dksX4_onCell_1 : cX4_onCell.data.toList.drop 24 = dktX4_onCell_1 := dk_seg dksX4_onCell_0 24 rfl rfl
theorem dksX4_onCell_2 : cX4_onCell.data.toList.drop 46 = dktX4_onCell_2 := dk_seg dksX4_onCell_1 22 rfl rfl
theorem dX4_onCell_0 : decode cX4_onCell 0 = .ok (.iconst 0, 1) := dk_3 (dk_at dksX4_onCell_0 0 rfl rfl)
theorem dX4_onCell_1 : decode cX4_onCell 1 = .ok (.istore_n 3, 1) := dk_62 (dk_at dksX4_onCell_0 1 rfl rfl)
theorem dX4_onCell_2 : decode cX4_onCell 2 = .ok (.iconst 0, 1) := dk_3 (dk_at dksX4_onCell_0 2 rfl rfl)
theorem dX4_onCell_3 : decode cX4_onCell 3 = .ok (.istore 4, 2) := dk_54 4 (dk_at dksX4_onCell_0 3 rfl rfl)
theorem dX4_onCell_5 : decode cX4_onCell 5 = .ok (.iload 4, 2) := dk_21 4 (dk_at dksX4_onCell_0 5 rfl rfl)
theorem dX4_onCell_7 : decode cX4_onCell 7 = .ok (.aload_n 0, 1) := dk_42 (dk_at dksX4_onCell_0 7 rfl rfl)
theorem dX4_onCell_8 : decode cX4_onCell 8 = .ok (.getfield 27, 3) := dk_180 0 27 (dk_at dksX4_onCell_0 8 rfl rfl)
theorem dX4_onCell_11 : decode cX4_onCell 11 = .ok (.invokeinterface 58 1, 5) := by decide +kernel
theorem dX4_onCell_16 : decode cX4_onCell 16 = .ok (.if_icmp .ge 42, 3) := dk_162 0 42 (dk_at dksX4_onCell_0 16 rfl rfl)
theorem dX4_onCell_19 : decode cX4_onCell 19 = .ok (.iload_n 3, 1) := dk_29 (dk_at dksX4_onCell_0 19 rfl rfl)
theorem dX4_onCell_20 : decode cX4_onCell 20 = .ok (.aload_n 0, 1) := dk_42 (dk_at dksX4_onCell_0 20 rfl rfl)
theorem dX4_onCell_21 : decode cX4_onCell 21 = .ok (.getfield 27, 3) := dk_180 0 27 (dk_at dksX4_onCell_0 21 rfl rfl)
theorem dX4_onCell_24 : decode cX4_onCell 24 = .ok (.iload 4, 2) := dk_21 4 (dk_at dksX4_onCell_1 0 rfl rfl)
theorem dX4_onCell_26 : decode cX4_onCell 26 = .ok (.invokeinterface 80 2, 5) := by decide +kernel
theorem dX4_onCell_31 : decode cX4_onCell 31 = .ok (.checkcast 84, 3) := dk_192 0 84 (dk_at dksX4_onCell_1 7 rfl rfl)
theorem dX4_onCell_34 : decode cX4_onCell 34 = .ok (.iload_n 2, 1) := dk_28 (dk_at dksX4_onCell_1 10 rfl rfl)
theorem dX4_onCell_35 : decode cX4_onCell 35 = .ok (.invokevirtual 124, 3) := dk_182 0 124 (dk_at dksX4_onCell_1 11 rfl rfl)
theorem dX4_onCell_38 : decode cX4_onCell 38 = .ok (.iload_n 1, 1) := dk_27 (dk_at dksX4_onCell_1 14 rfl rfl)
theorem dX4_onCell_39 : decode cX4_onCell 39 = .ok (.if_icmp .ne 10, 3) := dk_160 0 10 (dk_at dksX4_onCell_1 15 rfl rfl)
theorem dX4_onCell_42 : decode cX4_onCell 42 = .ok (.iconst 1, 1) := dk_4 (dk_at dksX4_onCell_1 18 rfl rfl)
theorem dX4_onCell_43 : decode cX4_onCell 43 = .ok (.iload 4, 2) := dk_21 4 (dk_at dksX4_onCell_1 19 rfl rfl)
theorem dX4_onCell_45 : decode cX4_onCell 45 = .ok (.ishl, 1) := dk_120 (dk_at dksX4_onCell_1 21 rfl rfl)
theorem dX4_onCell_46 : decode cX4_onCell 46 = .ok (.goto 4, 3) := dk_167 0 4 (dk_at dksX4_onCell_2 0 rfl rfl)
theorem dX4_onCell_49 : decode cX4_onCell 49 = .ok (.iconst 0, 1) := dk_3 (dk_at dksX4_onCell_2 3 rfl rfl)
theorem dX4_onCell_50 : decode cX4_onCell 50 = .ok (.ior, 1) := dk_128 (dk_at dksX4_onCell_2 4 rfl rfl)
theorem dX4_onCell_51 : decode cX4_onCell 51 = .ok (.istore_n 3, 1) := dk_62 (dk_at dksX4_onCell_2 5 rfl rfl)
theorem dX4_onCell_52 : decode cX4_onCell 52 = .ok (.iinc 4 1, 3) := dk_132 4 1 (dk_at dksX4_onCell_2 6 rfl rfl)
theorem dX4_onCell_55 : decode cX4_onCell 55 = .ok (.goto (-50), 3) := dk_167 255 206 (dk_at dksX4_onCell_2 9 rfl rfl)
theorem dX4_onCell_58 : decode cX4_onCell 58 = .ok (.iload_n 3, 1) := dk_29 (dk_at dksX4_onCell_2 12 rfl rfl)
theorem dX4_onCell_59 : decode cX4_onCell 59 = .ok (.ireturn, 1) := dk_172 (dk_at dksX4_onCell_2 13 rfl rfl)
abbrev cX4_isWalked : ByteArray := prog_17_method_20_code
def yX4_isWalked : MethodName := ⟨RX4, "isWalked", "(II)Z"⟩
def dkwX4_isWalked_1 : List UInt8 := [180, 0, 137, 42, 180, 0, 13, 184, 0, 54, 153, 0, 7, 4, 167, 0, 4, 3, 172]
abbrev dktX4_isWalked_1 : List UInt8 := dkwX4_isWalked_1 ++ []
def dkwX4_isWalked_0 : List UInt8 := [42, 180, 0, 7, 27, 46, 4, 159, 0, 32, 42, 180, 0, 7, 27, 46, 6, 160, 0, 18, 28, 42]
abbrev dktX4_isWalked_0 : List UInt8 := dkwX4_isWalked_0 ++ dktX4_isWalked_1
theorem dksX4_isWalked_0 : cX4_isWalked.data.toList.drop 0 = dktX4_isWalked_0 := by decide +kernel
theorem dksX4_isWalked_1 : cX4_isWalked.data.toList.drop 22 = dktX4_isWalked_1 := dk_seg dksX4_isWalked_0 22 rfl rfl
theorem dX4_isWalked_0 : decode cX4_isWalked 0 = .ok (.aload_n 0, 1) := dk_42 (dk_at dksX4_isWalked_0 0 rfl rfl)
theorem dX4_isWalked_1 : decode cX4_isWalked 1 = .ok (.getfield 7, 3) := dk_180 0 7 (dk_at dksX4_isWalked_0 1 rfl rfl)
theorem dX4_isWalked_4 : decode cX4_isWalked 4 = .ok (.iload_n 1, 1) := dk_27 (dk_at dksX4_isWalked_0 4 rfl rfl)
theorem dX4_isWalked_5 : decode cX4_isWalked 5 = .ok (.iaload, 1) := dk_46 (dk_at dksX4_isWalked_0 5 rfl rfl)
theorem dX4_isWalked_6 : decode cX4_isWalked 6 = .ok (.iconst 1, 1) := dk_4 (dk_at dksX4_isWalked_0 6 rfl rfl)
theorem dX4_isWalked_7 : decode cX4_isWalked 7 = .ok (.if_icmp .eq 32, 3) := dk_159 0 32 (dk_at dksX4_isWalked_0 7 rfl rfl)
theorem dX4_isWalked_10 : decode cX4_isWalked 10 = .ok (.aload_n 0, 1) := dk_42 (dk_at dksX4_isWalked_0 10 rfl rfl)
theorem dX4_isWalked_11 : decode cX4_isWalked 11 = .ok (.getfield 7, 3) := dk_180 0 7 (dk_at dksX4_isWalked_0 11 rfl rfl)
theorem dX4_isWalked_14 : decode cX4_isWalked 14 = .ok (.iload_n 1, 1) := dk_27 (dk_at dksX4_isWalked_0 14 rfl rfl)
theorem dX4_isWalked_15 : decode cX4_isWalked 15 = .ok (.iaload, 1) := dk_46 (dk_at dksX4_isWalked_0 15 rfl rfl)
theorem dX4_isWalked_16 : decode cX4_isWalked 16 = .ok (.iconst 3, 1) := dk_6 (dk_at dksX4_isWalked_0 16 rfl rfl)
theorem dX4_isWalked_17 : decode cX4_isWalked 17 = .ok (.if_icmp .ne 18, 3) := dk_160 0 18 (dk_at dksX4_isWalked_0 17 rfl rfl)
theorem dX4_isWalked_20 : decode cX4_isWalked 20 = .ok (.iload_n 2, 1) := dk_28 (dk_at dksX4_isWalked_0 20 rfl rfl)
theorem dX4_isWalked_21 : decode cX4_isWalked 21 = .ok (.aload_n 0, 1) := dk_42 (dk_at dksX4_isWalked_0 21 rfl rfl)
theorem dX4_isWalked_22 : decode cX4_isWalked 22 = .ok (.getfield 137, 3) := dk_180 0 137 (dk_at dksX4_isWalked_1 0 rfl rfl)
theorem dX4_isWalked_25 : decode cX4_isWalked 25 = .ok (.aload_n 0, 1) := dk_42 (dk_at dksX4_isWalked_1 3 rfl rfl)
theorem dX4_isWalked_26 : decode cX4_isWalked 26 = .ok (.getfield 13, 3) := dk_180 0 13 (dk_at dksX4_isWalked_1 4 rfl rfl)
theorem dX4_isWalked_29 : decode cX4_isWalked 29 = .ok (.invokestatic 54, 3) := dk_184 0 54 (dk_at dksX4_isWalked_1 7 rfl rfl)
theorem dX4_isWalked_32 : decode cX4_isWalked 32 = .ok (.ifCond .eq 7, 3) := dk_153 0 7 (dk_at dksX4_isWalked_1 10 rfl rfl)
theorem dX4_isWalked_35 : decode cX4_isWalked 35 = .ok (.iconst 1, 1) := dk_4 (dk_at dksX4_isWalked_1 13 rfl rfl)
theorem dX4_isWalked_36 : decode cX4_isWalked 36 = .ok (.goto 4, 3) := dk_167 0 4 (dk_at dksX4_isWalked_1 14 rfl rfl)
theorem dX4_isWalked_39 : decode cX4_isWalked 39 = .ok (.iconst 0, 1) := dk_3 (dk_at dksX4_isWalked_1 17 rfl rfl)
theorem dX4_isWalked_40 : decode cX4_isWalked 40 = .ok (.ireturn, 1) := dk_172 (dk_at dksX4_isWalked_1 18 rfl rfl)
abbrev cX4_ofMinute : ByteArray := prog_17_method_38_code
def yX4_ofMinute : MethodName := ⟨RX4, "ofMinute", "(II)I"⟩
def dkwX4_ofMinute_1 : List UInt8 := [182, 0, 140, 172, 42, 27, 28, 182, 0, 205, 172]
abbrev dktX4_ofMinute_1 : List UInt8 := dkwX4_ofMinute_1 ++ []
def dkwX4_ofMinute_0 : List UInt8 := [42, 3, 181, 0, 51, 27, 184, 0, 163, 153, 0, 13, 28, 3, 16, 6, 184, 0, 54, 154, 0, 9, 42, 4]
abbrev dktX4_ofMinute_0 : List UInt8 := dkwX4_ofMinute_0 ++ dktX4_ofMinute_1
theorem dksX4_ofMinute_0 : cX4_ofMinute.data.toList.drop 0 = dktX4_ofMinute_0 := by decide +kernel
theorem dksX4_ofMinute_1 : cX4_ofMinute.data.toList.drop 24 = dktX4_ofMinute_1 := dk_seg dksX4_ofMinute_0 24 rfl rfl
theorem dX4_ofMinute_0 : decode cX4_ofMinute 0 = .ok (.aload_n 0, 1) := dk_42 (dk_at dksX4_ofMinute_0 0 rfl rfl)
theorem dX4_ofMinute_1 : decode cX4_ofMinute 1 = .ok (.iconst 0, 1) := dk_3 (dk_at dksX4_ofMinute_0 1 rfl rfl)
theorem dX4_ofMinute_2 : decode cX4_ofMinute 2 = .ok (.putfield 51, 3) := dk_181 0 51 (dk_at dksX4_ofMinute_0 2 rfl rfl)
theorem dX4_ofMinute_5 : decode cX4_ofMinute 5 = .ok (.iload_n 1, 1) := dk_27 (dk_at dksX4_ofMinute_0 5 rfl rfl)
theorem dX4_ofMinute_6 : decode cX4_ofMinute 6 = .ok (.invokestatic 163, 3) := dk_184 0 163 (dk_at dksX4_ofMinute_0 6 rfl rfl)
theorem dX4_ofMinute_9 : decode cX4_ofMinute 9 = .ok (.ifCond .eq 13, 3) := dk_153 0 13 (dk_at dksX4_ofMinute_0 9 rfl rfl)
theorem dX4_ofMinute_12 : decode cX4_ofMinute 12 = .ok (.iload_n 2, 1) := dk_28 (dk_at dksX4_ofMinute_0 12 rfl rfl)
theorem dX4_ofMinute_13 : decode cX4_ofMinute 13 = .ok (.iconst 0, 1) := dk_3 (dk_at dksX4_ofMinute_0 13 rfl rfl)
theorem dX4_ofMinute_14 : decode cX4_ofMinute 14 = .ok (.bipush 6, 2) := dk_16 6 (dk_at dksX4_ofMinute_0 14 rfl rfl)
theorem dX4_ofMinute_16 : decode cX4_ofMinute 16 = .ok (.invokestatic 54, 3) := dk_184 0 54 (dk_at dksX4_ofMinute_0 16 rfl rfl)
theorem dX4_ofMinute_19 : decode cX4_ofMinute 19 = .ok (.ifCond .ne 9, 3) := dk_154 0 9 (dk_at dksX4_ofMinute_0 19 rfl rfl)
theorem dX4_ofMinute_22 : decode cX4_ofMinute 22 = .ok (.aload_n 0, 1) := dk_42 (dk_at dksX4_ofMinute_0 22 rfl rfl)
theorem dX4_ofMinute_23 : decode cX4_ofMinute 23 = .ok (.iconst 1, 1) := dk_4 (dk_at dksX4_ofMinute_0 23 rfl rfl)
theorem dX4_ofMinute_24 : decode cX4_ofMinute 24 = .ok (.invokevirtual 140, 3) := dk_182 0 140 (dk_at dksX4_ofMinute_1 0 rfl rfl)
theorem dX4_ofMinute_27 : decode cX4_ofMinute 27 = .ok (.ireturn, 1) := dk_172 (dk_at dksX4_ofMinute_1 3 rfl rfl)
theorem dX4_ofMinute_28 : decode cX4_ofMinute 28 = .ok (.aload_n 0, 1) := dk_42 (dk_at dksX4_ofMinute_1 4 rfl rfl)
theorem dX4_ofMinute_29 : decode cX4_ofMinute 29 = .ok (.iload_n 1, 1) := dk_27 (dk_at dksX4_ofMinute_1 5 rfl rfl)
theorem dX4_ofMinute_30 : decode cX4_ofMinute 30 = .ok (.iload_n 2, 1) := dk_28 (dk_at dksX4_ofMinute_1 6 rfl rfl)
theorem dX4_ofMinute_31 : decode cX4_ofMinute 31 = .ok (.invokevirtual 205, 3) := dk_182 0 205 (dk_at dksX4_ofMinute_1 7 rfl rfl)
theorem dX4_ofMinute_34 : decode cX4_ofMinute 34 = .ok (.ireturn, 1) := dk_172 (dk_at dksX4_ofMinute_1 10 rfl rfl)
abbrev cX4_minuteNow : ByteArray := prog_17_method_37_code
def yX4_minuteNow : MethodName := ⟨RX4, "minuteNow", "(II)I"⟩
def dkwX4_minuteNow_14 : List UInt8 := [132, 6, 1, 167, 255, 204, 29, 172]
abbrev dktX4_minuteNow_14 : List UInt8 := dkwX4_minuteNow_14 ++ []
def dkwX4_minuteNow_13 : List UInt8 := [185, 0, 80, 2, 0, 192, 0, 84, 27, 182, 0, 199, 154, 0, 7, 4, 167, 0, 4, 3, 96, 62]
abbrev dktX4_minuteNow_13 : List UInt8 := dkwX4_minuteNow_13 ++ dktX4_minuteNow_14
def dkwX4_minuteNow_12 : List UInt8 := [162, 0, 51, 25, 4, 21, 6, 46, 54, 7, 29, 21, 7, 2, 159, 0, 28, 42, 180, 0, 27, 21, 7]
abbrev dktX4_minuteNow_12 : List UInt8 := dkwX4_minuteNow_12 ++ dktX4_minuteNow_13
def dkwX4_minuteNow_11 : List UInt8 := [182, 0, 170, 172, 42, 180, 0, 39, 58, 4, 25, 4, 190, 54, 5, 3, 54, 6, 21, 6, 21, 5]
abbrev dktX4_minuteNow_11 : List UInt8 := dkwX4_minuteNow_11 ++ dktX4_minuteNow_12
def dkwX4_minuteNow_10 : List UInt8 := [182, 0, 202, 153, 0, 7, 4, 167, 0, 4, 3, 96, 62, 132, 4, 1, 167, 255, 221, 29, 172, 42]
abbrev dktX4_minuteNow_10 : List UInt8 := dkwX4_minuteNow_10 ++ dktX4_minuteNow_11
def dkwX4_minuteNow_9 : List UInt8 := [172, 3, 54, 4, 21, 4, 42, 180, 0, 30, 185, 0, 58, 1, 0, 162, 0, 27, 29, 42, 21, 4, 27]
abbrev dktX4_minuteNow_9 : List UInt8 := dkwX4_minuteNow_9 ++ dktX4_minuteNow_10
def dkwX4_minuteNow_8 : List UInt8 := [192, 0, 84, 27, 182, 0, 127, 153, 0, 7, 4, 167, 0, 4, 3, 96, 62, 132, 4, 1, 167, 255, 210, 29]
abbrev dktX4_minuteNow_8 : List UInt8 := dkwX4_minuteNow_8 ++ dktX4_minuteNow_9
def dkwX4_minuteNow_7 : List UInt8 := [180, 0, 27, 185, 0, 58, 1, 0, 162, 0, 38, 29, 42, 180, 0, 27, 21, 4, 185, 0, 80, 2, 0]
abbrev dktX4_minuteNow_7 : List UInt8 := dkwX4_minuteNow_7 ++ dktX4_minuteNow_8
def dkwX4_minuteNow_6 : List UInt8 := [153, 0, 7, 4, 167, 0, 4, 3, 96, 62, 132, 4, 1, 167, 255, 210, 29, 172, 3, 54, 4, 21, 4, 42]
abbrev dktX4_minuteNow_6 : List UInt8 := dkwX4_minuteNow_6 ++ dktX4_minuteNow_7
def dkwX4_minuteNow_5 : List UInt8 := [162, 0, 38, 29, 42, 180, 0, 27, 21, 4, 185, 0, 80, 2, 0, 192, 0, 84, 27, 182, 0, 199]
abbrev dktX4_minuteNow_5 : List UInt8 := dkwX4_minuteNow_5 ++ dktX4_minuteNow_6
def dkwX4_minuteNow_4 : List UInt8 := [132, 4, 1, 167, 255, 214, 29, 172, 3, 54, 4, 21, 4, 42, 180, 0, 27, 185, 0, 58, 1, 0]
abbrev dktX4_minuteNow_4 : List UInt8 := dkwX4_minuteNow_4 ++ dktX4_minuteNow_5
def dkwX4_minuteNow_3 : List UInt8 := [21, 4, 46, 4, 159, 0, 17, 42, 21, 4, 27, 182, 0, 183, 154, 0, 7, 4, 167, 0, 4, 3, 96, 62]
abbrev dktX4_minuteNow_3 : List UInt8 := dkwX4_minuteNow_3 ++ dktX4_minuteNow_4
def dkwX4_minuteNow_2 : List UInt8 := [42, 27, 182, 0, 130, 172, 3, 54, 4, 21, 4, 42, 180, 0, 7, 190, 162, 0, 38, 29, 42, 180, 0, 7]
abbrev dktX4_minuteNow_2 : List UInt8 := dkwX4_minuteNow_2 ++ dktX4_minuteNow_3
def dkwX4_minuteNow_1 : List UInt8 := [170, 0, 0, 0, 249, 0, 0, 0, 0, 0, 0, 0, 5, 0, 0, 0, 37, 0, 0, 0, 43, 0, 0, 0, 93, 0, 0, 0, 147, 0, 0, 0, 201, 0, 0, 0, 244]
abbrev dktX4_minuteNow_1 : List UInt8 := dkwX4_minuteNow_1 ++ dktX4_minuteNow_2
def dkwX4_minuteNow_0 : List UInt8 := [3, 62, 28]
abbrev dktX4_minuteNow_0 : List UInt8 := dkwX4_minuteNow_0 ++ dktX4_minuteNow_1
theorem dksX4_minuteNow_0 : cX4_minuteNow.data.toList.drop 0 = dktX4_minuteNow_0 := by decide +kernel
theorem dksX4_minuteNow_1 : cX4_minuteNow.data.toList.drop 3 = dktX4_minuteNow_1 := dk_seg dksX4_minuteNow_0 3 rfl rfl
theorem dksX4_minuteNow_2 : cX4_minuteNow.data.toList.drop 40 = dktX4_minuteNow_2 := dk_seg dksX4_minuteNow_1 37 rfl rfl
theorem dksX4_minuteNow_3 : cX4_minuteNow.data.toList.drop 64 = dktX4_minuteNow_3 := dk_seg dksX4_minuteNow_2 24 rfl rfl
theorem dksX4_minuteNow_4 : cX4_minuteNow.data.toList.drop 88 = dktX4_minuteNow_4 := dk_seg dksX4_minuteNow_3 24 rfl rfl
theorem dksX4_minuteNow_5 : cX4_minuteNow.data.toList.drop 110 = dktX4_minuteNow_5 := dk_seg dksX4_minuteNow_4 22 rfl rfl
theorem dksX4_minuteNow_6 : cX4_minuteNow.data.toList.drop 132 = dktX4_minuteNow_6 := dk_seg dksX4_minuteNow_5 22 rfl rfl
theorem dksX4_minuteNow_7 : cX4_minuteNow.data.toList.drop 156 = dktX4_minuteNow_7 := dk_seg dksX4_minuteNow_6 24 rfl rfl
theorem dksX4_minuteNow_8 : cX4_minuteNow.data.toList.drop 179 = dktX4_minuteNow_8 := dk_seg dksX4_minuteNow_7 23 rfl rfl
theorem dksX4_minuteNow_9 : cX4_minuteNow.data.toList.drop 203 = dktX4_minuteNow_9 := dk_seg dksX4_minuteNow_8 24 rfl rfl
theorem dksX4_minuteNow_10 : cX4_minuteNow.data.toList.drop 226 = dktX4_minuteNow_10 := dk_seg dksX4_minuteNow_9 23 rfl rfl
theorem dksX4_minuteNow_11 : cX4_minuteNow.data.toList.drop 248 = dktX4_minuteNow_11 := dk_seg dksX4_minuteNow_10 22 rfl rfl
theorem dksX4_minuteNow_12 : cX4_minuteNow.data.toList.drop 270 = dktX4_minuteNow_12 := dk_seg dksX4_minuteNow_11 22 rfl rfl
theorem dksX4_minuteNow_13 : cX4_minuteNow.data.toList.drop 293 = dktX4_minuteNow_13 := dk_seg dksX4_minuteNow_12 23 rfl rfl
theorem dksX4_minuteNow_14 : cX4_minuteNow.data.toList.drop 315 = dktX4_minuteNow_14 := dk_seg dksX4_minuteNow_13 22 rfl rfl
theorem dX4_minuteNow_0 : decode cX4_minuteNow 0 = .ok (.iconst 0, 1) := dk_3 (dk_at dksX4_minuteNow_0 0 rfl rfl)
theorem dX4_minuteNow_1 : decode cX4_minuteNow 1 = .ok (.istore_n 3, 1) := dk_62 (dk_at dksX4_minuteNow_0 1 rfl rfl)
theorem dX4_minuteNow_2 : decode cX4_minuteNow 2 = .ok (.iload_n 2, 1) := dk_28 (dk_at dksX4_minuteNow_0 2 rfl rfl)
theorem dX4_minuteNow_3 : decode cX4_minuteNow 3 = .ok (.tableswitch 249 0 5 #[37, 43, 93, 147, 201, 244], 37) := by decide +kernel
theorem dX4_minuteNow_40 : decode cX4_minuteNow 40 = .ok (.aload_n 0, 1) := dk_42 (dk_at dksX4_minuteNow_2 0 rfl rfl)
theorem dX4_minuteNow_41 : decode cX4_minuteNow 41 = .ok (.iload_n 1, 1) := dk_27 (dk_at dksX4_minuteNow_2 1 rfl rfl)
theorem dX4_minuteNow_42 : decode cX4_minuteNow 42 = .ok (.invokevirtual 130, 3) := dk_182 0 130 (dk_at dksX4_minuteNow_2 2 rfl rfl)
theorem dX4_minuteNow_45 : decode cX4_minuteNow 45 = .ok (.ireturn, 1) := dk_172 (dk_at dksX4_minuteNow_2 5 rfl rfl)
theorem dX4_minuteNow_46 : decode cX4_minuteNow 46 = .ok (.iconst 0, 1) := dk_3 (dk_at dksX4_minuteNow_2 6 rfl rfl)
theorem dX4_minuteNow_47 : decode cX4_minuteNow 47 = .ok (.istore 4, 2) := dk_54 4 (dk_at dksX4_minuteNow_2 7 rfl rfl)
theorem dX4_minuteNow_49 : decode cX4_minuteNow 49 = .ok (.iload 4, 2) := dk_21 4 (dk_at dksX4_minuteNow_2 9 rfl rfl)
theorem dX4_minuteNow_51 : decode cX4_minuteNow 51 = .ok (.aload_n 0, 1) := dk_42 (dk_at dksX4_minuteNow_2 11 rfl rfl)
theorem dX4_minuteNow_52 : decode cX4_minuteNow 52 = .ok (.getfield 7, 3) := dk_180 0 7 (dk_at dksX4_minuteNow_2 12 rfl rfl)
theorem dX4_minuteNow_55 : decode cX4_minuteNow 55 = .ok (.arraylength, 1) := dk_190 (dk_at dksX4_minuteNow_2 15 rfl rfl)
theorem dX4_minuteNow_56 : decode cX4_minuteNow 56 = .ok (.if_icmp .ge 38, 3) := dk_162 0 38 (dk_at dksX4_minuteNow_2 16 rfl rfl)
theorem dX4_minuteNow_59 : decode cX4_minuteNow 59 = .ok (.iload_n 3, 1) := dk_29 (dk_at dksX4_minuteNow_2 19 rfl rfl)
theorem dX4_minuteNow_60 : decode cX4_minuteNow 60 = .ok (.aload_n 0, 1) := dk_42 (dk_at dksX4_minuteNow_2 20 rfl rfl)
theorem dX4_minuteNow_61 : decode cX4_minuteNow 61 = .ok (.getfield 7, 3) := dk_180 0 7 (dk_at dksX4_minuteNow_2 21 rfl rfl)
theorem dX4_minuteNow_64 : decode cX4_minuteNow 64 = .ok (.iload 4, 2) := dk_21 4 (dk_at dksX4_minuteNow_3 0 rfl rfl)
theorem dX4_minuteNow_66 : decode cX4_minuteNow 66 = .ok (.iaload, 1) := dk_46 (dk_at dksX4_minuteNow_3 2 rfl rfl)
theorem dX4_minuteNow_67 : decode cX4_minuteNow 67 = .ok (.iconst 1, 1) := dk_4 (dk_at dksX4_minuteNow_3 3 rfl rfl)
theorem dX4_minuteNow_68 : decode cX4_minuteNow 68 = .ok (.if_icmp .eq 17, 3) := dk_159 0 17 (dk_at dksX4_minuteNow_3 4 rfl rfl)
theorem dX4_minuteNow_71 : decode cX4_minuteNow 71 = .ok (.aload_n 0, 1) := dk_42 (dk_at dksX4_minuteNow_3 7 rfl rfl)
theorem dX4_minuteNow_72 : decode cX4_minuteNow 72 = .ok (.iload 4, 2) := dk_21 4 (dk_at dksX4_minuteNow_3 8 rfl rfl)
theorem dX4_minuteNow_74 : decode cX4_minuteNow 74 = .ok (.iload_n 1, 1) := dk_27 (dk_at dksX4_minuteNow_3 10 rfl rfl)
theorem dX4_minuteNow_75 : decode cX4_minuteNow 75 = .ok (.invokevirtual 183, 3) := dk_182 0 183 (dk_at dksX4_minuteNow_3 11 rfl rfl)
theorem dX4_minuteNow_78 : decode cX4_minuteNow 78 = .ok (.ifCond .ne 7, 3) := dk_154 0 7 (dk_at dksX4_minuteNow_3 14 rfl rfl)
theorem dX4_minuteNow_81 : decode cX4_minuteNow 81 = .ok (.iconst 1, 1) := dk_4 (dk_at dksX4_minuteNow_3 17 rfl rfl)
theorem dX4_minuteNow_82 : decode cX4_minuteNow 82 = .ok (.goto 4, 3) := dk_167 0 4 (dk_at dksX4_minuteNow_3 18 rfl rfl)
theorem dX4_minuteNow_85 : decode cX4_minuteNow 85 = .ok (.iconst 0, 1) := dk_3 (dk_at dksX4_minuteNow_3 21 rfl rfl)
theorem dX4_minuteNow_86 : decode cX4_minuteNow 86 = .ok (.iadd, 1) := dk_96 (dk_at dksX4_minuteNow_3 22 rfl rfl)
theorem dX4_minuteNow_87 : decode cX4_minuteNow 87 = .ok (.istore_n 3, 1) := dk_62 (dk_at dksX4_minuteNow_3 23 rfl rfl)
theorem dX4_minuteNow_88 : decode cX4_minuteNow 88 = .ok (.iinc 4 1, 3) := dk_132 4 1 (dk_at dksX4_minuteNow_4 0 rfl rfl)
theorem dX4_minuteNow_91 : decode cX4_minuteNow 91 = .ok (.goto (-42), 3) := dk_167 255 214 (dk_at dksX4_minuteNow_4 3 rfl rfl)
theorem dX4_minuteNow_94 : decode cX4_minuteNow 94 = .ok (.iload_n 3, 1) := dk_29 (dk_at dksX4_minuteNow_4 6 rfl rfl)
theorem dX4_minuteNow_95 : decode cX4_minuteNow 95 = .ok (.ireturn, 1) := dk_172 (dk_at dksX4_minuteNow_4 7 rfl rfl)
theorem dX4_minuteNow_96 : decode cX4_minuteNow 96 = .ok (.iconst 0, 1) := dk_3 (dk_at dksX4_minuteNow_4 8 rfl rfl)
theorem dX4_minuteNow_97 : decode cX4_minuteNow 97 = .ok (.istore 4, 2) := dk_54 4 (dk_at dksX4_minuteNow_4 9 rfl rfl)
theorem dX4_minuteNow_99 : decode cX4_minuteNow 99 = .ok (.iload 4, 2) := dk_21 4 (dk_at dksX4_minuteNow_4 11 rfl rfl)
theorem dX4_minuteNow_101 : decode cX4_minuteNow 101 = .ok (.aload_n 0, 1) := dk_42 (dk_at dksX4_minuteNow_4 13 rfl rfl)
theorem dX4_minuteNow_102 : decode cX4_minuteNow 102 = .ok (.getfield 27, 3) := dk_180 0 27 (dk_at dksX4_minuteNow_4 14 rfl rfl)
theorem dX4_minuteNow_105 : decode cX4_minuteNow 105 = .ok (.invokeinterface 58 1, 5) := by decide +kernel
theorem dX4_minuteNow_110 : decode cX4_minuteNow 110 = .ok (.if_icmp .ge 38, 3) := dk_162 0 38 (dk_at dksX4_minuteNow_5 0 rfl rfl)
theorem dX4_minuteNow_113 : decode cX4_minuteNow 113 = .ok (.iload_n 3, 1) := dk_29 (dk_at dksX4_minuteNow_5 3 rfl rfl)
theorem dX4_minuteNow_114 : decode cX4_minuteNow 114 = .ok (.aload_n 0, 1) := dk_42 (dk_at dksX4_minuteNow_5 4 rfl rfl)
theorem dX4_minuteNow_115 : decode cX4_minuteNow 115 = .ok (.getfield 27, 3) := dk_180 0 27 (dk_at dksX4_minuteNow_5 5 rfl rfl)
theorem dX4_minuteNow_118 : decode cX4_minuteNow 118 = .ok (.iload 4, 2) := dk_21 4 (dk_at dksX4_minuteNow_5 8 rfl rfl)
theorem dX4_minuteNow_120 : decode cX4_minuteNow 120 = .ok (.invokeinterface 80 2, 5) := by decide +kernel
theorem dX4_minuteNow_125 : decode cX4_minuteNow 125 = .ok (.checkcast 84, 3) := dk_192 0 84 (dk_at dksX4_minuteNow_5 15 rfl rfl)
theorem dX4_minuteNow_128 : decode cX4_minuteNow 128 = .ok (.iload_n 1, 1) := dk_27 (dk_at dksX4_minuteNow_5 18 rfl rfl)
theorem dX4_minuteNow_129 : decode cX4_minuteNow 129 = .ok (.invokevirtual 199, 3) := dk_182 0 199 (dk_at dksX4_minuteNow_5 19 rfl rfl)
theorem dX4_minuteNow_132 : decode cX4_minuteNow 132 = .ok (.ifCond .eq 7, 3) := dk_153 0 7 (dk_at dksX4_minuteNow_6 0 rfl rfl)
theorem dX4_minuteNow_135 : decode cX4_minuteNow 135 = .ok (.iconst 1, 1) := dk_4 (dk_at dksX4_minuteNow_6 3 rfl rfl)
theorem dX4_minuteNow_136 : decode cX4_minuteNow 136 = .ok (.goto 4, 3) := dk_167 0 4 (dk_at dksX4_minuteNow_6 4 rfl rfl)
theorem dX4_minuteNow_139 : decode cX4_minuteNow 139 = .ok (.iconst 0, 1) := dk_3 (dk_at dksX4_minuteNow_6 7 rfl rfl)
theorem dX4_minuteNow_140 : decode cX4_minuteNow 140 = .ok (.iadd, 1) := dk_96 (dk_at dksX4_minuteNow_6 8 rfl rfl)
theorem dX4_minuteNow_141 : decode cX4_minuteNow 141 = .ok (.istore_n 3, 1) := dk_62 (dk_at dksX4_minuteNow_6 9 rfl rfl)
theorem dX4_minuteNow_142 : decode cX4_minuteNow 142 = .ok (.iinc 4 1, 3) := dk_132 4 1 (dk_at dksX4_minuteNow_6 10 rfl rfl)
theorem dX4_minuteNow_145 : decode cX4_minuteNow 145 = .ok (.goto (-46), 3) := dk_167 255 210 (dk_at dksX4_minuteNow_6 13 rfl rfl)
theorem dX4_minuteNow_148 : decode cX4_minuteNow 148 = .ok (.iload_n 3, 1) := dk_29 (dk_at dksX4_minuteNow_6 16 rfl rfl)
theorem dX4_minuteNow_149 : decode cX4_minuteNow 149 = .ok (.ireturn, 1) := dk_172 (dk_at dksX4_minuteNow_6 17 rfl rfl)
theorem dX4_minuteNow_150 : decode cX4_minuteNow 150 = .ok (.iconst 0, 1) := dk_3 (dk_at dksX4_minuteNow_6 18 rfl rfl)
theorem dX4_minuteNow_151 : decode cX4_minuteNow 151 = .ok (.istore 4, 2) := dk_54 4 (dk_at dksX4_minuteNow_6 19 rfl rfl)
theorem dX4_minuteNow_153 : decode cX4_minuteNow 153 = .ok (.iload 4, 2) := dk_21 4 (dk_at dksX4_minuteNow_6 21 rfl rfl)
theorem dX4_minuteNow_155 : decode cX4_minuteNow 155 = .ok (.aload_n 0, 1) := dk_42 (dk_at dksX4_minuteNow_6 23 rfl rfl)
theorem dX4_minuteNow_156 : decode cX4_minuteNow 156 = .ok (.getfield 27, 3) := dk_180 0 27 (dk_at dksX4_minuteNow_7 0 rfl rfl)
theorem dX4_minuteNow_159 : decode cX4_minuteNow 159 = .ok (.invokeinterface 58 1, 5) := by decide +kernel
theorem dX4_minuteNow_164 : decode cX4_minuteNow 164 = .ok (.if_icmp .ge 38, 3) := dk_162 0 38 (dk_at dksX4_minuteNow_7 8 rfl rfl)
theorem dX4_minuteNow_167 : decode cX4_minuteNow 167 = .ok (.iload_n 3, 1) := dk_29 (dk_at dksX4_minuteNow_7 11 rfl rfl)
theorem dX4_minuteNow_168 : decode cX4_minuteNow 168 = .ok (.aload_n 0, 1) := dk_42 (dk_at dksX4_minuteNow_7 12 rfl rfl)
theorem dX4_minuteNow_169 : decode cX4_minuteNow 169 = .ok (.getfield 27, 3) := dk_180 0 27 (dk_at dksX4_minuteNow_7 13 rfl rfl)
theorem dX4_minuteNow_172 : decode cX4_minuteNow 172 = .ok (.iload 4, 2) := dk_21 4 (dk_at dksX4_minuteNow_7 16 rfl rfl)
theorem dX4_minuteNow_174 : decode cX4_minuteNow 174 = .ok (.invokeinterface 80 2, 5) := by decide +kernel
theorem dX4_minuteNow_179 : decode cX4_minuteNow 179 = .ok (.checkcast 84, 3) := dk_192 0 84 (dk_at dksX4_minuteNow_8 0 rfl rfl)
theorem dX4_minuteNow_182 : decode cX4_minuteNow 182 = .ok (.iload_n 1, 1) := dk_27 (dk_at dksX4_minuteNow_8 3 rfl rfl)
theorem dX4_minuteNow_183 : decode cX4_minuteNow 183 = .ok (.invokevirtual 127, 3) := dk_182 0 127 (dk_at dksX4_minuteNow_8 4 rfl rfl)
theorem dX4_minuteNow_186 : decode cX4_minuteNow 186 = .ok (.ifCond .eq 7, 3) := dk_153 0 7 (dk_at dksX4_minuteNow_8 7 rfl rfl)
theorem dX4_minuteNow_189 : decode cX4_minuteNow 189 = .ok (.iconst 1, 1) := dk_4 (dk_at dksX4_minuteNow_8 10 rfl rfl)
theorem dX4_minuteNow_190 : decode cX4_minuteNow 190 = .ok (.goto 4, 3) := dk_167 0 4 (dk_at dksX4_minuteNow_8 11 rfl rfl)
theorem dX4_minuteNow_193 : decode cX4_minuteNow 193 = .ok (.iconst 0, 1) := dk_3 (dk_at dksX4_minuteNow_8 14 rfl rfl)
theorem dX4_minuteNow_194 : decode cX4_minuteNow 194 = .ok (.iadd, 1) := dk_96 (dk_at dksX4_minuteNow_8 15 rfl rfl)
theorem dX4_minuteNow_195 : decode cX4_minuteNow 195 = .ok (.istore_n 3, 1) := dk_62 (dk_at dksX4_minuteNow_8 16 rfl rfl)
theorem dX4_minuteNow_196 : decode cX4_minuteNow 196 = .ok (.iinc 4 1, 3) := dk_132 4 1 (dk_at dksX4_minuteNow_8 17 rfl rfl)
theorem dX4_minuteNow_199 : decode cX4_minuteNow 199 = .ok (.goto (-46), 3) := dk_167 255 210 (dk_at dksX4_minuteNow_8 20 rfl rfl)
theorem dX4_minuteNow_202 : decode cX4_minuteNow 202 = .ok (.iload_n 3, 1) := dk_29 (dk_at dksX4_minuteNow_8 23 rfl rfl)
theorem dX4_minuteNow_203 : decode cX4_minuteNow 203 = .ok (.ireturn, 1) := dk_172 (dk_at dksX4_minuteNow_9 0 rfl rfl)
theorem dX4_minuteNow_204 : decode cX4_minuteNow 204 = .ok (.iconst 0, 1) := dk_3 (dk_at dksX4_minuteNow_9 1 rfl rfl)
theorem dX4_minuteNow_205 : decode cX4_minuteNow 205 = .ok (.istore 4, 2) := dk_54 4 (dk_at dksX4_minuteNow_9 2 rfl rfl)
theorem dX4_minuteNow_207 : decode cX4_minuteNow 207 = .ok (.iload 4, 2) := dk_21 4 (dk_at dksX4_minuteNow_9 4 rfl rfl)
theorem dX4_minuteNow_209 : decode cX4_minuteNow 209 = .ok (.aload_n 0, 1) := dk_42 (dk_at dksX4_minuteNow_9 6 rfl rfl)
theorem dX4_minuteNow_210 : decode cX4_minuteNow 210 = .ok (.getfield 30, 3) := dk_180 0 30 (dk_at dksX4_minuteNow_9 7 rfl rfl)
theorem dX4_minuteNow_213 : decode cX4_minuteNow 213 = .ok (.invokeinterface 58 1, 5) := by decide +kernel
theorem dX4_minuteNow_218 : decode cX4_minuteNow 218 = .ok (.if_icmp .ge 27, 3) := dk_162 0 27 (dk_at dksX4_minuteNow_9 15 rfl rfl)
theorem dX4_minuteNow_221 : decode cX4_minuteNow 221 = .ok (.iload_n 3, 1) := dk_29 (dk_at dksX4_minuteNow_9 18 rfl rfl)
theorem dX4_minuteNow_222 : decode cX4_minuteNow 222 = .ok (.aload_n 0, 1) := dk_42 (dk_at dksX4_minuteNow_9 19 rfl rfl)
theorem dX4_minuteNow_223 : decode cX4_minuteNow 223 = .ok (.iload 4, 2) := dk_21 4 (dk_at dksX4_minuteNow_9 20 rfl rfl)
theorem dX4_minuteNow_225 : decode cX4_minuteNow 225 = .ok (.iload_n 1, 1) := dk_27 (dk_at dksX4_minuteNow_9 22 rfl rfl)
theorem dX4_minuteNow_226 : decode cX4_minuteNow 226 = .ok (.invokevirtual 202, 3) := dk_182 0 202 (dk_at dksX4_minuteNow_10 0 rfl rfl)
theorem dX4_minuteNow_229 : decode cX4_minuteNow 229 = .ok (.ifCond .eq 7, 3) := dk_153 0 7 (dk_at dksX4_minuteNow_10 3 rfl rfl)
theorem dX4_minuteNow_232 : decode cX4_minuteNow 232 = .ok (.iconst 1, 1) := dk_4 (dk_at dksX4_minuteNow_10 6 rfl rfl)
theorem dX4_minuteNow_233 : decode cX4_minuteNow 233 = .ok (.goto 4, 3) := dk_167 0 4 (dk_at dksX4_minuteNow_10 7 rfl rfl)
theorem dX4_minuteNow_236 : decode cX4_minuteNow 236 = .ok (.iconst 0, 1) := dk_3 (dk_at dksX4_minuteNow_10 10 rfl rfl)
theorem dX4_minuteNow_237 : decode cX4_minuteNow 237 = .ok (.iadd, 1) := dk_96 (dk_at dksX4_minuteNow_10 11 rfl rfl)
theorem dX4_minuteNow_238 : decode cX4_minuteNow 238 = .ok (.istore_n 3, 1) := dk_62 (dk_at dksX4_minuteNow_10 12 rfl rfl)
theorem dX4_minuteNow_239 : decode cX4_minuteNow 239 = .ok (.iinc 4 1, 3) := dk_132 4 1 (dk_at dksX4_minuteNow_10 13 rfl rfl)
theorem dX4_minuteNow_242 : decode cX4_minuteNow 242 = .ok (.goto (-35), 3) := dk_167 255 221 (dk_at dksX4_minuteNow_10 16 rfl rfl)
theorem dX4_minuteNow_245 : decode cX4_minuteNow 245 = .ok (.iload_n 3, 1) := dk_29 (dk_at dksX4_minuteNow_10 19 rfl rfl)
theorem dX4_minuteNow_246 : decode cX4_minuteNow 246 = .ok (.ireturn, 1) := dk_172 (dk_at dksX4_minuteNow_10 20 rfl rfl)
theorem dX4_minuteNow_247 : decode cX4_minuteNow 247 = .ok (.aload_n 0, 1) := dk_42 (dk_at dksX4_minuteNow_10 21 rfl rfl)
theorem dX4_minuteNow_248 : decode cX4_minuteNow 248 = .ok (.invokevirtual 170, 3) := dk_182 0 170 (dk_at dksX4_minuteNow_11 0 rfl rfl)
theorem dX4_minuteNow_251 : decode cX4_minuteNow 251 = .ok (.ireturn, 1) := dk_172 (dk_at dksX4_minuteNow_11 3 rfl rfl)
theorem dX4_minuteNow_252 : decode cX4_minuteNow 252 = .ok (.aload_n 0, 1) := dk_42 (dk_at dksX4_minuteNow_11 4 rfl rfl)
theorem dX4_minuteNow_253 : decode cX4_minuteNow 253 = .ok (.getfield 39, 3) := dk_180 0 39 (dk_at dksX4_minuteNow_11 5 rfl rfl)
theorem dX4_minuteNow_256 : decode cX4_minuteNow 256 = .ok (.astore 4, 2) := dk_58 4 (dk_at dksX4_minuteNow_11 8 rfl rfl)
theorem dX4_minuteNow_258 : decode cX4_minuteNow 258 = .ok (.aload 4, 2) := dk_25 4 (dk_at dksX4_minuteNow_11 10 rfl rfl)
theorem dX4_minuteNow_260 : decode cX4_minuteNow 260 = .ok (.arraylength, 1) := dk_190 (dk_at dksX4_minuteNow_11 12 rfl rfl)
theorem dX4_minuteNow_261 : decode cX4_minuteNow 261 = .ok (.istore 5, 2) := dk_54 5 (dk_at dksX4_minuteNow_11 13 rfl rfl)
theorem dX4_minuteNow_263 : decode cX4_minuteNow 263 = .ok (.iconst 0, 1) := dk_3 (dk_at dksX4_minuteNow_11 15 rfl rfl)
theorem dX4_minuteNow_264 : decode cX4_minuteNow 264 = .ok (.istore 6, 2) := dk_54 6 (dk_at dksX4_minuteNow_11 16 rfl rfl)
theorem dX4_minuteNow_266 : decode cX4_minuteNow 266 = .ok (.iload 6, 2) := dk_21 6 (dk_at dksX4_minuteNow_11 18 rfl rfl)
theorem dX4_minuteNow_268 : decode cX4_minuteNow 268 = .ok (.iload 5, 2) := dk_21 5 (dk_at dksX4_minuteNow_11 20 rfl rfl)
theorem dX4_minuteNow_270 : decode cX4_minuteNow 270 = .ok (.if_icmp .ge 51, 3) := dk_162 0 51 (dk_at dksX4_minuteNow_12 0 rfl rfl)
theorem dX4_minuteNow_273 : decode cX4_minuteNow 273 = .ok (.aload 4, 2) := dk_25 4 (dk_at dksX4_minuteNow_12 3 rfl rfl)
theorem dX4_minuteNow_275 : decode cX4_minuteNow 275 = .ok (.iload 6, 2) := dk_21 6 (dk_at dksX4_minuteNow_12 5 rfl rfl)
theorem dX4_minuteNow_277 : decode cX4_minuteNow 277 = .ok (.iaload, 1) := dk_46 (dk_at dksX4_minuteNow_12 7 rfl rfl)
theorem dX4_minuteNow_278 : decode cX4_minuteNow 278 = .ok (.istore 7, 2) := dk_54 7 (dk_at dksX4_minuteNow_12 8 rfl rfl)
theorem dX4_minuteNow_280 : decode cX4_minuteNow 280 = .ok (.iload_n 3, 1) := dk_29 (dk_at dksX4_minuteNow_12 10 rfl rfl)
theorem dX4_minuteNow_281 : decode cX4_minuteNow 281 = .ok (.iload 7, 2) := dk_21 7 (dk_at dksX4_minuteNow_12 11 rfl rfl)
theorem dX4_minuteNow_283 : decode cX4_minuteNow 283 = .ok (.iconst (-1), 1) := dk_2 (dk_at dksX4_minuteNow_12 13 rfl rfl)
theorem dX4_minuteNow_284 : decode cX4_minuteNow 284 = .ok (.if_icmp .eq 28, 3) := dk_159 0 28 (dk_at dksX4_minuteNow_12 14 rfl rfl)
theorem dX4_minuteNow_287 : decode cX4_minuteNow 287 = .ok (.aload_n 0, 1) := dk_42 (dk_at dksX4_minuteNow_12 17 rfl rfl)
theorem dX4_minuteNow_288 : decode cX4_minuteNow 288 = .ok (.getfield 27, 3) := dk_180 0 27 (dk_at dksX4_minuteNow_12 18 rfl rfl)
theorem dX4_minuteNow_291 : decode cX4_minuteNow 291 = .ok (.iload 7, 2) := dk_21 7 (dk_at dksX4_minuteNow_12 21 rfl rfl)
theorem dX4_minuteNow_293 : decode cX4_minuteNow 293 = .ok (.invokeinterface 80 2, 5) := by decide +kernel
theorem dX4_minuteNow_298 : decode cX4_minuteNow 298 = .ok (.checkcast 84, 3) := dk_192 0 84 (dk_at dksX4_minuteNow_13 5 rfl rfl)
theorem dX4_minuteNow_301 : decode cX4_minuteNow 301 = .ok (.iload_n 1, 1) := dk_27 (dk_at dksX4_minuteNow_13 8 rfl rfl)
theorem dX4_minuteNow_302 : decode cX4_minuteNow 302 = .ok (.invokevirtual 199, 3) := dk_182 0 199 (dk_at dksX4_minuteNow_13 9 rfl rfl)
theorem dX4_minuteNow_305 : decode cX4_minuteNow 305 = .ok (.ifCond .ne 7, 3) := dk_154 0 7 (dk_at dksX4_minuteNow_13 12 rfl rfl)
theorem dX4_minuteNow_308 : decode cX4_minuteNow 308 = .ok (.iconst 1, 1) := dk_4 (dk_at dksX4_minuteNow_13 15 rfl rfl)
theorem dX4_minuteNow_309 : decode cX4_minuteNow 309 = .ok (.goto 4, 3) := dk_167 0 4 (dk_at dksX4_minuteNow_13 16 rfl rfl)
theorem dX4_minuteNow_312 : decode cX4_minuteNow 312 = .ok (.iconst 0, 1) := dk_3 (dk_at dksX4_minuteNow_13 19 rfl rfl)
theorem dX4_minuteNow_313 : decode cX4_minuteNow 313 = .ok (.iadd, 1) := dk_96 (dk_at dksX4_minuteNow_13 20 rfl rfl)
theorem dX4_minuteNow_314 : decode cX4_minuteNow 314 = .ok (.istore_n 3, 1) := dk_62 (dk_at dksX4_minuteNow_13 21 rfl rfl)
theorem dX4_minuteNow_315 : decode cX4_minuteNow 315 = .ok (.iinc 6 1, 3) := dk_132 6 1 (dk_at dksX4_minuteNow_14 0 rfl rfl)
theorem dX4_minuteNow_318 : decode cX4_minuteNow 318 = .ok (.goto (-52), 3) := dk_167 255 204 (dk_at dksX4_minuteNow_14 3 rfl rfl)
theorem dX4_minuteNow_321 : decode cX4_minuteNow 321 = .ok (.iload_n 3, 1) := dk_29 (dk_at dksX4_minuteNow_14 6 rfl rfl)
theorem dX4_minuteNow_322 : decode cX4_minuteNow 322 = .ok (.ireturn, 1) := dk_172 (dk_at dksX4_minuteNow_14 7 rfl rfl)
abbrev cX4_isEmpty : ByteArray := prog_17_method_36_code
def yX4_isEmpty : MethodName := ⟨RX4, "isEmpty", "(II)Z"⟩
def dkwX4_isEmpty_1 : List UInt8 := [4, 167, 0, 4, 3, 172]
abbrev dktX4_isEmpty_1 : List UInt8 := dkwX4_isEmpty_1 ++ []
def dkwX4_isEmpty_0 : List UInt8 := [42, 42, 180, 0, 30, 27, 185, 0, 80, 2, 0, 192, 0, 108, 182, 0, 146, 28, 182, 0, 189, 154, 0, 7]
abbrev dktX4_isEmpty_0 : List UInt8 := dkwX4_isEmpty_0 ++ dktX4_isEmpty_1
theorem dksX4_isEmpty_0 : cX4_isEmpty.data.toList.drop 0 = dktX4_isEmpty_0 := by decide +kernel
theorem dksX4_isEmpty_1 : cX4_isEmpty.data.toList.drop 24 = dktX4_isEmpty_1 := dk_seg dksX4_isEmpty_0 24 rfl rfl
theorem dX4_isEmpty_0 : decode cX4_isEmpty 0 = .ok (.aload_n 0, 1) := dk_42 (dk_at dksX4_isEmpty_0 0 rfl rfl)
theorem dX4_isEmpty_1 : decode cX4_isEmpty 1 = .ok (.aload_n 0, 1) := dk_42 (dk_at dksX4_isEmpty_0 1 rfl rfl)
theorem dX4_isEmpty_2 : decode cX4_isEmpty 2 = .ok (.getfield 30, 3) := dk_180 0 30 (dk_at dksX4_isEmpty_0 2 rfl rfl)
theorem dX4_isEmpty_5 : decode cX4_isEmpty 5 = .ok (.iload_n 1, 1) := dk_27 (dk_at dksX4_isEmpty_0 5 rfl rfl)
theorem dX4_isEmpty_6 : decode cX4_isEmpty 6 = .ok (.invokeinterface 80 2, 5) := by decide +kernel
theorem dX4_isEmpty_11 : decode cX4_isEmpty 11 = .ok (.checkcast 108, 3) := dk_192 0 108 (dk_at dksX4_isEmpty_0 11 rfl rfl)
theorem dX4_isEmpty_14 : decode cX4_isEmpty 14 = .ok (.invokevirtual 146, 3) := dk_182 0 146 (dk_at dksX4_isEmpty_0 14 rfl rfl)
theorem dX4_isEmpty_17 : decode cX4_isEmpty 17 = .ok (.iload_n 2, 1) := dk_28 (dk_at dksX4_isEmpty_0 17 rfl rfl)
theorem dX4_isEmpty_18 : decode cX4_isEmpty 18 = .ok (.invokevirtual 189, 3) := dk_182 0 189 (dk_at dksX4_isEmpty_0 18 rfl rfl)
theorem dX4_isEmpty_21 : decode cX4_isEmpty 21 = .ok (.ifCond .ne 7, 3) := dk_154 0 7 (dk_at dksX4_isEmpty_0 21 rfl rfl)
theorem dX4_isEmpty_24 : decode cX4_isEmpty 24 = .ok (.iconst 1, 1) := dk_4 (dk_at dksX4_isEmpty_1 0 rfl rfl)
theorem dX4_isEmpty_25 : decode cX4_isEmpty 25 = .ok (.goto 4, 3) := dk_167 0 4 (dk_at dksX4_isEmpty_1 1 rfl rfl)
theorem dX4_isEmpty_28 : decode cX4_isEmpty 28 = .ok (.iconst 0, 1) := dk_3 (dk_at dksX4_isEmpty_1 4 rfl rfl)
theorem dX4_isEmpty_29 : decode cX4_isEmpty 29 = .ok (.ireturn, 1) := dk_172 (dk_at dksX4_isEmpty_1 5 rfl rfl)
abbrev cX4_empty : ByteArray := prog_17_method_40_code
def yX4_empty : MethodName := ⟨RX4, "empty", "(IZ)I"⟩
def dkwX4_empty_1 : List UInt8 := [42, 4, 182, 0, 140, 172, 42, 27, 28, 182, 0, 208, 172]
abbrev dktX4_empty_1 : List UInt8 := dkwX4_empty_1 ++ []
def dkwX4_empty_0 : List UInt8 := [42, 3, 181, 0, 51, 27, 3, 42, 180, 0, 30, 185, 0, 58, 1, 0, 4, 100, 184, 0, 54, 154, 0, 9]
abbrev dktX4_empty_0 : List UInt8 := dkwX4_empty_0 ++ dktX4_empty_1
theorem dksX4_empty_0 : cX4_empty.data.toList.drop 0 = dktX4_empty_0 := by decide +kernel
theorem dksX4_empty_1 : cX4_empty.data.toList.drop 24 = dktX4_empty_1 := dk_seg dksX4_empty_0 24 rfl rfl
theorem dX4_empty_0 : decode cX4_empty 0 = .ok (.aload_n 0, 1) := dk_42 (dk_at dksX4_empty_0 0 rfl rfl)
theorem dX4_empty_1 : decode cX4_empty 1 = .ok (.iconst 0, 1) := dk_3 (dk_at dksX4_empty_0 1 rfl rfl)
theorem dX4_empty_2 : decode cX4_empty 2 = .ok (.putfield 51, 3) := dk_181 0 51 (dk_at dksX4_empty_0 2 rfl rfl)
theorem dX4_empty_5 : decode cX4_empty 5 = .ok (.iload_n 1, 1) := dk_27 (dk_at dksX4_empty_0 5 rfl rfl)
theorem dX4_empty_6 : decode cX4_empty 6 = .ok (.iconst 0, 1) := dk_3 (dk_at dksX4_empty_0 6 rfl rfl)
theorem dX4_empty_7 : decode cX4_empty 7 = .ok (.aload_n 0, 1) := dk_42 (dk_at dksX4_empty_0 7 rfl rfl)
theorem dX4_empty_8 : decode cX4_empty 8 = .ok (.getfield 30, 3) := dk_180 0 30 (dk_at dksX4_empty_0 8 rfl rfl)
theorem dX4_empty_11 : decode cX4_empty 11 = .ok (.invokeinterface 58 1, 5) := by decide +kernel
theorem dX4_empty_16 : decode cX4_empty 16 = .ok (.iconst 1, 1) := dk_4 (dk_at dksX4_empty_0 16 rfl rfl)
theorem dX4_empty_17 : decode cX4_empty 17 = .ok (.isub, 1) := dk_100 (dk_at dksX4_empty_0 17 rfl rfl)
theorem dX4_empty_18 : decode cX4_empty 18 = .ok (.invokestatic 54, 3) := dk_184 0 54 (dk_at dksX4_empty_0 18 rfl rfl)
theorem dX4_empty_21 : decode cX4_empty 21 = .ok (.ifCond .ne 9, 3) := dk_154 0 9 (dk_at dksX4_empty_0 21 rfl rfl)
theorem dX4_empty_24 : decode cX4_empty 24 = .ok (.aload_n 0, 1) := dk_42 (dk_at dksX4_empty_1 0 rfl rfl)
theorem dX4_empty_25 : decode cX4_empty 25 = .ok (.iconst 1, 1) := dk_4 (dk_at dksX4_empty_1 1 rfl rfl)
theorem dX4_empty_26 : decode cX4_empty 26 = .ok (.invokevirtual 140, 3) := dk_182 0 140 (dk_at dksX4_empty_1 2 rfl rfl)
theorem dX4_empty_29 : decode cX4_empty 29 = .ok (.ireturn, 1) := dk_172 (dk_at dksX4_empty_1 5 rfl rfl)
theorem dX4_empty_30 : decode cX4_empty 30 = .ok (.aload_n 0, 1) := dk_42 (dk_at dksX4_empty_1 6 rfl rfl)
theorem dX4_empty_31 : decode cX4_empty 31 = .ok (.iload_n 1, 1) := dk_27 (dk_at dksX4_empty_1 7 rfl rfl)
theorem dX4_empty_32 : decode cX4_empty 32 = .ok (.iload_n 2, 1) := dk_28 (dk_at dksX4_empty_1 8 rfl rfl)
theorem dX4_empty_33 : decode cX4_empty 33 = .ok (.invokevirtual 208, 3) := dk_182 0 208 (dk_at dksX4_empty_1 9 rfl rfl)
theorem dX4_empty_36 : decode cX4_empty 36 = .ok (.ireturn, 1) := dk_172 (dk_at dksX4_empty_1 12 rfl rfl)
abbrev cX4_emptyNow : ByteArray := prog_17_method_39_code
def yX4_emptyNow : MethodName := ⟨RX4, "emptyNow", "(IZ)I"⟩
def dkwX4_emptyNow_2 : List UInt8 := [167, 0, 4, 29, 172]
abbrev dktX4_emptyNow_2 : List UInt8 := dkwX4_emptyNow_2 ++ []
def dkwX4_emptyNow_1 : List UInt8 := [167, 0, 13, 28, 153, 0, 6, 21, 4, 172, 132, 3, 1, 132, 4, 1, 167, 255, 222, 28, 153, 0, 7, 2]
abbrev dktX4_emptyNow_1 : List UInt8 := dkwX4_emptyNow_1 ++ dktX4_emptyNow_2
def dkwX4_emptyNow_0 : List UInt8 := [3, 62, 3, 54, 4, 21, 4, 17, 0, 239, 163, 0, 32, 42, 27, 21, 4, 182, 0, 202, 154, 0, 6]
abbrev dktX4_emptyNow_0 : List UInt8 := dkwX4_emptyNow_0 ++ dktX4_emptyNow_1
theorem dksX4_emptyNow_0 : cX4_emptyNow.data.toList.drop 0 = dktX4_emptyNow_0 := by decide +kernel
theorem dksX4_emptyNow_1 : cX4_emptyNow.data.toList.drop 23 = dktX4_emptyNow_1 := dk_seg dksX4_emptyNow_0 23 rfl rfl
theorem dksX4_emptyNow_2 : cX4_emptyNow.data.toList.drop 47 = dktX4_emptyNow_2 := dk_seg dksX4_emptyNow_1 24 rfl rfl
theorem dX4_emptyNow_0 : decode cX4_emptyNow 0 = .ok (.iconst 0, 1) := dk_3 (dk_at dksX4_emptyNow_0 0 rfl rfl)
theorem dX4_emptyNow_1 : decode cX4_emptyNow 1 = .ok (.istore_n 3, 1) := dk_62 (dk_at dksX4_emptyNow_0 1 rfl rfl)
theorem dX4_emptyNow_2 : decode cX4_emptyNow 2 = .ok (.iconst 0, 1) := dk_3 (dk_at dksX4_emptyNow_0 2 rfl rfl)
theorem dX4_emptyNow_3 : decode cX4_emptyNow 3 = .ok (.istore 4, 2) := dk_54 4 (dk_at dksX4_emptyNow_0 3 rfl rfl)
theorem dX4_emptyNow_5 : decode cX4_emptyNow 5 = .ok (.iload 4, 2) := dk_21 4 (dk_at dksX4_emptyNow_0 5 rfl rfl)
theorem dX4_emptyNow_7 : decode cX4_emptyNow 7 = .ok (.sipush 239, 3) := dk_17 0 239 (dk_at dksX4_emptyNow_0 7 rfl rfl)
theorem dX4_emptyNow_10 : decode cX4_emptyNow 10 = .ok (.if_icmp .gt 32, 3) := dk_163 0 32 (dk_at dksX4_emptyNow_0 10 rfl rfl)
theorem dX4_emptyNow_13 : decode cX4_emptyNow 13 = .ok (.aload_n 0, 1) := dk_42 (dk_at dksX4_emptyNow_0 13 rfl rfl)
theorem dX4_emptyNow_14 : decode cX4_emptyNow 14 = .ok (.iload_n 1, 1) := dk_27 (dk_at dksX4_emptyNow_0 14 rfl rfl)
theorem dX4_emptyNow_15 : decode cX4_emptyNow 15 = .ok (.iload 4, 2) := dk_21 4 (dk_at dksX4_emptyNow_0 15 rfl rfl)
theorem dX4_emptyNow_17 : decode cX4_emptyNow 17 = .ok (.invokevirtual 202, 3) := dk_182 0 202 (dk_at dksX4_emptyNow_0 17 rfl rfl)
theorem dX4_emptyNow_20 : decode cX4_emptyNow 20 = .ok (.ifCond .ne 6, 3) := dk_154 0 6 (dk_at dksX4_emptyNow_0 20 rfl rfl)
theorem dX4_emptyNow_23 : decode cX4_emptyNow 23 = .ok (.goto 13, 3) := dk_167 0 13 (dk_at dksX4_emptyNow_1 0 rfl rfl)
theorem dX4_emptyNow_26 : decode cX4_emptyNow 26 = .ok (.iload_n 2, 1) := dk_28 (dk_at dksX4_emptyNow_1 3 rfl rfl)
theorem dX4_emptyNow_27 : decode cX4_emptyNow 27 = .ok (.ifCond .eq 6, 3) := dk_153 0 6 (dk_at dksX4_emptyNow_1 4 rfl rfl)
theorem dX4_emptyNow_30 : decode cX4_emptyNow 30 = .ok (.iload 4, 2) := dk_21 4 (dk_at dksX4_emptyNow_1 7 rfl rfl)
theorem dX4_emptyNow_32 : decode cX4_emptyNow 32 = .ok (.ireturn, 1) := dk_172 (dk_at dksX4_emptyNow_1 9 rfl rfl)
theorem dX4_emptyNow_33 : decode cX4_emptyNow 33 = .ok (.iinc 3 1, 3) := dk_132 3 1 (dk_at dksX4_emptyNow_1 10 rfl rfl)
theorem dX4_emptyNow_36 : decode cX4_emptyNow 36 = .ok (.iinc 4 1, 3) := dk_132 4 1 (dk_at dksX4_emptyNow_1 13 rfl rfl)
theorem dX4_emptyNow_39 : decode cX4_emptyNow 39 = .ok (.goto (-34), 3) := dk_167 255 222 (dk_at dksX4_emptyNow_1 16 rfl rfl)
theorem dX4_emptyNow_42 : decode cX4_emptyNow 42 = .ok (.iload_n 2, 1) := dk_28 (dk_at dksX4_emptyNow_1 19 rfl rfl)
theorem dX4_emptyNow_43 : decode cX4_emptyNow 43 = .ok (.ifCond .eq 7, 3) := dk_153 0 7 (dk_at dksX4_emptyNow_1 20 rfl rfl)
theorem dX4_emptyNow_46 : decode cX4_emptyNow 46 = .ok (.iconst (-1), 1) := dk_2 (dk_at dksX4_emptyNow_1 23 rfl rfl)
theorem dX4_emptyNow_47 : decode cX4_emptyNow 47 = .ok (.goto 4, 3) := dk_167 0 4 (dk_at dksX4_emptyNow_2 0 rfl rfl)
theorem dX4_emptyNow_50 : decode cX4_emptyNow 50 = .ok (.iload_n 3, 1) := dk_29 (dk_at dksX4_emptyNow_2 3 rfl rfl)
theorem dX4_emptyNow_51 : decode cX4_emptyNow 51 = .ok (.ireturn, 1) := dk_172 (dk_at dksX4_emptyNow_2 4 rfl rfl)
abbrev cX4_lapse : ByteArray := prog_17_method_41_code
def yX4_lapse : MethodName := ⟨RX4, "lapse", "(III)I"⟩
def dkwX4_lapse_3 : List UInt8 := [167, 255, 234, 2, 172]
abbrev dktX4_lapse_3 : List UInt8 := dkwX4_lapse_3 ++ []
def dkwX4_lapse_2 : List UInt8 := [21, 4, 29, 163, 0, 22, 42, 27, 21, 4, 182, 0, 183, 154, 0, 6, 21, 4, 172, 132, 4, 1]
abbrev dktX4_lapse_2 : List UInt8 := dkwX4_lapse_2 ++ dktX4_lapse_3
def dkwX4_lapse_1 : List UInt8 := [153, 0, 14, 29, 28, 17, 0, 239, 184, 0, 54, 154, 0, 9, 42, 5, 182, 0, 140, 172, 28, 54, 4]
abbrev dktX4_lapse_1 : List UInt8 := dkwX4_lapse_1 ++ dktX4_lapse_2
def dkwX4_lapse_0 : List UInt8 := [42, 3, 181, 0, 51, 42, 27, 182, 0, 157, 154, 0, 9, 42, 4, 182, 0, 140, 172, 28, 184, 0, 163]
abbrev dktX4_lapse_0 : List UInt8 := dkwX4_lapse_0 ++ dktX4_lapse_1
theorem dksX4_lapse_0 : cX4_lapse.data.toList.drop 0 = dktX4_lapse_0 := by decide +kernel
theorem dksX4_lapse_1 : cX4_lapse.data.toList.drop 23 = dktX4_lapse_1 := dk_seg dksX4_lapse_0 23 rfl rfl
theorem dksX4_lapse_2 : cX4_lapse.data.toList.drop 46 = dktX4_lapse_2 := dk_seg dksX4_lapse_1 23 rfl rfl
theorem dksX4_lapse_3 : cX4_lapse.data.toList.drop 68 = dktX4_lapse_3 := dk_seg dksX4_lapse_2 22 rfl rfl
theorem dX4_lapse_0 : decode cX4_lapse 0 = .ok (.aload_n 0, 1) := dk_42 (dk_at dksX4_lapse_0 0 rfl rfl)
theorem dX4_lapse_1 : decode cX4_lapse 1 = .ok (.iconst 0, 1) := dk_3 (dk_at dksX4_lapse_0 1 rfl rfl)
theorem dX4_lapse_2 : decode cX4_lapse 2 = .ok (.putfield 51, 3) := dk_181 0 51 (dk_at dksX4_lapse_0 2 rfl rfl)
theorem dX4_lapse_5 : decode cX4_lapse 5 = .ok (.aload_n 0, 1) := dk_42 (dk_at dksX4_lapse_0 5 rfl rfl)
theorem dX4_lapse_6 : decode cX4_lapse 6 = .ok (.iload_n 1, 1) := dk_27 (dk_at dksX4_lapse_0 6 rfl rfl)
theorem dX4_lapse_7 : decode cX4_lapse 7 = .ok (.invokevirtual 157, 3) := dk_182 0 157 (dk_at dksX4_lapse_0 7 rfl rfl)
theorem dX4_lapse_10 : decode cX4_lapse 10 = .ok (.ifCond .ne 9, 3) := dk_154 0 9 (dk_at dksX4_lapse_0 10 rfl rfl)
theorem dX4_lapse_13 : decode cX4_lapse 13 = .ok (.aload_n 0, 1) := dk_42 (dk_at dksX4_lapse_0 13 rfl rfl)
theorem dX4_lapse_14 : decode cX4_lapse 14 = .ok (.iconst 1, 1) := dk_4 (dk_at dksX4_lapse_0 14 rfl rfl)
theorem dX4_lapse_15 : decode cX4_lapse 15 = .ok (.invokevirtual 140, 3) := dk_182 0 140 (dk_at dksX4_lapse_0 15 rfl rfl)
theorem dX4_lapse_18 : decode cX4_lapse 18 = .ok (.ireturn, 1) := dk_172 (dk_at dksX4_lapse_0 18 rfl rfl)
theorem dX4_lapse_19 : decode cX4_lapse 19 = .ok (.iload_n 2, 1) := dk_28 (dk_at dksX4_lapse_0 19 rfl rfl)
theorem dX4_lapse_20 : decode cX4_lapse 20 = .ok (.invokestatic 163, 3) := dk_184 0 163 (dk_at dksX4_lapse_0 20 rfl rfl)
theorem dX4_lapse_23 : decode cX4_lapse 23 = .ok (.ifCond .eq 14, 3) := dk_153 0 14 (dk_at dksX4_lapse_1 0 rfl rfl)
theorem dX4_lapse_26 : decode cX4_lapse 26 = .ok (.iload_n 3, 1) := dk_29 (dk_at dksX4_lapse_1 3 rfl rfl)
theorem dX4_lapse_27 : decode cX4_lapse 27 = .ok (.iload_n 2, 1) := dk_28 (dk_at dksX4_lapse_1 4 rfl rfl)
theorem dX4_lapse_28 : decode cX4_lapse 28 = .ok (.sipush 239, 3) := dk_17 0 239 (dk_at dksX4_lapse_1 5 rfl rfl)
theorem dX4_lapse_31 : decode cX4_lapse 31 = .ok (.invokestatic 54, 3) := dk_184 0 54 (dk_at dksX4_lapse_1 8 rfl rfl)
theorem dX4_lapse_34 : decode cX4_lapse 34 = .ok (.ifCond .ne 9, 3) := dk_154 0 9 (dk_at dksX4_lapse_1 11 rfl rfl)
theorem dX4_lapse_37 : decode cX4_lapse 37 = .ok (.aload_n 0, 1) := dk_42 (dk_at dksX4_lapse_1 14 rfl rfl)
theorem dX4_lapse_38 : decode cX4_lapse 38 = .ok (.iconst 2, 1) := dk_5 (dk_at dksX4_lapse_1 15 rfl rfl)
theorem dX4_lapse_39 : decode cX4_lapse 39 = .ok (.invokevirtual 140, 3) := dk_182 0 140 (dk_at dksX4_lapse_1 16 rfl rfl)
theorem dX4_lapse_42 : decode cX4_lapse 42 = .ok (.ireturn, 1) := dk_172 (dk_at dksX4_lapse_1 19 rfl rfl)
theorem dX4_lapse_43 : decode cX4_lapse 43 = .ok (.iload_n 2, 1) := dk_28 (dk_at dksX4_lapse_1 20 rfl rfl)
theorem dX4_lapse_44 : decode cX4_lapse 44 = .ok (.istore 4, 2) := dk_54 4 (dk_at dksX4_lapse_1 21 rfl rfl)
theorem dX4_lapse_46 : decode cX4_lapse 46 = .ok (.iload 4, 2) := dk_21 4 (dk_at dksX4_lapse_2 0 rfl rfl)
theorem dX4_lapse_48 : decode cX4_lapse 48 = .ok (.iload_n 3, 1) := dk_29 (dk_at dksX4_lapse_2 2 rfl rfl)
theorem dX4_lapse_49 : decode cX4_lapse 49 = .ok (.if_icmp .gt 22, 3) := dk_163 0 22 (dk_at dksX4_lapse_2 3 rfl rfl)
theorem dX4_lapse_52 : decode cX4_lapse 52 = .ok (.aload_n 0, 1) := dk_42 (dk_at dksX4_lapse_2 6 rfl rfl)
theorem dX4_lapse_53 : decode cX4_lapse 53 = .ok (.iload_n 1, 1) := dk_27 (dk_at dksX4_lapse_2 7 rfl rfl)
theorem dX4_lapse_54 : decode cX4_lapse 54 = .ok (.iload 4, 2) := dk_21 4 (dk_at dksX4_lapse_2 8 rfl rfl)
theorem dX4_lapse_56 : decode cX4_lapse 56 = .ok (.invokevirtual 183, 3) := dk_182 0 183 (dk_at dksX4_lapse_2 10 rfl rfl)
theorem dX4_lapse_59 : decode cX4_lapse 59 = .ok (.ifCond .ne 6, 3) := dk_154 0 6 (dk_at dksX4_lapse_2 13 rfl rfl)
theorem dX4_lapse_62 : decode cX4_lapse 62 = .ok (.iload 4, 2) := dk_21 4 (dk_at dksX4_lapse_2 16 rfl rfl)
theorem dX4_lapse_64 : decode cX4_lapse 64 = .ok (.ireturn, 1) := dk_172 (dk_at dksX4_lapse_2 18 rfl rfl)
theorem dX4_lapse_65 : decode cX4_lapse 65 = .ok (.iinc 4 1, 3) := dk_132 4 1 (dk_at dksX4_lapse_2 19 rfl rfl)
theorem dX4_lapse_68 : decode cX4_lapse 68 = .ok (.goto (-22), 3) := dk_167 255 234 (dk_at dksX4_lapse_3 0 rfl rfl)
theorem dX4_lapse_71 : decode cX4_lapse 71 = .ok (.iconst (-1), 1) := dk_2 (dk_at dksX4_lapse_3 3 rfl rfl)
theorem dX4_lapse_72 : decode cX4_lapse 72 = .ok (.ireturn, 1) := dk_172 (dk_at dksX4_lapse_3 4 rfl rfl)
abbrev cX4_words : ByteArray := prog_17_method_42_code
def yX4_words : MethodName := ⟨RX4, "words", "(I)I"⟩
def dkwX4_words_1 : List UInt8 := [181, 0, 64, 42, 182, 0, 48, 42, 180, 0, 33, 3, 46, 172]
abbrev dktX4_words_1 : List UInt8 := dkwX4_words_1 ++ []
def dkwX4_words_0 : List UInt8 := [42, 3, 181, 0, 51, 27, 3, 16, 99, 184, 0, 54, 154, 0, 9, 42, 4, 182, 0, 140, 172, 42, 27]
abbrev dktX4_words_0 : List UInt8 := dkwX4_words_0 ++ dktX4_words_1
theorem dksX4_words_0 : cX4_words.data.toList.drop 0 = dktX4_words_0 := by decide +kernel
theorem dksX4_words_1 : cX4_words.data.toList.drop 23 = dktX4_words_1 := dk_seg dksX4_words_0 23 rfl rfl
theorem dX4_words_0 : decode cX4_words 0 = .ok (.aload_n 0, 1) := dk_42 (dk_at dksX4_words_0 0 rfl rfl)
theorem dX4_words_1 : decode cX4_words 1 = .ok (.iconst 0, 1) := dk_3 (dk_at dksX4_words_0 1 rfl rfl)
theorem dX4_words_2 : decode cX4_words 2 = .ok (.putfield 51, 3) := dk_181 0 51 (dk_at dksX4_words_0 2 rfl rfl)
theorem dX4_words_5 : decode cX4_words 5 = .ok (.iload_n 1, 1) := dk_27 (dk_at dksX4_words_0 5 rfl rfl)
theorem dX4_words_6 : decode cX4_words 6 = .ok (.iconst 0, 1) := dk_3 (dk_at dksX4_words_0 6 rfl rfl)
theorem dX4_words_7 : decode cX4_words 7 = .ok (.bipush 99, 2) := dk_16 99 (dk_at dksX4_words_0 7 rfl rfl)
theorem dX4_words_9 : decode cX4_words 9 = .ok (.invokestatic 54, 3) := dk_184 0 54 (dk_at dksX4_words_0 9 rfl rfl)
theorem dX4_words_12 : decode cX4_words 12 = .ok (.ifCond .ne 9, 3) := dk_154 0 9 (dk_at dksX4_words_0 12 rfl rfl)
theorem dX4_words_15 : decode cX4_words 15 = .ok (.aload_n 0, 1) := dk_42 (dk_at dksX4_words_0 15 rfl rfl)
theorem dX4_words_16 : decode cX4_words 16 = .ok (.iconst 1, 1) := dk_4 (dk_at dksX4_words_0 16 rfl rfl)
theorem dX4_words_17 : decode cX4_words 17 = .ok (.invokevirtual 140, 3) := dk_182 0 140 (dk_at dksX4_words_0 17 rfl rfl)
theorem dX4_words_20 : decode cX4_words 20 = .ok (.ireturn, 1) := dk_172 (dk_at dksX4_words_0 20 rfl rfl)
theorem dX4_words_21 : decode cX4_words 21 = .ok (.aload_n 0, 1) := dk_42 (dk_at dksX4_words_0 21 rfl rfl)
theorem dX4_words_22 : decode cX4_words 22 = .ok (.iload_n 1, 1) := dk_27 (dk_at dksX4_words_0 22 rfl rfl)
theorem dX4_words_23 : decode cX4_words 23 = .ok (.putfield 64, 3) := dk_181 0 64 (dk_at dksX4_words_1 0 rfl rfl)
theorem dX4_words_26 : decode cX4_words 26 = .ok (.aload_n 0, 1) := dk_42 (dk_at dksX4_words_1 3 rfl rfl)
theorem dX4_words_27 : decode cX4_words 27 = .ok (.invokevirtual 48, 3) := dk_182 0 48 (dk_at dksX4_words_1 4 rfl rfl)
theorem dX4_words_30 : decode cX4_words 30 = .ok (.aload_n 0, 1) := dk_42 (dk_at dksX4_words_1 7 rfl rfl)
theorem dX4_words_31 : decode cX4_words 31 = .ok (.getfield 33, 3) := dk_180 0 33 (dk_at dksX4_words_1 8 rfl rfl)
theorem dX4_words_34 : decode cX4_words 34 = .ok (.iconst 0, 1) := dk_3 (dk_at dksX4_words_1 11 rfl rfl)
theorem dX4_words_35 : decode cX4_words 35 = .ok (.iaload, 1) := dk_46 (dk_at dksX4_words_1 12 rfl rfl)
theorem dX4_words_36 : decode cX4_words 36 = .ok (.ireturn, 1) := dk_172 (dk_at dksX4_words_1 13 rfl rfl)
abbrev cX4_leak : ByteArray := prog_17_method_43_code
def yX4_leak : MethodName := ⟨RX4, "leak", "(I)I"⟩
def dkwX4_leak_3 : List UInt8 := [180, 0, 71, 79, 42, 42, 180, 0, 71, 184, 0, 67, 181, 0, 71, 42, 180, 0, 33, 27, 46, 172]
abbrev dktX4_leak_3 : List UInt8 := dkwX4_leak_3 ++ []
def dkwX4_leak_2 : List UInt8 := [180, 0, 36, 42, 180, 0, 33, 27, 46, 184, 0, 179, 185, 0, 166, 2, 0, 87, 42, 180, 0, 33, 27, 42]
abbrev dktX4_leak_2 : List UInt8 := dkwX4_leak_2 ++ dktX4_leak_3
def dkwX4_leak_1 : List UInt8 := [16, 8, 160, 0, 9, 42, 5, 182, 0, 140, 172, 42, 89, 180, 0, 74, 4, 96, 181, 0, 74, 42]
abbrev dktX4_leak_1 : List UInt8 := dkwX4_leak_1 ++ dktX4_leak_2
def dkwX4_leak_0 : List UInt8 := [42, 3, 181, 0, 51, 27, 3, 6, 184, 0, 54, 154, 0, 9, 42, 4, 182, 0, 140, 172, 42, 180, 0, 74]
abbrev dktX4_leak_0 : List UInt8 := dkwX4_leak_0 ++ dktX4_leak_1
theorem dksX4_leak_0 : cX4_leak.data.toList.drop 0 = dktX4_leak_0 := by decide +kernel
theorem dksX4_leak_1 : cX4_leak.data.toList.drop 24 = dktX4_leak_1 := dk_seg dksX4_leak_0 24 rfl rfl
theorem dksX4_leak_2 : cX4_leak.data.toList.drop 46 = dktX4_leak_2 := dk_seg dksX4_leak_1 22 rfl rfl
theorem dksX4_leak_3 : cX4_leak.data.toList.drop 70 = dktX4_leak_3 := dk_seg dksX4_leak_2 24 rfl rfl
theorem dX4_leak_0 : decode cX4_leak 0 = .ok (.aload_n 0, 1) := dk_42 (dk_at dksX4_leak_0 0 rfl rfl)
theorem dX4_leak_1 : decode cX4_leak 1 = .ok (.iconst 0, 1) := dk_3 (dk_at dksX4_leak_0 1 rfl rfl)
theorem dX4_leak_2 : decode cX4_leak 2 = .ok (.putfield 51, 3) := dk_181 0 51 (dk_at dksX4_leak_0 2 rfl rfl)
theorem dX4_leak_5 : decode cX4_leak 5 = .ok (.iload_n 1, 1) := dk_27 (dk_at dksX4_leak_0 5 rfl rfl)
theorem dX4_leak_6 : decode cX4_leak 6 = .ok (.iconst 0, 1) := dk_3 (dk_at dksX4_leak_0 6 rfl rfl)
theorem dX4_leak_7 : decode cX4_leak 7 = .ok (.iconst 3, 1) := dk_6 (dk_at dksX4_leak_0 7 rfl rfl)
theorem dX4_leak_8 : decode cX4_leak 8 = .ok (.invokestatic 54, 3) := dk_184 0 54 (dk_at dksX4_leak_0 8 rfl rfl)
theorem dX4_leak_11 : decode cX4_leak 11 = .ok (.ifCond .ne 9, 3) := dk_154 0 9 (dk_at dksX4_leak_0 11 rfl rfl)
theorem dX4_leak_14 : decode cX4_leak 14 = .ok (.aload_n 0, 1) := dk_42 (dk_at dksX4_leak_0 14 rfl rfl)
theorem dX4_leak_15 : decode cX4_leak 15 = .ok (.iconst 1, 1) := dk_4 (dk_at dksX4_leak_0 15 rfl rfl)
theorem dX4_leak_16 : decode cX4_leak 16 = .ok (.invokevirtual 140, 3) := dk_182 0 140 (dk_at dksX4_leak_0 16 rfl rfl)
theorem dX4_leak_19 : decode cX4_leak 19 = .ok (.ireturn, 1) := dk_172 (dk_at dksX4_leak_0 19 rfl rfl)
theorem dX4_leak_20 : decode cX4_leak 20 = .ok (.aload_n 0, 1) := dk_42 (dk_at dksX4_leak_0 20 rfl rfl)
theorem dX4_leak_21 : decode cX4_leak 21 = .ok (.getfield 74, 3) := dk_180 0 74 (dk_at dksX4_leak_0 21 rfl rfl)
theorem dX4_leak_24 : decode cX4_leak 24 = .ok (.bipush 8, 2) := dk_16 8 (dk_at dksX4_leak_1 0 rfl rfl)
theorem dX4_leak_26 : decode cX4_leak 26 = .ok (.if_icmp .ne 9, 3) := dk_160 0 9 (dk_at dksX4_leak_1 2 rfl rfl)
theorem dX4_leak_29 : decode cX4_leak 29 = .ok (.aload_n 0, 1) := dk_42 (dk_at dksX4_leak_1 5 rfl rfl)
theorem dX4_leak_30 : decode cX4_leak 30 = .ok (.iconst 2, 1) := dk_5 (dk_at dksX4_leak_1 6 rfl rfl)
theorem dX4_leak_31 : decode cX4_leak 31 = .ok (.invokevirtual 140, 3) := dk_182 0 140 (dk_at dksX4_leak_1 7 rfl rfl)
theorem dX4_leak_34 : decode cX4_leak 34 = .ok (.ireturn, 1) := dk_172 (dk_at dksX4_leak_1 10 rfl rfl)
theorem dX4_leak_35 : decode cX4_leak 35 = .ok (.aload_n 0, 1) := dk_42 (dk_at dksX4_leak_1 11 rfl rfl)
theorem dX4_leak_36 : decode cX4_leak 36 = .ok (.dup, 1) := dk_89 (dk_at dksX4_leak_1 12 rfl rfl)
theorem dX4_leak_37 : decode cX4_leak 37 = .ok (.getfield 74, 3) := dk_180 0 74 (dk_at dksX4_leak_1 13 rfl rfl)
theorem dX4_leak_40 : decode cX4_leak 40 = .ok (.iconst 1, 1) := dk_4 (dk_at dksX4_leak_1 16 rfl rfl)
theorem dX4_leak_41 : decode cX4_leak 41 = .ok (.iadd, 1) := dk_96 (dk_at dksX4_leak_1 17 rfl rfl)
theorem dX4_leak_42 : decode cX4_leak 42 = .ok (.putfield 74, 3) := dk_181 0 74 (dk_at dksX4_leak_1 18 rfl rfl)
theorem dX4_leak_45 : decode cX4_leak 45 = .ok (.aload_n 0, 1) := dk_42 (dk_at dksX4_leak_1 21 rfl rfl)
theorem dX4_leak_46 : decode cX4_leak 46 = .ok (.getfield 36, 3) := dk_180 0 36 (dk_at dksX4_leak_2 0 rfl rfl)
theorem dX4_leak_49 : decode cX4_leak 49 = .ok (.aload_n 0, 1) := dk_42 (dk_at dksX4_leak_2 3 rfl rfl)
theorem dX4_leak_50 : decode cX4_leak 50 = .ok (.getfield 33, 3) := dk_180 0 33 (dk_at dksX4_leak_2 4 rfl rfl)
theorem dX4_leak_53 : decode cX4_leak 53 = .ok (.iload_n 1, 1) := dk_27 (dk_at dksX4_leak_2 7 rfl rfl)
theorem dX4_leak_54 : decode cX4_leak 54 = .ok (.iaload, 1) := dk_46 (dk_at dksX4_leak_2 8 rfl rfl)
theorem dX4_leak_55 : decode cX4_leak 55 = .ok (.invokestatic 179, 3) := dk_184 0 179 (dk_at dksX4_leak_2 9 rfl rfl)
theorem dX4_leak_58 : decode cX4_leak 58 = .ok (.invokeinterface 166 2, 5) := by decide +kernel
theorem dX4_leak_63 : decode cX4_leak 63 = .ok (.pop, 1) := dk_87 (dk_at dksX4_leak_2 17 rfl rfl)
theorem dX4_leak_64 : decode cX4_leak 64 = .ok (.aload_n 0, 1) := dk_42 (dk_at dksX4_leak_2 18 rfl rfl)
theorem dX4_leak_65 : decode cX4_leak 65 = .ok (.getfield 33, 3) := dk_180 0 33 (dk_at dksX4_leak_2 19 rfl rfl)
theorem dX4_leak_68 : decode cX4_leak 68 = .ok (.iload_n 1, 1) := dk_27 (dk_at dksX4_leak_2 22 rfl rfl)
theorem dX4_leak_69 : decode cX4_leak 69 = .ok (.aload_n 0, 1) := dk_42 (dk_at dksX4_leak_2 23 rfl rfl)
theorem dX4_leak_70 : decode cX4_leak 70 = .ok (.getfield 71, 3) := dk_180 0 71 (dk_at dksX4_leak_3 0 rfl rfl)
theorem dX4_leak_73 : decode cX4_leak 73 = .ok (.iastore, 1) := dk_79 (dk_at dksX4_leak_3 3 rfl rfl)
theorem dX4_leak_74 : decode cX4_leak 74 = .ok (.aload_n 0, 1) := dk_42 (dk_at dksX4_leak_3 4 rfl rfl)
theorem dX4_leak_75 : decode cX4_leak 75 = .ok (.aload_n 0, 1) := dk_42 (dk_at dksX4_leak_3 5 rfl rfl)
theorem dX4_leak_76 : decode cX4_leak 76 = .ok (.getfield 71, 3) := dk_180 0 71 (dk_at dksX4_leak_3 6 rfl rfl)
theorem dX4_leak_79 : decode cX4_leak 79 = .ok (.invokestatic 67, 3) := dk_184 0 67 (dk_at dksX4_leak_3 9 rfl rfl)
theorem dX4_leak_82 : decode cX4_leak 82 = .ok (.putfield 71, 3) := dk_181 0 71 (dk_at dksX4_leak_3 12 rfl rfl)
theorem dX4_leak_85 : decode cX4_leak 85 = .ok (.aload_n 0, 1) := dk_42 (dk_at dksX4_leak_3 15 rfl rfl)
theorem dX4_leak_86 : decode cX4_leak 86 = .ok (.getfield 33, 3) := dk_180 0 33 (dk_at dksX4_leak_3 16 rfl rfl)
theorem dX4_leak_89 : decode cX4_leak 89 = .ok (.iload_n 1, 1) := dk_27 (dk_at dksX4_leak_3 19 rfl rfl)
theorem dX4_leak_90 : decode cX4_leak 90 = .ok (.iaload, 1) := dk_46 (dk_at dksX4_leak_3 20 rfl rfl)
theorem dX4_leak_91 : decode cX4_leak 91 = .ok (.ireturn, 1) := dk_172 (dk_at dksX4_leak_3 21 rfl rfl)
abbrev cX4_answer : ByteArray := prog_17_method_45_code
def yX4_answer : MethodName := ⟨RX4, "answer", "(III)I"⟩
def dkwX4_answer_5 : List UInt8 := [172]
abbrev dktX4_answer_5 : List UInt8 := dkwX4_answer_5 ++ []
def dkwX4_answer_4 : List UInt8 := [180, 0, 77, 4, 96, 181, 0, 77, 167, 0, 14, 25, 4, 89, 180, 0, 86, 4, 96, 181, 0, 86, 21, 5]
abbrev dktX4_answer_4 : List UInt8 := dkwX4_answer_4 ++ dktX4_answer_5
def dkwX4_answer_3 : List UInt8 := [21, 5, 154, 0, 32, 25, 4, 89, 180, 0, 89, 4, 28, 16, 60, 108, 120, 128, 181, 0, 89, 42, 89]
abbrev dktX4_answer_3 : List UInt8 := dkwX4_answer_3 ++ dktX4_answer_4
def dkwX4_answer_2 : List UInt8 := [25, 4, 180, 0, 86, 6, 160, 0, 5, 7, 172, 42, 25, 4, 28, 16, 60, 108, 29, 182, 0, 212, 54, 5]
abbrev dktX4_answer_2 : List UInt8 := dkwX4_answer_2 ++ dktX4_answer_3
def dkwX4_answer_1 : List UInt8 := [154, 0, 9, 42, 5, 182, 0, 140, 172, 42, 180, 0, 27, 27, 185, 0, 80, 2, 0, 192, 0, 84, 58, 4]
abbrev dktX4_answer_1 : List UInt8 := dkwX4_answer_1 ++ dktX4_answer_2
def dkwX4_answer_0 : List UInt8 := [42, 3, 181, 0, 51, 42, 27, 182, 0, 176, 154, 0, 9, 42, 4, 182, 0, 140, 172, 28, 184, 0, 163]
abbrev dktX4_answer_0 : List UInt8 := dkwX4_answer_0 ++ dktX4_answer_1
theorem dksX4_answer_0 : cX4_answer.data.toList.drop 0 = dktX4_answer_0 := by decide +kernel
theorem dksX4_answer_1 : cX4_answer.data.toList.drop 23 = dktX4_answer_1 := dk_seg dksX4_answer_0 23 rfl rfl
theorem dksX4_answer_2 : cX4_answer.data.toList.drop 47 = dktX4_answer_2 := dk_seg dksX4_answer_1 24 rfl rfl
theorem dksX4_answer_3 : cX4_answer.data.toList.drop 71 = dktX4_answer_3 := dk_seg dksX4_answer_2 24 rfl rfl
theorem dksX4_answer_4 : cX4_answer.data.toList.drop 94 = dktX4_answer_4 := dk_seg dksX4_answer_3 23 rfl rfl
theorem dksX4_answer_5 : cX4_answer.data.toList.drop 118 = dktX4_answer_5 := dk_seg dksX4_answer_4 24 rfl rfl
theorem dX4_answer_0 : decode cX4_answer 0 = .ok (.aload_n 0, 1) := dk_42 (dk_at dksX4_answer_0 0 rfl rfl)
theorem dX4_answer_1 : decode cX4_answer 1 = .ok (.iconst 0, 1) := dk_3 (dk_at dksX4_answer_0 1 rfl rfl)
theorem dX4_answer_2 : decode cX4_answer 2 = .ok (.putfield 51, 3) := dk_181 0 51 (dk_at dksX4_answer_0 2 rfl rfl)
theorem dX4_answer_5 : decode cX4_answer 5 = .ok (.aload_n 0, 1) := dk_42 (dk_at dksX4_answer_0 5 rfl rfl)
theorem dX4_answer_6 : decode cX4_answer 6 = .ok (.iload_n 1, 1) := dk_27 (dk_at dksX4_answer_0 6 rfl rfl)
theorem dX4_answer_7 : decode cX4_answer 7 = .ok (.invokevirtual 176, 3) := dk_182 0 176 (dk_at dksX4_answer_0 7 rfl rfl)
theorem dX4_answer_10 : decode cX4_answer 10 = .ok (.ifCond .ne 9, 3) := dk_154 0 9 (dk_at dksX4_answer_0 10 rfl rfl)
theorem dX4_answer_13 : decode cX4_answer 13 = .ok (.aload_n 0, 1) := dk_42 (dk_at dksX4_answer_0 13 rfl rfl)
theorem dX4_answer_14 : decode cX4_answer 14 = .ok (.iconst 1, 1) := dk_4 (dk_at dksX4_answer_0 14 rfl rfl)
theorem dX4_answer_15 : decode cX4_answer 15 = .ok (.invokevirtual 140, 3) := dk_182 0 140 (dk_at dksX4_answer_0 15 rfl rfl)
theorem dX4_answer_18 : decode cX4_answer 18 = .ok (.ireturn, 1) := dk_172 (dk_at dksX4_answer_0 18 rfl rfl)
theorem dX4_answer_19 : decode cX4_answer 19 = .ok (.iload_n 2, 1) := dk_28 (dk_at dksX4_answer_0 19 rfl rfl)
theorem dX4_answer_20 : decode cX4_answer 20 = .ok (.invokestatic 163, 3) := dk_184 0 163 (dk_at dksX4_answer_0 20 rfl rfl)
theorem dX4_answer_23 : decode cX4_answer 23 = .ok (.ifCond .ne 9, 3) := dk_154 0 9 (dk_at dksX4_answer_1 0 rfl rfl)
theorem dX4_answer_26 : decode cX4_answer 26 = .ok (.aload_n 0, 1) := dk_42 (dk_at dksX4_answer_1 3 rfl rfl)
theorem dX4_answer_27 : decode cX4_answer 27 = .ok (.iconst 2, 1) := dk_5 (dk_at dksX4_answer_1 4 rfl rfl)
theorem dX4_answer_28 : decode cX4_answer 28 = .ok (.invokevirtual 140, 3) := dk_182 0 140 (dk_at dksX4_answer_1 5 rfl rfl)
theorem dX4_answer_31 : decode cX4_answer 31 = .ok (.ireturn, 1) := dk_172 (dk_at dksX4_answer_1 8 rfl rfl)
theorem dX4_answer_32 : decode cX4_answer 32 = .ok (.aload_n 0, 1) := dk_42 (dk_at dksX4_answer_1 9 rfl rfl)
theorem dX4_answer_33 : decode cX4_answer 33 = .ok (.getfield 27, 3) := dk_180 0 27 (dk_at dksX4_answer_1 10 rfl rfl)
theorem dX4_answer_36 : decode cX4_answer 36 = .ok (.iload_n 1, 1) := dk_27 (dk_at dksX4_answer_1 13 rfl rfl)
theorem dX4_answer_37 : decode cX4_answer 37 = .ok (.invokeinterface 80 2, 5) := by decide +kernel
theorem dX4_answer_42 : decode cX4_answer 42 = .ok (.checkcast 84, 3) := dk_192 0 84 (dk_at dksX4_answer_1 19 rfl rfl)
theorem dX4_answer_45 : decode cX4_answer 45 = .ok (.astore 4, 2) := dk_58 4 (dk_at dksX4_answer_1 22 rfl rfl)
theorem dX4_answer_47 : decode cX4_answer 47 = .ok (.aload 4, 2) := dk_25 4 (dk_at dksX4_answer_2 0 rfl rfl)
theorem dX4_answer_49 : decode cX4_answer 49 = .ok (.getfield 86, 3) := dk_180 0 86 (dk_at dksX4_answer_2 2 rfl rfl)
theorem dX4_answer_52 : decode cX4_answer 52 = .ok (.iconst 3, 1) := dk_6 (dk_at dksX4_answer_2 5 rfl rfl)
theorem dX4_answer_53 : decode cX4_answer 53 = .ok (.if_icmp .ne 5, 3) := dk_160 0 5 (dk_at dksX4_answer_2 6 rfl rfl)
theorem dX4_answer_56 : decode cX4_answer 56 = .ok (.iconst 4, 1) := dk_7 (dk_at dksX4_answer_2 9 rfl rfl)
theorem dX4_answer_57 : decode cX4_answer 57 = .ok (.ireturn, 1) := dk_172 (dk_at dksX4_answer_2 10 rfl rfl)
theorem dX4_answer_58 : decode cX4_answer 58 = .ok (.aload_n 0, 1) := dk_42 (dk_at dksX4_answer_2 11 rfl rfl)
theorem dX4_answer_59 : decode cX4_answer 59 = .ok (.aload 4, 2) := dk_25 4 (dk_at dksX4_answer_2 12 rfl rfl)
theorem dX4_answer_61 : decode cX4_answer 61 = .ok (.iload_n 2, 1) := dk_28 (dk_at dksX4_answer_2 14 rfl rfl)
theorem dX4_answer_62 : decode cX4_answer 62 = .ok (.bipush 60, 2) := dk_16 60 (dk_at dksX4_answer_2 15 rfl rfl)
theorem dX4_answer_64 : decode cX4_answer 64 = .ok (.idiv, 1) := dk_108 (dk_at dksX4_answer_2 17 rfl rfl)
theorem dX4_answer_65 : decode cX4_answer 65 = .ok (.iload_n 3, 1) := dk_29 (dk_at dksX4_answer_2 18 rfl rfl)
theorem dX4_answer_66 : decode cX4_answer 66 = .ok (.invokevirtual 212, 3) := dk_182 0 212 (dk_at dksX4_answer_2 19 rfl rfl)
theorem dX4_answer_69 : decode cX4_answer 69 = .ok (.istore 5, 2) := dk_54 5 (dk_at dksX4_answer_2 22 rfl rfl)
theorem dX4_answer_71 : decode cX4_answer 71 = .ok (.iload 5, 2) := dk_21 5 (dk_at dksX4_answer_3 0 rfl rfl)
theorem dX4_answer_73 : decode cX4_answer 73 = .ok (.ifCond .ne 32, 3) := dk_154 0 32 (dk_at dksX4_answer_3 2 rfl rfl)
theorem dX4_answer_76 : decode cX4_answer 76 = .ok (.aload 4, 2) := dk_25 4 (dk_at dksX4_answer_3 5 rfl rfl)
theorem dX4_answer_78 : decode cX4_answer 78 = .ok (.dup, 1) := dk_89 (dk_at dksX4_answer_3 7 rfl rfl)
theorem dX4_answer_79 : decode cX4_answer 79 = .ok (.getfield 89, 3) := dk_180 0 89 (dk_at dksX4_answer_3 8 rfl rfl)
theorem dX4_answer_82 : decode cX4_answer 82 = .ok (.iconst 1, 1) := dk_4 (dk_at dksX4_answer_3 11 rfl rfl)
theorem dX4_answer_83 : decode cX4_answer 83 = .ok (.iload_n 2, 1) := dk_28 (dk_at dksX4_answer_3 12 rfl rfl)
theorem dX4_answer_84 : decode cX4_answer 84 = .ok (.bipush 60, 2) := dk_16 60 (dk_at dksX4_answer_3 13 rfl rfl)
theorem dX4_answer_86 : decode cX4_answer 86 = .ok (.idiv, 1) := dk_108 (dk_at dksX4_answer_3 15 rfl rfl)
theorem dX4_answer_87 : decode cX4_answer 87 = .ok (.ishl, 1) := dk_120 (dk_at dksX4_answer_3 16 rfl rfl)
theorem dX4_answer_88 : decode cX4_answer 88 = .ok (.ior, 1) := dk_128 (dk_at dksX4_answer_3 17 rfl rfl)
theorem dX4_answer_89 : decode cX4_answer 89 = .ok (.putfield 89, 3) := dk_181 0 89 (dk_at dksX4_answer_3 18 rfl rfl)
theorem dX4_answer_92 : decode cX4_answer 92 = .ok (.aload_n 0, 1) := dk_42 (dk_at dksX4_answer_3 21 rfl rfl)
theorem dX4_answer_93 : decode cX4_answer 93 = .ok (.dup, 1) := dk_89 (dk_at dksX4_answer_3 22 rfl rfl)
theorem dX4_answer_94 : decode cX4_answer 94 = .ok (.getfield 77, 3) := dk_180 0 77 (dk_at dksX4_answer_4 0 rfl rfl)
theorem dX4_answer_97 : decode cX4_answer 97 = .ok (.iconst 1, 1) := dk_4 (dk_at dksX4_answer_4 3 rfl rfl)
theorem dX4_answer_98 : decode cX4_answer 98 = .ok (.iadd, 1) := dk_96 (dk_at dksX4_answer_4 4 rfl rfl)
theorem dX4_answer_99 : decode cX4_answer 99 = .ok (.putfield 77, 3) := dk_181 0 77 (dk_at dksX4_answer_4 5 rfl rfl)
theorem dX4_answer_102 : decode cX4_answer 102 = .ok (.goto 14, 3) := dk_167 0 14 (dk_at dksX4_answer_4 8 rfl rfl)
theorem dX4_answer_105 : decode cX4_answer 105 = .ok (.aload 4, 2) := dk_25 4 (dk_at dksX4_answer_4 11 rfl rfl)
theorem dX4_answer_107 : decode cX4_answer 107 = .ok (.dup, 1) := dk_89 (dk_at dksX4_answer_4 13 rfl rfl)
theorem dX4_answer_108 : decode cX4_answer 108 = .ok (.getfield 86, 3) := dk_180 0 86 (dk_at dksX4_answer_4 14 rfl rfl)
theorem dX4_answer_111 : decode cX4_answer 111 = .ok (.iconst 1, 1) := dk_4 (dk_at dksX4_answer_4 17 rfl rfl)
theorem dX4_answer_112 : decode cX4_answer 112 = .ok (.iadd, 1) := dk_96 (dk_at dksX4_answer_4 18 rfl rfl)
theorem dX4_answer_113 : decode cX4_answer 113 = .ok (.putfield 86, 3) := dk_181 0 86 (dk_at dksX4_answer_4 19 rfl rfl)
theorem dX4_answer_116 : decode cX4_answer 116 = .ok (.iload 5, 2) := dk_21 5 (dk_at dksX4_answer_4 22 rfl rfl)
theorem dX4_answer_118 : decode cX4_answer 118 = .ok (.ireturn, 1) := dk_172 (dk_at dksX4_answer_5 0 rfl rfl)
abbrev cX4_judged : ByteArray := prog_17_method_44_code
def yX4_judged : MethodName := ⟨RX4, "judged", "(LNightwatchWallModel$Guard;II)I"⟩
def dkwX4_judged_5 : List UInt8 := [172]
abbrev dktX4_judged_5 : List UInt8 := dkwX4_judged_5 ++ []
def dkwX4_judged_4 : List UInt8 := [185, 0, 80, 2, 0, 192, 0, 108, 182, 0, 146, 29, 160, 0, 5, 5, 172, 132, 4, 1, 167, 255, 216, 6]
abbrev dktX4_judged_4 : List UInt8 := dkwX4_judged_4 ++ dktX4_judged_5
def dkwX4_judged_3 : List UInt8 := [3, 54, 4, 21, 4, 42, 180, 0, 36, 185, 0, 58, 1, 0, 162, 0, 32, 42, 180, 0, 36, 21, 4]
abbrev dktX4_judged_3 : List UInt8 := dkwX4_judged_3 ++ dktX4_judged_4
def dkwX4_judged_2 : List UInt8 := [162, 0, 24, 25, 4, 21, 6, 46, 54, 7, 21, 7, 29, 160, 0, 5, 5, 172, 132, 6, 1, 167, 255, 231]
abbrev dktX4_judged_2 : List UInt8 := dkwX4_judged_2 ++ dktX4_judged_3
def dkwX4_judged_1 : List UInt8 := [167, 0, 4, 4, 172, 42, 180, 0, 33, 58, 4, 25, 4, 190, 54, 5, 3, 54, 6, 21, 6, 21, 5]
abbrev dktX4_judged_1 : List UInt8 := dkwX4_judged_1 ++ dktX4_judged_2
def dkwX4_judged_0 : List UInt8 := [29, 42, 180, 0, 33, 28, 46, 160, 0, 20, 43, 180, 0, 89, 28, 122, 4, 126, 154, 0, 7, 3]
abbrev dktX4_judged_0 : List UInt8 := dkwX4_judged_0 ++ dktX4_judged_1
theorem dksX4_judged_0 : cX4_judged.data.toList.drop 0 = dktX4_judged_0 := by decide +kernel
theorem dksX4_judged_1 : cX4_judged.data.toList.drop 22 = dktX4_judged_1 := dk_seg dksX4_judged_0 22 rfl rfl
theorem dksX4_judged_2 : cX4_judged.data.toList.drop 45 = dktX4_judged_2 := dk_seg dksX4_judged_1 23 rfl rfl
theorem dksX4_judged_3 : cX4_judged.data.toList.drop 69 = dktX4_judged_3 := dk_seg dksX4_judged_2 24 rfl rfl
theorem dksX4_judged_4 : cX4_judged.data.toList.drop 92 = dktX4_judged_4 := dk_seg dksX4_judged_3 23 rfl rfl
theorem dksX4_judged_5 : cX4_judged.data.toList.drop 116 = dktX4_judged_5 := dk_seg dksX4_judged_4 24 rfl rfl
theorem dX4_judged_0 : decode cX4_judged 0 = .ok (.iload_n 3, 1) := dk_29 (dk_at dksX4_judged_0 0 rfl rfl)
theorem dX4_judged_1 : decode cX4_judged 1 = .ok (.aload_n 0, 1) := dk_42 (dk_at dksX4_judged_0 1 rfl rfl)
theorem dX4_judged_2 : decode cX4_judged 2 = .ok (.getfield 33, 3) := dk_180 0 33 (dk_at dksX4_judged_0 2 rfl rfl)
theorem dX4_judged_5 : decode cX4_judged 5 = .ok (.iload_n 2, 1) := dk_28 (dk_at dksX4_judged_0 5 rfl rfl)
theorem dX4_judged_6 : decode cX4_judged 6 = .ok (.iaload, 1) := dk_46 (dk_at dksX4_judged_0 6 rfl rfl)
theorem dX4_judged_7 : decode cX4_judged 7 = .ok (.if_icmp .ne 20, 3) := dk_160 0 20 (dk_at dksX4_judged_0 7 rfl rfl)
theorem dX4_judged_10 : decode cX4_judged 10 = .ok (.aload_n 1, 1) := dk_43 (dk_at dksX4_judged_0 10 rfl rfl)
theorem dX4_judged_11 : decode cX4_judged 11 = .ok (.getfield 89, 3) := dk_180 0 89 (dk_at dksX4_judged_0 11 rfl rfl)
theorem dX4_judged_14 : decode cX4_judged 14 = .ok (.iload_n 2, 1) := dk_28 (dk_at dksX4_judged_0 14 rfl rfl)
theorem dX4_judged_15 : decode cX4_judged 15 = .ok (.ishr, 1) := dk_122 (dk_at dksX4_judged_0 15 rfl rfl)
theorem dX4_judged_16 : decode cX4_judged 16 = .ok (.iconst 1, 1) := dk_4 (dk_at dksX4_judged_0 16 rfl rfl)
theorem dX4_judged_17 : decode cX4_judged 17 = .ok (.iand, 1) := dk_126 (dk_at dksX4_judged_0 17 rfl rfl)
theorem dX4_judged_18 : decode cX4_judged 18 = .ok (.ifCond .ne 7, 3) := dk_154 0 7 (dk_at dksX4_judged_0 18 rfl rfl)
theorem dX4_judged_21 : decode cX4_judged 21 = .ok (.iconst 0, 1) := dk_3 (dk_at dksX4_judged_0 21 rfl rfl)
theorem dX4_judged_22 : decode cX4_judged 22 = .ok (.goto 4, 3) := dk_167 0 4 (dk_at dksX4_judged_1 0 rfl rfl)
theorem dX4_judged_25 : decode cX4_judged 25 = .ok (.iconst 1, 1) := dk_4 (dk_at dksX4_judged_1 3 rfl rfl)
theorem dX4_judged_26 : decode cX4_judged 26 = .ok (.ireturn, 1) := dk_172 (dk_at dksX4_judged_1 4 rfl rfl)
theorem dX4_judged_27 : decode cX4_judged 27 = .ok (.aload_n 0, 1) := dk_42 (dk_at dksX4_judged_1 5 rfl rfl)
theorem dX4_judged_28 : decode cX4_judged 28 = .ok (.getfield 33, 3) := dk_180 0 33 (dk_at dksX4_judged_1 6 rfl rfl)
theorem dX4_judged_31 : decode cX4_judged 31 = .ok (.astore 4, 2) := dk_58 4 (dk_at dksX4_judged_1 9 rfl rfl)
theorem dX4_judged_33 : decode cX4_judged 33 = .ok (.aload 4, 2) := dk_25 4 (dk_at dksX4_judged_1 11 rfl rfl)
theorem dX4_judged_35 : decode cX4_judged 35 = .ok (.arraylength, 1) := dk_190 (dk_at dksX4_judged_1 13 rfl rfl)
theorem dX4_judged_36 : decode cX4_judged 36 = .ok (.istore 5, 2) := dk_54 5 (dk_at dksX4_judged_1 14 rfl rfl)
theorem dX4_judged_38 : decode cX4_judged 38 = .ok (.iconst 0, 1) := dk_3 (dk_at dksX4_judged_1 16 rfl rfl)
theorem dX4_judged_39 : decode cX4_judged 39 = .ok (.istore 6, 2) := dk_54 6 (dk_at dksX4_judged_1 17 rfl rfl)
theorem dX4_judged_41 : decode cX4_judged 41 = .ok (.iload 6, 2) := dk_21 6 (dk_at dksX4_judged_1 19 rfl rfl)
theorem dX4_judged_43 : decode cX4_judged 43 = .ok (.iload 5, 2) := dk_21 5 (dk_at dksX4_judged_1 21 rfl rfl)
theorem dX4_judged_45 : decode cX4_judged 45 = .ok (.if_icmp .ge 24, 3) := dk_162 0 24 (dk_at dksX4_judged_2 0 rfl rfl)
theorem dX4_judged_48 : decode cX4_judged 48 = .ok (.aload 4, 2) := dk_25 4 (dk_at dksX4_judged_2 3 rfl rfl)
theorem dX4_judged_50 : decode cX4_judged 50 = .ok (.iload 6, 2) := dk_21 6 (dk_at dksX4_judged_2 5 rfl rfl)
theorem dX4_judged_52 : decode cX4_judged 52 = .ok (.iaload, 1) := dk_46 (dk_at dksX4_judged_2 7 rfl rfl)
theorem dX4_judged_53 : decode cX4_judged 53 = .ok (.istore 7, 2) := dk_54 7 (dk_at dksX4_judged_2 8 rfl rfl)
theorem dX4_judged_55 : decode cX4_judged 55 = .ok (.iload 7, 2) := dk_21 7 (dk_at dksX4_judged_2 10 rfl rfl)
theorem dX4_judged_57 : decode cX4_judged 57 = .ok (.iload_n 3, 1) := dk_29 (dk_at dksX4_judged_2 12 rfl rfl)
theorem dX4_judged_58 : decode cX4_judged 58 = .ok (.if_icmp .ne 5, 3) := dk_160 0 5 (dk_at dksX4_judged_2 13 rfl rfl)
theorem dX4_judged_61 : decode cX4_judged 61 = .ok (.iconst 2, 1) := dk_5 (dk_at dksX4_judged_2 16 rfl rfl)
theorem dX4_judged_62 : decode cX4_judged 62 = .ok (.ireturn, 1) := dk_172 (dk_at dksX4_judged_2 17 rfl rfl)
theorem dX4_judged_63 : decode cX4_judged 63 = .ok (.iinc 6 1, 3) := dk_132 6 1 (dk_at dksX4_judged_2 18 rfl rfl)
theorem dX4_judged_66 : decode cX4_judged 66 = .ok (.goto (-25), 3) := dk_167 255 231 (dk_at dksX4_judged_2 21 rfl rfl)
theorem dX4_judged_69 : decode cX4_judged 69 = .ok (.iconst 0, 1) := dk_3 (dk_at dksX4_judged_3 0 rfl rfl)
theorem dX4_judged_70 : decode cX4_judged 70 = .ok (.istore 4, 2) := dk_54 4 (dk_at dksX4_judged_3 1 rfl rfl)
theorem dX4_judged_72 : decode cX4_judged 72 = .ok (.iload 4, 2) := dk_21 4 (dk_at dksX4_judged_3 3 rfl rfl)
theorem dX4_judged_74 : decode cX4_judged 74 = .ok (.aload_n 0, 1) := dk_42 (dk_at dksX4_judged_3 5 rfl rfl)
theorem dX4_judged_75 : decode cX4_judged 75 = .ok (.getfield 36, 3) := dk_180 0 36 (dk_at dksX4_judged_3 6 rfl rfl)
theorem dX4_judged_78 : decode cX4_judged 78 = .ok (.invokeinterface 58 1, 5) := by decide +kernel
theorem dX4_judged_83 : decode cX4_judged 83 = .ok (.if_icmp .ge 32, 3) := dk_162 0 32 (dk_at dksX4_judged_3 14 rfl rfl)
theorem dX4_judged_86 : decode cX4_judged 86 = .ok (.aload_n 0, 1) := dk_42 (dk_at dksX4_judged_3 17 rfl rfl)
theorem dX4_judged_87 : decode cX4_judged 87 = .ok (.getfield 36, 3) := dk_180 0 36 (dk_at dksX4_judged_3 18 rfl rfl)
theorem dX4_judged_90 : decode cX4_judged 90 = .ok (.iload 4, 2) := dk_21 4 (dk_at dksX4_judged_3 21 rfl rfl)
theorem dX4_judged_92 : decode cX4_judged 92 = .ok (.invokeinterface 80 2, 5) := by decide +kernel
theorem dX4_judged_97 : decode cX4_judged 97 = .ok (.checkcast 108, 3) := dk_192 0 108 (dk_at dksX4_judged_4 5 rfl rfl)
theorem dX4_judged_100 : decode cX4_judged 100 = .ok (.invokevirtual 146, 3) := dk_182 0 146 (dk_at dksX4_judged_4 8 rfl rfl)
theorem dX4_judged_103 : decode cX4_judged 103 = .ok (.iload_n 3, 1) := dk_29 (dk_at dksX4_judged_4 11 rfl rfl)
theorem dX4_judged_104 : decode cX4_judged 104 = .ok (.if_icmp .ne 5, 3) := dk_160 0 5 (dk_at dksX4_judged_4 12 rfl rfl)
theorem dX4_judged_107 : decode cX4_judged 107 = .ok (.iconst 2, 1) := dk_5 (dk_at dksX4_judged_4 15 rfl rfl)
theorem dX4_judged_108 : decode cX4_judged 108 = .ok (.ireturn, 1) := dk_172 (dk_at dksX4_judged_4 16 rfl rfl)
theorem dX4_judged_109 : decode cX4_judged 109 = .ok (.iinc 4 1, 3) := dk_132 4 1 (dk_at dksX4_judged_4 17 rfl rfl)
theorem dX4_judged_112 : decode cX4_judged 112 = .ok (.goto (-40), 3) := dk_167 255 216 (dk_at dksX4_judged_4 20 rfl rfl)
theorem dX4_judged_115 : decode cX4_judged 115 = .ok (.iconst 3, 1) := dk_6 (dk_at dksX4_judged_4 23 rfl rfl)
theorem dX4_judged_116 : decode cX4_judged 116 = .ok (.ireturn, 1) := dk_172 (dk_at dksX4_judged_5 0 rfl rfl)
abbrev cX4_key : ByteArray := prog_17_method_46_code
def yX4_key : MethodName := ⟨RX4, "key", "(II)I"⟩
def dkwX4_key_2 : List UInt8 := [172]
abbrev dktX4_key_2 : List UInt8 := dkwX4_key_2 ++ []
def dkwX4_key_1 : List UInt8 := [154, 0, 9, 42, 4, 182, 0, 140, 172, 42, 180, 0, 39, 27, 46, 62, 42, 180, 0, 39, 27, 28, 79, 29]
abbrev dktX4_key_1 : List UInt8 := dkwX4_key_1 ++ dktX4_key_2
def dkwX4_key_0 : List UInt8 := [42, 3, 181, 0, 51, 27, 3, 8, 184, 0, 54, 153, 0, 16, 28, 2, 159, 0, 17, 42, 28, 182, 0, 176]
abbrev dktX4_key_0 : List UInt8 := dkwX4_key_0 ++ dktX4_key_1
theorem dksX4_key_0 : cX4_key.data.toList.drop 0 = dktX4_key_0 := by decide +kernel
theorem dksX4_key_1 : cX4_key.data.toList.drop 24 = dktX4_key_1 := dk_seg dksX4_key_0 24 rfl rfl
theorem dksX4_key_2 : cX4_key.data.toList.drop 48 = dktX4_key_2 := dk_seg dksX4_key_1 24 rfl rfl
theorem dX4_key_0 : decode cX4_key 0 = .ok (.aload_n 0, 1) := dk_42 (dk_at dksX4_key_0 0 rfl rfl)
theorem dX4_key_1 : decode cX4_key 1 = .ok (.iconst 0, 1) := dk_3 (dk_at dksX4_key_0 1 rfl rfl)
theorem dX4_key_2 : decode cX4_key 2 = .ok (.putfield 51, 3) := dk_181 0 51 (dk_at dksX4_key_0 2 rfl rfl)
theorem dX4_key_5 : decode cX4_key 5 = .ok (.iload_n 1, 1) := dk_27 (dk_at dksX4_key_0 5 rfl rfl)
theorem dX4_key_6 : decode cX4_key 6 = .ok (.iconst 0, 1) := dk_3 (dk_at dksX4_key_0 6 rfl rfl)
theorem dX4_key_7 : decode cX4_key 7 = .ok (.iconst 5, 1) := dk_8 (dk_at dksX4_key_0 7 rfl rfl)
theorem dX4_key_8 : decode cX4_key 8 = .ok (.invokestatic 54, 3) := dk_184 0 54 (dk_at dksX4_key_0 8 rfl rfl)
theorem dX4_key_11 : decode cX4_key 11 = .ok (.ifCond .eq 16, 3) := dk_153 0 16 (dk_at dksX4_key_0 11 rfl rfl)
theorem dX4_key_14 : decode cX4_key 14 = .ok (.iload_n 2, 1) := dk_28 (dk_at dksX4_key_0 14 rfl rfl)
theorem dX4_key_15 : decode cX4_key 15 = .ok (.iconst (-1), 1) := dk_2 (dk_at dksX4_key_0 15 rfl rfl)
theorem dX4_key_16 : decode cX4_key 16 = .ok (.if_icmp .eq 17, 3) := dk_159 0 17 (dk_at dksX4_key_0 16 rfl rfl)
theorem dX4_key_19 : decode cX4_key 19 = .ok (.aload_n 0, 1) := dk_42 (dk_at dksX4_key_0 19 rfl rfl)
theorem dX4_key_20 : decode cX4_key 20 = .ok (.iload_n 2, 1) := dk_28 (dk_at dksX4_key_0 20 rfl rfl)
theorem dX4_key_21 : decode cX4_key 21 = .ok (.invokevirtual 176, 3) := dk_182 0 176 (dk_at dksX4_key_0 21 rfl rfl)
theorem dX4_key_24 : decode cX4_key 24 = .ok (.ifCond .ne 9, 3) := dk_154 0 9 (dk_at dksX4_key_1 0 rfl rfl)
theorem dX4_key_27 : decode cX4_key 27 = .ok (.aload_n 0, 1) := dk_42 (dk_at dksX4_key_1 3 rfl rfl)
theorem dX4_key_28 : decode cX4_key 28 = .ok (.iconst 1, 1) := dk_4 (dk_at dksX4_key_1 4 rfl rfl)
theorem dX4_key_29 : decode cX4_key 29 = .ok (.invokevirtual 140, 3) := dk_182 0 140 (dk_at dksX4_key_1 5 rfl rfl)
theorem dX4_key_32 : decode cX4_key 32 = .ok (.ireturn, 1) := dk_172 (dk_at dksX4_key_1 8 rfl rfl)
theorem dX4_key_33 : decode cX4_key 33 = .ok (.aload_n 0, 1) := dk_42 (dk_at dksX4_key_1 9 rfl rfl)
theorem dX4_key_34 : decode cX4_key 34 = .ok (.getfield 39, 3) := dk_180 0 39 (dk_at dksX4_key_1 10 rfl rfl)
theorem dX4_key_37 : decode cX4_key 37 = .ok (.iload_n 1, 1) := dk_27 (dk_at dksX4_key_1 13 rfl rfl)
theorem dX4_key_38 : decode cX4_key 38 = .ok (.iaload, 1) := dk_46 (dk_at dksX4_key_1 14 rfl rfl)
theorem dX4_key_39 : decode cX4_key 39 = .ok (.istore_n 3, 1) := dk_62 (dk_at dksX4_key_1 15 rfl rfl)
theorem dX4_key_40 : decode cX4_key 40 = .ok (.aload_n 0, 1) := dk_42 (dk_at dksX4_key_1 16 rfl rfl)
theorem dX4_key_41 : decode cX4_key 41 = .ok (.getfield 39, 3) := dk_180 0 39 (dk_at dksX4_key_1 17 rfl rfl)
theorem dX4_key_44 : decode cX4_key 44 = .ok (.iload_n 1, 1) := dk_27 (dk_at dksX4_key_1 20 rfl rfl)
theorem dX4_key_45 : decode cX4_key 45 = .ok (.iload_n 2, 1) := dk_28 (dk_at dksX4_key_1 21 rfl rfl)
theorem dX4_key_46 : decode cX4_key 46 = .ok (.iastore, 1) := dk_79 (dk_at dksX4_key_1 22 rfl rfl)
theorem dX4_key_47 : decode cX4_key 47 = .ok (.iload_n 3, 1) := dk_29 (dk_at dksX4_key_1 23 rfl rfl)
theorem dX4_key_48 : decode cX4_key 48 = .ok (.ireturn, 1) := dk_172 (dk_at dksX4_key_2 0 rfl rfl)
abbrev cX4_ofGuard : ByteArray := prog_17_method_48_code
def yX4_ofGuard : MethodName := ⟨RX4, "ofGuard", "(II)I"⟩
def dkwX4_ofGuard_1 : List UInt8 := [184, 0, 54, 154, 0, 9, 42, 5, 182, 0, 140, 172, 42, 27, 28, 182, 0, 225, 172]
abbrev dktX4_ofGuard_1 : List UInt8 := dkwX4_ofGuard_1 ++ []
def dkwX4_ofGuard_0 : List UInt8 := [42, 3, 181, 0, 51, 42, 27, 182, 0, 176, 154, 0, 9, 42, 4, 182, 0, 140, 172, 28, 3, 16, 8]
abbrev dktX4_ofGuard_0 : List UInt8 := dkwX4_ofGuard_0 ++ dktX4_ofGuard_1
theorem dksX4_ofGuard_0 : cX4_ofGuard.data.toList.drop 0 = dktX4_ofGuard_0 := by decide +kernel
theorem dksX4_ofGuard_1 : cX4_ofGuard.data.toList.drop 23 = dktX4_ofGuard_1 := dk_seg dksX4_ofGuard_0 23 rfl rfl
theorem dX4_ofGuard_0 : decode cX4_ofGuard 0 = .ok (.aload_n 0, 1) := dk_42 (dk_at dksX4_ofGuard_0 0 rfl rfl)
theorem dX4_ofGuard_1 : decode cX4_ofGuard 1 = .ok (.iconst 0, 1) := dk_3 (dk_at dksX4_ofGuard_0 1 rfl rfl)
theorem dX4_ofGuard_2 : decode cX4_ofGuard 2 = .ok (.putfield 51, 3) := dk_181 0 51 (dk_at dksX4_ofGuard_0 2 rfl rfl)
theorem dX4_ofGuard_5 : decode cX4_ofGuard 5 = .ok (.aload_n 0, 1) := dk_42 (dk_at dksX4_ofGuard_0 5 rfl rfl)
theorem dX4_ofGuard_6 : decode cX4_ofGuard 6 = .ok (.iload_n 1, 1) := dk_27 (dk_at dksX4_ofGuard_0 6 rfl rfl)
theorem dX4_ofGuard_7 : decode cX4_ofGuard 7 = .ok (.invokevirtual 176, 3) := dk_182 0 176 (dk_at dksX4_ofGuard_0 7 rfl rfl)
theorem dX4_ofGuard_10 : decode cX4_ofGuard 10 = .ok (.ifCond .ne 9, 3) := dk_154 0 9 (dk_at dksX4_ofGuard_0 10 rfl rfl)
theorem dX4_ofGuard_13 : decode cX4_ofGuard 13 = .ok (.aload_n 0, 1) := dk_42 (dk_at dksX4_ofGuard_0 13 rfl rfl)
theorem dX4_ofGuard_14 : decode cX4_ofGuard 14 = .ok (.iconst 1, 1) := dk_4 (dk_at dksX4_ofGuard_0 14 rfl rfl)
theorem dX4_ofGuard_15 : decode cX4_ofGuard 15 = .ok (.invokevirtual 140, 3) := dk_182 0 140 (dk_at dksX4_ofGuard_0 15 rfl rfl)
theorem dX4_ofGuard_18 : decode cX4_ofGuard 18 = .ok (.ireturn, 1) := dk_172 (dk_at dksX4_ofGuard_0 18 rfl rfl)
theorem dX4_ofGuard_19 : decode cX4_ofGuard 19 = .ok (.iload_n 2, 1) := dk_28 (dk_at dksX4_ofGuard_0 19 rfl rfl)
theorem dX4_ofGuard_20 : decode cX4_ofGuard 20 = .ok (.iconst 0, 1) := dk_3 (dk_at dksX4_ofGuard_0 20 rfl rfl)
theorem dX4_ofGuard_21 : decode cX4_ofGuard 21 = .ok (.bipush 8, 2) := dk_16 8 (dk_at dksX4_ofGuard_0 21 rfl rfl)
theorem dX4_ofGuard_23 : decode cX4_ofGuard 23 = .ok (.invokestatic 54, 3) := dk_184 0 54 (dk_at dksX4_ofGuard_1 0 rfl rfl)
theorem dX4_ofGuard_26 : decode cX4_ofGuard 26 = .ok (.ifCond .ne 9, 3) := dk_154 0 9 (dk_at dksX4_ofGuard_1 3 rfl rfl)
theorem dX4_ofGuard_29 : decode cX4_ofGuard 29 = .ok (.aload_n 0, 1) := dk_42 (dk_at dksX4_ofGuard_1 6 rfl rfl)
theorem dX4_ofGuard_30 : decode cX4_ofGuard 30 = .ok (.iconst 2, 1) := dk_5 (dk_at dksX4_ofGuard_1 7 rfl rfl)
theorem dX4_ofGuard_31 : decode cX4_ofGuard 31 = .ok (.invokevirtual 140, 3) := dk_182 0 140 (dk_at dksX4_ofGuard_1 8 rfl rfl)
theorem dX4_ofGuard_34 : decode cX4_ofGuard 34 = .ok (.ireturn, 1) := dk_172 (dk_at dksX4_ofGuard_1 11 rfl rfl)
theorem dX4_ofGuard_35 : decode cX4_ofGuard 35 = .ok (.aload_n 0, 1) := dk_42 (dk_at dksX4_ofGuard_1 12 rfl rfl)
theorem dX4_ofGuard_36 : decode cX4_ofGuard 36 = .ok (.iload_n 1, 1) := dk_27 (dk_at dksX4_ofGuard_1 13 rfl rfl)
theorem dX4_ofGuard_37 : decode cX4_ofGuard 37 = .ok (.iload_n 2, 1) := dk_28 (dk_at dksX4_ofGuard_1 14 rfl rfl)
theorem dX4_ofGuard_38 : decode cX4_ofGuard 38 = .ok (.invokevirtual 225, 3) := dk_182 0 225 (dk_at dksX4_ofGuard_1 15 rfl rfl)
theorem dX4_ofGuard_41 : decode cX4_ofGuard 41 = .ok (.ireturn, 1) := dk_172 (dk_at dksX4_ofGuard_1 18 rfl rfl)
abbrev cX4_guardNow : ByteArray := prog_17_method_47_code
def yX4_guardNow : MethodName := ⟨RX4, "guardNow", "(II)I"⟩
def dkwX4_guardNow_6 : List UInt8 := [180, 0, 216, 100, 16, 89, 100, 184, 0, 100, 79, 58, 5, 25, 5, 28, 46, 172]
abbrev dktX4_guardNow_6 : List UInt8 := dkwX4_guardNow_6 ++ []
def dkwX4_guardNow_5 : List UInt8 := [16, 6, 21, 4, 79, 89, 16, 7, 45, 180, 0, 89, 79, 89, 16, 8, 3, 45, 180, 0, 219, 45]
abbrev dktX4_guardNow_5 : List UInt8 := dkwX4_guardNow_5 ++ dktX4_guardNow_6
def dkwX4_guardNow_4 : List UInt8 := [7, 45, 180, 0, 86, 79, 89, 8, 45, 180, 0, 86, 6, 160, 0, 7, 4, 167, 0, 4, 3, 79, 89]
abbrev dktX4_guardNow_4 : List UInt8 := dkwX4_guardNow_4 ++ dktX4_guardNow_5
def dkwX4_guardNow_3 : List UInt8 := [180, 0, 219, 79, 89, 5, 45, 180, 0, 222, 79, 89, 6, 45, 180, 0, 149, 185, 0, 58, 1, 0, 79, 89]
abbrev dktX4_guardNow_3 : List UInt8 := dkwX4_guardNow_3 ++ dktX4_guardNow_4
def dkwX4_guardNow_2 : List UInt8 := [128, 54, 4, 132, 5, 1, 167, 255, 222, 16, 9, 188, 10, 89, 3, 45, 180, 0, 216, 79, 89, 4, 45]
abbrev dktX4_guardNow_2 : List UInt8 := dkwX4_guardNow_2 ++ dktX4_guardNow_3
def dkwX4_guardNow_1 : List UInt8 := [162, 0, 33, 21, 4, 42, 180, 0, 39, 21, 5, 46, 27, 160, 0, 10, 4, 21, 5, 120, 167, 0, 4, 3]
abbrev dktX4_guardNow_1 : List UInt8 := dkwX4_guardNow_1 ++ dktX4_guardNow_2
def dkwX4_guardNow_0 : List UInt8 := [42, 180, 0, 27, 27, 185, 0, 80, 2, 0, 192, 0, 84, 78, 3, 54, 4, 3, 54, 5, 21, 5, 16, 6]
abbrev dktX4_guardNow_0 : List UInt8 := dkwX4_guardNow_0 ++ dktX4_guardNow_1
theorem dksX4_guardNow_0 : cX4_guardNow.data.toList.drop 0 = dktX4_guardNow_0 := by decide +kernel
theorem dksX4_guardNow_1 : cX4_guardNow.data.toList.drop 24 = dktX4_guardNow_1 := dk_seg dksX4_guardNow_0 24 rfl rfl
theorem dksX4_guardNow_2 : cX4_guardNow.data.toList.drop 48 = dktX4_guardNow_2 := dk_seg dksX4_guardNow_1 24 rfl rfl
theorem dksX4_guardNow_3 : cX4_guardNow.data.toList.drop 71 = dktX4_guardNow_3 := dk_seg dksX4_guardNow_2 23 rfl rfl
theorem dksX4_guardNow_4 : cX4_guardNow.data.toList.drop 95 = dktX4_guardNow_4 := dk_seg dksX4_guardNow_3 24 rfl rfl
theorem dksX4_guardNow_5 : cX4_guardNow.data.toList.drop 118 = dktX4_guardNow_5 := dk_seg dksX4_guardNow_4 23 rfl rfl
theorem dksX4_guardNow_6 : cX4_guardNow.data.toList.drop 140 = dktX4_guardNow_6 := dk_seg dksX4_guardNow_5 22 rfl rfl
theorem dX4_guardNow_0 : decode cX4_guardNow 0 = .ok (.aload_n 0, 1) := dk_42 (dk_at dksX4_guardNow_0 0 rfl rfl)
theorem dX4_guardNow_1 : decode cX4_guardNow 1 = .ok (.getfield 27, 3) := dk_180 0 27 (dk_at dksX4_guardNow_0 1 rfl rfl)
theorem dX4_guardNow_4 : decode cX4_guardNow 4 = .ok (.iload_n 1, 1) := dk_27 (dk_at dksX4_guardNow_0 4 rfl rfl)
theorem dX4_guardNow_5 : decode cX4_guardNow 5 = .ok (.invokeinterface 80 2, 5) := by decide +kernel
theorem dX4_guardNow_10 : decode cX4_guardNow 10 = .ok (.checkcast 84, 3) := dk_192 0 84 (dk_at dksX4_guardNow_0 10 rfl rfl)
theorem dX4_guardNow_13 : decode cX4_guardNow 13 = .ok (.astore_n 3, 1) := dk_78 (dk_at dksX4_guardNow_0 13 rfl rfl)
theorem dX4_guardNow_14 : decode cX4_guardNow 14 = .ok (.iconst 0, 1) := dk_3 (dk_at dksX4_guardNow_0 14 rfl rfl)
theorem dX4_guardNow_15 : decode cX4_guardNow 15 = .ok (.istore 4, 2) := dk_54 4 (dk_at dksX4_guardNow_0 15 rfl rfl)
theorem dX4_guardNow_17 : decode cX4_guardNow 17 = .ok (.iconst 0, 1) := dk_3 (dk_at dksX4_guardNow_0 17 rfl rfl)
theorem dX4_guardNow_18 : decode cX4_guardNow 18 = .ok (.istore 5, 2) := dk_54 5 (dk_at dksX4_guardNow_0 18 rfl rfl)
theorem dX4_guardNow_20 : decode cX4_guardNow 20 = .ok (.iload 5, 2) := dk_21 5 (dk_at dksX4_guardNow_0 20 rfl rfl)
theorem dX4_guardNow_22 : decode cX4_guardNow 22 = .ok (.bipush 6, 2) := dk_16 6 (dk_at dksX4_guardNow_0 22 rfl rfl)
theorem dX4_guardNow_24 : decode cX4_guardNow 24 = .ok (.if_icmp .ge 33, 3) := dk_162 0 33 (dk_at dksX4_guardNow_1 0 rfl rfl)
theorem dX4_guardNow_27 : decode cX4_guardNow 27 = .ok (.iload 4, 2) := dk_21 4 (dk_at dksX4_guardNow_1 3 rfl rfl)
theorem dX4_guardNow_29 : decode cX4_guardNow 29 = .ok (.aload_n 0, 1) := dk_42 (dk_at dksX4_guardNow_1 5 rfl rfl)
theorem dX4_guardNow_30 : decode cX4_guardNow 30 = .ok (.getfield 39, 3) := dk_180 0 39 (dk_at dksX4_guardNow_1 6 rfl rfl)
theorem dX4_guardNow_33 : decode cX4_guardNow 33 = .ok (.iload 5, 2) := dk_21 5 (dk_at dksX4_guardNow_1 9 rfl rfl)
theorem dX4_guardNow_35 : decode cX4_guardNow 35 = .ok (.iaload, 1) := dk_46 (dk_at dksX4_guardNow_1 11 rfl rfl)
theorem dX4_guardNow_36 : decode cX4_guardNow 36 = .ok (.iload_n 1, 1) := dk_27 (dk_at dksX4_guardNow_1 12 rfl rfl)
theorem dX4_guardNow_37 : decode cX4_guardNow 37 = .ok (.if_icmp .ne 10, 3) := dk_160 0 10 (dk_at dksX4_guardNow_1 13 rfl rfl)
theorem dX4_guardNow_40 : decode cX4_guardNow 40 = .ok (.iconst 1, 1) := dk_4 (dk_at dksX4_guardNow_1 16 rfl rfl)
theorem dX4_guardNow_41 : decode cX4_guardNow 41 = .ok (.iload 5, 2) := dk_21 5 (dk_at dksX4_guardNow_1 17 rfl rfl)
theorem dX4_guardNow_43 : decode cX4_guardNow 43 = .ok (.ishl, 1) := dk_120 (dk_at dksX4_guardNow_1 19 rfl rfl)
theorem dX4_guardNow_44 : decode cX4_guardNow 44 = .ok (.goto 4, 3) := dk_167 0 4 (dk_at dksX4_guardNow_1 20 rfl rfl)
theorem dX4_guardNow_47 : decode cX4_guardNow 47 = .ok (.iconst 0, 1) := dk_3 (dk_at dksX4_guardNow_1 23 rfl rfl)
theorem dX4_guardNow_48 : decode cX4_guardNow 48 = .ok (.ior, 1) := dk_128 (dk_at dksX4_guardNow_2 0 rfl rfl)
theorem dX4_guardNow_49 : decode cX4_guardNow 49 = .ok (.istore 4, 2) := dk_54 4 (dk_at dksX4_guardNow_2 1 rfl rfl)
theorem dX4_guardNow_51 : decode cX4_guardNow 51 = .ok (.iinc 5 1, 3) := dk_132 5 1 (dk_at dksX4_guardNow_2 3 rfl rfl)
theorem dX4_guardNow_54 : decode cX4_guardNow 54 = .ok (.goto (-34), 3) := dk_167 255 222 (dk_at dksX4_guardNow_2 6 rfl rfl)
theorem dX4_guardNow_57 : decode cX4_guardNow 57 = .ok (.bipush 9, 2) := dk_16 9 (dk_at dksX4_guardNow_2 9 rfl rfl)
theorem dX4_guardNow_59 : decode cX4_guardNow 59 = .ok (.newarray .int, 2) := dk_188_10 (dk_at dksX4_guardNow_2 11 rfl rfl)
theorem dX4_guardNow_61 : decode cX4_guardNow 61 = .ok (.dup, 1) := dk_89 (dk_at dksX4_guardNow_2 13 rfl rfl)
theorem dX4_guardNow_62 : decode cX4_guardNow 62 = .ok (.iconst 0, 1) := dk_3 (dk_at dksX4_guardNow_2 14 rfl rfl)
theorem dX4_guardNow_63 : decode cX4_guardNow 63 = .ok (.aload_n 3, 1) := dk_45 (dk_at dksX4_guardNow_2 15 rfl rfl)
theorem dX4_guardNow_64 : decode cX4_guardNow 64 = .ok (.getfield 216, 3) := dk_180 0 216 (dk_at dksX4_guardNow_2 16 rfl rfl)
theorem dX4_guardNow_67 : decode cX4_guardNow 67 = .ok (.iastore, 1) := dk_79 (dk_at dksX4_guardNow_2 19 rfl rfl)
theorem dX4_guardNow_68 : decode cX4_guardNow 68 = .ok (.dup, 1) := dk_89 (dk_at dksX4_guardNow_2 20 rfl rfl)
theorem dX4_guardNow_69 : decode cX4_guardNow 69 = .ok (.iconst 1, 1) := dk_4 (dk_at dksX4_guardNow_2 21 rfl rfl)
theorem dX4_guardNow_70 : decode cX4_guardNow 70 = .ok (.aload_n 3, 1) := dk_45 (dk_at dksX4_guardNow_2 22 rfl rfl)
theorem dX4_guardNow_71 : decode cX4_guardNow 71 = .ok (.getfield 219, 3) := dk_180 0 219 (dk_at dksX4_guardNow_3 0 rfl rfl)
theorem dX4_guardNow_74 : decode cX4_guardNow 74 = .ok (.iastore, 1) := dk_79 (dk_at dksX4_guardNow_3 3 rfl rfl)
theorem dX4_guardNow_75 : decode cX4_guardNow 75 = .ok (.dup, 1) := dk_89 (dk_at dksX4_guardNow_3 4 rfl rfl)
theorem dX4_guardNow_76 : decode cX4_guardNow 76 = .ok (.iconst 2, 1) := dk_5 (dk_at dksX4_guardNow_3 5 rfl rfl)
theorem dX4_guardNow_77 : decode cX4_guardNow 77 = .ok (.aload_n 3, 1) := dk_45 (dk_at dksX4_guardNow_3 6 rfl rfl)
theorem dX4_guardNow_78 : decode cX4_guardNow 78 = .ok (.getfield 222, 3) := dk_180 0 222 (dk_at dksX4_guardNow_3 7 rfl rfl)
theorem dX4_guardNow_81 : decode cX4_guardNow 81 = .ok (.iastore, 1) := dk_79 (dk_at dksX4_guardNow_3 10 rfl rfl)
theorem dX4_guardNow_82 : decode cX4_guardNow 82 = .ok (.dup, 1) := dk_89 (dk_at dksX4_guardNow_3 11 rfl rfl)
theorem dX4_guardNow_83 : decode cX4_guardNow 83 = .ok (.iconst 3, 1) := dk_6 (dk_at dksX4_guardNow_3 12 rfl rfl)
theorem dX4_guardNow_84 : decode cX4_guardNow 84 = .ok (.aload_n 3, 1) := dk_45 (dk_at dksX4_guardNow_3 13 rfl rfl)
theorem dX4_guardNow_85 : decode cX4_guardNow 85 = .ok (.getfield 149, 3) := dk_180 0 149 (dk_at dksX4_guardNow_3 14 rfl rfl)
theorem dX4_guardNow_88 : decode cX4_guardNow 88 = .ok (.invokeinterface 58 1, 5) := by decide +kernel
theorem dX4_guardNow_93 : decode cX4_guardNow 93 = .ok (.iastore, 1) := dk_79 (dk_at dksX4_guardNow_3 22 rfl rfl)
theorem dX4_guardNow_94 : decode cX4_guardNow 94 = .ok (.dup, 1) := dk_89 (dk_at dksX4_guardNow_3 23 rfl rfl)
theorem dX4_guardNow_95 : decode cX4_guardNow 95 = .ok (.iconst 4, 1) := dk_7 (dk_at dksX4_guardNow_4 0 rfl rfl)
theorem dX4_guardNow_96 : decode cX4_guardNow 96 = .ok (.aload_n 3, 1) := dk_45 (dk_at dksX4_guardNow_4 1 rfl rfl)
theorem dX4_guardNow_97 : decode cX4_guardNow 97 = .ok (.getfield 86, 3) := dk_180 0 86 (dk_at dksX4_guardNow_4 2 rfl rfl)
theorem dX4_guardNow_100 : decode cX4_guardNow 100 = .ok (.iastore, 1) := dk_79 (dk_at dksX4_guardNow_4 5 rfl rfl)
theorem dX4_guardNow_101 : decode cX4_guardNow 101 = .ok (.dup, 1) := dk_89 (dk_at dksX4_guardNow_4 6 rfl rfl)
theorem dX4_guardNow_102 : decode cX4_guardNow 102 = .ok (.iconst 5, 1) := dk_8 (dk_at dksX4_guardNow_4 7 rfl rfl)
theorem dX4_guardNow_103 : decode cX4_guardNow 103 = .ok (.aload_n 3, 1) := dk_45 (dk_at dksX4_guardNow_4 8 rfl rfl)
theorem dX4_guardNow_104 : decode cX4_guardNow 104 = .ok (.getfield 86, 3) := dk_180 0 86 (dk_at dksX4_guardNow_4 9 rfl rfl)
theorem dX4_guardNow_107 : decode cX4_guardNow 107 = .ok (.iconst 3, 1) := dk_6 (dk_at dksX4_guardNow_4 12 rfl rfl)
theorem dX4_guardNow_108 : decode cX4_guardNow 108 = .ok (.if_icmp .ne 7, 3) := dk_160 0 7 (dk_at dksX4_guardNow_4 13 rfl rfl)
theorem dX4_guardNow_111 : decode cX4_guardNow 111 = .ok (.iconst 1, 1) := dk_4 (dk_at dksX4_guardNow_4 16 rfl rfl)
theorem dX4_guardNow_112 : decode cX4_guardNow 112 = .ok (.goto 4, 3) := dk_167 0 4 (dk_at dksX4_guardNow_4 17 rfl rfl)
theorem dX4_guardNow_115 : decode cX4_guardNow 115 = .ok (.iconst 0, 1) := dk_3 (dk_at dksX4_guardNow_4 20 rfl rfl)
theorem dX4_guardNow_116 : decode cX4_guardNow 116 = .ok (.iastore, 1) := dk_79 (dk_at dksX4_guardNow_4 21 rfl rfl)
theorem dX4_guardNow_117 : decode cX4_guardNow 117 = .ok (.dup, 1) := dk_89 (dk_at dksX4_guardNow_4 22 rfl rfl)
theorem dX4_guardNow_118 : decode cX4_guardNow 118 = .ok (.bipush 6, 2) := dk_16 6 (dk_at dksX4_guardNow_5 0 rfl rfl)
theorem dX4_guardNow_120 : decode cX4_guardNow 120 = .ok (.iload 4, 2) := dk_21 4 (dk_at dksX4_guardNow_5 2 rfl rfl)
theorem dX4_guardNow_122 : decode cX4_guardNow 122 = .ok (.iastore, 1) := dk_79 (dk_at dksX4_guardNow_5 4 rfl rfl)
theorem dX4_guardNow_123 : decode cX4_guardNow 123 = .ok (.dup, 1) := dk_89 (dk_at dksX4_guardNow_5 5 rfl rfl)
theorem dX4_guardNow_124 : decode cX4_guardNow 124 = .ok (.bipush 7, 2) := dk_16 7 (dk_at dksX4_guardNow_5 6 rfl rfl)
theorem dX4_guardNow_126 : decode cX4_guardNow 126 = .ok (.aload_n 3, 1) := dk_45 (dk_at dksX4_guardNow_5 8 rfl rfl)
theorem dX4_guardNow_127 : decode cX4_guardNow 127 = .ok (.getfield 89, 3) := dk_180 0 89 (dk_at dksX4_guardNow_5 9 rfl rfl)
theorem dX4_guardNow_130 : decode cX4_guardNow 130 = .ok (.iastore, 1) := dk_79 (dk_at dksX4_guardNow_5 12 rfl rfl)
theorem dX4_guardNow_131 : decode cX4_guardNow 131 = .ok (.dup, 1) := dk_89 (dk_at dksX4_guardNow_5 13 rfl rfl)
theorem dX4_guardNow_132 : decode cX4_guardNow 132 = .ok (.bipush 8, 2) := dk_16 8 (dk_at dksX4_guardNow_5 14 rfl rfl)
theorem dX4_guardNow_134 : decode cX4_guardNow 134 = .ok (.iconst 0, 1) := dk_3 (dk_at dksX4_guardNow_5 16 rfl rfl)
theorem dX4_guardNow_135 : decode cX4_guardNow 135 = .ok (.aload_n 3, 1) := dk_45 (dk_at dksX4_guardNow_5 17 rfl rfl)
theorem dX4_guardNow_136 : decode cX4_guardNow 136 = .ok (.getfield 219, 3) := dk_180 0 219 (dk_at dksX4_guardNow_5 18 rfl rfl)
theorem dX4_guardNow_139 : decode cX4_guardNow 139 = .ok (.aload_n 3, 1) := dk_45 (dk_at dksX4_guardNow_5 21 rfl rfl)
theorem dX4_guardNow_140 : decode cX4_guardNow 140 = .ok (.getfield 216, 3) := dk_180 0 216 (dk_at dksX4_guardNow_6 0 rfl rfl)
theorem dX4_guardNow_143 : decode cX4_guardNow 143 = .ok (.isub, 1) := dk_100 (dk_at dksX4_guardNow_6 3 rfl rfl)
theorem dX4_guardNow_144 : decode cX4_guardNow 144 = .ok (.bipush 89, 2) := dk_16 89 (dk_at dksX4_guardNow_6 4 rfl rfl)
theorem dX4_guardNow_146 : decode cX4_guardNow 146 = .ok (.isub, 1) := dk_100 (dk_at dksX4_guardNow_6 6 rfl rfl)
theorem dX4_guardNow_147 : decode cX4_guardNow 147 = .ok (.invokestatic 100, 3) := dk_184 0 100 (dk_at dksX4_guardNow_6 7 rfl rfl)
theorem dX4_guardNow_150 : decode cX4_guardNow 150 = .ok (.iastore, 1) := dk_79 (dk_at dksX4_guardNow_6 10 rfl rfl)
theorem dX4_guardNow_151 : decode cX4_guardNow 151 = .ok (.astore 5, 2) := dk_58 5 (dk_at dksX4_guardNow_6 11 rfl rfl)
theorem dX4_guardNow_153 : decode cX4_guardNow 153 = .ok (.aload 5, 2) := dk_25 5 (dk_at dksX4_guardNow_6 13 rfl rfl)
theorem dX4_guardNow_155 : decode cX4_guardNow 155 = .ok (.iload_n 2, 1) := dk_28 (dk_at dksX4_guardNow_6 15 rfl rfl)
theorem dX4_guardNow_156 : decode cX4_guardNow 156 = .ok (.iaload, 1) := dk_46 (dk_at dksX4_guardNow_6 16 rfl rfl)
theorem dX4_guardNow_157 : decode cX4_guardNow 157 = .ok (.ireturn, 1) := dk_172 (dk_at dksX4_guardNow_6 17 rfl rfl)
abbrev cX4_intruder : ByteArray := prog_17_method_52_code
def yX4_intruder : MethodName := ⟨RX4, "intruder", "(III)I"⟩
def dkwX4_intruder_8 : List UInt8 := [4, 100, 172]
abbrev dktX4_intruder_8 : List UInt8 := dkwX4_intruder_8 ++ []
def dkwX4_intruder_7 : List UInt8 := [167, 255, 169, 42, 180, 0, 42, 25, 4, 185, 0, 166, 2, 0, 87, 42, 180, 0, 42, 185, 0, 58, 1, 0]
abbrev dktX4_intruder_7 : List UInt8 := dkwX4_intruder_7 ++ dktX4_intruder_8
def dkwX4_intruder_6 : List UInt8 := [160, 0, 9, 42, 6, 182, 0, 140, 172, 25, 4, 180, 0, 243, 21, 6, 21, 5, 79, 132, 6, 1]
abbrev dktX4_intruder_6 : List UInt8 := dkwX4_intruder_6 ++ dktX4_intruder_7
def dkwX4_intruder_5 : List UInt8 := [184, 0, 237, 182, 0, 240, 54, 5, 21, 5, 2, 159, 0, 14, 42, 180, 0, 7, 21, 5, 46, 4]
abbrev dktX4_intruder_5 : List UInt8 := dkwX4_intruder_5 ++ dktX4_intruder_6
def dkwX4_intruder_4 : List UInt8 := [25, 4, 180, 0, 234, 4, 100, 184, 0, 54, 153, 0, 22, 42, 21, 5, 29, 21, 7, 25, 4, 180, 0, 234]
abbrev dktX4_intruder_4 : List UInt8 := dkwX4_intruder_4 ++ dktX4_intruder_5
def dkwX4_intruder_3 : List UInt8 := [54, 5, 28, 54, 6, 21, 6, 17, 0, 239, 163, 0, 85, 21, 6, 28, 100, 4, 100, 54, 7, 21, 7, 3]
abbrev dktX4_intruder_3 : List UInt8 := dkwX4_intruder_3 ++ dktX4_intruder_4
def dkwX4_intruder_2 : List UInt8 := [160, 0, 9, 42, 6, 182, 0, 140, 172, 187, 0, 152, 89, 28, 29, 184, 0, 228, 183, 0, 231, 58, 4, 27]
abbrev dktX4_intruder_2 : List UInt8 := dkwX4_intruder_2 ++ dktX4_intruder_3
def dkwX4_intruder_1 : List UInt8 := [153, 0, 7, 29, 156, 0, 9, 42, 5, 182, 0, 140, 172, 42, 180, 0, 42, 185, 0, 58, 1, 0, 7]
abbrev dktX4_intruder_1 : List UInt8 := dkwX4_intruder_1 ++ dktX4_intruder_2
def dkwX4_intruder_0 : List UInt8 := [42, 3, 181, 0, 51, 42, 27, 182, 0, 157, 154, 0, 9, 42, 4, 182, 0, 140, 172, 28, 184, 0, 163]
abbrev dktX4_intruder_0 : List UInt8 := dkwX4_intruder_0 ++ dktX4_intruder_1
theorem dksX4_intruder_0 : cX4_intruder.data.toList.drop 0 = dktX4_intruder_0 := by decide +kernel
theorem dksX4_intruder_1 : cX4_intruder.data.toList.drop 23 = dktX4_intruder_1 := dk_seg dksX4_intruder_0 23 rfl rfl
theorem dksX4_intruder_2 : cX4_intruder.data.toList.drop 46 = dktX4_intruder_2 := dk_seg dksX4_intruder_1 23 rfl rfl
theorem dksX4_intruder_3 : cX4_intruder.data.toList.drop 70 = dktX4_intruder_3 := dk_seg dksX4_intruder_2 24 rfl rfl
theorem dksX4_intruder_4 : cX4_intruder.data.toList.drop 94 = dktX4_intruder_4 := dk_seg dksX4_intruder_3 24 rfl rfl
theorem dksX4_intruder_5 : cX4_intruder.data.toList.drop 118 = dktX4_intruder_5 := dk_seg dksX4_intruder_4 24 rfl rfl
theorem dksX4_intruder_6 : cX4_intruder.data.toList.drop 140 = dktX4_intruder_6 := dk_seg dksX4_intruder_5 22 rfl rfl
theorem dksX4_intruder_7 : cX4_intruder.data.toList.drop 162 = dktX4_intruder_7 := dk_seg dksX4_intruder_6 22 rfl rfl
theorem dksX4_intruder_8 : cX4_intruder.data.toList.drop 186 = dktX4_intruder_8 := dk_seg dksX4_intruder_7 24 rfl rfl
theorem dX4_intruder_0 : decode cX4_intruder 0 = .ok (.aload_n 0, 1) := dk_42 (dk_at dksX4_intruder_0 0 rfl rfl)
theorem dX4_intruder_1 : decode cX4_intruder 1 = .ok (.iconst 0, 1) := dk_3 (dk_at dksX4_intruder_0 1 rfl rfl)
theorem dX4_intruder_2 : decode cX4_intruder 2 = .ok (.putfield 51, 3) := dk_181 0 51 (dk_at dksX4_intruder_0 2 rfl rfl)
theorem dX4_intruder_5 : decode cX4_intruder 5 = .ok (.aload_n 0, 1) := dk_42 (dk_at dksX4_intruder_0 5 rfl rfl)
theorem dX4_intruder_6 : decode cX4_intruder 6 = .ok (.iload_n 1, 1) := dk_27 (dk_at dksX4_intruder_0 6 rfl rfl)
theorem dX4_intruder_7 : decode cX4_intruder 7 = .ok (.invokevirtual 157, 3) := dk_182 0 157 (dk_at dksX4_intruder_0 7 rfl rfl)
theorem dX4_intruder_10 : decode cX4_intruder 10 = .ok (.ifCond .ne 9, 3) := dk_154 0 9 (dk_at dksX4_intruder_0 10 rfl rfl)
theorem dX4_intruder_13 : decode cX4_intruder 13 = .ok (.aload_n 0, 1) := dk_42 (dk_at dksX4_intruder_0 13 rfl rfl)
theorem dX4_intruder_14 : decode cX4_intruder 14 = .ok (.iconst 1, 1) := dk_4 (dk_at dksX4_intruder_0 14 rfl rfl)
theorem dX4_intruder_15 : decode cX4_intruder 15 = .ok (.invokevirtual 140, 3) := dk_182 0 140 (dk_at dksX4_intruder_0 15 rfl rfl)
theorem dX4_intruder_18 : decode cX4_intruder 18 = .ok (.ireturn, 1) := dk_172 (dk_at dksX4_intruder_0 18 rfl rfl)
theorem dX4_intruder_19 : decode cX4_intruder 19 = .ok (.iload_n 2, 1) := dk_28 (dk_at dksX4_intruder_0 19 rfl rfl)
theorem dX4_intruder_20 : decode cX4_intruder 20 = .ok (.invokestatic 163, 3) := dk_184 0 163 (dk_at dksX4_intruder_0 20 rfl rfl)
theorem dX4_intruder_23 : decode cX4_intruder 23 = .ok (.ifCond .eq 7, 3) := dk_153 0 7 (dk_at dksX4_intruder_1 0 rfl rfl)
theorem dX4_intruder_26 : decode cX4_intruder 26 = .ok (.iload_n 3, 1) := dk_29 (dk_at dksX4_intruder_1 3 rfl rfl)
theorem dX4_intruder_27 : decode cX4_intruder 27 = .ok (.ifCond .ge 9, 3) := dk_156 0 9 (dk_at dksX4_intruder_1 4 rfl rfl)
theorem dX4_intruder_30 : decode cX4_intruder 30 = .ok (.aload_n 0, 1) := dk_42 (dk_at dksX4_intruder_1 7 rfl rfl)
theorem dX4_intruder_31 : decode cX4_intruder 31 = .ok (.iconst 2, 1) := dk_5 (dk_at dksX4_intruder_1 8 rfl rfl)
theorem dX4_intruder_32 : decode cX4_intruder 32 = .ok (.invokevirtual 140, 3) := dk_182 0 140 (dk_at dksX4_intruder_1 9 rfl rfl)
theorem dX4_intruder_35 : decode cX4_intruder 35 = .ok (.ireturn, 1) := dk_172 (dk_at dksX4_intruder_1 12 rfl rfl)
theorem dX4_intruder_36 : decode cX4_intruder 36 = .ok (.aload_n 0, 1) := dk_42 (dk_at dksX4_intruder_1 13 rfl rfl)
theorem dX4_intruder_37 : decode cX4_intruder 37 = .ok (.getfield 42, 3) := dk_180 0 42 (dk_at dksX4_intruder_1 14 rfl rfl)
theorem dX4_intruder_40 : decode cX4_intruder 40 = .ok (.invokeinterface 58 1, 5) := by decide +kernel
theorem dX4_intruder_45 : decode cX4_intruder 45 = .ok (.iconst 4, 1) := dk_7 (dk_at dksX4_intruder_1 22 rfl rfl)
theorem dX4_intruder_46 : decode cX4_intruder 46 = .ok (.if_icmp .ne 9, 3) := dk_160 0 9 (dk_at dksX4_intruder_2 0 rfl rfl)
theorem dX4_intruder_49 : decode cX4_intruder 49 = .ok (.aload_n 0, 1) := dk_42 (dk_at dksX4_intruder_2 3 rfl rfl)
theorem dX4_intruder_50 : decode cX4_intruder 50 = .ok (.iconst 3, 1) := dk_6 (dk_at dksX4_intruder_2 4 rfl rfl)
theorem dX4_intruder_51 : decode cX4_intruder 51 = .ok (.invokevirtual 140, 3) := dk_182 0 140 (dk_at dksX4_intruder_2 5 rfl rfl)
theorem dX4_intruder_54 : decode cX4_intruder 54 = .ok (.ireturn, 1) := dk_172 (dk_at dksX4_intruder_2 8 rfl rfl)
theorem dX4_intruder_55 : decode cX4_intruder 55 = .ok (.new 152, 3) := dk_187 0 152 (dk_at dksX4_intruder_2 9 rfl rfl)
theorem dX4_intruder_58 : decode cX4_intruder 58 = .ok (.dup, 1) := dk_89 (dk_at dksX4_intruder_2 12 rfl rfl)
theorem dX4_intruder_59 : decode cX4_intruder 59 = .ok (.iload_n 2, 1) := dk_28 (dk_at dksX4_intruder_2 13 rfl rfl)
theorem dX4_intruder_60 : decode cX4_intruder 60 = .ok (.iload_n 3, 1) := dk_29 (dk_at dksX4_intruder_2 14 rfl rfl)
theorem dX4_intruder_61 : decode cX4_intruder 61 = .ok (.invokestatic 228, 3) := dk_184 0 228 (dk_at dksX4_intruder_2 15 rfl rfl)
theorem dX4_intruder_64 : decode cX4_intruder 64 = .ok (.invokespecial 231, 3) := dk_183 0 231 (dk_at dksX4_intruder_2 18 rfl rfl)
theorem dX4_intruder_67 : decode cX4_intruder 67 = .ok (.astore 4, 2) := dk_58 4 (dk_at dksX4_intruder_2 21 rfl rfl)
theorem dX4_intruder_69 : decode cX4_intruder 69 = .ok (.iload_n 1, 1) := dk_27 (dk_at dksX4_intruder_2 23 rfl rfl)
theorem dX4_intruder_70 : decode cX4_intruder 70 = .ok (.istore 5, 2) := dk_54 5 (dk_at dksX4_intruder_3 0 rfl rfl)
theorem dX4_intruder_72 : decode cX4_intruder 72 = .ok (.iload_n 2, 1) := dk_28 (dk_at dksX4_intruder_3 2 rfl rfl)
theorem dX4_intruder_73 : decode cX4_intruder 73 = .ok (.istore 6, 2) := dk_54 6 (dk_at dksX4_intruder_3 3 rfl rfl)
theorem dX4_intruder_75 : decode cX4_intruder 75 = .ok (.iload 6, 2) := dk_21 6 (dk_at dksX4_intruder_3 5 rfl rfl)
theorem dX4_intruder_77 : decode cX4_intruder 77 = .ok (.sipush 239, 3) := dk_17 0 239 (dk_at dksX4_intruder_3 7 rfl rfl)
theorem dX4_intruder_80 : decode cX4_intruder 80 = .ok (.if_icmp .gt 85, 3) := dk_163 0 85 (dk_at dksX4_intruder_3 10 rfl rfl)
theorem dX4_intruder_83 : decode cX4_intruder 83 = .ok (.iload 6, 2) := dk_21 6 (dk_at dksX4_intruder_3 13 rfl rfl)
theorem dX4_intruder_85 : decode cX4_intruder 85 = .ok (.iload_n 2, 1) := dk_28 (dk_at dksX4_intruder_3 15 rfl rfl)
theorem dX4_intruder_86 : decode cX4_intruder 86 = .ok (.isub, 1) := dk_100 (dk_at dksX4_intruder_3 16 rfl rfl)
theorem dX4_intruder_87 : decode cX4_intruder 87 = .ok (.iconst 1, 1) := dk_4 (dk_at dksX4_intruder_3 17 rfl rfl)
theorem dX4_intruder_88 : decode cX4_intruder 88 = .ok (.isub, 1) := dk_100 (dk_at dksX4_intruder_3 18 rfl rfl)
theorem dX4_intruder_89 : decode cX4_intruder 89 = .ok (.istore 7, 2) := dk_54 7 (dk_at dksX4_intruder_3 19 rfl rfl)
theorem dX4_intruder_91 : decode cX4_intruder 91 = .ok (.iload 7, 2) := dk_21 7 (dk_at dksX4_intruder_3 21 rfl rfl)
theorem dX4_intruder_93 : decode cX4_intruder 93 = .ok (.iconst 0, 1) := dk_3 (dk_at dksX4_intruder_3 23 rfl rfl)
theorem dX4_intruder_94 : decode cX4_intruder 94 = .ok (.aload 4, 2) := dk_25 4 (dk_at dksX4_intruder_4 0 rfl rfl)
theorem dX4_intruder_96 : decode cX4_intruder 96 = .ok (.getfield 234, 3) := dk_180 0 234 (dk_at dksX4_intruder_4 2 rfl rfl)
theorem dX4_intruder_99 : decode cX4_intruder 99 = .ok (.iconst 1, 1) := dk_4 (dk_at dksX4_intruder_4 5 rfl rfl)
theorem dX4_intruder_100 : decode cX4_intruder 100 = .ok (.isub, 1) := dk_100 (dk_at dksX4_intruder_4 6 rfl rfl)
theorem dX4_intruder_101 : decode cX4_intruder 101 = .ok (.invokestatic 54, 3) := dk_184 0 54 (dk_at dksX4_intruder_4 7 rfl rfl)
theorem dX4_intruder_104 : decode cX4_intruder 104 = .ok (.ifCond .eq 22, 3) := dk_153 0 22 (dk_at dksX4_intruder_4 10 rfl rfl)
theorem dX4_intruder_107 : decode cX4_intruder 107 = .ok (.aload_n 0, 1) := dk_42 (dk_at dksX4_intruder_4 13 rfl rfl)
theorem dX4_intruder_108 : decode cX4_intruder 108 = .ok (.iload 5, 2) := dk_21 5 (dk_at dksX4_intruder_4 14 rfl rfl)
theorem dX4_intruder_110 : decode cX4_intruder 110 = .ok (.iload_n 3, 1) := dk_29 (dk_at dksX4_intruder_4 16 rfl rfl)
theorem dX4_intruder_111 : decode cX4_intruder 111 = .ok (.iload 7, 2) := dk_21 7 (dk_at dksX4_intruder_4 17 rfl rfl)
theorem dX4_intruder_113 : decode cX4_intruder 113 = .ok (.aload 4, 2) := dk_25 4 (dk_at dksX4_intruder_4 19 rfl rfl)
theorem dX4_intruder_115 : decode cX4_intruder 115 = .ok (.getfield 234, 3) := dk_180 0 234 (dk_at dksX4_intruder_4 21 rfl rfl)
theorem dX4_intruder_118 : decode cX4_intruder 118 = .ok (.invokestatic 237, 3) := dk_184 0 237 (dk_at dksX4_intruder_5 0 rfl rfl)
theorem dX4_intruder_121 : decode cX4_intruder 121 = .ok (.invokevirtual 240, 3) := dk_182 0 240 (dk_at dksX4_intruder_5 3 rfl rfl)
theorem dX4_intruder_124 : decode cX4_intruder 124 = .ok (.istore 5, 2) := dk_54 5 (dk_at dksX4_intruder_5 6 rfl rfl)
theorem dX4_intruder_126 : decode cX4_intruder 126 = .ok (.iload 5, 2) := dk_21 5 (dk_at dksX4_intruder_5 8 rfl rfl)
theorem dX4_intruder_128 : decode cX4_intruder 128 = .ok (.iconst (-1), 1) := dk_2 (dk_at dksX4_intruder_5 10 rfl rfl)
theorem dX4_intruder_129 : decode cX4_intruder 129 = .ok (.if_icmp .eq 14, 3) := dk_159 0 14 (dk_at dksX4_intruder_5 11 rfl rfl)
theorem dX4_intruder_132 : decode cX4_intruder 132 = .ok (.aload_n 0, 1) := dk_42 (dk_at dksX4_intruder_5 14 rfl rfl)
theorem dX4_intruder_133 : decode cX4_intruder 133 = .ok (.getfield 7, 3) := dk_180 0 7 (dk_at dksX4_intruder_5 15 rfl rfl)
theorem dX4_intruder_136 : decode cX4_intruder 136 = .ok (.iload 5, 2) := dk_21 5 (dk_at dksX4_intruder_5 18 rfl rfl)
theorem dX4_intruder_138 : decode cX4_intruder 138 = .ok (.iaload, 1) := dk_46 (dk_at dksX4_intruder_5 20 rfl rfl)
theorem dX4_intruder_139 : decode cX4_intruder 139 = .ok (.iconst 1, 1) := dk_4 (dk_at dksX4_intruder_5 21 rfl rfl)
theorem dX4_intruder_140 : decode cX4_intruder 140 = .ok (.if_icmp .ne 9, 3) := dk_160 0 9 (dk_at dksX4_intruder_6 0 rfl rfl)
theorem dX4_intruder_143 : decode cX4_intruder 143 = .ok (.aload_n 0, 1) := dk_42 (dk_at dksX4_intruder_6 3 rfl rfl)
theorem dX4_intruder_144 : decode cX4_intruder 144 = .ok (.iconst 3, 1) := dk_6 (dk_at dksX4_intruder_6 4 rfl rfl)
theorem dX4_intruder_145 : decode cX4_intruder 145 = .ok (.invokevirtual 140, 3) := dk_182 0 140 (dk_at dksX4_intruder_6 5 rfl rfl)
theorem dX4_intruder_148 : decode cX4_intruder 148 = .ok (.ireturn, 1) := dk_172 (dk_at dksX4_intruder_6 8 rfl rfl)
theorem dX4_intruder_149 : decode cX4_intruder 149 = .ok (.aload 4, 2) := dk_25 4 (dk_at dksX4_intruder_6 9 rfl rfl)
theorem dX4_intruder_151 : decode cX4_intruder 151 = .ok (.getfield 243, 3) := dk_180 0 243 (dk_at dksX4_intruder_6 11 rfl rfl)
theorem dX4_intruder_154 : decode cX4_intruder 154 = .ok (.iload 6, 2) := dk_21 6 (dk_at dksX4_intruder_6 14 rfl rfl)
theorem dX4_intruder_156 : decode cX4_intruder 156 = .ok (.iload 5, 2) := dk_21 5 (dk_at dksX4_intruder_6 16 rfl rfl)
theorem dX4_intruder_158 : decode cX4_intruder 158 = .ok (.iastore, 1) := dk_79 (dk_at dksX4_intruder_6 18 rfl rfl)
theorem dX4_intruder_159 : decode cX4_intruder 159 = .ok (.iinc 6 1, 3) := dk_132 6 1 (dk_at dksX4_intruder_6 19 rfl rfl)
theorem dX4_intruder_162 : decode cX4_intruder 162 = .ok (.goto (-87), 3) := dk_167 255 169 (dk_at dksX4_intruder_7 0 rfl rfl)
theorem dX4_intruder_165 : decode cX4_intruder 165 = .ok (.aload_n 0, 1) := dk_42 (dk_at dksX4_intruder_7 3 rfl rfl)
theorem dX4_intruder_166 : decode cX4_intruder 166 = .ok (.getfield 42, 3) := dk_180 0 42 (dk_at dksX4_intruder_7 4 rfl rfl)
theorem dX4_intruder_169 : decode cX4_intruder 169 = .ok (.aload 4, 2) := dk_25 4 (dk_at dksX4_intruder_7 7 rfl rfl)
theorem dX4_intruder_171 : decode cX4_intruder 171 = .ok (.invokeinterface 166 2, 5) := by decide +kernel
theorem dX4_intruder_176 : decode cX4_intruder 176 = .ok (.pop, 1) := dk_87 (dk_at dksX4_intruder_7 14 rfl rfl)
theorem dX4_intruder_177 : decode cX4_intruder 177 = .ok (.aload_n 0, 1) := dk_42 (dk_at dksX4_intruder_7 15 rfl rfl)
theorem dX4_intruder_178 : decode cX4_intruder 178 = .ok (.getfield 42, 3) := dk_180 0 42 (dk_at dksX4_intruder_7 16 rfl rfl)
theorem dX4_intruder_181 : decode cX4_intruder 181 = .ok (.invokeinterface 58 1, 5) := by decide +kernel
theorem dX4_intruder_186 : decode cX4_intruder 186 = .ok (.iconst 1, 1) := dk_4 (dk_at dksX4_intruder_8 0 rfl rfl)
theorem dX4_intruder_187 : decode cX4_intruder 187 = .ok (.isub, 1) := dk_100 (dk_at dksX4_intruder_8 1 rfl rfl)
theorem dX4_intruder_188 : decode cX4_intruder 188 = .ok (.ireturn, 1) := dk_172 (dk_at dksX4_intruder_8 2 rfl rfl)
abbrev cX4_digits : ByteArray := prog_17_method_49_code
def yX4_digits : MethodName := ⟨RX4, "digits", "(I)I"⟩
def dkwX4_digits_0 : List UInt8 := [3, 60, 26, 61, 28, 158, 0, 13, 132, 1, 1, 28, 8, 108, 61, 167, 255, 245, 27, 172]
abbrev dktX4_digits_0 : List UInt8 := dkwX4_digits_0 ++ []
theorem dksX4_digits_0 : cX4_digits.data.toList.drop 0 = dktX4_digits_0 := by decide +kernel
theorem dX4_digits_0 : decode cX4_digits 0 = .ok (.iconst 0, 1) := dk_3 (dk_at dksX4_digits_0 0 rfl rfl)
theorem dX4_digits_1 : decode cX4_digits 1 = .ok (.istore_n 1, 1) := dk_60 (dk_at dksX4_digits_0 1 rfl rfl)
theorem dX4_digits_2 : decode cX4_digits 2 = .ok (.iload_n 0, 1) := dk_26 (dk_at dksX4_digits_0 2 rfl rfl)
theorem dX4_digits_3 : decode cX4_digits 3 = .ok (.istore_n 2, 1) := dk_61 (dk_at dksX4_digits_0 3 rfl rfl)
theorem dX4_digits_4 : decode cX4_digits 4 = .ok (.iload_n 2, 1) := dk_28 (dk_at dksX4_digits_0 4 rfl rfl)
theorem dX4_digits_5 : decode cX4_digits 5 = .ok (.ifCond .le 13, 3) := dk_158 0 13 (dk_at dksX4_digits_0 5 rfl rfl)
theorem dX4_digits_8 : decode cX4_digits 8 = .ok (.iinc 1 1, 3) := dk_132 1 1 (dk_at dksX4_digits_0 8 rfl rfl)
theorem dX4_digits_11 : decode cX4_digits 11 = .ok (.iload_n 2, 1) := dk_28 (dk_at dksX4_digits_0 11 rfl rfl)
theorem dX4_digits_12 : decode cX4_digits 12 = .ok (.iconst 5, 1) := dk_8 (dk_at dksX4_digits_0 12 rfl rfl)
theorem dX4_digits_13 : decode cX4_digits 13 = .ok (.idiv, 1) := dk_108 (dk_at dksX4_digits_0 13 rfl rfl)
theorem dX4_digits_14 : decode cX4_digits 14 = .ok (.istore_n 2, 1) := dk_61 (dk_at dksX4_digits_0 14 rfl rfl)
theorem dX4_digits_15 : decode cX4_digits 15 = .ok (.goto (-11), 3) := dk_167 255 245 (dk_at dksX4_digits_0 15 rfl rfl)
theorem dX4_digits_18 : decode cX4_digits 18 = .ok (.iload_n 1, 1) := dk_27 (dk_at dksX4_digits_0 18 rfl rfl)
theorem dX4_digits_19 : decode cX4_digits 19 = .ok (.ireturn, 1) := dk_172 (dk_at dksX4_digits_0 19 rfl rfl)
abbrev cX4_digit : ByteArray := prog_17_method_50_code
def yX4_digit : MethodName := ⟨RX4, "digit", "(III)I"⟩
def dkwX4_digit_1 : List UInt8 := [8, 112, 172]
abbrev dktX4_digit_1 : List UInt8 := dkwX4_digit_1 ++ []
def dkwX4_digit_0 : List UInt8 := [26, 62, 28, 4, 100, 54, 4, 21, 4, 27, 164, 0, 13, 29, 8, 108, 62, 132, 4, 255, 167, 255, 243, 29]
abbrev dktX4_digit_0 : List UInt8 := dkwX4_digit_0 ++ dktX4_digit_1
theorem dksX4_digit_0 : cX4_digit.data.toList.drop 0 = dktX4_digit_0 := by decide +kernel
theorem dksX4_digit_1 : cX4_digit.data.toList.drop 24 = dktX4_digit_1 := dk_seg dksX4_digit_0 24 rfl rfl
theorem dX4_digit_0 : decode cX4_digit 0 = .ok (.iload_n 0, 1) := dk_26 (dk_at dksX4_digit_0 0 rfl rfl)
theorem dX4_digit_1 : decode cX4_digit 1 = .ok (.istore_n 3, 1) := dk_62 (dk_at dksX4_digit_0 1 rfl rfl)
theorem dX4_digit_2 : decode cX4_digit 2 = .ok (.iload_n 2, 1) := dk_28 (dk_at dksX4_digit_0 2 rfl rfl)
theorem dX4_digit_3 : decode cX4_digit 3 = .ok (.iconst 1, 1) := dk_4 (dk_at dksX4_digit_0 3 rfl rfl)
theorem dX4_digit_4 : decode cX4_digit 4 = .ok (.isub, 1) := dk_100 (dk_at dksX4_digit_0 4 rfl rfl)
theorem dX4_digit_5 : decode cX4_digit 5 = .ok (.istore 4, 2) := dk_54 4 (dk_at dksX4_digit_0 5 rfl rfl)
theorem dX4_digit_7 : decode cX4_digit 7 = .ok (.iload 4, 2) := dk_21 4 (dk_at dksX4_digit_0 7 rfl rfl)
theorem dX4_digit_9 : decode cX4_digit 9 = .ok (.iload_n 1, 1) := dk_27 (dk_at dksX4_digit_0 9 rfl rfl)
theorem dX4_digit_10 : decode cX4_digit 10 = .ok (.if_icmp .le 13, 3) := dk_164 0 13 (dk_at dksX4_digit_0 10 rfl rfl)
theorem dX4_digit_13 : decode cX4_digit 13 = .ok (.iload_n 3, 1) := dk_29 (dk_at dksX4_digit_0 13 rfl rfl)
theorem dX4_digit_14 : decode cX4_digit 14 = .ok (.iconst 5, 1) := dk_8 (dk_at dksX4_digit_0 14 rfl rfl)
theorem dX4_digit_15 : decode cX4_digit 15 = .ok (.idiv, 1) := dk_108 (dk_at dksX4_digit_0 15 rfl rfl)
theorem dX4_digit_16 : decode cX4_digit 16 = .ok (.istore_n 3, 1) := dk_62 (dk_at dksX4_digit_0 16 rfl rfl)
theorem dX4_digit_17 : decode cX4_digit 17 = .ok (.iinc 4 (-1), 3) := dk_132 4 255 (dk_at dksX4_digit_0 17 rfl rfl)
theorem dX4_digit_20 : decode cX4_digit 20 = .ok (.goto (-13), 3) := dk_167 255 243 (dk_at dksX4_digit_0 20 rfl rfl)
theorem dX4_digit_23 : decode cX4_digit 23 = .ok (.iload_n 3, 1) := dk_29 (dk_at dksX4_digit_0 23 rfl rfl)
theorem dX4_digit_24 : decode cX4_digit 24 = .ok (.iconst 5, 1) := dk_8 (dk_at dksX4_digit_1 0 rfl rfl)
theorem dX4_digit_25 : decode cX4_digit 25 = .ok (.irem, 1) := dk_112 (dk_at dksX4_digit_1 1 rfl rfl)
theorem dX4_digit_26 : decode cX4_digit 26 = .ok (.ireturn, 1) := dk_172 (dk_at dksX4_digit_1 2 rfl rfl)
abbrev cX4_moved : ByteArray := prog_17_method_51_code
def yX4_moved : MethodName := ⟨RX4, "moved", "(II)I"⟩
def dkwX4_moved_4 : List UInt8 := [158, 0, 9, 27, 4, 100, 167, 0, 4, 2, 172, 27, 172]
abbrev dktX4_moved_4 : List UInt8 := dkwX4_moved_4 ++ []
def dkwX4_moved_3 : List UInt8 := [27, 42, 180, 0, 92, 96, 167, 0, 4, 2, 172, 28, 7, 160, 0, 20, 27, 42, 180, 0, 92, 112]
abbrev dktX4_moved_3 : List UInt8 := dkwX4_moved_3 ++ dktX4_moved_4
def dkwX4_moved_2 : List UInt8 := [167, 0, 4, 2, 172, 28, 6, 160, 0, 28, 27, 42, 180, 0, 7, 190, 42, 180, 0, 92, 100, 162, 0, 12]
abbrev dktX4_moved_2 : List UInt8 := dkwX4_moved_2 ++ dktX4_moved_3
def dkwX4_moved_1 : List UInt8 := [28, 5, 160, 0, 26, 27, 42, 180, 0, 92, 112, 42, 180, 0, 92, 4, 100, 162, 0, 9, 27, 4, 96]
abbrev dktX4_moved_1 : List UInt8 := dkwX4_moved_1 ++ dktX4_moved_2
def dkwX4_moved_0 : List UInt8 := [28, 4, 160, 0, 22, 27, 42, 180, 0, 92, 161, 0, 12, 27, 42, 180, 0, 92, 100, 167, 0, 4, 2, 172]
abbrev dktX4_moved_0 : List UInt8 := dkwX4_moved_0 ++ dktX4_moved_1
theorem dksX4_moved_0 : cX4_moved.data.toList.drop 0 = dktX4_moved_0 := by decide +kernel
theorem dksX4_moved_1 : cX4_moved.data.toList.drop 24 = dktX4_moved_1 := dk_seg dksX4_moved_0 24 rfl rfl
theorem dksX4_moved_2 : cX4_moved.data.toList.drop 47 = dktX4_moved_2 := dk_seg dksX4_moved_1 23 rfl rfl
theorem dksX4_moved_3 : cX4_moved.data.toList.drop 71 = dktX4_moved_3 := dk_seg dksX4_moved_2 24 rfl rfl
theorem dksX4_moved_4 : cX4_moved.data.toList.drop 93 = dktX4_moved_4 := dk_seg dksX4_moved_3 22 rfl rfl
theorem dX4_moved_0 : decode cX4_moved 0 = .ok (.iload_n 2, 1) := dk_28 (dk_at dksX4_moved_0 0 rfl rfl)
theorem dX4_moved_1 : decode cX4_moved 1 = .ok (.iconst 1, 1) := dk_4 (dk_at dksX4_moved_0 1 rfl rfl)
theorem dX4_moved_2 : decode cX4_moved 2 = .ok (.if_icmp .ne 22, 3) := dk_160 0 22 (dk_at dksX4_moved_0 2 rfl rfl)
theorem dX4_moved_5 : decode cX4_moved 5 = .ok (.iload_n 1, 1) := dk_27 (dk_at dksX4_moved_0 5 rfl rfl)
theorem dX4_moved_6 : decode cX4_moved 6 = .ok (.aload_n 0, 1) := dk_42 (dk_at dksX4_moved_0 6 rfl rfl)
theorem dX4_moved_7 : decode cX4_moved 7 = .ok (.getfield 92, 3) := dk_180 0 92 (dk_at dksX4_moved_0 7 rfl rfl)
theorem dX4_moved_10 : decode cX4_moved 10 = .ok (.if_icmp .lt 12, 3) := dk_161 0 12 (dk_at dksX4_moved_0 10 rfl rfl)
theorem dX4_moved_13 : decode cX4_moved 13 = .ok (.iload_n 1, 1) := dk_27 (dk_at dksX4_moved_0 13 rfl rfl)
theorem dX4_moved_14 : decode cX4_moved 14 = .ok (.aload_n 0, 1) := dk_42 (dk_at dksX4_moved_0 14 rfl rfl)
theorem dX4_moved_15 : decode cX4_moved 15 = .ok (.getfield 92, 3) := dk_180 0 92 (dk_at dksX4_moved_0 15 rfl rfl)
theorem dX4_moved_18 : decode cX4_moved 18 = .ok (.isub, 1) := dk_100 (dk_at dksX4_moved_0 18 rfl rfl)
theorem dX4_moved_19 : decode cX4_moved 19 = .ok (.goto 4, 3) := dk_167 0 4 (dk_at dksX4_moved_0 19 rfl rfl)
theorem dX4_moved_22 : decode cX4_moved 22 = .ok (.iconst (-1), 1) := dk_2 (dk_at dksX4_moved_0 22 rfl rfl)
theorem dX4_moved_23 : decode cX4_moved 23 = .ok (.ireturn, 1) := dk_172 (dk_at dksX4_moved_0 23 rfl rfl)
theorem dX4_moved_24 : decode cX4_moved 24 = .ok (.iload_n 2, 1) := dk_28 (dk_at dksX4_moved_1 0 rfl rfl)
theorem dX4_moved_25 : decode cX4_moved 25 = .ok (.iconst 2, 1) := dk_5 (dk_at dksX4_moved_1 1 rfl rfl)
theorem dX4_moved_26 : decode cX4_moved 26 = .ok (.if_icmp .ne 26, 3) := dk_160 0 26 (dk_at dksX4_moved_1 2 rfl rfl)
theorem dX4_moved_29 : decode cX4_moved 29 = .ok (.iload_n 1, 1) := dk_27 (dk_at dksX4_moved_1 5 rfl rfl)
theorem dX4_moved_30 : decode cX4_moved 30 = .ok (.aload_n 0, 1) := dk_42 (dk_at dksX4_moved_1 6 rfl rfl)
theorem dX4_moved_31 : decode cX4_moved 31 = .ok (.getfield 92, 3) := dk_180 0 92 (dk_at dksX4_moved_1 7 rfl rfl)
theorem dX4_moved_34 : decode cX4_moved 34 = .ok (.irem, 1) := dk_112 (dk_at dksX4_moved_1 10 rfl rfl)
theorem dX4_moved_35 : decode cX4_moved 35 = .ok (.aload_n 0, 1) := dk_42 (dk_at dksX4_moved_1 11 rfl rfl)
theorem dX4_moved_36 : decode cX4_moved 36 = .ok (.getfield 92, 3) := dk_180 0 92 (dk_at dksX4_moved_1 12 rfl rfl)
theorem dX4_moved_39 : decode cX4_moved 39 = .ok (.iconst 1, 1) := dk_4 (dk_at dksX4_moved_1 15 rfl rfl)
theorem dX4_moved_40 : decode cX4_moved 40 = .ok (.isub, 1) := dk_100 (dk_at dksX4_moved_1 16 rfl rfl)
theorem dX4_moved_41 : decode cX4_moved 41 = .ok (.if_icmp .ge 9, 3) := dk_162 0 9 (dk_at dksX4_moved_1 17 rfl rfl)
theorem dX4_moved_44 : decode cX4_moved 44 = .ok (.iload_n 1, 1) := dk_27 (dk_at dksX4_moved_1 20 rfl rfl)
theorem dX4_moved_45 : decode cX4_moved 45 = .ok (.iconst 1, 1) := dk_4 (dk_at dksX4_moved_1 21 rfl rfl)
theorem dX4_moved_46 : decode cX4_moved 46 = .ok (.iadd, 1) := dk_96 (dk_at dksX4_moved_1 22 rfl rfl)
theorem dX4_moved_47 : decode cX4_moved 47 = .ok (.goto 4, 3) := dk_167 0 4 (dk_at dksX4_moved_2 0 rfl rfl)
theorem dX4_moved_50 : decode cX4_moved 50 = .ok (.iconst (-1), 1) := dk_2 (dk_at dksX4_moved_2 3 rfl rfl)
theorem dX4_moved_51 : decode cX4_moved 51 = .ok (.ireturn, 1) := dk_172 (dk_at dksX4_moved_2 4 rfl rfl)
theorem dX4_moved_52 : decode cX4_moved 52 = .ok (.iload_n 2, 1) := dk_28 (dk_at dksX4_moved_2 5 rfl rfl)
theorem dX4_moved_53 : decode cX4_moved 53 = .ok (.iconst 3, 1) := dk_6 (dk_at dksX4_moved_2 6 rfl rfl)
theorem dX4_moved_54 : decode cX4_moved 54 = .ok (.if_icmp .ne 28, 3) := dk_160 0 28 (dk_at dksX4_moved_2 7 rfl rfl)
theorem dX4_moved_57 : decode cX4_moved 57 = .ok (.iload_n 1, 1) := dk_27 (dk_at dksX4_moved_2 10 rfl rfl)
theorem dX4_moved_58 : decode cX4_moved 58 = .ok (.aload_n 0, 1) := dk_42 (dk_at dksX4_moved_2 11 rfl rfl)
theorem dX4_moved_59 : decode cX4_moved 59 = .ok (.getfield 7, 3) := dk_180 0 7 (dk_at dksX4_moved_2 12 rfl rfl)
theorem dX4_moved_62 : decode cX4_moved 62 = .ok (.arraylength, 1) := dk_190 (dk_at dksX4_moved_2 15 rfl rfl)
theorem dX4_moved_63 : decode cX4_moved 63 = .ok (.aload_n 0, 1) := dk_42 (dk_at dksX4_moved_2 16 rfl rfl)
theorem dX4_moved_64 : decode cX4_moved 64 = .ok (.getfield 92, 3) := dk_180 0 92 (dk_at dksX4_moved_2 17 rfl rfl)
theorem dX4_moved_67 : decode cX4_moved 67 = .ok (.isub, 1) := dk_100 (dk_at dksX4_moved_2 20 rfl rfl)
theorem dX4_moved_68 : decode cX4_moved 68 = .ok (.if_icmp .ge 12, 3) := dk_162 0 12 (dk_at dksX4_moved_2 21 rfl rfl)
theorem dX4_moved_71 : decode cX4_moved 71 = .ok (.iload_n 1, 1) := dk_27 (dk_at dksX4_moved_3 0 rfl rfl)
theorem dX4_moved_72 : decode cX4_moved 72 = .ok (.aload_n 0, 1) := dk_42 (dk_at dksX4_moved_3 1 rfl rfl)
theorem dX4_moved_73 : decode cX4_moved 73 = .ok (.getfield 92, 3) := dk_180 0 92 (dk_at dksX4_moved_3 2 rfl rfl)
theorem dX4_moved_76 : decode cX4_moved 76 = .ok (.iadd, 1) := dk_96 (dk_at dksX4_moved_3 5 rfl rfl)
theorem dX4_moved_77 : decode cX4_moved 77 = .ok (.goto 4, 3) := dk_167 0 4 (dk_at dksX4_moved_3 6 rfl rfl)
theorem dX4_moved_80 : decode cX4_moved 80 = .ok (.iconst (-1), 1) := dk_2 (dk_at dksX4_moved_3 9 rfl rfl)
theorem dX4_moved_81 : decode cX4_moved 81 = .ok (.ireturn, 1) := dk_172 (dk_at dksX4_moved_3 10 rfl rfl)
theorem dX4_moved_82 : decode cX4_moved 82 = .ok (.iload_n 2, 1) := dk_28 (dk_at dksX4_moved_3 11 rfl rfl)
theorem dX4_moved_83 : decode cX4_moved 83 = .ok (.iconst 4, 1) := dk_7 (dk_at dksX4_moved_3 12 rfl rfl)
theorem dX4_moved_84 : decode cX4_moved 84 = .ok (.if_icmp .ne 20, 3) := dk_160 0 20 (dk_at dksX4_moved_3 13 rfl rfl)
theorem dX4_moved_87 : decode cX4_moved 87 = .ok (.iload_n 1, 1) := dk_27 (dk_at dksX4_moved_3 16 rfl rfl)
theorem dX4_moved_88 : decode cX4_moved 88 = .ok (.aload_n 0, 1) := dk_42 (dk_at dksX4_moved_3 17 rfl rfl)
theorem dX4_moved_89 : decode cX4_moved 89 = .ok (.getfield 92, 3) := dk_180 0 92 (dk_at dksX4_moved_3 18 rfl rfl)
theorem dX4_moved_92 : decode cX4_moved 92 = .ok (.irem, 1) := dk_112 (dk_at dksX4_moved_3 21 rfl rfl)
theorem dX4_moved_93 : decode cX4_moved 93 = .ok (.ifCond .le 9, 3) := dk_158 0 9 (dk_at dksX4_moved_4 0 rfl rfl)
theorem dX4_moved_96 : decode cX4_moved 96 = .ok (.iload_n 1, 1) := dk_27 (dk_at dksX4_moved_4 3 rfl rfl)
theorem dX4_moved_97 : decode cX4_moved 97 = .ok (.iconst 1, 1) := dk_4 (dk_at dksX4_moved_4 4 rfl rfl)
theorem dX4_moved_98 : decode cX4_moved 98 = .ok (.isub, 1) := dk_100 (dk_at dksX4_moved_4 5 rfl rfl)
theorem dX4_moved_99 : decode cX4_moved 99 = .ok (.goto 4, 3) := dk_167 0 4 (dk_at dksX4_moved_4 6 rfl rfl)
theorem dX4_moved_102 : decode cX4_moved 102 = .ok (.iconst (-1), 1) := dk_2 (dk_at dksX4_moved_4 9 rfl rfl)
theorem dX4_moved_103 : decode cX4_moved 103 = .ok (.ireturn, 1) := dk_172 (dk_at dksX4_moved_4 10 rfl rfl)
theorem dX4_moved_104 : decode cX4_moved 104 = .ok (.iload_n 1, 1) := dk_27 (dk_at dksX4_moved_4 11 rfl rfl)
theorem dX4_moved_105 : decode cX4_moved 105 = .ok (.ireturn, 1) := dk_172 (dk_at dksX4_moved_4 12 rfl rfl)
abbrev cX4_wire : ByteArray := prog_17_method_53_code
def yX4_wire : MethodName := ⟨RX4, "wire", "(II)I"⟩
def dkwX4_wire_3 : List UInt8 := [185, 0, 166, 2, 0, 87, 42, 180, 0, 45, 185, 0, 58, 1, 0, 4, 100, 172]
abbrev dktX4_wire_3 : List UInt8 := dkwX4_wire_3 ++ []
def dkwX4_wire_2 : List UInt8 := [160, 0, 9, 42, 6, 182, 0, 140, 172, 42, 180, 0, 45, 5, 188, 10, 89, 3, 27, 79, 89, 4, 28, 79]
abbrev dktX4_wire_2 : List UInt8 := dkwX4_wire_2 ++ dktX4_wire_3
def dkwX4_wire_1 : List UInt8 := [184, 0, 54, 154, 0, 9, 42, 5, 182, 0, 140, 172, 42, 180, 0, 45, 185, 0, 58, 1, 0, 8]
abbrev dktX4_wire_1 : List UInt8 := dkwX4_wire_1 ++ dktX4_wire_2
def dkwX4_wire_0 : List UInt8 := [42, 3, 181, 0, 51, 42, 27, 182, 0, 157, 154, 0, 9, 42, 4, 182, 0, 140, 172, 28, 4, 16, 12]
abbrev dktX4_wire_0 : List UInt8 := dkwX4_wire_0 ++ dktX4_wire_1
theorem dksX4_wire_0 : cX4_wire.data.toList.drop 0 = dktX4_wire_0 := by decide +kernel
theorem dksX4_wire_1 : cX4_wire.data.toList.drop 23 = dktX4_wire_1 := dk_seg dksX4_wire_0 23 rfl rfl
theorem dksX4_wire_2 : cX4_wire.data.toList.drop 45 = dktX4_wire_2 := dk_seg dksX4_wire_1 22 rfl rfl
theorem dksX4_wire_3 : cX4_wire.data.toList.drop 69 = dktX4_wire_3 := dk_seg dksX4_wire_2 24 rfl rfl
theorem dX4_wire_0 : decode cX4_wire 0 = .ok (.aload_n 0, 1) := dk_42 (dk_at dksX4_wire_0 0 rfl rfl)
theorem dX4_wire_1 : decode cX4_wire 1 = .ok (.iconst 0, 1) := dk_3 (dk_at dksX4_wire_0 1 rfl rfl)
theorem dX4_wire_2 : decode cX4_wire 2 = .ok (.putfield 51, 3) := dk_181 0 51 (dk_at dksX4_wire_0 2 rfl rfl)
theorem dX4_wire_5 : decode cX4_wire 5 = .ok (.aload_n 0, 1) := dk_42 (dk_at dksX4_wire_0 5 rfl rfl)
theorem dX4_wire_6 : decode cX4_wire 6 = .ok (.iload_n 1, 1) := dk_27 (dk_at dksX4_wire_0 6 rfl rfl)
theorem dX4_wire_7 : decode cX4_wire 7 = .ok (.invokevirtual 157, 3) := dk_182 0 157 (dk_at dksX4_wire_0 7 rfl rfl)
theorem dX4_wire_10 : decode cX4_wire 10 = .ok (.ifCond .ne 9, 3) := dk_154 0 9 (dk_at dksX4_wire_0 10 rfl rfl)
theorem dX4_wire_13 : decode cX4_wire 13 = .ok (.aload_n 0, 1) := dk_42 (dk_at dksX4_wire_0 13 rfl rfl)
theorem dX4_wire_14 : decode cX4_wire 14 = .ok (.iconst 1, 1) := dk_4 (dk_at dksX4_wire_0 14 rfl rfl)
theorem dX4_wire_15 : decode cX4_wire 15 = .ok (.invokevirtual 140, 3) := dk_182 0 140 (dk_at dksX4_wire_0 15 rfl rfl)
theorem dX4_wire_18 : decode cX4_wire 18 = .ok (.ireturn, 1) := dk_172 (dk_at dksX4_wire_0 18 rfl rfl)
theorem dX4_wire_19 : decode cX4_wire 19 = .ok (.iload_n 2, 1) := dk_28 (dk_at dksX4_wire_0 19 rfl rfl)
theorem dX4_wire_20 : decode cX4_wire 20 = .ok (.iconst 1, 1) := dk_4 (dk_at dksX4_wire_0 20 rfl rfl)
theorem dX4_wire_21 : decode cX4_wire 21 = .ok (.bipush 12, 2) := dk_16 12 (dk_at dksX4_wire_0 21 rfl rfl)
theorem dX4_wire_23 : decode cX4_wire 23 = .ok (.invokestatic 54, 3) := dk_184 0 54 (dk_at dksX4_wire_1 0 rfl rfl)
theorem dX4_wire_26 : decode cX4_wire 26 = .ok (.ifCond .ne 9, 3) := dk_154 0 9 (dk_at dksX4_wire_1 3 rfl rfl)
theorem dX4_wire_29 : decode cX4_wire 29 = .ok (.aload_n 0, 1) := dk_42 (dk_at dksX4_wire_1 6 rfl rfl)
theorem dX4_wire_30 : decode cX4_wire 30 = .ok (.iconst 2, 1) := dk_5 (dk_at dksX4_wire_1 7 rfl rfl)
theorem dX4_wire_31 : decode cX4_wire 31 = .ok (.invokevirtual 140, 3) := dk_182 0 140 (dk_at dksX4_wire_1 8 rfl rfl)
theorem dX4_wire_34 : decode cX4_wire 34 = .ok (.ireturn, 1) := dk_172 (dk_at dksX4_wire_1 11 rfl rfl)
theorem dX4_wire_35 : decode cX4_wire 35 = .ok (.aload_n 0, 1) := dk_42 (dk_at dksX4_wire_1 12 rfl rfl)
theorem dX4_wire_36 : decode cX4_wire 36 = .ok (.getfield 45, 3) := dk_180 0 45 (dk_at dksX4_wire_1 13 rfl rfl)
theorem dX4_wire_39 : decode cX4_wire 39 = .ok (.invokeinterface 58 1, 5) := by decide +kernel
theorem dX4_wire_44 : decode cX4_wire 44 = .ok (.iconst 5, 1) := dk_8 (dk_at dksX4_wire_1 21 rfl rfl)
theorem dX4_wire_45 : decode cX4_wire 45 = .ok (.if_icmp .ne 9, 3) := dk_160 0 9 (dk_at dksX4_wire_2 0 rfl rfl)
theorem dX4_wire_48 : decode cX4_wire 48 = .ok (.aload_n 0, 1) := dk_42 (dk_at dksX4_wire_2 3 rfl rfl)
theorem dX4_wire_49 : decode cX4_wire 49 = .ok (.iconst 3, 1) := dk_6 (dk_at dksX4_wire_2 4 rfl rfl)
theorem dX4_wire_50 : decode cX4_wire 50 = .ok (.invokevirtual 140, 3) := dk_182 0 140 (dk_at dksX4_wire_2 5 rfl rfl)
theorem dX4_wire_53 : decode cX4_wire 53 = .ok (.ireturn, 1) := dk_172 (dk_at dksX4_wire_2 8 rfl rfl)
theorem dX4_wire_54 : decode cX4_wire 54 = .ok (.aload_n 0, 1) := dk_42 (dk_at dksX4_wire_2 9 rfl rfl)
theorem dX4_wire_55 : decode cX4_wire 55 = .ok (.getfield 45, 3) := dk_180 0 45 (dk_at dksX4_wire_2 10 rfl rfl)
theorem dX4_wire_58 : decode cX4_wire 58 = .ok (.iconst 2, 1) := dk_5 (dk_at dksX4_wire_2 13 rfl rfl)
theorem dX4_wire_59 : decode cX4_wire 59 = .ok (.newarray .int, 2) := dk_188_10 (dk_at dksX4_wire_2 14 rfl rfl)
theorem dX4_wire_61 : decode cX4_wire 61 = .ok (.dup, 1) := dk_89 (dk_at dksX4_wire_2 16 rfl rfl)
theorem dX4_wire_62 : decode cX4_wire 62 = .ok (.iconst 0, 1) := dk_3 (dk_at dksX4_wire_2 17 rfl rfl)
theorem dX4_wire_63 : decode cX4_wire 63 = .ok (.iload_n 1, 1) := dk_27 (dk_at dksX4_wire_2 18 rfl rfl)
theorem dX4_wire_64 : decode cX4_wire 64 = .ok (.iastore, 1) := dk_79 (dk_at dksX4_wire_2 19 rfl rfl)
theorem dX4_wire_65 : decode cX4_wire 65 = .ok (.dup, 1) := dk_89 (dk_at dksX4_wire_2 20 rfl rfl)
theorem dX4_wire_66 : decode cX4_wire 66 = .ok (.iconst 1, 1) := dk_4 (dk_at dksX4_wire_2 21 rfl rfl)
theorem dX4_wire_67 : decode cX4_wire 67 = .ok (.iload_n 2, 1) := dk_28 (dk_at dksX4_wire_2 22 rfl rfl)
theorem dX4_wire_68 : decode cX4_wire 68 = .ok (.iastore, 1) := dk_79 (dk_at dksX4_wire_2 23 rfl rfl)
theorem dX4_wire_69 : decode cX4_wire 69 = .ok (.invokeinterface 166 2, 5) := by decide +kernel
theorem dX4_wire_74 : decode cX4_wire 74 = .ok (.pop, 1) := dk_87 (dk_at dksX4_wire_3 5 rfl rfl)
theorem dX4_wire_75 : decode cX4_wire 75 = .ok (.aload_n 0, 1) := dk_42 (dk_at dksX4_wire_3 6 rfl rfl)
theorem dX4_wire_76 : decode cX4_wire 76 = .ok (.getfield 45, 3) := dk_180 0 45 (dk_at dksX4_wire_3 7 rfl rfl)
theorem dX4_wire_79 : decode cX4_wire 79 = .ok (.invokeinterface 58 1, 5) := by decide +kernel
theorem dX4_wire_84 : decode cX4_wire 84 = .ok (.iconst 1, 1) := dk_4 (dk_at dksX4_wire_3 15 rfl rfl)
theorem dX4_wire_85 : decode cX4_wire 85 = .ok (.isub, 1) := dk_100 (dk_at dksX4_wire_3 16 rfl rfl)
theorem dX4_wire_86 : decode cX4_wire 86 = .ok (.ireturn, 1) := dk_172 (dk_at dksX4_wire_3 17 rfl rfl)
abbrev cX4_where : ByteArray := prog_17_method_54_code
def yX4_where : MethodName := ⟨RX4, "where", "(II)I"⟩
def dkwX4_where_2 : List UInt8 := [182, 0, 154, 172]
abbrev dktX4_where_2 : List UInt8 := dkwX4_where_2 ++ []
def dkwX4_where_1 : List UInt8 := [154, 0, 9, 42, 5, 182, 0, 140, 172, 42, 180, 0, 42, 27, 185, 0, 80, 2, 0, 192, 0, 152, 28]
abbrev dktX4_where_1 : List UInt8 := dkwX4_where_1 ++ dktX4_where_2
def dkwX4_where_0 : List UInt8 := [42, 3, 181, 0, 51, 42, 27, 182, 0, 246, 154, 0, 9, 42, 4, 182, 0, 140, 172, 28, 184, 0, 163]
abbrev dktX4_where_0 : List UInt8 := dkwX4_where_0 ++ dktX4_where_1
theorem dksX4_where_0 : cX4_where.data.toList.drop 0 = dktX4_where_0 := by decide +kernel
theorem dksX4_where_1 : cX4_where.data.toList.drop 23 = dktX4_where_1 := dk_seg dksX4_where_0 23 rfl rfl
theorem dksX4_where_2 : cX4_where.data.toList.drop 46 = dktX4_where_2 := dk_seg dksX4_where_1 23 rfl rfl
theorem dX4_where_0 : decode cX4_where 0 = .ok (.aload_n 0, 1) := dk_42 (dk_at dksX4_where_0 0 rfl rfl)
theorem dX4_where_1 : decode cX4_where 1 = .ok (.iconst 0, 1) := dk_3 (dk_at dksX4_where_0 1 rfl rfl)
theorem dX4_where_2 : decode cX4_where 2 = .ok (.putfield 51, 3) := dk_181 0 51 (dk_at dksX4_where_0 2 rfl rfl)
theorem dX4_where_5 : decode cX4_where 5 = .ok (.aload_n 0, 1) := dk_42 (dk_at dksX4_where_0 5 rfl rfl)
theorem dX4_where_6 : decode cX4_where 6 = .ok (.iload_n 1, 1) := dk_27 (dk_at dksX4_where_0 6 rfl rfl)
theorem dX4_where_7 : decode cX4_where 7 = .ok (.invokevirtual 246, 3) := dk_182 0 246 (dk_at dksX4_where_0 7 rfl rfl)
theorem dX4_where_10 : decode cX4_where 10 = .ok (.ifCond .ne 9, 3) := dk_154 0 9 (dk_at dksX4_where_0 10 rfl rfl)
theorem dX4_where_13 : decode cX4_where 13 = .ok (.aload_n 0, 1) := dk_42 (dk_at dksX4_where_0 13 rfl rfl)
theorem dX4_where_14 : decode cX4_where 14 = .ok (.iconst 1, 1) := dk_4 (dk_at dksX4_where_0 14 rfl rfl)
theorem dX4_where_15 : decode cX4_where 15 = .ok (.invokevirtual 140, 3) := dk_182 0 140 (dk_at dksX4_where_0 15 rfl rfl)
theorem dX4_where_18 : decode cX4_where 18 = .ok (.ireturn, 1) := dk_172 (dk_at dksX4_where_0 18 rfl rfl)
theorem dX4_where_19 : decode cX4_where 19 = .ok (.iload_n 2, 1) := dk_28 (dk_at dksX4_where_0 19 rfl rfl)
theorem dX4_where_20 : decode cX4_where 20 = .ok (.invokestatic 163, 3) := dk_184 0 163 (dk_at dksX4_where_0 20 rfl rfl)
theorem dX4_where_23 : decode cX4_where 23 = .ok (.ifCond .ne 9, 3) := dk_154 0 9 (dk_at dksX4_where_1 0 rfl rfl)
theorem dX4_where_26 : decode cX4_where 26 = .ok (.aload_n 0, 1) := dk_42 (dk_at dksX4_where_1 3 rfl rfl)
theorem dX4_where_27 : decode cX4_where 27 = .ok (.iconst 2, 1) := dk_5 (dk_at dksX4_where_1 4 rfl rfl)
theorem dX4_where_28 : decode cX4_where 28 = .ok (.invokevirtual 140, 3) := dk_182 0 140 (dk_at dksX4_where_1 5 rfl rfl)
theorem dX4_where_31 : decode cX4_where 31 = .ok (.ireturn, 1) := dk_172 (dk_at dksX4_where_1 8 rfl rfl)
theorem dX4_where_32 : decode cX4_where 32 = .ok (.aload_n 0, 1) := dk_42 (dk_at dksX4_where_1 9 rfl rfl)
theorem dX4_where_33 : decode cX4_where 33 = .ok (.getfield 42, 3) := dk_180 0 42 (dk_at dksX4_where_1 10 rfl rfl)
theorem dX4_where_36 : decode cX4_where 36 = .ok (.iload_n 1, 1) := dk_27 (dk_at dksX4_where_1 13 rfl rfl)
theorem dX4_where_37 : decode cX4_where 37 = .ok (.invokeinterface 80 2, 5) := by decide +kernel
theorem dX4_where_42 : decode cX4_where 42 = .ok (.checkcast 152, 3) := dk_192 0 152 (dk_at dksX4_where_1 19 rfl rfl)
theorem dX4_where_45 : decode cX4_where 45 = .ok (.iload_n 2, 1) := dk_28 (dk_at dksX4_where_1 22 rfl rfl)
theorem dX4_where_46 : decode cX4_where 46 = .ok (.invokevirtual 154, 3) := dk_182 0 154 (dk_at dksX4_where_2 0 rfl rfl)
theorem dX4_where_49 : decode cX4_where 49 = .ok (.ireturn, 1) := dk_172 (dk_at dksX4_where_2 3 rfl rfl)
abbrev cX4_isIntruder : ByteArray := prog_17_method_8_code
def yX4_isIntruder : MethodName := ⟨RX4, "isIntruder", "(I)Z"⟩
def dkwX4_isIntruder_0 : List UInt8 := [27, 3, 42, 180, 0, 42, 185, 0, 58, 1, 0, 4, 100, 184, 0, 54, 172]
abbrev dktX4_isIntruder_0 : List UInt8 := dkwX4_isIntruder_0 ++ []
theorem dksX4_isIntruder_0 : cX4_isIntruder.data.toList.drop 0 = dktX4_isIntruder_0 := by decide +kernel
theorem dX4_isIntruder_0 : decode cX4_isIntruder 0 = .ok (.iload_n 1, 1) := dk_27 (dk_at dksX4_isIntruder_0 0 rfl rfl)
theorem dX4_isIntruder_1 : decode cX4_isIntruder 1 = .ok (.iconst 0, 1) := dk_3 (dk_at dksX4_isIntruder_0 1 rfl rfl)
theorem dX4_isIntruder_2 : decode cX4_isIntruder 2 = .ok (.aload_n 0, 1) := dk_42 (dk_at dksX4_isIntruder_0 2 rfl rfl)
theorem dX4_isIntruder_3 : decode cX4_isIntruder 3 = .ok (.getfield 42, 3) := dk_180 0 42 (dk_at dksX4_isIntruder_0 3 rfl rfl)
theorem dX4_isIntruder_6 : decode cX4_isIntruder 6 = .ok (.invokeinterface 58 1, 5) := by decide +kernel
theorem dX4_isIntruder_11 : decode cX4_isIntruder 11 = .ok (.iconst 1, 1) := dk_4 (dk_at dksX4_isIntruder_0 11 rfl rfl)
theorem dX4_isIntruder_12 : decode cX4_isIntruder 12 = .ok (.isub, 1) := dk_100 (dk_at dksX4_isIntruder_0 12 rfl rfl)
theorem dX4_isIntruder_13 : decode cX4_isIntruder 13 = .ok (.invokestatic 54, 3) := dk_184 0 54 (dk_at dksX4_isIntruder_0 13 rfl rfl)
theorem dX4_isIntruder_16 : decode cX4_isIntruder 16 = .ok (.ireturn, 1) := dk_172 (dk_at dksX4_isIntruder_0 16 rfl rfl)
abbrev cX4_ofIntruder : ByteArray := prog_17_method_60_code
def yX4_ofIntruder : MethodName := ⟨RX4, "ofIntruder", "(II)I"⟩
def dkwX4_ofIntruder_1 : List UInt8 := [184, 0, 54, 154, 0, 9, 42, 5, 182, 0, 140, 172, 42, 27, 28, 182, 1, 15, 172]
abbrev dktX4_ofIntruder_1 : List UInt8 := dkwX4_ofIntruder_1 ++ []
def dkwX4_ofIntruder_0 : List UInt8 := [42, 3, 181, 0, 51, 42, 27, 182, 0, 246, 154, 0, 9, 42, 4, 182, 0, 140, 172, 28, 3, 16, 8]
abbrev dktX4_ofIntruder_0 : List UInt8 := dkwX4_ofIntruder_0 ++ dktX4_ofIntruder_1
theorem dksX4_ofIntruder_0 : cX4_ofIntruder.data.toList.drop 0 = dktX4_ofIntruder_0 := by decide +kernel
theorem dksX4_ofIntruder_1 : cX4_ofIntruder.data.toList.drop 23 = dktX4_ofIntruder_1 := dk_seg dksX4_ofIntruder_0 23 rfl rfl
theorem dX4_ofIntruder_0 : decode cX4_ofIntruder 0 = .ok (.aload_n 0, 1) := dk_42 (dk_at dksX4_ofIntruder_0 0 rfl rfl)
theorem dX4_ofIntruder_1 : decode cX4_ofIntruder 1 = .ok (.iconst 0, 1) := dk_3 (dk_at dksX4_ofIntruder_0 1 rfl rfl)
theorem dX4_ofIntruder_2 : decode cX4_ofIntruder 2 = .ok (.putfield 51, 3) := dk_181 0 51 (dk_at dksX4_ofIntruder_0 2 rfl rfl)
theorem dX4_ofIntruder_5 : decode cX4_ofIntruder 5 = .ok (.aload_n 0, 1) := dk_42 (dk_at dksX4_ofIntruder_0 5 rfl rfl)
theorem dX4_ofIntruder_6 : decode cX4_ofIntruder 6 = .ok (.iload_n 1, 1) := dk_27 (dk_at dksX4_ofIntruder_0 6 rfl rfl)
theorem dX4_ofIntruder_7 : decode cX4_ofIntruder 7 = .ok (.invokevirtual 246, 3) := dk_182 0 246 (dk_at dksX4_ofIntruder_0 7 rfl rfl)
theorem dX4_ofIntruder_10 : decode cX4_ofIntruder 10 = .ok (.ifCond .ne 9, 3) := dk_154 0 9 (dk_at dksX4_ofIntruder_0 10 rfl rfl)
theorem dX4_ofIntruder_13 : decode cX4_ofIntruder 13 = .ok (.aload_n 0, 1) := dk_42 (dk_at dksX4_ofIntruder_0 13 rfl rfl)
theorem dX4_ofIntruder_14 : decode cX4_ofIntruder 14 = .ok (.iconst 1, 1) := dk_4 (dk_at dksX4_ofIntruder_0 14 rfl rfl)
theorem dX4_ofIntruder_15 : decode cX4_ofIntruder 15 = .ok (.invokevirtual 140, 3) := dk_182 0 140 (dk_at dksX4_ofIntruder_0 15 rfl rfl)
theorem dX4_ofIntruder_18 : decode cX4_ofIntruder 18 = .ok (.ireturn, 1) := dk_172 (dk_at dksX4_ofIntruder_0 18 rfl rfl)
theorem dX4_ofIntruder_19 : decode cX4_ofIntruder 19 = .ok (.iload_n 2, 1) := dk_28 (dk_at dksX4_ofIntruder_0 19 rfl rfl)
theorem dX4_ofIntruder_20 : decode cX4_ofIntruder 20 = .ok (.iconst 0, 1) := dk_3 (dk_at dksX4_ofIntruder_0 20 rfl rfl)
theorem dX4_ofIntruder_21 : decode cX4_ofIntruder 21 = .ok (.bipush 8, 2) := dk_16 8 (dk_at dksX4_ofIntruder_0 21 rfl rfl)
theorem dX4_ofIntruder_23 : decode cX4_ofIntruder 23 = .ok (.invokestatic 54, 3) := dk_184 0 54 (dk_at dksX4_ofIntruder_1 0 rfl rfl)
theorem dX4_ofIntruder_26 : decode cX4_ofIntruder 26 = .ok (.ifCond .ne 9, 3) := dk_154 0 9 (dk_at dksX4_ofIntruder_1 3 rfl rfl)
theorem dX4_ofIntruder_29 : decode cX4_ofIntruder 29 = .ok (.aload_n 0, 1) := dk_42 (dk_at dksX4_ofIntruder_1 6 rfl rfl)
theorem dX4_ofIntruder_30 : decode cX4_ofIntruder 30 = .ok (.iconst 2, 1) := dk_5 (dk_at dksX4_ofIntruder_1 7 rfl rfl)
theorem dX4_ofIntruder_31 : decode cX4_ofIntruder 31 = .ok (.invokevirtual 140, 3) := dk_182 0 140 (dk_at dksX4_ofIntruder_1 8 rfl rfl)
theorem dX4_ofIntruder_34 : decode cX4_ofIntruder 34 = .ok (.ireturn, 1) := dk_172 (dk_at dksX4_ofIntruder_1 11 rfl rfl)
theorem dX4_ofIntruder_35 : decode cX4_ofIntruder 35 = .ok (.aload_n 0, 1) := dk_42 (dk_at dksX4_ofIntruder_1 12 rfl rfl)
theorem dX4_ofIntruder_36 : decode cX4_ofIntruder 36 = .ok (.iload_n 1, 1) := dk_27 (dk_at dksX4_ofIntruder_1 13 rfl rfl)
theorem dX4_ofIntruder_37 : decode cX4_ofIntruder 37 = .ok (.iload_n 2, 1) := dk_28 (dk_at dksX4_ofIntruder_1 14 rfl rfl)
theorem dX4_ofIntruder_38 : decode cX4_ofIntruder 38 = .ok (.invokevirtual 271, 3) := dk_182 1 15 (dk_at dksX4_ofIntruder_1 15 rfl rfl)
theorem dX4_ofIntruder_41 : decode cX4_ofIntruder 41 = .ok (.ireturn, 1) := dk_172 (dk_at dksX4_ofIntruder_1 18 rfl rfl)
abbrev cX4_intruderNow : ByteArray := prog_17_method_59_code
def yX4_intruderNow : MethodName := ⟨RX4, "intruderNow", "(II)I"⟩
def dkwX4_intruderNow_5 : List UInt8 := [180, 1, 10, 172, 45, 180, 1, 12, 172]
abbrev dktX4_intruderNow_5 : List UInt8 := dkwX4_intruderNow_5 ++ []
def dkwX4_intruderNow_4 : List UInt8 := [21, 4, 46, 21, 4, 182, 0, 186, 172, 42, 45, 3, 182, 1, 6, 172, 42, 45, 4, 182, 1, 6, 172, 45]
abbrev dktX4_intruderNow_4 : List UInt8 := dkwX4_intruderNow_4 ++ dktX4_intruderNow_5
def dkwX4_intruderNow_3 : List UInt8 := [172, 42, 45, 182, 0, 254, 54, 4, 21, 4, 2, 160, 0, 7, 3, 167, 0, 16, 42, 45, 180, 0, 243]
abbrev dktX4_intruderNow_3 : List UInt8 := dkwX4_intruderNow_3 ++ dktX4_intruderNow_4
def dkwX4_intruderNow_2 : List UInt8 := [45, 180, 0, 249, 172, 45, 180, 0, 234, 172, 45, 180, 0, 243, 17, 0, 239, 46, 172, 42, 45, 182, 0, 254]
abbrev dktX4_intruderNow_2 : List UInt8 := dkwX4_intruderNow_2 ++ dktX4_intruderNow_3
def dkwX4_intruderNow_1 : List UInt8 := [170, 0, 0, 0, 120, 0, 0, 0, 0, 0, 0, 0, 7, 0, 0, 0, 45, 0, 0, 0, 50, 0, 0, 0, 55, 0, 0, 0, 64, 0, 0, 0, 70, 0, 0, 0, 101, 0, 0, 0, 108, 0, 0, 0, 115]
abbrev dktX4_intruderNow_1 : List UInt8 := dkwX4_intruderNow_1 ++ dktX4_intruderNow_2
def dkwX4_intruderNow_0 : List UInt8 := [42, 180, 0, 42, 27, 185, 0, 80, 2, 0, 192, 0, 152, 78, 28]
abbrev dktX4_intruderNow_0 : List UInt8 := dkwX4_intruderNow_0 ++ dktX4_intruderNow_1
theorem dksX4_intruderNow_0 : cX4_intruderNow.data.toList.drop 0 = dktX4_intruderNow_0 := by decide +kernel
theorem dksX4_intruderNow_1 : cX4_intruderNow.data.toList.drop 15 = dktX4_intruderNow_1 := dk_seg dksX4_intruderNow_0 15 rfl rfl
theorem dksX4_intruderNow_2 : cX4_intruderNow.data.toList.drop 60 = dktX4_intruderNow_2 := dk_seg dksX4_intruderNow_1 45 rfl rfl
theorem dksX4_intruderNow_3 : cX4_intruderNow.data.toList.drop 84 = dktX4_intruderNow_3 := dk_seg dksX4_intruderNow_2 24 rfl rfl
theorem dksX4_intruderNow_4 : cX4_intruderNow.data.toList.drop 107 = dktX4_intruderNow_4 := dk_seg dksX4_intruderNow_3 23 rfl rfl
theorem dksX4_intruderNow_5 : cX4_intruderNow.data.toList.drop 131 = dktX4_intruderNow_5 := dk_seg dksX4_intruderNow_4 24 rfl rfl
theorem dX4_intruderNow_0 : decode cX4_intruderNow 0 = .ok (.aload_n 0, 1) := dk_42 (dk_at dksX4_intruderNow_0 0 rfl rfl)
theorem dX4_intruderNow_1 : decode cX4_intruderNow 1 = .ok (.getfield 42, 3) := dk_180 0 42 (dk_at dksX4_intruderNow_0 1 rfl rfl)
theorem dX4_intruderNow_4 : decode cX4_intruderNow 4 = .ok (.iload_n 1, 1) := dk_27 (dk_at dksX4_intruderNow_0 4 rfl rfl)
theorem dX4_intruderNow_5 : decode cX4_intruderNow 5 = .ok (.invokeinterface 80 2, 5) := by decide +kernel
theorem dX4_intruderNow_10 : decode cX4_intruderNow 10 = .ok (.checkcast 152, 3) := dk_192 0 152 (dk_at dksX4_intruderNow_0 10 rfl rfl)
theorem dX4_intruderNow_13 : decode cX4_intruderNow 13 = .ok (.astore_n 3, 1) := dk_78 (dk_at dksX4_intruderNow_0 13 rfl rfl)
theorem dX4_intruderNow_14 : decode cX4_intruderNow 14 = .ok (.iload_n 2, 1) := dk_28 (dk_at dksX4_intruderNow_0 14 rfl rfl)
theorem dX4_intruderNow_15 : decode cX4_intruderNow 15 = .ok (.tableswitch 120 0 7 #[45, 50, 55, 64, 70, 101, 108, 115], 45) := by decide +kernel
theorem dX4_intruderNow_60 : decode cX4_intruderNow 60 = .ok (.aload_n 3, 1) := dk_45 (dk_at dksX4_intruderNow_2 0 rfl rfl)
theorem dX4_intruderNow_61 : decode cX4_intruderNow 61 = .ok (.getfield 249, 3) := dk_180 0 249 (dk_at dksX4_intruderNow_2 1 rfl rfl)
theorem dX4_intruderNow_64 : decode cX4_intruderNow 64 = .ok (.ireturn, 1) := dk_172 (dk_at dksX4_intruderNow_2 4 rfl rfl)
theorem dX4_intruderNow_65 : decode cX4_intruderNow 65 = .ok (.aload_n 3, 1) := dk_45 (dk_at dksX4_intruderNow_2 5 rfl rfl)
theorem dX4_intruderNow_66 : decode cX4_intruderNow 66 = .ok (.getfield 234, 3) := dk_180 0 234 (dk_at dksX4_intruderNow_2 6 rfl rfl)
theorem dX4_intruderNow_69 : decode cX4_intruderNow 69 = .ok (.ireturn, 1) := dk_172 (dk_at dksX4_intruderNow_2 9 rfl rfl)
theorem dX4_intruderNow_70 : decode cX4_intruderNow 70 = .ok (.aload_n 3, 1) := dk_45 (dk_at dksX4_intruderNow_2 10 rfl rfl)
theorem dX4_intruderNow_71 : decode cX4_intruderNow 71 = .ok (.getfield 243, 3) := dk_180 0 243 (dk_at dksX4_intruderNow_2 11 rfl rfl)
theorem dX4_intruderNow_74 : decode cX4_intruderNow 74 = .ok (.sipush 239, 3) := dk_17 0 239 (dk_at dksX4_intruderNow_2 14 rfl rfl)
theorem dX4_intruderNow_77 : decode cX4_intruderNow 77 = .ok (.iaload, 1) := dk_46 (dk_at dksX4_intruderNow_2 17 rfl rfl)
theorem dX4_intruderNow_78 : decode cX4_intruderNow 78 = .ok (.ireturn, 1) := dk_172 (dk_at dksX4_intruderNow_2 18 rfl rfl)
theorem dX4_intruderNow_79 : decode cX4_intruderNow 79 = .ok (.aload_n 0, 1) := dk_42 (dk_at dksX4_intruderNow_2 19 rfl rfl)
theorem dX4_intruderNow_80 : decode cX4_intruderNow 80 = .ok (.aload_n 3, 1) := dk_45 (dk_at dksX4_intruderNow_2 20 rfl rfl)
theorem dX4_intruderNow_81 : decode cX4_intruderNow 81 = .ok (.invokevirtual 254, 3) := dk_182 0 254 (dk_at dksX4_intruderNow_2 21 rfl rfl)
theorem dX4_intruderNow_84 : decode cX4_intruderNow 84 = .ok (.ireturn, 1) := dk_172 (dk_at dksX4_intruderNow_3 0 rfl rfl)
theorem dX4_intruderNow_85 : decode cX4_intruderNow 85 = .ok (.aload_n 0, 1) := dk_42 (dk_at dksX4_intruderNow_3 1 rfl rfl)
theorem dX4_intruderNow_86 : decode cX4_intruderNow 86 = .ok (.aload_n 3, 1) := dk_45 (dk_at dksX4_intruderNow_3 2 rfl rfl)
theorem dX4_intruderNow_87 : decode cX4_intruderNow 87 = .ok (.invokevirtual 254, 3) := dk_182 0 254 (dk_at dksX4_intruderNow_3 3 rfl rfl)
theorem dX4_intruderNow_90 : decode cX4_intruderNow 90 = .ok (.istore 4, 2) := dk_54 4 (dk_at dksX4_intruderNow_3 6 rfl rfl)
theorem dX4_intruderNow_92 : decode cX4_intruderNow 92 = .ok (.iload 4, 2) := dk_21 4 (dk_at dksX4_intruderNow_3 8 rfl rfl)
theorem dX4_intruderNow_94 : decode cX4_intruderNow 94 = .ok (.iconst (-1), 1) := dk_2 (dk_at dksX4_intruderNow_3 10 rfl rfl)
theorem dX4_intruderNow_95 : decode cX4_intruderNow 95 = .ok (.if_icmp .ne 7, 3) := dk_160 0 7 (dk_at dksX4_intruderNow_3 11 rfl rfl)
theorem dX4_intruderNow_98 : decode cX4_intruderNow 98 = .ok (.iconst 0, 1) := dk_3 (dk_at dksX4_intruderNow_3 14 rfl rfl)
theorem dX4_intruderNow_99 : decode cX4_intruderNow 99 = .ok (.goto 16, 3) := dk_167 0 16 (dk_at dksX4_intruderNow_3 15 rfl rfl)
theorem dX4_intruderNow_102 : decode cX4_intruderNow 102 = .ok (.aload_n 0, 1) := dk_42 (dk_at dksX4_intruderNow_3 18 rfl rfl)
theorem dX4_intruderNow_103 : decode cX4_intruderNow 103 = .ok (.aload_n 3, 1) := dk_45 (dk_at dksX4_intruderNow_3 19 rfl rfl)
theorem dX4_intruderNow_104 : decode cX4_intruderNow 104 = .ok (.getfield 243, 3) := dk_180 0 243 (dk_at dksX4_intruderNow_3 20 rfl rfl)
theorem dX4_intruderNow_107 : decode cX4_intruderNow 107 = .ok (.iload 4, 2) := dk_21 4 (dk_at dksX4_intruderNow_4 0 rfl rfl)
theorem dX4_intruderNow_109 : decode cX4_intruderNow 109 = .ok (.iaload, 1) := dk_46 (dk_at dksX4_intruderNow_4 2 rfl rfl)
theorem dX4_intruderNow_110 : decode cX4_intruderNow 110 = .ok (.iload 4, 2) := dk_21 4 (dk_at dksX4_intruderNow_4 3 rfl rfl)
theorem dX4_intruderNow_112 : decode cX4_intruderNow 112 = .ok (.invokevirtual 186, 3) := dk_182 0 186 (dk_at dksX4_intruderNow_4 5 rfl rfl)
theorem dX4_intruderNow_115 : decode cX4_intruderNow 115 = .ok (.ireturn, 1) := dk_172 (dk_at dksX4_intruderNow_4 8 rfl rfl)
theorem dX4_intruderNow_116 : decode cX4_intruderNow 116 = .ok (.aload_n 0, 1) := dk_42 (dk_at dksX4_intruderNow_4 9 rfl rfl)
theorem dX4_intruderNow_117 : decode cX4_intruderNow 117 = .ok (.aload_n 3, 1) := dk_45 (dk_at dksX4_intruderNow_4 10 rfl rfl)
theorem dX4_intruderNow_118 : decode cX4_intruderNow 118 = .ok (.iconst 0, 1) := dk_3 (dk_at dksX4_intruderNow_4 11 rfl rfl)
theorem dX4_intruderNow_119 : decode cX4_intruderNow 119 = .ok (.invokevirtual 262, 3) := dk_182 1 6 (dk_at dksX4_intruderNow_4 12 rfl rfl)
theorem dX4_intruderNow_122 : decode cX4_intruderNow 122 = .ok (.ireturn, 1) := dk_172 (dk_at dksX4_intruderNow_4 15 rfl rfl)
theorem dX4_intruderNow_123 : decode cX4_intruderNow 123 = .ok (.aload_n 0, 1) := dk_42 (dk_at dksX4_intruderNow_4 16 rfl rfl)
theorem dX4_intruderNow_124 : decode cX4_intruderNow 124 = .ok (.aload_n 3, 1) := dk_45 (dk_at dksX4_intruderNow_4 17 rfl rfl)
theorem dX4_intruderNow_125 : decode cX4_intruderNow 125 = .ok (.iconst 1, 1) := dk_4 (dk_at dksX4_intruderNow_4 18 rfl rfl)
theorem dX4_intruderNow_126 : decode cX4_intruderNow 126 = .ok (.invokevirtual 262, 3) := dk_182 1 6 (dk_at dksX4_intruderNow_4 19 rfl rfl)
theorem dX4_intruderNow_129 : decode cX4_intruderNow 129 = .ok (.ireturn, 1) := dk_172 (dk_at dksX4_intruderNow_4 22 rfl rfl)
theorem dX4_intruderNow_130 : decode cX4_intruderNow 130 = .ok (.aload_n 3, 1) := dk_45 (dk_at dksX4_intruderNow_4 23 rfl rfl)
theorem dX4_intruderNow_131 : decode cX4_intruderNow 131 = .ok (.getfield 266, 3) := dk_180 1 10 (dk_at dksX4_intruderNow_5 0 rfl rfl)
theorem dX4_intruderNow_134 : decode cX4_intruderNow 134 = .ok (.ireturn, 1) := dk_172 (dk_at dksX4_intruderNow_5 3 rfl rfl)
theorem dX4_intruderNow_135 : decode cX4_intruderNow 135 = .ok (.aload_n 3, 1) := dk_45 (dk_at dksX4_intruderNow_5 4 rfl rfl)
theorem dX4_intruderNow_136 : decode cX4_intruderNow 136 = .ok (.getfield 268, 3) := dk_180 1 12 (dk_at dksX4_intruderNow_5 5 rfl rfl)
theorem dX4_intruderNow_139 : decode cX4_intruderNow 139 = .ok (.ireturn, 1) := dk_172 (dk_at dksX4_intruderNow_5 8 rfl rfl)
abbrev cX4_foundNow : ByteArray := prog_17_method_55_code
def yX4_foundNow : MethodName := ⟨RX4, "foundNow", "(LNightwatchWallModel$Intruder;)I"⟩
def dkwX4_foundNow_1 : List UInt8 := [153, 0, 5, 28, 172, 132, 2, 1, 167, 255, 230, 2, 172]
abbrev dktX4_foundNow_1 : List UInt8 := dkwX4_foundNow_1 ++ []
def dkwX4_foundNow_0 : List UInt8 := [43, 180, 0, 249, 61, 28, 17, 0, 239, 163, 0, 25, 42, 43, 180, 0, 243, 28, 46, 28, 182, 0, 183]
abbrev dktX4_foundNow_0 : List UInt8 := dkwX4_foundNow_0 ++ dktX4_foundNow_1
theorem dksX4_foundNow_0 : cX4_foundNow.data.toList.drop 0 = dktX4_foundNow_0 := by decide +kernel
theorem dksX4_foundNow_1 : cX4_foundNow.data.toList.drop 23 = dktX4_foundNow_1 := dk_seg dksX4_foundNow_0 23 rfl rfl
theorem dX4_foundNow_0 : decode cX4_foundNow 0 = .ok (.aload_n 1, 1) := dk_43 (dk_at dksX4_foundNow_0 0 rfl rfl)
theorem dX4_foundNow_1 : decode cX4_foundNow 1 = .ok (.getfield 249, 3) := dk_180 0 249 (dk_at dksX4_foundNow_0 1 rfl rfl)
theorem dX4_foundNow_4 : decode cX4_foundNow 4 = .ok (.istore_n 2, 1) := dk_61 (dk_at dksX4_foundNow_0 4 rfl rfl)
theorem dX4_foundNow_5 : decode cX4_foundNow 5 = .ok (.iload_n 2, 1) := dk_28 (dk_at dksX4_foundNow_0 5 rfl rfl)
theorem dX4_foundNow_6 : decode cX4_foundNow 6 = .ok (.sipush 239, 3) := dk_17 0 239 (dk_at dksX4_foundNow_0 6 rfl rfl)
theorem dX4_foundNow_9 : decode cX4_foundNow 9 = .ok (.if_icmp .gt 25, 3) := dk_163 0 25 (dk_at dksX4_foundNow_0 9 rfl rfl)
theorem dX4_foundNow_12 : decode cX4_foundNow 12 = .ok (.aload_n 0, 1) := dk_42 (dk_at dksX4_foundNow_0 12 rfl rfl)
theorem dX4_foundNow_13 : decode cX4_foundNow 13 = .ok (.aload_n 1, 1) := dk_43 (dk_at dksX4_foundNow_0 13 rfl rfl)
theorem dX4_foundNow_14 : decode cX4_foundNow 14 = .ok (.getfield 243, 3) := dk_180 0 243 (dk_at dksX4_foundNow_0 14 rfl rfl)
theorem dX4_foundNow_17 : decode cX4_foundNow 17 = .ok (.iload_n 2, 1) := dk_28 (dk_at dksX4_foundNow_0 17 rfl rfl)
theorem dX4_foundNow_18 : decode cX4_foundNow 18 = .ok (.iaload, 1) := dk_46 (dk_at dksX4_foundNow_0 18 rfl rfl)
theorem dX4_foundNow_19 : decode cX4_foundNow 19 = .ok (.iload_n 2, 1) := dk_28 (dk_at dksX4_foundNow_0 19 rfl rfl)
theorem dX4_foundNow_20 : decode cX4_foundNow 20 = .ok (.invokevirtual 183, 3) := dk_182 0 183 (dk_at dksX4_foundNow_0 20 rfl rfl)
theorem dX4_foundNow_23 : decode cX4_foundNow 23 = .ok (.ifCond .eq 5, 3) := dk_153 0 5 (dk_at dksX4_foundNow_1 0 rfl rfl)
theorem dX4_foundNow_26 : decode cX4_foundNow 26 = .ok (.iload_n 2, 1) := dk_28 (dk_at dksX4_foundNow_1 3 rfl rfl)
theorem dX4_foundNow_27 : decode cX4_foundNow 27 = .ok (.ireturn, 1) := dk_172 (dk_at dksX4_foundNow_1 4 rfl rfl)
theorem dX4_foundNow_28 : decode cX4_foundNow 28 = .ok (.iinc 2 1, 3) := dk_132 2 1 (dk_at dksX4_foundNow_1 5 rfl rfl)
theorem dX4_foundNow_31 : decode cX4_foundNow 31 = .ok (.goto (-26), 3) := dk_167 255 230 (dk_at dksX4_foundNow_1 8 rfl rfl)
theorem dX4_foundNow_34 : decode cX4_foundNow 34 = .ok (.iconst (-1), 1) := dk_2 (dk_at dksX4_foundNow_1 11 rfl rfl)
theorem dX4_foundNow_35 : decode cX4_foundNow 35 = .ok (.ireturn, 1) := dk_172 (dk_at dksX4_foundNow_1 12 rfl rfl)
abbrev cX4_responseNow : ByteArray := prog_17_method_58_code
def yX4_responseNow : MethodName := ⟨RX4, "responseNow", "(LNightwatchWallModel$Intruder;Z)I"⟩
def dkwX4_responseNow_3 : List UInt8 := [54, 4, 21, 6, 54, 5, 132, 6, 1, 167, 255, 194, 28, 153, 0, 8, 21, 5, 167, 0, 5, 21, 4, 172]
abbrev dktX4_responseNow_3 : List UInt8 := dkwX4_responseNow_3 ++ []
def dkwX4_responseNow_2 : List UInt8 := [21, 7, 2, 159, 0, 27, 21, 4, 2, 159, 0, 13, 21, 7, 21, 4, 161, 0, 6, 167, 0, 11, 21, 7]
abbrev dktX4_responseNow_2 : List UInt8 := dkwX4_responseNow_2 ++ dktX4_responseNow_3
def dkwX4_responseNow_1 : List UInt8 := [185, 0, 58, 1, 0, 162, 0, 54, 29, 2, 159, 0, 49, 42, 43, 29, 21, 6, 182, 1, 2, 54, 7]
abbrev dktX4_responseNow_1 : List UInt8 := dkwX4_responseNow_1 ++ dktX4_responseNow_2
def dkwX4_responseNow_0 : List UInt8 := [42, 43, 182, 0, 254, 62, 2, 54, 4, 2, 54, 5, 3, 54, 6, 21, 6, 42, 180, 0, 27]
abbrev dktX4_responseNow_0 : List UInt8 := dkwX4_responseNow_0 ++ dktX4_responseNow_1
theorem dksX4_responseNow_0 : cX4_responseNow.data.toList.drop 0 = dktX4_responseNow_0 := by decide +kernel
theorem dksX4_responseNow_1 : cX4_responseNow.data.toList.drop 21 = dktX4_responseNow_1 := dk_seg dksX4_responseNow_0 21 rfl rfl
theorem dksX4_responseNow_2 : cX4_responseNow.data.toList.drop 44 = dktX4_responseNow_2 := dk_seg dksX4_responseNow_1 23 rfl rfl
theorem dksX4_responseNow_3 : cX4_responseNow.data.toList.drop 68 = dktX4_responseNow_3 := dk_seg dksX4_responseNow_2 24 rfl rfl
theorem dX4_responseNow_0 : decode cX4_responseNow 0 = .ok (.aload_n 0, 1) := dk_42 (dk_at dksX4_responseNow_0 0 rfl rfl)
theorem dX4_responseNow_1 : decode cX4_responseNow 1 = .ok (.aload_n 1, 1) := dk_43 (dk_at dksX4_responseNow_0 1 rfl rfl)
theorem dX4_responseNow_2 : decode cX4_responseNow 2 = .ok (.invokevirtual 254, 3) := dk_182 0 254 (dk_at dksX4_responseNow_0 2 rfl rfl)
theorem dX4_responseNow_5 : decode cX4_responseNow 5 = .ok (.istore_n 3, 1) := dk_62 (dk_at dksX4_responseNow_0 5 rfl rfl)
theorem dX4_responseNow_6 : decode cX4_responseNow 6 = .ok (.iconst (-1), 1) := dk_2 (dk_at dksX4_responseNow_0 6 rfl rfl)
theorem dX4_responseNow_7 : decode cX4_responseNow 7 = .ok (.istore 4, 2) := dk_54 4 (dk_at dksX4_responseNow_0 7 rfl rfl)
theorem dX4_responseNow_9 : decode cX4_responseNow 9 = .ok (.iconst (-1), 1) := dk_2 (dk_at dksX4_responseNow_0 9 rfl rfl)
theorem dX4_responseNow_10 : decode cX4_responseNow 10 = .ok (.istore 5, 2) := dk_54 5 (dk_at dksX4_responseNow_0 10 rfl rfl)
theorem dX4_responseNow_12 : decode cX4_responseNow 12 = .ok (.iconst 0, 1) := dk_3 (dk_at dksX4_responseNow_0 12 rfl rfl)
theorem dX4_responseNow_13 : decode cX4_responseNow 13 = .ok (.istore 6, 2) := dk_54 6 (dk_at dksX4_responseNow_0 13 rfl rfl)
theorem dX4_responseNow_15 : decode cX4_responseNow 15 = .ok (.iload 6, 2) := dk_21 6 (dk_at dksX4_responseNow_0 15 rfl rfl)
theorem dX4_responseNow_17 : decode cX4_responseNow 17 = .ok (.aload_n 0, 1) := dk_42 (dk_at dksX4_responseNow_0 17 rfl rfl)
theorem dX4_responseNow_18 : decode cX4_responseNow 18 = .ok (.getfield 27, 3) := dk_180 0 27 (dk_at dksX4_responseNow_0 18 rfl rfl)
theorem dX4_responseNow_21 : decode cX4_responseNow 21 = .ok (.invokeinterface 58 1, 5) := by decide +kernel
theorem dX4_responseNow_26 : decode cX4_responseNow 26 = .ok (.if_icmp .ge 54, 3) := dk_162 0 54 (dk_at dksX4_responseNow_1 5 rfl rfl)
theorem dX4_responseNow_29 : decode cX4_responseNow 29 = .ok (.iload_n 3, 1) := dk_29 (dk_at dksX4_responseNow_1 8 rfl rfl)
theorem dX4_responseNow_30 : decode cX4_responseNow 30 = .ok (.iconst (-1), 1) := dk_2 (dk_at dksX4_responseNow_1 9 rfl rfl)
theorem dX4_responseNow_31 : decode cX4_responseNow 31 = .ok (.if_icmp .eq 49, 3) := dk_159 0 49 (dk_at dksX4_responseNow_1 10 rfl rfl)
theorem dX4_responseNow_34 : decode cX4_responseNow 34 = .ok (.aload_n 0, 1) := dk_42 (dk_at dksX4_responseNow_1 13 rfl rfl)
theorem dX4_responseNow_35 : decode cX4_responseNow 35 = .ok (.aload_n 1, 1) := dk_43 (dk_at dksX4_responseNow_1 14 rfl rfl)
theorem dX4_responseNow_36 : decode cX4_responseNow 36 = .ok (.iload_n 3, 1) := dk_29 (dk_at dksX4_responseNow_1 15 rfl rfl)
theorem dX4_responseNow_37 : decode cX4_responseNow 37 = .ok (.iload 6, 2) := dk_21 6 (dk_at dksX4_responseNow_1 16 rfl rfl)
theorem dX4_responseNow_39 : decode cX4_responseNow 39 = .ok (.invokevirtual 258, 3) := dk_182 1 2 (dk_at dksX4_responseNow_1 18 rfl rfl)
theorem dX4_responseNow_42 : decode cX4_responseNow 42 = .ok (.istore 7, 2) := dk_54 7 (dk_at dksX4_responseNow_1 21 rfl rfl)
theorem dX4_responseNow_44 : decode cX4_responseNow 44 = .ok (.iload 7, 2) := dk_21 7 (dk_at dksX4_responseNow_2 0 rfl rfl)
theorem dX4_responseNow_46 : decode cX4_responseNow 46 = .ok (.iconst (-1), 1) := dk_2 (dk_at dksX4_responseNow_2 2 rfl rfl)
theorem dX4_responseNow_47 : decode cX4_responseNow 47 = .ok (.if_icmp .eq 27, 3) := dk_159 0 27 (dk_at dksX4_responseNow_2 3 rfl rfl)
theorem dX4_responseNow_50 : decode cX4_responseNow 50 = .ok (.iload 4, 2) := dk_21 4 (dk_at dksX4_responseNow_2 6 rfl rfl)
theorem dX4_responseNow_52 : decode cX4_responseNow 52 = .ok (.iconst (-1), 1) := dk_2 (dk_at dksX4_responseNow_2 8 rfl rfl)
theorem dX4_responseNow_53 : decode cX4_responseNow 53 = .ok (.if_icmp .eq 13, 3) := dk_159 0 13 (dk_at dksX4_responseNow_2 9 rfl rfl)
theorem dX4_responseNow_56 : decode cX4_responseNow 56 = .ok (.iload 7, 2) := dk_21 7 (dk_at dksX4_responseNow_2 12 rfl rfl)
theorem dX4_responseNow_58 : decode cX4_responseNow 58 = .ok (.iload 4, 2) := dk_21 4 (dk_at dksX4_responseNow_2 14 rfl rfl)
theorem dX4_responseNow_60 : decode cX4_responseNow 60 = .ok (.if_icmp .lt 6, 3) := dk_161 0 6 (dk_at dksX4_responseNow_2 16 rfl rfl)
theorem dX4_responseNow_63 : decode cX4_responseNow 63 = .ok (.goto 11, 3) := dk_167 0 11 (dk_at dksX4_responseNow_2 19 rfl rfl)
theorem dX4_responseNow_66 : decode cX4_responseNow 66 = .ok (.iload 7, 2) := dk_21 7 (dk_at dksX4_responseNow_2 22 rfl rfl)
theorem dX4_responseNow_68 : decode cX4_responseNow 68 = .ok (.istore 4, 2) := dk_54 4 (dk_at dksX4_responseNow_3 0 rfl rfl)
theorem dX4_responseNow_70 : decode cX4_responseNow 70 = .ok (.iload 6, 2) := dk_21 6 (dk_at dksX4_responseNow_3 2 rfl rfl)
theorem dX4_responseNow_72 : decode cX4_responseNow 72 = .ok (.istore 5, 2) := dk_54 5 (dk_at dksX4_responseNow_3 4 rfl rfl)
theorem dX4_responseNow_74 : decode cX4_responseNow 74 = .ok (.iinc 6 1, 3) := dk_132 6 1 (dk_at dksX4_responseNow_3 6 rfl rfl)
theorem dX4_responseNow_77 : decode cX4_responseNow 77 = .ok (.goto (-62), 3) := dk_167 255 194 (dk_at dksX4_responseNow_3 9 rfl rfl)
theorem dX4_responseNow_80 : decode cX4_responseNow 80 = .ok (.iload_n 2, 1) := dk_28 (dk_at dksX4_responseNow_3 12 rfl rfl)
theorem dX4_responseNow_81 : decode cX4_responseNow 81 = .ok (.ifCond .eq 8, 3) := dk_153 0 8 (dk_at dksX4_responseNow_3 13 rfl rfl)
theorem dX4_responseNow_84 : decode cX4_responseNow 84 = .ok (.iload 5, 2) := dk_21 5 (dk_at dksX4_responseNow_3 16 rfl rfl)
theorem dX4_responseNow_86 : decode cX4_responseNow 86 = .ok (.goto 5, 3) := dk_167 0 5 (dk_at dksX4_responseNow_3 18 rfl rfl)
theorem dX4_responseNow_89 : decode cX4_responseNow 89 = .ok (.iload 4, 2) := dk_21 4 (dk_at dksX4_responseNow_3 21 rfl rfl)
theorem dX4_responseNow_91 : decode cX4_responseNow 91 = .ok (.ireturn, 1) := dk_172 (dk_at dksX4_responseNow_3 23 rfl rfl)
abbrev cX4_response : ByteArray := prog_17_method_57_code
def yX4_response : MethodName := ⟨RX4, "response", "(LNightwatchWallModel$Intruder;II)I"⟩
def dkwX4_response_4 : List UInt8 := [2, 172]
abbrev dktX4_response_4 : List UInt8 := dkwX4_response_4 ++ []
def dkwX4_response_3 : List UInt8 := [43, 180, 0, 243, 21, 5, 46, 46, 21, 5, 28, 100, 163, 0, 6, 21, 5, 172, 132, 5, 1, 167, 255, 211]
abbrev dktX4_response_3 : List UInt8 := dkwX4_response_3 ++ dktX4_response_4
def dkwX4_response_2 : List UInt8 := [21, 5, 17, 0, 239, 163, 0, 43, 25, 4, 43, 180, 0, 243, 21, 5, 46, 46, 2, 159, 0, 23, 25, 4]
abbrev dktX4_response_2 : List UInt8 := dkwX4_response_2 ++ dktX4_response_3
def dkwX4_response_1 : List UInt8 := [180, 0, 27, 29, 185, 0, 80, 2, 0, 192, 0, 84, 28, 182, 0, 124, 182, 0, 250, 58, 4, 28, 54, 5]
abbrev dktX4_response_1 : List UInt8 := dkwX4_response_1 ++ dktX4_response_2
def dkwX4_response_0 : List UInt8 := [42, 180, 0, 27, 29, 185, 0, 80, 2, 0, 192, 0, 84, 28, 182, 0, 199, 154, 0, 5, 2, 172, 42, 42]
abbrev dktX4_response_0 : List UInt8 := dkwX4_response_0 ++ dktX4_response_1
theorem dksX4_response_0 : cX4_response.data.toList.drop 0 = dktX4_response_0 := by decide +kernel
theorem dksX4_response_1 : cX4_response.data.toList.drop 24 = dktX4_response_1 := dk_seg dksX4_response_0 24 rfl rfl
theorem dksX4_response_2 : cX4_response.data.toList.drop 48 = dktX4_response_2 := dk_seg dksX4_response_1 24 rfl rfl
theorem dksX4_response_3 : cX4_response.data.toList.drop 72 = dktX4_response_3 := dk_seg dksX4_response_2 24 rfl rfl
theorem dksX4_response_4 : cX4_response.data.toList.drop 96 = dktX4_response_4 := dk_seg dksX4_response_3 24 rfl rfl
theorem dX4_response_0 : decode cX4_response 0 = .ok (.aload_n 0, 1) := dk_42 (dk_at dksX4_response_0 0 rfl rfl)
theorem dX4_response_1 : decode cX4_response 1 = .ok (.getfield 27, 3) := dk_180 0 27 (dk_at dksX4_response_0 1 rfl rfl)
theorem dX4_response_4 : decode cX4_response 4 = .ok (.iload_n 3, 1) := dk_29 (dk_at dksX4_response_0 4 rfl rfl)
theorem dX4_response_5 : decode cX4_response 5 = .ok (.invokeinterface 80 2, 5) := by decide +kernel
theorem dX4_response_10 : decode cX4_response 10 = .ok (.checkcast 84, 3) := dk_192 0 84 (dk_at dksX4_response_0 10 rfl rfl)
theorem dX4_response_13 : decode cX4_response 13 = .ok (.iload_n 2, 1) := dk_28 (dk_at dksX4_response_0 13 rfl rfl)
theorem dX4_response_14 : decode cX4_response 14 = .ok (.invokevirtual 199, 3) := dk_182 0 199 (dk_at dksX4_response_0 14 rfl rfl)
theorem dX4_response_17 : decode cX4_response 17 = .ok (.ifCond .ne 5, 3) := dk_154 0 5 (dk_at dksX4_response_0 17 rfl rfl)
theorem dX4_response_20 : decode cX4_response 20 = .ok (.iconst (-1), 1) := dk_2 (dk_at dksX4_response_0 20 rfl rfl)
theorem dX4_response_21 : decode cX4_response 21 = .ok (.ireturn, 1) := dk_172 (dk_at dksX4_response_0 21 rfl rfl)
theorem dX4_response_22 : decode cX4_response 22 = .ok (.aload_n 0, 1) := dk_42 (dk_at dksX4_response_0 22 rfl rfl)
theorem dX4_response_23 : decode cX4_response 23 = .ok (.aload_n 0, 1) := dk_42 (dk_at dksX4_response_0 23 rfl rfl)
theorem dX4_response_24 : decode cX4_response 24 = .ok (.getfield 27, 3) := dk_180 0 27 (dk_at dksX4_response_1 0 rfl rfl)
theorem dX4_response_27 : decode cX4_response 27 = .ok (.iload_n 3, 1) := dk_29 (dk_at dksX4_response_1 3 rfl rfl)
theorem dX4_response_28 : decode cX4_response 28 = .ok (.invokeinterface 80 2, 5) := by decide +kernel
theorem dX4_response_33 : decode cX4_response 33 = .ok (.checkcast 84, 3) := dk_192 0 84 (dk_at dksX4_response_1 9 rfl rfl)
theorem dX4_response_36 : decode cX4_response 36 = .ok (.iload_n 2, 1) := dk_28 (dk_at dksX4_response_1 12 rfl rfl)
theorem dX4_response_37 : decode cX4_response 37 = .ok (.invokevirtual 124, 3) := dk_182 0 124 (dk_at dksX4_response_1 13 rfl rfl)
theorem dX4_response_40 : decode cX4_response 40 = .ok (.invokevirtual 250, 3) := dk_182 0 250 (dk_at dksX4_response_1 16 rfl rfl)
theorem dX4_response_43 : decode cX4_response 43 = .ok (.astore 4, 2) := dk_58 4 (dk_at dksX4_response_1 19 rfl rfl)
theorem dX4_response_45 : decode cX4_response 45 = .ok (.iload_n 2, 1) := dk_28 (dk_at dksX4_response_1 21 rfl rfl)
theorem dX4_response_46 : decode cX4_response 46 = .ok (.istore 5, 2) := dk_54 5 (dk_at dksX4_response_1 22 rfl rfl)
theorem dX4_response_48 : decode cX4_response 48 = .ok (.iload 5, 2) := dk_21 5 (dk_at dksX4_response_2 0 rfl rfl)
theorem dX4_response_50 : decode cX4_response 50 = .ok (.sipush 239, 3) := dk_17 0 239 (dk_at dksX4_response_2 2 rfl rfl)
theorem dX4_response_53 : decode cX4_response 53 = .ok (.if_icmp .gt 43, 3) := dk_163 0 43 (dk_at dksX4_response_2 5 rfl rfl)
theorem dX4_response_56 : decode cX4_response 56 = .ok (.aload 4, 2) := dk_25 4 (dk_at dksX4_response_2 8 rfl rfl)
theorem dX4_response_58 : decode cX4_response 58 = .ok (.aload_n 1, 1) := dk_43 (dk_at dksX4_response_2 10 rfl rfl)
theorem dX4_response_59 : decode cX4_response 59 = .ok (.getfield 243, 3) := dk_180 0 243 (dk_at dksX4_response_2 11 rfl rfl)
theorem dX4_response_62 : decode cX4_response 62 = .ok (.iload 5, 2) := dk_21 5 (dk_at dksX4_response_2 14 rfl rfl)
theorem dX4_response_64 : decode cX4_response 64 = .ok (.iaload, 1) := dk_46 (dk_at dksX4_response_2 16 rfl rfl)
theorem dX4_response_65 : decode cX4_response 65 = .ok (.iaload, 1) := dk_46 (dk_at dksX4_response_2 17 rfl rfl)
theorem dX4_response_66 : decode cX4_response 66 = .ok (.iconst (-1), 1) := dk_2 (dk_at dksX4_response_2 18 rfl rfl)
theorem dX4_response_67 : decode cX4_response 67 = .ok (.if_icmp .eq 23, 3) := dk_159 0 23 (dk_at dksX4_response_2 19 rfl rfl)
theorem dX4_response_70 : decode cX4_response 70 = .ok (.aload 4, 2) := dk_25 4 (dk_at dksX4_response_2 22 rfl rfl)
theorem dX4_response_72 : decode cX4_response 72 = .ok (.aload_n 1, 1) := dk_43 (dk_at dksX4_response_3 0 rfl rfl)
theorem dX4_response_73 : decode cX4_response 73 = .ok (.getfield 243, 3) := dk_180 0 243 (dk_at dksX4_response_3 1 rfl rfl)
theorem dX4_response_76 : decode cX4_response 76 = .ok (.iload 5, 2) := dk_21 5 (dk_at dksX4_response_3 4 rfl rfl)
theorem dX4_response_78 : decode cX4_response 78 = .ok (.iaload, 1) := dk_46 (dk_at dksX4_response_3 6 rfl rfl)
theorem dX4_response_79 : decode cX4_response 79 = .ok (.iaload, 1) := dk_46 (dk_at dksX4_response_3 7 rfl rfl)
theorem dX4_response_80 : decode cX4_response 80 = .ok (.iload 5, 2) := dk_21 5 (dk_at dksX4_response_3 8 rfl rfl)
theorem dX4_response_82 : decode cX4_response 82 = .ok (.iload_n 2, 1) := dk_28 (dk_at dksX4_response_3 10 rfl rfl)
theorem dX4_response_83 : decode cX4_response 83 = .ok (.isub, 1) := dk_100 (dk_at dksX4_response_3 11 rfl rfl)
theorem dX4_response_84 : decode cX4_response 84 = .ok (.if_icmp .gt 6, 3) := dk_163 0 6 (dk_at dksX4_response_3 12 rfl rfl)
theorem dX4_response_87 : decode cX4_response 87 = .ok (.iload 5, 2) := dk_21 5 (dk_at dksX4_response_3 15 rfl rfl)
theorem dX4_response_89 : decode cX4_response 89 = .ok (.ireturn, 1) := dk_172 (dk_at dksX4_response_3 17 rfl rfl)
theorem dX4_response_90 : decode cX4_response 90 = .ok (.iinc 5 1, 3) := dk_132 5 1 (dk_at dksX4_response_3 18 rfl rfl)
theorem dX4_response_93 : decode cX4_response 93 = .ok (.goto (-45), 3) := dk_167 255 211 (dk_at dksX4_response_3 21 rfl rfl)
theorem dX4_response_96 : decode cX4_response 96 = .ok (.iconst (-1), 1) := dk_2 (dk_at dksX4_response_4 0 rfl rfl)
theorem dX4_response_97 : decode cX4_response 97 = .ok (.ireturn, 1) := dk_172 (dk_at dksX4_response_4 1 rfl rfl)
abbrev cX4_steps : ByteArray := prog_17_method_56_code
def yX4_steps : MethodName := ⟨RX4, "steps", "(I)[I"⟩
def dkwX4_steps_6 : List UInt8 := [176]
abbrev dktX4_steps_6 : List UInt8 := dkwX4_steps_6 ++ []
def dkwX4_steps_5 : List UInt8 := [96, 79, 45, 21, 4, 132, 4, 1, 21, 7, 79, 132, 6, 1, 167, 255, 186, 132, 5, 1, 167, 255, 170, 44]
abbrev dktX4_steps_5 : List UInt8 := dkwX4_steps_5 ++ dktX4_steps_6
def dkwX4_steps_4 : List UInt8 := [159, 0, 35, 44, 21, 7, 46, 2, 159, 0, 6, 167, 0, 24, 44, 21, 7, 44, 45, 21, 5, 46, 46, 4]
abbrev dktX4_steps_4 : List UInt8 := dkwX4_steps_4 ++ dktX4_steps_5
def dkwX4_steps_3 : List UInt8 := [21, 5, 46, 21, 6, 182, 0, 240, 54, 7, 21, 7, 2, 159, 0, 46, 42, 180, 0, 7, 21, 7, 46, 4]
abbrev dktX4_steps_3 : List UInt8 := dkwX4_steps_3 ++ dktX4_steps_4
def dkwX4_steps_2 : List UInt8 := [54, 4, 3, 54, 5, 21, 5, 21, 4, 162, 0, 85, 4, 54, 6, 21, 6, 7, 163, 0, 70, 42, 45]
abbrev dktX4_steps_2 : List UInt8 := dkwX4_steps_2 ++ dktX4_steps_3
def dkwX4_steps_1 : List UInt8 := [162, 0, 14, 44, 21, 4, 2, 79, 132, 4, 1, 167, 255, 241, 44, 27, 3, 79, 45, 3, 27, 79, 4]
abbrev dktX4_steps_1 : List UInt8 := dkwX4_steps_1 ++ dktX4_steps_2
def dkwX4_steps_0 : List UInt8 := [42, 180, 0, 7, 190, 188, 10, 77, 42, 180, 0, 7, 190, 188, 10, 78, 3, 54, 4, 21, 4, 44, 190]
abbrev dktX4_steps_0 : List UInt8 := dkwX4_steps_0 ++ dktX4_steps_1
theorem dksX4_steps_0 : cX4_steps.data.toList.drop 0 = dktX4_steps_0 := by decide +kernel
theorem dksX4_steps_1 : cX4_steps.data.toList.drop 23 = dktX4_steps_1 := dk_seg dksX4_steps_0 23 rfl rfl
theorem dksX4_steps_2 : cX4_steps.data.toList.drop 46 = dktX4_steps_2 := dk_seg dksX4_steps_1 23 rfl rfl
theorem dksX4_steps_3 : cX4_steps.data.toList.drop 69 = dktX4_steps_3 := dk_seg dksX4_steps_2 23 rfl rfl
theorem dksX4_steps_4 : cX4_steps.data.toList.drop 93 = dktX4_steps_4 := dk_seg dksX4_steps_3 24 rfl rfl
theorem dksX4_steps_5 : cX4_steps.data.toList.drop 117 = dktX4_steps_5 := dk_seg dksX4_steps_4 24 rfl rfl
theorem dksX4_steps_6 : cX4_steps.data.toList.drop 141 = dktX4_steps_6 := dk_seg dksX4_steps_5 24 rfl rfl
theorem dX4_steps_0 : decode cX4_steps 0 = .ok (.aload_n 0, 1) := dk_42 (dk_at dksX4_steps_0 0 rfl rfl)
theorem dX4_steps_1 : decode cX4_steps 1 = .ok (.getfield 7, 3) := dk_180 0 7 (dk_at dksX4_steps_0 1 rfl rfl)
theorem dX4_steps_4 : decode cX4_steps 4 = .ok (.arraylength, 1) := dk_190 (dk_at dksX4_steps_0 4 rfl rfl)
theorem dX4_steps_5 : decode cX4_steps 5 = .ok (.newarray .int, 2) := dk_188_10 (dk_at dksX4_steps_0 5 rfl rfl)
theorem dX4_steps_7 : decode cX4_steps 7 = .ok (.astore_n 2, 1) := dk_77 (dk_at dksX4_steps_0 7 rfl rfl)
theorem dX4_steps_8 : decode cX4_steps 8 = .ok (.aload_n 0, 1) := dk_42 (dk_at dksX4_steps_0 8 rfl rfl)
theorem dX4_steps_9 : decode cX4_steps 9 = .ok (.getfield 7, 3) := dk_180 0 7 (dk_at dksX4_steps_0 9 rfl rfl)
theorem dX4_steps_12 : decode cX4_steps 12 = .ok (.arraylength, 1) := dk_190 (dk_at dksX4_steps_0 12 rfl rfl)
theorem dX4_steps_13 : decode cX4_steps 13 = .ok (.newarray .int, 2) := dk_188_10 (dk_at dksX4_steps_0 13 rfl rfl)
theorem dX4_steps_15 : decode cX4_steps 15 = .ok (.astore_n 3, 1) := dk_78 (dk_at dksX4_steps_0 15 rfl rfl)
theorem dX4_steps_16 : decode cX4_steps 16 = .ok (.iconst 0, 1) := dk_3 (dk_at dksX4_steps_0 16 rfl rfl)
theorem dX4_steps_17 : decode cX4_steps 17 = .ok (.istore 4, 2) := dk_54 4 (dk_at dksX4_steps_0 17 rfl rfl)
theorem dX4_steps_19 : decode cX4_steps 19 = .ok (.iload 4, 2) := dk_21 4 (dk_at dksX4_steps_0 19 rfl rfl)
theorem dX4_steps_21 : decode cX4_steps 21 = .ok (.aload_n 2, 1) := dk_44 (dk_at dksX4_steps_0 21 rfl rfl)
theorem dX4_steps_22 : decode cX4_steps 22 = .ok (.arraylength, 1) := dk_190 (dk_at dksX4_steps_0 22 rfl rfl)
theorem dX4_steps_23 : decode cX4_steps 23 = .ok (.if_icmp .ge 14, 3) := dk_162 0 14 (dk_at dksX4_steps_1 0 rfl rfl)
theorem dX4_steps_26 : decode cX4_steps 26 = .ok (.aload_n 2, 1) := dk_44 (dk_at dksX4_steps_1 3 rfl rfl)
theorem dX4_steps_27 : decode cX4_steps 27 = .ok (.iload 4, 2) := dk_21 4 (dk_at dksX4_steps_1 4 rfl rfl)
theorem dX4_steps_29 : decode cX4_steps 29 = .ok (.iconst (-1), 1) := dk_2 (dk_at dksX4_steps_1 6 rfl rfl)
theorem dX4_steps_30 : decode cX4_steps 30 = .ok (.iastore, 1) := dk_79 (dk_at dksX4_steps_1 7 rfl rfl)
theorem dX4_steps_31 : decode cX4_steps 31 = .ok (.iinc 4 1, 3) := dk_132 4 1 (dk_at dksX4_steps_1 8 rfl rfl)
theorem dX4_steps_34 : decode cX4_steps 34 = .ok (.goto (-15), 3) := dk_167 255 241 (dk_at dksX4_steps_1 11 rfl rfl)
theorem dX4_steps_37 : decode cX4_steps 37 = .ok (.aload_n 2, 1) := dk_44 (dk_at dksX4_steps_1 14 rfl rfl)
theorem dX4_steps_38 : decode cX4_steps 38 = .ok (.iload_n 1, 1) := dk_27 (dk_at dksX4_steps_1 15 rfl rfl)
theorem dX4_steps_39 : decode cX4_steps 39 = .ok (.iconst 0, 1) := dk_3 (dk_at dksX4_steps_1 16 rfl rfl)
theorem dX4_steps_40 : decode cX4_steps 40 = .ok (.iastore, 1) := dk_79 (dk_at dksX4_steps_1 17 rfl rfl)
theorem dX4_steps_41 : decode cX4_steps 41 = .ok (.aload_n 3, 1) := dk_45 (dk_at dksX4_steps_1 18 rfl rfl)
theorem dX4_steps_42 : decode cX4_steps 42 = .ok (.iconst 0, 1) := dk_3 (dk_at dksX4_steps_1 19 rfl rfl)
theorem dX4_steps_43 : decode cX4_steps 43 = .ok (.iload_n 1, 1) := dk_27 (dk_at dksX4_steps_1 20 rfl rfl)
theorem dX4_steps_44 : decode cX4_steps 44 = .ok (.iastore, 1) := dk_79 (dk_at dksX4_steps_1 21 rfl rfl)
theorem dX4_steps_45 : decode cX4_steps 45 = .ok (.iconst 1, 1) := dk_4 (dk_at dksX4_steps_1 22 rfl rfl)
theorem dX4_steps_46 : decode cX4_steps 46 = .ok (.istore 4, 2) := dk_54 4 (dk_at dksX4_steps_2 0 rfl rfl)
theorem dX4_steps_48 : decode cX4_steps 48 = .ok (.iconst 0, 1) := dk_3 (dk_at dksX4_steps_2 2 rfl rfl)
theorem dX4_steps_49 : decode cX4_steps 49 = .ok (.istore 5, 2) := dk_54 5 (dk_at dksX4_steps_2 3 rfl rfl)
theorem dX4_steps_51 : decode cX4_steps 51 = .ok (.iload 5, 2) := dk_21 5 (dk_at dksX4_steps_2 5 rfl rfl)
theorem dX4_steps_53 : decode cX4_steps 53 = .ok (.iload 4, 2) := dk_21 4 (dk_at dksX4_steps_2 7 rfl rfl)
theorem dX4_steps_55 : decode cX4_steps 55 = .ok (.if_icmp .ge 85, 3) := dk_162 0 85 (dk_at dksX4_steps_2 9 rfl rfl)
theorem dX4_steps_58 : decode cX4_steps 58 = .ok (.iconst 1, 1) := dk_4 (dk_at dksX4_steps_2 12 rfl rfl)
theorem dX4_steps_59 : decode cX4_steps 59 = .ok (.istore 6, 2) := dk_54 6 (dk_at dksX4_steps_2 13 rfl rfl)
theorem dX4_steps_61 : decode cX4_steps 61 = .ok (.iload 6, 2) := dk_21 6 (dk_at dksX4_steps_2 15 rfl rfl)
theorem dX4_steps_63 : decode cX4_steps 63 = .ok (.iconst 4, 1) := dk_7 (dk_at dksX4_steps_2 17 rfl rfl)
theorem dX4_steps_64 : decode cX4_steps 64 = .ok (.if_icmp .gt 70, 3) := dk_163 0 70 (dk_at dksX4_steps_2 18 rfl rfl)
theorem dX4_steps_67 : decode cX4_steps 67 = .ok (.aload_n 0, 1) := dk_42 (dk_at dksX4_steps_2 21 rfl rfl)
theorem dX4_steps_68 : decode cX4_steps 68 = .ok (.aload_n 3, 1) := dk_45 (dk_at dksX4_steps_2 22 rfl rfl)
theorem dX4_steps_69 : decode cX4_steps 69 = .ok (.iload 5, 2) := dk_21 5 (dk_at dksX4_steps_3 0 rfl rfl)
theorem dX4_steps_71 : decode cX4_steps 71 = .ok (.iaload, 1) := dk_46 (dk_at dksX4_steps_3 2 rfl rfl)
theorem dX4_steps_72 : decode cX4_steps 72 = .ok (.iload 6, 2) := dk_21 6 (dk_at dksX4_steps_3 3 rfl rfl)
theorem dX4_steps_74 : decode cX4_steps 74 = .ok (.invokevirtual 240, 3) := dk_182 0 240 (dk_at dksX4_steps_3 5 rfl rfl)
theorem dX4_steps_77 : decode cX4_steps 77 = .ok (.istore 7, 2) := dk_54 7 (dk_at dksX4_steps_3 8 rfl rfl)
theorem dX4_steps_79 : decode cX4_steps 79 = .ok (.iload 7, 2) := dk_21 7 (dk_at dksX4_steps_3 10 rfl rfl)
theorem dX4_steps_81 : decode cX4_steps 81 = .ok (.iconst (-1), 1) := dk_2 (dk_at dksX4_steps_3 12 rfl rfl)
theorem dX4_steps_82 : decode cX4_steps 82 = .ok (.if_icmp .eq 46, 3) := dk_159 0 46 (dk_at dksX4_steps_3 13 rfl rfl)
theorem dX4_steps_85 : decode cX4_steps 85 = .ok (.aload_n 0, 1) := dk_42 (dk_at dksX4_steps_3 16 rfl rfl)
theorem dX4_steps_86 : decode cX4_steps 86 = .ok (.getfield 7, 3) := dk_180 0 7 (dk_at dksX4_steps_3 17 rfl rfl)
theorem dX4_steps_89 : decode cX4_steps 89 = .ok (.iload 7, 2) := dk_21 7 (dk_at dksX4_steps_3 20 rfl rfl)
theorem dX4_steps_91 : decode cX4_steps 91 = .ok (.iaload, 1) := dk_46 (dk_at dksX4_steps_3 22 rfl rfl)
theorem dX4_steps_92 : decode cX4_steps 92 = .ok (.iconst 1, 1) := dk_4 (dk_at dksX4_steps_3 23 rfl rfl)
theorem dX4_steps_93 : decode cX4_steps 93 = .ok (.if_icmp .eq 35, 3) := dk_159 0 35 (dk_at dksX4_steps_4 0 rfl rfl)
theorem dX4_steps_96 : decode cX4_steps 96 = .ok (.aload_n 2, 1) := dk_44 (dk_at dksX4_steps_4 3 rfl rfl)
theorem dX4_steps_97 : decode cX4_steps 97 = .ok (.iload 7, 2) := dk_21 7 (dk_at dksX4_steps_4 4 rfl rfl)
theorem dX4_steps_99 : decode cX4_steps 99 = .ok (.iaload, 1) := dk_46 (dk_at dksX4_steps_4 6 rfl rfl)
theorem dX4_steps_100 : decode cX4_steps 100 = .ok (.iconst (-1), 1) := dk_2 (dk_at dksX4_steps_4 7 rfl rfl)
theorem dX4_steps_101 : decode cX4_steps 101 = .ok (.if_icmp .eq 6, 3) := dk_159 0 6 (dk_at dksX4_steps_4 8 rfl rfl)
theorem dX4_steps_104 : decode cX4_steps 104 = .ok (.goto 24, 3) := dk_167 0 24 (dk_at dksX4_steps_4 11 rfl rfl)
theorem dX4_steps_107 : decode cX4_steps 107 = .ok (.aload_n 2, 1) := dk_44 (dk_at dksX4_steps_4 14 rfl rfl)
theorem dX4_steps_108 : decode cX4_steps 108 = .ok (.iload 7, 2) := dk_21 7 (dk_at dksX4_steps_4 15 rfl rfl)
theorem dX4_steps_110 : decode cX4_steps 110 = .ok (.aload_n 2, 1) := dk_44 (dk_at dksX4_steps_4 17 rfl rfl)
theorem dX4_steps_111 : decode cX4_steps 111 = .ok (.aload_n 3, 1) := dk_45 (dk_at dksX4_steps_4 18 rfl rfl)
theorem dX4_steps_112 : decode cX4_steps 112 = .ok (.iload 5, 2) := dk_21 5 (dk_at dksX4_steps_4 19 rfl rfl)
theorem dX4_steps_114 : decode cX4_steps 114 = .ok (.iaload, 1) := dk_46 (dk_at dksX4_steps_4 21 rfl rfl)
theorem dX4_steps_115 : decode cX4_steps 115 = .ok (.iaload, 1) := dk_46 (dk_at dksX4_steps_4 22 rfl rfl)
theorem dX4_steps_116 : decode cX4_steps 116 = .ok (.iconst 1, 1) := dk_4 (dk_at dksX4_steps_4 23 rfl rfl)
theorem dX4_steps_117 : decode cX4_steps 117 = .ok (.iadd, 1) := dk_96 (dk_at dksX4_steps_5 0 rfl rfl)
theorem dX4_steps_118 : decode cX4_steps 118 = .ok (.iastore, 1) := dk_79 (dk_at dksX4_steps_5 1 rfl rfl)
theorem dX4_steps_119 : decode cX4_steps 119 = .ok (.aload_n 3, 1) := dk_45 (dk_at dksX4_steps_5 2 rfl rfl)
theorem dX4_steps_120 : decode cX4_steps 120 = .ok (.iload 4, 2) := dk_21 4 (dk_at dksX4_steps_5 3 rfl rfl)
theorem dX4_steps_122 : decode cX4_steps 122 = .ok (.iinc 4 1, 3) := dk_132 4 1 (dk_at dksX4_steps_5 5 rfl rfl)
theorem dX4_steps_125 : decode cX4_steps 125 = .ok (.iload 7, 2) := dk_21 7 (dk_at dksX4_steps_5 8 rfl rfl)
theorem dX4_steps_127 : decode cX4_steps 127 = .ok (.iastore, 1) := dk_79 (dk_at dksX4_steps_5 10 rfl rfl)
theorem dX4_steps_128 : decode cX4_steps 128 = .ok (.iinc 6 1, 3) := dk_132 6 1 (dk_at dksX4_steps_5 11 rfl rfl)
theorem dX4_steps_131 : decode cX4_steps 131 = .ok (.goto (-70), 3) := dk_167 255 186 (dk_at dksX4_steps_5 14 rfl rfl)
theorem dX4_steps_134 : decode cX4_steps 134 = .ok (.iinc 5 1, 3) := dk_132 5 1 (dk_at dksX4_steps_5 17 rfl rfl)
theorem dX4_steps_137 : decode cX4_steps 137 = .ok (.goto (-86), 3) := dk_167 255 170 (dk_at dksX4_steps_5 20 rfl rfl)
theorem dX4_steps_140 : decode cX4_steps 140 = .ok (.aload_n 2, 1) := dk_44 (dk_at dksX4_steps_5 23 rfl rfl)
theorem dX4_steps_141 : decode cX4_steps 141 = .ok (.areturn, 1) := dk_176 (dk_at dksX4_steps_6 0 rfl rfl)
abbrev cX4_force : ByteArray := prog_17_method_61_code
def yX4_force : MethodName := ⟨RX4, "force", "(III)I"⟩
def dkwX4_force_5 : List UInt8 := [25, 4, 180, 1, 10, 172]
abbrev dktX4_force_5 : List UInt8 := dkwX4_force_5 ++ []
def dkwX4_force_4 : List UInt8 := [42, 6, 182, 0, 140, 172, 25, 4, 89, 180, 1, 10, 4, 96, 181, 1, 10, 25, 4, 29, 181, 1, 12]
abbrev dktX4_force_4 : List UInt8 := dkwX4_force_4 ++ dktX4_force_5
def dkwX4_force_3 : List UInt8 := [160, 0, 24, 21, 5, 2, 159, 0, 18, 29, 21, 5, 161, 0, 12, 29, 25, 4, 180, 1, 12, 162, 0, 9]
abbrev dktX4_force_3 : List UInt8 := dkwX4_force_3 ++ dktX4_force_4
def dkwX4_force_2 : List UInt8 := [185, 0, 80, 2, 0, 192, 0, 152, 58, 4, 42, 25, 4, 182, 0, 254, 54, 5, 25, 4, 180, 1, 10, 28]
abbrev dktX4_force_2 : List UInt8 := dkwX4_force_2 ++ dktX4_force_3
def dkwX4_force_1 : List UInt8 := [184, 0, 54, 153, 0, 10, 29, 184, 0, 163, 154, 0, 9, 42, 5, 182, 0, 140, 172, 42, 180, 0, 42, 27]
abbrev dktX4_force_1 : List UInt8 := dkwX4_force_1 ++ dktX4_force_2
def dkwX4_force_0 : List UInt8 := [42, 3, 181, 0, 51, 42, 27, 182, 0, 246, 154, 0, 9, 42, 4, 182, 0, 140, 172, 28, 3, 6]
abbrev dktX4_force_0 : List UInt8 := dkwX4_force_0 ++ dktX4_force_1
theorem dksX4_force_0 : cX4_force.data.toList.drop 0 = dktX4_force_0 := by decide +kernel
theorem dksX4_force_1 : cX4_force.data.toList.drop 22 = dktX4_force_1 := dk_seg dksX4_force_0 22 rfl rfl
theorem dksX4_force_2 : cX4_force.data.toList.drop 46 = dktX4_force_2 := dk_seg dksX4_force_1 24 rfl rfl
theorem dksX4_force_3 : cX4_force.data.toList.drop 70 = dktX4_force_3 := dk_seg dksX4_force_2 24 rfl rfl
theorem dksX4_force_4 : cX4_force.data.toList.drop 94 = dktX4_force_4 := dk_seg dksX4_force_3 24 rfl rfl
theorem dksX4_force_5 : cX4_force.data.toList.drop 117 = dktX4_force_5 := dk_seg dksX4_force_4 23 rfl rfl
theorem dX4_force_0 : decode cX4_force 0 = .ok (.aload_n 0, 1) := dk_42 (dk_at dksX4_force_0 0 rfl rfl)
theorem dX4_force_1 : decode cX4_force 1 = .ok (.iconst 0, 1) := dk_3 (dk_at dksX4_force_0 1 rfl rfl)
theorem dX4_force_2 : decode cX4_force 2 = .ok (.putfield 51, 3) := dk_181 0 51 (dk_at dksX4_force_0 2 rfl rfl)
theorem dX4_force_5 : decode cX4_force 5 = .ok (.aload_n 0, 1) := dk_42 (dk_at dksX4_force_0 5 rfl rfl)
theorem dX4_force_6 : decode cX4_force 6 = .ok (.iload_n 1, 1) := dk_27 (dk_at dksX4_force_0 6 rfl rfl)
theorem dX4_force_7 : decode cX4_force 7 = .ok (.invokevirtual 246, 3) := dk_182 0 246 (dk_at dksX4_force_0 7 rfl rfl)
theorem dX4_force_10 : decode cX4_force 10 = .ok (.ifCond .ne 9, 3) := dk_154 0 9 (dk_at dksX4_force_0 10 rfl rfl)
theorem dX4_force_13 : decode cX4_force 13 = .ok (.aload_n 0, 1) := dk_42 (dk_at dksX4_force_0 13 rfl rfl)
theorem dX4_force_14 : decode cX4_force 14 = .ok (.iconst 1, 1) := dk_4 (dk_at dksX4_force_0 14 rfl rfl)
theorem dX4_force_15 : decode cX4_force 15 = .ok (.invokevirtual 140, 3) := dk_182 0 140 (dk_at dksX4_force_0 15 rfl rfl)
theorem dX4_force_18 : decode cX4_force 18 = .ok (.ireturn, 1) := dk_172 (dk_at dksX4_force_0 18 rfl rfl)
theorem dX4_force_19 : decode cX4_force 19 = .ok (.iload_n 2, 1) := dk_28 (dk_at dksX4_force_0 19 rfl rfl)
theorem dX4_force_20 : decode cX4_force 20 = .ok (.iconst 0, 1) := dk_3 (dk_at dksX4_force_0 20 rfl rfl)
theorem dX4_force_21 : decode cX4_force 21 = .ok (.iconst 3, 1) := dk_6 (dk_at dksX4_force_0 21 rfl rfl)
theorem dX4_force_22 : decode cX4_force 22 = .ok (.invokestatic 54, 3) := dk_184 0 54 (dk_at dksX4_force_1 0 rfl rfl)
theorem dX4_force_25 : decode cX4_force 25 = .ok (.ifCond .eq 10, 3) := dk_153 0 10 (dk_at dksX4_force_1 3 rfl rfl)
theorem dX4_force_28 : decode cX4_force 28 = .ok (.iload_n 3, 1) := dk_29 (dk_at dksX4_force_1 6 rfl rfl)
theorem dX4_force_29 : decode cX4_force 29 = .ok (.invokestatic 163, 3) := dk_184 0 163 (dk_at dksX4_force_1 7 rfl rfl)
theorem dX4_force_32 : decode cX4_force 32 = .ok (.ifCond .ne 9, 3) := dk_154 0 9 (dk_at dksX4_force_1 10 rfl rfl)
theorem dX4_force_35 : decode cX4_force 35 = .ok (.aload_n 0, 1) := dk_42 (dk_at dksX4_force_1 13 rfl rfl)
theorem dX4_force_36 : decode cX4_force 36 = .ok (.iconst 2, 1) := dk_5 (dk_at dksX4_force_1 14 rfl rfl)
theorem dX4_force_37 : decode cX4_force 37 = .ok (.invokevirtual 140, 3) := dk_182 0 140 (dk_at dksX4_force_1 15 rfl rfl)
theorem dX4_force_40 : decode cX4_force 40 = .ok (.ireturn, 1) := dk_172 (dk_at dksX4_force_1 18 rfl rfl)
theorem dX4_force_41 : decode cX4_force 41 = .ok (.aload_n 0, 1) := dk_42 (dk_at dksX4_force_1 19 rfl rfl)
theorem dX4_force_42 : decode cX4_force 42 = .ok (.getfield 42, 3) := dk_180 0 42 (dk_at dksX4_force_1 20 rfl rfl)
theorem dX4_force_45 : decode cX4_force 45 = .ok (.iload_n 1, 1) := dk_27 (dk_at dksX4_force_1 23 rfl rfl)
theorem dX4_force_46 : decode cX4_force 46 = .ok (.invokeinterface 80 2, 5) := by decide +kernel
theorem dX4_force_51 : decode cX4_force 51 = .ok (.checkcast 152, 3) := dk_192 0 152 (dk_at dksX4_force_2 5 rfl rfl)
theorem dX4_force_54 : decode cX4_force 54 = .ok (.astore 4, 2) := dk_58 4 (dk_at dksX4_force_2 8 rfl rfl)
theorem dX4_force_56 : decode cX4_force 56 = .ok (.aload_n 0, 1) := dk_42 (dk_at dksX4_force_2 10 rfl rfl)
theorem dX4_force_57 : decode cX4_force 57 = .ok (.aload 4, 2) := dk_25 4 (dk_at dksX4_force_2 11 rfl rfl)
theorem dX4_force_59 : decode cX4_force 59 = .ok (.invokevirtual 254, 3) := dk_182 0 254 (dk_at dksX4_force_2 13 rfl rfl)
theorem dX4_force_62 : decode cX4_force 62 = .ok (.istore 5, 2) := dk_54 5 (dk_at dksX4_force_2 16 rfl rfl)
theorem dX4_force_64 : decode cX4_force 64 = .ok (.aload 4, 2) := dk_25 4 (dk_at dksX4_force_2 18 rfl rfl)
theorem dX4_force_66 : decode cX4_force 66 = .ok (.getfield 266, 3) := dk_180 1 10 (dk_at dksX4_force_2 20 rfl rfl)
theorem dX4_force_69 : decode cX4_force 69 = .ok (.iload_n 2, 1) := dk_28 (dk_at dksX4_force_2 23 rfl rfl)
theorem dX4_force_70 : decode cX4_force 70 = .ok (.if_icmp .ne 24, 3) := dk_160 0 24 (dk_at dksX4_force_3 0 rfl rfl)
theorem dX4_force_73 : decode cX4_force 73 = .ok (.iload 5, 2) := dk_21 5 (dk_at dksX4_force_3 3 rfl rfl)
theorem dX4_force_75 : decode cX4_force 75 = .ok (.iconst (-1), 1) := dk_2 (dk_at dksX4_force_3 5 rfl rfl)
theorem dX4_force_76 : decode cX4_force 76 = .ok (.if_icmp .eq 18, 3) := dk_159 0 18 (dk_at dksX4_force_3 6 rfl rfl)
theorem dX4_force_79 : decode cX4_force 79 = .ok (.iload_n 3, 1) := dk_29 (dk_at dksX4_force_3 9 rfl rfl)
theorem dX4_force_80 : decode cX4_force 80 = .ok (.iload 5, 2) := dk_21 5 (dk_at dksX4_force_3 10 rfl rfl)
theorem dX4_force_82 : decode cX4_force 82 = .ok (.if_icmp .lt 12, 3) := dk_161 0 12 (dk_at dksX4_force_3 12 rfl rfl)
theorem dX4_force_85 : decode cX4_force 85 = .ok (.iload_n 3, 1) := dk_29 (dk_at dksX4_force_3 15 rfl rfl)
theorem dX4_force_86 : decode cX4_force 86 = .ok (.aload 4, 2) := dk_25 4 (dk_at dksX4_force_3 16 rfl rfl)
theorem dX4_force_88 : decode cX4_force 88 = .ok (.getfield 268, 3) := dk_180 1 12 (dk_at dksX4_force_3 18 rfl rfl)
theorem dX4_force_91 : decode cX4_force 91 = .ok (.if_icmp .ge 9, 3) := dk_162 0 9 (dk_at dksX4_force_3 21 rfl rfl)
theorem dX4_force_94 : decode cX4_force 94 = .ok (.aload_n 0, 1) := dk_42 (dk_at dksX4_force_4 0 rfl rfl)
theorem dX4_force_95 : decode cX4_force 95 = .ok (.iconst 3, 1) := dk_6 (dk_at dksX4_force_4 1 rfl rfl)
theorem dX4_force_96 : decode cX4_force 96 = .ok (.invokevirtual 140, 3) := dk_182 0 140 (dk_at dksX4_force_4 2 rfl rfl)
theorem dX4_force_99 : decode cX4_force 99 = .ok (.ireturn, 1) := dk_172 (dk_at dksX4_force_4 5 rfl rfl)
theorem dX4_force_100 : decode cX4_force 100 = .ok (.aload 4, 2) := dk_25 4 (dk_at dksX4_force_4 6 rfl rfl)
theorem dX4_force_102 : decode cX4_force 102 = .ok (.dup, 1) := dk_89 (dk_at dksX4_force_4 8 rfl rfl)
theorem dX4_force_103 : decode cX4_force 103 = .ok (.getfield 266, 3) := dk_180 1 10 (dk_at dksX4_force_4 9 rfl rfl)
theorem dX4_force_106 : decode cX4_force 106 = .ok (.iconst 1, 1) := dk_4 (dk_at dksX4_force_4 12 rfl rfl)
theorem dX4_force_107 : decode cX4_force 107 = .ok (.iadd, 1) := dk_96 (dk_at dksX4_force_4 13 rfl rfl)
theorem dX4_force_108 : decode cX4_force 108 = .ok (.putfield 266, 3) := dk_181 1 10 (dk_at dksX4_force_4 14 rfl rfl)
theorem dX4_force_111 : decode cX4_force 111 = .ok (.aload 4, 2) := dk_25 4 (dk_at dksX4_force_4 17 rfl rfl)
theorem dX4_force_113 : decode cX4_force 113 = .ok (.iload_n 3, 1) := dk_29 (dk_at dksX4_force_4 19 rfl rfl)
theorem dX4_force_114 : decode cX4_force 114 = .ok (.putfield 268, 3) := dk_181 1 12 (dk_at dksX4_force_4 20 rfl rfl)
theorem dX4_force_117 : decode cX4_force 117 = .ok (.aload 4, 2) := dk_25 4 (dk_at dksX4_force_5 0 rfl rfl)
theorem dX4_force_119 : decode cX4_force 119 = .ok (.getfield 266, 3) := dk_180 1 10 (dk_at dksX4_force_5 2 rfl rfl)
theorem dX4_force_122 : decode cX4_force 122 = .ok (.ireturn, 1) := dk_172 (dk_at dksX4_force_5 5 rfl rfl)
abbrev cX4_ofWire : ByteArray := prog_17_method_64_code
def yX4_ofWire : MethodName := ⟨RX4, "ofWire", "(II)I"⟩
def dkwX4_ofWire_2 : List UInt8 := [182, 1, 21, 172]
abbrev dktX4_ofWire_2 : List UInt8 := dkwX4_ofWire_2 ++ []
def dkwX4_ofWire_1 : List UInt8 := [42, 4, 182, 0, 140, 172, 28, 3, 7, 184, 0, 54, 154, 0, 9, 42, 5, 182, 0, 140, 172, 42, 27, 28]
abbrev dktX4_ofWire_1 : List UInt8 := dkwX4_ofWire_1 ++ dktX4_ofWire_2
def dkwX4_ofWire_0 : List UInt8 := [42, 3, 181, 0, 51, 27, 3, 42, 180, 0, 45, 185, 0, 58, 1, 0, 4, 100, 184, 0, 54, 154, 0, 9]
abbrev dktX4_ofWire_0 : List UInt8 := dkwX4_ofWire_0 ++ dktX4_ofWire_1
theorem dksX4_ofWire_0 : cX4_ofWire.data.toList.drop 0 = dktX4_ofWire_0 := by decide +kernel
theorem dksX4_ofWire_1 : cX4_ofWire.data.toList.drop 24 = dktX4_ofWire_1 := dk_seg dksX4_ofWire_0 24 rfl rfl
theorem dksX4_ofWire_2 : cX4_ofWire.data.toList.drop 48 = dktX4_ofWire_2 := dk_seg dksX4_ofWire_1 24 rfl rfl
theorem dX4_ofWire_0 : decode cX4_ofWire 0 = .ok (.aload_n 0, 1) := dk_42 (dk_at dksX4_ofWire_0 0 rfl rfl)
theorem dX4_ofWire_1 : decode cX4_ofWire 1 = .ok (.iconst 0, 1) := dk_3 (dk_at dksX4_ofWire_0 1 rfl rfl)
theorem dX4_ofWire_2 : decode cX4_ofWire 2 = .ok (.putfield 51, 3) := dk_181 0 51 (dk_at dksX4_ofWire_0 2 rfl rfl)
theorem dX4_ofWire_5 : decode cX4_ofWire 5 = .ok (.iload_n 1, 1) := dk_27 (dk_at dksX4_ofWire_0 5 rfl rfl)
theorem dX4_ofWire_6 : decode cX4_ofWire 6 = .ok (.iconst 0, 1) := dk_3 (dk_at dksX4_ofWire_0 6 rfl rfl)
theorem dX4_ofWire_7 : decode cX4_ofWire 7 = .ok (.aload_n 0, 1) := dk_42 (dk_at dksX4_ofWire_0 7 rfl rfl)
theorem dX4_ofWire_8 : decode cX4_ofWire 8 = .ok (.getfield 45, 3) := dk_180 0 45 (dk_at dksX4_ofWire_0 8 rfl rfl)
theorem dX4_ofWire_11 : decode cX4_ofWire 11 = .ok (.invokeinterface 58 1, 5) := by decide +kernel
theorem dX4_ofWire_16 : decode cX4_ofWire 16 = .ok (.iconst 1, 1) := dk_4 (dk_at dksX4_ofWire_0 16 rfl rfl)
theorem dX4_ofWire_17 : decode cX4_ofWire 17 = .ok (.isub, 1) := dk_100 (dk_at dksX4_ofWire_0 17 rfl rfl)
theorem dX4_ofWire_18 : decode cX4_ofWire 18 = .ok (.invokestatic 54, 3) := dk_184 0 54 (dk_at dksX4_ofWire_0 18 rfl rfl)
theorem dX4_ofWire_21 : decode cX4_ofWire 21 = .ok (.ifCond .ne 9, 3) := dk_154 0 9 (dk_at dksX4_ofWire_0 21 rfl rfl)
theorem dX4_ofWire_24 : decode cX4_ofWire 24 = .ok (.aload_n 0, 1) := dk_42 (dk_at dksX4_ofWire_1 0 rfl rfl)
theorem dX4_ofWire_25 : decode cX4_ofWire 25 = .ok (.iconst 1, 1) := dk_4 (dk_at dksX4_ofWire_1 1 rfl rfl)
theorem dX4_ofWire_26 : decode cX4_ofWire 26 = .ok (.invokevirtual 140, 3) := dk_182 0 140 (dk_at dksX4_ofWire_1 2 rfl rfl)
theorem dX4_ofWire_29 : decode cX4_ofWire 29 = .ok (.ireturn, 1) := dk_172 (dk_at dksX4_ofWire_1 5 rfl rfl)
theorem dX4_ofWire_30 : decode cX4_ofWire 30 = .ok (.iload_n 2, 1) := dk_28 (dk_at dksX4_ofWire_1 6 rfl rfl)
theorem dX4_ofWire_31 : decode cX4_ofWire 31 = .ok (.iconst 0, 1) := dk_3 (dk_at dksX4_ofWire_1 7 rfl rfl)
theorem dX4_ofWire_32 : decode cX4_ofWire 32 = .ok (.iconst 4, 1) := dk_7 (dk_at dksX4_ofWire_1 8 rfl rfl)
theorem dX4_ofWire_33 : decode cX4_ofWire 33 = .ok (.invokestatic 54, 3) := dk_184 0 54 (dk_at dksX4_ofWire_1 9 rfl rfl)
theorem dX4_ofWire_36 : decode cX4_ofWire 36 = .ok (.ifCond .ne 9, 3) := dk_154 0 9 (dk_at dksX4_ofWire_1 12 rfl rfl)
theorem dX4_ofWire_39 : decode cX4_ofWire 39 = .ok (.aload_n 0, 1) := dk_42 (dk_at dksX4_ofWire_1 15 rfl rfl)
theorem dX4_ofWire_40 : decode cX4_ofWire 40 = .ok (.iconst 2, 1) := dk_5 (dk_at dksX4_ofWire_1 16 rfl rfl)
theorem dX4_ofWire_41 : decode cX4_ofWire 41 = .ok (.invokevirtual 140, 3) := dk_182 0 140 (dk_at dksX4_ofWire_1 17 rfl rfl)
theorem dX4_ofWire_44 : decode cX4_ofWire 44 = .ok (.ireturn, 1) := dk_172 (dk_at dksX4_ofWire_1 20 rfl rfl)
theorem dX4_ofWire_45 : decode cX4_ofWire 45 = .ok (.aload_n 0, 1) := dk_42 (dk_at dksX4_ofWire_1 21 rfl rfl)
theorem dX4_ofWire_46 : decode cX4_ofWire 46 = .ok (.iload_n 1, 1) := dk_27 (dk_at dksX4_ofWire_1 22 rfl rfl)
theorem dX4_ofWire_47 : decode cX4_ofWire 47 = .ok (.iload_n 2, 1) := dk_28 (dk_at dksX4_ofWire_1 23 rfl rfl)
theorem dX4_ofWire_48 : decode cX4_ofWire 48 = .ok (.invokevirtual 277, 3) := dk_182 1 21 (dk_at dksX4_ofWire_2 0 rfl rfl)
theorem dX4_ofWire_51 : decode cX4_ofWire 51 = .ok (.ireturn, 1) := dk_172 (dk_at dksX4_ofWire_2 3 rfl rfl)
abbrev cX4_wireNow : ByteArray := prog_17_method_63_code
def yX4_wireNow : MethodName := ⟨RX4, "wireNow", "(II)I"⟩
def dkwX4_wireNow_6 : List UInt8 := [160, 0, 8, 21, 5, 167, 0, 5, 21, 6, 172]
abbrev dktX4_wireNow_6 : List UInt8 := dkwX4_wireNow_6 ++ []
def dkwX4_wireNow_5 : List UInt8 := [21, 6, 54, 6, 132, 7, 1, 167, 255, 167, 28, 5, 160, 0, 8, 21, 4, 167, 0, 15, 28, 6]
abbrev dktX4_wireNow_5 : List UInt8 := dkwX4_wireNow_5 ++ dktX4_wireNow_6
def dkwX4_wireNow_4 : List UInt8 := [167, 0, 4, 3, 96, 54, 5, 21, 8, 158, 0, 14, 21, 6, 2, 160, 0, 8, 21, 7, 167, 0, 5]
abbrev dktX4_wireNow_4 : List UInt8 := dkwX4_wireNow_4 ++ dktX4_wireNow_5
def dkwX4_wireNow_3 : List UInt8 := [21, 8, 104, 96, 45, 4, 46, 162, 0, 6, 167, 0, 41, 132, 4, 1, 21, 5, 21, 8, 154, 0, 7, 4]
abbrev dktX4_wireNow_3 : List UInt8 := dkwX4_wireNow_3 ++ dktX4_wireNow_4
def dkwX4_wireNow_2 : List UInt8 := [21, 7, 182, 1, 18, 54, 8, 16, 29, 21, 7, 104, 16, 7, 45, 3, 46, 104, 96, 16, 11, 112, 8]
abbrev dktX4_wireNow_2 : List UInt8 := dkwX4_wireNow_2 ++ dktX4_wireNow_3
def dkwX4_wireNow_1 : List UInt8 := [54, 4, 3, 54, 5, 2, 54, 6, 3, 54, 7, 21, 7, 17, 0, 239, 163, 0, 87, 42, 45, 3, 46]
abbrev dktX4_wireNow_1 : List UInt8 := dkwX4_wireNow_1 ++ dktX4_wireNow_2
def dkwX4_wireNow_0 : List UInt8 := [42, 180, 0, 45, 27, 185, 0, 80, 2, 0, 192, 0, 116, 78, 28, 5, 162, 0, 7, 45, 28, 46, 172, 3]
abbrev dktX4_wireNow_0 : List UInt8 := dkwX4_wireNow_0 ++ dktX4_wireNow_1
theorem dksX4_wireNow_0 : cX4_wireNow.data.toList.drop 0 = dktX4_wireNow_0 := by decide +kernel
theorem dksX4_wireNow_1 : cX4_wireNow.data.toList.drop 24 = dktX4_wireNow_1 := dk_seg dksX4_wireNow_0 24 rfl rfl
theorem dksX4_wireNow_2 : cX4_wireNow.data.toList.drop 47 = dktX4_wireNow_2 := dk_seg dksX4_wireNow_1 23 rfl rfl
theorem dksX4_wireNow_3 : cX4_wireNow.data.toList.drop 70 = dktX4_wireNow_3 := dk_seg dksX4_wireNow_2 23 rfl rfl
theorem dksX4_wireNow_4 : cX4_wireNow.data.toList.drop 94 = dktX4_wireNow_4 := dk_seg dksX4_wireNow_3 24 rfl rfl
theorem dksX4_wireNow_5 : cX4_wireNow.data.toList.drop 117 = dktX4_wireNow_5 := dk_seg dksX4_wireNow_4 23 rfl rfl
theorem dksX4_wireNow_6 : cX4_wireNow.data.toList.drop 139 = dktX4_wireNow_6 := dk_seg dksX4_wireNow_5 22 rfl rfl
theorem dX4_wireNow_0 : decode cX4_wireNow 0 = .ok (.aload_n 0, 1) := dk_42 (dk_at dksX4_wireNow_0 0 rfl rfl)
theorem dX4_wireNow_1 : decode cX4_wireNow 1 = .ok (.getfield 45, 3) := dk_180 0 45 (dk_at dksX4_wireNow_0 1 rfl rfl)
theorem dX4_wireNow_4 : decode cX4_wireNow 4 = .ok (.iload_n 1, 1) := dk_27 (dk_at dksX4_wireNow_0 4 rfl rfl)
theorem dX4_wireNow_5 : decode cX4_wireNow 5 = .ok (.invokeinterface 80 2, 5) := by decide +kernel
theorem dX4_wireNow_10 : decode cX4_wireNow 10 = .ok (.checkcast 116, 3) := dk_192 0 116 (dk_at dksX4_wireNow_0 10 rfl rfl)
theorem dX4_wireNow_13 : decode cX4_wireNow 13 = .ok (.astore_n 3, 1) := dk_78 (dk_at dksX4_wireNow_0 13 rfl rfl)
theorem dX4_wireNow_14 : decode cX4_wireNow 14 = .ok (.iload_n 2, 1) := dk_28 (dk_at dksX4_wireNow_0 14 rfl rfl)
theorem dX4_wireNow_15 : decode cX4_wireNow 15 = .ok (.iconst 2, 1) := dk_5 (dk_at dksX4_wireNow_0 15 rfl rfl)
theorem dX4_wireNow_16 : decode cX4_wireNow 16 = .ok (.if_icmp .ge 7, 3) := dk_162 0 7 (dk_at dksX4_wireNow_0 16 rfl rfl)
theorem dX4_wireNow_19 : decode cX4_wireNow 19 = .ok (.aload_n 3, 1) := dk_45 (dk_at dksX4_wireNow_0 19 rfl rfl)
theorem dX4_wireNow_20 : decode cX4_wireNow 20 = .ok (.iload_n 2, 1) := dk_28 (dk_at dksX4_wireNow_0 20 rfl rfl)
theorem dX4_wireNow_21 : decode cX4_wireNow 21 = .ok (.iaload, 1) := dk_46 (dk_at dksX4_wireNow_0 21 rfl rfl)
theorem dX4_wireNow_22 : decode cX4_wireNow 22 = .ok (.ireturn, 1) := dk_172 (dk_at dksX4_wireNow_0 22 rfl rfl)
theorem dX4_wireNow_23 : decode cX4_wireNow 23 = .ok (.iconst 0, 1) := dk_3 (dk_at dksX4_wireNow_0 23 rfl rfl)
theorem dX4_wireNow_24 : decode cX4_wireNow 24 = .ok (.istore 4, 2) := dk_54 4 (dk_at dksX4_wireNow_1 0 rfl rfl)
theorem dX4_wireNow_26 : decode cX4_wireNow 26 = .ok (.iconst 0, 1) := dk_3 (dk_at dksX4_wireNow_1 2 rfl rfl)
theorem dX4_wireNow_27 : decode cX4_wireNow 27 = .ok (.istore 5, 2) := dk_54 5 (dk_at dksX4_wireNow_1 3 rfl rfl)
theorem dX4_wireNow_29 : decode cX4_wireNow 29 = .ok (.iconst (-1), 1) := dk_2 (dk_at dksX4_wireNow_1 5 rfl rfl)
theorem dX4_wireNow_30 : decode cX4_wireNow 30 = .ok (.istore 6, 2) := dk_54 6 (dk_at dksX4_wireNow_1 6 rfl rfl)
theorem dX4_wireNow_32 : decode cX4_wireNow 32 = .ok (.iconst 0, 1) := dk_3 (dk_at dksX4_wireNow_1 8 rfl rfl)
theorem dX4_wireNow_33 : decode cX4_wireNow 33 = .ok (.istore 7, 2) := dk_54 7 (dk_at dksX4_wireNow_1 9 rfl rfl)
theorem dX4_wireNow_35 : decode cX4_wireNow 35 = .ok (.iload 7, 2) := dk_21 7 (dk_at dksX4_wireNow_1 11 rfl rfl)
theorem dX4_wireNow_37 : decode cX4_wireNow 37 = .ok (.sipush 239, 3) := dk_17 0 239 (dk_at dksX4_wireNow_1 13 rfl rfl)
theorem dX4_wireNow_40 : decode cX4_wireNow 40 = .ok (.if_icmp .gt 87, 3) := dk_163 0 87 (dk_at dksX4_wireNow_1 16 rfl rfl)
theorem dX4_wireNow_43 : decode cX4_wireNow 43 = .ok (.aload_n 0, 1) := dk_42 (dk_at dksX4_wireNow_1 19 rfl rfl)
theorem dX4_wireNow_44 : decode cX4_wireNow 44 = .ok (.aload_n 3, 1) := dk_45 (dk_at dksX4_wireNow_1 20 rfl rfl)
theorem dX4_wireNow_45 : decode cX4_wireNow 45 = .ok (.iconst 0, 1) := dk_3 (dk_at dksX4_wireNow_1 21 rfl rfl)
theorem dX4_wireNow_46 : decode cX4_wireNow 46 = .ok (.iaload, 1) := dk_46 (dk_at dksX4_wireNow_1 22 rfl rfl)
theorem dX4_wireNow_47 : decode cX4_wireNow 47 = .ok (.iload 7, 2) := dk_21 7 (dk_at dksX4_wireNow_2 0 rfl rfl)
theorem dX4_wireNow_49 : decode cX4_wireNow 49 = .ok (.invokevirtual 274, 3) := dk_182 1 18 (dk_at dksX4_wireNow_2 2 rfl rfl)
theorem dX4_wireNow_52 : decode cX4_wireNow 52 = .ok (.istore 8, 2) := dk_54 8 (dk_at dksX4_wireNow_2 5 rfl rfl)
theorem dX4_wireNow_54 : decode cX4_wireNow 54 = .ok (.bipush 29, 2) := dk_16 29 (dk_at dksX4_wireNow_2 7 rfl rfl)
theorem dX4_wireNow_56 : decode cX4_wireNow 56 = .ok (.iload 7, 2) := dk_21 7 (dk_at dksX4_wireNow_2 9 rfl rfl)
theorem dX4_wireNow_58 : decode cX4_wireNow 58 = .ok (.imul, 1) := dk_104 (dk_at dksX4_wireNow_2 11 rfl rfl)
theorem dX4_wireNow_59 : decode cX4_wireNow 59 = .ok (.bipush 7, 2) := dk_16 7 (dk_at dksX4_wireNow_2 12 rfl rfl)
theorem dX4_wireNow_61 : decode cX4_wireNow 61 = .ok (.aload_n 3, 1) := dk_45 (dk_at dksX4_wireNow_2 14 rfl rfl)
theorem dX4_wireNow_62 : decode cX4_wireNow 62 = .ok (.iconst 0, 1) := dk_3 (dk_at dksX4_wireNow_2 15 rfl rfl)
theorem dX4_wireNow_63 : decode cX4_wireNow 63 = .ok (.iaload, 1) := dk_46 (dk_at dksX4_wireNow_2 16 rfl rfl)
theorem dX4_wireNow_64 : decode cX4_wireNow 64 = .ok (.imul, 1) := dk_104 (dk_at dksX4_wireNow_2 17 rfl rfl)
theorem dX4_wireNow_65 : decode cX4_wireNow 65 = .ok (.iadd, 1) := dk_96 (dk_at dksX4_wireNow_2 18 rfl rfl)
theorem dX4_wireNow_66 : decode cX4_wireNow 66 = .ok (.bipush 11, 2) := dk_16 11 (dk_at dksX4_wireNow_2 19 rfl rfl)
theorem dX4_wireNow_68 : decode cX4_wireNow 68 = .ok (.irem, 1) := dk_112 (dk_at dksX4_wireNow_2 21 rfl rfl)
theorem dX4_wireNow_69 : decode cX4_wireNow 69 = .ok (.iconst 5, 1) := dk_8 (dk_at dksX4_wireNow_2 22 rfl rfl)
theorem dX4_wireNow_70 : decode cX4_wireNow 70 = .ok (.iload 8, 2) := dk_21 8 (dk_at dksX4_wireNow_3 0 rfl rfl)
theorem dX4_wireNow_72 : decode cX4_wireNow 72 = .ok (.imul, 1) := dk_104 (dk_at dksX4_wireNow_3 2 rfl rfl)
theorem dX4_wireNow_73 : decode cX4_wireNow 73 = .ok (.iadd, 1) := dk_96 (dk_at dksX4_wireNow_3 3 rfl rfl)
theorem dX4_wireNow_74 : decode cX4_wireNow 74 = .ok (.aload_n 3, 1) := dk_45 (dk_at dksX4_wireNow_3 4 rfl rfl)
theorem dX4_wireNow_75 : decode cX4_wireNow 75 = .ok (.iconst 1, 1) := dk_4 (dk_at dksX4_wireNow_3 5 rfl rfl)
theorem dX4_wireNow_76 : decode cX4_wireNow 76 = .ok (.iaload, 1) := dk_46 (dk_at dksX4_wireNow_3 6 rfl rfl)
theorem dX4_wireNow_77 : decode cX4_wireNow 77 = .ok (.if_icmp .ge 6, 3) := dk_162 0 6 (dk_at dksX4_wireNow_3 7 rfl rfl)
theorem dX4_wireNow_80 : decode cX4_wireNow 80 = .ok (.goto 41, 3) := dk_167 0 41 (dk_at dksX4_wireNow_3 10 rfl rfl)
theorem dX4_wireNow_83 : decode cX4_wireNow 83 = .ok (.iinc 4 1, 3) := dk_132 4 1 (dk_at dksX4_wireNow_3 13 rfl rfl)
theorem dX4_wireNow_86 : decode cX4_wireNow 86 = .ok (.iload 5, 2) := dk_21 5 (dk_at dksX4_wireNow_3 16 rfl rfl)
theorem dX4_wireNow_88 : decode cX4_wireNow 88 = .ok (.iload 8, 2) := dk_21 8 (dk_at dksX4_wireNow_3 18 rfl rfl)
theorem dX4_wireNow_90 : decode cX4_wireNow 90 = .ok (.ifCond .ne 7, 3) := dk_154 0 7 (dk_at dksX4_wireNow_3 20 rfl rfl)
theorem dX4_wireNow_93 : decode cX4_wireNow 93 = .ok (.iconst 1, 1) := dk_4 (dk_at dksX4_wireNow_3 23 rfl rfl)
theorem dX4_wireNow_94 : decode cX4_wireNow 94 = .ok (.goto 4, 3) := dk_167 0 4 (dk_at dksX4_wireNow_4 0 rfl rfl)
theorem dX4_wireNow_97 : decode cX4_wireNow 97 = .ok (.iconst 0, 1) := dk_3 (dk_at dksX4_wireNow_4 3 rfl rfl)
theorem dX4_wireNow_98 : decode cX4_wireNow 98 = .ok (.iadd, 1) := dk_96 (dk_at dksX4_wireNow_4 4 rfl rfl)
theorem dX4_wireNow_99 : decode cX4_wireNow 99 = .ok (.istore 5, 2) := dk_54 5 (dk_at dksX4_wireNow_4 5 rfl rfl)
theorem dX4_wireNow_101 : decode cX4_wireNow 101 = .ok (.iload 8, 2) := dk_21 8 (dk_at dksX4_wireNow_4 7 rfl rfl)
theorem dX4_wireNow_103 : decode cX4_wireNow 103 = .ok (.ifCond .le 14, 3) := dk_158 0 14 (dk_at dksX4_wireNow_4 9 rfl rfl)
theorem dX4_wireNow_106 : decode cX4_wireNow 106 = .ok (.iload 6, 2) := dk_21 6 (dk_at dksX4_wireNow_4 12 rfl rfl)
theorem dX4_wireNow_108 : decode cX4_wireNow 108 = .ok (.iconst (-1), 1) := dk_2 (dk_at dksX4_wireNow_4 14 rfl rfl)
theorem dX4_wireNow_109 : decode cX4_wireNow 109 = .ok (.if_icmp .ne 8, 3) := dk_160 0 8 (dk_at dksX4_wireNow_4 15 rfl rfl)
theorem dX4_wireNow_112 : decode cX4_wireNow 112 = .ok (.iload 7, 2) := dk_21 7 (dk_at dksX4_wireNow_4 18 rfl rfl)
theorem dX4_wireNow_114 : decode cX4_wireNow 114 = .ok (.goto 5, 3) := dk_167 0 5 (dk_at dksX4_wireNow_4 20 rfl rfl)
theorem dX4_wireNow_117 : decode cX4_wireNow 117 = .ok (.iload 6, 2) := dk_21 6 (dk_at dksX4_wireNow_5 0 rfl rfl)
theorem dX4_wireNow_119 : decode cX4_wireNow 119 = .ok (.istore 6, 2) := dk_54 6 (dk_at dksX4_wireNow_5 2 rfl rfl)
theorem dX4_wireNow_121 : decode cX4_wireNow 121 = .ok (.iinc 7 1, 3) := dk_132 7 1 (dk_at dksX4_wireNow_5 4 rfl rfl)
theorem dX4_wireNow_124 : decode cX4_wireNow 124 = .ok (.goto (-89), 3) := dk_167 255 167 (dk_at dksX4_wireNow_5 7 rfl rfl)
theorem dX4_wireNow_127 : decode cX4_wireNow 127 = .ok (.iload_n 2, 1) := dk_28 (dk_at dksX4_wireNow_5 10 rfl rfl)
theorem dX4_wireNow_128 : decode cX4_wireNow 128 = .ok (.iconst 2, 1) := dk_5 (dk_at dksX4_wireNow_5 11 rfl rfl)
theorem dX4_wireNow_129 : decode cX4_wireNow 129 = .ok (.if_icmp .ne 8, 3) := dk_160 0 8 (dk_at dksX4_wireNow_5 12 rfl rfl)
theorem dX4_wireNow_132 : decode cX4_wireNow 132 = .ok (.iload 4, 2) := dk_21 4 (dk_at dksX4_wireNow_5 15 rfl rfl)
theorem dX4_wireNow_134 : decode cX4_wireNow 134 = .ok (.goto 15, 3) := dk_167 0 15 (dk_at dksX4_wireNow_5 17 rfl rfl)
theorem dX4_wireNow_137 : decode cX4_wireNow 137 = .ok (.iload_n 2, 1) := dk_28 (dk_at dksX4_wireNow_5 20 rfl rfl)
theorem dX4_wireNow_138 : decode cX4_wireNow 138 = .ok (.iconst 3, 1) := dk_6 (dk_at dksX4_wireNow_5 21 rfl rfl)
theorem dX4_wireNow_139 : decode cX4_wireNow 139 = .ok (.if_icmp .ne 8, 3) := dk_160 0 8 (dk_at dksX4_wireNow_6 0 rfl rfl)
theorem dX4_wireNow_142 : decode cX4_wireNow 142 = .ok (.iload 5, 2) := dk_21 5 (dk_at dksX4_wireNow_6 3 rfl rfl)
theorem dX4_wireNow_144 : decode cX4_wireNow 144 = .ok (.goto 5, 3) := dk_167 0 5 (dk_at dksX4_wireNow_6 5 rfl rfl)
theorem dX4_wireNow_147 : decode cX4_wireNow 147 = .ok (.iload 6, 2) := dk_21 6 (dk_at dksX4_wireNow_6 8 rfl rfl)
theorem dX4_wireNow_149 : decode cX4_wireNow 149 = .ok (.ireturn, 1) := dk_172 (dk_at dksX4_wireNow_6 10 rfl rfl)
abbrev cX4_thereAt : ByteArray := prog_17_method_62_code
def yX4_thereAt : MethodName := ⟨RX4, "thereAt", "(II)I"⟩
def dkwX4_thereAt_2 : List UInt8 := [62, 132, 4, 1, 167, 255, 209, 29, 172]
abbrev dktX4_thereAt_2 : List UInt8 := dkwX4_thereAt_2 ++ []
def dkwX4_thereAt_1 : List UInt8 := [21, 4, 185, 0, 80, 2, 0, 192, 0, 152, 28, 182, 0, 154, 27, 160, 0, 7, 4, 167, 0, 4, 3, 96]
abbrev dktX4_thereAt_1 : List UInt8 := dkwX4_thereAt_1 ++ dktX4_thereAt_2
def dkwX4_thereAt_0 : List UInt8 := [3, 62, 3, 54, 4, 21, 4, 42, 180, 0, 42, 185, 0, 58, 1, 0, 162, 0, 39, 29, 42, 180, 0, 42]
abbrev dktX4_thereAt_0 : List UInt8 := dkwX4_thereAt_0 ++ dktX4_thereAt_1
theorem dksX4_thereAt_0 : cX4_thereAt.data.toList.drop 0 = dktX4_thereAt_0 := by decide +kernel
theorem dksX4_thereAt_1 : cX4_thereAt.data.toList.drop 24 = dktX4_thereAt_1 := dk_seg dksX4_thereAt_0 24 rfl rfl
theorem dksX4_thereAt_2 : cX4_thereAt.data.toList.drop 48 = dktX4_thereAt_2 := dk_seg dksX4_thereAt_1 24 rfl rfl
theorem dX4_thereAt_0 : decode cX4_thereAt 0 = .ok (.iconst 0, 1) := dk_3 (dk_at dksX4_thereAt_0 0 rfl rfl)
theorem dX4_thereAt_1 : decode cX4_thereAt 1 = .ok (.istore_n 3, 1) := dk_62 (dk_at dksX4_thereAt_0 1 rfl rfl)
theorem dX4_thereAt_2 : decode cX4_thereAt 2 = .ok (.iconst 0, 1) := dk_3 (dk_at dksX4_thereAt_0 2 rfl rfl)
theorem dX4_thereAt_3 : decode cX4_thereAt 3 = .ok (.istore 4, 2) := dk_54 4 (dk_at dksX4_thereAt_0 3 rfl rfl)
theorem dX4_thereAt_5 : decode cX4_thereAt 5 = .ok (.iload 4, 2) := dk_21 4 (dk_at dksX4_thereAt_0 5 rfl rfl)
theorem dX4_thereAt_7 : decode cX4_thereAt 7 = .ok (.aload_n 0, 1) := dk_42 (dk_at dksX4_thereAt_0 7 rfl rfl)
theorem dX4_thereAt_8 : decode cX4_thereAt 8 = .ok (.getfield 42, 3) := dk_180 0 42 (dk_at dksX4_thereAt_0 8 rfl rfl)
theorem dX4_thereAt_11 : decode cX4_thereAt 11 = .ok (.invokeinterface 58 1, 5) := by decide +kernel
theorem dX4_thereAt_16 : decode cX4_thereAt 16 = .ok (.if_icmp .ge 39, 3) := dk_162 0 39 (dk_at dksX4_thereAt_0 16 rfl rfl)
theorem dX4_thereAt_19 : decode cX4_thereAt 19 = .ok (.iload_n 3, 1) := dk_29 (dk_at dksX4_thereAt_0 19 rfl rfl)
theorem dX4_thereAt_20 : decode cX4_thereAt 20 = .ok (.aload_n 0, 1) := dk_42 (dk_at dksX4_thereAt_0 20 rfl rfl)
theorem dX4_thereAt_21 : decode cX4_thereAt 21 = .ok (.getfield 42, 3) := dk_180 0 42 (dk_at dksX4_thereAt_0 21 rfl rfl)
theorem dX4_thereAt_24 : decode cX4_thereAt 24 = .ok (.iload 4, 2) := dk_21 4 (dk_at dksX4_thereAt_1 0 rfl rfl)
theorem dX4_thereAt_26 : decode cX4_thereAt 26 = .ok (.invokeinterface 80 2, 5) := by decide +kernel
theorem dX4_thereAt_31 : decode cX4_thereAt 31 = .ok (.checkcast 152, 3) := dk_192 0 152 (dk_at dksX4_thereAt_1 7 rfl rfl)
theorem dX4_thereAt_34 : decode cX4_thereAt 34 = .ok (.iload_n 2, 1) := dk_28 (dk_at dksX4_thereAt_1 10 rfl rfl)
theorem dX4_thereAt_35 : decode cX4_thereAt 35 = .ok (.invokevirtual 154, 3) := dk_182 0 154 (dk_at dksX4_thereAt_1 11 rfl rfl)
theorem dX4_thereAt_38 : decode cX4_thereAt 38 = .ok (.iload_n 1, 1) := dk_27 (dk_at dksX4_thereAt_1 14 rfl rfl)
theorem dX4_thereAt_39 : decode cX4_thereAt 39 = .ok (.if_icmp .ne 7, 3) := dk_160 0 7 (dk_at dksX4_thereAt_1 15 rfl rfl)
theorem dX4_thereAt_42 : decode cX4_thereAt 42 = .ok (.iconst 1, 1) := dk_4 (dk_at dksX4_thereAt_1 18 rfl rfl)
theorem dX4_thereAt_43 : decode cX4_thereAt 43 = .ok (.goto 4, 3) := dk_167 0 4 (dk_at dksX4_thereAt_1 19 rfl rfl)
theorem dX4_thereAt_46 : decode cX4_thereAt 46 = .ok (.iconst 0, 1) := dk_3 (dk_at dksX4_thereAt_1 22 rfl rfl)
theorem dX4_thereAt_47 : decode cX4_thereAt 47 = .ok (.iadd, 1) := dk_96 (dk_at dksX4_thereAt_1 23 rfl rfl)
theorem dX4_thereAt_48 : decode cX4_thereAt 48 = .ok (.istore_n 3, 1) := dk_62 (dk_at dksX4_thereAt_2 0 rfl rfl)
theorem dX4_thereAt_49 : decode cX4_thereAt 49 = .ok (.iinc 4 1, 3) := dk_132 4 1 (dk_at dksX4_thereAt_2 1 rfl rfl)
theorem dX4_thereAt_52 : decode cX4_thereAt 52 = .ok (.goto (-47), 3) := dk_167 255 209 (dk_at dksX4_thereAt_2 4 rfl rfl)
theorem dX4_thereAt_55 : decode cX4_thereAt 55 = .ok (.iload_n 3, 1) := dk_29 (dk_at dksX4_thereAt_2 7 rfl rfl)
theorem dX4_thereAt_56 : decode cX4_thereAt 56 = .ok (.ireturn, 1) := dk_172 (dk_at dksX4_thereAt_2 8 rfl rfl)
abbrev cX4_sneak : ByteArray := prog_17_method_68_code
def yX4_sneak : MethodName := ⟨RX4, "sneak", "(IIII)I"⟩
def dkwX4_sneak_4 : List UInt8 := [58, 5, 25, 5, 28, 51, 153, 0, 6, 21, 6, 172, 132, 6, 1, 167, 255, 209, 2, 172]
abbrev dktX4_sneak_4 : List UInt8 := dkwX4_sneak_4 ++ []
def dkwX4_sneak_3 : List UInt8 := [21, 6, 96, 17, 0, 239, 163, 0, 36, 21, 6, 158, 0, 15, 42, 25, 5, 29, 21, 6, 96, 182, 1, 31]
abbrev dktX4_sneak_3 : List UInt8 := dkwX4_sneak_3 ++ dktX4_sneak_4
def dkwX4_sneak_2 : List UInt8 := [182, 0, 140, 172, 42, 27, 29, 182, 1, 27, 58, 5, 3, 54, 6, 21, 6, 21, 4, 163, 0, 46, 29]
abbrev dktX4_sneak_2 : List UInt8 := dkwX4_sneak_2 ++ dktX4_sneak_3
def dkwX4_sneak_1 : List UInt8 := [182, 0, 140, 172, 29, 184, 0, 163, 153, 0, 14, 21, 4, 3, 16, 60, 184, 0, 54, 154, 0, 9, 42, 5]
abbrev dktX4_sneak_1 : List UInt8 := dkwX4_sneak_1 ++ dktX4_sneak_2
def dkwX4_sneak_0 : List UInt8 := [42, 3, 181, 0, 51, 42, 27, 182, 0, 157, 153, 0, 11, 42, 28, 182, 0, 157, 154, 0, 9, 42, 4]
abbrev dktX4_sneak_0 : List UInt8 := dkwX4_sneak_0 ++ dktX4_sneak_1
theorem dksX4_sneak_0 : cX4_sneak.data.toList.drop 0 = dktX4_sneak_0 := by decide +kernel
theorem dksX4_sneak_1 : cX4_sneak.data.toList.drop 23 = dktX4_sneak_1 := dk_seg dksX4_sneak_0 23 rfl rfl
theorem dksX4_sneak_2 : cX4_sneak.data.toList.drop 47 = dktX4_sneak_2 := dk_seg dksX4_sneak_1 24 rfl rfl
theorem dksX4_sneak_3 : cX4_sneak.data.toList.drop 70 = dktX4_sneak_3 := dk_seg dksX4_sneak_2 23 rfl rfl
theorem dksX4_sneak_4 : cX4_sneak.data.toList.drop 94 = dktX4_sneak_4 := dk_seg dksX4_sneak_3 24 rfl rfl
theorem dX4_sneak_0 : decode cX4_sneak 0 = .ok (.aload_n 0, 1) := dk_42 (dk_at dksX4_sneak_0 0 rfl rfl)
theorem dX4_sneak_1 : decode cX4_sneak 1 = .ok (.iconst 0, 1) := dk_3 (dk_at dksX4_sneak_0 1 rfl rfl)
theorem dX4_sneak_2 : decode cX4_sneak 2 = .ok (.putfield 51, 3) := dk_181 0 51 (dk_at dksX4_sneak_0 2 rfl rfl)
theorem dX4_sneak_5 : decode cX4_sneak 5 = .ok (.aload_n 0, 1) := dk_42 (dk_at dksX4_sneak_0 5 rfl rfl)
theorem dX4_sneak_6 : decode cX4_sneak 6 = .ok (.iload_n 1, 1) := dk_27 (dk_at dksX4_sneak_0 6 rfl rfl)
theorem dX4_sneak_7 : decode cX4_sneak 7 = .ok (.invokevirtual 157, 3) := dk_182 0 157 (dk_at dksX4_sneak_0 7 rfl rfl)
theorem dX4_sneak_10 : decode cX4_sneak 10 = .ok (.ifCond .eq 11, 3) := dk_153 0 11 (dk_at dksX4_sneak_0 10 rfl rfl)
theorem dX4_sneak_13 : decode cX4_sneak 13 = .ok (.aload_n 0, 1) := dk_42 (dk_at dksX4_sneak_0 13 rfl rfl)
theorem dX4_sneak_14 : decode cX4_sneak 14 = .ok (.iload_n 2, 1) := dk_28 (dk_at dksX4_sneak_0 14 rfl rfl)
theorem dX4_sneak_15 : decode cX4_sneak 15 = .ok (.invokevirtual 157, 3) := dk_182 0 157 (dk_at dksX4_sneak_0 15 rfl rfl)
theorem dX4_sneak_18 : decode cX4_sneak 18 = .ok (.ifCond .ne 9, 3) := dk_154 0 9 (dk_at dksX4_sneak_0 18 rfl rfl)
theorem dX4_sneak_21 : decode cX4_sneak 21 = .ok (.aload_n 0, 1) := dk_42 (dk_at dksX4_sneak_0 21 rfl rfl)
theorem dX4_sneak_22 : decode cX4_sneak 22 = .ok (.iconst 1, 1) := dk_4 (dk_at dksX4_sneak_0 22 rfl rfl)
theorem dX4_sneak_23 : decode cX4_sneak 23 = .ok (.invokevirtual 140, 3) := dk_182 0 140 (dk_at dksX4_sneak_1 0 rfl rfl)
theorem dX4_sneak_26 : decode cX4_sneak 26 = .ok (.ireturn, 1) := dk_172 (dk_at dksX4_sneak_1 3 rfl rfl)
theorem dX4_sneak_27 : decode cX4_sneak 27 = .ok (.iload_n 3, 1) := dk_29 (dk_at dksX4_sneak_1 4 rfl rfl)
theorem dX4_sneak_28 : decode cX4_sneak 28 = .ok (.invokestatic 163, 3) := dk_184 0 163 (dk_at dksX4_sneak_1 5 rfl rfl)
theorem dX4_sneak_31 : decode cX4_sneak 31 = .ok (.ifCond .eq 14, 3) := dk_153 0 14 (dk_at dksX4_sneak_1 8 rfl rfl)
theorem dX4_sneak_34 : decode cX4_sneak 34 = .ok (.iload 4, 2) := dk_21 4 (dk_at dksX4_sneak_1 11 rfl rfl)
theorem dX4_sneak_36 : decode cX4_sneak 36 = .ok (.iconst 0, 1) := dk_3 (dk_at dksX4_sneak_1 13 rfl rfl)
theorem dX4_sneak_37 : decode cX4_sneak 37 = .ok (.bipush 60, 2) := dk_16 60 (dk_at dksX4_sneak_1 14 rfl rfl)
theorem dX4_sneak_39 : decode cX4_sneak 39 = .ok (.invokestatic 54, 3) := dk_184 0 54 (dk_at dksX4_sneak_1 16 rfl rfl)
theorem dX4_sneak_42 : decode cX4_sneak 42 = .ok (.ifCond .ne 9, 3) := dk_154 0 9 (dk_at dksX4_sneak_1 19 rfl rfl)
theorem dX4_sneak_45 : decode cX4_sneak 45 = .ok (.aload_n 0, 1) := dk_42 (dk_at dksX4_sneak_1 22 rfl rfl)
theorem dX4_sneak_46 : decode cX4_sneak 46 = .ok (.iconst 2, 1) := dk_5 (dk_at dksX4_sneak_1 23 rfl rfl)
theorem dX4_sneak_47 : decode cX4_sneak 47 = .ok (.invokevirtual 140, 3) := dk_182 0 140 (dk_at dksX4_sneak_2 0 rfl rfl)
theorem dX4_sneak_50 : decode cX4_sneak 50 = .ok (.ireturn, 1) := dk_172 (dk_at dksX4_sneak_2 3 rfl rfl)
theorem dX4_sneak_51 : decode cX4_sneak 51 = .ok (.aload_n 0, 1) := dk_42 (dk_at dksX4_sneak_2 4 rfl rfl)
theorem dX4_sneak_52 : decode cX4_sneak 52 = .ok (.iload_n 1, 1) := dk_27 (dk_at dksX4_sneak_2 5 rfl rfl)
theorem dX4_sneak_53 : decode cX4_sneak 53 = .ok (.iload_n 3, 1) := dk_29 (dk_at dksX4_sneak_2 6 rfl rfl)
theorem dX4_sneak_54 : decode cX4_sneak 54 = .ok (.invokevirtual 283, 3) := dk_182 1 27 (dk_at dksX4_sneak_2 7 rfl rfl)
theorem dX4_sneak_57 : decode cX4_sneak 57 = .ok (.astore 5, 2) := dk_58 5 (dk_at dksX4_sneak_2 10 rfl rfl)
theorem dX4_sneak_59 : decode cX4_sneak 59 = .ok (.iconst 0, 1) := dk_3 (dk_at dksX4_sneak_2 12 rfl rfl)
theorem dX4_sneak_60 : decode cX4_sneak 60 = .ok (.istore 6, 2) := dk_54 6 (dk_at dksX4_sneak_2 13 rfl rfl)
theorem dX4_sneak_62 : decode cX4_sneak 62 = .ok (.iload 6, 2) := dk_21 6 (dk_at dksX4_sneak_2 15 rfl rfl)
theorem dX4_sneak_64 : decode cX4_sneak 64 = .ok (.iload 4, 2) := dk_21 4 (dk_at dksX4_sneak_2 17 rfl rfl)
theorem dX4_sneak_66 : decode cX4_sneak 66 = .ok (.if_icmp .gt 46, 3) := dk_163 0 46 (dk_at dksX4_sneak_2 19 rfl rfl)
theorem dX4_sneak_69 : decode cX4_sneak 69 = .ok (.iload_n 3, 1) := dk_29 (dk_at dksX4_sneak_2 22 rfl rfl)
theorem dX4_sneak_70 : decode cX4_sneak 70 = .ok (.iload 6, 2) := dk_21 6 (dk_at dksX4_sneak_3 0 rfl rfl)
theorem dX4_sneak_72 : decode cX4_sneak 72 = .ok (.iadd, 1) := dk_96 (dk_at dksX4_sneak_3 2 rfl rfl)
theorem dX4_sneak_73 : decode cX4_sneak 73 = .ok (.sipush 239, 3) := dk_17 0 239 (dk_at dksX4_sneak_3 3 rfl rfl)
theorem dX4_sneak_76 : decode cX4_sneak 76 = .ok (.if_icmp .gt 36, 3) := dk_163 0 36 (dk_at dksX4_sneak_3 6 rfl rfl)
theorem dX4_sneak_79 : decode cX4_sneak 79 = .ok (.iload 6, 2) := dk_21 6 (dk_at dksX4_sneak_3 9 rfl rfl)
theorem dX4_sneak_81 : decode cX4_sneak 81 = .ok (.ifCond .le 15, 3) := dk_158 0 15 (dk_at dksX4_sneak_3 11 rfl rfl)
theorem dX4_sneak_84 : decode cX4_sneak 84 = .ok (.aload_n 0, 1) := dk_42 (dk_at dksX4_sneak_3 14 rfl rfl)
theorem dX4_sneak_85 : decode cX4_sneak 85 = .ok (.aload 5, 2) := dk_25 5 (dk_at dksX4_sneak_3 15 rfl rfl)
theorem dX4_sneak_87 : decode cX4_sneak 87 = .ok (.iload_n 3, 1) := dk_29 (dk_at dksX4_sneak_3 17 rfl rfl)
theorem dX4_sneak_88 : decode cX4_sneak 88 = .ok (.iload 6, 2) := dk_21 6 (dk_at dksX4_sneak_3 18 rfl rfl)
theorem dX4_sneak_90 : decode cX4_sneak 90 = .ok (.iadd, 1) := dk_96 (dk_at dksX4_sneak_3 20 rfl rfl)
theorem dX4_sneak_91 : decode cX4_sneak 91 = .ok (.invokevirtual 287, 3) := dk_182 1 31 (dk_at dksX4_sneak_3 21 rfl rfl)
theorem dX4_sneak_94 : decode cX4_sneak 94 = .ok (.astore 5, 2) := dk_58 5 (dk_at dksX4_sneak_4 0 rfl rfl)
theorem dX4_sneak_96 : decode cX4_sneak 96 = .ok (.aload 5, 2) := dk_25 5 (dk_at dksX4_sneak_4 2 rfl rfl)
theorem dX4_sneak_98 : decode cX4_sneak 98 = .ok (.iload_n 2, 1) := dk_28 (dk_at dksX4_sneak_4 4 rfl rfl)
theorem dX4_sneak_99 : decode cX4_sneak 99 = .ok (.baload, 1) := dk_51 (dk_at dksX4_sneak_4 5 rfl rfl)
theorem dX4_sneak_100 : decode cX4_sneak 100 = .ok (.ifCond .eq 6, 3) := dk_153 0 6 (dk_at dksX4_sneak_4 6 rfl rfl)
theorem dX4_sneak_103 : decode cX4_sneak 103 = .ok (.iload 6, 2) := dk_21 6 (dk_at dksX4_sneak_4 9 rfl rfl)
theorem dX4_sneak_105 : decode cX4_sneak 105 = .ok (.ireturn, 1) := dk_172 (dk_at dksX4_sneak_4 11 rfl rfl)
theorem dX4_sneak_106 : decode cX4_sneak 106 = .ok (.iinc 6 1, 3) := dk_132 6 1 (dk_at dksX4_sneak_4 12 rfl rfl)
theorem dX4_sneak_109 : decode cX4_sneak 109 = .ok (.goto (-47), 3) := dk_167 255 209 (dk_at dksX4_sneak_4 15 rfl rfl)
theorem dX4_sneak_112 : decode cX4_sneak 112 = .ok (.iconst (-1), 1) := dk_2 (dk_at dksX4_sneak_4 18 rfl rfl)
theorem dX4_sneak_113 : decode cX4_sneak 113 = .ok (.ireturn, 1) := dk_172 (dk_at dksX4_sneak_4 19 rfl rfl)
abbrev cX4_at : ByteArray := prog_17_method_67_code
def yX4_at : MethodName := ⟨RX4, "at", "(II)[Z"⟩
def dkwX4_at_0 : List UInt8 := [42, 180, 0, 7, 190, 188, 4, 78, 45, 27, 42, 27, 28, 182, 1, 24, 84, 45, 176]
abbrev dktX4_at_0 : List UInt8 := dkwX4_at_0 ++ []
theorem dksX4_at_0 : cX4_at.data.toList.drop 0 = dktX4_at_0 := by decide +kernel
theorem dX4_at_0 : decode cX4_at 0 = .ok (.aload_n 0, 1) := dk_42 (dk_at dksX4_at_0 0 rfl rfl)
theorem dX4_at_1 : decode cX4_at 1 = .ok (.getfield 7, 3) := dk_180 0 7 (dk_at dksX4_at_0 1 rfl rfl)
theorem dX4_at_4 : decode cX4_at 4 = .ok (.arraylength, 1) := dk_190 (dk_at dksX4_at_0 4 rfl rfl)
theorem dX4_at_5 : decode cX4_at 5 = .ok (.newarray .boolean, 2) := dk_188_4 (dk_at dksX4_at_0 5 rfl rfl)
theorem dX4_at_7 : decode cX4_at 7 = .ok (.astore_n 3, 1) := dk_78 (dk_at dksX4_at_0 7 rfl rfl)
theorem dX4_at_8 : decode cX4_at 8 = .ok (.aload_n 3, 1) := dk_45 (dk_at dksX4_at_0 8 rfl rfl)
theorem dX4_at_9 : decode cX4_at 9 = .ok (.iload_n 1, 1) := dk_27 (dk_at dksX4_at_0 9 rfl rfl)
theorem dX4_at_10 : decode cX4_at 10 = .ok (.aload_n 0, 1) := dk_42 (dk_at dksX4_at_0 10 rfl rfl)
theorem dX4_at_11 : decode cX4_at 11 = .ok (.iload_n 1, 1) := dk_27 (dk_at dksX4_at_0 11 rfl rfl)
theorem dX4_at_12 : decode cX4_at 12 = .ok (.iload_n 2, 1) := dk_28 (dk_at dksX4_at_0 12 rfl rfl)
theorem dX4_at_13 : decode cX4_at 13 = .ok (.invokevirtual 280, 3) := dk_182 1 24 (dk_at dksX4_at_0 13 rfl rfl)
theorem dX4_at_16 : decode cX4_at 16 = .ok (.bastore, 1) := dk_84 (dk_at dksX4_at_0 16 rfl rfl)
theorem dX4_at_17 : decode cX4_at 17 = .ok (.aload_n 3, 1) := dk_45 (dk_at dksX4_at_0 17 rfl rfl)
theorem dX4_at_18 : decode cX4_at 18 = .ok (.areturn, 1) := dk_176 (dk_at dksX4_at_0 18 rfl rfl)
abbrev cX4_isUnseen : ByteArray := prog_17_method_65_code
def yX4_isUnseen : MethodName := ⟨RX4, "isUnseen", "(II)Z"⟩
def dkwX4_isUnseen_0 : List UInt8 := [42, 27, 28, 182, 0, 192, 153, 0, 16, 42, 27, 28, 182, 0, 183, 154, 0, 7, 4, 167, 0, 4, 3, 172]
abbrev dktX4_isUnseen_0 : List UInt8 := dkwX4_isUnseen_0 ++ []
theorem dksX4_isUnseen_0 : cX4_isUnseen.data.toList.drop 0 = dktX4_isUnseen_0 := by decide +kernel
theorem dX4_isUnseen_0 : decode cX4_isUnseen 0 = .ok (.aload_n 0, 1) := dk_42 (dk_at dksX4_isUnseen_0 0 rfl rfl)
theorem dX4_isUnseen_1 : decode cX4_isUnseen 1 = .ok (.iload_n 1, 1) := dk_27 (dk_at dksX4_isUnseen_0 1 rfl rfl)
theorem dX4_isUnseen_2 : decode cX4_isUnseen 2 = .ok (.iload_n 2, 1) := dk_28 (dk_at dksX4_isUnseen_0 2 rfl rfl)
theorem dX4_isUnseen_3 : decode cX4_isUnseen 3 = .ok (.invokevirtual 192, 3) := dk_182 0 192 (dk_at dksX4_isUnseen_0 3 rfl rfl)
theorem dX4_isUnseen_6 : decode cX4_isUnseen 6 = .ok (.ifCond .eq 16, 3) := dk_153 0 16 (dk_at dksX4_isUnseen_0 6 rfl rfl)
theorem dX4_isUnseen_9 : decode cX4_isUnseen 9 = .ok (.aload_n 0, 1) := dk_42 (dk_at dksX4_isUnseen_0 9 rfl rfl)
theorem dX4_isUnseen_10 : decode cX4_isUnseen 10 = .ok (.iload_n 1, 1) := dk_27 (dk_at dksX4_isUnseen_0 10 rfl rfl)
theorem dX4_isUnseen_11 : decode cX4_isUnseen 11 = .ok (.iload_n 2, 1) := dk_28 (dk_at dksX4_isUnseen_0 11 rfl rfl)
theorem dX4_isUnseen_12 : decode cX4_isUnseen 12 = .ok (.invokevirtual 183, 3) := dk_182 0 183 (dk_at dksX4_isUnseen_0 12 rfl rfl)
theorem dX4_isUnseen_15 : decode cX4_isUnseen 15 = .ok (.ifCond .ne 7, 3) := dk_154 0 7 (dk_at dksX4_isUnseen_0 15 rfl rfl)
theorem dX4_isUnseen_18 : decode cX4_isUnseen 18 = .ok (.iconst 1, 1) := dk_4 (dk_at dksX4_isUnseen_0 18 rfl rfl)
theorem dX4_isUnseen_19 : decode cX4_isUnseen 19 = .ok (.goto 4, 3) := dk_167 0 4 (dk_at dksX4_isUnseen_0 19 rfl rfl)
theorem dX4_isUnseen_22 : decode cX4_isUnseen 22 = .ok (.iconst 0, 1) := dk_3 (dk_at dksX4_isUnseen_0 22 rfl rfl)
theorem dX4_isUnseen_23 : decode cX4_isUnseen 23 = .ok (.ireturn, 1) := dk_172 (dk_at dksX4_isUnseen_0 23 rfl rfl)
abbrev cX4_onward : ByteArray := prog_17_method_66_code
def yX4_onward : MethodName := ⟨RX4, "onward", "([ZI)[Z"⟩
def dkwX4_onward_3 : List UInt8 := [132, 5, 1, 167, 255, 213, 132, 4, 1, 167, 255, 187, 45, 176]
abbrev dktX4_onward_3 : List UInt8 := dkwX4_onward_3 ++ []
def dkwX4_onward_2 : List UInt8 := [2, 159, 0, 21, 45, 21, 6, 51, 154, 0, 14, 45, 21, 6, 42, 21, 6, 28, 182, 1, 24, 84]
abbrev dktX4_onward_2 : List UInt8 := dkwX4_onward_2 ++ dktX4_onward_3
def dkwX4_onward_1 : List UInt8 := [167, 0, 52, 3, 54, 5, 21, 5, 7, 163, 0, 43, 42, 21, 4, 21, 5, 182, 0, 240, 54, 6, 21, 6]
abbrev dktX4_onward_1 : List UInt8 := dkwX4_onward_1 ++ dktX4_onward_2
def dkwX4_onward_0 : List UInt8 := [43, 190, 188, 4, 78, 3, 54, 4, 21, 4, 43, 190, 162, 0, 68, 43, 21, 4, 51, 154, 0, 6]
abbrev dktX4_onward_0 : List UInt8 := dkwX4_onward_0 ++ dktX4_onward_1
theorem dksX4_onward_0 : cX4_onward.data.toList.drop 0 = dktX4_onward_0 := by decide +kernel
theorem dksX4_onward_1 : cX4_onward.data.toList.drop 22 = dktX4_onward_1 := dk_seg dksX4_onward_0 22 rfl rfl
theorem dksX4_onward_2 : cX4_onward.data.toList.drop 46 = dktX4_onward_2 := dk_seg dksX4_onward_1 24 rfl rfl
theorem dksX4_onward_3 : cX4_onward.data.toList.drop 68 = dktX4_onward_3 := dk_seg dksX4_onward_2 22 rfl rfl
theorem dX4_onward_0 : decode cX4_onward 0 = .ok (.aload_n 1, 1) := dk_43 (dk_at dksX4_onward_0 0 rfl rfl)
theorem dX4_onward_1 : decode cX4_onward 1 = .ok (.arraylength, 1) := dk_190 (dk_at dksX4_onward_0 1 rfl rfl)
theorem dX4_onward_2 : decode cX4_onward 2 = .ok (.newarray .boolean, 2) := dk_188_4 (dk_at dksX4_onward_0 2 rfl rfl)
theorem dX4_onward_4 : decode cX4_onward 4 = .ok (.astore_n 3, 1) := dk_78 (dk_at dksX4_onward_0 4 rfl rfl)
theorem dX4_onward_5 : decode cX4_onward 5 = .ok (.iconst 0, 1) := dk_3 (dk_at dksX4_onward_0 5 rfl rfl)
theorem dX4_onward_6 : decode cX4_onward 6 = .ok (.istore 4, 2) := dk_54 4 (dk_at dksX4_onward_0 6 rfl rfl)
theorem dX4_onward_8 : decode cX4_onward 8 = .ok (.iload 4, 2) := dk_21 4 (dk_at dksX4_onward_0 8 rfl rfl)
theorem dX4_onward_10 : decode cX4_onward 10 = .ok (.aload_n 1, 1) := dk_43 (dk_at dksX4_onward_0 10 rfl rfl)
theorem dX4_onward_11 : decode cX4_onward 11 = .ok (.arraylength, 1) := dk_190 (dk_at dksX4_onward_0 11 rfl rfl)
theorem dX4_onward_12 : decode cX4_onward 12 = .ok (.if_icmp .ge 68, 3) := dk_162 0 68 (dk_at dksX4_onward_0 12 rfl rfl)
theorem dX4_onward_15 : decode cX4_onward 15 = .ok (.aload_n 1, 1) := dk_43 (dk_at dksX4_onward_0 15 rfl rfl)
theorem dX4_onward_16 : decode cX4_onward 16 = .ok (.iload 4, 2) := dk_21 4 (dk_at dksX4_onward_0 16 rfl rfl)
theorem dX4_onward_18 : decode cX4_onward 18 = .ok (.baload, 1) := dk_51 (dk_at dksX4_onward_0 18 rfl rfl)
theorem dX4_onward_19 : decode cX4_onward 19 = .ok (.ifCond .ne 6, 3) := dk_154 0 6 (dk_at dksX4_onward_0 19 rfl rfl)
theorem dX4_onward_22 : decode cX4_onward 22 = .ok (.goto 52, 3) := dk_167 0 52 (dk_at dksX4_onward_1 0 rfl rfl)
theorem dX4_onward_25 : decode cX4_onward 25 = .ok (.iconst 0, 1) := dk_3 (dk_at dksX4_onward_1 3 rfl rfl)
theorem dX4_onward_26 : decode cX4_onward 26 = .ok (.istore 5, 2) := dk_54 5 (dk_at dksX4_onward_1 4 rfl rfl)
theorem dX4_onward_28 : decode cX4_onward 28 = .ok (.iload 5, 2) := dk_21 5 (dk_at dksX4_onward_1 6 rfl rfl)
theorem dX4_onward_30 : decode cX4_onward 30 = .ok (.iconst 4, 1) := dk_7 (dk_at dksX4_onward_1 8 rfl rfl)
theorem dX4_onward_31 : decode cX4_onward 31 = .ok (.if_icmp .gt 43, 3) := dk_163 0 43 (dk_at dksX4_onward_1 9 rfl rfl)
theorem dX4_onward_34 : decode cX4_onward 34 = .ok (.aload_n 0, 1) := dk_42 (dk_at dksX4_onward_1 12 rfl rfl)
theorem dX4_onward_35 : decode cX4_onward 35 = .ok (.iload 4, 2) := dk_21 4 (dk_at dksX4_onward_1 13 rfl rfl)
theorem dX4_onward_37 : decode cX4_onward 37 = .ok (.iload 5, 2) := dk_21 5 (dk_at dksX4_onward_1 15 rfl rfl)
theorem dX4_onward_39 : decode cX4_onward 39 = .ok (.invokevirtual 240, 3) := dk_182 0 240 (dk_at dksX4_onward_1 17 rfl rfl)
theorem dX4_onward_42 : decode cX4_onward 42 = .ok (.istore 6, 2) := dk_54 6 (dk_at dksX4_onward_1 20 rfl rfl)
theorem dX4_onward_44 : decode cX4_onward 44 = .ok (.iload 6, 2) := dk_21 6 (dk_at dksX4_onward_1 22 rfl rfl)
theorem dX4_onward_46 : decode cX4_onward 46 = .ok (.iconst (-1), 1) := dk_2 (dk_at dksX4_onward_2 0 rfl rfl)
theorem dX4_onward_47 : decode cX4_onward 47 = .ok (.if_icmp .eq 21, 3) := dk_159 0 21 (dk_at dksX4_onward_2 1 rfl rfl)
theorem dX4_onward_50 : decode cX4_onward 50 = .ok (.aload_n 3, 1) := dk_45 (dk_at dksX4_onward_2 4 rfl rfl)
theorem dX4_onward_51 : decode cX4_onward 51 = .ok (.iload 6, 2) := dk_21 6 (dk_at dksX4_onward_2 5 rfl rfl)
theorem dX4_onward_53 : decode cX4_onward 53 = .ok (.baload, 1) := dk_51 (dk_at dksX4_onward_2 7 rfl rfl)
theorem dX4_onward_54 : decode cX4_onward 54 = .ok (.ifCond .ne 14, 3) := dk_154 0 14 (dk_at dksX4_onward_2 8 rfl rfl)
theorem dX4_onward_57 : decode cX4_onward 57 = .ok (.aload_n 3, 1) := dk_45 (dk_at dksX4_onward_2 11 rfl rfl)
theorem dX4_onward_58 : decode cX4_onward 58 = .ok (.iload 6, 2) := dk_21 6 (dk_at dksX4_onward_2 12 rfl rfl)
theorem dX4_onward_60 : decode cX4_onward 60 = .ok (.aload_n 0, 1) := dk_42 (dk_at dksX4_onward_2 14 rfl rfl)
theorem dX4_onward_61 : decode cX4_onward 61 = .ok (.iload 6, 2) := dk_21 6 (dk_at dksX4_onward_2 15 rfl rfl)
theorem dX4_onward_63 : decode cX4_onward 63 = .ok (.iload_n 2, 1) := dk_28 (dk_at dksX4_onward_2 17 rfl rfl)
theorem dX4_onward_64 : decode cX4_onward 64 = .ok (.invokevirtual 280, 3) := dk_182 1 24 (dk_at dksX4_onward_2 18 rfl rfl)
theorem dX4_onward_67 : decode cX4_onward 67 = .ok (.bastore, 1) := dk_84 (dk_at dksX4_onward_2 21 rfl rfl)
theorem dX4_onward_68 : decode cX4_onward 68 = .ok (.iinc 5 1, 3) := dk_132 5 1 (dk_at dksX4_onward_3 0 rfl rfl)
theorem dX4_onward_71 : decode cX4_onward 71 = .ok (.goto (-43), 3) := dk_167 255 213 (dk_at dksX4_onward_3 3 rfl rfl)
theorem dX4_onward_74 : decode cX4_onward 74 = .ok (.iinc 4 1, 3) := dk_132 4 1 (dk_at dksX4_onward_3 6 rfl rfl)
theorem dX4_onward_77 : decode cX4_onward 77 = .ok (.goto (-69), 3) := dk_167 255 187 (dk_at dksX4_onward_3 9 rfl rfl)
theorem dX4_onward_80 : decode cX4_onward 80 = .ok (.aload_n 3, 1) := dk_45 (dk_at dksX4_onward_3 12 rfl rfl)
theorem dX4_onward_81 : decode cX4_onward 81 = .ok (.areturn, 1) := dk_176 (dk_at dksX4_onward_3 13 rfl rfl)
abbrev cX4_reach : ByteArray := prog_17_method_69_code
def yX4_reach : MethodName := ⟨RX4, "reach", "(III)I"⟩
def dkwX4_reach_5 : List UInt8 := [153, 0, 7, 4, 167, 0, 4, 3, 96, 54, 5, 132, 8, 1, 167, 255, 224, 21, 5, 172]
abbrev dktX4_reach_5 : List UInt8 := dkwX4_reach_5 ++ []
def dkwX4_reach_4 : List UInt8 := [190, 54, 7, 3, 54, 8, 21, 8, 21, 7, 162, 0, 31, 25, 6, 21, 8, 51, 54, 9, 21, 5, 21, 9]
abbrev dktX4_reach_4 : List UInt8 := dkwX4_reach_4 ++ dktX4_reach_5
def dkwX4_reach_3 : List UInt8 := [28, 21, 5, 96, 182, 1, 31, 58, 4, 132, 5, 1, 167, 255, 235, 3, 54, 5, 25, 4, 58, 6, 25, 6]
abbrev dktX4_reach_3 : List UInt8 := dkwX4_reach_3 ++ dktX4_reach_4
def dkwX4_reach_2 : List UInt8 := [182, 0, 140, 172, 42, 27, 28, 182, 1, 27, 58, 4, 4, 54, 5, 21, 5, 29, 163, 0, 21, 42, 25, 4]
abbrev dktX4_reach_2 : List UInt8 := dkwX4_reach_2 ++ dktX4_reach_3
def dkwX4_reach_1 : List UInt8 := [153, 0, 22, 29, 3, 16, 60, 184, 0, 54, 153, 0, 12, 28, 29, 96, 17, 0, 239, 164, 0, 9, 42, 5]
abbrev dktX4_reach_1 : List UInt8 := dkwX4_reach_1 ++ dktX4_reach_2
def dkwX4_reach_0 : List UInt8 := [42, 3, 181, 0, 51, 42, 27, 182, 0, 157, 154, 0, 9, 42, 4, 182, 0, 140, 172, 28, 184, 0, 163]
abbrev dktX4_reach_0 : List UInt8 := dkwX4_reach_0 ++ dktX4_reach_1
theorem dksX4_reach_0 : cX4_reach.data.toList.drop 0 = dktX4_reach_0 := by decide +kernel
theorem dksX4_reach_1 : cX4_reach.data.toList.drop 23 = dktX4_reach_1 := dk_seg dksX4_reach_0 23 rfl rfl
theorem dksX4_reach_2 : cX4_reach.data.toList.drop 47 = dktX4_reach_2 := dk_seg dksX4_reach_1 24 rfl rfl
theorem dksX4_reach_3 : cX4_reach.data.toList.drop 71 = dktX4_reach_3 := dk_seg dksX4_reach_2 24 rfl rfl
theorem dksX4_reach_4 : cX4_reach.data.toList.drop 95 = dktX4_reach_4 := dk_seg dksX4_reach_3 24 rfl rfl
theorem dksX4_reach_5 : cX4_reach.data.toList.drop 119 = dktX4_reach_5 := dk_seg dksX4_reach_4 24 rfl rfl
theorem dX4_reach_0 : decode cX4_reach 0 = .ok (.aload_n 0, 1) := dk_42 (dk_at dksX4_reach_0 0 rfl rfl)
theorem dX4_reach_1 : decode cX4_reach 1 = .ok (.iconst 0, 1) := dk_3 (dk_at dksX4_reach_0 1 rfl rfl)
theorem dX4_reach_2 : decode cX4_reach 2 = .ok (.putfield 51, 3) := dk_181 0 51 (dk_at dksX4_reach_0 2 rfl rfl)
theorem dX4_reach_5 : decode cX4_reach 5 = .ok (.aload_n 0, 1) := dk_42 (dk_at dksX4_reach_0 5 rfl rfl)
theorem dX4_reach_6 : decode cX4_reach 6 = .ok (.iload_n 1, 1) := dk_27 (dk_at dksX4_reach_0 6 rfl rfl)
theorem dX4_reach_7 : decode cX4_reach 7 = .ok (.invokevirtual 157, 3) := dk_182 0 157 (dk_at dksX4_reach_0 7 rfl rfl)
theorem dX4_reach_10 : decode cX4_reach 10 = .ok (.ifCond .ne 9, 3) := dk_154 0 9 (dk_at dksX4_reach_0 10 rfl rfl)
theorem dX4_reach_13 : decode cX4_reach 13 = .ok (.aload_n 0, 1) := dk_42 (dk_at dksX4_reach_0 13 rfl rfl)
theorem dX4_reach_14 : decode cX4_reach 14 = .ok (.iconst 1, 1) := dk_4 (dk_at dksX4_reach_0 14 rfl rfl)
theorem dX4_reach_15 : decode cX4_reach 15 = .ok (.invokevirtual 140, 3) := dk_182 0 140 (dk_at dksX4_reach_0 15 rfl rfl)
theorem dX4_reach_18 : decode cX4_reach 18 = .ok (.ireturn, 1) := dk_172 (dk_at dksX4_reach_0 18 rfl rfl)
theorem dX4_reach_19 : decode cX4_reach 19 = .ok (.iload_n 2, 1) := dk_28 (dk_at dksX4_reach_0 19 rfl rfl)
theorem dX4_reach_20 : decode cX4_reach 20 = .ok (.invokestatic 163, 3) := dk_184 0 163 (dk_at dksX4_reach_0 20 rfl rfl)
theorem dX4_reach_23 : decode cX4_reach 23 = .ok (.ifCond .eq 22, 3) := dk_153 0 22 (dk_at dksX4_reach_1 0 rfl rfl)
theorem dX4_reach_26 : decode cX4_reach 26 = .ok (.iload_n 3, 1) := dk_29 (dk_at dksX4_reach_1 3 rfl rfl)
theorem dX4_reach_27 : decode cX4_reach 27 = .ok (.iconst 0, 1) := dk_3 (dk_at dksX4_reach_1 4 rfl rfl)
theorem dX4_reach_28 : decode cX4_reach 28 = .ok (.bipush 60, 2) := dk_16 60 (dk_at dksX4_reach_1 5 rfl rfl)
theorem dX4_reach_30 : decode cX4_reach 30 = .ok (.invokestatic 54, 3) := dk_184 0 54 (dk_at dksX4_reach_1 7 rfl rfl)
theorem dX4_reach_33 : decode cX4_reach 33 = .ok (.ifCond .eq 12, 3) := dk_153 0 12 (dk_at dksX4_reach_1 10 rfl rfl)
theorem dX4_reach_36 : decode cX4_reach 36 = .ok (.iload_n 2, 1) := dk_28 (dk_at dksX4_reach_1 13 rfl rfl)
theorem dX4_reach_37 : decode cX4_reach 37 = .ok (.iload_n 3, 1) := dk_29 (dk_at dksX4_reach_1 14 rfl rfl)
theorem dX4_reach_38 : decode cX4_reach 38 = .ok (.iadd, 1) := dk_96 (dk_at dksX4_reach_1 15 rfl rfl)
theorem dX4_reach_39 : decode cX4_reach 39 = .ok (.sipush 239, 3) := dk_17 0 239 (dk_at dksX4_reach_1 16 rfl rfl)
theorem dX4_reach_42 : decode cX4_reach 42 = .ok (.if_icmp .le 9, 3) := dk_164 0 9 (dk_at dksX4_reach_1 19 rfl rfl)
theorem dX4_reach_45 : decode cX4_reach 45 = .ok (.aload_n 0, 1) := dk_42 (dk_at dksX4_reach_1 22 rfl rfl)
theorem dX4_reach_46 : decode cX4_reach 46 = .ok (.iconst 2, 1) := dk_5 (dk_at dksX4_reach_1 23 rfl rfl)
theorem dX4_reach_47 : decode cX4_reach 47 = .ok (.invokevirtual 140, 3) := dk_182 0 140 (dk_at dksX4_reach_2 0 rfl rfl)
theorem dX4_reach_50 : decode cX4_reach 50 = .ok (.ireturn, 1) := dk_172 (dk_at dksX4_reach_2 3 rfl rfl)
theorem dX4_reach_51 : decode cX4_reach 51 = .ok (.aload_n 0, 1) := dk_42 (dk_at dksX4_reach_2 4 rfl rfl)
theorem dX4_reach_52 : decode cX4_reach 52 = .ok (.iload_n 1, 1) := dk_27 (dk_at dksX4_reach_2 5 rfl rfl)
theorem dX4_reach_53 : decode cX4_reach 53 = .ok (.iload_n 2, 1) := dk_28 (dk_at dksX4_reach_2 6 rfl rfl)
theorem dX4_reach_54 : decode cX4_reach 54 = .ok (.invokevirtual 283, 3) := dk_182 1 27 (dk_at dksX4_reach_2 7 rfl rfl)
theorem dX4_reach_57 : decode cX4_reach 57 = .ok (.astore 4, 2) := dk_58 4 (dk_at dksX4_reach_2 10 rfl rfl)
theorem dX4_reach_59 : decode cX4_reach 59 = .ok (.iconst 1, 1) := dk_4 (dk_at dksX4_reach_2 12 rfl rfl)
theorem dX4_reach_60 : decode cX4_reach 60 = .ok (.istore 5, 2) := dk_54 5 (dk_at dksX4_reach_2 13 rfl rfl)
theorem dX4_reach_62 : decode cX4_reach 62 = .ok (.iload 5, 2) := dk_21 5 (dk_at dksX4_reach_2 15 rfl rfl)
theorem dX4_reach_64 : decode cX4_reach 64 = .ok (.iload_n 3, 1) := dk_29 (dk_at dksX4_reach_2 17 rfl rfl)
theorem dX4_reach_65 : decode cX4_reach 65 = .ok (.if_icmp .gt 21, 3) := dk_163 0 21 (dk_at dksX4_reach_2 18 rfl rfl)
theorem dX4_reach_68 : decode cX4_reach 68 = .ok (.aload_n 0, 1) := dk_42 (dk_at dksX4_reach_2 21 rfl rfl)
theorem dX4_reach_69 : decode cX4_reach 69 = .ok (.aload 4, 2) := dk_25 4 (dk_at dksX4_reach_2 22 rfl rfl)
theorem dX4_reach_71 : decode cX4_reach 71 = .ok (.iload_n 2, 1) := dk_28 (dk_at dksX4_reach_3 0 rfl rfl)
theorem dX4_reach_72 : decode cX4_reach 72 = .ok (.iload 5, 2) := dk_21 5 (dk_at dksX4_reach_3 1 rfl rfl)
theorem dX4_reach_74 : decode cX4_reach 74 = .ok (.iadd, 1) := dk_96 (dk_at dksX4_reach_3 3 rfl rfl)
theorem dX4_reach_75 : decode cX4_reach 75 = .ok (.invokevirtual 287, 3) := dk_182 1 31 (dk_at dksX4_reach_3 4 rfl rfl)
theorem dX4_reach_78 : decode cX4_reach 78 = .ok (.astore 4, 2) := dk_58 4 (dk_at dksX4_reach_3 7 rfl rfl)
theorem dX4_reach_80 : decode cX4_reach 80 = .ok (.iinc 5 1, 3) := dk_132 5 1 (dk_at dksX4_reach_3 9 rfl rfl)
theorem dX4_reach_83 : decode cX4_reach 83 = .ok (.goto (-21), 3) := dk_167 255 235 (dk_at dksX4_reach_3 12 rfl rfl)
theorem dX4_reach_86 : decode cX4_reach 86 = .ok (.iconst 0, 1) := dk_3 (dk_at dksX4_reach_3 15 rfl rfl)
theorem dX4_reach_87 : decode cX4_reach 87 = .ok (.istore 5, 2) := dk_54 5 (dk_at dksX4_reach_3 16 rfl rfl)
theorem dX4_reach_89 : decode cX4_reach 89 = .ok (.aload 4, 2) := dk_25 4 (dk_at dksX4_reach_3 18 rfl rfl)
theorem dX4_reach_91 : decode cX4_reach 91 = .ok (.astore 6, 2) := dk_58 6 (dk_at dksX4_reach_3 20 rfl rfl)
theorem dX4_reach_93 : decode cX4_reach 93 = .ok (.aload 6, 2) := dk_25 6 (dk_at dksX4_reach_3 22 rfl rfl)
theorem dX4_reach_95 : decode cX4_reach 95 = .ok (.arraylength, 1) := dk_190 (dk_at dksX4_reach_4 0 rfl rfl)
theorem dX4_reach_96 : decode cX4_reach 96 = .ok (.istore 7, 2) := dk_54 7 (dk_at dksX4_reach_4 1 rfl rfl)
theorem dX4_reach_98 : decode cX4_reach 98 = .ok (.iconst 0, 1) := dk_3 (dk_at dksX4_reach_4 3 rfl rfl)
theorem dX4_reach_99 : decode cX4_reach 99 = .ok (.istore 8, 2) := dk_54 8 (dk_at dksX4_reach_4 4 rfl rfl)
theorem dX4_reach_101 : decode cX4_reach 101 = .ok (.iload 8, 2) := dk_21 8 (dk_at dksX4_reach_4 6 rfl rfl)
theorem dX4_reach_103 : decode cX4_reach 103 = .ok (.iload 7, 2) := dk_21 7 (dk_at dksX4_reach_4 8 rfl rfl)
theorem dX4_reach_105 : decode cX4_reach 105 = .ok (.if_icmp .ge 31, 3) := dk_162 0 31 (dk_at dksX4_reach_4 10 rfl rfl)
theorem dX4_reach_108 : decode cX4_reach 108 = .ok (.aload 6, 2) := dk_25 6 (dk_at dksX4_reach_4 13 rfl rfl)
theorem dX4_reach_110 : decode cX4_reach 110 = .ok (.iload 8, 2) := dk_21 8 (dk_at dksX4_reach_4 15 rfl rfl)
theorem dX4_reach_112 : decode cX4_reach 112 = .ok (.baload, 1) := dk_51 (dk_at dksX4_reach_4 17 rfl rfl)
theorem dX4_reach_113 : decode cX4_reach 113 = .ok (.istore 9, 2) := dk_54 9 (dk_at dksX4_reach_4 18 rfl rfl)
theorem dX4_reach_115 : decode cX4_reach 115 = .ok (.iload 5, 2) := dk_21 5 (dk_at dksX4_reach_4 20 rfl rfl)
theorem dX4_reach_117 : decode cX4_reach 117 = .ok (.iload 9, 2) := dk_21 9 (dk_at dksX4_reach_4 22 rfl rfl)
theorem dX4_reach_119 : decode cX4_reach 119 = .ok (.ifCond .eq 7, 3) := dk_153 0 7 (dk_at dksX4_reach_5 0 rfl rfl)
theorem dX4_reach_122 : decode cX4_reach 122 = .ok (.iconst 1, 1) := dk_4 (dk_at dksX4_reach_5 3 rfl rfl)
theorem dX4_reach_123 : decode cX4_reach 123 = .ok (.goto 4, 3) := dk_167 0 4 (dk_at dksX4_reach_5 4 rfl rfl)
theorem dX4_reach_126 : decode cX4_reach 126 = .ok (.iconst 0, 1) := dk_3 (dk_at dksX4_reach_5 7 rfl rfl)
theorem dX4_reach_127 : decode cX4_reach 127 = .ok (.iadd, 1) := dk_96 (dk_at dksX4_reach_5 8 rfl rfl)
theorem dX4_reach_128 : decode cX4_reach 128 = .ok (.istore 5, 2) := dk_54 5 (dk_at dksX4_reach_5 9 rfl rfl)
theorem dX4_reach_130 : decode cX4_reach 130 = .ok (.iinc 8 1, 3) := dk_132 8 1 (dk_at dksX4_reach_5 11 rfl rfl)
theorem dX4_reach_133 : decode cX4_reach 133 = .ok (.goto (-32), 3) := dk_167 255 224 (dk_at dksX4_reach_5 14 rfl rfl)
theorem dX4_reach_136 : decode cX4_reach 136 = .ok (.iload 5, 2) := dk_21 5 (dk_at dksX4_reach_5 17 rfl rfl)
theorem dX4_reach_138 : decode cX4_reach 138 = .ok (.ireturn, 1) := dk_172 (dk_at dksX4_reach_5 19 rfl rfl)
abbrev cX4_nextLamp : ByteArray := prog_17_method_70_code
def yX4_nextLamp : MethodName := ⟨RX4, "nextLamp", "(IIZ)I"⟩
def dkwX4_nextLamp_7 : List UInt8 := [21, 6, 172]
abbrev dktX4_nextLamp_7 : List UInt8 := dkwX4_nextLamp_7 ++ []
def dkwX4_nextLamp_6 : List UInt8 := [21, 8, 54, 6, 21, 7, 54, 5, 132, 7, 1, 167, 255, 153, 29, 153, 0, 8, 21, 5, 167, 0, 5]
abbrev dktX4_nextLamp_6 : List UInt8 := dkwX4_nextLamp_6 ++ dktX4_nextLamp_7
def dkwX4_nextLamp_5 : List UInt8 := [185, 0, 58, 1, 0, 4, 100, 185, 1, 35, 2, 0, 87, 21, 8, 21, 6, 163, 0, 6, 167, 0, 11]
abbrev dktX4_nextLamp_5 : List UInt8 := dkwX4_nextLamp_5 ++ dktX4_nextLamp_6
def dkwX4_nextLamp_4 : List UInt8 := [87, 21, 4, 42, 27, 4, 182, 0, 205, 100, 54, 8, 42, 180, 0, 20, 42, 180, 0, 20]
abbrev dktX4_nextLamp_4 : List UInt8 := dkwX4_nextLamp_4 ++ dktX4_nextLamp_5
def dkwX4_nextLamp_3 : List UInt8 := [180, 0, 20, 6, 188, 10, 89, 3, 21, 7, 79, 89, 4, 28, 79, 89, 5, 4, 79, 185, 0, 166, 2, 0]
abbrev dktX4_nextLamp_3 : List UInt8 := dkwX4_nextLamp_3 ++ dktX4_nextLamp_4
def dkwX4_nextLamp_2 : List UInt8 := [180, 0, 7, 190, 162, 0, 99, 42, 180, 0, 7, 21, 7, 46, 4, 160, 0, 6, 167, 0, 79, 42]
abbrev dktX4_nextLamp_2 : List UInt8 := dkwX4_nextLamp_2 ++ dktX4_nextLamp_3
def dkwX4_nextLamp_1 : List UInt8 := [182, 0, 140, 172, 42, 27, 4, 182, 0, 205, 54, 4, 2, 54, 5, 2, 54, 6, 3, 54, 7, 21, 7, 42]
abbrev dktX4_nextLamp_1 : List UInt8 := dkwX4_nextLamp_1 ++ dktX4_nextLamp_2
def dkwX4_nextLamp_0 : List UInt8 := [42, 3, 181, 0, 51, 27, 184, 0, 163, 153, 0, 12, 28, 4, 7, 184, 0, 54, 154, 0, 9, 42, 4]
abbrev dktX4_nextLamp_0 : List UInt8 := dkwX4_nextLamp_0 ++ dktX4_nextLamp_1
theorem dksX4_nextLamp_0 : cX4_nextLamp.data.toList.drop 0 = dktX4_nextLamp_0 := by decide +kernel
theorem dksX4_nextLamp_1 : cX4_nextLamp.data.toList.drop 23 = dktX4_nextLamp_1 := dk_seg dksX4_nextLamp_0 23 rfl rfl
theorem dksX4_nextLamp_2 : cX4_nextLamp.data.toList.drop 47 = dktX4_nextLamp_2 := dk_seg dksX4_nextLamp_1 24 rfl rfl
theorem dksX4_nextLamp_3 : cX4_nextLamp.data.toList.drop 69 = dktX4_nextLamp_3 := dk_seg dksX4_nextLamp_2 22 rfl rfl
theorem dksX4_nextLamp_4 : cX4_nextLamp.data.toList.drop 93 = dktX4_nextLamp_4 := dk_seg dksX4_nextLamp_3 24 rfl rfl
theorem dksX4_nextLamp_5 : cX4_nextLamp.data.toList.drop 113 = dktX4_nextLamp_5 := dk_seg dksX4_nextLamp_4 20 rfl rfl
theorem dksX4_nextLamp_6 : cX4_nextLamp.data.toList.drop 136 = dktX4_nextLamp_6 := dk_seg dksX4_nextLamp_5 23 rfl rfl
theorem dksX4_nextLamp_7 : cX4_nextLamp.data.toList.drop 159 = dktX4_nextLamp_7 := dk_seg dksX4_nextLamp_6 23 rfl rfl
theorem dX4_nextLamp_0 : decode cX4_nextLamp 0 = .ok (.aload_n 0, 1) := dk_42 (dk_at dksX4_nextLamp_0 0 rfl rfl)
theorem dX4_nextLamp_1 : decode cX4_nextLamp 1 = .ok (.iconst 0, 1) := dk_3 (dk_at dksX4_nextLamp_0 1 rfl rfl)
theorem dX4_nextLamp_2 : decode cX4_nextLamp 2 = .ok (.putfield 51, 3) := dk_181 0 51 (dk_at dksX4_nextLamp_0 2 rfl rfl)
theorem dX4_nextLamp_5 : decode cX4_nextLamp 5 = .ok (.iload_n 1, 1) := dk_27 (dk_at dksX4_nextLamp_0 5 rfl rfl)
theorem dX4_nextLamp_6 : decode cX4_nextLamp 6 = .ok (.invokestatic 163, 3) := dk_184 0 163 (dk_at dksX4_nextLamp_0 6 rfl rfl)
theorem dX4_nextLamp_9 : decode cX4_nextLamp 9 = .ok (.ifCond .eq 12, 3) := dk_153 0 12 (dk_at dksX4_nextLamp_0 9 rfl rfl)
theorem dX4_nextLamp_12 : decode cX4_nextLamp 12 = .ok (.iload_n 2, 1) := dk_28 (dk_at dksX4_nextLamp_0 12 rfl rfl)
theorem dX4_nextLamp_13 : decode cX4_nextLamp 13 = .ok (.iconst 1, 1) := dk_4 (dk_at dksX4_nextLamp_0 13 rfl rfl)
theorem dX4_nextLamp_14 : decode cX4_nextLamp 14 = .ok (.iconst 4, 1) := dk_7 (dk_at dksX4_nextLamp_0 14 rfl rfl)
theorem dX4_nextLamp_15 : decode cX4_nextLamp 15 = .ok (.invokestatic 54, 3) := dk_184 0 54 (dk_at dksX4_nextLamp_0 15 rfl rfl)
theorem dX4_nextLamp_18 : decode cX4_nextLamp 18 = .ok (.ifCond .ne 9, 3) := dk_154 0 9 (dk_at dksX4_nextLamp_0 18 rfl rfl)
theorem dX4_nextLamp_21 : decode cX4_nextLamp 21 = .ok (.aload_n 0, 1) := dk_42 (dk_at dksX4_nextLamp_0 21 rfl rfl)
theorem dX4_nextLamp_22 : decode cX4_nextLamp 22 = .ok (.iconst 1, 1) := dk_4 (dk_at dksX4_nextLamp_0 22 rfl rfl)
theorem dX4_nextLamp_23 : decode cX4_nextLamp 23 = .ok (.invokevirtual 140, 3) := dk_182 0 140 (dk_at dksX4_nextLamp_1 0 rfl rfl)
theorem dX4_nextLamp_26 : decode cX4_nextLamp 26 = .ok (.ireturn, 1) := dk_172 (dk_at dksX4_nextLamp_1 3 rfl rfl)
theorem dX4_nextLamp_27 : decode cX4_nextLamp 27 = .ok (.aload_n 0, 1) := dk_42 (dk_at dksX4_nextLamp_1 4 rfl rfl)
theorem dX4_nextLamp_28 : decode cX4_nextLamp 28 = .ok (.iload_n 1, 1) := dk_27 (dk_at dksX4_nextLamp_1 5 rfl rfl)
theorem dX4_nextLamp_29 : decode cX4_nextLamp 29 = .ok (.iconst 1, 1) := dk_4 (dk_at dksX4_nextLamp_1 6 rfl rfl)
theorem dX4_nextLamp_30 : decode cX4_nextLamp 30 = .ok (.invokevirtual 205, 3) := dk_182 0 205 (dk_at dksX4_nextLamp_1 7 rfl rfl)
theorem dX4_nextLamp_33 : decode cX4_nextLamp 33 = .ok (.istore 4, 2) := dk_54 4 (dk_at dksX4_nextLamp_1 10 rfl rfl)
theorem dX4_nextLamp_35 : decode cX4_nextLamp 35 = .ok (.iconst (-1), 1) := dk_2 (dk_at dksX4_nextLamp_1 12 rfl rfl)
theorem dX4_nextLamp_36 : decode cX4_nextLamp 36 = .ok (.istore 5, 2) := dk_54 5 (dk_at dksX4_nextLamp_1 13 rfl rfl)
theorem dX4_nextLamp_38 : decode cX4_nextLamp 38 = .ok (.iconst (-1), 1) := dk_2 (dk_at dksX4_nextLamp_1 15 rfl rfl)
theorem dX4_nextLamp_39 : decode cX4_nextLamp 39 = .ok (.istore 6, 2) := dk_54 6 (dk_at dksX4_nextLamp_1 16 rfl rfl)
theorem dX4_nextLamp_41 : decode cX4_nextLamp 41 = .ok (.iconst 0, 1) := dk_3 (dk_at dksX4_nextLamp_1 18 rfl rfl)
theorem dX4_nextLamp_42 : decode cX4_nextLamp 42 = .ok (.istore 7, 2) := dk_54 7 (dk_at dksX4_nextLamp_1 19 rfl rfl)
theorem dX4_nextLamp_44 : decode cX4_nextLamp 44 = .ok (.iload 7, 2) := dk_21 7 (dk_at dksX4_nextLamp_1 21 rfl rfl)
theorem dX4_nextLamp_46 : decode cX4_nextLamp 46 = .ok (.aload_n 0, 1) := dk_42 (dk_at dksX4_nextLamp_1 23 rfl rfl)
theorem dX4_nextLamp_47 : decode cX4_nextLamp 47 = .ok (.getfield 7, 3) := dk_180 0 7 (dk_at dksX4_nextLamp_2 0 rfl rfl)
theorem dX4_nextLamp_50 : decode cX4_nextLamp 50 = .ok (.arraylength, 1) := dk_190 (dk_at dksX4_nextLamp_2 3 rfl rfl)
theorem dX4_nextLamp_51 : decode cX4_nextLamp 51 = .ok (.if_icmp .ge 99, 3) := dk_162 0 99 (dk_at dksX4_nextLamp_2 4 rfl rfl)
theorem dX4_nextLamp_54 : decode cX4_nextLamp 54 = .ok (.aload_n 0, 1) := dk_42 (dk_at dksX4_nextLamp_2 7 rfl rfl)
theorem dX4_nextLamp_55 : decode cX4_nextLamp 55 = .ok (.getfield 7, 3) := dk_180 0 7 (dk_at dksX4_nextLamp_2 8 rfl rfl)
theorem dX4_nextLamp_58 : decode cX4_nextLamp 58 = .ok (.iload 7, 2) := dk_21 7 (dk_at dksX4_nextLamp_2 11 rfl rfl)
theorem dX4_nextLamp_60 : decode cX4_nextLamp 60 = .ok (.iaload, 1) := dk_46 (dk_at dksX4_nextLamp_2 13 rfl rfl)
theorem dX4_nextLamp_61 : decode cX4_nextLamp 61 = .ok (.iconst 1, 1) := dk_4 (dk_at dksX4_nextLamp_2 14 rfl rfl)
theorem dX4_nextLamp_62 : decode cX4_nextLamp 62 = .ok (.if_icmp .ne 6, 3) := dk_160 0 6 (dk_at dksX4_nextLamp_2 15 rfl rfl)
theorem dX4_nextLamp_65 : decode cX4_nextLamp 65 = .ok (.goto 79, 3) := dk_167 0 79 (dk_at dksX4_nextLamp_2 18 rfl rfl)
theorem dX4_nextLamp_68 : decode cX4_nextLamp 68 = .ok (.aload_n 0, 1) := dk_42 (dk_at dksX4_nextLamp_2 21 rfl rfl)
theorem dX4_nextLamp_69 : decode cX4_nextLamp 69 = .ok (.getfield 20, 3) := dk_180 0 20 (dk_at dksX4_nextLamp_3 0 rfl rfl)
theorem dX4_nextLamp_72 : decode cX4_nextLamp 72 = .ok (.iconst 3, 1) := dk_6 (dk_at dksX4_nextLamp_3 3 rfl rfl)
theorem dX4_nextLamp_73 : decode cX4_nextLamp 73 = .ok (.newarray .int, 2) := dk_188_10 (dk_at dksX4_nextLamp_3 4 rfl rfl)
theorem dX4_nextLamp_75 : decode cX4_nextLamp 75 = .ok (.dup, 1) := dk_89 (dk_at dksX4_nextLamp_3 6 rfl rfl)
theorem dX4_nextLamp_76 : decode cX4_nextLamp 76 = .ok (.iconst 0, 1) := dk_3 (dk_at dksX4_nextLamp_3 7 rfl rfl)
theorem dX4_nextLamp_77 : decode cX4_nextLamp 77 = .ok (.iload 7, 2) := dk_21 7 (dk_at dksX4_nextLamp_3 8 rfl rfl)
theorem dX4_nextLamp_79 : decode cX4_nextLamp 79 = .ok (.iastore, 1) := dk_79 (dk_at dksX4_nextLamp_3 10 rfl rfl)
theorem dX4_nextLamp_80 : decode cX4_nextLamp 80 = .ok (.dup, 1) := dk_89 (dk_at dksX4_nextLamp_3 11 rfl rfl)
theorem dX4_nextLamp_81 : decode cX4_nextLamp 81 = .ok (.iconst 1, 1) := dk_4 (dk_at dksX4_nextLamp_3 12 rfl rfl)
theorem dX4_nextLamp_82 : decode cX4_nextLamp 82 = .ok (.iload_n 2, 1) := dk_28 (dk_at dksX4_nextLamp_3 13 rfl rfl)
theorem dX4_nextLamp_83 : decode cX4_nextLamp 83 = .ok (.iastore, 1) := dk_79 (dk_at dksX4_nextLamp_3 14 rfl rfl)
theorem dX4_nextLamp_84 : decode cX4_nextLamp 84 = .ok (.dup, 1) := dk_89 (dk_at dksX4_nextLamp_3 15 rfl rfl)
theorem dX4_nextLamp_85 : decode cX4_nextLamp 85 = .ok (.iconst 2, 1) := dk_5 (dk_at dksX4_nextLamp_3 16 rfl rfl)
theorem dX4_nextLamp_86 : decode cX4_nextLamp 86 = .ok (.iconst 1, 1) := dk_4 (dk_at dksX4_nextLamp_3 17 rfl rfl)
theorem dX4_nextLamp_87 : decode cX4_nextLamp 87 = .ok (.iastore, 1) := dk_79 (dk_at dksX4_nextLamp_3 18 rfl rfl)
theorem dX4_nextLamp_88 : decode cX4_nextLamp 88 = .ok (.invokeinterface 166 2, 5) := by decide +kernel
theorem dX4_nextLamp_93 : decode cX4_nextLamp 93 = .ok (.pop, 1) := dk_87 (dk_at dksX4_nextLamp_4 0 rfl rfl)
theorem dX4_nextLamp_94 : decode cX4_nextLamp 94 = .ok (.iload 4, 2) := dk_21 4 (dk_at dksX4_nextLamp_4 1 rfl rfl)
theorem dX4_nextLamp_96 : decode cX4_nextLamp 96 = .ok (.aload_n 0, 1) := dk_42 (dk_at dksX4_nextLamp_4 3 rfl rfl)
theorem dX4_nextLamp_97 : decode cX4_nextLamp 97 = .ok (.iload_n 1, 1) := dk_27 (dk_at dksX4_nextLamp_4 4 rfl rfl)
theorem dX4_nextLamp_98 : decode cX4_nextLamp 98 = .ok (.iconst 1, 1) := dk_4 (dk_at dksX4_nextLamp_4 5 rfl rfl)
theorem dX4_nextLamp_99 : decode cX4_nextLamp 99 = .ok (.invokevirtual 205, 3) := dk_182 0 205 (dk_at dksX4_nextLamp_4 6 rfl rfl)
theorem dX4_nextLamp_102 : decode cX4_nextLamp 102 = .ok (.isub, 1) := dk_100 (dk_at dksX4_nextLamp_4 9 rfl rfl)
theorem dX4_nextLamp_103 : decode cX4_nextLamp 103 = .ok (.istore 8, 2) := dk_54 8 (dk_at dksX4_nextLamp_4 10 rfl rfl)
theorem dX4_nextLamp_105 : decode cX4_nextLamp 105 = .ok (.aload_n 0, 1) := dk_42 (dk_at dksX4_nextLamp_4 12 rfl rfl)
theorem dX4_nextLamp_106 : decode cX4_nextLamp 106 = .ok (.getfield 20, 3) := dk_180 0 20 (dk_at dksX4_nextLamp_4 13 rfl rfl)
theorem dX4_nextLamp_109 : decode cX4_nextLamp 109 = .ok (.aload_n 0, 1) := dk_42 (dk_at dksX4_nextLamp_4 16 rfl rfl)
theorem dX4_nextLamp_110 : decode cX4_nextLamp 110 = .ok (.getfield 20, 3) := dk_180 0 20 (dk_at dksX4_nextLamp_4 17 rfl rfl)
theorem dX4_nextLamp_113 : decode cX4_nextLamp 113 = .ok (.invokeinterface 58 1, 5) := by decide +kernel
theorem dX4_nextLamp_118 : decode cX4_nextLamp 118 = .ok (.iconst 1, 1) := dk_4 (dk_at dksX4_nextLamp_5 5 rfl rfl)
theorem dX4_nextLamp_119 : decode cX4_nextLamp 119 = .ok (.isub, 1) := dk_100 (dk_at dksX4_nextLamp_5 6 rfl rfl)
theorem dX4_nextLamp_120 : decode cX4_nextLamp 120 = .ok (.invokeinterface 291 2, 5) := by decide +kernel
theorem dX4_nextLamp_125 : decode cX4_nextLamp 125 = .ok (.pop, 1) := dk_87 (dk_at dksX4_nextLamp_5 12 rfl rfl)
theorem dX4_nextLamp_126 : decode cX4_nextLamp 126 = .ok (.iload 8, 2) := dk_21 8 (dk_at dksX4_nextLamp_5 13 rfl rfl)
theorem dX4_nextLamp_128 : decode cX4_nextLamp 128 = .ok (.iload 6, 2) := dk_21 6 (dk_at dksX4_nextLamp_5 15 rfl rfl)
theorem dX4_nextLamp_130 : decode cX4_nextLamp 130 = .ok (.if_icmp .gt 6, 3) := dk_163 0 6 (dk_at dksX4_nextLamp_5 17 rfl rfl)
theorem dX4_nextLamp_133 : decode cX4_nextLamp 133 = .ok (.goto 11, 3) := dk_167 0 11 (dk_at dksX4_nextLamp_5 20 rfl rfl)
theorem dX4_nextLamp_136 : decode cX4_nextLamp 136 = .ok (.iload 8, 2) := dk_21 8 (dk_at dksX4_nextLamp_6 0 rfl rfl)
theorem dX4_nextLamp_138 : decode cX4_nextLamp 138 = .ok (.istore 6, 2) := dk_54 6 (dk_at dksX4_nextLamp_6 2 rfl rfl)
theorem dX4_nextLamp_140 : decode cX4_nextLamp 140 = .ok (.iload 7, 2) := dk_21 7 (dk_at dksX4_nextLamp_6 4 rfl rfl)
theorem dX4_nextLamp_142 : decode cX4_nextLamp 142 = .ok (.istore 5, 2) := dk_54 5 (dk_at dksX4_nextLamp_6 6 rfl rfl)
theorem dX4_nextLamp_144 : decode cX4_nextLamp 144 = .ok (.iinc 7 1, 3) := dk_132 7 1 (dk_at dksX4_nextLamp_6 8 rfl rfl)
theorem dX4_nextLamp_147 : decode cX4_nextLamp 147 = .ok (.goto (-103), 3) := dk_167 255 153 (dk_at dksX4_nextLamp_6 11 rfl rfl)
theorem dX4_nextLamp_150 : decode cX4_nextLamp 150 = .ok (.iload_n 3, 1) := dk_29 (dk_at dksX4_nextLamp_6 14 rfl rfl)
theorem dX4_nextLamp_151 : decode cX4_nextLamp 151 = .ok (.ifCond .eq 8, 3) := dk_153 0 8 (dk_at dksX4_nextLamp_6 15 rfl rfl)
theorem dX4_nextLamp_154 : decode cX4_nextLamp 154 = .ok (.iload 5, 2) := dk_21 5 (dk_at dksX4_nextLamp_6 18 rfl rfl)
theorem dX4_nextLamp_156 : decode cX4_nextLamp 156 = .ok (.goto 5, 3) := dk_167 0 5 (dk_at dksX4_nextLamp_6 20 rfl rfl)
theorem dX4_nextLamp_159 : decode cX4_nextLamp 159 = .ok (.iload 6, 2) := dk_21 6 (dk_at dksX4_nextLamp_7 0 rfl rfl)
theorem dX4_nextLamp_161 : decode cX4_nextLamp 161 = .ok (.ireturn, 1) := dk_172 (dk_at dksX4_nextLamp_7 2 rfl rfl)
abbrev cX4_many : ByteArray := prog_17_method_72_code
def yX4_many : MethodName := ⟨RX4, "many", "(I)I"⟩
def dkwX4_many_1 : List UInt8 := [182, 1, 41, 172]
abbrev dktX4_many_1 : List UInt8 := dkwX4_many_1 ++ []
def dkwX4_many_0 : List UInt8 := [42, 3, 181, 0, 51, 27, 3, 16, 12, 184, 0, 54, 154, 0, 9, 42, 4, 182, 0, 140, 172, 42, 27]
abbrev dktX4_many_0 : List UInt8 := dkwX4_many_0 ++ dktX4_many_1
theorem dksX4_many_0 : cX4_many.data.toList.drop 0 = dktX4_many_0 := by decide +kernel
theorem dksX4_many_1 : cX4_many.data.toList.drop 23 = dktX4_many_1 := dk_seg dksX4_many_0 23 rfl rfl
theorem dX4_many_0 : decode cX4_many 0 = .ok (.aload_n 0, 1) := dk_42 (dk_at dksX4_many_0 0 rfl rfl)
theorem dX4_many_1 : decode cX4_many 1 = .ok (.iconst 0, 1) := dk_3 (dk_at dksX4_many_0 1 rfl rfl)
theorem dX4_many_2 : decode cX4_many 2 = .ok (.putfield 51, 3) := dk_181 0 51 (dk_at dksX4_many_0 2 rfl rfl)
theorem dX4_many_5 : decode cX4_many 5 = .ok (.iload_n 1, 1) := dk_27 (dk_at dksX4_many_0 5 rfl rfl)
theorem dX4_many_6 : decode cX4_many 6 = .ok (.iconst 0, 1) := dk_3 (dk_at dksX4_many_0 6 rfl rfl)
theorem dX4_many_7 : decode cX4_many 7 = .ok (.bipush 12, 2) := dk_16 12 (dk_at dksX4_many_0 7 rfl rfl)
theorem dX4_many_9 : decode cX4_many 9 = .ok (.invokestatic 54, 3) := dk_184 0 54 (dk_at dksX4_many_0 9 rfl rfl)
theorem dX4_many_12 : decode cX4_many 12 = .ok (.ifCond .ne 9, 3) := dk_154 0 9 (dk_at dksX4_many_0 12 rfl rfl)
theorem dX4_many_15 : decode cX4_many 15 = .ok (.aload_n 0, 1) := dk_42 (dk_at dksX4_many_0 15 rfl rfl)
theorem dX4_many_16 : decode cX4_many 16 = .ok (.iconst 1, 1) := dk_4 (dk_at dksX4_many_0 16 rfl rfl)
theorem dX4_many_17 : decode cX4_many 17 = .ok (.invokevirtual 140, 3) := dk_182 0 140 (dk_at dksX4_many_0 17 rfl rfl)
theorem dX4_many_20 : decode cX4_many 20 = .ok (.ireturn, 1) := dk_172 (dk_at dksX4_many_0 20 rfl rfl)
theorem dX4_many_21 : decode cX4_many 21 = .ok (.aload_n 0, 1) := dk_42 (dk_at dksX4_many_0 21 rfl rfl)
theorem dX4_many_22 : decode cX4_many 22 = .ok (.iload_n 1, 1) := dk_27 (dk_at dksX4_many_0 22 rfl rfl)
theorem dX4_many_23 : decode cX4_many 23 = .ok (.invokevirtual 297, 3) := dk_182 1 41 (dk_at dksX4_many_1 0 rfl rfl)
theorem dX4_many_26 : decode cX4_many 26 = .ok (.ireturn, 1) := dk_172 (dk_at dksX4_many_1 3 rfl rfl)
abbrev cX4_manyNow : ByteArray := prog_17_method_71_code
def yX4_manyNow : MethodName := ⟨RX4, "manyNow", "(I)I"⟩
def dkwX4_manyNow_14 : List UInt8 := [172]
abbrev dktX4_manyNow_14 : List UInt8 := dkwX4_manyNow_14 ++ []
def dkwX4_manyNow_13 : List UInt8 := [180, 0, 77, 79, 89, 16, 11, 21, 5, 79, 89, 16, 12, 42, 180, 1, 38, 79, 58, 6, 25, 6, 27, 46]
abbrev dktX4_manyNow_13 : List UInt8 := dkwX4_manyNow_13 ++ dktX4_manyNow_14
def dkwX4_manyNow_12 : List UInt8 := [185, 0, 58, 1, 0, 79, 89, 16, 8, 21, 4, 79, 89, 16, 9, 42, 180, 0, 74, 79, 89, 16, 10, 42]
abbrev dktX4_manyNow_12 : List UInt8 := dkwX4_manyNow_12 ++ dktX4_manyNow_13
def dkwX4_manyNow_11 : List UInt8 := [180, 0, 42, 185, 0, 58, 1, 0, 79, 89, 16, 6, 29, 79, 89, 16, 7, 42, 180, 0, 45]
abbrev dktX4_manyNow_11 : List UInt8 := dkwX4_manyNow_11 ++ dktX4_manyNow_12
def dkwX4_manyNow_10 : List UInt8 := [180, 0, 27, 185, 0, 58, 1, 0, 79, 89, 7, 42, 180, 0, 30, 185, 0, 58, 1, 0, 79, 89, 8, 42]
abbrev dktX4_manyNow_10 : List UInt8 := dkwX4_manyNow_10 ++ dktX4_manyNow_11
def dkwX4_manyNow_9 : List UInt8 := [180, 0, 7, 190, 79, 89, 4, 42, 180, 0, 20, 185, 0, 58, 1, 0, 79, 89, 5, 28, 79, 89, 6, 42]
abbrev dktX4_manyNow_9 : List UInt8 := dkwX4_manyNow_9 ++ dktX4_manyNow_10
def dkwX4_manyNow_8 : List UInt8 := [158, 0, 7, 4, 167, 0, 4, 3, 96, 54, 5, 132, 6, 1, 167, 255, 219, 16, 13, 188, 10, 89, 3, 42]
abbrev dktX4_manyNow_8 : List UInt8 := dkwX4_manyNow_8 ++ dktX4_manyNow_9
def dkwX4_manyNow_7 : List UInt8 := [21, 6, 17, 0, 239, 163, 0, 35, 27, 16, 11, 160, 0, 29, 21, 5, 42, 21, 6, 7, 182, 0, 205]
abbrev dktX4_manyNow_7 : List UInt8 := dkwX4_manyNow_7 ++ dktX4_manyNow_8
def dkwX4_manyNow_6 : List UInt8 := [21, 9, 2, 160, 0, 7, 3, 167, 0, 4, 4, 96, 54, 4, 132, 8, 1, 167, 255, 223, 3, 54, 6]
abbrev dktX4_manyNow_6 : List UInt8 := dkwX4_manyNow_6 ++ dktX4_manyNow_7
def dkwX4_manyNow_5 : List UInt8 := [25, 6, 190, 54, 7, 3, 54, 8, 21, 8, 21, 7, 162, 0, 32, 25, 6, 21, 8, 46, 54, 9, 21, 4]
abbrev dktX4_manyNow_5 : List UInt8 := dkwX4_manyNow_5 ++ dktX4_manyNow_6
def dkwX4_manyNow_4 : List UInt8 := [2, 160, 0, 7, 3, 167, 0, 4, 4, 96, 62, 132, 6, 1, 167, 255, 203, 42, 180, 0, 39, 58, 6]
abbrev dktX4_manyNow_4 : List UInt8 := dkwX4_manyNow_4 ++ dktX4_manyNow_5
def dkwX4_manyNow_3 : List UInt8 := [16, 6, 160, 0, 39, 29, 42, 42, 180, 0, 42, 21, 6, 185, 0, 80, 2, 0, 192, 0, 152, 182, 0, 254]
abbrev dktX4_manyNow_3 : List UInt8 := dkwX4_manyNow_3 ++ dktX4_manyNow_4
def dkwX4_manyNow_2 : List UInt8 := [132, 6, 1, 167, 255, 220, 3, 54, 6, 21, 6, 42, 180, 0, 42, 185, 0, 58, 1, 0, 162, 0, 45, 27]
abbrev dktX4_manyNow_2 : List UInt8 := dkwX4_manyNow_2 ++ dktX4_manyNow_3
def dkwX4_manyNow_1 : List UInt8 := [162, 0, 28, 28, 42, 180, 0, 20, 21, 6, 185, 0, 80, 2, 0, 192, 0, 116, 5, 46, 96, 61]
abbrev dktX4_manyNow_1 : List UInt8 := dkwX4_manyNow_1 ++ dktX4_manyNow_2
def dkwX4_manyNow_0 : List UInt8 := [3, 61, 3, 62, 3, 54, 4, 3, 54, 5, 3, 54, 6, 21, 6, 42, 180, 0, 20, 185, 0, 58, 1, 0]
abbrev dktX4_manyNow_0 : List UInt8 := dkwX4_manyNow_0 ++ dktX4_manyNow_1
theorem dksX4_manyNow_0 : cX4_manyNow.data.toList.drop 0 = dktX4_manyNow_0 := by decide +kernel
theorem dksX4_manyNow_1 : cX4_manyNow.data.toList.drop 24 = dktX4_manyNow_1 := dk_seg dksX4_manyNow_0 24 rfl rfl
theorem dksX4_manyNow_2 : cX4_manyNow.data.toList.drop 46 = dktX4_manyNow_2 := dk_seg dksX4_manyNow_1 22 rfl rfl
theorem dksX4_manyNow_3 : cX4_manyNow.data.toList.drop 70 = dktX4_manyNow_3 := dk_seg dksX4_manyNow_2 24 rfl rfl
theorem dksX4_manyNow_4 : cX4_manyNow.data.toList.drop 94 = dktX4_manyNow_4 := dk_seg dksX4_manyNow_3 24 rfl rfl
theorem dksX4_manyNow_5 : cX4_manyNow.data.toList.drop 117 = dktX4_manyNow_5 := dk_seg dksX4_manyNow_4 23 rfl rfl
theorem dksX4_manyNow_6 : cX4_manyNow.data.toList.drop 141 = dktX4_manyNow_6 := dk_seg dksX4_manyNow_5 24 rfl rfl
theorem dksX4_manyNow_7 : cX4_manyNow.data.toList.drop 164 = dktX4_manyNow_7 := dk_seg dksX4_manyNow_6 23 rfl rfl
theorem dksX4_manyNow_8 : cX4_manyNow.data.toList.drop 187 = dktX4_manyNow_8 := dk_seg dksX4_manyNow_7 23 rfl rfl
theorem dksX4_manyNow_9 : cX4_manyNow.data.toList.drop 211 = dktX4_manyNow_9 := dk_seg dksX4_manyNow_8 24 rfl rfl
theorem dksX4_manyNow_10 : cX4_manyNow.data.toList.drop 235 = dktX4_manyNow_10 := dk_seg dksX4_manyNow_9 24 rfl rfl
theorem dksX4_manyNow_11 : cX4_manyNow.data.toList.drop 259 = dktX4_manyNow_11 := dk_seg dksX4_manyNow_10 24 rfl rfl
theorem dksX4_manyNow_12 : cX4_manyNow.data.toList.drop 280 = dktX4_manyNow_12 := dk_seg dksX4_manyNow_11 21 rfl rfl
theorem dksX4_manyNow_13 : cX4_manyNow.data.toList.drop 304 = dktX4_manyNow_13 := dk_seg dksX4_manyNow_12 24 rfl rfl
theorem dksX4_manyNow_14 : cX4_manyNow.data.toList.drop 328 = dktX4_manyNow_14 := dk_seg dksX4_manyNow_13 24 rfl rfl
theorem dX4_manyNow_0 : decode cX4_manyNow 0 = .ok (.iconst 0, 1) := dk_3 (dk_at dksX4_manyNow_0 0 rfl rfl)
theorem dX4_manyNow_1 : decode cX4_manyNow 1 = .ok (.istore_n 2, 1) := dk_61 (dk_at dksX4_manyNow_0 1 rfl rfl)
theorem dX4_manyNow_2 : decode cX4_manyNow 2 = .ok (.iconst 0, 1) := dk_3 (dk_at dksX4_manyNow_0 2 rfl rfl)
theorem dX4_manyNow_3 : decode cX4_manyNow 3 = .ok (.istore_n 3, 1) := dk_62 (dk_at dksX4_manyNow_0 3 rfl rfl)
theorem dX4_manyNow_4 : decode cX4_manyNow 4 = .ok (.iconst 0, 1) := dk_3 (dk_at dksX4_manyNow_0 4 rfl rfl)
theorem dX4_manyNow_5 : decode cX4_manyNow 5 = .ok (.istore 4, 2) := dk_54 4 (dk_at dksX4_manyNow_0 5 rfl rfl)
theorem dX4_manyNow_7 : decode cX4_manyNow 7 = .ok (.iconst 0, 1) := dk_3 (dk_at dksX4_manyNow_0 7 rfl rfl)
theorem dX4_manyNow_8 : decode cX4_manyNow 8 = .ok (.istore 5, 2) := dk_54 5 (dk_at dksX4_manyNow_0 8 rfl rfl)
theorem dX4_manyNow_10 : decode cX4_manyNow 10 = .ok (.iconst 0, 1) := dk_3 (dk_at dksX4_manyNow_0 10 rfl rfl)
theorem dX4_manyNow_11 : decode cX4_manyNow 11 = .ok (.istore 6, 2) := dk_54 6 (dk_at dksX4_manyNow_0 11 rfl rfl)
theorem dX4_manyNow_13 : decode cX4_manyNow 13 = .ok (.iload 6, 2) := dk_21 6 (dk_at dksX4_manyNow_0 13 rfl rfl)
theorem dX4_manyNow_15 : decode cX4_manyNow 15 = .ok (.aload_n 0, 1) := dk_42 (dk_at dksX4_manyNow_0 15 rfl rfl)
theorem dX4_manyNow_16 : decode cX4_manyNow 16 = .ok (.getfield 20, 3) := dk_180 0 20 (dk_at dksX4_manyNow_0 16 rfl rfl)
theorem dX4_manyNow_19 : decode cX4_manyNow 19 = .ok (.invokeinterface 58 1, 5) := by decide +kernel
theorem dX4_manyNow_24 : decode cX4_manyNow 24 = .ok (.if_icmp .ge 28, 3) := dk_162 0 28 (dk_at dksX4_manyNow_1 0 rfl rfl)
theorem dX4_manyNow_27 : decode cX4_manyNow 27 = .ok (.iload_n 2, 1) := dk_28 (dk_at dksX4_manyNow_1 3 rfl rfl)
theorem dX4_manyNow_28 : decode cX4_manyNow 28 = .ok (.aload_n 0, 1) := dk_42 (dk_at dksX4_manyNow_1 4 rfl rfl)
theorem dX4_manyNow_29 : decode cX4_manyNow 29 = .ok (.getfield 20, 3) := dk_180 0 20 (dk_at dksX4_manyNow_1 5 rfl rfl)
theorem dX4_manyNow_32 : decode cX4_manyNow 32 = .ok (.iload 6, 2) := dk_21 6 (dk_at dksX4_manyNow_1 8 rfl rfl)
theorem dX4_manyNow_34 : decode cX4_manyNow 34 = .ok (.invokeinterface 80 2, 5) := by decide +kernel
theorem dX4_manyNow_39 : decode cX4_manyNow 39 = .ok (.checkcast 116, 3) := dk_192 0 116 (dk_at dksX4_manyNow_1 15 rfl rfl)
theorem dX4_manyNow_42 : decode cX4_manyNow 42 = .ok (.iconst 2, 1) := dk_5 (dk_at dksX4_manyNow_1 18 rfl rfl)
theorem dX4_manyNow_43 : decode cX4_manyNow 43 = .ok (.iaload, 1) := dk_46 (dk_at dksX4_manyNow_1 19 rfl rfl)
theorem dX4_manyNow_44 : decode cX4_manyNow 44 = .ok (.iadd, 1) := dk_96 (dk_at dksX4_manyNow_1 20 rfl rfl)
theorem dX4_manyNow_45 : decode cX4_manyNow 45 = .ok (.istore_n 2, 1) := dk_61 (dk_at dksX4_manyNow_1 21 rfl rfl)
theorem dX4_manyNow_46 : decode cX4_manyNow 46 = .ok (.iinc 6 1, 3) := dk_132 6 1 (dk_at dksX4_manyNow_2 0 rfl rfl)
theorem dX4_manyNow_49 : decode cX4_manyNow 49 = .ok (.goto (-36), 3) := dk_167 255 220 (dk_at dksX4_manyNow_2 3 rfl rfl)
theorem dX4_manyNow_52 : decode cX4_manyNow 52 = .ok (.iconst 0, 1) := dk_3 (dk_at dksX4_manyNow_2 6 rfl rfl)
theorem dX4_manyNow_53 : decode cX4_manyNow 53 = .ok (.istore 6, 2) := dk_54 6 (dk_at dksX4_manyNow_2 7 rfl rfl)
theorem dX4_manyNow_55 : decode cX4_manyNow 55 = .ok (.iload 6, 2) := dk_21 6 (dk_at dksX4_manyNow_2 9 rfl rfl)
theorem dX4_manyNow_57 : decode cX4_manyNow 57 = .ok (.aload_n 0, 1) := dk_42 (dk_at dksX4_manyNow_2 11 rfl rfl)
theorem dX4_manyNow_58 : decode cX4_manyNow 58 = .ok (.getfield 42, 3) := dk_180 0 42 (dk_at dksX4_manyNow_2 12 rfl rfl)
theorem dX4_manyNow_61 : decode cX4_manyNow 61 = .ok (.invokeinterface 58 1, 5) := by decide +kernel
theorem dX4_manyNow_66 : decode cX4_manyNow 66 = .ok (.if_icmp .ge 45, 3) := dk_162 0 45 (dk_at dksX4_manyNow_2 20 rfl rfl)
theorem dX4_manyNow_69 : decode cX4_manyNow 69 = .ok (.iload_n 1, 1) := dk_27 (dk_at dksX4_manyNow_2 23 rfl rfl)
theorem dX4_manyNow_70 : decode cX4_manyNow 70 = .ok (.bipush 6, 2) := dk_16 6 (dk_at dksX4_manyNow_3 0 rfl rfl)
theorem dX4_manyNow_72 : decode cX4_manyNow 72 = .ok (.if_icmp .ne 39, 3) := dk_160 0 39 (dk_at dksX4_manyNow_3 2 rfl rfl)
theorem dX4_manyNow_75 : decode cX4_manyNow 75 = .ok (.iload_n 3, 1) := dk_29 (dk_at dksX4_manyNow_3 5 rfl rfl)
theorem dX4_manyNow_76 : decode cX4_manyNow 76 = .ok (.aload_n 0, 1) := dk_42 (dk_at dksX4_manyNow_3 6 rfl rfl)
theorem dX4_manyNow_77 : decode cX4_manyNow 77 = .ok (.aload_n 0, 1) := dk_42 (dk_at dksX4_manyNow_3 7 rfl rfl)
theorem dX4_manyNow_78 : decode cX4_manyNow 78 = .ok (.getfield 42, 3) := dk_180 0 42 (dk_at dksX4_manyNow_3 8 rfl rfl)
theorem dX4_manyNow_81 : decode cX4_manyNow 81 = .ok (.iload 6, 2) := dk_21 6 (dk_at dksX4_manyNow_3 11 rfl rfl)
theorem dX4_manyNow_83 : decode cX4_manyNow 83 = .ok (.invokeinterface 80 2, 5) := by decide +kernel
theorem dX4_manyNow_88 : decode cX4_manyNow 88 = .ok (.checkcast 152, 3) := dk_192 0 152 (dk_at dksX4_manyNow_3 18 rfl rfl)
theorem dX4_manyNow_91 : decode cX4_manyNow 91 = .ok (.invokevirtual 254, 3) := dk_182 0 254 (dk_at dksX4_manyNow_3 21 rfl rfl)
theorem dX4_manyNow_94 : decode cX4_manyNow 94 = .ok (.iconst (-1), 1) := dk_2 (dk_at dksX4_manyNow_4 0 rfl rfl)
theorem dX4_manyNow_95 : decode cX4_manyNow 95 = .ok (.if_icmp .ne 7, 3) := dk_160 0 7 (dk_at dksX4_manyNow_4 1 rfl rfl)
theorem dX4_manyNow_98 : decode cX4_manyNow 98 = .ok (.iconst 0, 1) := dk_3 (dk_at dksX4_manyNow_4 4 rfl rfl)
theorem dX4_manyNow_99 : decode cX4_manyNow 99 = .ok (.goto 4, 3) := dk_167 0 4 (dk_at dksX4_manyNow_4 5 rfl rfl)
theorem dX4_manyNow_102 : decode cX4_manyNow 102 = .ok (.iconst 1, 1) := dk_4 (dk_at dksX4_manyNow_4 8 rfl rfl)
theorem dX4_manyNow_103 : decode cX4_manyNow 103 = .ok (.iadd, 1) := dk_96 (dk_at dksX4_manyNow_4 9 rfl rfl)
theorem dX4_manyNow_104 : decode cX4_manyNow 104 = .ok (.istore_n 3, 1) := dk_62 (dk_at dksX4_manyNow_4 10 rfl rfl)
theorem dX4_manyNow_105 : decode cX4_manyNow 105 = .ok (.iinc 6 1, 3) := dk_132 6 1 (dk_at dksX4_manyNow_4 11 rfl rfl)
theorem dX4_manyNow_108 : decode cX4_manyNow 108 = .ok (.goto (-53), 3) := dk_167 255 203 (dk_at dksX4_manyNow_4 14 rfl rfl)
theorem dX4_manyNow_111 : decode cX4_manyNow 111 = .ok (.aload_n 0, 1) := dk_42 (dk_at dksX4_manyNow_4 17 rfl rfl)
theorem dX4_manyNow_112 : decode cX4_manyNow 112 = .ok (.getfield 39, 3) := dk_180 0 39 (dk_at dksX4_manyNow_4 18 rfl rfl)
theorem dX4_manyNow_115 : decode cX4_manyNow 115 = .ok (.astore 6, 2) := dk_58 6 (dk_at dksX4_manyNow_4 21 rfl rfl)
theorem dX4_manyNow_117 : decode cX4_manyNow 117 = .ok (.aload 6, 2) := dk_25 6 (dk_at dksX4_manyNow_5 0 rfl rfl)
theorem dX4_manyNow_119 : decode cX4_manyNow 119 = .ok (.arraylength, 1) := dk_190 (dk_at dksX4_manyNow_5 2 rfl rfl)
theorem dX4_manyNow_120 : decode cX4_manyNow 120 = .ok (.istore 7, 2) := dk_54 7 (dk_at dksX4_manyNow_5 3 rfl rfl)
theorem dX4_manyNow_122 : decode cX4_manyNow 122 = .ok (.iconst 0, 1) := dk_3 (dk_at dksX4_manyNow_5 5 rfl rfl)
theorem dX4_manyNow_123 : decode cX4_manyNow 123 = .ok (.istore 8, 2) := dk_54 8 (dk_at dksX4_manyNow_5 6 rfl rfl)
theorem dX4_manyNow_125 : decode cX4_manyNow 125 = .ok (.iload 8, 2) := dk_21 8 (dk_at dksX4_manyNow_5 8 rfl rfl)
theorem dX4_manyNow_127 : decode cX4_manyNow 127 = .ok (.iload 7, 2) := dk_21 7 (dk_at dksX4_manyNow_5 10 rfl rfl)
theorem dX4_manyNow_129 : decode cX4_manyNow 129 = .ok (.if_icmp .ge 32, 3) := dk_162 0 32 (dk_at dksX4_manyNow_5 12 rfl rfl)
theorem dX4_manyNow_132 : decode cX4_manyNow 132 = .ok (.aload 6, 2) := dk_25 6 (dk_at dksX4_manyNow_5 15 rfl rfl)
theorem dX4_manyNow_134 : decode cX4_manyNow 134 = .ok (.iload 8, 2) := dk_21 8 (dk_at dksX4_manyNow_5 17 rfl rfl)
theorem dX4_manyNow_136 : decode cX4_manyNow 136 = .ok (.iaload, 1) := dk_46 (dk_at dksX4_manyNow_5 19 rfl rfl)
theorem dX4_manyNow_137 : decode cX4_manyNow 137 = .ok (.istore 9, 2) := dk_54 9 (dk_at dksX4_manyNow_5 20 rfl rfl)
theorem dX4_manyNow_139 : decode cX4_manyNow 139 = .ok (.iload 4, 2) := dk_21 4 (dk_at dksX4_manyNow_5 22 rfl rfl)
theorem dX4_manyNow_141 : decode cX4_manyNow 141 = .ok (.iload 9, 2) := dk_21 9 (dk_at dksX4_manyNow_6 0 rfl rfl)
theorem dX4_manyNow_143 : decode cX4_manyNow 143 = .ok (.iconst (-1), 1) := dk_2 (dk_at dksX4_manyNow_6 2 rfl rfl)
theorem dX4_manyNow_144 : decode cX4_manyNow 144 = .ok (.if_icmp .ne 7, 3) := dk_160 0 7 (dk_at dksX4_manyNow_6 3 rfl rfl)
theorem dX4_manyNow_147 : decode cX4_manyNow 147 = .ok (.iconst 0, 1) := dk_3 (dk_at dksX4_manyNow_6 6 rfl rfl)
theorem dX4_manyNow_148 : decode cX4_manyNow 148 = .ok (.goto 4, 3) := dk_167 0 4 (dk_at dksX4_manyNow_6 7 rfl rfl)
theorem dX4_manyNow_151 : decode cX4_manyNow 151 = .ok (.iconst 1, 1) := dk_4 (dk_at dksX4_manyNow_6 10 rfl rfl)
theorem dX4_manyNow_152 : decode cX4_manyNow 152 = .ok (.iadd, 1) := dk_96 (dk_at dksX4_manyNow_6 11 rfl rfl)
theorem dX4_manyNow_153 : decode cX4_manyNow 153 = .ok (.istore 4, 2) := dk_54 4 (dk_at dksX4_manyNow_6 12 rfl rfl)
theorem dX4_manyNow_155 : decode cX4_manyNow 155 = .ok (.iinc 8 1, 3) := dk_132 8 1 (dk_at dksX4_manyNow_6 14 rfl rfl)
theorem dX4_manyNow_158 : decode cX4_manyNow 158 = .ok (.goto (-33), 3) := dk_167 255 223 (dk_at dksX4_manyNow_6 17 rfl rfl)
theorem dX4_manyNow_161 : decode cX4_manyNow 161 = .ok (.iconst 0, 1) := dk_3 (dk_at dksX4_manyNow_6 20 rfl rfl)
theorem dX4_manyNow_162 : decode cX4_manyNow 162 = .ok (.istore 6, 2) := dk_54 6 (dk_at dksX4_manyNow_6 21 rfl rfl)
theorem dX4_manyNow_164 : decode cX4_manyNow 164 = .ok (.iload 6, 2) := dk_21 6 (dk_at dksX4_manyNow_7 0 rfl rfl)
theorem dX4_manyNow_166 : decode cX4_manyNow 166 = .ok (.sipush 239, 3) := dk_17 0 239 (dk_at dksX4_manyNow_7 2 rfl rfl)
theorem dX4_manyNow_169 : decode cX4_manyNow 169 = .ok (.if_icmp .gt 35, 3) := dk_163 0 35 (dk_at dksX4_manyNow_7 5 rfl rfl)
theorem dX4_manyNow_172 : decode cX4_manyNow 172 = .ok (.iload_n 1, 1) := dk_27 (dk_at dksX4_manyNow_7 8 rfl rfl)
theorem dX4_manyNow_173 : decode cX4_manyNow 173 = .ok (.bipush 11, 2) := dk_16 11 (dk_at dksX4_manyNow_7 9 rfl rfl)
theorem dX4_manyNow_175 : decode cX4_manyNow 175 = .ok (.if_icmp .ne 29, 3) := dk_160 0 29 (dk_at dksX4_manyNow_7 11 rfl rfl)
theorem dX4_manyNow_178 : decode cX4_manyNow 178 = .ok (.iload 5, 2) := dk_21 5 (dk_at dksX4_manyNow_7 14 rfl rfl)
theorem dX4_manyNow_180 : decode cX4_manyNow 180 = .ok (.aload_n 0, 1) := dk_42 (dk_at dksX4_manyNow_7 16 rfl rfl)
theorem dX4_manyNow_181 : decode cX4_manyNow 181 = .ok (.iload 6, 2) := dk_21 6 (dk_at dksX4_manyNow_7 17 rfl rfl)
theorem dX4_manyNow_183 : decode cX4_manyNow 183 = .ok (.iconst 4, 1) := dk_7 (dk_at dksX4_manyNow_7 19 rfl rfl)
theorem dX4_manyNow_184 : decode cX4_manyNow 184 = .ok (.invokevirtual 205, 3) := dk_182 0 205 (dk_at dksX4_manyNow_7 20 rfl rfl)
theorem dX4_manyNow_187 : decode cX4_manyNow 187 = .ok (.ifCond .le 7, 3) := dk_158 0 7 (dk_at dksX4_manyNow_8 0 rfl rfl)
theorem dX4_manyNow_190 : decode cX4_manyNow 190 = .ok (.iconst 1, 1) := dk_4 (dk_at dksX4_manyNow_8 3 rfl rfl)
theorem dX4_manyNow_191 : decode cX4_manyNow 191 = .ok (.goto 4, 3) := dk_167 0 4 (dk_at dksX4_manyNow_8 4 rfl rfl)
theorem dX4_manyNow_194 : decode cX4_manyNow 194 = .ok (.iconst 0, 1) := dk_3 (dk_at dksX4_manyNow_8 7 rfl rfl)
theorem dX4_manyNow_195 : decode cX4_manyNow 195 = .ok (.iadd, 1) := dk_96 (dk_at dksX4_manyNow_8 8 rfl rfl)
theorem dX4_manyNow_196 : decode cX4_manyNow 196 = .ok (.istore 5, 2) := dk_54 5 (dk_at dksX4_manyNow_8 9 rfl rfl)
theorem dX4_manyNow_198 : decode cX4_manyNow 198 = .ok (.iinc 6 1, 3) := dk_132 6 1 (dk_at dksX4_manyNow_8 11 rfl rfl)
theorem dX4_manyNow_201 : decode cX4_manyNow 201 = .ok (.goto (-37), 3) := dk_167 255 219 (dk_at dksX4_manyNow_8 14 rfl rfl)
theorem dX4_manyNow_204 : decode cX4_manyNow 204 = .ok (.bipush 13, 2) := dk_16 13 (dk_at dksX4_manyNow_8 17 rfl rfl)
theorem dX4_manyNow_206 : decode cX4_manyNow 206 = .ok (.newarray .int, 2) := dk_188_10 (dk_at dksX4_manyNow_8 19 rfl rfl)
theorem dX4_manyNow_208 : decode cX4_manyNow 208 = .ok (.dup, 1) := dk_89 (dk_at dksX4_manyNow_8 21 rfl rfl)
theorem dX4_manyNow_209 : decode cX4_manyNow 209 = .ok (.iconst 0, 1) := dk_3 (dk_at dksX4_manyNow_8 22 rfl rfl)
theorem dX4_manyNow_210 : decode cX4_manyNow 210 = .ok (.aload_n 0, 1) := dk_42 (dk_at dksX4_manyNow_8 23 rfl rfl)
theorem dX4_manyNow_211 : decode cX4_manyNow 211 = .ok (.getfield 7, 3) := dk_180 0 7 (dk_at dksX4_manyNow_9 0 rfl rfl)
theorem dX4_manyNow_214 : decode cX4_manyNow 214 = .ok (.arraylength, 1) := dk_190 (dk_at dksX4_manyNow_9 3 rfl rfl)
theorem dX4_manyNow_215 : decode cX4_manyNow 215 = .ok (.iastore, 1) := dk_79 (dk_at dksX4_manyNow_9 4 rfl rfl)
theorem dX4_manyNow_216 : decode cX4_manyNow 216 = .ok (.dup, 1) := dk_89 (dk_at dksX4_manyNow_9 5 rfl rfl)
theorem dX4_manyNow_217 : decode cX4_manyNow 217 = .ok (.iconst 1, 1) := dk_4 (dk_at dksX4_manyNow_9 6 rfl rfl)
theorem dX4_manyNow_218 : decode cX4_manyNow 218 = .ok (.aload_n 0, 1) := dk_42 (dk_at dksX4_manyNow_9 7 rfl rfl)
theorem dX4_manyNow_219 : decode cX4_manyNow 219 = .ok (.getfield 20, 3) := dk_180 0 20 (dk_at dksX4_manyNow_9 8 rfl rfl)
theorem dX4_manyNow_222 : decode cX4_manyNow 222 = .ok (.invokeinterface 58 1, 5) := by decide +kernel
theorem dX4_manyNow_227 : decode cX4_manyNow 227 = .ok (.iastore, 1) := dk_79 (dk_at dksX4_manyNow_9 16 rfl rfl)
theorem dX4_manyNow_228 : decode cX4_manyNow 228 = .ok (.dup, 1) := dk_89 (dk_at dksX4_manyNow_9 17 rfl rfl)
theorem dX4_manyNow_229 : decode cX4_manyNow 229 = .ok (.iconst 2, 1) := dk_5 (dk_at dksX4_manyNow_9 18 rfl rfl)
theorem dX4_manyNow_230 : decode cX4_manyNow 230 = .ok (.iload_n 2, 1) := dk_28 (dk_at dksX4_manyNow_9 19 rfl rfl)
theorem dX4_manyNow_231 : decode cX4_manyNow 231 = .ok (.iastore, 1) := dk_79 (dk_at dksX4_manyNow_9 20 rfl rfl)
theorem dX4_manyNow_232 : decode cX4_manyNow 232 = .ok (.dup, 1) := dk_89 (dk_at dksX4_manyNow_9 21 rfl rfl)
theorem dX4_manyNow_233 : decode cX4_manyNow 233 = .ok (.iconst 3, 1) := dk_6 (dk_at dksX4_manyNow_9 22 rfl rfl)
theorem dX4_manyNow_234 : decode cX4_manyNow 234 = .ok (.aload_n 0, 1) := dk_42 (dk_at dksX4_manyNow_9 23 rfl rfl)
theorem dX4_manyNow_235 : decode cX4_manyNow 235 = .ok (.getfield 27, 3) := dk_180 0 27 (dk_at dksX4_manyNow_10 0 rfl rfl)
theorem dX4_manyNow_238 : decode cX4_manyNow 238 = .ok (.invokeinterface 58 1, 5) := by decide +kernel
theorem dX4_manyNow_243 : decode cX4_manyNow 243 = .ok (.iastore, 1) := dk_79 (dk_at dksX4_manyNow_10 8 rfl rfl)
theorem dX4_manyNow_244 : decode cX4_manyNow 244 = .ok (.dup, 1) := dk_89 (dk_at dksX4_manyNow_10 9 rfl rfl)
theorem dX4_manyNow_245 : decode cX4_manyNow 245 = .ok (.iconst 4, 1) := dk_7 (dk_at dksX4_manyNow_10 10 rfl rfl)
theorem dX4_manyNow_246 : decode cX4_manyNow 246 = .ok (.aload_n 0, 1) := dk_42 (dk_at dksX4_manyNow_10 11 rfl rfl)
theorem dX4_manyNow_247 : decode cX4_manyNow 247 = .ok (.getfield 30, 3) := dk_180 0 30 (dk_at dksX4_manyNow_10 12 rfl rfl)
theorem dX4_manyNow_250 : decode cX4_manyNow 250 = .ok (.invokeinterface 58 1, 5) := by decide +kernel
theorem dX4_manyNow_255 : decode cX4_manyNow 255 = .ok (.iastore, 1) := dk_79 (dk_at dksX4_manyNow_10 20 rfl rfl)
theorem dX4_manyNow_256 : decode cX4_manyNow 256 = .ok (.dup, 1) := dk_89 (dk_at dksX4_manyNow_10 21 rfl rfl)
theorem dX4_manyNow_257 : decode cX4_manyNow 257 = .ok (.iconst 5, 1) := dk_8 (dk_at dksX4_manyNow_10 22 rfl rfl)
theorem dX4_manyNow_258 : decode cX4_manyNow 258 = .ok (.aload_n 0, 1) := dk_42 (dk_at dksX4_manyNow_10 23 rfl rfl)
theorem dX4_manyNow_259 : decode cX4_manyNow 259 = .ok (.getfield 42, 3) := dk_180 0 42 (dk_at dksX4_manyNow_11 0 rfl rfl)
theorem dX4_manyNow_262 : decode cX4_manyNow 262 = .ok (.invokeinterface 58 1, 5) := by decide +kernel
theorem dX4_manyNow_267 : decode cX4_manyNow 267 = .ok (.iastore, 1) := dk_79 (dk_at dksX4_manyNow_11 8 rfl rfl)
theorem dX4_manyNow_268 : decode cX4_manyNow 268 = .ok (.dup, 1) := dk_89 (dk_at dksX4_manyNow_11 9 rfl rfl)
theorem dX4_manyNow_269 : decode cX4_manyNow 269 = .ok (.bipush 6, 2) := dk_16 6 (dk_at dksX4_manyNow_11 10 rfl rfl)
theorem dX4_manyNow_271 : decode cX4_manyNow 271 = .ok (.iload_n 3, 1) := dk_29 (dk_at dksX4_manyNow_11 12 rfl rfl)
theorem dX4_manyNow_272 : decode cX4_manyNow 272 = .ok (.iastore, 1) := dk_79 (dk_at dksX4_manyNow_11 13 rfl rfl)
theorem dX4_manyNow_273 : decode cX4_manyNow 273 = .ok (.dup, 1) := dk_89 (dk_at dksX4_manyNow_11 14 rfl rfl)
theorem dX4_manyNow_274 : decode cX4_manyNow 274 = .ok (.bipush 7, 2) := dk_16 7 (dk_at dksX4_manyNow_11 15 rfl rfl)
theorem dX4_manyNow_276 : decode cX4_manyNow 276 = .ok (.aload_n 0, 1) := dk_42 (dk_at dksX4_manyNow_11 17 rfl rfl)
theorem dX4_manyNow_277 : decode cX4_manyNow 277 = .ok (.getfield 45, 3) := dk_180 0 45 (dk_at dksX4_manyNow_11 18 rfl rfl)
theorem dX4_manyNow_280 : decode cX4_manyNow 280 = .ok (.invokeinterface 58 1, 5) := by decide +kernel
theorem dX4_manyNow_285 : decode cX4_manyNow 285 = .ok (.iastore, 1) := dk_79 (dk_at dksX4_manyNow_12 5 rfl rfl)
theorem dX4_manyNow_286 : decode cX4_manyNow 286 = .ok (.dup, 1) := dk_89 (dk_at dksX4_manyNow_12 6 rfl rfl)
theorem dX4_manyNow_287 : decode cX4_manyNow 287 = .ok (.bipush 8, 2) := dk_16 8 (dk_at dksX4_manyNow_12 7 rfl rfl)
theorem dX4_manyNow_289 : decode cX4_manyNow 289 = .ok (.iload 4, 2) := dk_21 4 (dk_at dksX4_manyNow_12 9 rfl rfl)
theorem dX4_manyNow_291 : decode cX4_manyNow 291 = .ok (.iastore, 1) := dk_79 (dk_at dksX4_manyNow_12 11 rfl rfl)
theorem dX4_manyNow_292 : decode cX4_manyNow 292 = .ok (.dup, 1) := dk_89 (dk_at dksX4_manyNow_12 12 rfl rfl)
theorem dX4_manyNow_293 : decode cX4_manyNow 293 = .ok (.bipush 9, 2) := dk_16 9 (dk_at dksX4_manyNow_12 13 rfl rfl)
theorem dX4_manyNow_295 : decode cX4_manyNow 295 = .ok (.aload_n 0, 1) := dk_42 (dk_at dksX4_manyNow_12 15 rfl rfl)
theorem dX4_manyNow_296 : decode cX4_manyNow 296 = .ok (.getfield 74, 3) := dk_180 0 74 (dk_at dksX4_manyNow_12 16 rfl rfl)
theorem dX4_manyNow_299 : decode cX4_manyNow 299 = .ok (.iastore, 1) := dk_79 (dk_at dksX4_manyNow_12 19 rfl rfl)
theorem dX4_manyNow_300 : decode cX4_manyNow 300 = .ok (.dup, 1) := dk_89 (dk_at dksX4_manyNow_12 20 rfl rfl)
theorem dX4_manyNow_301 : decode cX4_manyNow 301 = .ok (.bipush 10, 2) := dk_16 10 (dk_at dksX4_manyNow_12 21 rfl rfl)
theorem dX4_manyNow_303 : decode cX4_manyNow 303 = .ok (.aload_n 0, 1) := dk_42 (dk_at dksX4_manyNow_12 23 rfl rfl)
theorem dX4_manyNow_304 : decode cX4_manyNow 304 = .ok (.getfield 77, 3) := dk_180 0 77 (dk_at dksX4_manyNow_13 0 rfl rfl)
theorem dX4_manyNow_307 : decode cX4_manyNow 307 = .ok (.iastore, 1) := dk_79 (dk_at dksX4_manyNow_13 3 rfl rfl)
theorem dX4_manyNow_308 : decode cX4_manyNow 308 = .ok (.dup, 1) := dk_89 (dk_at dksX4_manyNow_13 4 rfl rfl)
theorem dX4_manyNow_309 : decode cX4_manyNow 309 = .ok (.bipush 11, 2) := dk_16 11 (dk_at dksX4_manyNow_13 5 rfl rfl)
theorem dX4_manyNow_311 : decode cX4_manyNow 311 = .ok (.iload 5, 2) := dk_21 5 (dk_at dksX4_manyNow_13 7 rfl rfl)
theorem dX4_manyNow_313 : decode cX4_manyNow 313 = .ok (.iastore, 1) := dk_79 (dk_at dksX4_manyNow_13 9 rfl rfl)
theorem dX4_manyNow_314 : decode cX4_manyNow 314 = .ok (.dup, 1) := dk_89 (dk_at dksX4_manyNow_13 10 rfl rfl)
theorem dX4_manyNow_315 : decode cX4_manyNow 315 = .ok (.bipush 12, 2) := dk_16 12 (dk_at dksX4_manyNow_13 11 rfl rfl)
theorem dX4_manyNow_317 : decode cX4_manyNow 317 = .ok (.aload_n 0, 1) := dk_42 (dk_at dksX4_manyNow_13 13 rfl rfl)
theorem dX4_manyNow_318 : decode cX4_manyNow 318 = .ok (.getfield 294, 3) := dk_180 1 38 (dk_at dksX4_manyNow_13 14 rfl rfl)
theorem dX4_manyNow_321 : decode cX4_manyNow 321 = .ok (.iastore, 1) := dk_79 (dk_at dksX4_manyNow_13 17 rfl rfl)
theorem dX4_manyNow_322 : decode cX4_manyNow 322 = .ok (.astore 6, 2) := dk_58 6 (dk_at dksX4_manyNow_13 18 rfl rfl)
theorem dX4_manyNow_324 : decode cX4_manyNow 324 = .ok (.aload 6, 2) := dk_25 6 (dk_at dksX4_manyNow_13 20 rfl rfl)
theorem dX4_manyNow_326 : decode cX4_manyNow 326 = .ok (.iload_n 1, 1) := dk_27 (dk_at dksX4_manyNow_13 22 rfl rfl)
theorem dX4_manyNow_327 : decode cX4_manyNow 327 = .ok (.iaload, 1) := dk_46 (dk_at dksX4_manyNow_13 23 rfl rfl)
theorem dX4_manyNow_328 : decode cX4_manyNow 328 = .ok (.ireturn, 1) := dk_172 (dk_at dksX4_manyNow_14 0 rfl rfl)
abbrev cX4_drawn : ByteArray := prog_17_method_73_code
def yX4_drawn : MethodName := ⟨RX4, "drawn", "(II)Ljava/lang/String;"⟩
def dkwX4_drawn_9 : List UInt8 := [132, 4, 1, 167, 255, 100, 45, 182, 1, 56, 176]
abbrev dktX4_drawn_9 : List UInt8 := dkwX4_drawn_9 ++ []
def dkwX4_drawn_8 : List UInt8 := [21, 4, 28, 182, 0, 183, 153, 0, 9, 19, 1, 66, 167, 0, 6, 19, 1, 68, 182, 1, 49, 87]
abbrev dktX4_drawn_8 : List UInt8 := dkwX4_drawn_8 ++ dktX4_drawn_9
def dkwX4_drawn_7 : List UInt8 := [19, 1, 62, 167, 0, 39, 42, 180, 0, 7, 21, 4, 46, 6, 160, 0, 9, 19, 1, 64, 167, 0, 22, 42]
abbrev dktX4_drawn_7 : List UInt8 := dkwX4_drawn_7 ++ dktX4_drawn_8
def dkwX4_drawn_6 : List UInt8 := [21, 4, 46, 4, 160, 0, 9, 19, 1, 60, 167, 0, 56, 42, 180, 0, 7, 21, 4, 46, 5, 160, 0, 9]
abbrev dktX4_drawn_6 : List UInt8 := dkwX4_drawn_6 ++ dktX4_drawn_7
def dkwX4_drawn_5 : List UInt8 := [183, 1, 48, 19, 1, 44, 182, 1, 49, 21, 6, 182, 1, 53, 182, 1, 56, 167, 0, 73, 42, 180, 0, 7]
abbrev dktX4_drawn_5 : List UInt8 := dkwX4_drawn_5 ++ dktX4_drawn_6
def dkwX4_drawn_4 : List UInt8 := [21, 6, 122, 4, 126, 154, 0, 9, 132, 6, 1, 167, 255, 238, 45, 21, 5, 153, 0, 27, 187, 1, 46, 89]
abbrev dktX4_drawn_4 : List UInt8 := dkwX4_drawn_4 ++ dktX4_drawn_5
def dkwX4_drawn_3 : List UInt8 := [96, 162, 0, 146, 42, 21, 4, 28, 182, 0, 189, 54, 5, 3, 54, 6, 21, 5, 153, 0, 19, 21, 5]
abbrev dktX4_drawn_3 : List UInt8 := dkwX4_drawn_3 ++ dktX4_drawn_4
def dkwX4_drawn_2 : List UInt8 := [183, 1, 48, 78, 27, 42, 180, 0, 92, 104, 54, 4, 21, 4, 27, 42, 180, 0, 92, 104, 42, 180, 0, 92]
abbrev dktX4_drawn_2 : List UInt8 := dkwX4_drawn_2 ++ dktX4_drawn_3
def dkwX4_drawn_1 : List UInt8 := [19, 1, 44, 176, 28, 184, 0, 163, 154, 0, 12, 42, 5, 181, 0, 51, 19, 1, 44, 176, 187, 1, 46, 89]
abbrev dktX4_drawn_1 : List UInt8 := dkwX4_drawn_1 ++ dktX4_drawn_2
def dkwX4_drawn_0 : List UInt8 := [42, 3, 181, 0, 51, 27, 3, 42, 180, 0, 143, 4, 100, 184, 0, 54, 154, 0, 12, 42, 4, 181, 0, 51]
abbrev dktX4_drawn_0 : List UInt8 := dkwX4_drawn_0 ++ dktX4_drawn_1
theorem dksX4_drawn_0 : cX4_drawn.data.toList.drop 0 = dktX4_drawn_0 := by decide +kernel
theorem dksX4_drawn_1 : cX4_drawn.data.toList.drop 24 = dktX4_drawn_1 := dk_seg dksX4_drawn_0 24 rfl rfl
theorem dksX4_drawn_2 : cX4_drawn.data.toList.drop 48 = dktX4_drawn_2 := dk_seg dksX4_drawn_1 24 rfl rfl
theorem dksX4_drawn_3 : cX4_drawn.data.toList.drop 72 = dktX4_drawn_3 := dk_seg dksX4_drawn_2 24 rfl rfl
theorem dksX4_drawn_4 : cX4_drawn.data.toList.drop 95 = dktX4_drawn_4 := dk_seg dksX4_drawn_3 23 rfl rfl
theorem dksX4_drawn_5 : cX4_drawn.data.toList.drop 119 = dktX4_drawn_5 := dk_seg dksX4_drawn_4 24 rfl rfl
theorem dksX4_drawn_6 : cX4_drawn.data.toList.drop 143 = dktX4_drawn_6 := dk_seg dksX4_drawn_5 24 rfl rfl
theorem dksX4_drawn_7 : cX4_drawn.data.toList.drop 167 = dktX4_drawn_7 := dk_seg dksX4_drawn_6 24 rfl rfl
theorem dksX4_drawn_8 : cX4_drawn.data.toList.drop 191 = dktX4_drawn_8 := dk_seg dksX4_drawn_7 24 rfl rfl
theorem dksX4_drawn_9 : cX4_drawn.data.toList.drop 213 = dktX4_drawn_9 := dk_seg dksX4_drawn_8 22 rfl rfl
theorem dX4_drawn_0 : decode cX4_drawn 0 = .ok (.aload_n 0, 1) := dk_42 (dk_at dksX4_drawn_0 0 rfl rfl)
theorem dX4_drawn_1 : decode cX4_drawn 1 = .ok (.iconst 0, 1) := dk_3 (dk_at dksX4_drawn_0 1 rfl rfl)
theorem dX4_drawn_2 : decode cX4_drawn 2 = .ok (.putfield 51, 3) := dk_181 0 51 (dk_at dksX4_drawn_0 2 rfl rfl)
theorem dX4_drawn_5 : decode cX4_drawn 5 = .ok (.iload_n 1, 1) := dk_27 (dk_at dksX4_drawn_0 5 rfl rfl)
theorem dX4_drawn_6 : decode cX4_drawn 6 = .ok (.iconst 0, 1) := dk_3 (dk_at dksX4_drawn_0 6 rfl rfl)
theorem dX4_drawn_7 : decode cX4_drawn 7 = .ok (.aload_n 0, 1) := dk_42 (dk_at dksX4_drawn_0 7 rfl rfl)
theorem dX4_drawn_8 : decode cX4_drawn 8 = .ok (.getfield 143, 3) := dk_180 0 143 (dk_at dksX4_drawn_0 8 rfl rfl)
theorem dX4_drawn_11 : decode cX4_drawn 11 = .ok (.iconst 1, 1) := dk_4 (dk_at dksX4_drawn_0 11 rfl rfl)
theorem dX4_drawn_12 : decode cX4_drawn 12 = .ok (.isub, 1) := dk_100 (dk_at dksX4_drawn_0 12 rfl rfl)
theorem dX4_drawn_13 : decode cX4_drawn 13 = .ok (.invokestatic 54, 3) := dk_184 0 54 (dk_at dksX4_drawn_0 13 rfl rfl)
theorem dX4_drawn_16 : decode cX4_drawn 16 = .ok (.ifCond .ne 12, 3) := dk_154 0 12 (dk_at dksX4_drawn_0 16 rfl rfl)
theorem dX4_drawn_19 : decode cX4_drawn 19 = .ok (.aload_n 0, 1) := dk_42 (dk_at dksX4_drawn_0 19 rfl rfl)
theorem dX4_drawn_20 : decode cX4_drawn 20 = .ok (.iconst 1, 1) := dk_4 (dk_at dksX4_drawn_0 20 rfl rfl)
theorem dX4_drawn_21 : decode cX4_drawn 21 = .ok (.putfield 51, 3) := dk_181 0 51 (dk_at dksX4_drawn_0 21 rfl rfl)
theorem dX4_drawn_24 : decode cX4_drawn 24 = .ok (.ldc_w 300, 3) := dk_19 1 44 (dk_at dksX4_drawn_1 0 rfl rfl)
theorem dX4_drawn_27 : decode cX4_drawn 27 = .ok (.areturn, 1) := dk_176 (dk_at dksX4_drawn_1 3 rfl rfl)
theorem dX4_drawn_28 : decode cX4_drawn 28 = .ok (.iload_n 2, 1) := dk_28 (dk_at dksX4_drawn_1 4 rfl rfl)
theorem dX4_drawn_29 : decode cX4_drawn 29 = .ok (.invokestatic 163, 3) := dk_184 0 163 (dk_at dksX4_drawn_1 5 rfl rfl)
theorem dX4_drawn_32 : decode cX4_drawn 32 = .ok (.ifCond .ne 12, 3) := dk_154 0 12 (dk_at dksX4_drawn_1 8 rfl rfl)
theorem dX4_drawn_35 : decode cX4_drawn 35 = .ok (.aload_n 0, 1) := dk_42 (dk_at dksX4_drawn_1 11 rfl rfl)
theorem dX4_drawn_36 : decode cX4_drawn 36 = .ok (.iconst 2, 1) := dk_5 (dk_at dksX4_drawn_1 12 rfl rfl)
theorem dX4_drawn_37 : decode cX4_drawn 37 = .ok (.putfield 51, 3) := dk_181 0 51 (dk_at dksX4_drawn_1 13 rfl rfl)
theorem dX4_drawn_40 : decode cX4_drawn 40 = .ok (.ldc_w 300, 3) := dk_19 1 44 (dk_at dksX4_drawn_1 16 rfl rfl)
theorem dX4_drawn_43 : decode cX4_drawn 43 = .ok (.areturn, 1) := dk_176 (dk_at dksX4_drawn_1 19 rfl rfl)
theorem dX4_drawn_44 : decode cX4_drawn 44 = .ok (.new 302, 3) := dk_187 1 46 (dk_at dksX4_drawn_1 20 rfl rfl)
theorem dX4_drawn_47 : decode cX4_drawn 47 = .ok (.dup, 1) := dk_89 (dk_at dksX4_drawn_1 23 rfl rfl)
theorem dX4_drawn_48 : decode cX4_drawn 48 = .ok (.invokespecial 304, 3) := dk_183 1 48 (dk_at dksX4_drawn_2 0 rfl rfl)
theorem dX4_drawn_51 : decode cX4_drawn 51 = .ok (.astore_n 3, 1) := dk_78 (dk_at dksX4_drawn_2 3 rfl rfl)
theorem dX4_drawn_52 : decode cX4_drawn 52 = .ok (.iload_n 1, 1) := dk_27 (dk_at dksX4_drawn_2 4 rfl rfl)
theorem dX4_drawn_53 : decode cX4_drawn 53 = .ok (.aload_n 0, 1) := dk_42 (dk_at dksX4_drawn_2 5 rfl rfl)
theorem dX4_drawn_54 : decode cX4_drawn 54 = .ok (.getfield 92, 3) := dk_180 0 92 (dk_at dksX4_drawn_2 6 rfl rfl)
theorem dX4_drawn_57 : decode cX4_drawn 57 = .ok (.imul, 1) := dk_104 (dk_at dksX4_drawn_2 9 rfl rfl)
theorem dX4_drawn_58 : decode cX4_drawn 58 = .ok (.istore 4, 2) := dk_54 4 (dk_at dksX4_drawn_2 10 rfl rfl)
theorem dX4_drawn_60 : decode cX4_drawn 60 = .ok (.iload 4, 2) := dk_21 4 (dk_at dksX4_drawn_2 12 rfl rfl)
theorem dX4_drawn_62 : decode cX4_drawn 62 = .ok (.iload_n 1, 1) := dk_27 (dk_at dksX4_drawn_2 14 rfl rfl)
theorem dX4_drawn_63 : decode cX4_drawn 63 = .ok (.aload_n 0, 1) := dk_42 (dk_at dksX4_drawn_2 15 rfl rfl)
theorem dX4_drawn_64 : decode cX4_drawn 64 = .ok (.getfield 92, 3) := dk_180 0 92 (dk_at dksX4_drawn_2 16 rfl rfl)
theorem dX4_drawn_67 : decode cX4_drawn 67 = .ok (.imul, 1) := dk_104 (dk_at dksX4_drawn_2 19 rfl rfl)
theorem dX4_drawn_68 : decode cX4_drawn 68 = .ok (.aload_n 0, 1) := dk_42 (dk_at dksX4_drawn_2 20 rfl rfl)
theorem dX4_drawn_69 : decode cX4_drawn 69 = .ok (.getfield 92, 3) := dk_180 0 92 (dk_at dksX4_drawn_2 21 rfl rfl)
theorem dX4_drawn_72 : decode cX4_drawn 72 = .ok (.iadd, 1) := dk_96 (dk_at dksX4_drawn_3 0 rfl rfl)
theorem dX4_drawn_73 : decode cX4_drawn 73 = .ok (.if_icmp .ge 146, 3) := dk_162 0 146 (dk_at dksX4_drawn_3 1 rfl rfl)
theorem dX4_drawn_76 : decode cX4_drawn 76 = .ok (.aload_n 0, 1) := dk_42 (dk_at dksX4_drawn_3 4 rfl rfl)
theorem dX4_drawn_77 : decode cX4_drawn 77 = .ok (.iload 4, 2) := dk_21 4 (dk_at dksX4_drawn_3 5 rfl rfl)
theorem dX4_drawn_79 : decode cX4_drawn 79 = .ok (.iload_n 2, 1) := dk_28 (dk_at dksX4_drawn_3 7 rfl rfl)
theorem dX4_drawn_80 : decode cX4_drawn 80 = .ok (.invokevirtual 189, 3) := dk_182 0 189 (dk_at dksX4_drawn_3 8 rfl rfl)
theorem dX4_drawn_83 : decode cX4_drawn 83 = .ok (.istore 5, 2) := dk_54 5 (dk_at dksX4_drawn_3 11 rfl rfl)
theorem dX4_drawn_85 : decode cX4_drawn 85 = .ok (.iconst 0, 1) := dk_3 (dk_at dksX4_drawn_3 13 rfl rfl)
theorem dX4_drawn_86 : decode cX4_drawn 86 = .ok (.istore 6, 2) := dk_54 6 (dk_at dksX4_drawn_3 14 rfl rfl)
theorem dX4_drawn_88 : decode cX4_drawn 88 = .ok (.iload 5, 2) := dk_21 5 (dk_at dksX4_drawn_3 16 rfl rfl)
theorem dX4_drawn_90 : decode cX4_drawn 90 = .ok (.ifCond .eq 19, 3) := dk_153 0 19 (dk_at dksX4_drawn_3 18 rfl rfl)
theorem dX4_drawn_93 : decode cX4_drawn 93 = .ok (.iload 5, 2) := dk_21 5 (dk_at dksX4_drawn_3 21 rfl rfl)
theorem dX4_drawn_95 : decode cX4_drawn 95 = .ok (.iload 6, 2) := dk_21 6 (dk_at dksX4_drawn_4 0 rfl rfl)
theorem dX4_drawn_97 : decode cX4_drawn 97 = .ok (.ishr, 1) := dk_122 (dk_at dksX4_drawn_4 2 rfl rfl)
theorem dX4_drawn_98 : decode cX4_drawn 98 = .ok (.iconst 1, 1) := dk_4 (dk_at dksX4_drawn_4 3 rfl rfl)
theorem dX4_drawn_99 : decode cX4_drawn 99 = .ok (.iand, 1) := dk_126 (dk_at dksX4_drawn_4 4 rfl rfl)
theorem dX4_drawn_100 : decode cX4_drawn 100 = .ok (.ifCond .ne 9, 3) := dk_154 0 9 (dk_at dksX4_drawn_4 5 rfl rfl)
theorem dX4_drawn_103 : decode cX4_drawn 103 = .ok (.iinc 6 1, 3) := dk_132 6 1 (dk_at dksX4_drawn_4 8 rfl rfl)
theorem dX4_drawn_106 : decode cX4_drawn 106 = .ok (.goto (-18), 3) := dk_167 255 238 (dk_at dksX4_drawn_4 11 rfl rfl)
theorem dX4_drawn_109 : decode cX4_drawn 109 = .ok (.aload_n 3, 1) := dk_45 (dk_at dksX4_drawn_4 14 rfl rfl)
theorem dX4_drawn_110 : decode cX4_drawn 110 = .ok (.iload 5, 2) := dk_21 5 (dk_at dksX4_drawn_4 15 rfl rfl)
theorem dX4_drawn_112 : decode cX4_drawn 112 = .ok (.ifCond .eq 27, 3) := dk_153 0 27 (dk_at dksX4_drawn_4 17 rfl rfl)
theorem dX4_drawn_115 : decode cX4_drawn 115 = .ok (.new 302, 3) := dk_187 1 46 (dk_at dksX4_drawn_4 20 rfl rfl)
theorem dX4_drawn_118 : decode cX4_drawn 118 = .ok (.dup, 1) := dk_89 (dk_at dksX4_drawn_4 23 rfl rfl)
theorem dX4_drawn_119 : decode cX4_drawn 119 = .ok (.invokespecial 304, 3) := dk_183 1 48 (dk_at dksX4_drawn_5 0 rfl rfl)
theorem dX4_drawn_122 : decode cX4_drawn 122 = .ok (.ldc_w 300, 3) := dk_19 1 44 (dk_at dksX4_drawn_5 3 rfl rfl)
theorem dX4_drawn_125 : decode cX4_drawn 125 = .ok (.invokevirtual 305, 3) := dk_182 1 49 (dk_at dksX4_drawn_5 6 rfl rfl)
theorem dX4_drawn_128 : decode cX4_drawn 128 = .ok (.iload 6, 2) := dk_21 6 (dk_at dksX4_drawn_5 9 rfl rfl)
theorem dX4_drawn_130 : decode cX4_drawn 130 = .ok (.invokevirtual 309, 3) := dk_182 1 53 (dk_at dksX4_drawn_5 11 rfl rfl)
theorem dX4_drawn_133 : decode cX4_drawn 133 = .ok (.invokevirtual 312, 3) := dk_182 1 56 (dk_at dksX4_drawn_5 14 rfl rfl)
theorem dX4_drawn_136 : decode cX4_drawn 136 = .ok (.goto 73, 3) := dk_167 0 73 (dk_at dksX4_drawn_5 17 rfl rfl)
theorem dX4_drawn_139 : decode cX4_drawn 139 = .ok (.aload_n 0, 1) := dk_42 (dk_at dksX4_drawn_5 20 rfl rfl)
theorem dX4_drawn_140 : decode cX4_drawn 140 = .ok (.getfield 7, 3) := dk_180 0 7 (dk_at dksX4_drawn_5 21 rfl rfl)
theorem dX4_drawn_143 : decode cX4_drawn 143 = .ok (.iload 4, 2) := dk_21 4 (dk_at dksX4_drawn_6 0 rfl rfl)
theorem dX4_drawn_145 : decode cX4_drawn 145 = .ok (.iaload, 1) := dk_46 (dk_at dksX4_drawn_6 2 rfl rfl)
theorem dX4_drawn_146 : decode cX4_drawn 146 = .ok (.iconst 1, 1) := dk_4 (dk_at dksX4_drawn_6 3 rfl rfl)
theorem dX4_drawn_147 : decode cX4_drawn 147 = .ok (.if_icmp .ne 9, 3) := dk_160 0 9 (dk_at dksX4_drawn_6 4 rfl rfl)
theorem dX4_drawn_150 : decode cX4_drawn 150 = .ok (.ldc_w 316, 3) := dk_19 1 60 (dk_at dksX4_drawn_6 7 rfl rfl)
theorem dX4_drawn_153 : decode cX4_drawn 153 = .ok (.goto 56, 3) := dk_167 0 56 (dk_at dksX4_drawn_6 10 rfl rfl)
theorem dX4_drawn_156 : decode cX4_drawn 156 = .ok (.aload_n 0, 1) := dk_42 (dk_at dksX4_drawn_6 13 rfl rfl)
theorem dX4_drawn_157 : decode cX4_drawn 157 = .ok (.getfield 7, 3) := dk_180 0 7 (dk_at dksX4_drawn_6 14 rfl rfl)
theorem dX4_drawn_160 : decode cX4_drawn 160 = .ok (.iload 4, 2) := dk_21 4 (dk_at dksX4_drawn_6 17 rfl rfl)
theorem dX4_drawn_162 : decode cX4_drawn 162 = .ok (.iaload, 1) := dk_46 (dk_at dksX4_drawn_6 19 rfl rfl)
theorem dX4_drawn_163 : decode cX4_drawn 163 = .ok (.iconst 2, 1) := dk_5 (dk_at dksX4_drawn_6 20 rfl rfl)
theorem dX4_drawn_164 : decode cX4_drawn 164 = .ok (.if_icmp .ne 9, 3) := dk_160 0 9 (dk_at dksX4_drawn_6 21 rfl rfl)
theorem dX4_drawn_167 : decode cX4_drawn 167 = .ok (.ldc_w 318, 3) := dk_19 1 62 (dk_at dksX4_drawn_7 0 rfl rfl)
theorem dX4_drawn_170 : decode cX4_drawn 170 = .ok (.goto 39, 3) := dk_167 0 39 (dk_at dksX4_drawn_7 3 rfl rfl)
theorem dX4_drawn_173 : decode cX4_drawn 173 = .ok (.aload_n 0, 1) := dk_42 (dk_at dksX4_drawn_7 6 rfl rfl)
theorem dX4_drawn_174 : decode cX4_drawn 174 = .ok (.getfield 7, 3) := dk_180 0 7 (dk_at dksX4_drawn_7 7 rfl rfl)
theorem dX4_drawn_177 : decode cX4_drawn 177 = .ok (.iload 4, 2) := dk_21 4 (dk_at dksX4_drawn_7 10 rfl rfl)
theorem dX4_drawn_179 : decode cX4_drawn 179 = .ok (.iaload, 1) := dk_46 (dk_at dksX4_drawn_7 12 rfl rfl)
theorem dX4_drawn_180 : decode cX4_drawn 180 = .ok (.iconst 3, 1) := dk_6 (dk_at dksX4_drawn_7 13 rfl rfl)
theorem dX4_drawn_181 : decode cX4_drawn 181 = .ok (.if_icmp .ne 9, 3) := dk_160 0 9 (dk_at dksX4_drawn_7 14 rfl rfl)
theorem dX4_drawn_184 : decode cX4_drawn 184 = .ok (.ldc_w 320, 3) := dk_19 1 64 (dk_at dksX4_drawn_7 17 rfl rfl)
theorem dX4_drawn_187 : decode cX4_drawn 187 = .ok (.goto 22, 3) := dk_167 0 22 (dk_at dksX4_drawn_7 20 rfl rfl)
theorem dX4_drawn_190 : decode cX4_drawn 190 = .ok (.aload_n 0, 1) := dk_42 (dk_at dksX4_drawn_7 23 rfl rfl)
theorem dX4_drawn_191 : decode cX4_drawn 191 = .ok (.iload 4, 2) := dk_21 4 (dk_at dksX4_drawn_8 0 rfl rfl)
theorem dX4_drawn_193 : decode cX4_drawn 193 = .ok (.iload_n 2, 1) := dk_28 (dk_at dksX4_drawn_8 2 rfl rfl)
theorem dX4_drawn_194 : decode cX4_drawn 194 = .ok (.invokevirtual 183, 3) := dk_182 0 183 (dk_at dksX4_drawn_8 3 rfl rfl)
theorem dX4_drawn_197 : decode cX4_drawn 197 = .ok (.ifCond .eq 9, 3) := dk_153 0 9 (dk_at dksX4_drawn_8 6 rfl rfl)
theorem dX4_drawn_200 : decode cX4_drawn 200 = .ok (.ldc_w 322, 3) := dk_19 1 66 (dk_at dksX4_drawn_8 9 rfl rfl)
theorem dX4_drawn_203 : decode cX4_drawn 203 = .ok (.goto 6, 3) := dk_167 0 6 (dk_at dksX4_drawn_8 12 rfl rfl)
theorem dX4_drawn_206 : decode cX4_drawn 206 = .ok (.ldc_w 324, 3) := dk_19 1 68 (dk_at dksX4_drawn_8 15 rfl rfl)
theorem dX4_drawn_209 : decode cX4_drawn 209 = .ok (.invokevirtual 305, 3) := dk_182 1 49 (dk_at dksX4_drawn_8 18 rfl rfl)
theorem dX4_drawn_212 : decode cX4_drawn 212 = .ok (.pop, 1) := dk_87 (dk_at dksX4_drawn_8 21 rfl rfl)
theorem dX4_drawn_213 : decode cX4_drawn 213 = .ok (.iinc 4 1, 3) := dk_132 4 1 (dk_at dksX4_drawn_9 0 rfl rfl)
theorem dX4_drawn_216 : decode cX4_drawn 216 = .ok (.goto (-156), 3) := dk_167 255 100 (dk_at dksX4_drawn_9 3 rfl rfl)
theorem dX4_drawn_219 : decode cX4_drawn 219 = .ok (.aload_n 3, 1) := dk_45 (dk_at dksX4_drawn_9 6 rfl rfl)
theorem dX4_drawn_220 : decode cX4_drawn 220 = .ok (.invokevirtual 312, 3) := dk_182 1 56 (dk_at dksX4_drawn_9 7 rfl rfl)
theorem dX4_drawn_223 : decode cX4_drawn 223 = .ok (.areturn, 1) := dk_176 (dk_at dksX4_drawn_9 10 rfl rfl)
abbrev cX4_isSound : ByteArray := prog_17_method_75_code
def yX4_isSound : MethodName := ⟨RX4, "isSound", "()Z"⟩
def dkwX4_isSound_0 : List UInt8 := [42, 3, 181, 0, 51, 42, 182, 1, 70, 172]
abbrev dktX4_isSound_0 : List UInt8 := dkwX4_isSound_0 ++ []
theorem dksX4_isSound_0 : cX4_isSound.data.toList.drop 0 = dktX4_isSound_0 := by decide +kernel
theorem dX4_isSound_0 : decode cX4_isSound 0 = .ok (.aload_n 0, 1) := dk_42 (dk_at dksX4_isSound_0 0 rfl rfl)
theorem dX4_isSound_1 : decode cX4_isSound 1 = .ok (.iconst 0, 1) := dk_3 (dk_at dksX4_isSound_0 1 rfl rfl)
theorem dX4_isSound_2 : decode cX4_isSound 2 = .ok (.putfield 51, 3) := dk_181 0 51 (dk_at dksX4_isSound_0 2 rfl rfl)
theorem dX4_isSound_5 : decode cX4_isSound 5 = .ok (.aload_n 0, 1) := dk_42 (dk_at dksX4_isSound_0 5 rfl rfl)
theorem dX4_isSound_6 : decode cX4_isSound 6 = .ok (.invokevirtual 326, 3) := dk_182 1 70 (dk_at dksX4_isSound_0 6 rfl rfl)
theorem dX4_isSound_9 : decode cX4_isSound 9 = .ok (.ireturn, 1) := dk_172 (dk_at dksX4_isSound_0 9 rfl rfl)
abbrev cX4_isSoundNow : ByteArray := prog_17_method_74_code
def yX4_isSoundNow : MethodName := ⟨RX4, "isSoundNow", "()Z"⟩
def dkwX4_isSoundNow_7 : List UInt8 := [167, 255, 218, 4, 172]
abbrev dktX4_isSoundNow_7 : List UInt8 := dkwX4_isSoundNow_7 ++ []
def dkwX4_isSoundNow_6 : List UInt8 := [180, 0, 42, 27, 185, 0, 80, 2, 0, 192, 0, 152, 180, 1, 10, 7, 164, 0, 5, 3, 172, 132, 1, 1]
abbrev dktX4_isSoundNow_6 : List UInt8 := dkwX4_isSoundNow_6 ++ dktX4_isSoundNow_7
def dkwX4_isSoundNow_5 : List UInt8 := [172, 132, 1, 1, 167, 255, 218, 3, 60, 27, 42, 180, 0, 42, 185, 0, 58, 1, 0, 162, 0, 31, 42]
abbrev dktX4_isSoundNow_5 : List UInt8 := dkwX4_isSoundNow_5 ++ dktX4_isSoundNow_6
def dkwX4_isSoundNow_4 : List UInt8 := [162, 0, 31, 42, 180, 0, 27, 27, 185, 0, 80, 2, 0, 192, 0, 84, 180, 0, 86, 6, 164, 0, 5, 3]
abbrev dktX4_isSoundNow_4 : List UInt8 := dkwX4_isSoundNow_4 ++ dktX4_isSoundNow_5
def dkwX4_isSoundNow_3 : List UInt8 := [154, 0, 5, 3, 172, 132, 3, 1, 167, 255, 226, 3, 60, 27, 42, 180, 0, 27, 185, 0, 58, 1, 0]
abbrev dktX4_isSoundNow_3 : List UInt8 := dkwX4_isSoundNow_3 ++ dktX4_isSoundNow_4
def dkwX4_isSoundNow_2 : List UInt8 := [29, 28, 162, 0, 31, 43, 29, 46, 54, 4, 21, 4, 2, 159, 0, 14, 42, 21, 4, 182, 0, 176]
abbrev dktX4_isSoundNow_2 : List UInt8 := dkwX4_isSoundNow_2 ++ dktX4_isSoundNow_3
def dkwX4_isSoundNow_1 : List UInt8 := [182, 0, 160, 153, 0, 5, 3, 172, 132, 1, 1, 167, 255, 224, 42, 180, 0, 39, 76, 43, 190, 61, 3, 62]
abbrev dktX4_isSoundNow_1 : List UInt8 := dkwX4_isSoundNow_1 ++ dktX4_isSoundNow_2
def dkwX4_isSoundNow_0 : List UInt8 := [3, 60, 27, 42, 180, 0, 7, 190, 162, 0, 29, 42, 180, 0, 7, 27, 46, 4, 160, 0, 13, 42, 27]
abbrev dktX4_isSoundNow_0 : List UInt8 := dkwX4_isSoundNow_0 ++ dktX4_isSoundNow_1
theorem dksX4_isSoundNow_0 : cX4_isSoundNow.data.toList.drop 0 = dktX4_isSoundNow_0 := by decide +kernel
theorem dksX4_isSoundNow_1 : cX4_isSoundNow.data.toList.drop 23 = dktX4_isSoundNow_1 := dk_seg dksX4_isSoundNow_0 23 rfl rfl
theorem dksX4_isSoundNow_2 : cX4_isSoundNow.data.toList.drop 47 = dktX4_isSoundNow_2 := dk_seg dksX4_isSoundNow_1 24 rfl rfl
theorem dksX4_isSoundNow_3 : cX4_isSoundNow.data.toList.drop 69 = dktX4_isSoundNow_3 := dk_seg dksX4_isSoundNow_2 22 rfl rfl
theorem dksX4_isSoundNow_4 : cX4_isSoundNow.data.toList.drop 92 = dktX4_isSoundNow_4 := dk_seg dksX4_isSoundNow_3 23 rfl rfl
theorem dksX4_isSoundNow_5 : cX4_isSoundNow.data.toList.drop 116 = dktX4_isSoundNow_5 := dk_seg dksX4_isSoundNow_4 24 rfl rfl
theorem dksX4_isSoundNow_6 : cX4_isSoundNow.data.toList.drop 139 = dktX4_isSoundNow_6 := dk_seg dksX4_isSoundNow_5 23 rfl rfl
theorem dksX4_isSoundNow_7 : cX4_isSoundNow.data.toList.drop 163 = dktX4_isSoundNow_7 := dk_seg dksX4_isSoundNow_6 24 rfl rfl
theorem dX4_isSoundNow_0 : decode cX4_isSoundNow 0 = .ok (.iconst 0, 1) := dk_3 (dk_at dksX4_isSoundNow_0 0 rfl rfl)
theorem dX4_isSoundNow_1 : decode cX4_isSoundNow 1 = .ok (.istore_n 1, 1) := dk_60 (dk_at dksX4_isSoundNow_0 1 rfl rfl)
theorem dX4_isSoundNow_2 : decode cX4_isSoundNow 2 = .ok (.iload_n 1, 1) := dk_27 (dk_at dksX4_isSoundNow_0 2 rfl rfl)
theorem dX4_isSoundNow_3 : decode cX4_isSoundNow 3 = .ok (.aload_n 0, 1) := dk_42 (dk_at dksX4_isSoundNow_0 3 rfl rfl)
theorem dX4_isSoundNow_4 : decode cX4_isSoundNow 4 = .ok (.getfield 7, 3) := dk_180 0 7 (dk_at dksX4_isSoundNow_0 4 rfl rfl)
theorem dX4_isSoundNow_7 : decode cX4_isSoundNow 7 = .ok (.arraylength, 1) := dk_190 (dk_at dksX4_isSoundNow_0 7 rfl rfl)
theorem dX4_isSoundNow_8 : decode cX4_isSoundNow 8 = .ok (.if_icmp .ge 29, 3) := dk_162 0 29 (dk_at dksX4_isSoundNow_0 8 rfl rfl)
theorem dX4_isSoundNow_11 : decode cX4_isSoundNow 11 = .ok (.aload_n 0, 1) := dk_42 (dk_at dksX4_isSoundNow_0 11 rfl rfl)
theorem dX4_isSoundNow_12 : decode cX4_isSoundNow 12 = .ok (.getfield 7, 3) := dk_180 0 7 (dk_at dksX4_isSoundNow_0 12 rfl rfl)
theorem dX4_isSoundNow_15 : decode cX4_isSoundNow 15 = .ok (.iload_n 1, 1) := dk_27 (dk_at dksX4_isSoundNow_0 15 rfl rfl)
theorem dX4_isSoundNow_16 : decode cX4_isSoundNow 16 = .ok (.iaload, 1) := dk_46 (dk_at dksX4_isSoundNow_0 16 rfl rfl)
theorem dX4_isSoundNow_17 : decode cX4_isSoundNow 17 = .ok (.iconst 1, 1) := dk_4 (dk_at dksX4_isSoundNow_0 17 rfl rfl)
theorem dX4_isSoundNow_18 : decode cX4_isSoundNow 18 = .ok (.if_icmp .ne 13, 3) := dk_160 0 13 (dk_at dksX4_isSoundNow_0 18 rfl rfl)
theorem dX4_isSoundNow_21 : decode cX4_isSoundNow 21 = .ok (.aload_n 0, 1) := dk_42 (dk_at dksX4_isSoundNow_0 21 rfl rfl)
theorem dX4_isSoundNow_22 : decode cX4_isSoundNow 22 = .ok (.iload_n 1, 1) := dk_27 (dk_at dksX4_isSoundNow_0 22 rfl rfl)
theorem dX4_isSoundNow_23 : decode cX4_isSoundNow 23 = .ok (.invokevirtual 160, 3) := dk_182 0 160 (dk_at dksX4_isSoundNow_1 0 rfl rfl)
theorem dX4_isSoundNow_26 : decode cX4_isSoundNow 26 = .ok (.ifCond .eq 5, 3) := dk_153 0 5 (dk_at dksX4_isSoundNow_1 3 rfl rfl)
theorem dX4_isSoundNow_29 : decode cX4_isSoundNow 29 = .ok (.iconst 0, 1) := dk_3 (dk_at dksX4_isSoundNow_1 6 rfl rfl)
theorem dX4_isSoundNow_30 : decode cX4_isSoundNow 30 = .ok (.ireturn, 1) := dk_172 (dk_at dksX4_isSoundNow_1 7 rfl rfl)
theorem dX4_isSoundNow_31 : decode cX4_isSoundNow 31 = .ok (.iinc 1 1, 3) := dk_132 1 1 (dk_at dksX4_isSoundNow_1 8 rfl rfl)
theorem dX4_isSoundNow_34 : decode cX4_isSoundNow 34 = .ok (.goto (-32), 3) := dk_167 255 224 (dk_at dksX4_isSoundNow_1 11 rfl rfl)
theorem dX4_isSoundNow_37 : decode cX4_isSoundNow 37 = .ok (.aload_n 0, 1) := dk_42 (dk_at dksX4_isSoundNow_1 14 rfl rfl)
theorem dX4_isSoundNow_38 : decode cX4_isSoundNow 38 = .ok (.getfield 39, 3) := dk_180 0 39 (dk_at dksX4_isSoundNow_1 15 rfl rfl)
theorem dX4_isSoundNow_41 : decode cX4_isSoundNow 41 = .ok (.astore_n 1, 1) := dk_76 (dk_at dksX4_isSoundNow_1 18 rfl rfl)
theorem dX4_isSoundNow_42 : decode cX4_isSoundNow 42 = .ok (.aload_n 1, 1) := dk_43 (dk_at dksX4_isSoundNow_1 19 rfl rfl)
theorem dX4_isSoundNow_43 : decode cX4_isSoundNow 43 = .ok (.arraylength, 1) := dk_190 (dk_at dksX4_isSoundNow_1 20 rfl rfl)
theorem dX4_isSoundNow_44 : decode cX4_isSoundNow 44 = .ok (.istore_n 2, 1) := dk_61 (dk_at dksX4_isSoundNow_1 21 rfl rfl)
theorem dX4_isSoundNow_45 : decode cX4_isSoundNow 45 = .ok (.iconst 0, 1) := dk_3 (dk_at dksX4_isSoundNow_1 22 rfl rfl)
theorem dX4_isSoundNow_46 : decode cX4_isSoundNow 46 = .ok (.istore_n 3, 1) := dk_62 (dk_at dksX4_isSoundNow_1 23 rfl rfl)
theorem dX4_isSoundNow_47 : decode cX4_isSoundNow 47 = .ok (.iload_n 3, 1) := dk_29 (dk_at dksX4_isSoundNow_2 0 rfl rfl)
theorem dX4_isSoundNow_48 : decode cX4_isSoundNow 48 = .ok (.iload_n 2, 1) := dk_28 (dk_at dksX4_isSoundNow_2 1 rfl rfl)
theorem dX4_isSoundNow_49 : decode cX4_isSoundNow 49 = .ok (.if_icmp .ge 31, 3) := dk_162 0 31 (dk_at dksX4_isSoundNow_2 2 rfl rfl)
theorem dX4_isSoundNow_52 : decode cX4_isSoundNow 52 = .ok (.aload_n 1, 1) := dk_43 (dk_at dksX4_isSoundNow_2 5 rfl rfl)
theorem dX4_isSoundNow_53 : decode cX4_isSoundNow 53 = .ok (.iload_n 3, 1) := dk_29 (dk_at dksX4_isSoundNow_2 6 rfl rfl)
theorem dX4_isSoundNow_54 : decode cX4_isSoundNow 54 = .ok (.iaload, 1) := dk_46 (dk_at dksX4_isSoundNow_2 7 rfl rfl)
theorem dX4_isSoundNow_55 : decode cX4_isSoundNow 55 = .ok (.istore 4, 2) := dk_54 4 (dk_at dksX4_isSoundNow_2 8 rfl rfl)
theorem dX4_isSoundNow_57 : decode cX4_isSoundNow 57 = .ok (.iload 4, 2) := dk_21 4 (dk_at dksX4_isSoundNow_2 10 rfl rfl)
theorem dX4_isSoundNow_59 : decode cX4_isSoundNow 59 = .ok (.iconst (-1), 1) := dk_2 (dk_at dksX4_isSoundNow_2 12 rfl rfl)
theorem dX4_isSoundNow_60 : decode cX4_isSoundNow 60 = .ok (.if_icmp .eq 14, 3) := dk_159 0 14 (dk_at dksX4_isSoundNow_2 13 rfl rfl)
theorem dX4_isSoundNow_63 : decode cX4_isSoundNow 63 = .ok (.aload_n 0, 1) := dk_42 (dk_at dksX4_isSoundNow_2 16 rfl rfl)
theorem dX4_isSoundNow_64 : decode cX4_isSoundNow 64 = .ok (.iload 4, 2) := dk_21 4 (dk_at dksX4_isSoundNow_2 17 rfl rfl)
theorem dX4_isSoundNow_66 : decode cX4_isSoundNow 66 = .ok (.invokevirtual 176, 3) := dk_182 0 176 (dk_at dksX4_isSoundNow_2 19 rfl rfl)
theorem dX4_isSoundNow_69 : decode cX4_isSoundNow 69 = .ok (.ifCond .ne 5, 3) := dk_154 0 5 (dk_at dksX4_isSoundNow_3 0 rfl rfl)
theorem dX4_isSoundNow_72 : decode cX4_isSoundNow 72 = .ok (.iconst 0, 1) := dk_3 (dk_at dksX4_isSoundNow_3 3 rfl rfl)
theorem dX4_isSoundNow_73 : decode cX4_isSoundNow 73 = .ok (.ireturn, 1) := dk_172 (dk_at dksX4_isSoundNow_3 4 rfl rfl)
theorem dX4_isSoundNow_74 : decode cX4_isSoundNow 74 = .ok (.iinc 3 1, 3) := dk_132 3 1 (dk_at dksX4_isSoundNow_3 5 rfl rfl)
theorem dX4_isSoundNow_77 : decode cX4_isSoundNow 77 = .ok (.goto (-30), 3) := dk_167 255 226 (dk_at dksX4_isSoundNow_3 8 rfl rfl)
theorem dX4_isSoundNow_80 : decode cX4_isSoundNow 80 = .ok (.iconst 0, 1) := dk_3 (dk_at dksX4_isSoundNow_3 11 rfl rfl)
theorem dX4_isSoundNow_81 : decode cX4_isSoundNow 81 = .ok (.istore_n 1, 1) := dk_60 (dk_at dksX4_isSoundNow_3 12 rfl rfl)
theorem dX4_isSoundNow_82 : decode cX4_isSoundNow 82 = .ok (.iload_n 1, 1) := dk_27 (dk_at dksX4_isSoundNow_3 13 rfl rfl)
theorem dX4_isSoundNow_83 : decode cX4_isSoundNow 83 = .ok (.aload_n 0, 1) := dk_42 (dk_at dksX4_isSoundNow_3 14 rfl rfl)
theorem dX4_isSoundNow_84 : decode cX4_isSoundNow 84 = .ok (.getfield 27, 3) := dk_180 0 27 (dk_at dksX4_isSoundNow_3 15 rfl rfl)
theorem dX4_isSoundNow_87 : decode cX4_isSoundNow 87 = .ok (.invokeinterface 58 1, 5) := by decide +kernel
theorem dX4_isSoundNow_92 : decode cX4_isSoundNow 92 = .ok (.if_icmp .ge 31, 3) := dk_162 0 31 (dk_at dksX4_isSoundNow_4 0 rfl rfl)
theorem dX4_isSoundNow_95 : decode cX4_isSoundNow 95 = .ok (.aload_n 0, 1) := dk_42 (dk_at dksX4_isSoundNow_4 3 rfl rfl)
theorem dX4_isSoundNow_96 : decode cX4_isSoundNow 96 = .ok (.getfield 27, 3) := dk_180 0 27 (dk_at dksX4_isSoundNow_4 4 rfl rfl)
theorem dX4_isSoundNow_99 : decode cX4_isSoundNow 99 = .ok (.iload_n 1, 1) := dk_27 (dk_at dksX4_isSoundNow_4 7 rfl rfl)
theorem dX4_isSoundNow_100 : decode cX4_isSoundNow 100 = .ok (.invokeinterface 80 2, 5) := by decide +kernel
theorem dX4_isSoundNow_105 : decode cX4_isSoundNow 105 = .ok (.checkcast 84, 3) := dk_192 0 84 (dk_at dksX4_isSoundNow_4 13 rfl rfl)
theorem dX4_isSoundNow_108 : decode cX4_isSoundNow 108 = .ok (.getfield 86, 3) := dk_180 0 86 (dk_at dksX4_isSoundNow_4 16 rfl rfl)
theorem dX4_isSoundNow_111 : decode cX4_isSoundNow 111 = .ok (.iconst 3, 1) := dk_6 (dk_at dksX4_isSoundNow_4 19 rfl rfl)
theorem dX4_isSoundNow_112 : decode cX4_isSoundNow 112 = .ok (.if_icmp .le 5, 3) := dk_164 0 5 (dk_at dksX4_isSoundNow_4 20 rfl rfl)
theorem dX4_isSoundNow_115 : decode cX4_isSoundNow 115 = .ok (.iconst 0, 1) := dk_3 (dk_at dksX4_isSoundNow_4 23 rfl rfl)
theorem dX4_isSoundNow_116 : decode cX4_isSoundNow 116 = .ok (.ireturn, 1) := dk_172 (dk_at dksX4_isSoundNow_5 0 rfl rfl)
theorem dX4_isSoundNow_117 : decode cX4_isSoundNow 117 = .ok (.iinc 1 1, 3) := dk_132 1 1 (dk_at dksX4_isSoundNow_5 1 rfl rfl)
theorem dX4_isSoundNow_120 : decode cX4_isSoundNow 120 = .ok (.goto (-38), 3) := dk_167 255 218 (dk_at dksX4_isSoundNow_5 4 rfl rfl)
theorem dX4_isSoundNow_123 : decode cX4_isSoundNow 123 = .ok (.iconst 0, 1) := dk_3 (dk_at dksX4_isSoundNow_5 7 rfl rfl)
theorem dX4_isSoundNow_124 : decode cX4_isSoundNow 124 = .ok (.istore_n 1, 1) := dk_60 (dk_at dksX4_isSoundNow_5 8 rfl rfl)
theorem dX4_isSoundNow_125 : decode cX4_isSoundNow 125 = .ok (.iload_n 1, 1) := dk_27 (dk_at dksX4_isSoundNow_5 9 rfl rfl)
theorem dX4_isSoundNow_126 : decode cX4_isSoundNow 126 = .ok (.aload_n 0, 1) := dk_42 (dk_at dksX4_isSoundNow_5 10 rfl rfl)
theorem dX4_isSoundNow_127 : decode cX4_isSoundNow 127 = .ok (.getfield 42, 3) := dk_180 0 42 (dk_at dksX4_isSoundNow_5 11 rfl rfl)
theorem dX4_isSoundNow_130 : decode cX4_isSoundNow 130 = .ok (.invokeinterface 58 1, 5) := by decide +kernel
theorem dX4_isSoundNow_135 : decode cX4_isSoundNow 135 = .ok (.if_icmp .ge 31, 3) := dk_162 0 31 (dk_at dksX4_isSoundNow_5 19 rfl rfl)
theorem dX4_isSoundNow_138 : decode cX4_isSoundNow 138 = .ok (.aload_n 0, 1) := dk_42 (dk_at dksX4_isSoundNow_5 22 rfl rfl)
theorem dX4_isSoundNow_139 : decode cX4_isSoundNow 139 = .ok (.getfield 42, 3) := dk_180 0 42 (dk_at dksX4_isSoundNow_6 0 rfl rfl)
theorem dX4_isSoundNow_142 : decode cX4_isSoundNow 142 = .ok (.iload_n 1, 1) := dk_27 (dk_at dksX4_isSoundNow_6 3 rfl rfl)
theorem dX4_isSoundNow_143 : decode cX4_isSoundNow 143 = .ok (.invokeinterface 80 2, 5) := by decide +kernel
theorem dX4_isSoundNow_148 : decode cX4_isSoundNow 148 = .ok (.checkcast 152, 3) := dk_192 0 152 (dk_at dksX4_isSoundNow_6 9 rfl rfl)
theorem dX4_isSoundNow_151 : decode cX4_isSoundNow 151 = .ok (.getfield 266, 3) := dk_180 1 10 (dk_at dksX4_isSoundNow_6 12 rfl rfl)
theorem dX4_isSoundNow_154 : decode cX4_isSoundNow 154 = .ok (.iconst 4, 1) := dk_7 (dk_at dksX4_isSoundNow_6 15 rfl rfl)
theorem dX4_isSoundNow_155 : decode cX4_isSoundNow 155 = .ok (.if_icmp .le 5, 3) := dk_164 0 5 (dk_at dksX4_isSoundNow_6 16 rfl rfl)
theorem dX4_isSoundNow_158 : decode cX4_isSoundNow 158 = .ok (.iconst 0, 1) := dk_3 (dk_at dksX4_isSoundNow_6 19 rfl rfl)
theorem dX4_isSoundNow_159 : decode cX4_isSoundNow 159 = .ok (.ireturn, 1) := dk_172 (dk_at dksX4_isSoundNow_6 20 rfl rfl)
theorem dX4_isSoundNow_160 : decode cX4_isSoundNow 160 = .ok (.iinc 1 1, 3) := dk_132 1 1 (dk_at dksX4_isSoundNow_6 21 rfl rfl)
theorem dX4_isSoundNow_163 : decode cX4_isSoundNow 163 = .ok (.goto (-38), 3) := dk_167 255 218 (dk_at dksX4_isSoundNow_7 0 rfl rfl)
theorem dX4_isSoundNow_166 : decode cX4_isSoundNow 166 = .ok (.iconst 1, 1) := dk_4 (dk_at dksX4_isSoundNow_7 3 rfl rfl)
theorem dX4_isSoundNow_167 : decode cX4_isSoundNow 167 = .ok (.ireturn, 1) := dk_172 (dk_at dksX4_isSoundNow_7 4 rfl rfl)
abbrev cX4_knock : ByteArray := prog_17_method_76_code
def yX4_knock : MethodName := ⟨RX4, "knock", "()I"⟩
def dkwX4_knock_0 : List UInt8 := [42, 3, 181, 0, 51, 42, 89, 180, 1, 38, 4, 96, 181, 1, 38, 42, 180, 1, 38, 172]
abbrev dktX4_knock_0 : List UInt8 := dkwX4_knock_0 ++ []
theorem dksX4_knock_0 : cX4_knock.data.toList.drop 0 = dktX4_knock_0 := by decide +kernel
theorem dX4_knock_0 : decode cX4_knock 0 = .ok (.aload_n 0, 1) := dk_42 (dk_at dksX4_knock_0 0 rfl rfl)
theorem dX4_knock_1 : decode cX4_knock 1 = .ok (.iconst 0, 1) := dk_3 (dk_at dksX4_knock_0 1 rfl rfl)
theorem dX4_knock_2 : decode cX4_knock 2 = .ok (.putfield 51, 3) := dk_181 0 51 (dk_at dksX4_knock_0 2 rfl rfl)
theorem dX4_knock_5 : decode cX4_knock 5 = .ok (.aload_n 0, 1) := dk_42 (dk_at dksX4_knock_0 5 rfl rfl)
theorem dX4_knock_6 : decode cX4_knock 6 = .ok (.dup, 1) := dk_89 (dk_at dksX4_knock_0 6 rfl rfl)
theorem dX4_knock_7 : decode cX4_knock 7 = .ok (.getfield 294, 3) := dk_180 1 38 (dk_at dksX4_knock_0 7 rfl rfl)
theorem dX4_knock_10 : decode cX4_knock 10 = .ok (.iconst 1, 1) := dk_4 (dk_at dksX4_knock_0 10 rfl rfl)
theorem dX4_knock_11 : decode cX4_knock 11 = .ok (.iadd, 1) := dk_96 (dk_at dksX4_knock_0 11 rfl rfl)
theorem dX4_knock_12 : decode cX4_knock 12 = .ok (.putfield 294, 3) := dk_181 1 38 (dk_at dksX4_knock_0 12 rfl rfl)
theorem dX4_knock_15 : decode cX4_knock 15 = .ok (.aload_n 0, 1) := dk_42 (dk_at dksX4_knock_0 15 rfl rfl)
theorem dX4_knock_16 : decode cX4_knock 16 = .ok (.getfield 294, 3) := dk_180 1 38 (dk_at dksX4_knock_0 16 rfl rfl)
theorem dX4_knock_19 : decode cX4_knock 19 = .ok (.ireturn, 1) := dk_172 (dk_at dksX4_knock_0 19 rfl rfl)
abbrev cX4_digest : ByteArray := prog_17_method_77_code
def yX4_digest : MethodName := ⟨RX4, "digest", "()J"⟩
def dkwX4_digest_15 : List UInt8 := [97, 173]
abbrev dktX4_digest_15 : List UInt8 := dkwX4_digest_15 ++ []
def dkwX4_digest_14 : List UInt8 := [132, 3, 1, 167, 255, 210, 31, 20, 1, 76, 105, 42, 182, 1, 70, 153, 0, 7, 4, 167, 0, 4, 3, 133]
abbrev dktX4_digest_14 : List UInt8 := dkwX4_digest_14 ++ dktX4_digest_15
def dkwX4_digest_13 : List UInt8 := [163, 0, 24, 31, 20, 1, 76, 105, 42, 29, 21, 4, 182, 1, 21, 133, 97, 64, 132, 4, 1, 167, 255, 232]
abbrev dktX4_digest_13 : List UInt8 := dkwX4_digest_13 ++ dktX4_digest_14
def dkwX4_digest_12 : List UInt8 := [167, 255, 209, 3, 62, 29, 42, 180, 0, 45, 185, 0, 58, 1, 0, 162, 0, 39, 3, 54, 4, 21, 4, 7]
abbrev dktX4_digest_12 : List UInt8 := dkwX4_digest_12 ++ dktX4_digest_13
def dkwX4_digest_11 : List UInt8 := [20, 1, 76, 105, 42, 29, 21, 4, 182, 1, 15, 133, 97, 64, 132, 4, 1, 167, 255, 231, 132, 3, 1]
abbrev dktX4_digest_11 : List UInt8 := dkwX4_digest_11 ++ dktX4_digest_12
def dkwX4_digest_10 : List UInt8 := [29, 42, 180, 0, 42, 185, 0, 58, 1, 0, 162, 0, 40, 3, 54, 4, 21, 4, 16, 8, 163, 0, 24, 31]
abbrev dktX4_digest_10 : List UInt8 := dkwX4_digest_10 ++ dktX4_digest_11
def dkwX4_digest_9 : List UInt8 := [97, 64, 31, 20, 1, 76, 105, 42, 29, 3, 182, 0, 208, 133, 97, 64, 132, 3, 1, 167, 255, 212, 3, 62]
abbrev dktX4_digest_9 : List UInt8 := dkwX4_digest_9 ++ dktX4_digest_10
def dkwX4_digest_8 : List UInt8 := [42, 180, 0, 30, 185, 0, 58, 1, 0, 162, 0, 37, 31, 20, 1, 76, 105, 42, 29, 4, 182, 0, 208, 133]
abbrev dktX4_digest_8 : List UInt8 := dkwX4_digest_8 ++ dktX4_digest_9
def dkwX4_digest_7 : List UInt8 := [29, 21, 4, 182, 0, 225, 133, 97, 64, 132, 4, 1, 167, 255, 231, 132, 3, 1, 167, 255, 209, 3, 62, 29]
abbrev dktX4_digest_7 : List UInt8 := dkwX4_digest_7 ++ dktX4_digest_8
def dkwX4_digest_6 : List UInt8 := [185, 0, 58, 1, 0, 162, 0, 40, 3, 54, 4, 21, 4, 16, 8, 163, 0, 24, 31, 20, 1, 76, 105, 42]
abbrev dktX4_digest_6 : List UInt8 := dkwX4_digest_6 ++ dktX4_digest_7
def dkwX4_digest_5 : List UInt8 := [64, 132, 4, 1, 167, 255, 230, 132, 3, 1, 167, 255, 212, 3, 62, 29, 42, 180, 0, 27]
abbrev dktX4_digest_5 : List UInt8 := dkwX4_digest_5 ++ dktX4_digest_6
def dkwX4_digest_4 : List UInt8 := [54, 4, 21, 4, 7, 163, 0, 26, 31, 20, 1, 76, 105, 42, 29, 16, 120, 21, 4, 182, 0, 195, 133, 97]
abbrev dktX4_digest_4 : List UInt8 := dkwX4_digest_4 ++ dktX4_digest_5
def dkwX4_digest_3 : List UInt8 := [132, 4, 1, 167, 255, 231, 132, 3, 60, 167, 255, 215, 3, 62, 29, 42, 180, 0, 7, 190, 162, 0, 41, 3]
abbrev dktX4_digest_3 : List UInt8 := dkwX4_digest_3 ++ dktX4_digest_4
def dkwX4_digest_2 : List UInt8 := [21, 4, 16, 6, 163, 0, 24, 31, 20, 1, 76, 105, 42, 29, 21, 4, 182, 0, 205, 133, 97, 64]
abbrev dktX4_digest_2 : List UInt8 := dkwX4_digest_2 ++ dktX4_digest_3
def dkwX4_digest_1 : List UInt8 := [182, 1, 41, 133, 97, 64, 132, 3, 1, 167, 255, 234, 3, 62, 29, 17, 0, 180, 163, 0, 40, 3, 54, 4]
abbrev dktX4_digest_1 : List UInt8 := dkwX4_digest_1 ++ dktX4_digest_2
def dkwX4_digest_0 : List UInt8 := [42, 3, 181, 0, 51, 20, 1, 74, 64, 3, 62, 29, 16, 12, 163, 0, 22, 31, 20, 1, 76, 105, 42, 29]
abbrev dktX4_digest_0 : List UInt8 := dkwX4_digest_0 ++ dktX4_digest_1
theorem dksX4_digest_0 : cX4_digest.data.toList.drop 0 = dktX4_digest_0 := by decide +kernel
theorem dksX4_digest_1 : cX4_digest.data.toList.drop 24 = dktX4_digest_1 := dk_seg dksX4_digest_0 24 rfl rfl
theorem dksX4_digest_2 : cX4_digest.data.toList.drop 48 = dktX4_digest_2 := dk_seg dksX4_digest_1 24 rfl rfl
theorem dksX4_digest_3 : cX4_digest.data.toList.drop 70 = dktX4_digest_3 := dk_seg dksX4_digest_2 22 rfl rfl
theorem dksX4_digest_4 : cX4_digest.data.toList.drop 94 = dktX4_digest_4 := dk_seg dksX4_digest_3 24 rfl rfl
theorem dksX4_digest_5 : cX4_digest.data.toList.drop 118 = dktX4_digest_5 := dk_seg dksX4_digest_4 24 rfl rfl
theorem dksX4_digest_6 : cX4_digest.data.toList.drop 138 = dktX4_digest_6 := dk_seg dksX4_digest_5 20 rfl rfl
theorem dksX4_digest_7 : cX4_digest.data.toList.drop 162 = dktX4_digest_7 := dk_seg dksX4_digest_6 24 rfl rfl
theorem dksX4_digest_8 : cX4_digest.data.toList.drop 186 = dktX4_digest_8 := dk_seg dksX4_digest_7 24 rfl rfl
theorem dksX4_digest_9 : cX4_digest.data.toList.drop 210 = dktX4_digest_9 := dk_seg dksX4_digest_8 24 rfl rfl
theorem dksX4_digest_10 : cX4_digest.data.toList.drop 234 = dktX4_digest_10 := dk_seg dksX4_digest_9 24 rfl rfl
theorem dksX4_digest_11 : cX4_digest.data.toList.drop 258 = dktX4_digest_11 := dk_seg dksX4_digest_10 24 rfl rfl
theorem dksX4_digest_12 : cX4_digest.data.toList.drop 281 = dktX4_digest_12 := dk_seg dksX4_digest_11 23 rfl rfl
theorem dksX4_digest_13 : cX4_digest.data.toList.drop 305 = dktX4_digest_13 := dk_seg dksX4_digest_12 24 rfl rfl
theorem dksX4_digest_14 : cX4_digest.data.toList.drop 329 = dktX4_digest_14 := dk_seg dksX4_digest_13 24 rfl rfl
theorem dksX4_digest_15 : cX4_digest.data.toList.drop 353 = dktX4_digest_15 := dk_seg dksX4_digest_14 24 rfl rfl
theorem dX4_digest_0 : decode cX4_digest 0 = .ok (.aload_n 0, 1) := dk_42 (dk_at dksX4_digest_0 0 rfl rfl)
theorem dX4_digest_1 : decode cX4_digest 1 = .ok (.iconst 0, 1) := dk_3 (dk_at dksX4_digest_0 1 rfl rfl)
theorem dX4_digest_2 : decode cX4_digest 2 = .ok (.putfield 51, 3) := dk_181 0 51 (dk_at dksX4_digest_0 2 rfl rfl)
theorem dX4_digest_5 : decode cX4_digest 5 = .ok (.ldc2_w 330, 3) := dk_20 1 74 (dk_at dksX4_digest_0 5 rfl rfl)
theorem dX4_digest_8 : decode cX4_digest 8 = .ok (.lstore_n 1, 1) := dk_64 (dk_at dksX4_digest_0 8 rfl rfl)
theorem dX4_digest_9 : decode cX4_digest 9 = .ok (.iconst 0, 1) := dk_3 (dk_at dksX4_digest_0 9 rfl rfl)
theorem dX4_digest_10 : decode cX4_digest 10 = .ok (.istore_n 3, 1) := dk_62 (dk_at dksX4_digest_0 10 rfl rfl)
theorem dX4_digest_11 : decode cX4_digest 11 = .ok (.iload_n 3, 1) := dk_29 (dk_at dksX4_digest_0 11 rfl rfl)
theorem dX4_digest_12 : decode cX4_digest 12 = .ok (.bipush 12, 2) := dk_16 12 (dk_at dksX4_digest_0 12 rfl rfl)
theorem dX4_digest_14 : decode cX4_digest 14 = .ok (.if_icmp .gt 22, 3) := dk_163 0 22 (dk_at dksX4_digest_0 14 rfl rfl)
theorem dX4_digest_17 : decode cX4_digest 17 = .ok (.lload_n 1, 1) := dk_31 (dk_at dksX4_digest_0 17 rfl rfl)
theorem dX4_digest_18 : decode cX4_digest 18 = .ok (.ldc2_w 332, 3) := dk_20 1 76 (dk_at dksX4_digest_0 18 rfl rfl)
theorem dX4_digest_21 : decode cX4_digest 21 = .ok (.lmul, 1) := dk_105 (dk_at dksX4_digest_0 21 rfl rfl)
theorem dX4_digest_22 : decode cX4_digest 22 = .ok (.aload_n 0, 1) := dk_42 (dk_at dksX4_digest_0 22 rfl rfl)
theorem dX4_digest_23 : decode cX4_digest 23 = .ok (.iload_n 3, 1) := dk_29 (dk_at dksX4_digest_0 23 rfl rfl)
theorem dX4_digest_24 : decode cX4_digest 24 = .ok (.invokevirtual 297, 3) := dk_182 1 41 (dk_at dksX4_digest_1 0 rfl rfl)
theorem dX4_digest_27 : decode cX4_digest 27 = .ok (.i2l, 1) := dk_133 (dk_at dksX4_digest_1 3 rfl rfl)
theorem dX4_digest_28 : decode cX4_digest 28 = .ok (.ladd, 1) := dk_97 (dk_at dksX4_digest_1 4 rfl rfl)
theorem dX4_digest_29 : decode cX4_digest 29 = .ok (.lstore_n 1, 1) := dk_64 (dk_at dksX4_digest_1 5 rfl rfl)
theorem dX4_digest_30 : decode cX4_digest 30 = .ok (.iinc 3 1, 3) := dk_132 3 1 (dk_at dksX4_digest_1 6 rfl rfl)
theorem dX4_digest_33 : decode cX4_digest 33 = .ok (.goto (-22), 3) := dk_167 255 234 (dk_at dksX4_digest_1 9 rfl rfl)
theorem dX4_digest_36 : decode cX4_digest 36 = .ok (.iconst 0, 1) := dk_3 (dk_at dksX4_digest_1 12 rfl rfl)
theorem dX4_digest_37 : decode cX4_digest 37 = .ok (.istore_n 3, 1) := dk_62 (dk_at dksX4_digest_1 13 rfl rfl)
theorem dX4_digest_38 : decode cX4_digest 38 = .ok (.iload_n 3, 1) := dk_29 (dk_at dksX4_digest_1 14 rfl rfl)
theorem dX4_digest_39 : decode cX4_digest 39 = .ok (.sipush 180, 3) := dk_17 0 180 (dk_at dksX4_digest_1 15 rfl rfl)
theorem dX4_digest_42 : decode cX4_digest 42 = .ok (.if_icmp .gt 40, 3) := dk_163 0 40 (dk_at dksX4_digest_1 18 rfl rfl)
theorem dX4_digest_45 : decode cX4_digest 45 = .ok (.iconst 0, 1) := dk_3 (dk_at dksX4_digest_1 21 rfl rfl)
theorem dX4_digest_46 : decode cX4_digest 46 = .ok (.istore 4, 2) := dk_54 4 (dk_at dksX4_digest_1 22 rfl rfl)
theorem dX4_digest_48 : decode cX4_digest 48 = .ok (.iload 4, 2) := dk_21 4 (dk_at dksX4_digest_2 0 rfl rfl)
theorem dX4_digest_50 : decode cX4_digest 50 = .ok (.bipush 6, 2) := dk_16 6 (dk_at dksX4_digest_2 2 rfl rfl)
theorem dX4_digest_52 : decode cX4_digest 52 = .ok (.if_icmp .gt 24, 3) := dk_163 0 24 (dk_at dksX4_digest_2 4 rfl rfl)
theorem dX4_digest_55 : decode cX4_digest 55 = .ok (.lload_n 1, 1) := dk_31 (dk_at dksX4_digest_2 7 rfl rfl)
theorem dX4_digest_56 : decode cX4_digest 56 = .ok (.ldc2_w 332, 3) := dk_20 1 76 (dk_at dksX4_digest_2 8 rfl rfl)
theorem dX4_digest_59 : decode cX4_digest 59 = .ok (.lmul, 1) := dk_105 (dk_at dksX4_digest_2 11 rfl rfl)
theorem dX4_digest_60 : decode cX4_digest 60 = .ok (.aload_n 0, 1) := dk_42 (dk_at dksX4_digest_2 12 rfl rfl)
theorem dX4_digest_61 : decode cX4_digest 61 = .ok (.iload_n 3, 1) := dk_29 (dk_at dksX4_digest_2 13 rfl rfl)
theorem dX4_digest_62 : decode cX4_digest 62 = .ok (.iload 4, 2) := dk_21 4 (dk_at dksX4_digest_2 14 rfl rfl)
theorem dX4_digest_64 : decode cX4_digest 64 = .ok (.invokevirtual 205, 3) := dk_182 0 205 (dk_at dksX4_digest_2 16 rfl rfl)
theorem dX4_digest_67 : decode cX4_digest 67 = .ok (.i2l, 1) := dk_133 (dk_at dksX4_digest_2 19 rfl rfl)
theorem dX4_digest_68 : decode cX4_digest 68 = .ok (.ladd, 1) := dk_97 (dk_at dksX4_digest_2 20 rfl rfl)
theorem dX4_digest_69 : decode cX4_digest 69 = .ok (.lstore_n 1, 1) := dk_64 (dk_at dksX4_digest_2 21 rfl rfl)
theorem dX4_digest_70 : decode cX4_digest 70 = .ok (.iinc 4 1, 3) := dk_132 4 1 (dk_at dksX4_digest_3 0 rfl rfl)
theorem dX4_digest_73 : decode cX4_digest 73 = .ok (.goto (-25), 3) := dk_167 255 231 (dk_at dksX4_digest_3 3 rfl rfl)
theorem dX4_digest_76 : decode cX4_digest 76 = .ok (.iinc 3 60, 3) := dk_132 3 60 (dk_at dksX4_digest_3 6 rfl rfl)
theorem dX4_digest_79 : decode cX4_digest 79 = .ok (.goto (-41), 3) := dk_167 255 215 (dk_at dksX4_digest_3 9 rfl rfl)
theorem dX4_digest_82 : decode cX4_digest 82 = .ok (.iconst 0, 1) := dk_3 (dk_at dksX4_digest_3 12 rfl rfl)
theorem dX4_digest_83 : decode cX4_digest 83 = .ok (.istore_n 3, 1) := dk_62 (dk_at dksX4_digest_3 13 rfl rfl)
theorem dX4_digest_84 : decode cX4_digest 84 = .ok (.iload_n 3, 1) := dk_29 (dk_at dksX4_digest_3 14 rfl rfl)
theorem dX4_digest_85 : decode cX4_digest 85 = .ok (.aload_n 0, 1) := dk_42 (dk_at dksX4_digest_3 15 rfl rfl)
theorem dX4_digest_86 : decode cX4_digest 86 = .ok (.getfield 7, 3) := dk_180 0 7 (dk_at dksX4_digest_3 16 rfl rfl)
theorem dX4_digest_89 : decode cX4_digest 89 = .ok (.arraylength, 1) := dk_190 (dk_at dksX4_digest_3 19 rfl rfl)
theorem dX4_digest_90 : decode cX4_digest 90 = .ok (.if_icmp .ge 41, 3) := dk_162 0 41 (dk_at dksX4_digest_3 20 rfl rfl)
theorem dX4_digest_93 : decode cX4_digest 93 = .ok (.iconst 0, 1) := dk_3 (dk_at dksX4_digest_3 23 rfl rfl)
theorem dX4_digest_94 : decode cX4_digest 94 = .ok (.istore 4, 2) := dk_54 4 (dk_at dksX4_digest_4 0 rfl rfl)
theorem dX4_digest_96 : decode cX4_digest 96 = .ok (.iload 4, 2) := dk_21 4 (dk_at dksX4_digest_4 2 rfl rfl)
theorem dX4_digest_98 : decode cX4_digest 98 = .ok (.iconst 4, 1) := dk_7 (dk_at dksX4_digest_4 4 rfl rfl)
theorem dX4_digest_99 : decode cX4_digest 99 = .ok (.if_icmp .gt 26, 3) := dk_163 0 26 (dk_at dksX4_digest_4 5 rfl rfl)
theorem dX4_digest_102 : decode cX4_digest 102 = .ok (.lload_n 1, 1) := dk_31 (dk_at dksX4_digest_4 8 rfl rfl)
theorem dX4_digest_103 : decode cX4_digest 103 = .ok (.ldc2_w 332, 3) := dk_20 1 76 (dk_at dksX4_digest_4 9 rfl rfl)
theorem dX4_digest_106 : decode cX4_digest 106 = .ok (.lmul, 1) := dk_105 (dk_at dksX4_digest_4 12 rfl rfl)
theorem dX4_digest_107 : decode cX4_digest 107 = .ok (.aload_n 0, 1) := dk_42 (dk_at dksX4_digest_4 13 rfl rfl)
theorem dX4_digest_108 : decode cX4_digest 108 = .ok (.iload_n 3, 1) := dk_29 (dk_at dksX4_digest_4 14 rfl rfl)
theorem dX4_digest_109 : decode cX4_digest 109 = .ok (.bipush 120, 2) := dk_16 120 (dk_at dksX4_digest_4 15 rfl rfl)
theorem dX4_digest_111 : decode cX4_digest 111 = .ok (.iload 4, 2) := dk_21 4 (dk_at dksX4_digest_4 17 rfl rfl)
theorem dX4_digest_113 : decode cX4_digest 113 = .ok (.invokevirtual 195, 3) := dk_182 0 195 (dk_at dksX4_digest_4 19 rfl rfl)
theorem dX4_digest_116 : decode cX4_digest 116 = .ok (.i2l, 1) := dk_133 (dk_at dksX4_digest_4 22 rfl rfl)
theorem dX4_digest_117 : decode cX4_digest 117 = .ok (.ladd, 1) := dk_97 (dk_at dksX4_digest_4 23 rfl rfl)
theorem dX4_digest_118 : decode cX4_digest 118 = .ok (.lstore_n 1, 1) := dk_64 (dk_at dksX4_digest_5 0 rfl rfl)
theorem dX4_digest_119 : decode cX4_digest 119 = .ok (.iinc 4 1, 3) := dk_132 4 1 (dk_at dksX4_digest_5 1 rfl rfl)
theorem dX4_digest_122 : decode cX4_digest 122 = .ok (.goto (-26), 3) := dk_167 255 230 (dk_at dksX4_digest_5 4 rfl rfl)
theorem dX4_digest_125 : decode cX4_digest 125 = .ok (.iinc 3 1, 3) := dk_132 3 1 (dk_at dksX4_digest_5 7 rfl rfl)
theorem dX4_digest_128 : decode cX4_digest 128 = .ok (.goto (-44), 3) := dk_167 255 212 (dk_at dksX4_digest_5 10 rfl rfl)
theorem dX4_digest_131 : decode cX4_digest 131 = .ok (.iconst 0, 1) := dk_3 (dk_at dksX4_digest_5 13 rfl rfl)
theorem dX4_digest_132 : decode cX4_digest 132 = .ok (.istore_n 3, 1) := dk_62 (dk_at dksX4_digest_5 14 rfl rfl)
theorem dX4_digest_133 : decode cX4_digest 133 = .ok (.iload_n 3, 1) := dk_29 (dk_at dksX4_digest_5 15 rfl rfl)
theorem dX4_digest_134 : decode cX4_digest 134 = .ok (.aload_n 0, 1) := dk_42 (dk_at dksX4_digest_5 16 rfl rfl)
theorem dX4_digest_135 : decode cX4_digest 135 = .ok (.getfield 27, 3) := dk_180 0 27 (dk_at dksX4_digest_5 17 rfl rfl)
theorem dX4_digest_138 : decode cX4_digest 138 = .ok (.invokeinterface 58 1, 5) := by decide +kernel
theorem dX4_digest_143 : decode cX4_digest 143 = .ok (.if_icmp .ge 40, 3) := dk_162 0 40 (dk_at dksX4_digest_6 5 rfl rfl)
theorem dX4_digest_146 : decode cX4_digest 146 = .ok (.iconst 0, 1) := dk_3 (dk_at dksX4_digest_6 8 rfl rfl)
theorem dX4_digest_147 : decode cX4_digest 147 = .ok (.istore 4, 2) := dk_54 4 (dk_at dksX4_digest_6 9 rfl rfl)
theorem dX4_digest_149 : decode cX4_digest 149 = .ok (.iload 4, 2) := dk_21 4 (dk_at dksX4_digest_6 11 rfl rfl)
theorem dX4_digest_151 : decode cX4_digest 151 = .ok (.bipush 8, 2) := dk_16 8 (dk_at dksX4_digest_6 13 rfl rfl)
theorem dX4_digest_153 : decode cX4_digest 153 = .ok (.if_icmp .gt 24, 3) := dk_163 0 24 (dk_at dksX4_digest_6 15 rfl rfl)
theorem dX4_digest_156 : decode cX4_digest 156 = .ok (.lload_n 1, 1) := dk_31 (dk_at dksX4_digest_6 18 rfl rfl)
theorem dX4_digest_157 : decode cX4_digest 157 = .ok (.ldc2_w 332, 3) := dk_20 1 76 (dk_at dksX4_digest_6 19 rfl rfl)
theorem dX4_digest_160 : decode cX4_digest 160 = .ok (.lmul, 1) := dk_105 (dk_at dksX4_digest_6 22 rfl rfl)
theorem dX4_digest_161 : decode cX4_digest 161 = .ok (.aload_n 0, 1) := dk_42 (dk_at dksX4_digest_6 23 rfl rfl)
theorem dX4_digest_162 : decode cX4_digest 162 = .ok (.iload_n 3, 1) := dk_29 (dk_at dksX4_digest_7 0 rfl rfl)
theorem dX4_digest_163 : decode cX4_digest 163 = .ok (.iload 4, 2) := dk_21 4 (dk_at dksX4_digest_7 1 rfl rfl)
theorem dX4_digest_165 : decode cX4_digest 165 = .ok (.invokevirtual 225, 3) := dk_182 0 225 (dk_at dksX4_digest_7 3 rfl rfl)
theorem dX4_digest_168 : decode cX4_digest 168 = .ok (.i2l, 1) := dk_133 (dk_at dksX4_digest_7 6 rfl rfl)
theorem dX4_digest_169 : decode cX4_digest 169 = .ok (.ladd, 1) := dk_97 (dk_at dksX4_digest_7 7 rfl rfl)
theorem dX4_digest_170 : decode cX4_digest 170 = .ok (.lstore_n 1, 1) := dk_64 (dk_at dksX4_digest_7 8 rfl rfl)
theorem dX4_digest_171 : decode cX4_digest 171 = .ok (.iinc 4 1, 3) := dk_132 4 1 (dk_at dksX4_digest_7 9 rfl rfl)
theorem dX4_digest_174 : decode cX4_digest 174 = .ok (.goto (-25), 3) := dk_167 255 231 (dk_at dksX4_digest_7 12 rfl rfl)
theorem dX4_digest_177 : decode cX4_digest 177 = .ok (.iinc 3 1, 3) := dk_132 3 1 (dk_at dksX4_digest_7 15 rfl rfl)
theorem dX4_digest_180 : decode cX4_digest 180 = .ok (.goto (-47), 3) := dk_167 255 209 (dk_at dksX4_digest_7 18 rfl rfl)
theorem dX4_digest_183 : decode cX4_digest 183 = .ok (.iconst 0, 1) := dk_3 (dk_at dksX4_digest_7 21 rfl rfl)
theorem dX4_digest_184 : decode cX4_digest 184 = .ok (.istore_n 3, 1) := dk_62 (dk_at dksX4_digest_7 22 rfl rfl)
theorem dX4_digest_185 : decode cX4_digest 185 = .ok (.iload_n 3, 1) := dk_29 (dk_at dksX4_digest_7 23 rfl rfl)
theorem dX4_digest_186 : decode cX4_digest 186 = .ok (.aload_n 0, 1) := dk_42 (dk_at dksX4_digest_8 0 rfl rfl)
theorem dX4_digest_187 : decode cX4_digest 187 = .ok (.getfield 30, 3) := dk_180 0 30 (dk_at dksX4_digest_8 1 rfl rfl)
theorem dX4_digest_190 : decode cX4_digest 190 = .ok (.invokeinterface 58 1, 5) := by decide +kernel
theorem dX4_digest_195 : decode cX4_digest 195 = .ok (.if_icmp .ge 37, 3) := dk_162 0 37 (dk_at dksX4_digest_8 9 rfl rfl)
theorem dX4_digest_198 : decode cX4_digest 198 = .ok (.lload_n 1, 1) := dk_31 (dk_at dksX4_digest_8 12 rfl rfl)
theorem dX4_digest_199 : decode cX4_digest 199 = .ok (.ldc2_w 332, 3) := dk_20 1 76 (dk_at dksX4_digest_8 13 rfl rfl)
theorem dX4_digest_202 : decode cX4_digest 202 = .ok (.lmul, 1) := dk_105 (dk_at dksX4_digest_8 16 rfl rfl)
theorem dX4_digest_203 : decode cX4_digest 203 = .ok (.aload_n 0, 1) := dk_42 (dk_at dksX4_digest_8 17 rfl rfl)
theorem dX4_digest_204 : decode cX4_digest 204 = .ok (.iload_n 3, 1) := dk_29 (dk_at dksX4_digest_8 18 rfl rfl)
theorem dX4_digest_205 : decode cX4_digest 205 = .ok (.iconst 1, 1) := dk_4 (dk_at dksX4_digest_8 19 rfl rfl)
theorem dX4_digest_206 : decode cX4_digest 206 = .ok (.invokevirtual 208, 3) := dk_182 0 208 (dk_at dksX4_digest_8 20 rfl rfl)
theorem dX4_digest_209 : decode cX4_digest 209 = .ok (.i2l, 1) := dk_133 (dk_at dksX4_digest_8 23 rfl rfl)
theorem dX4_digest_210 : decode cX4_digest 210 = .ok (.ladd, 1) := dk_97 (dk_at dksX4_digest_9 0 rfl rfl)
theorem dX4_digest_211 : decode cX4_digest 211 = .ok (.lstore_n 1, 1) := dk_64 (dk_at dksX4_digest_9 1 rfl rfl)
theorem dX4_digest_212 : decode cX4_digest 212 = .ok (.lload_n 1, 1) := dk_31 (dk_at dksX4_digest_9 2 rfl rfl)
theorem dX4_digest_213 : decode cX4_digest 213 = .ok (.ldc2_w 332, 3) := dk_20 1 76 (dk_at dksX4_digest_9 3 rfl rfl)
theorem dX4_digest_216 : decode cX4_digest 216 = .ok (.lmul, 1) := dk_105 (dk_at dksX4_digest_9 6 rfl rfl)
theorem dX4_digest_217 : decode cX4_digest 217 = .ok (.aload_n 0, 1) := dk_42 (dk_at dksX4_digest_9 7 rfl rfl)
theorem dX4_digest_218 : decode cX4_digest 218 = .ok (.iload_n 3, 1) := dk_29 (dk_at dksX4_digest_9 8 rfl rfl)
theorem dX4_digest_219 : decode cX4_digest 219 = .ok (.iconst 0, 1) := dk_3 (dk_at dksX4_digest_9 9 rfl rfl)
theorem dX4_digest_220 : decode cX4_digest 220 = .ok (.invokevirtual 208, 3) := dk_182 0 208 (dk_at dksX4_digest_9 10 rfl rfl)
theorem dX4_digest_223 : decode cX4_digest 223 = .ok (.i2l, 1) := dk_133 (dk_at dksX4_digest_9 13 rfl rfl)
theorem dX4_digest_224 : decode cX4_digest 224 = .ok (.ladd, 1) := dk_97 (dk_at dksX4_digest_9 14 rfl rfl)
theorem dX4_digest_225 : decode cX4_digest 225 = .ok (.lstore_n 1, 1) := dk_64 (dk_at dksX4_digest_9 15 rfl rfl)
theorem dX4_digest_226 : decode cX4_digest 226 = .ok (.iinc 3 1, 3) := dk_132 3 1 (dk_at dksX4_digest_9 16 rfl rfl)
theorem dX4_digest_229 : decode cX4_digest 229 = .ok (.goto (-44), 3) := dk_167 255 212 (dk_at dksX4_digest_9 19 rfl rfl)
theorem dX4_digest_232 : decode cX4_digest 232 = .ok (.iconst 0, 1) := dk_3 (dk_at dksX4_digest_9 22 rfl rfl)
theorem dX4_digest_233 : decode cX4_digest 233 = .ok (.istore_n 3, 1) := dk_62 (dk_at dksX4_digest_9 23 rfl rfl)
theorem dX4_digest_234 : decode cX4_digest 234 = .ok (.iload_n 3, 1) := dk_29 (dk_at dksX4_digest_10 0 rfl rfl)
theorem dX4_digest_235 : decode cX4_digest 235 = .ok (.aload_n 0, 1) := dk_42 (dk_at dksX4_digest_10 1 rfl rfl)
theorem dX4_digest_236 : decode cX4_digest 236 = .ok (.getfield 42, 3) := dk_180 0 42 (dk_at dksX4_digest_10 2 rfl rfl)
theorem dX4_digest_239 : decode cX4_digest 239 = .ok (.invokeinterface 58 1, 5) := by decide +kernel
theorem dX4_digest_244 : decode cX4_digest 244 = .ok (.if_icmp .ge 40, 3) := dk_162 0 40 (dk_at dksX4_digest_10 10 rfl rfl)
theorem dX4_digest_247 : decode cX4_digest 247 = .ok (.iconst 0, 1) := dk_3 (dk_at dksX4_digest_10 13 rfl rfl)
theorem dX4_digest_248 : decode cX4_digest 248 = .ok (.istore 4, 2) := dk_54 4 (dk_at dksX4_digest_10 14 rfl rfl)
theorem dX4_digest_250 : decode cX4_digest 250 = .ok (.iload 4, 2) := dk_21 4 (dk_at dksX4_digest_10 16 rfl rfl)
theorem dX4_digest_252 : decode cX4_digest 252 = .ok (.bipush 8, 2) := dk_16 8 (dk_at dksX4_digest_10 18 rfl rfl)
theorem dX4_digest_254 : decode cX4_digest 254 = .ok (.if_icmp .gt 24, 3) := dk_163 0 24 (dk_at dksX4_digest_10 20 rfl rfl)
theorem dX4_digest_257 : decode cX4_digest 257 = .ok (.lload_n 1, 1) := dk_31 (dk_at dksX4_digest_10 23 rfl rfl)
theorem dX4_digest_258 : decode cX4_digest 258 = .ok (.ldc2_w 332, 3) := dk_20 1 76 (dk_at dksX4_digest_11 0 rfl rfl)
theorem dX4_digest_261 : decode cX4_digest 261 = .ok (.lmul, 1) := dk_105 (dk_at dksX4_digest_11 3 rfl rfl)
theorem dX4_digest_262 : decode cX4_digest 262 = .ok (.aload_n 0, 1) := dk_42 (dk_at dksX4_digest_11 4 rfl rfl)
theorem dX4_digest_263 : decode cX4_digest 263 = .ok (.iload_n 3, 1) := dk_29 (dk_at dksX4_digest_11 5 rfl rfl)
theorem dX4_digest_264 : decode cX4_digest 264 = .ok (.iload 4, 2) := dk_21 4 (dk_at dksX4_digest_11 6 rfl rfl)
theorem dX4_digest_266 : decode cX4_digest 266 = .ok (.invokevirtual 271, 3) := dk_182 1 15 (dk_at dksX4_digest_11 8 rfl rfl)
theorem dX4_digest_269 : decode cX4_digest 269 = .ok (.i2l, 1) := dk_133 (dk_at dksX4_digest_11 11 rfl rfl)
theorem dX4_digest_270 : decode cX4_digest 270 = .ok (.ladd, 1) := dk_97 (dk_at dksX4_digest_11 12 rfl rfl)
theorem dX4_digest_271 : decode cX4_digest 271 = .ok (.lstore_n 1, 1) := dk_64 (dk_at dksX4_digest_11 13 rfl rfl)
theorem dX4_digest_272 : decode cX4_digest 272 = .ok (.iinc 4 1, 3) := dk_132 4 1 (dk_at dksX4_digest_11 14 rfl rfl)
theorem dX4_digest_275 : decode cX4_digest 275 = .ok (.goto (-25), 3) := dk_167 255 231 (dk_at dksX4_digest_11 17 rfl rfl)
theorem dX4_digest_278 : decode cX4_digest 278 = .ok (.iinc 3 1, 3) := dk_132 3 1 (dk_at dksX4_digest_11 20 rfl rfl)
theorem dX4_digest_281 : decode cX4_digest 281 = .ok (.goto (-47), 3) := dk_167 255 209 (dk_at dksX4_digest_12 0 rfl rfl)
theorem dX4_digest_284 : decode cX4_digest 284 = .ok (.iconst 0, 1) := dk_3 (dk_at dksX4_digest_12 3 rfl rfl)
theorem dX4_digest_285 : decode cX4_digest 285 = .ok (.istore_n 3, 1) := dk_62 (dk_at dksX4_digest_12 4 rfl rfl)
theorem dX4_digest_286 : decode cX4_digest 286 = .ok (.iload_n 3, 1) := dk_29 (dk_at dksX4_digest_12 5 rfl rfl)
theorem dX4_digest_287 : decode cX4_digest 287 = .ok (.aload_n 0, 1) := dk_42 (dk_at dksX4_digest_12 6 rfl rfl)
theorem dX4_digest_288 : decode cX4_digest 288 = .ok (.getfield 45, 3) := dk_180 0 45 (dk_at dksX4_digest_12 7 rfl rfl)
theorem dX4_digest_291 : decode cX4_digest 291 = .ok (.invokeinterface 58 1, 5) := by decide +kernel
theorem dX4_digest_296 : decode cX4_digest 296 = .ok (.if_icmp .ge 39, 3) := dk_162 0 39 (dk_at dksX4_digest_12 15 rfl rfl)
theorem dX4_digest_299 : decode cX4_digest 299 = .ok (.iconst 0, 1) := dk_3 (dk_at dksX4_digest_12 18 rfl rfl)
theorem dX4_digest_300 : decode cX4_digest 300 = .ok (.istore 4, 2) := dk_54 4 (dk_at dksX4_digest_12 19 rfl rfl)
theorem dX4_digest_302 : decode cX4_digest 302 = .ok (.iload 4, 2) := dk_21 4 (dk_at dksX4_digest_12 21 rfl rfl)
theorem dX4_digest_304 : decode cX4_digest 304 = .ok (.iconst 4, 1) := dk_7 (dk_at dksX4_digest_12 23 rfl rfl)
theorem dX4_digest_305 : decode cX4_digest 305 = .ok (.if_icmp .gt 24, 3) := dk_163 0 24 (dk_at dksX4_digest_13 0 rfl rfl)
theorem dX4_digest_308 : decode cX4_digest 308 = .ok (.lload_n 1, 1) := dk_31 (dk_at dksX4_digest_13 3 rfl rfl)
theorem dX4_digest_309 : decode cX4_digest 309 = .ok (.ldc2_w 332, 3) := dk_20 1 76 (dk_at dksX4_digest_13 4 rfl rfl)
theorem dX4_digest_312 : decode cX4_digest 312 = .ok (.lmul, 1) := dk_105 (dk_at dksX4_digest_13 7 rfl rfl)
theorem dX4_digest_313 : decode cX4_digest 313 = .ok (.aload_n 0, 1) := dk_42 (dk_at dksX4_digest_13 8 rfl rfl)
theorem dX4_digest_314 : decode cX4_digest 314 = .ok (.iload_n 3, 1) := dk_29 (dk_at dksX4_digest_13 9 rfl rfl)
theorem dX4_digest_315 : decode cX4_digest 315 = .ok (.iload 4, 2) := dk_21 4 (dk_at dksX4_digest_13 10 rfl rfl)
theorem dX4_digest_317 : decode cX4_digest 317 = .ok (.invokevirtual 277, 3) := dk_182 1 21 (dk_at dksX4_digest_13 12 rfl rfl)
theorem dX4_digest_320 : decode cX4_digest 320 = .ok (.i2l, 1) := dk_133 (dk_at dksX4_digest_13 15 rfl rfl)
theorem dX4_digest_321 : decode cX4_digest 321 = .ok (.ladd, 1) := dk_97 (dk_at dksX4_digest_13 16 rfl rfl)
theorem dX4_digest_322 : decode cX4_digest 322 = .ok (.lstore_n 1, 1) := dk_64 (dk_at dksX4_digest_13 17 rfl rfl)
theorem dX4_digest_323 : decode cX4_digest 323 = .ok (.iinc 4 1, 3) := dk_132 4 1 (dk_at dksX4_digest_13 18 rfl rfl)
theorem dX4_digest_326 : decode cX4_digest 326 = .ok (.goto (-24), 3) := dk_167 255 232 (dk_at dksX4_digest_13 21 rfl rfl)
theorem dX4_digest_329 : decode cX4_digest 329 = .ok (.iinc 3 1, 3) := dk_132 3 1 (dk_at dksX4_digest_14 0 rfl rfl)
theorem dX4_digest_332 : decode cX4_digest 332 = .ok (.goto (-46), 3) := dk_167 255 210 (dk_at dksX4_digest_14 3 rfl rfl)
theorem dX4_digest_335 : decode cX4_digest 335 = .ok (.lload_n 1, 1) := dk_31 (dk_at dksX4_digest_14 6 rfl rfl)
theorem dX4_digest_336 : decode cX4_digest 336 = .ok (.ldc2_w 332, 3) := dk_20 1 76 (dk_at dksX4_digest_14 7 rfl rfl)
theorem dX4_digest_339 : decode cX4_digest 339 = .ok (.lmul, 1) := dk_105 (dk_at dksX4_digest_14 10 rfl rfl)
theorem dX4_digest_340 : decode cX4_digest 340 = .ok (.aload_n 0, 1) := dk_42 (dk_at dksX4_digest_14 11 rfl rfl)
theorem dX4_digest_341 : decode cX4_digest 341 = .ok (.invokevirtual 326, 3) := dk_182 1 70 (dk_at dksX4_digest_14 12 rfl rfl)
theorem dX4_digest_344 : decode cX4_digest 344 = .ok (.ifCond .eq 7, 3) := dk_153 0 7 (dk_at dksX4_digest_14 15 rfl rfl)
theorem dX4_digest_347 : decode cX4_digest 347 = .ok (.iconst 1, 1) := dk_4 (dk_at dksX4_digest_14 18 rfl rfl)
theorem dX4_digest_348 : decode cX4_digest 348 = .ok (.goto 4, 3) := dk_167 0 4 (dk_at dksX4_digest_14 19 rfl rfl)
theorem dX4_digest_351 : decode cX4_digest 351 = .ok (.iconst 0, 1) := dk_3 (dk_at dksX4_digest_14 22 rfl rfl)
theorem dX4_digest_352 : decode cX4_digest 352 = .ok (.i2l, 1) := dk_133 (dk_at dksX4_digest_14 23 rfl rfl)
theorem dX4_digest_353 : decode cX4_digest 353 = .ok (.ladd, 1) := dk_97 (dk_at dksX4_digest_15 0 rfl rfl)
theorem dX4_digest_354 : decode cX4_digest 354 = .ok (.lreturn, 1) := dk_173 (dk_at dksX4_digest_15 1 rfl rfl)
theorem q93 : (Jvm.Cond.initialized "NightwatchWallModel") ∈ lw_all := lw_g (lw_at lw_m1 8 rfl) rfl
theorem q932 : (Jvm.Cond.selects "NightwatchWallModel" ({ cls := "java/lang/Object", name := "getClass", desc := "()Ljava/lang/Class;" } : Jvm.MethodName) ({ cls := "java/lang/Object", name := "getClass", desc := "()Ljava/lang/Class;" } : Jvm.MethodName)) ∈ lw_all := lw_g (lw_at lw_m4 127 rfl) rfl
theorem q1592 : (Jvm.Cond.instantiable "NightwatchWallModel" (20 : Nat)) ∈ lw_all := lw_g (lw_at lw_m7 67 rfl) rfl
theorem q1594 : (Jvm.Cond.instanceMethod ({ cls := "NightwatchWallModel", name := "<init>", desc := "()V" } : Jvm.MethodName)) ∈ lw_all := lw_g (lw_at lw_m7 69 rfl) rfl
theorem q1595 : (Jvm.Cond.code ({ cls := "NightwatchWallModel", name := "<init>", desc := "()V" } : Jvm.MethodName) prog_17_method_1_code (1 : Nat) (Option.none : Option Jvm.ClassFile.FieldType)) ∈ lw_all := lw_g (lw_at lw_m7 70 rfl) rfl
theorem q1596 : (Jvm.Cond.methodLink "NightwatchWallModel" (1 : Nat) ({ cls := "java/lang/Object", name := "<init>", desc := "()V" } : Jvm.MethodName)) ∈ lw_all := lw_g (lw_at lw_m7 71 rfl) rfl
theorem q1597 : (Jvm.Cond.classLink "NightwatchWallModel" (17 : Nat) "java/util/ArrayList") ∈ lw_all := lw_g (lw_at lw_m7 72 rfl) rfl
theorem q1598 : (Jvm.Cond.methodLink "NightwatchWallModel" (19 : Nat) ({ cls := "java/util/ArrayList", name := "<init>", desc := "()V" } : Jvm.MethodName)) ∈ lw_all := lw_g (lw_at lw_m7 73 rfl) rfl
theorem q1599 : (Jvm.Cond.methodLink "NightwatchWallModel" (48 : Nat) ({ cls := "NightwatchWallModel", name := "begin", desc := "()V" } : Jvm.MethodName)) ∈ lw_all := lw_g (lw_at lw_m7 74 rfl) rfl
theorem q1600 : (Jvm.Cond.privateMethod ({ cls := "NightwatchWallModel", name := "begin", desc := "()V" } : Jvm.MethodName)) ∈ lw_tbl := lw_at lw_m7 75 rfl
theorem q1601 : (Jvm.Cond.instanceMethod ({ cls := "NightwatchWallModel", name := "begin", desc := "()V" } : Jvm.MethodName)) ∈ lw_all := lw_g (lw_at lw_m7 76 rfl) rfl
theorem q1602 : (Jvm.Cond.code ({ cls := "NightwatchWallModel", name := "begin", desc := "()V" } : Jvm.MethodName) prog_17_method_10_code (2 : Nat) (Option.none : Option Jvm.ClassFile.FieldType)) ∈ lw_all := lw_g (lw_at lw_m7 77 rfl) rfl
theorem q1603 : (Jvm.Cond.methodLink "NightwatchWallModel" (67 : Nat) ({ cls := "NightwatchWallModel", name := "after", desc := "(I)I" } : Jvm.MethodName)) ∈ lw_all := lw_g (lw_at lw_m7 78 rfl) rfl
theorem q1604 : (Jvm.Cond.static ({ cls := "NightwatchWallModel", name := "after", desc := "(I)I" } : Jvm.MethodName)) ∈ lw_all := lw_g (lw_at lw_m7 79 rfl) rfl
theorem q1605 : (Jvm.Cond.code ({ cls := "NightwatchWallModel", name := "after", desc := "(I)I" } : Jvm.MethodName) prog_17_method_9_code (1 : Nat) (Option.some Jvm.ClassFile.FieldType.int)) ∈ lw_all := lw_g (lw_at lw_m7 80 rfl) rfl
theorem q1606 : (Jvm.Cond.interfaceEntry "NightwatchWallModel" (58 : Nat)) ∈ lw_tbl := lw_at lw_m7 81 rfl
theorem q1607 : (Jvm.Cond.methodLink "NightwatchWallModel" (58 : Nat) ({ cls := "java/util/List", name := "size", desc := "()I" } : Jvm.MethodName)) ∈ lw_all := lw_g (lw_at lw_m7 82 rfl) rfl
theorem q1614 : (Jvm.Cond.interfaceEntry "NightwatchWallModel" (80 : Nat)) ∈ lw_tbl := lw_at lw_m7 89 rfl
theorem q1615 : (Jvm.Cond.methodLink "NightwatchWallModel" (80 : Nat) ({ cls := "java/util/List", name := "get", desc := "(I)Ljava/lang/Object;" } : Jvm.MethodName)) ∈ lw_all := lw_g (lw_at lw_m7 90 rfl) rfl
theorem q1621 : (Jvm.Cond.classLink "NightwatchWallModel" (84 : Nat) "NightwatchWallModel$Guard") ∈ lw_all := lw_g (lw_at lw_m7 96 rfl) rfl
theorem q1622 : (Jvm.Cond.fieldLink "NightwatchWallModel" (51 : Nat) "NightwatchWallModel" "thrown" "I") ∈ lw_all := lw_g (lw_at lw_m7 97 rfl) rfl
theorem q1623 : (Jvm.Cond.fieldLink "NightwatchWallModel" (92 : Nat) "NightwatchWallModel" "wide" "I") ∈ lw_all := lw_g (lw_at lw_m7 98 rfl) rfl
theorem q1624 : (Jvm.Cond.fieldLink "NightwatchWallModel" (143 : Nat) "NightwatchWallModel" "high" "I") ∈ lw_all := lw_g (lw_at lw_m7 99 rfl) rfl
theorem q1625 : (Jvm.Cond.fieldLink "NightwatchWallModel" (7 : Nat) "NightwatchWallModel" "kinds" "[I") ∈ lw_all := lw_g (lw_at lw_m7 100 rfl) rfl
theorem q1626 : (Jvm.Cond.fieldLink "NightwatchWallModel" (137 : Nat) "NightwatchWallModel" "openFrom" "I") ∈ lw_all := lw_g (lw_at lw_m7 101 rfl) rfl
theorem q1627 : (Jvm.Cond.fieldLink "NightwatchWallModel" (13 : Nat) "NightwatchWallModel" "openTo" "I") ∈ lw_all := lw_g (lw_at lw_m7 102 rfl) rfl
theorem q1628 : (Jvm.Cond.fieldLink "NightwatchWallModel" (20 : Nat) "NightwatchWallModel" "lamps" "Ljava/util/List;") ∈ lw_all := lw_g (lw_at lw_m7 103 rfl) rfl
theorem q1629 : (Jvm.Cond.fieldLink "NightwatchWallModel" (24 : Nat) "NightwatchWallModel" "fogs" "Ljava/util/List;") ∈ lw_all := lw_g (lw_at lw_m7 104 rfl) rfl
theorem q1630 : (Jvm.Cond.fieldLink "NightwatchWallModel" (27 : Nat) "NightwatchWallModel" "guards" "Ljava/util/List;") ∈ lw_all := lw_g (lw_at lw_m7 105 rfl) rfl
theorem q1631 : (Jvm.Cond.fieldLink "NightwatchWallModel" (30 : Nat) "NightwatchWallModel" "posts" "Ljava/util/List;") ∈ lw_all := lw_g (lw_at lw_m7 106 rfl) rfl
theorem q1632 : (Jvm.Cond.fieldLink "NightwatchWallModel" (64 : Nat) "NightwatchWallModel" "seed" "I") ∈ lw_all := lw_g (lw_at lw_m7 107 rfl) rfl
theorem q1633 : (Jvm.Cond.fieldLink "NightwatchWallModel" (74 : Nat) "NightwatchWallModel" "leaks" "I") ∈ lw_all := lw_g (lw_at lw_m7 108 rfl) rfl
theorem q1634 : (Jvm.Cond.fieldLink "NightwatchWallModel" (71 : Nat) "NightwatchWallModel" "next" "I") ∈ lw_all := lw_g (lw_at lw_m7 109 rfl) rfl
theorem q1635 : (Jvm.Cond.fieldLink "NightwatchWallModel" (33 : Nat) "NightwatchWallModel" "words" "[I") ∈ lw_all := lw_g (lw_at lw_m7 110 rfl) rfl
theorem q1636 : (Jvm.Cond.fieldLink "NightwatchWallModel" (36 : Nat) "NightwatchWallModel" "old" "Ljava/util/List;") ∈ lw_all := lw_g (lw_at lw_m7 111 rfl) rfl
theorem q1637 : (Jvm.Cond.fieldLink "NightwatchWallModel" (77 : Nat) "NightwatchWallModel" "right" "I") ∈ lw_all := lw_g (lw_at lw_m7 112 rfl) rfl
theorem q1638 : (Jvm.Cond.fieldLink "NightwatchWallModel" (39 : Nat) "NightwatchWallModel" "keys" "[I") ∈ lw_all := lw_g (lw_at lw_m7 113 rfl) rfl
theorem q1639 : (Jvm.Cond.fieldLink "NightwatchWallModel" (42 : Nat) "NightwatchWallModel" "intruders" "Ljava/util/List;") ∈ lw_all := lw_g (lw_at lw_m7 114 rfl) rfl
theorem q1640 : (Jvm.Cond.fieldLink "NightwatchWallModel" (45 : Nat) "NightwatchWallModel" "wires" "Ljava/util/List;") ∈ lw_all := lw_g (lw_at lw_m7 115 rfl) rfl
theorem q1641 : (Jvm.Cond.fieldLink "NightwatchWallModel" (294 : Nat) "NightwatchWallModel" "refused" "I") ∈ lw_all := lw_g (lw_at lw_m7 116 rfl) rfl
theorem q1642 : (Jvm.Cond.lays "NightwatchWallModel" "NightwatchWallModel" "thrown" "I") ∈ lw_all := lw_g (lw_at lw_m7 117 rfl) rfl
theorem q1643 : (Jvm.Cond.soleField "NightwatchWallModel" "thrown") ∈ lw_all := lw_g (lw_at lw_m7 118 rfl) rfl
theorem q1644 : (Jvm.Cond.lays "NightwatchWallModel" "NightwatchWallModel" "wide" "I") ∈ lw_all := lw_g (lw_at lw_m7 119 rfl) rfl
theorem q1645 : (Jvm.Cond.soleField "NightwatchWallModel" "wide") ∈ lw_all := lw_g (lw_at lw_m7 120 rfl) rfl
theorem q1646 : (Jvm.Cond.lays "NightwatchWallModel" "NightwatchWallModel" "high" "I") ∈ lw_all := lw_g (lw_at lw_m7 121 rfl) rfl
theorem q1647 : (Jvm.Cond.soleField "NightwatchWallModel" "high") ∈ lw_all := lw_g (lw_at lw_m7 122 rfl) rfl
theorem q1648 : (Jvm.Cond.lays "NightwatchWallModel" "NightwatchWallModel" "kinds" "[I") ∈ lw_all := lw_g (lw_at lw_m7 123 rfl) rfl
theorem q1649 : (Jvm.Cond.soleField "NightwatchWallModel" "kinds") ∈ lw_all := lw_g (lw_at lw_m7 124 rfl) rfl
theorem q1650 : (Jvm.Cond.lays "NightwatchWallModel" "NightwatchWallModel" "openFrom" "I") ∈ lw_all := lw_g (lw_at lw_m7 125 rfl) rfl
theorem q1651 : (Jvm.Cond.soleField "NightwatchWallModel" "openFrom") ∈ lw_all := lw_g (lw_at lw_m7 126 rfl) rfl
theorem q1652 : (Jvm.Cond.lays "NightwatchWallModel" "NightwatchWallModel" "openTo" "I") ∈ lw_all := lw_g (lw_at lw_m7 127 rfl) rfl
theorem q1653 : (Jvm.Cond.soleField "NightwatchWallModel" "openTo") ∈ lw_all := lw_g (lw_at lw_m7 128 rfl) rfl
theorem q1654 : (Jvm.Cond.lays "NightwatchWallModel" "NightwatchWallModel" "lamps" "Ljava/util/List;") ∈ lw_all := lw_g (lw_at lw_m7 129 rfl) rfl
theorem q1655 : (Jvm.Cond.soleField "NightwatchWallModel" "lamps") ∈ lw_all := lw_g (lw_at lw_m7 130 rfl) rfl
theorem q1656 : (Jvm.Cond.lays "NightwatchWallModel" "NightwatchWallModel" "fogs" "Ljava/util/List;") ∈ lw_all := lw_g (lw_at lw_m7 131 rfl) rfl
theorem q1657 : (Jvm.Cond.soleField "NightwatchWallModel" "fogs") ∈ lw_all := lw_g (lw_at lw_m7 132 rfl) rfl
theorem q1658 : (Jvm.Cond.lays "NightwatchWallModel" "NightwatchWallModel" "guards" "Ljava/util/List;") ∈ lw_all := lw_g (lw_at lw_m7 133 rfl) rfl
theorem q1659 : (Jvm.Cond.soleField "NightwatchWallModel" "guards") ∈ lw_all := lw_g (lw_at lw_m7 134 rfl) rfl
theorem q1660 : (Jvm.Cond.lays "NightwatchWallModel" "NightwatchWallModel" "posts" "Ljava/util/List;") ∈ lw_all := lw_g (lw_at lw_m7 135 rfl) rfl
theorem q1661 : (Jvm.Cond.soleField "NightwatchWallModel" "posts") ∈ lw_all := lw_g (lw_at lw_m7 136 rfl) rfl
theorem q1662 : (Jvm.Cond.lays "NightwatchWallModel" "NightwatchWallModel" "seed" "I") ∈ lw_all := lw_g (lw_at lw_m7 137 rfl) rfl
theorem q1663 : (Jvm.Cond.soleField "NightwatchWallModel" "seed") ∈ lw_all := lw_g (lw_at lw_m7 138 rfl) rfl
theorem q1664 : (Jvm.Cond.lays "NightwatchWallModel" "NightwatchWallModel" "leaks" "I") ∈ lw_all := lw_g (lw_at lw_m7 139 rfl) rfl
theorem q1665 : (Jvm.Cond.soleField "NightwatchWallModel" "leaks") ∈ lw_all := lw_g (lw_at lw_m7 140 rfl) rfl
theorem q1666 : (Jvm.Cond.lays "NightwatchWallModel" "NightwatchWallModel" "next" "I") ∈ lw_all := lw_g (lw_at lw_m7 141 rfl) rfl
theorem q1667 : (Jvm.Cond.soleField "NightwatchWallModel" "next") ∈ lw_all := lw_g (lw_at lw_m7 142 rfl) rfl
theorem q1668 : (Jvm.Cond.laysFinal "NightwatchWallModel" "NightwatchWallModel" "words" "[I") ∈ lw_all := lw_g (lw_at lw_m7 143 rfl) rfl
theorem q1669 : (Jvm.Cond.soleField "NightwatchWallModel" "words") ∈ lw_all := lw_g (lw_at lw_m7 144 rfl) rfl
theorem q1670 : (Jvm.Cond.lays "NightwatchWallModel" "NightwatchWallModel" "old" "Ljava/util/List;") ∈ lw_all := lw_g (lw_at lw_m7 145 rfl) rfl
theorem q1671 : (Jvm.Cond.soleField "NightwatchWallModel" "old") ∈ lw_all := lw_g (lw_at lw_m7 146 rfl) rfl
theorem q1672 : (Jvm.Cond.lays "NightwatchWallModel" "NightwatchWallModel" "right" "I") ∈ lw_all := lw_g (lw_at lw_m7 147 rfl) rfl
theorem q1673 : (Jvm.Cond.soleField "NightwatchWallModel" "right") ∈ lw_all := lw_g (lw_at lw_m7 148 rfl) rfl
theorem q1674 : (Jvm.Cond.laysFinal "NightwatchWallModel" "NightwatchWallModel" "keys" "[I") ∈ lw_all := lw_g (lw_at lw_m7 149 rfl) rfl
theorem q1675 : (Jvm.Cond.soleField "NightwatchWallModel" "keys") ∈ lw_all := lw_g (lw_at lw_m7 150 rfl) rfl
theorem q1676 : (Jvm.Cond.lays "NightwatchWallModel" "NightwatchWallModel" "intruders" "Ljava/util/List;") ∈ lw_all := lw_g (lw_at lw_m7 151 rfl) rfl
theorem q1677 : (Jvm.Cond.soleField "NightwatchWallModel" "intruders") ∈ lw_all := lw_g (lw_at lw_m7 152 rfl) rfl
theorem q1678 : (Jvm.Cond.lays "NightwatchWallModel" "NightwatchWallModel" "wires" "Ljava/util/List;") ∈ lw_all := lw_g (lw_at lw_m7 153 rfl) rfl
theorem q1679 : (Jvm.Cond.soleField "NightwatchWallModel" "wires") ∈ lw_all := lw_g (lw_at lw_m7 154 rfl) rfl
theorem q1680 : (Jvm.Cond.lays "NightwatchWallModel" "NightwatchWallModel" "refused" "I") ∈ lw_all := lw_g (lw_at lw_m7 155 rfl) rfl
theorem q1681 : (Jvm.Cond.soleField "NightwatchWallModel" "refused") ∈ lw_all := lw_g (lw_at lw_m7 156 rfl) rfl
theorem q1682 : (Jvm.Cond.superclass "NightwatchWallModel" "java/lang/Object") ∈ lw_all := lw_g (lw_at lw_m7 157 rfl) rfl
theorem q1684 : (Jvm.Cond.instanceMethod ({ cls := "NightwatchWallModel", name := "thrown", desc := "()I" } : Jvm.MethodName)) ∈ lw_all := lw_g (lw_at lw_m7 159 rfl) rfl
theorem q1685 : (Jvm.Cond.selects "NightwatchWallModel" ({ cls := "NightwatchWallModel", name := "thrown", desc := "()I" } : Jvm.MethodName) ({ cls := "NightwatchWallModel", name := "thrown", desc := "()I" } : Jvm.MethodName)) ∈ lw_all := lw_g (lw_at lw_m7 160 rfl) rfl
theorem q1686 : (Jvm.Cond.code ({ cls := "NightwatchWallModel", name := "thrown", desc := "()I" } : Jvm.MethodName) prog_17_method_2_code (1 : Nat) (Option.some Jvm.ClassFile.FieldType.int)) ∈ lw_all := lw_g (lw_at lw_m7 161 rfl) rfl
theorem q1688 : (Jvm.Cond.instanceMethod ({ cls := "NightwatchWallModel", name := "base", desc := "(III)I" } : Jvm.MethodName)) ∈ lw_all := lw_g (lw_at lw_m7 163 rfl) rfl
theorem q1689 : (Jvm.Cond.selects "NightwatchWallModel" ({ cls := "NightwatchWallModel", name := "base", desc := "(III)I" } : Jvm.MethodName) ({ cls := "NightwatchWallModel", name := "base", desc := "(III)I" } : Jvm.MethodName)) ∈ lw_all := lw_g (lw_at lw_m7 164 rfl) rfl
theorem q1690 : (Jvm.Cond.code ({ cls := "NightwatchWallModel", name := "base", desc := "(III)I" } : Jvm.MethodName) prog_17_method_21_code (8 : Nat) (Option.some Jvm.ClassFile.FieldType.int)) ∈ lw_all := lw_g (lw_at lw_m7 165 rfl) rfl
theorem q1691 : (Jvm.Cond.methodLink "NightwatchWallModel" (54 : Nat) ({ cls := "NightwatchWallModel", name := "in", desc := "(III)Z" } : Jvm.MethodName)) ∈ lw_all := lw_g (lw_at lw_m7 166 rfl) rfl
theorem q1692 : (Jvm.Cond.static ({ cls := "NightwatchWallModel", name := "in", desc := "(III)Z" } : Jvm.MethodName)) ∈ lw_all := lw_g (lw_at lw_m7 167 rfl) rfl
theorem q1693 : (Jvm.Cond.code ({ cls := "NightwatchWallModel", name := "in", desc := "(III)Z" } : Jvm.MethodName) prog_17_method_4_code (3 : Nat) (Option.some Jvm.ClassFile.FieldType.boolean)) ∈ lw_all := lw_g (lw_at lw_m7 168 rfl) rfl
theorem q1694 : (Jvm.Cond.methodLink "NightwatchWallModel" (140 : Nat) ({ cls := "NightwatchWallModel", name := "no", desc := "(I)I" } : Jvm.MethodName)) ∈ lw_all := lw_g (lw_at lw_m7 169 rfl) rfl
theorem q1695 : (Jvm.Cond.privateMethod ({ cls := "NightwatchWallModel", name := "no", desc := "(I)I" } : Jvm.MethodName)) ∈ lw_tbl := lw_at lw_m7 170 rfl
theorem q1696 : (Jvm.Cond.instanceMethod ({ cls := "NightwatchWallModel", name := "no", desc := "(I)I" } : Jvm.MethodName)) ∈ lw_all := lw_g (lw_at lw_m7 171 rfl) rfl
theorem q1697 : (Jvm.Cond.code ({ cls := "NightwatchWallModel", name := "no", desc := "(I)I" } : Jvm.MethodName) prog_17_method_3_code (2 : Nat) (Option.some Jvm.ClassFile.FieldType.int)) ∈ lw_all := lw_g (lw_at lw_m7 172 rfl) rfl
theorem q1699 : (Jvm.Cond.instanceMethod ({ cls := "NightwatchWallModel", name := "lay", desc := "(II)I" } : Jvm.MethodName)) ∈ lw_all := lw_g (lw_at lw_m7 174 rfl) rfl
theorem q1700 : (Jvm.Cond.selects "NightwatchWallModel" ({ cls := "NightwatchWallModel", name := "lay", desc := "(II)I" } : Jvm.MethodName) ({ cls := "NightwatchWallModel", name := "lay", desc := "(II)I" } : Jvm.MethodName)) ∈ lw_all := lw_g (lw_at lw_m7 175 rfl) rfl
theorem q1701 : (Jvm.Cond.code ({ cls := "NightwatchWallModel", name := "lay", desc := "(II)I" } : Jvm.MethodName) prog_17_method_23_code (4 : Nat) (Option.some Jvm.ClassFile.FieldType.int)) ∈ lw_all := lw_g (lw_at lw_m7 176 rfl) rfl
theorem q1702 : (Jvm.Cond.methodLink "NightwatchWallModel" (157 : Nat) ({ cls := "NightwatchWallModel", name := "isCell", desc := "(I)Z" } : Jvm.MethodName)) ∈ lw_all := lw_g (lw_at lw_m7 177 rfl) rfl
theorem q1703 : (Jvm.Cond.privateMethod ({ cls := "NightwatchWallModel", name := "isCell", desc := "(I)Z" } : Jvm.MethodName)) ∈ lw_tbl := lw_at lw_m7 178 rfl
theorem q1704 : (Jvm.Cond.instanceMethod ({ cls := "NightwatchWallModel", name := "isCell", desc := "(I)Z" } : Jvm.MethodName)) ∈ lw_all := lw_g (lw_at lw_m7 179 rfl) rfl
theorem q1705 : (Jvm.Cond.code ({ cls := "NightwatchWallModel", name := "isCell", desc := "(I)Z" } : Jvm.MethodName) prog_17_method_6_code (2 : Nat) (Option.some Jvm.ClassFile.FieldType.boolean)) ∈ lw_all := lw_g (lw_at lw_m7 180 rfl) rfl
theorem q1706 : (Jvm.Cond.methodLink "NightwatchWallModel" (160 : Nat) ({ cls := "NightwatchWallModel", name := "isTaken", desc := "(I)Z" } : Jvm.MethodName)) ∈ lw_all := lw_g (lw_at lw_m7 181 rfl) rfl
theorem q1707 : (Jvm.Cond.privateMethod ({ cls := "NightwatchWallModel", name := "isTaken", desc := "(I)Z" } : Jvm.MethodName)) ∈ lw_tbl := lw_at lw_m7 182 rfl
theorem q1708 : (Jvm.Cond.instanceMethod ({ cls := "NightwatchWallModel", name := "isTaken", desc := "(I)Z" } : Jvm.MethodName)) ∈ lw_all := lw_g (lw_at lw_m7 183 rfl) rfl
theorem q1709 : (Jvm.Cond.code ({ cls := "NightwatchWallModel", name := "isTaken", desc := "(I)Z" } : Jvm.MethodName) prog_17_method_22_code (4 : Nat) (Option.some Jvm.ClassFile.FieldType.boolean)) ∈ lw_all := lw_g (lw_at lw_m7 184 rfl) rfl
theorem q1710 : (Jvm.Cond.classLink "NightwatchWallModel" (116 : Nat) "[I") ∈ lw_all := lw_g (lw_at lw_m7 185 rfl) rfl
theorem q1711 : (Jvm.Cond.classLink "NightwatchWallModel" (108 : Nat) "java/lang/Integer") ∈ lw_all := lw_g (lw_at lw_m7 186 rfl) rfl
theorem q1712 : (Jvm.Cond.methodLink "NightwatchWallModel" (146 : Nat) ({ cls := "java/lang/Integer", name := "intValue", desc := "()I" } : Jvm.MethodName)) ∈ lw_all := lw_g (lw_at lw_m7 187 rfl) rfl
theorem q1713 : (Jvm.Cond.classLink "NightwatchWallModel" (152 : Nat) "NightwatchWallModel$Intruder") ∈ lw_all := lw_g (lw_at lw_m7 188 rfl) rfl
theorem q1714 : (Jvm.Cond.methodLink "NightwatchWallModel" (154 : Nat) ({ cls := "NightwatchWallModel$Intruder", name := "where", desc := "(I)I" } : Jvm.MethodName)) ∈ lw_all := lw_g (lw_at lw_m7 189 rfl) rfl
theorem q1719 : (Jvm.Cond.instanceMethod ({ cls := "NightwatchWallModel", name := "gates", desc := "(II)I" } : Jvm.MethodName)) ∈ lw_all := lw_g (lw_at lw_m7 194 rfl) rfl
theorem q1720 : (Jvm.Cond.selects "NightwatchWallModel" ({ cls := "NightwatchWallModel", name := "gates", desc := "(II)I" } : Jvm.MethodName) ({ cls := "NightwatchWallModel", name := "gates", desc := "(II)I" } : Jvm.MethodName)) ∈ lw_all := lw_g (lw_at lw_m7 195 rfl) rfl
theorem q1721 : (Jvm.Cond.code ({ cls := "NightwatchWallModel", name := "gates", desc := "(II)I" } : Jvm.MethodName) prog_17_method_24_code (8 : Nat) (Option.some Jvm.ClassFile.FieldType.int)) ∈ lw_all := lw_g (lw_at lw_m7 196 rfl) rfl
theorem q1722 : (Jvm.Cond.methodLink "NightwatchWallModel" (163 : Nat) ({ cls := "NightwatchWallModel", name := "isMinute", desc := "(I)Z" } : Jvm.MethodName)) ∈ lw_all := lw_g (lw_at lw_m7 197 rfl) rfl
theorem q1723 : (Jvm.Cond.static ({ cls := "NightwatchWallModel", name := "isMinute", desc := "(I)Z" } : Jvm.MethodName)) ∈ lw_all := lw_g (lw_at lw_m7 198 rfl) rfl
theorem q1724 : (Jvm.Cond.code ({ cls := "NightwatchWallModel", name := "isMinute", desc := "(I)Z" } : Jvm.MethodName) prog_17_method_5_code (1 : Nat) (Option.some Jvm.ClassFile.FieldType.boolean)) ∈ lw_all := lw_g (lw_at lw_m7 199 rfl) rfl
theorem q1726 : (Jvm.Cond.instanceMethod ({ cls := "NightwatchWallModel", name := "lamp", desc := "(II)I" } : Jvm.MethodName)) ∈ lw_all := lw_g (lw_at lw_m7 201 rfl) rfl
theorem q1727 : (Jvm.Cond.selects "NightwatchWallModel" ({ cls := "NightwatchWallModel", name := "lamp", desc := "(II)I" } : Jvm.MethodName) ({ cls := "NightwatchWallModel", name := "lamp", desc := "(II)I" } : Jvm.MethodName)) ∈ lw_all := lw_g (lw_at lw_m7 202 rfl) rfl
theorem q1728 : (Jvm.Cond.code ({ cls := "NightwatchWallModel", name := "lamp", desc := "(II)I" } : Jvm.MethodName) prog_17_method_25_code (3 : Nat) (Option.some Jvm.ClassFile.FieldType.int)) ∈ lw_all := lw_g (lw_at lw_m7 203 rfl) rfl
theorem q1729 : (Jvm.Cond.interfaceEntry "NightwatchWallModel" (166 : Nat)) ∈ lw_tbl := lw_at lw_m7 204 rfl
theorem q1730 : (Jvm.Cond.methodLink "NightwatchWallModel" (166 : Nat) ({ cls := "java/util/List", name := "add", desc := "(Ljava/lang/Object;)Z" } : Jvm.MethodName)) ∈ lw_all := lw_g (lw_at lw_m7 205 rfl) rfl
theorem q1737 : (Jvm.Cond.instanceMethod ({ cls := "NightwatchWallModel", name := "light", desc := "(IZ)I" } : Jvm.MethodName)) ∈ lw_all := lw_g (lw_at lw_m7 212 rfl) rfl
theorem q1738 : (Jvm.Cond.selects "NightwatchWallModel" ({ cls := "NightwatchWallModel", name := "light", desc := "(IZ)I" } : Jvm.MethodName) ({ cls := "NightwatchWallModel", name := "light", desc := "(IZ)I" } : Jvm.MethodName)) ∈ lw_all := lw_g (lw_at lw_m7 213 rfl) rfl
theorem q1739 : (Jvm.Cond.code ({ cls := "NightwatchWallModel", name := "light", desc := "(IZ)I" } : Jvm.MethodName) prog_17_method_26_code (3 : Nat) (Option.some Jvm.ClassFile.FieldType.int)) ∈ lw_all := lw_g (lw_at lw_m7 214 rfl) rfl
theorem q1740 : (Jvm.Cond.methodLink "NightwatchWallModel" (170 : Nat) ({ cls := "NightwatchWallModel", name := "brights", desc := "()I" } : Jvm.MethodName)) ∈ lw_all := lw_g (lw_at lw_m7 215 rfl) rfl
theorem q1741 : (Jvm.Cond.privateMethod ({ cls := "NightwatchWallModel", name := "brights", desc := "()I" } : Jvm.MethodName)) ∈ lw_tbl := lw_at lw_m7 216 rfl
theorem q1742 : (Jvm.Cond.instanceMethod ({ cls := "NightwatchWallModel", name := "brights", desc := "()I" } : Jvm.MethodName)) ∈ lw_all := lw_g (lw_at lw_m7 217 rfl) rfl
theorem q1743 : (Jvm.Cond.code ({ cls := "NightwatchWallModel", name := "brights", desc := "()I" } : Jvm.MethodName) prog_17_method_15_code (3 : Nat) (Option.some Jvm.ClassFile.FieldType.int)) ∈ lw_all := lw_g (lw_at lw_m7 218 rfl) rfl
theorem q1744 : (Jvm.Cond.methodLink "NightwatchWallModel" (120 : Nat) ({ cls := "NightwatchWallModel", name := "isBright", desc := "(I)Z" } : Jvm.MethodName)) ∈ lw_all := lw_g (lw_at lw_m7 219 rfl) rfl
theorem q1745 : (Jvm.Cond.privateMethod ({ cls := "NightwatchWallModel", name := "isBright", desc := "(I)Z" } : Jvm.MethodName)) ∈ lw_tbl := lw_at lw_m7 220 rfl
theorem q1746 : (Jvm.Cond.instanceMethod ({ cls := "NightwatchWallModel", name := "isBright", desc := "(I)Z" } : Jvm.MethodName)) ∈ lw_all := lw_g (lw_at lw_m7 221 rfl) rfl
theorem q1747 : (Jvm.Cond.code ({ cls := "NightwatchWallModel", name := "isBright", desc := "(I)Z" } : Jvm.MethodName) prog_17_method_14_code (3 : Nat) (Option.some Jvm.ClassFile.FieldType.boolean)) ∈ lw_all := lw_g (lw_at lw_m7 222 rfl) rfl
theorem q1748 : (Jvm.Cond.methodLink "NightwatchWallModel" (117 : Nat) ({ cls := "NightwatchWallModel", name := "isLitBy", desc := "(III)Z" } : Jvm.MethodName)) ∈ lw_all := lw_g (lw_at lw_m7 223 rfl) rfl
theorem q1749 : (Jvm.Cond.privateMethod ({ cls := "NightwatchWallModel", name := "isLitBy", desc := "(III)Z" } : Jvm.MethodName)) ∈ lw_tbl := lw_at lw_m7 224 rfl
theorem q1750 : (Jvm.Cond.instanceMethod ({ cls := "NightwatchWallModel", name := "isLitBy", desc := "(III)Z" } : Jvm.MethodName)) ∈ lw_all := lw_g (lw_at lw_m7 225 rfl) rfl
theorem q1751 : (Jvm.Cond.code ({ cls := "NightwatchWallModel", name := "isLitBy", desc := "(III)Z" } : Jvm.MethodName) prog_17_method_13_code (4 : Nat) (Option.some Jvm.ClassFile.FieldType.boolean)) ∈ lw_all := lw_g (lw_at lw_m7 226 rfl) rfl
theorem q1752 : (Jvm.Cond.methodLink "NightwatchWallModel" (104 : Nat) ({ cls := "NightwatchWallModel", name := "apart", desc := "(II)I" } : Jvm.MethodName)) ∈ lw_all := lw_g (lw_at lw_m7 227 rfl) rfl
theorem q1753 : (Jvm.Cond.privateMethod ({ cls := "NightwatchWallModel", name := "apart", desc := "(II)I" } : Jvm.MethodName)) ∈ lw_tbl := lw_at lw_m7 228 rfl
theorem q1754 : (Jvm.Cond.instanceMethod ({ cls := "NightwatchWallModel", name := "apart", desc := "(II)I" } : Jvm.MethodName)) ∈ lw_all := lw_g (lw_at lw_m7 229 rfl) rfl
theorem q1755 : (Jvm.Cond.code ({ cls := "NightwatchWallModel", name := "apart", desc := "(II)I" } : Jvm.MethodName) prog_17_method_11_code (3 : Nat) (Option.some Jvm.ClassFile.FieldType.int)) ∈ lw_all := lw_g (lw_at lw_m7 230 rfl) rfl
theorem q1756 : (Jvm.Cond.methodLink "NightwatchWallModel" (95 : Nat) ({ cls := "java/lang/Math", name := "abs", desc := "(I)I" } : Jvm.MethodName)) ∈ lw_all := lw_g (lw_at lw_m7 231 rfl) rfl
theorem q1757 : (Jvm.Cond.methodLink "NightwatchWallModel" (100 : Nat) ({ cls := "java/lang/Math", name := "max", desc := "(II)I" } : Jvm.MethodName)) ∈ lw_all := lw_g (lw_at lw_m7 232 rfl) rfl
theorem q1758 : (Jvm.Cond.methodLink "NightwatchWallModel" (112 : Nat) ({ cls := "NightwatchWallModel", name := "isClear", desc := "(II)Z" } : Jvm.MethodName)) ∈ lw_all := lw_g (lw_at lw_m7 233 rfl) rfl
theorem q1759 : (Jvm.Cond.privateMethod ({ cls := "NightwatchWallModel", name := "isClear", desc := "(II)Z" } : Jvm.MethodName)) ∈ lw_tbl := lw_at lw_m7 234 rfl
theorem q1760 : (Jvm.Cond.instanceMethod ({ cls := "NightwatchWallModel", name := "isClear", desc := "(II)Z" } : Jvm.MethodName)) ∈ lw_all := lw_g (lw_at lw_m7 235 rfl) rfl
theorem q1761 : (Jvm.Cond.code ({ cls := "NightwatchWallModel", name := "isClear", desc := "(II)Z" } : Jvm.MethodName) prog_17_method_12_code (8 : Nat) (Option.some Jvm.ClassFile.FieldType.boolean)) ∈ lw_all := lw_g (lw_at lw_m7 236 rfl) rfl
theorem q1762 : (Jvm.Cond.methodLink "NightwatchWallModel" (107 : Nat) ({ cls := "java/lang/Integer", name := "signum", desc := "(I)I" } : Jvm.MethodName)) ∈ lw_all := lw_g (lw_at lw_m7 237 rfl) rfl
theorem q1764 : (Jvm.Cond.instanceMethod ({ cls := "NightwatchWallModel", name := "fog", desc := "(II)I" } : Jvm.MethodName)) ∈ lw_all := lw_g (lw_at lw_m7 239 rfl) rfl
theorem q1765 : (Jvm.Cond.selects "NightwatchWallModel" ({ cls := "NightwatchWallModel", name := "fog", desc := "(II)I" } : Jvm.MethodName) ({ cls := "NightwatchWallModel", name := "fog", desc := "(II)I" } : Jvm.MethodName)) ∈ lw_all := lw_g (lw_at lw_m8 0 rfl) rfl
theorem q1766 : (Jvm.Cond.code ({ cls := "NightwatchWallModel", name := "fog", desc := "(II)I" } : Jvm.MethodName) prog_17_method_27_code (3 : Nat) (Option.some Jvm.ClassFile.FieldType.int)) ∈ lw_all := lw_g (lw_at lw_m8 1 rfl) rfl
theorem q1768 : (Jvm.Cond.instanceMethod ({ cls := "NightwatchWallModel", name := "guard", desc := "(IIII)I" } : Jvm.MethodName)) ∈ lw_all := lw_g (lw_at lw_m8 3 rfl) rfl
theorem q1769 : (Jvm.Cond.selects "NightwatchWallModel" ({ cls := "NightwatchWallModel", name := "guard", desc := "(IIII)I" } : Jvm.MethodName) ({ cls := "NightwatchWallModel", name := "guard", desc := "(IIII)I" } : Jvm.MethodName)) ∈ lw_all := lw_g (lw_at lw_m8 4 rfl) rfl
theorem q1770 : (Jvm.Cond.code ({ cls := "NightwatchWallModel", name := "guard", desc := "(IIII)I" } : Jvm.MethodName) prog_17_method_28_code (5 : Nat) (Option.some Jvm.ClassFile.FieldType.int)) ∈ lw_all := lw_g (lw_at lw_m8 5 rfl) rfl
theorem q1772 : (Jvm.Cond.methodLink "NightwatchWallModel" (173 : Nat) ({ cls := "NightwatchWallModel$Guard", name := "<init>", desc := "(IIII)V" } : Jvm.MethodName)) ∈ lw_all := lw_g (lw_at lw_m8 7 rfl) rfl
theorem q1782 : (Jvm.Cond.fieldLink "NightwatchWallModel" (216 : Nat) "NightwatchWallModel$Guard" "from" "I") ∈ lw_all := lw_g (lw_at lw_m8 17 rfl) rfl
theorem q1784 : (Jvm.Cond.fieldLink "NightwatchWallModel" (219 : Nat) "NightwatchWallModel$Guard" "to" "I") ∈ lw_all := lw_g (lw_at lw_m8 19 rfl) rfl
theorem q1786 : (Jvm.Cond.fieldLink "NightwatchWallModel" (222 : Nat) "NightwatchWallModel$Guard" "stay" "I") ∈ lw_all := lw_g (lw_at lw_m8 21 rfl) rfl
theorem q1788 : (Jvm.Cond.fieldLink "NightwatchWallModel" (149 : Nat) "NightwatchWallModel$Guard" "cells" "Ljava/util/List;") ∈ lw_all := lw_g (lw_at lw_m8 23 rfl) rfl
theorem q1789 : (Jvm.Cond.fieldLink "NightwatchWallModel" (86 : Nat) "NightwatchWallModel$Guard" "strikes" "I") ∈ lw_all := lw_g (lw_at lw_m8 24 rfl) rfl
theorem q1790 : (Jvm.Cond.fieldLink "NightwatchWallModel" (89 : Nat) "NightwatchWallModel$Guard" "hours" "I") ∈ lw_all := lw_g (lw_at lw_m8 25 rfl) rfl
theorem q1805 : (Jvm.Cond.instanceMethod ({ cls := "NightwatchWallModel", name := "round", desc := "(II)I" } : Jvm.MethodName)) ∈ lw_all := lw_g (lw_at lw_m8 40 rfl) rfl
theorem q1806 : (Jvm.Cond.selects "NightwatchWallModel" ({ cls := "NightwatchWallModel", name := "round", desc := "(II)I" } : Jvm.MethodName) ({ cls := "NightwatchWallModel", name := "round", desc := "(II)I" } : Jvm.MethodName)) ∈ lw_all := lw_g (lw_at lw_m8 41 rfl) rfl
theorem q1807 : (Jvm.Cond.code ({ cls := "NightwatchWallModel", name := "round", desc := "(II)I" } : Jvm.MethodName) prog_17_method_29_code (4 : Nat) (Option.some Jvm.ClassFile.FieldType.int)) ∈ lw_all := lw_g (lw_at lw_m8 42 rfl) rfl
theorem q1808 : (Jvm.Cond.methodLink "NightwatchWallModel" (176 : Nat) ({ cls := "NightwatchWallModel", name := "isGuard", desc := "(I)Z" } : Jvm.MethodName)) ∈ lw_all := lw_g (lw_at lw_m8 43 rfl) rfl
theorem q1809 : (Jvm.Cond.privateMethod ({ cls := "NightwatchWallModel", name := "isGuard", desc := "(I)Z" } : Jvm.MethodName)) ∈ lw_tbl := lw_at lw_m8 44 rfl
theorem q1810 : (Jvm.Cond.instanceMethod ({ cls := "NightwatchWallModel", name := "isGuard", desc := "(I)Z" } : Jvm.MethodName)) ∈ lw_all := lw_g (lw_at lw_m8 45 rfl) rfl
theorem q1811 : (Jvm.Cond.code ({ cls := "NightwatchWallModel", name := "isGuard", desc := "(I)Z" } : Jvm.MethodName) prog_17_method_7_code (2 : Nat) (Option.some Jvm.ClassFile.FieldType.boolean)) ∈ lw_all := lw_g (lw_at lw_m8 46 rfl) rfl
theorem q1812 : (Jvm.Cond.methodLink "NightwatchWallModel" (179 : Nat) ({ cls := "java/lang/Integer", name := "valueOf", desc := "(I)Ljava/lang/Integer;" } : Jvm.MethodName)) ∈ lw_all := lw_g (lw_at lw_m8 47 rfl) rfl
theorem q1814 : (Jvm.Cond.instanceMethod ({ cls := "NightwatchWallModel", name := "post", desc := "(I)I" } : Jvm.MethodName)) ∈ lw_all := lw_g (lw_at lw_m8 49 rfl) rfl
theorem q1815 : (Jvm.Cond.selects "NightwatchWallModel" ({ cls := "NightwatchWallModel", name := "post", desc := "(I)I" } : Jvm.MethodName) ({ cls := "NightwatchWallModel", name := "post", desc := "(I)I" } : Jvm.MethodName)) ∈ lw_all := lw_g (lw_at lw_m8 50 rfl) rfl
theorem q1816 : (Jvm.Cond.code ({ cls := "NightwatchWallModel", name := "post", desc := "(I)I" } : Jvm.MethodName) prog_17_method_30_code (2 : Nat) (Option.some Jvm.ClassFile.FieldType.int)) ∈ lw_all := lw_g (lw_at lw_m8 51 rfl) rfl
theorem q1818 : (Jvm.Cond.instanceMethod ({ cls := "NightwatchWallModel", name := "place", desc := "(II)I" } : Jvm.MethodName)) ∈ lw_all := lw_g (lw_at lw_m8 53 rfl) rfl
theorem q1819 : (Jvm.Cond.selects "NightwatchWallModel" ({ cls := "NightwatchWallModel", name := "place", desc := "(II)I" } : Jvm.MethodName) ({ cls := "NightwatchWallModel", name := "place", desc := "(II)I" } : Jvm.MethodName)) ∈ lw_all := lw_g (lw_at lw_m8 54 rfl) rfl
theorem q1820 : (Jvm.Cond.code ({ cls := "NightwatchWallModel", name := "place", desc := "(II)I" } : Jvm.MethodName) prog_17_method_31_code (3 : Nat) (Option.some Jvm.ClassFile.FieldType.int)) ∈ lw_all := lw_g (lw_at lw_m8 55 rfl) rfl
theorem q1821 : (Jvm.Cond.methodLink "NightwatchWallModel" (124 : Nat) ({ cls := "NightwatchWallModel$Guard", name := "place", desc := "(I)I" } : Jvm.MethodName)) ∈ lw_all := lw_g (lw_at lw_m8 56 rfl) rfl
theorem q1837 : (Jvm.Cond.instanceMethod ({ cls := "NightwatchWallModel", name := "sees", desc := "(III)Z" } : Jvm.MethodName)) ∈ lw_all := lw_g (lw_at lw_m8 72 rfl) rfl
theorem q1838 : (Jvm.Cond.selects "NightwatchWallModel" ({ cls := "NightwatchWallModel", name := "sees", desc := "(III)Z" } : Jvm.MethodName) ({ cls := "NightwatchWallModel", name := "sees", desc := "(III)Z" } : Jvm.MethodName)) ∈ lw_all := lw_g (lw_at lw_m8 73 rfl) rfl
theorem q1839 : (Jvm.Cond.code ({ cls := "NightwatchWallModel", name := "sees", desc := "(III)Z" } : Jvm.MethodName) prog_17_method_32_code (4 : Nat) (Option.some Jvm.ClassFile.FieldType.boolean)) ∈ lw_all := lw_g (lw_at lw_m8 74 rfl) rfl
theorem q1840 : (Jvm.Cond.methodLink "NightwatchWallModel" (183 : Nat) ({ cls := "NightwatchWallModel", name := "isWatched", desc := "(II)Z" } : Jvm.MethodName)) ∈ lw_all := lw_g (lw_at lw_m8 75 rfl) rfl
theorem q1841 : (Jvm.Cond.privateMethod ({ cls := "NightwatchWallModel", name := "isWatched", desc := "(II)Z" } : Jvm.MethodName)) ∈ lw_tbl := lw_at lw_m8 76 rfl
theorem q1842 : (Jvm.Cond.instanceMethod ({ cls := "NightwatchWallModel", name := "isWatched", desc := "(II)Z" } : Jvm.MethodName)) ∈ lw_all := lw_g (lw_at lw_m8 77 rfl) rfl
theorem q1843 : (Jvm.Cond.code ({ cls := "NightwatchWallModel", name := "isWatched", desc := "(II)Z" } : Jvm.MethodName) prog_17_method_18_code (6 : Nat) (Option.some Jvm.ClassFile.FieldType.boolean)) ∈ lw_all := lw_g (lw_at lw_m8 78 rfl) rfl
theorem q1844 : (Jvm.Cond.methodLink "NightwatchWallModel" (130 : Nat) ({ cls := "NightwatchWallModel", name := "fogAt", desc := "(I)I" } : Jvm.MethodName)) ∈ lw_all := lw_g (lw_at lw_m8 79 rfl) rfl
theorem q1845 : (Jvm.Cond.privateMethod ({ cls := "NightwatchWallModel", name := "fogAt", desc := "(I)I" } : Jvm.MethodName)) ∈ lw_tbl := lw_at lw_m8 80 rfl
theorem q1846 : (Jvm.Cond.instanceMethod ({ cls := "NightwatchWallModel", name := "fogAt", desc := "(I)I" } : Jvm.MethodName)) ∈ lw_all := lw_g (lw_at lw_m8 81 rfl) rfl
theorem q1847 : (Jvm.Cond.code ({ cls := "NightwatchWallModel", name := "fogAt", desc := "(I)I" } : Jvm.MethodName) prog_17_method_16_code (5 : Nat) (Option.some Jvm.ClassFile.FieldType.int)) ∈ lw_all := lw_g (lw_at lw_m8 82 rfl) rfl
theorem q1848 : (Jvm.Cond.methodLink "NightwatchWallModel" (133 : Nat) ({ cls := "NightwatchWallModel", name := "sees", desc := "(LNightwatchWallModel$Guard;IIZI)Z" } : Jvm.MethodName)) ∈ lw_all := lw_g (lw_at lw_m8 83 rfl) rfl
theorem q1849 : (Jvm.Cond.privateMethod ({ cls := "NightwatchWallModel", name := "sees", desc := "(LNightwatchWallModel$Guard;IIZI)Z" } : Jvm.MethodName)) ∈ lw_tbl := lw_at lw_m8 84 rfl
theorem q1850 : (Jvm.Cond.instanceMethod ({ cls := "NightwatchWallModel", name := "sees", desc := "(LNightwatchWallModel$Guard;IIZI)Z" } : Jvm.MethodName)) ∈ lw_all := lw_g (lw_at lw_m8 85 rfl) rfl
theorem q1851 : (Jvm.Cond.code ({ cls := "NightwatchWallModel", name := "sees", desc := "(LNightwatchWallModel$Guard;IIZI)Z" } : Jvm.MethodName) prog_17_method_17_code (8 : Nat) (Option.some Jvm.ClassFile.FieldType.boolean)) ∈ lw_all := lw_g (lw_at lw_m8 86 rfl) rfl
theorem q1852 : (Jvm.Cond.methodLink "NightwatchWallModel" (127 : Nat) ({ cls := "NightwatchWallModel$Guard", name := "isTired", desc := "(I)Z" } : Jvm.MethodName)) ∈ lw_all := lw_g (lw_at lw_m8 87 rfl) rfl
theorem q1856 : (Jvm.Cond.methodLink "NightwatchWallModel" (186 : Nat) ({ cls := "NightwatchWallModel", name := "seers", desc := "(II)I" } : Jvm.MethodName)) ∈ lw_all := lw_g (lw_at lw_m8 91 rfl) rfl
theorem q1857 : (Jvm.Cond.privateMethod ({ cls := "NightwatchWallModel", name := "seers", desc := "(II)I" } : Jvm.MethodName)) ∈ lw_tbl := lw_at lw_m8 92 rfl
theorem q1858 : (Jvm.Cond.instanceMethod ({ cls := "NightwatchWallModel", name := "seers", desc := "(II)I" } : Jvm.MethodName)) ∈ lw_all := lw_g (lw_at lw_m8 93 rfl) rfl
theorem q1859 : (Jvm.Cond.code ({ cls := "NightwatchWallModel", name := "seers", desc := "(II)I" } : Jvm.MethodName) prog_17_method_19_code (7 : Nat) (Option.some Jvm.ClassFile.FieldType.int)) ∈ lw_all := lw_g (lw_at lw_m8 94 rfl) rfl
theorem q1861 : (Jvm.Cond.instanceMethod ({ cls := "NightwatchWallModel", name := "ofCell", desc := "(III)I" } : Jvm.MethodName)) ∈ lw_all := lw_g (lw_at lw_m8 96 rfl) rfl
theorem q1862 : (Jvm.Cond.selects "NightwatchWallModel" ({ cls := "NightwatchWallModel", name := "ofCell", desc := "(III)I" } : Jvm.MethodName) ({ cls := "NightwatchWallModel", name := "ofCell", desc := "(III)I" } : Jvm.MethodName)) ∈ lw_all := lw_g (lw_at lw_m8 97 rfl) rfl
theorem q1863 : (Jvm.Cond.code ({ cls := "NightwatchWallModel", name := "ofCell", desc := "(III)I" } : Jvm.MethodName) prog_17_method_35_code (4 : Nat) (Option.some Jvm.ClassFile.FieldType.int)) ∈ lw_all := lw_g (lw_at lw_m8 98 rfl) rfl
theorem q1864 : (Jvm.Cond.methodLink "NightwatchWallModel" (195 : Nat) ({ cls := "NightwatchWallModel", name := "cellNow", desc := "(III)I" } : Jvm.MethodName)) ∈ lw_all := lw_g (lw_at lw_m8 99 rfl) rfl
theorem q1865 : (Jvm.Cond.privateMethod ({ cls := "NightwatchWallModel", name := "cellNow", desc := "(III)I" } : Jvm.MethodName)) ∈ lw_tbl := lw_at lw_m8 100 rfl
theorem q1866 : (Jvm.Cond.instanceMethod ({ cls := "NightwatchWallModel", name := "cellNow", desc := "(III)I" } : Jvm.MethodName)) ∈ lw_all := lw_g (lw_at lw_m8 101 rfl) rfl
theorem q1867 : (Jvm.Cond.code ({ cls := "NightwatchWallModel", name := "cellNow", desc := "(III)I" } : Jvm.MethodName) prog_17_method_34_code (4 : Nat) (Option.some Jvm.ClassFile.FieldType.int)) ∈ lw_all := lw_g (lw_at lw_m8 102 rfl) rfl
theorem q1868 : (Jvm.Cond.methodLink "NightwatchWallModel" (189 : Nat) ({ cls := "NightwatchWallModel", name := "onCell", desc := "(II)I" } : Jvm.MethodName)) ∈ lw_all := lw_g (lw_at lw_m8 103 rfl) rfl
theorem q1869 : (Jvm.Cond.privateMethod ({ cls := "NightwatchWallModel", name := "onCell", desc := "(II)I" } : Jvm.MethodName)) ∈ lw_tbl := lw_at lw_m8 104 rfl
theorem q1870 : (Jvm.Cond.instanceMethod ({ cls := "NightwatchWallModel", name := "onCell", desc := "(II)I" } : Jvm.MethodName)) ∈ lw_all := lw_g (lw_at lw_m8 105 rfl) rfl
theorem q1871 : (Jvm.Cond.code ({ cls := "NightwatchWallModel", name := "onCell", desc := "(II)I" } : Jvm.MethodName) prog_17_method_33_code (5 : Nat) (Option.some Jvm.ClassFile.FieldType.int)) ∈ lw_all := lw_g (lw_at lw_m8 106 rfl) rfl
theorem q1872 : (Jvm.Cond.methodLink "NightwatchWallModel" (192 : Nat) ({ cls := "NightwatchWallModel", name := "isWalked", desc := "(II)Z" } : Jvm.MethodName)) ∈ lw_all := lw_g (lw_at lw_m8 107 rfl) rfl
theorem q1873 : (Jvm.Cond.privateMethod ({ cls := "NightwatchWallModel", name := "isWalked", desc := "(II)Z" } : Jvm.MethodName)) ∈ lw_tbl := lw_at lw_m8 108 rfl
theorem q1874 : (Jvm.Cond.instanceMethod ({ cls := "NightwatchWallModel", name := "isWalked", desc := "(II)Z" } : Jvm.MethodName)) ∈ lw_all := lw_g (lw_at lw_m8 109 rfl) rfl
theorem q1875 : (Jvm.Cond.code ({ cls := "NightwatchWallModel", name := "isWalked", desc := "(II)Z" } : Jvm.MethodName) prog_17_method_20_code (3 : Nat) (Option.some Jvm.ClassFile.FieldType.boolean)) ∈ lw_all := lw_g (lw_at lw_m8 110 rfl) rfl
theorem q1877 : (Jvm.Cond.instanceMethod ({ cls := "NightwatchWallModel", name := "ofMinute", desc := "(II)I" } : Jvm.MethodName)) ∈ lw_all := lw_g (lw_at lw_m8 112 rfl) rfl
theorem q1878 : (Jvm.Cond.selects "NightwatchWallModel" ({ cls := "NightwatchWallModel", name := "ofMinute", desc := "(II)I" } : Jvm.MethodName) ({ cls := "NightwatchWallModel", name := "ofMinute", desc := "(II)I" } : Jvm.MethodName)) ∈ lw_all := lw_g (lw_at lw_m8 113 rfl) rfl
theorem q1879 : (Jvm.Cond.code ({ cls := "NightwatchWallModel", name := "ofMinute", desc := "(II)I" } : Jvm.MethodName) prog_17_method_38_code (3 : Nat) (Option.some Jvm.ClassFile.FieldType.int)) ∈ lw_all := lw_g (lw_at lw_m8 114 rfl) rfl
theorem q1880 : (Jvm.Cond.methodLink "NightwatchWallModel" (205 : Nat) ({ cls := "NightwatchWallModel", name := "minuteNow", desc := "(II)I" } : Jvm.MethodName)) ∈ lw_all := lw_g (lw_at lw_m8 115 rfl) rfl
theorem q1881 : (Jvm.Cond.privateMethod ({ cls := "NightwatchWallModel", name := "minuteNow", desc := "(II)I" } : Jvm.MethodName)) ∈ lw_tbl := lw_at lw_m8 116 rfl
theorem q1882 : (Jvm.Cond.instanceMethod ({ cls := "NightwatchWallModel", name := "minuteNow", desc := "(II)I" } : Jvm.MethodName)) ∈ lw_all := lw_g (lw_at lw_m8 117 rfl) rfl
theorem q1883 : (Jvm.Cond.code ({ cls := "NightwatchWallModel", name := "minuteNow", desc := "(II)I" } : Jvm.MethodName) prog_17_method_37_code (8 : Nat) (Option.some Jvm.ClassFile.FieldType.int)) ∈ lw_all := lw_g (lw_at lw_m8 118 rfl) rfl
theorem q1884 : (Jvm.Cond.methodLink "NightwatchWallModel" (199 : Nat) ({ cls := "NightwatchWallModel$Guard", name := "isOnDuty", desc := "(I)Z" } : Jvm.MethodName)) ∈ lw_all := lw_g (lw_at lw_m8 119 rfl) rfl
theorem q1885 : (Jvm.Cond.methodLink "NightwatchWallModel" (202 : Nat) ({ cls := "NightwatchWallModel", name := "isEmpty", desc := "(II)Z" } : Jvm.MethodName)) ∈ lw_all := lw_g (lw_at lw_m8 120 rfl) rfl
theorem q1886 : (Jvm.Cond.privateMethod ({ cls := "NightwatchWallModel", name := "isEmpty", desc := "(II)Z" } : Jvm.MethodName)) ∈ lw_tbl := lw_at lw_m8 121 rfl
theorem q1887 : (Jvm.Cond.instanceMethod ({ cls := "NightwatchWallModel", name := "isEmpty", desc := "(II)Z" } : Jvm.MethodName)) ∈ lw_all := lw_g (lw_at lw_m8 122 rfl) rfl
theorem q1888 : (Jvm.Cond.code ({ cls := "NightwatchWallModel", name := "isEmpty", desc := "(II)Z" } : Jvm.MethodName) prog_17_method_36_code (3 : Nat) (Option.some Jvm.ClassFile.FieldType.boolean)) ∈ lw_all := lw_g (lw_at lw_m8 123 rfl) rfl
theorem q1890 : (Jvm.Cond.instanceMethod ({ cls := "NightwatchWallModel", name := "empty", desc := "(IZ)I" } : Jvm.MethodName)) ∈ lw_all := lw_g (lw_at lw_m8 125 rfl) rfl
theorem q1891 : (Jvm.Cond.selects "NightwatchWallModel" ({ cls := "NightwatchWallModel", name := "empty", desc := "(IZ)I" } : Jvm.MethodName) ({ cls := "NightwatchWallModel", name := "empty", desc := "(IZ)I" } : Jvm.MethodName)) ∈ lw_all := lw_g (lw_at lw_m8 126 rfl) rfl
theorem q1892 : (Jvm.Cond.code ({ cls := "NightwatchWallModel", name := "empty", desc := "(IZ)I" } : Jvm.MethodName) prog_17_method_40_code (3 : Nat) (Option.some Jvm.ClassFile.FieldType.int)) ∈ lw_all := lw_g (lw_at lw_m8 127 rfl) rfl
theorem q1893 : (Jvm.Cond.methodLink "NightwatchWallModel" (208 : Nat) ({ cls := "NightwatchWallModel", name := "emptyNow", desc := "(IZ)I" } : Jvm.MethodName)) ∈ lw_all := lw_g (lw_at lw_m8 128 rfl) rfl
theorem q1894 : (Jvm.Cond.privateMethod ({ cls := "NightwatchWallModel", name := "emptyNow", desc := "(IZ)I" } : Jvm.MethodName)) ∈ lw_tbl := lw_at lw_m8 129 rfl
theorem q1895 : (Jvm.Cond.instanceMethod ({ cls := "NightwatchWallModel", name := "emptyNow", desc := "(IZ)I" } : Jvm.MethodName)) ∈ lw_all := lw_g (lw_at lw_m8 130 rfl) rfl
theorem q1896 : (Jvm.Cond.code ({ cls := "NightwatchWallModel", name := "emptyNow", desc := "(IZ)I" } : Jvm.MethodName) prog_17_method_39_code (5 : Nat) (Option.some Jvm.ClassFile.FieldType.int)) ∈ lw_all := lw_g (lw_at lw_m8 131 rfl) rfl
theorem q1898 : (Jvm.Cond.instanceMethod ({ cls := "NightwatchWallModel", name := "lapse", desc := "(III)I" } : Jvm.MethodName)) ∈ lw_all := lw_g (lw_at lw_m8 133 rfl) rfl
theorem q1899 : (Jvm.Cond.selects "NightwatchWallModel" ({ cls := "NightwatchWallModel", name := "lapse", desc := "(III)I" } : Jvm.MethodName) ({ cls := "NightwatchWallModel", name := "lapse", desc := "(III)I" } : Jvm.MethodName)) ∈ lw_all := lw_g (lw_at lw_m8 134 rfl) rfl
theorem q1900 : (Jvm.Cond.code ({ cls := "NightwatchWallModel", name := "lapse", desc := "(III)I" } : Jvm.MethodName) prog_17_method_41_code (5 : Nat) (Option.some Jvm.ClassFile.FieldType.int)) ∈ lw_all := lw_g (lw_at lw_m8 135 rfl) rfl
theorem q1902 : (Jvm.Cond.instanceMethod ({ cls := "NightwatchWallModel", name := "words", desc := "(I)I" } : Jvm.MethodName)) ∈ lw_all := lw_g (lw_at lw_m8 137 rfl) rfl
theorem q1903 : (Jvm.Cond.selects "NightwatchWallModel" ({ cls := "NightwatchWallModel", name := "words", desc := "(I)I" } : Jvm.MethodName) ({ cls := "NightwatchWallModel", name := "words", desc := "(I)I" } : Jvm.MethodName)) ∈ lw_all := lw_g (lw_at lw_m8 138 rfl) rfl
theorem q1904 : (Jvm.Cond.code ({ cls := "NightwatchWallModel", name := "words", desc := "(I)I" } : Jvm.MethodName) prog_17_method_42_code (2 : Nat) (Option.some Jvm.ClassFile.FieldType.int)) ∈ lw_all := lw_g (lw_at lw_m8 139 rfl) rfl
theorem q1906 : (Jvm.Cond.instanceMethod ({ cls := "NightwatchWallModel", name := "leak", desc := "(I)I" } : Jvm.MethodName)) ∈ lw_all := lw_g (lw_at lw_m8 141 rfl) rfl
theorem q1907 : (Jvm.Cond.selects "NightwatchWallModel" ({ cls := "NightwatchWallModel", name := "leak", desc := "(I)I" } : Jvm.MethodName) ({ cls := "NightwatchWallModel", name := "leak", desc := "(I)I" } : Jvm.MethodName)) ∈ lw_all := lw_g (lw_at lw_m8 142 rfl) rfl
theorem q1908 : (Jvm.Cond.code ({ cls := "NightwatchWallModel", name := "leak", desc := "(I)I" } : Jvm.MethodName) prog_17_method_43_code (2 : Nat) (Option.some Jvm.ClassFile.FieldType.int)) ∈ lw_all := lw_g (lw_at lw_m8 143 rfl) rfl
theorem q1910 : (Jvm.Cond.instanceMethod ({ cls := "NightwatchWallModel", name := "answer", desc := "(III)I" } : Jvm.MethodName)) ∈ lw_all := lw_g (lw_at lw_m8 145 rfl) rfl
theorem q1911 : (Jvm.Cond.selects "NightwatchWallModel" ({ cls := "NightwatchWallModel", name := "answer", desc := "(III)I" } : Jvm.MethodName) ({ cls := "NightwatchWallModel", name := "answer", desc := "(III)I" } : Jvm.MethodName)) ∈ lw_all := lw_g (lw_at lw_m8 146 rfl) rfl
theorem q1912 : (Jvm.Cond.code ({ cls := "NightwatchWallModel", name := "answer", desc := "(III)I" } : Jvm.MethodName) prog_17_method_45_code (6 : Nat) (Option.some Jvm.ClassFile.FieldType.int)) ∈ lw_all := lw_g (lw_at lw_m8 147 rfl) rfl
theorem q1913 : (Jvm.Cond.methodLink "NightwatchWallModel" (212 : Nat) ({ cls := "NightwatchWallModel", name := "judged", desc := "(LNightwatchWallModel$Guard;II)I" } : Jvm.MethodName)) ∈ lw_all := lw_g (lw_at lw_m8 148 rfl) rfl
theorem q1914 : (Jvm.Cond.privateMethod ({ cls := "NightwatchWallModel", name := "judged", desc := "(LNightwatchWallModel$Guard;II)I" } : Jvm.MethodName)) ∈ lw_tbl := lw_at lw_m8 149 rfl
theorem q1915 : (Jvm.Cond.instanceMethod ({ cls := "NightwatchWallModel", name := "judged", desc := "(LNightwatchWallModel$Guard;II)I" } : Jvm.MethodName)) ∈ lw_all := lw_g (lw_at lw_m8 150 rfl) rfl
theorem q1916 : (Jvm.Cond.code ({ cls := "NightwatchWallModel", name := "judged", desc := "(LNightwatchWallModel$Guard;II)I" } : Jvm.MethodName) prog_17_method_44_code (8 : Nat) (Option.some Jvm.ClassFile.FieldType.int)) ∈ lw_all := lw_g (lw_at lw_m8 151 rfl) rfl
theorem q1918 : (Jvm.Cond.instanceMethod ({ cls := "NightwatchWallModel", name := "key", desc := "(II)I" } : Jvm.MethodName)) ∈ lw_all := lw_g (lw_at lw_m8 153 rfl) rfl
theorem q1919 : (Jvm.Cond.selects "NightwatchWallModel" ({ cls := "NightwatchWallModel", name := "key", desc := "(II)I" } : Jvm.MethodName) ({ cls := "NightwatchWallModel", name := "key", desc := "(II)I" } : Jvm.MethodName)) ∈ lw_all := lw_g (lw_at lw_m8 154 rfl) rfl
theorem q1920 : (Jvm.Cond.code ({ cls := "NightwatchWallModel", name := "key", desc := "(II)I" } : Jvm.MethodName) prog_17_method_46_code (4 : Nat) (Option.some Jvm.ClassFile.FieldType.int)) ∈ lw_all := lw_g (lw_at lw_m8 155 rfl) rfl
theorem q1922 : (Jvm.Cond.instanceMethod ({ cls := "NightwatchWallModel", name := "ofGuard", desc := "(II)I" } : Jvm.MethodName)) ∈ lw_all := lw_g (lw_at lw_m8 157 rfl) rfl
theorem q1923 : (Jvm.Cond.selects "NightwatchWallModel" ({ cls := "NightwatchWallModel", name := "ofGuard", desc := "(II)I" } : Jvm.MethodName) ({ cls := "NightwatchWallModel", name := "ofGuard", desc := "(II)I" } : Jvm.MethodName)) ∈ lw_all := lw_g (lw_at lw_m8 158 rfl) rfl
theorem q1924 : (Jvm.Cond.code ({ cls := "NightwatchWallModel", name := "ofGuard", desc := "(II)I" } : Jvm.MethodName) prog_17_method_48_code (3 : Nat) (Option.some Jvm.ClassFile.FieldType.int)) ∈ lw_all := lw_g (lw_at lw_m8 159 rfl) rfl
theorem q1925 : (Jvm.Cond.methodLink "NightwatchWallModel" (225 : Nat) ({ cls := "NightwatchWallModel", name := "guardNow", desc := "(II)I" } : Jvm.MethodName)) ∈ lw_all := lw_g (lw_at lw_m8 160 rfl) rfl
theorem q1926 : (Jvm.Cond.privateMethod ({ cls := "NightwatchWallModel", name := "guardNow", desc := "(II)I" } : Jvm.MethodName)) ∈ lw_tbl := lw_at lw_m8 161 rfl
theorem q1927 : (Jvm.Cond.instanceMethod ({ cls := "NightwatchWallModel", name := "guardNow", desc := "(II)I" } : Jvm.MethodName)) ∈ lw_all := lw_g (lw_at lw_m8 162 rfl) rfl
theorem q1928 : (Jvm.Cond.code ({ cls := "NightwatchWallModel", name := "guardNow", desc := "(II)I" } : Jvm.MethodName) prog_17_method_47_code (6 : Nat) (Option.some Jvm.ClassFile.FieldType.int)) ∈ lw_all := lw_g (lw_at lw_m8 163 rfl) rfl
theorem q1930 : (Jvm.Cond.instanceMethod ({ cls := "NightwatchWallModel", name := "intruder", desc := "(III)I" } : Jvm.MethodName)) ∈ lw_all := lw_g (lw_at lw_m8 165 rfl) rfl
theorem q1931 : (Jvm.Cond.selects "NightwatchWallModel" ({ cls := "NightwatchWallModel", name := "intruder", desc := "(III)I" } : Jvm.MethodName) ({ cls := "NightwatchWallModel", name := "intruder", desc := "(III)I" } : Jvm.MethodName)) ∈ lw_all := lw_g (lw_at lw_m8 166 rfl) rfl
theorem q1932 : (Jvm.Cond.code ({ cls := "NightwatchWallModel", name := "intruder", desc := "(III)I" } : Jvm.MethodName) prog_17_method_52_code (8 : Nat) (Option.some Jvm.ClassFile.FieldType.int)) ∈ lw_all := lw_g (lw_at lw_m8 167 rfl) rfl
theorem q1934 : (Jvm.Cond.methodLink "NightwatchWallModel" (228 : Nat) ({ cls := "NightwatchWallModel", name := "digits", desc := "(I)I" } : Jvm.MethodName)) ∈ lw_all := lw_g (lw_at lw_m8 169 rfl) rfl
theorem q1935 : (Jvm.Cond.static ({ cls := "NightwatchWallModel", name := "digits", desc := "(I)I" } : Jvm.MethodName)) ∈ lw_all := lw_g (lw_at lw_m8 170 rfl) rfl
theorem q1936 : (Jvm.Cond.code ({ cls := "NightwatchWallModel", name := "digits", desc := "(I)I" } : Jvm.MethodName) prog_17_method_49_code (3 : Nat) (Option.some Jvm.ClassFile.FieldType.int)) ∈ lw_all := lw_g (lw_at lw_m8 171 rfl) rfl
theorem q1937 : (Jvm.Cond.methodLink "NightwatchWallModel" (231 : Nat) ({ cls := "NightwatchWallModel$Intruder", name := "<init>", desc := "(II)V" } : Jvm.MethodName)) ∈ lw_all := lw_g (lw_at lw_m8 172 rfl) rfl
theorem q1942 : (Jvm.Cond.fieldLink "NightwatchWallModel" (249 : Nat) "NightwatchWallModel$Intruder" "from" "I") ∈ lw_all := lw_g (lw_at lw_m8 177 rfl) rfl
theorem q1944 : (Jvm.Cond.fieldLink "NightwatchWallModel" (234 : Nat) "NightwatchWallModel$Intruder" "many" "I") ∈ lw_all := lw_g (lw_at lw_m8 179 rfl) rfl
theorem q1946 : (Jvm.Cond.fieldLink "NightwatchWallModel" (243 : Nat) "NightwatchWallModel$Intruder" "way" "[I") ∈ lw_all := lw_g (lw_at lw_m8 181 rfl) rfl
theorem q1947 : (Jvm.Cond.fieldLink "NightwatchWallModel" (266 : Nat) "NightwatchWallModel$Intruder" "steps" "I") ∈ lw_all := lw_g (lw_at lw_m8 182 rfl) rfl
theorem q1949 : (Jvm.Cond.fieldLink "NightwatchWallModel" (268 : Nat) "NightwatchWallModel$Intruder" "last" "I") ∈ lw_all := lw_g (lw_at lw_m8 184 rfl) rfl
theorem q1961 : (Jvm.Cond.methodLink "NightwatchWallModel" (237 : Nat) ({ cls := "NightwatchWallModel", name := "digit", desc := "(III)I" } : Jvm.MethodName)) ∈ lw_all := lw_g (lw_at lw_m8 196 rfl) rfl
theorem q1962 : (Jvm.Cond.static ({ cls := "NightwatchWallModel", name := "digit", desc := "(III)I" } : Jvm.MethodName)) ∈ lw_all := lw_g (lw_at lw_m8 197 rfl) rfl
theorem q1963 : (Jvm.Cond.code ({ cls := "NightwatchWallModel", name := "digit", desc := "(III)I" } : Jvm.MethodName) prog_17_method_50_code (5 : Nat) (Option.some Jvm.ClassFile.FieldType.int)) ∈ lw_all := lw_g (lw_at lw_m8 198 rfl) rfl
theorem q1964 : (Jvm.Cond.methodLink "NightwatchWallModel" (240 : Nat) ({ cls := "NightwatchWallModel", name := "moved", desc := "(II)I" } : Jvm.MethodName)) ∈ lw_all := lw_g (lw_at lw_m8 199 rfl) rfl
theorem q1965 : (Jvm.Cond.privateMethod ({ cls := "NightwatchWallModel", name := "moved", desc := "(II)I" } : Jvm.MethodName)) ∈ lw_tbl := lw_at lw_m8 200 rfl
theorem q1966 : (Jvm.Cond.instanceMethod ({ cls := "NightwatchWallModel", name := "moved", desc := "(II)I" } : Jvm.MethodName)) ∈ lw_all := lw_g (lw_at lw_m8 201 rfl) rfl
theorem q1967 : (Jvm.Cond.code ({ cls := "NightwatchWallModel", name := "moved", desc := "(II)I" } : Jvm.MethodName) prog_17_method_51_code (3 : Nat) (Option.some Jvm.ClassFile.FieldType.int)) ∈ lw_all := lw_g (lw_at lw_m8 202 rfl) rfl
theorem q1969 : (Jvm.Cond.instanceMethod ({ cls := "NightwatchWallModel", name := "wire", desc := "(II)I" } : Jvm.MethodName)) ∈ lw_all := lw_g (lw_at lw_m8 204 rfl) rfl
theorem q1970 : (Jvm.Cond.selects "NightwatchWallModel" ({ cls := "NightwatchWallModel", name := "wire", desc := "(II)I" } : Jvm.MethodName) ({ cls := "NightwatchWallModel", name := "wire", desc := "(II)I" } : Jvm.MethodName)) ∈ lw_all := lw_g (lw_at lw_m8 205 rfl) rfl
theorem q1971 : (Jvm.Cond.code ({ cls := "NightwatchWallModel", name := "wire", desc := "(II)I" } : Jvm.MethodName) prog_17_method_53_code (3 : Nat) (Option.some Jvm.ClassFile.FieldType.int)) ∈ lw_all := lw_g (lw_at lw_m8 206 rfl) rfl
theorem q1973 : (Jvm.Cond.instanceMethod ({ cls := "NightwatchWallModel", name := "where", desc := "(II)I" } : Jvm.MethodName)) ∈ lw_all := lw_g (lw_at lw_m8 208 rfl) rfl
theorem q1974 : (Jvm.Cond.selects "NightwatchWallModel" ({ cls := "NightwatchWallModel", name := "where", desc := "(II)I" } : Jvm.MethodName) ({ cls := "NightwatchWallModel", name := "where", desc := "(II)I" } : Jvm.MethodName)) ∈ lw_all := lw_g (lw_at lw_m8 209 rfl) rfl
theorem q1975 : (Jvm.Cond.code ({ cls := "NightwatchWallModel", name := "where", desc := "(II)I" } : Jvm.MethodName) prog_17_method_54_code (3 : Nat) (Option.some Jvm.ClassFile.FieldType.int)) ∈ lw_all := lw_g (lw_at lw_m8 210 rfl) rfl
theorem q1976 : (Jvm.Cond.methodLink "NightwatchWallModel" (246 : Nat) ({ cls := "NightwatchWallModel", name := "isIntruder", desc := "(I)Z" } : Jvm.MethodName)) ∈ lw_all := lw_g (lw_at lw_m8 211 rfl) rfl
theorem q1977 : (Jvm.Cond.privateMethod ({ cls := "NightwatchWallModel", name := "isIntruder", desc := "(I)Z" } : Jvm.MethodName)) ∈ lw_tbl := lw_at lw_m8 212 rfl
theorem q1978 : (Jvm.Cond.instanceMethod ({ cls := "NightwatchWallModel", name := "isIntruder", desc := "(I)Z" } : Jvm.MethodName)) ∈ lw_all := lw_g (lw_at lw_m8 213 rfl) rfl
theorem q1979 : (Jvm.Cond.code ({ cls := "NightwatchWallModel", name := "isIntruder", desc := "(I)Z" } : Jvm.MethodName) prog_17_method_8_code (2 : Nat) (Option.some Jvm.ClassFile.FieldType.boolean)) ∈ lw_all := lw_g (lw_at lw_m8 214 rfl) rfl
theorem q1981 : (Jvm.Cond.instanceMethod ({ cls := "NightwatchWallModel", name := "ofIntruder", desc := "(II)I" } : Jvm.MethodName)) ∈ lw_all := lw_g (lw_at lw_m8 216 rfl) rfl
theorem q1982 : (Jvm.Cond.selects "NightwatchWallModel" ({ cls := "NightwatchWallModel", name := "ofIntruder", desc := "(II)I" } : Jvm.MethodName) ({ cls := "NightwatchWallModel", name := "ofIntruder", desc := "(II)I" } : Jvm.MethodName)) ∈ lw_all := lw_g (lw_at lw_m8 217 rfl) rfl
theorem q1983 : (Jvm.Cond.code ({ cls := "NightwatchWallModel", name := "ofIntruder", desc := "(II)I" } : Jvm.MethodName) prog_17_method_60_code (3 : Nat) (Option.some Jvm.ClassFile.FieldType.int)) ∈ lw_all := lw_g (lw_at lw_m8 218 rfl) rfl
theorem q1984 : (Jvm.Cond.methodLink "NightwatchWallModel" (271 : Nat) ({ cls := "NightwatchWallModel", name := "intruderNow", desc := "(II)I" } : Jvm.MethodName)) ∈ lw_all := lw_g (lw_at lw_m8 219 rfl) rfl
theorem q1985 : (Jvm.Cond.privateMethod ({ cls := "NightwatchWallModel", name := "intruderNow", desc := "(II)I" } : Jvm.MethodName)) ∈ lw_tbl := lw_at lw_m8 220 rfl
theorem q1986 : (Jvm.Cond.instanceMethod ({ cls := "NightwatchWallModel", name := "intruderNow", desc := "(II)I" } : Jvm.MethodName)) ∈ lw_all := lw_g (lw_at lw_m8 221 rfl) rfl
theorem q1987 : (Jvm.Cond.code ({ cls := "NightwatchWallModel", name := "intruderNow", desc := "(II)I" } : Jvm.MethodName) prog_17_method_59_code (5 : Nat) (Option.some Jvm.ClassFile.FieldType.int)) ∈ lw_all := lw_g (lw_at lw_m8 222 rfl) rfl
theorem q1988 : (Jvm.Cond.methodLink "NightwatchWallModel" (254 : Nat) ({ cls := "NightwatchWallModel", name := "foundNow", desc := "(LNightwatchWallModel$Intruder;)I" } : Jvm.MethodName)) ∈ lw_all := lw_g (lw_at lw_m8 223 rfl) rfl
theorem q1989 : (Jvm.Cond.privateMethod ({ cls := "NightwatchWallModel", name := "foundNow", desc := "(LNightwatchWallModel$Intruder;)I" } : Jvm.MethodName)) ∈ lw_tbl := lw_at lw_m8 224 rfl
theorem q1990 : (Jvm.Cond.instanceMethod ({ cls := "NightwatchWallModel", name := "foundNow", desc := "(LNightwatchWallModel$Intruder;)I" } : Jvm.MethodName)) ∈ lw_all := lw_g (lw_at lw_m8 225 rfl) rfl
theorem q1991 : (Jvm.Cond.code ({ cls := "NightwatchWallModel", name := "foundNow", desc := "(LNightwatchWallModel$Intruder;)I" } : Jvm.MethodName) prog_17_method_55_code (3 : Nat) (Option.some Jvm.ClassFile.FieldType.int)) ∈ lw_all := lw_g (lw_at lw_m8 226 rfl) rfl
theorem q1992 : (Jvm.Cond.methodLink "NightwatchWallModel" (262 : Nat) ({ cls := "NightwatchWallModel", name := "responseNow", desc := "(LNightwatchWallModel$Intruder;Z)I" } : Jvm.MethodName)) ∈ lw_all := lw_g (lw_at lw_m8 227 rfl) rfl
theorem q1993 : (Jvm.Cond.privateMethod ({ cls := "NightwatchWallModel", name := "responseNow", desc := "(LNightwatchWallModel$Intruder;Z)I" } : Jvm.MethodName)) ∈ lw_tbl := lw_at lw_m8 228 rfl
theorem q1994 : (Jvm.Cond.instanceMethod ({ cls := "NightwatchWallModel", name := "responseNow", desc := "(LNightwatchWallModel$Intruder;Z)I" } : Jvm.MethodName)) ∈ lw_all := lw_g (lw_at lw_m8 229 rfl) rfl
theorem q1995 : (Jvm.Cond.code ({ cls := "NightwatchWallModel", name := "responseNow", desc := "(LNightwatchWallModel$Intruder;Z)I" } : Jvm.MethodName) prog_17_method_58_code (8 : Nat) (Option.some Jvm.ClassFile.FieldType.int)) ∈ lw_all := lw_g (lw_at lw_m8 230 rfl) rfl
theorem q1996 : (Jvm.Cond.methodLink "NightwatchWallModel" (258 : Nat) ({ cls := "NightwatchWallModel", name := "response", desc := "(LNightwatchWallModel$Intruder;II)I" } : Jvm.MethodName)) ∈ lw_all := lw_g (lw_at lw_m8 231 rfl) rfl
theorem q1997 : (Jvm.Cond.privateMethod ({ cls := "NightwatchWallModel", name := "response", desc := "(LNightwatchWallModel$Intruder;II)I" } : Jvm.MethodName)) ∈ lw_tbl := lw_at lw_m8 232 rfl
theorem q1998 : (Jvm.Cond.instanceMethod ({ cls := "NightwatchWallModel", name := "response", desc := "(LNightwatchWallModel$Intruder;II)I" } : Jvm.MethodName)) ∈ lw_all := lw_g (lw_at lw_m8 233 rfl) rfl
theorem q1999 : (Jvm.Cond.code ({ cls := "NightwatchWallModel", name := "response", desc := "(LNightwatchWallModel$Intruder;II)I" } : Jvm.MethodName) prog_17_method_57_code (6 : Nat) (Option.some Jvm.ClassFile.FieldType.int)) ∈ lw_all := lw_g (lw_at lw_m8 234 rfl) rfl
theorem q2000 : (Jvm.Cond.methodLink "NightwatchWallModel" (250 : Nat) ({ cls := "NightwatchWallModel", name := "steps", desc := "(I)[I" } : Jvm.MethodName)) ∈ lw_all := lw_g (lw_at lw_m8 235 rfl) rfl
theorem q2001 : (Jvm.Cond.privateMethod ({ cls := "NightwatchWallModel", name := "steps", desc := "(I)[I" } : Jvm.MethodName)) ∈ lw_tbl := lw_at lw_m8 236 rfl
theorem q2002 : (Jvm.Cond.instanceMethod ({ cls := "NightwatchWallModel", name := "steps", desc := "(I)[I" } : Jvm.MethodName)) ∈ lw_all := lw_g (lw_at lw_m8 237 rfl) rfl
theorem q2003 : (Jvm.Cond.code ({ cls := "NightwatchWallModel", name := "steps", desc := "(I)[I" } : Jvm.MethodName) prog_17_method_56_code (8 : Nat) (Option.some (Jvm.ClassFile.FieldType.array Jvm.ClassFile.FieldType.int))) ∈ lw_all := lw_g (lw_at lw_m8 238 rfl) rfl
theorem q2005 : (Jvm.Cond.instanceMethod ({ cls := "NightwatchWallModel", name := "force", desc := "(III)I" } : Jvm.MethodName)) ∈ lw_all := lw_g (lw_at lw_m9 0 rfl) rfl
theorem q2006 : (Jvm.Cond.selects "NightwatchWallModel" ({ cls := "NightwatchWallModel", name := "force", desc := "(III)I" } : Jvm.MethodName) ({ cls := "NightwatchWallModel", name := "force", desc := "(III)I" } : Jvm.MethodName)) ∈ lw_all := lw_g (lw_at lw_m9 1 rfl) rfl
theorem q2007 : (Jvm.Cond.code ({ cls := "NightwatchWallModel", name := "force", desc := "(III)I" } : Jvm.MethodName) prog_17_method_61_code (6 : Nat) (Option.some Jvm.ClassFile.FieldType.int)) ∈ lw_all := lw_g (lw_at lw_m9 2 rfl) rfl
theorem q2009 : (Jvm.Cond.instanceMethod ({ cls := "NightwatchWallModel", name := "ofWire", desc := "(II)I" } : Jvm.MethodName)) ∈ lw_all := lw_g (lw_at lw_m9 4 rfl) rfl
theorem q2010 : (Jvm.Cond.selects "NightwatchWallModel" ({ cls := "NightwatchWallModel", name := "ofWire", desc := "(II)I" } : Jvm.MethodName) ({ cls := "NightwatchWallModel", name := "ofWire", desc := "(II)I" } : Jvm.MethodName)) ∈ lw_all := lw_g (lw_at lw_m9 5 rfl) rfl
theorem q2011 : (Jvm.Cond.code ({ cls := "NightwatchWallModel", name := "ofWire", desc := "(II)I" } : Jvm.MethodName) prog_17_method_64_code (3 : Nat) (Option.some Jvm.ClassFile.FieldType.int)) ∈ lw_all := lw_g (lw_at lw_m9 6 rfl) rfl
theorem q2012 : (Jvm.Cond.methodLink "NightwatchWallModel" (277 : Nat) ({ cls := "NightwatchWallModel", name := "wireNow", desc := "(II)I" } : Jvm.MethodName)) ∈ lw_all := lw_g (lw_at lw_m9 7 rfl) rfl
theorem q2013 : (Jvm.Cond.privateMethod ({ cls := "NightwatchWallModel", name := "wireNow", desc := "(II)I" } : Jvm.MethodName)) ∈ lw_tbl := lw_at lw_m9 8 rfl
theorem q2014 : (Jvm.Cond.instanceMethod ({ cls := "NightwatchWallModel", name := "wireNow", desc := "(II)I" } : Jvm.MethodName)) ∈ lw_all := lw_g (lw_at lw_m9 9 rfl) rfl
theorem q2015 : (Jvm.Cond.code ({ cls := "NightwatchWallModel", name := "wireNow", desc := "(II)I" } : Jvm.MethodName) prog_17_method_63_code (9 : Nat) (Option.some Jvm.ClassFile.FieldType.int)) ∈ lw_all := lw_g (lw_at lw_m9 10 rfl) rfl
theorem q2016 : (Jvm.Cond.methodLink "NightwatchWallModel" (274 : Nat) ({ cls := "NightwatchWallModel", name := "thereAt", desc := "(II)I" } : Jvm.MethodName)) ∈ lw_all := lw_g (lw_at lw_m9 11 rfl) rfl
theorem q2017 : (Jvm.Cond.privateMethod ({ cls := "NightwatchWallModel", name := "thereAt", desc := "(II)I" } : Jvm.MethodName)) ∈ lw_tbl := lw_at lw_m9 12 rfl
theorem q2018 : (Jvm.Cond.instanceMethod ({ cls := "NightwatchWallModel", name := "thereAt", desc := "(II)I" } : Jvm.MethodName)) ∈ lw_all := lw_g (lw_at lw_m9 13 rfl) rfl
theorem q2019 : (Jvm.Cond.code ({ cls := "NightwatchWallModel", name := "thereAt", desc := "(II)I" } : Jvm.MethodName) prog_17_method_62_code (5 : Nat) (Option.some Jvm.ClassFile.FieldType.int)) ∈ lw_all := lw_g (lw_at lw_m9 14 rfl) rfl
theorem q2021 : (Jvm.Cond.instanceMethod ({ cls := "NightwatchWallModel", name := "sneak", desc := "(IIII)I" } : Jvm.MethodName)) ∈ lw_all := lw_g (lw_at lw_m9 16 rfl) rfl
theorem q2022 : (Jvm.Cond.selects "NightwatchWallModel" ({ cls := "NightwatchWallModel", name := "sneak", desc := "(IIII)I" } : Jvm.MethodName) ({ cls := "NightwatchWallModel", name := "sneak", desc := "(IIII)I" } : Jvm.MethodName)) ∈ lw_all := lw_g (lw_at lw_m9 17 rfl) rfl
theorem q2023 : (Jvm.Cond.code ({ cls := "NightwatchWallModel", name := "sneak", desc := "(IIII)I" } : Jvm.MethodName) prog_17_method_68_code (7 : Nat) (Option.some Jvm.ClassFile.FieldType.int)) ∈ lw_all := lw_g (lw_at lw_m9 18 rfl) rfl
theorem q2024 : (Jvm.Cond.methodLink "NightwatchWallModel" (283 : Nat) ({ cls := "NightwatchWallModel", name := "at", desc := "(II)[Z" } : Jvm.MethodName)) ∈ lw_all := lw_g (lw_at lw_m9 19 rfl) rfl
theorem q2025 : (Jvm.Cond.privateMethod ({ cls := "NightwatchWallModel", name := "at", desc := "(II)[Z" } : Jvm.MethodName)) ∈ lw_tbl := lw_at lw_m9 20 rfl
theorem q2026 : (Jvm.Cond.instanceMethod ({ cls := "NightwatchWallModel", name := "at", desc := "(II)[Z" } : Jvm.MethodName)) ∈ lw_all := lw_g (lw_at lw_m9 21 rfl) rfl
theorem q2027 : (Jvm.Cond.code ({ cls := "NightwatchWallModel", name := "at", desc := "(II)[Z" } : Jvm.MethodName) prog_17_method_67_code (4 : Nat) (Option.some (Jvm.ClassFile.FieldType.array Jvm.ClassFile.FieldType.boolean))) ∈ lw_all := lw_g (lw_at lw_m9 22 rfl) rfl
theorem q2028 : (Jvm.Cond.methodLink "NightwatchWallModel" (280 : Nat) ({ cls := "NightwatchWallModel", name := "isUnseen", desc := "(II)Z" } : Jvm.MethodName)) ∈ lw_all := lw_g (lw_at lw_m9 23 rfl) rfl
theorem q2029 : (Jvm.Cond.privateMethod ({ cls := "NightwatchWallModel", name := "isUnseen", desc := "(II)Z" } : Jvm.MethodName)) ∈ lw_tbl := lw_at lw_m9 24 rfl
theorem q2030 : (Jvm.Cond.instanceMethod ({ cls := "NightwatchWallModel", name := "isUnseen", desc := "(II)Z" } : Jvm.MethodName)) ∈ lw_all := lw_g (lw_at lw_m9 25 rfl) rfl
theorem q2031 : (Jvm.Cond.code ({ cls := "NightwatchWallModel", name := "isUnseen", desc := "(II)Z" } : Jvm.MethodName) prog_17_method_65_code (3 : Nat) (Option.some Jvm.ClassFile.FieldType.boolean)) ∈ lw_all := lw_g (lw_at lw_m9 26 rfl) rfl
theorem q2032 : (Jvm.Cond.methodLink "NightwatchWallModel" (287 : Nat) ({ cls := "NightwatchWallModel", name := "onward", desc := "([ZI)[Z" } : Jvm.MethodName)) ∈ lw_all := lw_g (lw_at lw_m9 27 rfl) rfl
theorem q2033 : (Jvm.Cond.privateMethod ({ cls := "NightwatchWallModel", name := "onward", desc := "([ZI)[Z" } : Jvm.MethodName)) ∈ lw_tbl := lw_at lw_m9 28 rfl
theorem q2034 : (Jvm.Cond.instanceMethod ({ cls := "NightwatchWallModel", name := "onward", desc := "([ZI)[Z" } : Jvm.MethodName)) ∈ lw_all := lw_g (lw_at lw_m9 29 rfl) rfl
theorem q2035 : (Jvm.Cond.code ({ cls := "NightwatchWallModel", name := "onward", desc := "([ZI)[Z" } : Jvm.MethodName) prog_17_method_66_code (7 : Nat) (Option.some (Jvm.ClassFile.FieldType.array Jvm.ClassFile.FieldType.boolean))) ∈ lw_all := lw_g (lw_at lw_m9 30 rfl) rfl
theorem q2037 : (Jvm.Cond.instanceMethod ({ cls := "NightwatchWallModel", name := "reach", desc := "(III)I" } : Jvm.MethodName)) ∈ lw_all := lw_g (lw_at lw_m9 32 rfl) rfl
theorem q2038 : (Jvm.Cond.selects "NightwatchWallModel" ({ cls := "NightwatchWallModel", name := "reach", desc := "(III)I" } : Jvm.MethodName) ({ cls := "NightwatchWallModel", name := "reach", desc := "(III)I" } : Jvm.MethodName)) ∈ lw_all := lw_g (lw_at lw_m9 33 rfl) rfl
theorem q2039 : (Jvm.Cond.code ({ cls := "NightwatchWallModel", name := "reach", desc := "(III)I" } : Jvm.MethodName) prog_17_method_69_code (10 : Nat) (Option.some Jvm.ClassFile.FieldType.int)) ∈ lw_all := lw_g (lw_at lw_m9 34 rfl) rfl
theorem q2041 : (Jvm.Cond.instanceMethod ({ cls := "NightwatchWallModel", name := "nextLamp", desc := "(IIZ)I" } : Jvm.MethodName)) ∈ lw_all := lw_g (lw_at lw_m9 36 rfl) rfl
theorem q2042 : (Jvm.Cond.selects "NightwatchWallModel" ({ cls := "NightwatchWallModel", name := "nextLamp", desc := "(IIZ)I" } : Jvm.MethodName) ({ cls := "NightwatchWallModel", name := "nextLamp", desc := "(IIZ)I" } : Jvm.MethodName)) ∈ lw_all := lw_g (lw_at lw_m9 37 rfl) rfl
theorem q2043 : (Jvm.Cond.code ({ cls := "NightwatchWallModel", name := "nextLamp", desc := "(IIZ)I" } : Jvm.MethodName) prog_17_method_70_code (9 : Nat) (Option.some Jvm.ClassFile.FieldType.int)) ∈ lw_all := lw_g (lw_at lw_m9 38 rfl) rfl
theorem q2044 : (Jvm.Cond.interfaceEntry "NightwatchWallModel" (291 : Nat)) ∈ lw_tbl := lw_at lw_m9 39 rfl
theorem q2045 : (Jvm.Cond.methodLink "NightwatchWallModel" (291 : Nat) ({ cls := "java/util/List", name := "remove", desc := "(I)Ljava/lang/Object;" } : Jvm.MethodName)) ∈ lw_all := lw_g (lw_at lw_m9 40 rfl) rfl
theorem q2059 : (Jvm.Cond.instanceMethod ({ cls := "NightwatchWallModel", name := "many", desc := "(I)I" } : Jvm.MethodName)) ∈ lw_all := lw_g (lw_at lw_m9 54 rfl) rfl
theorem q2060 : (Jvm.Cond.selects "NightwatchWallModel" ({ cls := "NightwatchWallModel", name := "many", desc := "(I)I" } : Jvm.MethodName) ({ cls := "NightwatchWallModel", name := "many", desc := "(I)I" } : Jvm.MethodName)) ∈ lw_all := lw_g (lw_at lw_m9 55 rfl) rfl
theorem q2061 : (Jvm.Cond.code ({ cls := "NightwatchWallModel", name := "many", desc := "(I)I" } : Jvm.MethodName) prog_17_method_72_code (2 : Nat) (Option.some Jvm.ClassFile.FieldType.int)) ∈ lw_all := lw_g (lw_at lw_m9 56 rfl) rfl
theorem q2062 : (Jvm.Cond.methodLink "NightwatchWallModel" (297 : Nat) ({ cls := "NightwatchWallModel", name := "manyNow", desc := "(I)I" } : Jvm.MethodName)) ∈ lw_all := lw_g (lw_at lw_m9 57 rfl) rfl
theorem q2063 : (Jvm.Cond.privateMethod ({ cls := "NightwatchWallModel", name := "manyNow", desc := "(I)I" } : Jvm.MethodName)) ∈ lw_tbl := lw_at lw_m9 58 rfl
theorem q2064 : (Jvm.Cond.instanceMethod ({ cls := "NightwatchWallModel", name := "manyNow", desc := "(I)I" } : Jvm.MethodName)) ∈ lw_all := lw_g (lw_at lw_m9 59 rfl) rfl
theorem q2065 : (Jvm.Cond.code ({ cls := "NightwatchWallModel", name := "manyNow", desc := "(I)I" } : Jvm.MethodName) prog_17_method_71_code (10 : Nat) (Option.some Jvm.ClassFile.FieldType.int)) ∈ lw_all := lw_g (lw_at lw_m9 60 rfl) rfl
theorem q2067 : (Jvm.Cond.instanceMethod ({ cls := "NightwatchWallModel", name := "drawn", desc := "(II)Ljava/lang/String;" } : Jvm.MethodName)) ∈ lw_all := lw_g (lw_at lw_m9 62 rfl) rfl
theorem q2068 : (Jvm.Cond.selects "NightwatchWallModel" ({ cls := "NightwatchWallModel", name := "drawn", desc := "(II)Ljava/lang/String;" } : Jvm.MethodName) ({ cls := "NightwatchWallModel", name := "drawn", desc := "(II)Ljava/lang/String;" } : Jvm.MethodName)) ∈ lw_all := lw_g (lw_at lw_m9 63 rfl) rfl
theorem q2069 : (Jvm.Cond.code ({ cls := "NightwatchWallModel", name := "drawn", desc := "(II)Ljava/lang/String;" } : Jvm.MethodName) prog_17_method_73_code (7 : Nat) (Option.some (Jvm.ClassFile.FieldType.object "java/lang/String"))) ∈ lw_all := lw_g (lw_at lw_m9 64 rfl) rfl
theorem q2070 : (Jvm.Cond.stringRef "NightwatchWallModel" (300 : Nat) "") ∈ lw_tbl := lw_at lw_m9 65 rfl
theorem q2071 : (Jvm.Cond.classLink "NightwatchWallModel" (302 : Nat) "java/lang/StringBuilder") ∈ lw_all := lw_g (lw_at lw_m9 66 rfl) rfl
theorem q2072 : (Jvm.Cond.methodLink "NightwatchWallModel" (304 : Nat) ({ cls := "java/lang/StringBuilder", name := "<init>", desc := "()V" } : Jvm.MethodName)) ∈ lw_all := lw_g (lw_at lw_m9 67 rfl) rfl
theorem q2073 : (Jvm.Cond.methodLink "NightwatchWallModel" (305 : Nat) ({ cls := "java/lang/StringBuilder", name := "append", desc := "(Ljava/lang/String;)Ljava/lang/StringBuilder;" } : Jvm.MethodName)) ∈ lw_all := lw_g (lw_at lw_m9 68 rfl) rfl
theorem q2074 : (Jvm.Cond.methodLink "NightwatchWallModel" (309 : Nat) ({ cls := "java/lang/StringBuilder", name := "append", desc := "(I)Ljava/lang/StringBuilder;" } : Jvm.MethodName)) ∈ lw_all := lw_g (lw_at lw_m9 69 rfl) rfl
theorem q2075 : (Jvm.Cond.methodLink "NightwatchWallModel" (312 : Nat) ({ cls := "java/lang/StringBuilder", name := "toString", desc := "()Ljava/lang/String;" } : Jvm.MethodName)) ∈ lw_all := lw_g (lw_at lw_m9 70 rfl) rfl
theorem q2076 : (Jvm.Cond.stringRef "NightwatchWallModel" (316 : Nat) "#") ∈ lw_tbl := lw_at lw_m9 71 rfl
theorem q2077 : (Jvm.Cond.stringRef "NightwatchWallModel" (318 : Nat) "%") ∈ lw_tbl := lw_at lw_m9 72 rfl
theorem q2078 : (Jvm.Cond.stringRef "NightwatchWallModel" (320 : Nat) "+") ∈ lw_tbl := lw_at lw_m9 73 rfl
theorem q2079 : (Jvm.Cond.stringRef "NightwatchWallModel" (322 : Nat) ":") ∈ lw_tbl := lw_at lw_m9 74 rfl
theorem q2080 : (Jvm.Cond.stringRef "NightwatchWallModel" (324 : Nat) ".") ∈ lw_tbl := lw_at lw_m9 75 rfl
theorem q2082 : (Jvm.Cond.instanceMethod ({ cls := "NightwatchWallModel", name := "isSound", desc := "()Z" } : Jvm.MethodName)) ∈ lw_all := lw_g (lw_at lw_m9 77 rfl) rfl
theorem q2083 : (Jvm.Cond.selects "NightwatchWallModel" ({ cls := "NightwatchWallModel", name := "isSound", desc := "()Z" } : Jvm.MethodName) ({ cls := "NightwatchWallModel", name := "isSound", desc := "()Z" } : Jvm.MethodName)) ∈ lw_all := lw_g (lw_at lw_m9 78 rfl) rfl
theorem q2084 : (Jvm.Cond.code ({ cls := "NightwatchWallModel", name := "isSound", desc := "()Z" } : Jvm.MethodName) prog_17_method_75_code (1 : Nat) (Option.some Jvm.ClassFile.FieldType.boolean)) ∈ lw_all := lw_g (lw_at lw_m9 79 rfl) rfl
theorem q2085 : (Jvm.Cond.methodLink "NightwatchWallModel" (326 : Nat) ({ cls := "NightwatchWallModel", name := "isSoundNow", desc := "()Z" } : Jvm.MethodName)) ∈ lw_all := lw_g (lw_at lw_m9 80 rfl) rfl
theorem q2086 : (Jvm.Cond.privateMethod ({ cls := "NightwatchWallModel", name := "isSoundNow", desc := "()Z" } : Jvm.MethodName)) ∈ lw_tbl := lw_at lw_m9 81 rfl
theorem q2087 : (Jvm.Cond.instanceMethod ({ cls := "NightwatchWallModel", name := "isSoundNow", desc := "()Z" } : Jvm.MethodName)) ∈ lw_all := lw_g (lw_at lw_m9 82 rfl) rfl
theorem q2088 : (Jvm.Cond.code ({ cls := "NightwatchWallModel", name := "isSoundNow", desc := "()Z" } : Jvm.MethodName) prog_17_method_74_code (5 : Nat) (Option.some Jvm.ClassFile.FieldType.boolean)) ∈ lw_all := lw_g (lw_at lw_m9 83 rfl) rfl
theorem q2090 : (Jvm.Cond.instanceMethod ({ cls := "NightwatchWallModel", name := "knock", desc := "()I" } : Jvm.MethodName)) ∈ lw_all := lw_g (lw_at lw_m9 85 rfl) rfl
theorem q2091 : (Jvm.Cond.selects "NightwatchWallModel" ({ cls := "NightwatchWallModel", name := "knock", desc := "()I" } : Jvm.MethodName) ({ cls := "NightwatchWallModel", name := "knock", desc := "()I" } : Jvm.MethodName)) ∈ lw_all := lw_g (lw_at lw_m9 86 rfl) rfl
theorem q2092 : (Jvm.Cond.code ({ cls := "NightwatchWallModel", name := "knock", desc := "()I" } : Jvm.MethodName) prog_17_method_76_code (1 : Nat) (Option.some Jvm.ClassFile.FieldType.int)) ∈ lw_all := lw_g (lw_at lw_m9 87 rfl) rfl
theorem q2094 : (Jvm.Cond.instanceMethod ({ cls := "NightwatchWallModel", name := "digest", desc := "()J" } : Jvm.MethodName)) ∈ lw_all := lw_g (lw_at lw_m9 89 rfl) rfl
theorem q2095 : (Jvm.Cond.selects "NightwatchWallModel" ({ cls := "NightwatchWallModel", name := "digest", desc := "()J" } : Jvm.MethodName) ({ cls := "NightwatchWallModel", name := "digest", desc := "()J" } : Jvm.MethodName)) ∈ lw_all := lw_g (lw_at lw_m9 90 rfl) rfl
theorem q2096 : (Jvm.Cond.code ({ cls := "NightwatchWallModel", name := "digest", desc := "()J" } : Jvm.MethodName) prog_17_method_77_code (5 : Nat) (Option.some Jvm.ClassFile.FieldType.long)) ∈ lw_all := lw_g (lw_at lw_m9 91 rfl) rfl
theorem q2097 : (Jvm.Cond.constantLong "NightwatchWallModel" (330 : Nat) (9241 : Int64)) ∈ lw_all := lw_g (lw_at lw_m9 92 rfl) rfl
theorem q2098 : (Jvm.Cond.constantLong "NightwatchWallModel" (332 : Nat) (31 : Int64)) ∈ lw_all := lw_g (lw_at lw_m9 93 rfl) rfl
theorem q2125 : (Jvm.Cond.castable "NightwatchWallModel" "java/lang/Object") ∈ lw_tbl := lw_at lw_m9 120 rfl
theorem in_X4 : ∀ w ∈ wsX40, w ∈ lw_all := lw_in wsX40 [1642, 1644, 1646, 1648, 1650, 1652, 1654, 1656, 1658, 1660, 1662, 1664, 1666, 1668, 1670, 1672, 1674, 1676, 1678, 1680] (by decide +kernel) (by decide +kernel)
