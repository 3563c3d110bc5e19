/-! NightwatchWall -/
set_option maxRecDepth 100000
def RX1 : String := "NightwatchWall"
def TX1 : u_T := fun k => match k with
  | 0 => ("NightwatchWall", "laid", "Ljava/util/Optional;", false)
  | 1 => ("NightwatchWall", "lamps", "Ljava/util/ArrayList;", true)
  | 2 => ("NightwatchWall", "reports", "Ljava/util/ArrayList;", true)
  | 3 => ("NightwatchWall", "guards", "Ljava/util/ArrayList;", true)
  | 4 => ("NightwatchWall", "posts", "Ljava/util/ArrayList;", true)
  | 5 => ("NightwatchWall", "intruders", "Ljava/util/ArrayList;", true)
  | 6 => ("NightwatchWall", "wires", "Ljava/util/ArrayList;", true)
  | 7 => ("NightwatchWall", "words", "LNightwatchWall$Words;", true)
  | 8 => ("NightwatchWall", "keys", "[I", true)
  | 9 => ("NightwatchWall", "gatesFrom", "I", false)
  | 10 => ("NightwatchWall", "gatesTo", "I", false)
  | 11 => ("NightwatchWall", "right", "I", false)
  | 12 => ("NightwatchWall", "refused", "I", false)
  | _ => ("NightwatchWall", "sum", "J", false)
def tyX1 : Nat → FieldType := fun k => match k with
  | 0 => .object "java/util/Optional"
  | 1 => .object "java/util/ArrayList"
  | 2 => .object "java/util/ArrayList"
  | 3 => .object "java/util/ArrayList"
  | 4 => .object "java/util/ArrayList"
  | 5 => .object "java/util/ArrayList"
  | 6 => .object "java/util/ArrayList"
  | 7 => .object "NightwatchWall$Words"
  | 8 => .array .int
  | 9 => .int
  | 10 => .int
  | 11 => .int
  | 12 => .int
  | _ => .long
abbrev wsX10 : List Cond := u_ws RX1 TX1 14
set_option maxRecDepth 100000 in
theorem nmX1 : ∀ a, a < 14 → ∀ b, b < 14 → a ≠ b → (TX1 a).2.1 ≠ (TX1 b).2.1 := by decide +kernel
set_option maxRecDepth 100000 in
theorem tyX1_ok : ∀ k, k < 14 → parseFieldDescriptor (TX1 k).2.2.1 = some (tyX1 k) := by decide +kernel
abbrev cX1_init : ByteArray := prog_1_method_7_code
def yX1_init : MethodName := ⟨RX1, "<init>", "()V"⟩
def dkwX1_init_4 : List UInt8 := [188, 10, 181, 0, 61, 42, 182, 0, 65, 177]
abbrev dktX1_init_4 : List UInt8 := dkwX1_init_4 ++ []
def dkwX1_init_3 : List UInt8 := [187, 0, 32, 89, 183, 0, 34, 181, 0, 51, 42, 187, 0, 54, 89, 183, 0, 56, 181, 0, 57, 42, 16, 6]
abbrev dktX1_init_3 : List UInt8 := dkwX1_init_3 ++ dktX1_init_4
def dkwX1_init_2 : List UInt8 := [187, 0, 32, 89, 183, 0, 34, 181, 0, 45, 42, 187, 0, 32, 89, 183, 0, 34, 181, 0, 48, 42]
abbrev dktX1_init_2 : List UInt8 := dkwX1_init_2 ++ dktX1_init_3
def dkwX1_init_1 : List UInt8 := [187, 0, 32, 89, 183, 0, 34, 181, 0, 39, 42, 187, 0, 32, 89, 183, 0, 34, 181, 0, 42, 42]
abbrev dktX1_init_1 : List UInt8 := dkwX1_init_1 ++ dktX1_init_2
def dkwX1_init_0 : List UInt8 := [42, 183, 0, 19, 42, 184, 0, 22, 181, 0, 28, 42, 187, 0, 32, 89, 183, 0, 34, 181, 0, 35, 42]
abbrev dktX1_init_0 : List UInt8 := dkwX1_init_0 ++ dktX1_init_1
theorem dksX1_init_0 : cX1_init.data.toList.drop 0 = dktX1_init_0 := by decide +kernel
theorem dksX1_init_1 : cX1_init.data.toList.drop 23 = dktX1_init_1 := dk_seg dksX1_init_0 23 rfl rfl
theorem dksX1_init_2 : cX1_init.data.toList.drop 45 = dktX1_init_2 := dk_seg dksX1_init_1 22 rfl rfl
theorem dksX1_init_3 : cX1_init.data.toList.drop 67 = dktX1_init_3 := dk_seg dksX1_init_2 22 rfl rfl
theorem dksX1_init_4 : cX1_init.data.toList.drop 91 = dktX1_init_4 := dk_seg dksX1_init_3 24 rfl rfl
theorem dX1_init_0 : decode cX1_init 0 = .ok (.aload_n 0, 1) := dk_42 (dk_at dksX1_init_0 0 rfl rfl)
theorem dX1_init_1 : decode cX1_init 1 = .ok (.invokespecial 19, 3) := dk_183 0 19 (dk_at dksX1_init_0 1 rfl rfl)
theorem dX1_init_4 : decode cX1_init 4 = .ok (.aload_n 0, 1) := dk_42 (dk_at dksX1_init_0 4 rfl rfl)
theorem dX1_init_5 : decode cX1_init 5 = .ok (.invokestatic 22, 3) := dk_184 0 22 (dk_at dksX1_init_0 5 rfl rfl)
theorem dX1_init_8 : decode cX1_init 8 = .ok (.putfield 28, 3) := dk_181 0 28 (dk_at dksX1_init_0 8 rfl rfl)
theorem dX1_init_11 : decode cX1_init 11 = .ok (.aload_n 0, 1) := dk_42 (dk_at dksX1_init_0 11 rfl rfl)
theorem dX1_init_12 : decode cX1_init 12 = .ok (.new 32, 3) := dk_187 0 32 (dk_at dksX1_init_0 12 rfl rfl)
theorem dX1_init_15 : decode cX1_init 15 = .ok (.dup, 1) := dk_89 (dk_at dksX1_init_0 15 rfl rfl)
theorem dX1_init_16 : decode cX1_init 16 = .ok (.invokespecial 34, 3) := dk_183 0 34 (dk_at dksX1_init_0 16 rfl rfl)
theorem dX1_init_19 : decode cX1_init 19 = .ok (.putfield 35, 3) := dk_181 0 35 (dk_at dksX1_init_0 19 rfl rfl)
theorem dX1_init_22 : decode cX1_init 22 = .ok (.aload_n 0, 1) := dk_42 (dk_at dksX1_init_0 22 rfl rfl)
theorem dX1_init_23 : decode cX1_init 23 = .ok (.new 32, 3) := dk_187 0 32 (dk_at dksX1_init_1 0 rfl rfl)
theorem dX1_init_26 : decode cX1_init 26 = .ok (.dup, 1) := dk_89 (dk_at dksX1_init_1 3 rfl rfl)
theorem dX1_init_27 : decode cX1_init 27 = .ok (.invokespecial 34, 3) := dk_183 0 34 (dk_at dksX1_init_1 4 rfl rfl)
theorem dX1_init_30 : decode cX1_init 30 = .ok (.putfield 39, 3) := dk_181 0 39 (dk_at dksX1_init_1 7 rfl rfl)
theorem dX1_init_33 : decode cX1_init 33 = .ok (.aload_n 0, 1) := dk_42 (dk_at dksX1_init_1 10 rfl rfl)
theorem dX1_init_34 : decode cX1_init 34 = .ok (.new 32, 3) := dk_187 0 32 (dk_at dksX1_init_1 11 rfl rfl)
theorem dX1_init_37 : decode cX1_init 37 = .ok (.dup, 1) := dk_89 (dk_at dksX1_init_1 14 rfl rfl)
theorem dX1_init_38 : decode cX1_init 38 = .ok (.invokespecial 34, 3) := dk_183 0 34 (dk_at dksX1_init_1 15 rfl rfl)
theorem dX1_init_41 : decode cX1_init 41 = .ok (.putfield 42, 3) := dk_181 0 42 (dk_at dksX1_init_1 18 rfl rfl)
theorem dX1_init_44 : decode cX1_init 44 = .ok (.aload_n 0, 1) := dk_42 (dk_at dksX1_init_1 21 rfl rfl)
theorem dX1_init_45 : decode cX1_init 45 = .ok (.new 32, 3) := dk_187 0 32 (dk_at dksX1_init_2 0 rfl rfl)
theorem dX1_init_48 : decode cX1_init 48 = .ok (.dup, 1) := dk_89 (dk_at dksX1_init_2 3 rfl rfl)
theorem dX1_init_49 : decode cX1_init 49 = .ok (.invokespecial 34, 3) := dk_183 0 34 (dk_at dksX1_init_2 4 rfl rfl)
theorem dX1_init_52 : decode cX1_init 52 = .ok (.putfield 45, 3) := dk_181 0 45 (dk_at dksX1_init_2 7 rfl rfl)
theorem dX1_init_55 : decode cX1_init 55 = .ok (.aload_n 0, 1) := dk_42 (dk_at dksX1_init_2 10 rfl rfl)
theorem dX1_init_56 : decode cX1_init 56 = .ok (.new 32, 3) := dk_187 0 32 (dk_at dksX1_init_2 11 rfl rfl)
theorem dX1_init_59 : decode cX1_init 59 = .ok (.dup, 1) := dk_89 (dk_at dksX1_init_2 14 rfl rfl)
theorem dX1_init_60 : decode cX1_init 60 = .ok (.invokespecial 34, 3) := dk_183 0 34 (dk_at dksX1_init_2 15 rfl rfl)
theorem dX1_init_63 : decode cX1_init 63 = .ok (.putfield 48, 3) := dk_181 0 48 (dk_at dksX1_init_2 18 rfl rfl)
theorem dX1_init_66 : decode cX1_init 66 = .ok (.aload_n 0, 1) := dk_42 (dk_at dksX1_init_2 21 rfl rfl)
theorem dX1_init_67 : decode cX1_init 67 = .ok (.new 32, 3) := dk_187 0 32 (dk_at dksX1_init_3 0 rfl rfl)
theorem dX1_init_70 : decode cX1_init 70 = .ok (.dup, 1) := dk_89 (dk_at dksX1_init_3 3 rfl rfl)
theorem dX1_init_71 : decode cX1_init 71 = .ok (.invokespecial 34, 3) := dk_183 0 34 (dk_at dksX1_init_3 4 rfl rfl)
theorem dX1_init_74 : decode cX1_init 74 = .ok (.putfield 51, 3) := dk_181 0 51 (dk_at dksX1_init_3 7 rfl rfl)
theorem dX1_init_77 : decode cX1_init 77 = .ok (.aload_n 0, 1) := dk_42 (dk_at dksX1_init_3 10 rfl rfl)
theorem dX1_init_78 : decode cX1_init 78 = .ok (.new 54, 3) := dk_187 0 54 (dk_at dksX1_init_3 11 rfl rfl)
theorem dX1_init_81 : decode cX1_init 81 = .ok (.dup, 1) := dk_89 (dk_at dksX1_init_3 14 rfl rfl)
theorem dX1_init_82 : decode cX1_init 82 = .ok (.invokespecial 56, 3) := dk_183 0 56 (dk_at dksX1_init_3 15 rfl rfl)
theorem dX1_init_85 : decode cX1_init 85 = .ok (.putfield 57, 3) := dk_181 0 57 (dk_at dksX1_init_3 18 rfl rfl)
theorem dX1_init_88 : decode cX1_init 88 = .ok (.aload_n 0, 1) := dk_42 (dk_at dksX1_init_3 21 rfl rfl)
theorem dX1_init_89 : decode cX1_init 89 = .ok (.bipush 6, 2) := dk_16 6 (dk_at dksX1_init_3 22 rfl rfl)
theorem dX1_init_91 : decode cX1_init 91 = .ok (.newarray .int, 2) := dk_188_10 (dk_at dksX1_init_4 0 rfl rfl)
theorem dX1_init_93 : decode cX1_init 93 = .ok (.putfield 61, 3) := dk_181 0 61 (dk_at dksX1_init_4 2 rfl rfl)
theorem dX1_init_96 : decode cX1_init 96 = .ok (.aload_n 0, 1) := dk_42 (dk_at dksX1_init_4 5 rfl rfl)
theorem dX1_init_97 : decode cX1_init 97 = .ok (.invokevirtual 65, 3) := dk_182 0 65 (dk_at dksX1_init_4 6 rfl rfl)
theorem dX1_init_100 : decode cX1_init 100 = .ok (.return_, 1) := dk_177 (dk_at dksX1_init_4 9 rfl rfl)
abbrev cX1_clear : ByteArray := prog_1_method_8_code
def yX1_clear : MethodName := ⟨RX1, "clear", "()V"⟩
def dkwX1_clear_3 : List UInt8 := [3, 181, 0, 73, 42, 3, 181, 0, 76, 177]
abbrev dktX1_clear_3 : List UInt8 := dkwX1_clear_3 ++ []
def dkwX1_clear_2 : List UInt8 := [16, 6, 162, 0, 16, 42, 180, 0, 61, 27, 2, 79, 132, 1, 1, 167, 255, 240, 42, 4, 181, 0, 69, 42]
abbrev dktX1_clear_2 : List UInt8 := dkwX1_clear_2 ++ dktX1_clear_3
def dkwX1_clear_1 : List UInt8 := [180, 0, 45, 182, 0, 68, 42, 180, 0, 48, 182, 0, 68, 42, 180, 0, 51, 182, 0, 68, 3, 60, 27]
abbrev dktX1_clear_1 : List UInt8 := dkwX1_clear_1 ++ dktX1_clear_2
def dkwX1_clear_0 : List UInt8 := [42, 180, 0, 35, 182, 0, 68, 42, 180, 0, 39, 182, 0, 68, 42, 180, 0, 42, 182, 0, 68, 42]
abbrev dktX1_clear_0 : List UInt8 := dkwX1_clear_0 ++ dktX1_clear_1
theorem dksX1_clear_0 : cX1_clear.data.toList.drop 0 = dktX1_clear_0 := by decide +kernel
theorem dksX1_clear_1 : cX1_clear.data.toList.drop 22 = dktX1_clear_1 := dk_seg dksX1_clear_0 22 rfl rfl
theorem dksX1_clear_2 : cX1_clear.data.toList.drop 45 = dktX1_clear_2 := dk_seg dksX1_clear_1 23 rfl rfl
theorem dksX1_clear_3 : cX1_clear.data.toList.drop 69 = dktX1_clear_3 := dk_seg dksX1_clear_2 24 rfl rfl
theorem dX1_clear_0 : decode cX1_clear 0 = .ok (.aload_n 0, 1) := dk_42 (dk_at dksX1_clear_0 0 rfl rfl)
theorem dX1_clear_1 : decode cX1_clear 1 = .ok (.getfield 35, 3) := dk_180 0 35 (dk_at dksX1_clear_0 1 rfl rfl)
theorem dX1_clear_4 : decode cX1_clear 4 = .ok (.invokevirtual 68, 3) := dk_182 0 68 (dk_at dksX1_clear_0 4 rfl rfl)
theorem dX1_clear_7 : decode cX1_clear 7 = .ok (.aload_n 0, 1) := dk_42 (dk_at dksX1_clear_0 7 rfl rfl)
theorem dX1_clear_8 : decode cX1_clear 8 = .ok (.getfield 39, 3) := dk_180 0 39 (dk_at dksX1_clear_0 8 rfl rfl)
theorem dX1_clear_11 : decode cX1_clear 11 = .ok (.invokevirtual 68, 3) := dk_182 0 68 (dk_at dksX1_clear_0 11 rfl rfl)
theorem dX1_clear_14 : decode cX1_clear 14 = .ok (.aload_n 0, 1) := dk_42 (dk_at dksX1_clear_0 14 rfl rfl)
theorem dX1_clear_15 : decode cX1_clear 15 = .ok (.getfield 42, 3) := dk_180 0 42 (dk_at dksX1_clear_0 15 rfl rfl)
theorem dX1_clear_18 : decode cX1_clear 18 = .ok (.invokevirtual 68, 3) := dk_182 0 68 (dk_at dksX1_clear_0 18 rfl rfl)
theorem dX1_clear_21 : decode cX1_clear 21 = .ok (.aload_n 0, 1) := dk_42 (dk_at dksX1_clear_0 21 rfl rfl)
theorem dX1_clear_22 : decode cX1_clear 22 = .ok (.getfield 45, 3) := dk_180 0 45 (dk_at dksX1_clear_1 0 rfl rfl)
theorem dX1_clear_25 : decode cX1_clear 25 = .ok (.invokevirtual 68, 3) := dk_182 0 68 (dk_at dksX1_clear_1 3 rfl rfl)
theorem dX1_clear_28 : decode cX1_clear 28 = .ok (.aload_n 0, 1) := dk_42 (dk_at dksX1_clear_1 6 rfl rfl)
theorem dX1_clear_29 : decode cX1_clear 29 = .ok (.getfield 48, 3) := dk_180 0 48 (dk_at dksX1_clear_1 7 rfl rfl)
theorem dX1_clear_32 : decode cX1_clear 32 = .ok (.invokevirtual 68, 3) := dk_182 0 68 (dk_at dksX1_clear_1 10 rfl rfl)
theorem dX1_clear_35 : decode cX1_clear 35 = .ok (.aload_n 0, 1) := dk_42 (dk_at dksX1_clear_1 13 rfl rfl)
theorem dX1_clear_36 : decode cX1_clear 36 = .ok (.getfield 51, 3) := dk_180 0 51 (dk_at dksX1_clear_1 14 rfl rfl)
theorem dX1_clear_39 : decode cX1_clear 39 = .ok (.invokevirtual 68, 3) := dk_182 0 68 (dk_at dksX1_clear_1 17 rfl rfl)
theorem dX1_clear_42 : decode cX1_clear 42 = .ok (.iconst 0, 1) := dk_3 (dk_at dksX1_clear_1 20 rfl rfl)
theorem dX1_clear_43 : decode cX1_clear 43 = .ok (.istore_n 1, 1) := dk_60 (dk_at dksX1_clear_1 21 rfl rfl)
theorem dX1_clear_44 : decode cX1_clear 44 = .ok (.iload_n 1, 1) := dk_27 (dk_at dksX1_clear_1 22 rfl rfl)
theorem dX1_clear_45 : decode cX1_clear 45 = .ok (.bipush 6, 2) := dk_16 6 (dk_at dksX1_clear_2 0 rfl rfl)
theorem dX1_clear_47 : decode cX1_clear 47 = .ok (.if_icmp .ge 16, 3) := dk_162 0 16 (dk_at dksX1_clear_2 2 rfl rfl)
theorem dX1_clear_50 : decode cX1_clear 50 = .ok (.aload_n 0, 1) := dk_42 (dk_at dksX1_clear_2 5 rfl rfl)
theorem dX1_clear_51 : decode cX1_clear 51 = .ok (.getfield 61, 3) := dk_180 0 61 (dk_at dksX1_clear_2 6 rfl rfl)
theorem dX1_clear_54 : decode cX1_clear 54 = .ok (.iload_n 1, 1) := dk_27 (dk_at dksX1_clear_2 9 rfl rfl)
theorem dX1_clear_55 : decode cX1_clear 55 = .ok (.iconst (-1), 1) := dk_2 (dk_at dksX1_clear_2 10 rfl rfl)
theorem dX1_clear_56 : decode cX1_clear 56 = .ok (.iastore, 1) := dk_79 (dk_at dksX1_clear_2 11 rfl rfl)
theorem dX1_clear_57 : decode cX1_clear 57 = .ok (.iinc 1 1, 3) := dk_132 1 1 (dk_at dksX1_clear_2 12 rfl rfl)
theorem dX1_clear_60 : decode cX1_clear 60 = .ok (.goto (-16), 3) := dk_167 255 240 (dk_at dksX1_clear_2 15 rfl rfl)
theorem dX1_clear_63 : decode cX1_clear 63 = .ok (.aload_n 0, 1) := dk_42 (dk_at dksX1_clear_2 18 rfl rfl)
theorem dX1_clear_64 : decode cX1_clear 64 = .ok (.iconst 1, 1) := dk_4 (dk_at dksX1_clear_2 19 rfl rfl)
theorem dX1_clear_65 : decode cX1_clear 65 = .ok (.putfield 69, 3) := dk_181 0 69 (dk_at dksX1_clear_2 20 rfl rfl)
theorem dX1_clear_68 : decode cX1_clear 68 = .ok (.aload_n 0, 1) := dk_42 (dk_at dksX1_clear_2 23 rfl rfl)
theorem dX1_clear_69 : decode cX1_clear 69 = .ok (.iconst 0, 1) := dk_3 (dk_at dksX1_clear_3 0 rfl rfl)
theorem dX1_clear_70 : decode cX1_clear 70 = .ok (.putfield 73, 3) := dk_181 0 73 (dk_at dksX1_clear_3 1 rfl rfl)
theorem dX1_clear_73 : decode cX1_clear 73 = .ok (.aload_n 0, 1) := dk_42 (dk_at dksX1_clear_3 4 rfl rfl)
theorem dX1_clear_74 : decode cX1_clear 74 = .ok (.iconst 0, 1) := dk_3 (dk_at dksX1_clear_3 5 rfl rfl)
theorem dX1_clear_75 : decode cX1_clear 75 = .ok (.putfield 76, 3) := dk_181 0 76 (dk_at dksX1_clear_3 6 rfl rfl)
theorem dX1_clear_78 : decode cX1_clear 78 = .ok (.return_, 1) := dk_177 (dk_at dksX1_clear_3 9 rfl rfl)
abbrev cX1_isSound : ByteArray := prog_1_method_83_code
def yX1_isSound : MethodName := ⟨RX1, "isSound", "()Z"⟩
theorem dX1_isSound_0 : decode cX1_isSound 0 = .ok (.aload_n 0, 1) := by decide +kernel
theorem dX1_isSound_1 : decode cX1_isSound 1 = .ok (.invokevirtual 490, 3) := by decide +kernel
theorem dX1_isSound_4 : decode cX1_isSound 4 = .ok (.ireturn, 1) := by decide +kernel
abbrev cX1_isSoundNow : ByteArray := prog_1_method_82_code
def yX1_isSoundNow : MethodName := ⟨RX1, "isSoundNow", "()Z"⟩
def dkwX1_isSoundNow_7 : List UInt8 := [167, 255, 227, 4, 172]
abbrev dktX1_isSoundNow_7 : List UInt8 := dkwX1_isSoundNow_7 ++ []
def dkwX1_isSoundNow_6 : List UInt8 := [153, 0, 26, 43, 185, 0, 166, 1, 0, 192, 0, 104, 77, 44, 180, 1, 149, 7, 164, 0, 5, 3, 172]
abbrev dktX1_isSoundNow_6 : List UInt8 := dkwX1_isSoundNow_6 ++ dktX1_isSoundNow_7
def dkwX1_isSoundNow_5 : List UInt8 := [6, 164, 0, 5, 3, 172, 167, 255, 227, 42, 180, 0, 48, 182, 0, 157, 76, 43, 185, 0, 161, 1, 0]
abbrev dktX1_isSoundNow_5 : List UInt8 := dkwX1_isSoundNow_5 ++ dktX1_isSoundNow_6
def dkwX1_isSoundNow_4 : List UInt8 := [76, 43, 185, 0, 161, 1, 0, 153, 0, 26, 43, 185, 0, 166, 1, 0, 192, 0, 102, 77, 44, 180, 1, 63]
abbrev dktX1_isSoundNow_4 : List UInt8 := dkwX1_isSoundNow_4 ++ dktX1_isSoundNow_5
def dkwX1_isSoundNow_3 : List UInt8 := [180, 0, 42, 182, 0, 98, 161, 0, 5, 3, 172, 132, 3, 1, 167, 255, 223, 42, 180, 0, 42, 182, 0, 157]
abbrev dktX1_isSoundNow_3 : List UInt8 := dkwX1_isSoundNow_3 ++ dktX1_isSoundNow_4
def dkwX1_isSoundNow_2 : List UInt8 := [43, 190, 61, 3, 62, 29, 28, 162, 0, 34, 43, 29, 46, 54, 4, 21, 4, 2, 161, 0, 15, 21, 4, 42]
abbrev dktX1_isSoundNow_2 : List UInt8 := dkwX1_isSoundNow_2 ++ dktX1_isSoundNow_3
def dkwX1_isSoundNow_1 : List UInt8 := [153, 0, 13, 42, 27, 182, 0, 186, 153, 0, 5, 3, 172, 132, 1, 1, 167, 255, 218, 42, 180, 0, 61, 76]
abbrev dktX1_isSoundNow_1 : List UInt8 := dkwX1_isSoundNow_1 ++ dktX1_isSoundNow_2
def dkwX1_isSoundNow_0 : List UInt8 := [3, 60, 27, 42, 182, 0, 93, 162, 0, 36, 42, 180, 0, 28, 182, 0, 83, 192, 0, 87, 27, 182, 0, 198]
abbrev dktX1_isSoundNow_0 : List UInt8 := dkwX1_isSoundNow_0 ++ dktX1_isSoundNow_1
theorem dksX1_isSoundNow_0 : cX1_isSoundNow.data.toList.drop 0 = dktX1_isSoundNow_0 := by decide +kernel
theorem dksX1_isSoundNow_1 : cX1_isSoundNow.data.toList.drop 24 = dktX1_isSoundNow_1 := dk_seg dksX1_isSoundNow_0 24 rfl rfl
theorem dksX1_isSoundNow_2 : cX1_isSoundNow.data.toList.drop 48 = dktX1_isSoundNow_2 := dk_seg dksX1_isSoundNow_1 24 rfl rfl
theorem dksX1_isSoundNow_3 : cX1_isSoundNow.data.toList.drop 72 = dktX1_isSoundNow_3 := dk_seg dksX1_isSoundNow_2 24 rfl rfl
theorem dksX1_isSoundNow_4 : cX1_isSoundNow.data.toList.drop 96 = dktX1_isSoundNow_4 := dk_seg dksX1_isSoundNow_3 24 rfl rfl
theorem dksX1_isSoundNow_5 : cX1_isSoundNow.data.toList.drop 120 = dktX1_isSoundNow_5 := dk_seg dksX1_isSoundNow_4 24 rfl rfl
theorem dksX1_isSoundNow_6 : cX1_isSoundNow.data.toList.drop 143 = dktX1_isSoundNow_6 := dk_seg dksX1_isSoundNow_5 23 rfl rfl
theorem dksX1_isSoundNow_7 : cX1_isSoundNow.data.toList.drop 166 = dktX1_isSoundNow_7 := dk_seg dksX1_isSoundNow_6 23 rfl rfl
theorem dX1_isSoundNow_0 : decode cX1_isSoundNow 0 = .ok (.iconst 0, 1) := dk_3 (dk_at dksX1_isSoundNow_0 0 rfl rfl)
theorem dX1_isSoundNow_1 : decode cX1_isSoundNow 1 = .ok (.istore_n 1, 1) := dk_60 (dk_at dksX1_isSoundNow_0 1 rfl rfl)
theorem dX1_isSoundNow_2 : decode cX1_isSoundNow 2 = .ok (.iload_n 1, 1) := dk_27 (dk_at dksX1_isSoundNow_0 2 rfl rfl)
theorem dX1_isSoundNow_3 : decode cX1_isSoundNow 3 = .ok (.aload_n 0, 1) := dk_42 (dk_at dksX1_isSoundNow_0 3 rfl rfl)
theorem dX1_isSoundNow_4 : decode cX1_isSoundNow 4 = .ok (.invokevirtual 93, 3) := dk_182 0 93 (dk_at dksX1_isSoundNow_0 4 rfl rfl)
theorem dX1_isSoundNow_7 : decode cX1_isSoundNow 7 = .ok (.if_icmp .ge 36, 3) := dk_162 0 36 (dk_at dksX1_isSoundNow_0 7 rfl rfl)
theorem dX1_isSoundNow_10 : decode cX1_isSoundNow 10 = .ok (.aload_n 0, 1) := dk_42 (dk_at dksX1_isSoundNow_0 10 rfl rfl)
theorem dX1_isSoundNow_11 : decode cX1_isSoundNow 11 = .ok (.getfield 28, 3) := dk_180 0 28 (dk_at dksX1_isSoundNow_0 11 rfl rfl)
theorem dX1_isSoundNow_14 : decode cX1_isSoundNow 14 = .ok (.invokevirtual 83, 3) := dk_182 0 83 (dk_at dksX1_isSoundNow_0 14 rfl rfl)
theorem dX1_isSoundNow_17 : decode cX1_isSoundNow 17 = .ok (.checkcast 87, 3) := dk_192 0 87 (dk_at dksX1_isSoundNow_0 17 rfl rfl)
theorem dX1_isSoundNow_20 : decode cX1_isSoundNow 20 = .ok (.iload_n 1, 1) := dk_27 (dk_at dksX1_isSoundNow_0 20 rfl rfl)
theorem dX1_isSoundNow_21 : decode cX1_isSoundNow 21 = .ok (.invokevirtual 198, 3) := dk_182 0 198 (dk_at dksX1_isSoundNow_0 21 rfl rfl)
theorem dX1_isSoundNow_24 : decode cX1_isSoundNow 24 = .ok (.ifCond .eq 13, 3) := dk_153 0 13 (dk_at dksX1_isSoundNow_1 0 rfl rfl)
theorem dX1_isSoundNow_27 : decode cX1_isSoundNow 27 = .ok (.aload_n 0, 1) := dk_42 (dk_at dksX1_isSoundNow_1 3 rfl rfl)
theorem dX1_isSoundNow_28 : decode cX1_isSoundNow 28 = .ok (.iload_n 1, 1) := dk_27 (dk_at dksX1_isSoundNow_1 4 rfl rfl)
theorem dX1_isSoundNow_29 : decode cX1_isSoundNow 29 = .ok (.invokevirtual 186, 3) := dk_182 0 186 (dk_at dksX1_isSoundNow_1 5 rfl rfl)
theorem dX1_isSoundNow_32 : decode cX1_isSoundNow 32 = .ok (.ifCond .eq 5, 3) := dk_153 0 5 (dk_at dksX1_isSoundNow_1 8 rfl rfl)
theorem dX1_isSoundNow_35 : decode cX1_isSoundNow 35 = .ok (.iconst 0, 1) := dk_3 (dk_at dksX1_isSoundNow_1 11 rfl rfl)
theorem dX1_isSoundNow_36 : decode cX1_isSoundNow 36 = .ok (.ireturn, 1) := dk_172 (dk_at dksX1_isSoundNow_1 12 rfl rfl)
theorem dX1_isSoundNow_37 : decode cX1_isSoundNow 37 = .ok (.iinc 1 1, 3) := dk_132 1 1 (dk_at dksX1_isSoundNow_1 13 rfl rfl)
theorem dX1_isSoundNow_40 : decode cX1_isSoundNow 40 = .ok (.goto (-38), 3) := dk_167 255 218 (dk_at dksX1_isSoundNow_1 16 rfl rfl)
theorem dX1_isSoundNow_43 : decode cX1_isSoundNow 43 = .ok (.aload_n 0, 1) := dk_42 (dk_at dksX1_isSoundNow_1 19 rfl rfl)
theorem dX1_isSoundNow_44 : decode cX1_isSoundNow 44 = .ok (.getfield 61, 3) := dk_180 0 61 (dk_at dksX1_isSoundNow_1 20 rfl rfl)
theorem dX1_isSoundNow_47 : decode cX1_isSoundNow 47 = .ok (.astore_n 1, 1) := dk_76 (dk_at dksX1_isSoundNow_1 23 rfl rfl)
theorem dX1_isSoundNow_48 : decode cX1_isSoundNow 48 = .ok (.aload_n 1, 1) := dk_43 (dk_at dksX1_isSoundNow_2 0 rfl rfl)
theorem dX1_isSoundNow_49 : decode cX1_isSoundNow 49 = .ok (.arraylength, 1) := dk_190 (dk_at dksX1_isSoundNow_2 1 rfl rfl)
theorem dX1_isSoundNow_50 : decode cX1_isSoundNow 50 = .ok (.istore_n 2, 1) := dk_61 (dk_at dksX1_isSoundNow_2 2 rfl rfl)
theorem dX1_isSoundNow_51 : decode cX1_isSoundNow 51 = .ok (.iconst 0, 1) := dk_3 (dk_at dksX1_isSoundNow_2 3 rfl rfl)
theorem dX1_isSoundNow_52 : decode cX1_isSoundNow 52 = .ok (.istore_n 3, 1) := dk_62 (dk_at dksX1_isSoundNow_2 4 rfl rfl)
theorem dX1_isSoundNow_53 : decode cX1_isSoundNow 53 = .ok (.iload_n 3, 1) := dk_29 (dk_at dksX1_isSoundNow_2 5 rfl rfl)
theorem dX1_isSoundNow_54 : decode cX1_isSoundNow 54 = .ok (.iload_n 2, 1) := dk_28 (dk_at dksX1_isSoundNow_2 6 rfl rfl)
theorem dX1_isSoundNow_55 : decode cX1_isSoundNow 55 = .ok (.if_icmp .ge 34, 3) := dk_162 0 34 (dk_at dksX1_isSoundNow_2 7 rfl rfl)
theorem dX1_isSoundNow_58 : decode cX1_isSoundNow 58 = .ok (.aload_n 1, 1) := dk_43 (dk_at dksX1_isSoundNow_2 10 rfl rfl)
theorem dX1_isSoundNow_59 : decode cX1_isSoundNow 59 = .ok (.iload_n 3, 1) := dk_29 (dk_at dksX1_isSoundNow_2 11 rfl rfl)
theorem dX1_isSoundNow_60 : decode cX1_isSoundNow 60 = .ok (.iaload, 1) := dk_46 (dk_at dksX1_isSoundNow_2 12 rfl rfl)
theorem dX1_isSoundNow_61 : decode cX1_isSoundNow 61 = .ok (.istore 4, 2) := dk_54 4 (dk_at dksX1_isSoundNow_2 13 rfl rfl)
theorem dX1_isSoundNow_63 : decode cX1_isSoundNow 63 = .ok (.iload 4, 2) := dk_21 4 (dk_at dksX1_isSoundNow_2 15 rfl rfl)
theorem dX1_isSoundNow_65 : decode cX1_isSoundNow 65 = .ok (.iconst (-1), 1) := dk_2 (dk_at dksX1_isSoundNow_2 17 rfl rfl)
theorem dX1_isSoundNow_66 : decode cX1_isSoundNow 66 = .ok (.if_icmp .lt 15, 3) := dk_161 0 15 (dk_at dksX1_isSoundNow_2 18 rfl rfl)
theorem dX1_isSoundNow_69 : decode cX1_isSoundNow 69 = .ok (.iload 4, 2) := dk_21 4 (dk_at dksX1_isSoundNow_2 21 rfl rfl)
theorem dX1_isSoundNow_71 : decode cX1_isSoundNow 71 = .ok (.aload_n 0, 1) := dk_42 (dk_at dksX1_isSoundNow_2 23 rfl rfl)
theorem dX1_isSoundNow_72 : decode cX1_isSoundNow 72 = .ok (.getfield 42, 3) := dk_180 0 42 (dk_at dksX1_isSoundNow_3 0 rfl rfl)
theorem dX1_isSoundNow_75 : decode cX1_isSoundNow 75 = .ok (.invokevirtual 98, 3) := dk_182 0 98 (dk_at dksX1_isSoundNow_3 3 rfl rfl)
theorem dX1_isSoundNow_78 : decode cX1_isSoundNow 78 = .ok (.if_icmp .lt 5, 3) := dk_161 0 5 (dk_at dksX1_isSoundNow_3 6 rfl rfl)
theorem dX1_isSoundNow_81 : decode cX1_isSoundNow 81 = .ok (.iconst 0, 1) := dk_3 (dk_at dksX1_isSoundNow_3 9 rfl rfl)
theorem dX1_isSoundNow_82 : decode cX1_isSoundNow 82 = .ok (.ireturn, 1) := dk_172 (dk_at dksX1_isSoundNow_3 10 rfl rfl)
theorem dX1_isSoundNow_83 : decode cX1_isSoundNow 83 = .ok (.iinc 3 1, 3) := dk_132 3 1 (dk_at dksX1_isSoundNow_3 11 rfl rfl)
theorem dX1_isSoundNow_86 : decode cX1_isSoundNow 86 = .ok (.goto (-33), 3) := dk_167 255 223 (dk_at dksX1_isSoundNow_3 14 rfl rfl)
theorem dX1_isSoundNow_89 : decode cX1_isSoundNow 89 = .ok (.aload_n 0, 1) := dk_42 (dk_at dksX1_isSoundNow_3 17 rfl rfl)
theorem dX1_isSoundNow_90 : decode cX1_isSoundNow 90 = .ok (.getfield 42, 3) := dk_180 0 42 (dk_at dksX1_isSoundNow_3 18 rfl rfl)
theorem dX1_isSoundNow_93 : decode cX1_isSoundNow 93 = .ok (.invokevirtual 157, 3) := dk_182 0 157 (dk_at dksX1_isSoundNow_3 21 rfl rfl)
theorem dX1_isSoundNow_96 : decode cX1_isSoundNow 96 = .ok (.astore_n 1, 1) := dk_76 (dk_at dksX1_isSoundNow_4 0 rfl rfl)
theorem dX1_isSoundNow_97 : decode cX1_isSoundNow 97 = .ok (.aload_n 1, 1) := dk_43 (dk_at dksX1_isSoundNow_4 1 rfl rfl)
theorem dX1_isSoundNow_98 : decode cX1_isSoundNow 98 = .ok (.invokeinterface 161 1, 5) := by decide +kernel
theorem dX1_isSoundNow_103 : decode cX1_isSoundNow 103 = .ok (.ifCond .eq 26, 3) := dk_153 0 26 (dk_at dksX1_isSoundNow_4 7 rfl rfl)
theorem dX1_isSoundNow_106 : decode cX1_isSoundNow 106 = .ok (.aload_n 1, 1) := dk_43 (dk_at dksX1_isSoundNow_4 10 rfl rfl)
theorem dX1_isSoundNow_107 : decode cX1_isSoundNow 107 = .ok (.invokeinterface 166 1, 5) := by decide +kernel
theorem dX1_isSoundNow_112 : decode cX1_isSoundNow 112 = .ok (.checkcast 102, 3) := dk_192 0 102 (dk_at dksX1_isSoundNow_4 16 rfl rfl)
theorem dX1_isSoundNow_115 : decode cX1_isSoundNow 115 = .ok (.astore_n 2, 1) := dk_77 (dk_at dksX1_isSoundNow_4 19 rfl rfl)
theorem dX1_isSoundNow_116 : decode cX1_isSoundNow 116 = .ok (.aload_n 2, 1) := dk_44 (dk_at dksX1_isSoundNow_4 20 rfl rfl)
theorem dX1_isSoundNow_117 : decode cX1_isSoundNow 117 = .ok (.getfield 319, 3) := dk_180 1 63 (dk_at dksX1_isSoundNow_4 21 rfl rfl)
theorem dX1_isSoundNow_120 : decode cX1_isSoundNow 120 = .ok (.iconst 3, 1) := dk_6 (dk_at dksX1_isSoundNow_5 0 rfl rfl)
theorem dX1_isSoundNow_121 : decode cX1_isSoundNow 121 = .ok (.if_icmp .le 5, 3) := dk_164 0 5 (dk_at dksX1_isSoundNow_5 1 rfl rfl)
theorem dX1_isSoundNow_124 : decode cX1_isSoundNow 124 = .ok (.iconst 0, 1) := dk_3 (dk_at dksX1_isSoundNow_5 4 rfl rfl)
theorem dX1_isSoundNow_125 : decode cX1_isSoundNow 125 = .ok (.ireturn, 1) := dk_172 (dk_at dksX1_isSoundNow_5 5 rfl rfl)
theorem dX1_isSoundNow_126 : decode cX1_isSoundNow 126 = .ok (.goto (-29), 3) := dk_167 255 227 (dk_at dksX1_isSoundNow_5 6 rfl rfl)
theorem dX1_isSoundNow_129 : decode cX1_isSoundNow 129 = .ok (.aload_n 0, 1) := dk_42 (dk_at dksX1_isSoundNow_5 9 rfl rfl)
theorem dX1_isSoundNow_130 : decode cX1_isSoundNow 130 = .ok (.getfield 48, 3) := dk_180 0 48 (dk_at dksX1_isSoundNow_5 10 rfl rfl)
theorem dX1_isSoundNow_133 : decode cX1_isSoundNow 133 = .ok (.invokevirtual 157, 3) := dk_182 0 157 (dk_at dksX1_isSoundNow_5 13 rfl rfl)
theorem dX1_isSoundNow_136 : decode cX1_isSoundNow 136 = .ok (.astore_n 1, 1) := dk_76 (dk_at dksX1_isSoundNow_5 16 rfl rfl)
theorem dX1_isSoundNow_137 : decode cX1_isSoundNow 137 = .ok (.aload_n 1, 1) := dk_43 (dk_at dksX1_isSoundNow_5 17 rfl rfl)
theorem dX1_isSoundNow_138 : decode cX1_isSoundNow 138 = .ok (.invokeinterface 161 1, 5) := by decide +kernel
theorem dX1_isSoundNow_143 : decode cX1_isSoundNow 143 = .ok (.ifCond .eq 26, 3) := dk_153 0 26 (dk_at dksX1_isSoundNow_6 0 rfl rfl)
theorem dX1_isSoundNow_146 : decode cX1_isSoundNow 146 = .ok (.aload_n 1, 1) := dk_43 (dk_at dksX1_isSoundNow_6 3 rfl rfl)
theorem dX1_isSoundNow_147 : decode cX1_isSoundNow 147 = .ok (.invokeinterface 166 1, 5) := by decide +kernel
theorem dX1_isSoundNow_152 : decode cX1_isSoundNow 152 = .ok (.checkcast 104, 3) := dk_192 0 104 (dk_at dksX1_isSoundNow_6 9 rfl rfl)
theorem dX1_isSoundNow_155 : decode cX1_isSoundNow 155 = .ok (.astore_n 2, 1) := dk_77 (dk_at dksX1_isSoundNow_6 12 rfl rfl)
theorem dX1_isSoundNow_156 : decode cX1_isSoundNow 156 = .ok (.aload_n 2, 1) := dk_44 (dk_at dksX1_isSoundNow_6 13 rfl rfl)
theorem dX1_isSoundNow_157 : decode cX1_isSoundNow 157 = .ok (.getfield 405, 3) := dk_180 1 149 (dk_at dksX1_isSoundNow_6 14 rfl rfl)
theorem dX1_isSoundNow_160 : decode cX1_isSoundNow 160 = .ok (.iconst 4, 1) := dk_7 (dk_at dksX1_isSoundNow_6 17 rfl rfl)
theorem dX1_isSoundNow_161 : decode cX1_isSoundNow 161 = .ok (.if_icmp .le 5, 3) := dk_164 0 5 (dk_at dksX1_isSoundNow_6 18 rfl rfl)
theorem dX1_isSoundNow_164 : decode cX1_isSoundNow 164 = .ok (.iconst 0, 1) := dk_3 (dk_at dksX1_isSoundNow_6 21 rfl rfl)
theorem dX1_isSoundNow_165 : decode cX1_isSoundNow 165 = .ok (.ireturn, 1) := dk_172 (dk_at dksX1_isSoundNow_6 22 rfl rfl)
theorem dX1_isSoundNow_166 : decode cX1_isSoundNow 166 = .ok (.goto (-29), 3) := dk_167 255 227 (dk_at dksX1_isSoundNow_7 0 rfl rfl)
theorem dX1_isSoundNow_169 : decode cX1_isSoundNow 169 = .ok (.iconst 1, 1) := dk_4 (dk_at dksX1_isSoundNow_7 3 rfl rfl)
theorem dX1_isSoundNow_170 : decode cX1_isSoundNow 170 = .ok (.ireturn, 1) := dk_172 (dk_at dksX1_isSoundNow_7 4 rfl rfl)
abbrev cX1_size : ByteArray := prog_1_method_9_code
def yX1_size : MethodName := ⟨RX1, "size", "()I"⟩
def dkwX1_size_1 : List UInt8 := [167, 0, 4, 3, 172]
abbrev dktX1_size_1 : List UInt8 := dkwX1_size_1 ++ []
def dkwX1_size_0 : List UInt8 := [42, 180, 0, 28, 182, 0, 79, 153, 0, 19, 42, 180, 0, 28, 182, 0, 83, 192, 0, 87, 182, 0, 89]
abbrev dktX1_size_0 : List UInt8 := dkwX1_size_0 ++ dktX1_size_1
theorem dksX1_size_0 : cX1_size.data.toList.drop 0 = dktX1_size_0 := by decide +kernel
theorem dksX1_size_1 : cX1_size.data.toList.drop 23 = dktX1_size_1 := dk_seg dksX1_size_0 23 rfl rfl
theorem dX1_size_0 : decode cX1_size 0 = .ok (.aload_n 0, 1) := dk_42 (dk_at dksX1_size_0 0 rfl rfl)
theorem dX1_size_1 : decode cX1_size 1 = .ok (.getfield 28, 3) := dk_180 0 28 (dk_at dksX1_size_0 1 rfl rfl)
theorem dX1_size_4 : decode cX1_size 4 = .ok (.invokevirtual 79, 3) := dk_182 0 79 (dk_at dksX1_size_0 4 rfl rfl)
theorem dX1_size_7 : decode cX1_size 7 = .ok (.ifCond .eq 19, 3) := dk_153 0 19 (dk_at dksX1_size_0 7 rfl rfl)
theorem dX1_size_10 : decode cX1_size 10 = .ok (.aload_n 0, 1) := dk_42 (dk_at dksX1_size_0 10 rfl rfl)
theorem dX1_size_11 : decode cX1_size 11 = .ok (.getfield 28, 3) := dk_180 0 28 (dk_at dksX1_size_0 11 rfl rfl)
theorem dX1_size_14 : decode cX1_size 14 = .ok (.invokevirtual 83, 3) := dk_182 0 83 (dk_at dksX1_size_0 14 rfl rfl)
theorem dX1_size_17 : decode cX1_size 17 = .ok (.checkcast 87, 3) := dk_192 0 87 (dk_at dksX1_size_0 17 rfl rfl)
theorem dX1_size_20 : decode cX1_size 20 = .ok (.invokevirtual 89, 3) := dk_182 0 89 (dk_at dksX1_size_0 20 rfl rfl)
theorem dX1_size_23 : decode cX1_size 23 = .ok (.goto 4, 3) := dk_167 0 4 (dk_at dksX1_size_1 0 rfl rfl)
theorem dX1_size_26 : decode cX1_size 26 = .ok (.iconst 0, 1) := dk_3 (dk_at dksX1_size_1 3 rfl rfl)
theorem dX1_size_27 : decode cX1_size 27 = .ok (.ireturn, 1) := dk_172 (dk_at dksX1_size_1 4 rfl rfl)
abbrev cX1_isTaken : ByteArray := prog_1_method_15_code
def yX1_isTaken : MethodName := ⟨RX1, "isTaken", "(I)Z"⟩
def dkwX1_isTaken_6 : List UInt8 := [185, 0, 166, 1, 0, 192, 0, 104, 78, 45, 27, 182, 0, 181, 153, 0, 5, 4, 172, 167, 255, 227, 3, 172]
abbrev dktX1_isTaken_6 : List UInt8 := dkwX1_isTaken_6 ++ []
def dkwX1_isTaken_5 : List UInt8 := [167, 255, 227, 42, 180, 0, 48, 182, 0, 157, 77, 44, 185, 0, 161, 1, 0, 153, 0, 26, 44]
abbrev dktX1_isTaken_5 : List UInt8 := dkwX1_isTaken_5 ++ dktX1_isTaken_6
def dkwX1_isTaken_4 : List UInt8 := [153, 0, 26, 44, 185, 0, 166, 1, 0, 192, 0, 102, 78, 45, 27, 182, 0, 178, 153, 0, 5, 4, 172]
abbrev dktX1_isTaken_4 : List UInt8 := dkwX1_isTaken_4 ++ dktX1_isTaken_5
def dkwX1_isTaken_3 : List UInt8 := [4, 172, 132, 2, 1, 167, 255, 222, 42, 180, 0, 42, 182, 0, 157, 77, 44, 185, 0, 161, 1, 0]
abbrev dktX1_isTaken_3 : List UInt8 := dkwX1_isTaken_3 ++ dktX1_isTaken_4
def dkwX1_isTaken_2 : List UInt8 := [182, 0, 98, 162, 0, 29, 42, 180, 0, 45, 28, 182, 0, 99, 192, 0, 173, 182, 0, 175, 27, 160, 0, 5]
abbrev dktX1_isTaken_2 : List UInt8 := dkwX1_isTaken_2 ++ dktX1_isTaken_3
def dkwX1_isTaken_1 : List UInt8 := [192, 0, 168, 78, 45, 180, 0, 170, 27, 160, 0, 5, 4, 172, 167, 255, 227, 3, 61, 28, 42, 180, 0, 45]
abbrev dktX1_isTaken_1 : List UInt8 := dkwX1_isTaken_1 ++ dktX1_isTaken_2
def dkwX1_isTaken_0 : List UInt8 := [42, 180, 0, 35, 182, 0, 157, 77, 44, 185, 0, 161, 1, 0, 153, 0, 26, 44, 185, 0, 166, 1, 0]
abbrev dktX1_isTaken_0 : List UInt8 := dkwX1_isTaken_0 ++ dktX1_isTaken_1
theorem dksX1_isTaken_0 : cX1_isTaken.data.toList.drop 0 = dktX1_isTaken_0 := by decide +kernel
theorem dksX1_isTaken_1 : cX1_isTaken.data.toList.drop 23 = dktX1_isTaken_1 := dk_seg dksX1_isTaken_0 23 rfl rfl
theorem dksX1_isTaken_2 : cX1_isTaken.data.toList.drop 47 = dktX1_isTaken_2 := dk_seg dksX1_isTaken_1 24 rfl rfl
theorem dksX1_isTaken_3 : cX1_isTaken.data.toList.drop 71 = dktX1_isTaken_3 := dk_seg dksX1_isTaken_2 24 rfl rfl
theorem dksX1_isTaken_4 : cX1_isTaken.data.toList.drop 93 = dktX1_isTaken_4 := dk_seg dksX1_isTaken_3 22 rfl rfl
theorem dksX1_isTaken_5 : cX1_isTaken.data.toList.drop 116 = dktX1_isTaken_5 := dk_seg dksX1_isTaken_4 23 rfl rfl
theorem dksX1_isTaken_6 : cX1_isTaken.data.toList.drop 137 = dktX1_isTaken_6 := dk_seg dksX1_isTaken_5 21 rfl rfl
theorem dX1_isTaken_0 : decode cX1_isTaken 0 = .ok (.aload_n 0, 1) := dk_42 (dk_at dksX1_isTaken_0 0 rfl rfl)
theorem dX1_isTaken_1 : decode cX1_isTaken 1 = .ok (.getfield 35, 3) := dk_180 0 35 (dk_at dksX1_isTaken_0 1 rfl rfl)
theorem dX1_isTaken_4 : decode cX1_isTaken 4 = .ok (.invokevirtual 157, 3) := dk_182 0 157 (dk_at dksX1_isTaken_0 4 rfl rfl)
theorem dX1_isTaken_7 : decode cX1_isTaken 7 = .ok (.astore_n 2, 1) := dk_77 (dk_at dksX1_isTaken_0 7 rfl rfl)
theorem dX1_isTaken_8 : decode cX1_isTaken 8 = .ok (.aload_n 2, 1) := dk_44 (dk_at dksX1_isTaken_0 8 rfl rfl)
theorem dX1_isTaken_9 : decode cX1_isTaken 9 = .ok (.invokeinterface 161 1, 5) := by decide +kernel
theorem dX1_isTaken_14 : decode cX1_isTaken 14 = .ok (.ifCond .eq 26, 3) := dk_153 0 26 (dk_at dksX1_isTaken_0 14 rfl rfl)
theorem dX1_isTaken_17 : decode cX1_isTaken 17 = .ok (.aload_n 2, 1) := dk_44 (dk_at dksX1_isTaken_0 17 rfl rfl)
theorem dX1_isTaken_18 : decode cX1_isTaken 18 = .ok (.invokeinterface 166 1, 5) := by decide +kernel
theorem dX1_isTaken_23 : decode cX1_isTaken 23 = .ok (.checkcast 168, 3) := dk_192 0 168 (dk_at dksX1_isTaken_1 0 rfl rfl)
theorem dX1_isTaken_26 : decode cX1_isTaken 26 = .ok (.astore_n 3, 1) := dk_78 (dk_at dksX1_isTaken_1 3 rfl rfl)
theorem dX1_isTaken_27 : decode cX1_isTaken 27 = .ok (.aload_n 3, 1) := dk_45 (dk_at dksX1_isTaken_1 4 rfl rfl)
theorem dX1_isTaken_28 : decode cX1_isTaken 28 = .ok (.getfield 170, 3) := dk_180 0 170 (dk_at dksX1_isTaken_1 5 rfl rfl)
theorem dX1_isTaken_31 : decode cX1_isTaken 31 = .ok (.iload_n 1, 1) := dk_27 (dk_at dksX1_isTaken_1 8 rfl rfl)
theorem dX1_isTaken_32 : decode cX1_isTaken 32 = .ok (.if_icmp .ne 5, 3) := dk_160 0 5 (dk_at dksX1_isTaken_1 9 rfl rfl)
theorem dX1_isTaken_35 : decode cX1_isTaken 35 = .ok (.iconst 1, 1) := dk_4 (dk_at dksX1_isTaken_1 12 rfl rfl)
theorem dX1_isTaken_36 : decode cX1_isTaken 36 = .ok (.ireturn, 1) := dk_172 (dk_at dksX1_isTaken_1 13 rfl rfl)
theorem dX1_isTaken_37 : decode cX1_isTaken 37 = .ok (.goto (-29), 3) := dk_167 255 227 (dk_at dksX1_isTaken_1 14 rfl rfl)
theorem dX1_isTaken_40 : decode cX1_isTaken 40 = .ok (.iconst 0, 1) := dk_3 (dk_at dksX1_isTaken_1 17 rfl rfl)
theorem dX1_isTaken_41 : decode cX1_isTaken 41 = .ok (.istore_n 2, 1) := dk_61 (dk_at dksX1_isTaken_1 18 rfl rfl)
theorem dX1_isTaken_42 : decode cX1_isTaken 42 = .ok (.iload_n 2, 1) := dk_28 (dk_at dksX1_isTaken_1 19 rfl rfl)
theorem dX1_isTaken_43 : decode cX1_isTaken 43 = .ok (.aload_n 0, 1) := dk_42 (dk_at dksX1_isTaken_1 20 rfl rfl)
theorem dX1_isTaken_44 : decode cX1_isTaken 44 = .ok (.getfield 45, 3) := dk_180 0 45 (dk_at dksX1_isTaken_1 21 rfl rfl)
theorem dX1_isTaken_47 : decode cX1_isTaken 47 = .ok (.invokevirtual 98, 3) := dk_182 0 98 (dk_at dksX1_isTaken_2 0 rfl rfl)
theorem dX1_isTaken_50 : decode cX1_isTaken 50 = .ok (.if_icmp .ge 29, 3) := dk_162 0 29 (dk_at dksX1_isTaken_2 3 rfl rfl)
theorem dX1_isTaken_53 : decode cX1_isTaken 53 = .ok (.aload_n 0, 1) := dk_42 (dk_at dksX1_isTaken_2 6 rfl rfl)
theorem dX1_isTaken_54 : decode cX1_isTaken 54 = .ok (.getfield 45, 3) := dk_180 0 45 (dk_at dksX1_isTaken_2 7 rfl rfl)
theorem dX1_isTaken_57 : decode cX1_isTaken 57 = .ok (.iload_n 2, 1) := dk_28 (dk_at dksX1_isTaken_2 10 rfl rfl)
theorem dX1_isTaken_58 : decode cX1_isTaken 58 = .ok (.invokevirtual 99, 3) := dk_182 0 99 (dk_at dksX1_isTaken_2 11 rfl rfl)
theorem dX1_isTaken_61 : decode cX1_isTaken 61 = .ok (.checkcast 173, 3) := dk_192 0 173 (dk_at dksX1_isTaken_2 14 rfl rfl)
theorem dX1_isTaken_64 : decode cX1_isTaken 64 = .ok (.invokevirtual 175, 3) := dk_182 0 175 (dk_at dksX1_isTaken_2 17 rfl rfl)
theorem dX1_isTaken_67 : decode cX1_isTaken 67 = .ok (.iload_n 1, 1) := dk_27 (dk_at dksX1_isTaken_2 20 rfl rfl)
theorem dX1_isTaken_68 : decode cX1_isTaken 68 = .ok (.if_icmp .ne 5, 3) := dk_160 0 5 (dk_at dksX1_isTaken_2 21 rfl rfl)
theorem dX1_isTaken_71 : decode cX1_isTaken 71 = .ok (.iconst 1, 1) := dk_4 (dk_at dksX1_isTaken_3 0 rfl rfl)
theorem dX1_isTaken_72 : decode cX1_isTaken 72 = .ok (.ireturn, 1) := dk_172 (dk_at dksX1_isTaken_3 1 rfl rfl)
theorem dX1_isTaken_73 : decode cX1_isTaken 73 = .ok (.iinc 2 1, 3) := dk_132 2 1 (dk_at dksX1_isTaken_3 2 rfl rfl)
theorem dX1_isTaken_76 : decode cX1_isTaken 76 = .ok (.goto (-34), 3) := dk_167 255 222 (dk_at dksX1_isTaken_3 5 rfl rfl)
theorem dX1_isTaken_79 : decode cX1_isTaken 79 = .ok (.aload_n 0, 1) := dk_42 (dk_at dksX1_isTaken_3 8 rfl rfl)
theorem dX1_isTaken_80 : decode cX1_isTaken 80 = .ok (.getfield 42, 3) := dk_180 0 42 (dk_at dksX1_isTaken_3 9 rfl rfl)
theorem dX1_isTaken_83 : decode cX1_isTaken 83 = .ok (.invokevirtual 157, 3) := dk_182 0 157 (dk_at dksX1_isTaken_3 12 rfl rfl)
theorem dX1_isTaken_86 : decode cX1_isTaken 86 = .ok (.astore_n 2, 1) := dk_77 (dk_at dksX1_isTaken_3 15 rfl rfl)
theorem dX1_isTaken_87 : decode cX1_isTaken 87 = .ok (.aload_n 2, 1) := dk_44 (dk_at dksX1_isTaken_3 16 rfl rfl)
theorem dX1_isTaken_88 : decode cX1_isTaken 88 = .ok (.invokeinterface 161 1, 5) := by decide +kernel
theorem dX1_isTaken_93 : decode cX1_isTaken 93 = .ok (.ifCond .eq 26, 3) := dk_153 0 26 (dk_at dksX1_isTaken_4 0 rfl rfl)
theorem dX1_isTaken_96 : decode cX1_isTaken 96 = .ok (.aload_n 2, 1) := dk_44 (dk_at dksX1_isTaken_4 3 rfl rfl)
theorem dX1_isTaken_97 : decode cX1_isTaken 97 = .ok (.invokeinterface 166 1, 5) := by decide +kernel
theorem dX1_isTaken_102 : decode cX1_isTaken 102 = .ok (.checkcast 102, 3) := dk_192 0 102 (dk_at dksX1_isTaken_4 9 rfl rfl)
theorem dX1_isTaken_105 : decode cX1_isTaken 105 = .ok (.astore_n 3, 1) := dk_78 (dk_at dksX1_isTaken_4 12 rfl rfl)
theorem dX1_isTaken_106 : decode cX1_isTaken 106 = .ok (.aload_n 3, 1) := dk_45 (dk_at dksX1_isTaken_4 13 rfl rfl)
theorem dX1_isTaken_107 : decode cX1_isTaken 107 = .ok (.iload_n 1, 1) := dk_27 (dk_at dksX1_isTaken_4 14 rfl rfl)
theorem dX1_isTaken_108 : decode cX1_isTaken 108 = .ok (.invokevirtual 178, 3) := dk_182 0 178 (dk_at dksX1_isTaken_4 15 rfl rfl)
theorem dX1_isTaken_111 : decode cX1_isTaken 111 = .ok (.ifCond .eq 5, 3) := dk_153 0 5 (dk_at dksX1_isTaken_4 18 rfl rfl)
theorem dX1_isTaken_114 : decode cX1_isTaken 114 = .ok (.iconst 1, 1) := dk_4 (dk_at dksX1_isTaken_4 21 rfl rfl)
theorem dX1_isTaken_115 : decode cX1_isTaken 115 = .ok (.ireturn, 1) := dk_172 (dk_at dksX1_isTaken_4 22 rfl rfl)
theorem dX1_isTaken_116 : decode cX1_isTaken 116 = .ok (.goto (-29), 3) := dk_167 255 227 (dk_at dksX1_isTaken_5 0 rfl rfl)
theorem dX1_isTaken_119 : decode cX1_isTaken 119 = .ok (.aload_n 0, 1) := dk_42 (dk_at dksX1_isTaken_5 3 rfl rfl)
theorem dX1_isTaken_120 : decode cX1_isTaken 120 = .ok (.getfield 48, 3) := dk_180 0 48 (dk_at dksX1_isTaken_5 4 rfl rfl)
theorem dX1_isTaken_123 : decode cX1_isTaken 123 = .ok (.invokevirtual 157, 3) := dk_182 0 157 (dk_at dksX1_isTaken_5 7 rfl rfl)
theorem dX1_isTaken_126 : decode cX1_isTaken 126 = .ok (.astore_n 2, 1) := dk_77 (dk_at dksX1_isTaken_5 10 rfl rfl)
theorem dX1_isTaken_127 : decode cX1_isTaken 127 = .ok (.aload_n 2, 1) := dk_44 (dk_at dksX1_isTaken_5 11 rfl rfl)
theorem dX1_isTaken_128 : decode cX1_isTaken 128 = .ok (.invokeinterface 161 1, 5) := by decide +kernel
theorem dX1_isTaken_133 : decode cX1_isTaken 133 = .ok (.ifCond .eq 26, 3) := dk_153 0 26 (dk_at dksX1_isTaken_5 17 rfl rfl)
theorem dX1_isTaken_136 : decode cX1_isTaken 136 = .ok (.aload_n 2, 1) := dk_44 (dk_at dksX1_isTaken_5 20 rfl rfl)
theorem dX1_isTaken_137 : decode cX1_isTaken 137 = .ok (.invokeinterface 166 1, 5) := by decide +kernel
theorem dX1_isTaken_142 : decode cX1_isTaken 142 = .ok (.checkcast 104, 3) := dk_192 0 104 (dk_at dksX1_isTaken_6 5 rfl rfl)
theorem dX1_isTaken_145 : decode cX1_isTaken 145 = .ok (.astore_n 3, 1) := dk_78 (dk_at dksX1_isTaken_6 8 rfl rfl)
theorem dX1_isTaken_146 : decode cX1_isTaken 146 = .ok (.aload_n 3, 1) := dk_45 (dk_at dksX1_isTaken_6 9 rfl rfl)
theorem dX1_isTaken_147 : decode cX1_isTaken 147 = .ok (.iload_n 1, 1) := dk_27 (dk_at dksX1_isTaken_6 10 rfl rfl)
theorem dX1_isTaken_148 : decode cX1_isTaken 148 = .ok (.invokevirtual 181, 3) := dk_182 0 181 (dk_at dksX1_isTaken_6 11 rfl rfl)
theorem dX1_isTaken_151 : decode cX1_isTaken 151 = .ok (.ifCond .eq 5, 3) := dk_153 0 5 (dk_at dksX1_isTaken_6 14 rfl rfl)
theorem dX1_isTaken_154 : decode cX1_isTaken 154 = .ok (.iconst 1, 1) := dk_4 (dk_at dksX1_isTaken_6 17 rfl rfl)
theorem dX1_isTaken_155 : decode cX1_isTaken 155 = .ok (.ireturn, 1) := dk_172 (dk_at dksX1_isTaken_6 18 rfl rfl)
theorem dX1_isTaken_156 : decode cX1_isTaken 156 = .ok (.goto (-29), 3) := dk_167 255 227 (dk_at dksX1_isTaken_6 19 rfl rfl)
theorem dX1_isTaken_159 : decode cX1_isTaken 159 = .ok (.iconst 0, 1) := dk_3 (dk_at dksX1_isTaken_6 22 rfl rfl)
theorem dX1_isTaken_160 : decode cX1_isTaken 160 = .ok (.ireturn, 1) := dk_172 (dk_at dksX1_isTaken_6 23 rfl rfl)
abbrev cX1_knock : ByteArray := prog_1_method_84_code
def yX1_knock : MethodName := ⟨RX1, "knock", "()I"⟩
def dkwX1_knock_0 : List UInt8 := [42, 89, 180, 1, 201, 4, 96, 181, 1, 201, 42, 180, 1, 201, 172]
abbrev dktX1_knock_0 : List UInt8 := dkwX1_knock_0 ++ []
theorem dksX1_knock_0 : cX1_knock.data.toList.drop 0 = dktX1_knock_0 := by decide +kernel
theorem dX1_knock_0 : decode cX1_knock 0 = .ok (.aload_n 0, 1) := dk_42 (dk_at dksX1_knock_0 0 rfl rfl)
theorem dX1_knock_1 : decode cX1_knock 1 = .ok (.dup, 1) := dk_89 (dk_at dksX1_knock_0 1 rfl rfl)
theorem dX1_knock_2 : decode cX1_knock 2 = .ok (.getfield 457, 3) := dk_180 1 201 (dk_at dksX1_knock_0 2 rfl rfl)
theorem dX1_knock_5 : decode cX1_knock 5 = .ok (.iconst 1, 1) := dk_4 (dk_at dksX1_knock_0 5 rfl rfl)
theorem dX1_knock_6 : decode cX1_knock 6 = .ok (.iadd, 1) := dk_96 (dk_at dksX1_knock_0 6 rfl rfl)
theorem dX1_knock_7 : decode cX1_knock 7 = .ok (.putfield 457, 3) := dk_181 1 201 (dk_at dksX1_knock_0 7 rfl rfl)
theorem dX1_knock_10 : decode cX1_knock 10 = .ok (.aload_n 0, 1) := dk_42 (dk_at dksX1_knock_0 10 rfl rfl)
theorem dX1_knock_11 : decode cX1_knock 11 = .ok (.getfield 457, 3) := dk_180 1 201 (dk_at dksX1_knock_0 11 rfl rfl)
theorem dX1_knock_14 : decode cX1_knock 14 = .ok (.ireturn, 1) := dk_172 (dk_at dksX1_knock_0 14 rfl rfl)
abbrev cX1_digest : ByteArray := prog_1_method_86_code
def yX1_digest : MethodName := ⟨RX1, "digest", "()J"⟩
def dkwX1_digest_15 : List UInt8 := [153, 0, 7, 10, 167, 0, 4, 9, 182, 1, 245, 173]
abbrev dktX1_digest_15 : List UInt8 := dkwX1_digest_15 ++ []
def dkwX1_digest_14 : List UInt8 := [182, 1, 169, 133, 182, 1, 245, 88, 132, 3, 1, 167, 255, 236, 167, 255, 212, 42, 42, 182, 1, 234]
abbrev dktX1_digest_14 : List UInt8 := dkwX1_digest_14 ++ dktX1_digest_15
def dkwX1_digest_13 : List UInt8 := [153, 0, 41, 43, 185, 0, 166, 1, 0, 192, 1, 118, 77, 3, 62, 29, 7, 163, 0, 21, 42, 42, 44, 29]
abbrev dktX1_digest_13 : List UInt8 := dkwX1_digest_13 ++ dktX1_digest_14
def dkwX1_digest_12 : List UInt8 := [132, 3, 1, 167, 255, 235, 167, 255, 211, 42, 180, 0, 51, 182, 0, 157, 76, 43, 185, 0, 161, 1, 0]
abbrev dktX1_digest_12 : List UInt8 := dkwX1_digest_12 ++ dktX1_digest_13
def dkwX1_digest_11 : List UInt8 := [192, 0, 104, 77, 3, 62, 29, 16, 8, 163, 0, 21, 42, 42, 44, 29, 182, 1, 155, 133, 182, 1, 245, 88]
abbrev dktX1_digest_11 : List UInt8 := dkwX1_digest_11 ++ dktX1_digest_12
def dkwX1_digest_10 : List UInt8 := [180, 0, 48, 182, 0, 157, 76, 43, 185, 0, 161, 1, 0, 153, 0, 42, 43, 185, 0, 166, 1, 0]
abbrev dktX1_digest_10 : List UInt8 := dkwX1_digest_10 ++ dktX1_digest_11
def dkwX1_digest_9 : List UInt8 := [192, 0, 173, 182, 0, 175, 3, 182, 1, 60, 133, 182, 1, 245, 88, 132, 1, 1, 167, 255, 192, 42]
abbrev dktX1_digest_9 : List UInt8 := dkwX1_digest_9 ++ dktX1_digest_10
def dkwX1_digest_8 : List UInt8 := [182, 0, 175, 4, 182, 1, 60, 133, 182, 1, 245, 88, 42, 42, 42, 180, 0, 45, 27, 182, 0, 99]
abbrev dktX1_digest_8 : List UInt8 := dkwX1_digest_8 ++ dktX1_digest_9
def dkwX1_digest_7 : List UInt8 := [180, 0, 45, 182, 0, 98, 162, 0, 59, 42, 42, 42, 180, 0, 45, 27, 182, 0, 99, 192, 0, 173]
abbrev dktX1_digest_7 : List UInt8 := dkwX1_digest_7 ++ dktX1_digest_8
def dkwX1_digest_6 : List UInt8 := [182, 1, 105, 133, 182, 1, 245, 88, 132, 2, 1, 167, 255, 235, 132, 1, 1, 167, 255, 216, 3, 60, 27, 42]
abbrev dktX1_digest_6 : List UInt8 := dkwX1_digest_6 ++ dktX1_digest_7
def dkwX1_digest_5 : List UInt8 := [60, 27, 42, 180, 0, 42, 182, 0, 98, 162, 0, 35, 3, 61, 28, 16, 8, 163, 0, 21, 42, 42, 27, 28]
abbrev dktX1_digest_5 : List UInt8 := dkwX1_digest_5 ++ dktX1_digest_6
def dkwX1_digest_4 : List UInt8 := [16, 120, 28, 182, 1, 34, 133, 182, 1, 245, 88, 132, 2, 1, 167, 255, 234, 132, 1, 1, 167, 255, 218, 3]
abbrev dktX1_digest_4 : List UInt8 := dkwX1_digest_4 ++ dktX1_digest_5
def dkwX1_digest_3 : List UInt8 := [167, 255, 220, 3, 60, 27, 42, 182, 0, 93, 162, 0, 36, 3, 61, 28, 7, 163, 0, 23, 42, 42, 27]
abbrev dktX1_digest_3 : List UInt8 := dkwX1_digest_3 ++ dktX1_digest_4
def dkwX1_digest_2 : List UInt8 := [163, 0, 21, 42, 42, 27, 28, 182, 1, 57, 133, 182, 1, 245, 88, 132, 2, 1, 167, 255, 235, 132, 1, 60]
abbrev dktX1_digest_2 : List UInt8 := dkwX1_digest_2 ++ dktX1_digest_3
def dkwX1_digest_1 : List UInt8 := [182, 1, 245, 88, 132, 1, 1, 167, 255, 236, 3, 60, 27, 17, 0, 240, 162, 0, 35, 3, 61, 28, 16, 6]
abbrev dktX1_digest_1 : List UInt8 := dkwX1_digest_1 ++ dktX1_digest_2
def dkwX1_digest_0 : List UInt8 := [42, 20, 1, 243, 181, 1, 237, 3, 60, 27, 16, 12, 163, 0, 20, 42, 42, 27, 182, 1, 204, 133]
abbrev dktX1_digest_0 : List UInt8 := dkwX1_digest_0 ++ dktX1_digest_1
theorem dksX1_digest_0 : cX1_digest.data.toList.drop 0 = dktX1_digest_0 := by decide +kernel
theorem dksX1_digest_1 : cX1_digest.data.toList.drop 22 = dktX1_digest_1 := dk_seg dksX1_digest_0 22 rfl rfl
theorem dksX1_digest_2 : cX1_digest.data.toList.drop 46 = dktX1_digest_2 := dk_seg dksX1_digest_1 24 rfl rfl
theorem dksX1_digest_3 : cX1_digest.data.toList.drop 70 = dktX1_digest_3 := dk_seg dksX1_digest_2 24 rfl rfl
theorem dksX1_digest_4 : cX1_digest.data.toList.drop 93 = dktX1_digest_4 := dk_seg dksX1_digest_3 23 rfl rfl
theorem dksX1_digest_5 : cX1_digest.data.toList.drop 117 = dktX1_digest_5 := dk_seg dksX1_digest_4 24 rfl rfl
theorem dksX1_digest_6 : cX1_digest.data.toList.drop 141 = dktX1_digest_6 := dk_seg dksX1_digest_5 24 rfl rfl
theorem dksX1_digest_7 : cX1_digest.data.toList.drop 165 = dktX1_digest_7 := dk_seg dksX1_digest_6 24 rfl rfl
theorem dksX1_digest_8 : cX1_digest.data.toList.drop 187 = dktX1_digest_8 := dk_seg dksX1_digest_7 22 rfl rfl
theorem dksX1_digest_9 : cX1_digest.data.toList.drop 209 = dktX1_digest_9 := dk_seg dksX1_digest_8 22 rfl rfl
theorem dksX1_digest_10 : cX1_digest.data.toList.drop 231 = dktX1_digest_10 := dk_seg dksX1_digest_9 22 rfl rfl
theorem dksX1_digest_11 : cX1_digest.data.toList.drop 253 = dktX1_digest_11 := dk_seg dksX1_digest_10 22 rfl rfl
theorem dksX1_digest_12 : cX1_digest.data.toList.drop 277 = dktX1_digest_12 := dk_seg dksX1_digest_11 24 rfl rfl
theorem dksX1_digest_13 : cX1_digest.data.toList.drop 300 = dktX1_digest_13 := dk_seg dksX1_digest_12 23 rfl rfl
theorem dksX1_digest_14 : cX1_digest.data.toList.drop 324 = dktX1_digest_14 := dk_seg dksX1_digest_13 24 rfl rfl
theorem dksX1_digest_15 : cX1_digest.data.toList.drop 346 = dktX1_digest_15 := dk_seg dksX1_digest_14 22 rfl rfl
theorem dX1_digest_0 : decode cX1_digest 0 = .ok (.aload_n 0, 1) := dk_42 (dk_at dksX1_digest_0 0 rfl rfl)
theorem dX1_digest_1 : decode cX1_digest 1 = .ok (.ldc2_w 499, 3) := dk_20 1 243 (dk_at dksX1_digest_0 1 rfl rfl)
theorem dX1_digest_4 : decode cX1_digest 4 = .ok (.putfield 493, 3) := dk_181 1 237 (dk_at dksX1_digest_0 4 rfl rfl)
theorem dX1_digest_7 : decode cX1_digest 7 = .ok (.iconst 0, 1) := dk_3 (dk_at dksX1_digest_0 7 rfl rfl)
theorem dX1_digest_8 : decode cX1_digest 8 = .ok (.istore_n 1, 1) := dk_60 (dk_at dksX1_digest_0 8 rfl rfl)
theorem dX1_digest_9 : decode cX1_digest 9 = .ok (.iload_n 1, 1) := dk_27 (dk_at dksX1_digest_0 9 rfl rfl)
theorem dX1_digest_10 : decode cX1_digest 10 = .ok (.bipush 12, 2) := dk_16 12 (dk_at dksX1_digest_0 10 rfl rfl)
theorem dX1_digest_12 : decode cX1_digest 12 = .ok (.if_icmp .gt 20, 3) := dk_163 0 20 (dk_at dksX1_digest_0 12 rfl rfl)
theorem dX1_digest_15 : decode cX1_digest 15 = .ok (.aload_n 0, 1) := dk_42 (dk_at dksX1_digest_0 15 rfl rfl)
theorem dX1_digest_16 : decode cX1_digest 16 = .ok (.aload_n 0, 1) := dk_42 (dk_at dksX1_digest_0 16 rfl rfl)
theorem dX1_digest_17 : decode cX1_digest 17 = .ok (.iload_n 1, 1) := dk_27 (dk_at dksX1_digest_0 17 rfl rfl)
theorem dX1_digest_18 : decode cX1_digest 18 = .ok (.invokevirtual 460, 3) := dk_182 1 204 (dk_at dksX1_digest_0 18 rfl rfl)
theorem dX1_digest_21 : decode cX1_digest 21 = .ok (.i2l, 1) := dk_133 (dk_at dksX1_digest_0 21 rfl rfl)
theorem dX1_digest_22 : decode cX1_digest 22 = .ok (.invokevirtual 501, 3) := dk_182 1 245 (dk_at dksX1_digest_1 0 rfl rfl)
theorem dX1_digest_25 : decode cX1_digest 25 = .ok (.pop2, 1) := dk_88 (dk_at dksX1_digest_1 3 rfl rfl)
theorem dX1_digest_26 : decode cX1_digest 26 = .ok (.iinc 1 1, 3) := dk_132 1 1 (dk_at dksX1_digest_1 4 rfl rfl)
theorem dX1_digest_29 : decode cX1_digest 29 = .ok (.goto (-20), 3) := dk_167 255 236 (dk_at dksX1_digest_1 7 rfl rfl)
theorem dX1_digest_32 : decode cX1_digest 32 = .ok (.iconst 0, 1) := dk_3 (dk_at dksX1_digest_1 10 rfl rfl)
theorem dX1_digest_33 : decode cX1_digest 33 = .ok (.istore_n 1, 1) := dk_60 (dk_at dksX1_digest_1 11 rfl rfl)
theorem dX1_digest_34 : decode cX1_digest 34 = .ok (.iload_n 1, 1) := dk_27 (dk_at dksX1_digest_1 12 rfl rfl)
theorem dX1_digest_35 : decode cX1_digest 35 = .ok (.sipush 240, 3) := dk_17 0 240 (dk_at dksX1_digest_1 13 rfl rfl)
theorem dX1_digest_38 : decode cX1_digest 38 = .ok (.if_icmp .ge 35, 3) := dk_162 0 35 (dk_at dksX1_digest_1 16 rfl rfl)
theorem dX1_digest_41 : decode cX1_digest 41 = .ok (.iconst 0, 1) := dk_3 (dk_at dksX1_digest_1 19 rfl rfl)
theorem dX1_digest_42 : decode cX1_digest 42 = .ok (.istore_n 2, 1) := dk_61 (dk_at dksX1_digest_1 20 rfl rfl)
theorem dX1_digest_43 : decode cX1_digest 43 = .ok (.iload_n 2, 1) := dk_28 (dk_at dksX1_digest_1 21 rfl rfl)
theorem dX1_digest_44 : decode cX1_digest 44 = .ok (.bipush 6, 2) := dk_16 6 (dk_at dksX1_digest_1 22 rfl rfl)
theorem dX1_digest_46 : decode cX1_digest 46 = .ok (.if_icmp .gt 21, 3) := dk_163 0 21 (dk_at dksX1_digest_2 0 rfl rfl)
theorem dX1_digest_49 : decode cX1_digest 49 = .ok (.aload_n 0, 1) := dk_42 (dk_at dksX1_digest_2 3 rfl rfl)
theorem dX1_digest_50 : decode cX1_digest 50 = .ok (.aload_n 0, 1) := dk_42 (dk_at dksX1_digest_2 4 rfl rfl)
theorem dX1_digest_51 : decode cX1_digest 51 = .ok (.iload_n 1, 1) := dk_27 (dk_at dksX1_digest_2 5 rfl rfl)
theorem dX1_digest_52 : decode cX1_digest 52 = .ok (.iload_n 2, 1) := dk_28 (dk_at dksX1_digest_2 6 rfl rfl)
theorem dX1_digest_53 : decode cX1_digest 53 = .ok (.invokevirtual 313, 3) := dk_182 1 57 (dk_at dksX1_digest_2 7 rfl rfl)
theorem dX1_digest_56 : decode cX1_digest 56 = .ok (.i2l, 1) := dk_133 (dk_at dksX1_digest_2 10 rfl rfl)
theorem dX1_digest_57 : decode cX1_digest 57 = .ok (.invokevirtual 501, 3) := dk_182 1 245 (dk_at dksX1_digest_2 11 rfl rfl)
theorem dX1_digest_60 : decode cX1_digest 60 = .ok (.pop2, 1) := dk_88 (dk_at dksX1_digest_2 14 rfl rfl)
theorem dX1_digest_61 : decode cX1_digest 61 = .ok (.iinc 2 1, 3) := dk_132 2 1 (dk_at dksX1_digest_2 15 rfl rfl)
theorem dX1_digest_64 : decode cX1_digest 64 = .ok (.goto (-21), 3) := dk_167 255 235 (dk_at dksX1_digest_2 18 rfl rfl)
theorem dX1_digest_67 : decode cX1_digest 67 = .ok (.iinc 1 60, 3) := dk_132 1 60 (dk_at dksX1_digest_2 21 rfl rfl)
theorem dX1_digest_70 : decode cX1_digest 70 = .ok (.goto (-36), 3) := dk_167 255 220 (dk_at dksX1_digest_3 0 rfl rfl)
theorem dX1_digest_73 : decode cX1_digest 73 = .ok (.iconst 0, 1) := dk_3 (dk_at dksX1_digest_3 3 rfl rfl)
theorem dX1_digest_74 : decode cX1_digest 74 = .ok (.istore_n 1, 1) := dk_60 (dk_at dksX1_digest_3 4 rfl rfl)
theorem dX1_digest_75 : decode cX1_digest 75 = .ok (.iload_n 1, 1) := dk_27 (dk_at dksX1_digest_3 5 rfl rfl)
theorem dX1_digest_76 : decode cX1_digest 76 = .ok (.aload_n 0, 1) := dk_42 (dk_at dksX1_digest_3 6 rfl rfl)
theorem dX1_digest_77 : decode cX1_digest 77 = .ok (.invokevirtual 93, 3) := dk_182 0 93 (dk_at dksX1_digest_3 7 rfl rfl)
theorem dX1_digest_80 : decode cX1_digest 80 = .ok (.if_icmp .ge 36, 3) := dk_162 0 36 (dk_at dksX1_digest_3 10 rfl rfl)
theorem dX1_digest_83 : decode cX1_digest 83 = .ok (.iconst 0, 1) := dk_3 (dk_at dksX1_digest_3 13 rfl rfl)
theorem dX1_digest_84 : decode cX1_digest 84 = .ok (.istore_n 2, 1) := dk_61 (dk_at dksX1_digest_3 14 rfl rfl)
theorem dX1_digest_85 : decode cX1_digest 85 = .ok (.iload_n 2, 1) := dk_28 (dk_at dksX1_digest_3 15 rfl rfl)
theorem dX1_digest_86 : decode cX1_digest 86 = .ok (.iconst 4, 1) := dk_7 (dk_at dksX1_digest_3 16 rfl rfl)
theorem dX1_digest_87 : decode cX1_digest 87 = .ok (.if_icmp .gt 23, 3) := dk_163 0 23 (dk_at dksX1_digest_3 17 rfl rfl)
theorem dX1_digest_90 : decode cX1_digest 90 = .ok (.aload_n 0, 1) := dk_42 (dk_at dksX1_digest_3 20 rfl rfl)
theorem dX1_digest_91 : decode cX1_digest 91 = .ok (.aload_n 0, 1) := dk_42 (dk_at dksX1_digest_3 21 rfl rfl)
theorem dX1_digest_92 : decode cX1_digest 92 = .ok (.iload_n 1, 1) := dk_27 (dk_at dksX1_digest_3 22 rfl rfl)
theorem dX1_digest_93 : decode cX1_digest 93 = .ok (.bipush 120, 2) := dk_16 120 (dk_at dksX1_digest_4 0 rfl rfl)
theorem dX1_digest_95 : decode cX1_digest 95 = .ok (.iload_n 2, 1) := dk_28 (dk_at dksX1_digest_4 2 rfl rfl)
theorem dX1_digest_96 : decode cX1_digest 96 = .ok (.invokevirtual 290, 3) := dk_182 1 34 (dk_at dksX1_digest_4 3 rfl rfl)
theorem dX1_digest_99 : decode cX1_digest 99 = .ok (.i2l, 1) := dk_133 (dk_at dksX1_digest_4 6 rfl rfl)
theorem dX1_digest_100 : decode cX1_digest 100 = .ok (.invokevirtual 501, 3) := dk_182 1 245 (dk_at dksX1_digest_4 7 rfl rfl)
theorem dX1_digest_103 : decode cX1_digest 103 = .ok (.pop2, 1) := dk_88 (dk_at dksX1_digest_4 10 rfl rfl)
theorem dX1_digest_104 : decode cX1_digest 104 = .ok (.iinc 2 1, 3) := dk_132 2 1 (dk_at dksX1_digest_4 11 rfl rfl)
theorem dX1_digest_107 : decode cX1_digest 107 = .ok (.goto (-22), 3) := dk_167 255 234 (dk_at dksX1_digest_4 14 rfl rfl)
theorem dX1_digest_110 : decode cX1_digest 110 = .ok (.iinc 1 1, 3) := dk_132 1 1 (dk_at dksX1_digest_4 17 rfl rfl)
theorem dX1_digest_113 : decode cX1_digest 113 = .ok (.goto (-38), 3) := dk_167 255 218 (dk_at dksX1_digest_4 20 rfl rfl)
theorem dX1_digest_116 : decode cX1_digest 116 = .ok (.iconst 0, 1) := dk_3 (dk_at dksX1_digest_4 23 rfl rfl)
theorem dX1_digest_117 : decode cX1_digest 117 = .ok (.istore_n 1, 1) := dk_60 (dk_at dksX1_digest_5 0 rfl rfl)
theorem dX1_digest_118 : decode cX1_digest 118 = .ok (.iload_n 1, 1) := dk_27 (dk_at dksX1_digest_5 1 rfl rfl)
theorem dX1_digest_119 : decode cX1_digest 119 = .ok (.aload_n 0, 1) := dk_42 (dk_at dksX1_digest_5 2 rfl rfl)
theorem dX1_digest_120 : decode cX1_digest 120 = .ok (.getfield 42, 3) := dk_180 0 42 (dk_at dksX1_digest_5 3 rfl rfl)
theorem dX1_digest_123 : decode cX1_digest 123 = .ok (.invokevirtual 98, 3) := dk_182 0 98 (dk_at dksX1_digest_5 6 rfl rfl)
theorem dX1_digest_126 : decode cX1_digest 126 = .ok (.if_icmp .ge 35, 3) := dk_162 0 35 (dk_at dksX1_digest_5 9 rfl rfl)
theorem dX1_digest_129 : decode cX1_digest 129 = .ok (.iconst 0, 1) := dk_3 (dk_at dksX1_digest_5 12 rfl rfl)
theorem dX1_digest_130 : decode cX1_digest 130 = .ok (.istore_n 2, 1) := dk_61 (dk_at dksX1_digest_5 13 rfl rfl)
theorem dX1_digest_131 : decode cX1_digest 131 = .ok (.iload_n 2, 1) := dk_28 (dk_at dksX1_digest_5 14 rfl rfl)
theorem dX1_digest_132 : decode cX1_digest 132 = .ok (.bipush 8, 2) := dk_16 8 (dk_at dksX1_digest_5 15 rfl rfl)
theorem dX1_digest_134 : decode cX1_digest 134 = .ok (.if_icmp .gt 21, 3) := dk_163 0 21 (dk_at dksX1_digest_5 17 rfl rfl)
theorem dX1_digest_137 : decode cX1_digest 137 = .ok (.aload_n 0, 1) := dk_42 (dk_at dksX1_digest_5 20 rfl rfl)
theorem dX1_digest_138 : decode cX1_digest 138 = .ok (.aload_n 0, 1) := dk_42 (dk_at dksX1_digest_5 21 rfl rfl)
theorem dX1_digest_139 : decode cX1_digest 139 = .ok (.iload_n 1, 1) := dk_27 (dk_at dksX1_digest_5 22 rfl rfl)
theorem dX1_digest_140 : decode cX1_digest 140 = .ok (.iload_n 2, 1) := dk_28 (dk_at dksX1_digest_5 23 rfl rfl)
theorem dX1_digest_141 : decode cX1_digest 141 = .ok (.invokevirtual 361, 3) := dk_182 1 105 (dk_at dksX1_digest_6 0 rfl rfl)
theorem dX1_digest_144 : decode cX1_digest 144 = .ok (.i2l, 1) := dk_133 (dk_at dksX1_digest_6 3 rfl rfl)
theorem dX1_digest_145 : decode cX1_digest 145 = .ok (.invokevirtual 501, 3) := dk_182 1 245 (dk_at dksX1_digest_6 4 rfl rfl)
theorem dX1_digest_148 : decode cX1_digest 148 = .ok (.pop2, 1) := dk_88 (dk_at dksX1_digest_6 7 rfl rfl)
theorem dX1_digest_149 : decode cX1_digest 149 = .ok (.iinc 2 1, 3) := dk_132 2 1 (dk_at dksX1_digest_6 8 rfl rfl)
theorem dX1_digest_152 : decode cX1_digest 152 = .ok (.goto (-21), 3) := dk_167 255 235 (dk_at dksX1_digest_6 11 rfl rfl)
theorem dX1_digest_155 : decode cX1_digest 155 = .ok (.iinc 1 1, 3) := dk_132 1 1 (dk_at dksX1_digest_6 14 rfl rfl)
theorem dX1_digest_158 : decode cX1_digest 158 = .ok (.goto (-40), 3) := dk_167 255 216 (dk_at dksX1_digest_6 17 rfl rfl)
theorem dX1_digest_161 : decode cX1_digest 161 = .ok (.iconst 0, 1) := dk_3 (dk_at dksX1_digest_6 20 rfl rfl)
theorem dX1_digest_162 : decode cX1_digest 162 = .ok (.istore_n 1, 1) := dk_60 (dk_at dksX1_digest_6 21 rfl rfl)
theorem dX1_digest_163 : decode cX1_digest 163 = .ok (.iload_n 1, 1) := dk_27 (dk_at dksX1_digest_6 22 rfl rfl)
theorem dX1_digest_164 : decode cX1_digest 164 = .ok (.aload_n 0, 1) := dk_42 (dk_at dksX1_digest_6 23 rfl rfl)
theorem dX1_digest_165 : decode cX1_digest 165 = .ok (.getfield 45, 3) := dk_180 0 45 (dk_at dksX1_digest_7 0 rfl rfl)
theorem dX1_digest_168 : decode cX1_digest 168 = .ok (.invokevirtual 98, 3) := dk_182 0 98 (dk_at dksX1_digest_7 3 rfl rfl)
theorem dX1_digest_171 : decode cX1_digest 171 = .ok (.if_icmp .ge 59, 3) := dk_162 0 59 (dk_at dksX1_digest_7 6 rfl rfl)
theorem dX1_digest_174 : decode cX1_digest 174 = .ok (.aload_n 0, 1) := dk_42 (dk_at dksX1_digest_7 9 rfl rfl)
theorem dX1_digest_175 : decode cX1_digest 175 = .ok (.aload_n 0, 1) := dk_42 (dk_at dksX1_digest_7 10 rfl rfl)
theorem dX1_digest_176 : decode cX1_digest 176 = .ok (.aload_n 0, 1) := dk_42 (dk_at dksX1_digest_7 11 rfl rfl)
theorem dX1_digest_177 : decode cX1_digest 177 = .ok (.getfield 45, 3) := dk_180 0 45 (dk_at dksX1_digest_7 12 rfl rfl)
theorem dX1_digest_180 : decode cX1_digest 180 = .ok (.iload_n 1, 1) := dk_27 (dk_at dksX1_digest_7 15 rfl rfl)
theorem dX1_digest_181 : decode cX1_digest 181 = .ok (.invokevirtual 99, 3) := dk_182 0 99 (dk_at dksX1_digest_7 16 rfl rfl)
theorem dX1_digest_184 : decode cX1_digest 184 = .ok (.checkcast 173, 3) := dk_192 0 173 (dk_at dksX1_digest_7 19 rfl rfl)
theorem dX1_digest_187 : decode cX1_digest 187 = .ok (.invokevirtual 175, 3) := dk_182 0 175 (dk_at dksX1_digest_8 0 rfl rfl)
theorem dX1_digest_190 : decode cX1_digest 190 = .ok (.iconst 1, 1) := dk_4 (dk_at dksX1_digest_8 3 rfl rfl)
theorem dX1_digest_191 : decode cX1_digest 191 = .ok (.invokevirtual 316, 3) := dk_182 1 60 (dk_at dksX1_digest_8 4 rfl rfl)
theorem dX1_digest_194 : decode cX1_digest 194 = .ok (.i2l, 1) := dk_133 (dk_at dksX1_digest_8 7 rfl rfl)
theorem dX1_digest_195 : decode cX1_digest 195 = .ok (.invokevirtual 501, 3) := dk_182 1 245 (dk_at dksX1_digest_8 8 rfl rfl)
theorem dX1_digest_198 : decode cX1_digest 198 = .ok (.pop2, 1) := dk_88 (dk_at dksX1_digest_8 11 rfl rfl)
theorem dX1_digest_199 : decode cX1_digest 199 = .ok (.aload_n 0, 1) := dk_42 (dk_at dksX1_digest_8 12 rfl rfl)
theorem dX1_digest_200 : decode cX1_digest 200 = .ok (.aload_n 0, 1) := dk_42 (dk_at dksX1_digest_8 13 rfl rfl)
theorem dX1_digest_201 : decode cX1_digest 201 = .ok (.aload_n 0, 1) := dk_42 (dk_at dksX1_digest_8 14 rfl rfl)
theorem dX1_digest_202 : decode cX1_digest 202 = .ok (.getfield 45, 3) := dk_180 0 45 (dk_at dksX1_digest_8 15 rfl rfl)
theorem dX1_digest_205 : decode cX1_digest 205 = .ok (.iload_n 1, 1) := dk_27 (dk_at dksX1_digest_8 18 rfl rfl)
theorem dX1_digest_206 : decode cX1_digest 206 = .ok (.invokevirtual 99, 3) := dk_182 0 99 (dk_at dksX1_digest_8 19 rfl rfl)
theorem dX1_digest_209 : decode cX1_digest 209 = .ok (.checkcast 173, 3) := dk_192 0 173 (dk_at dksX1_digest_9 0 rfl rfl)
theorem dX1_digest_212 : decode cX1_digest 212 = .ok (.invokevirtual 175, 3) := dk_182 0 175 (dk_at dksX1_digest_9 3 rfl rfl)
theorem dX1_digest_215 : decode cX1_digest 215 = .ok (.iconst 0, 1) := dk_3 (dk_at dksX1_digest_9 6 rfl rfl)
theorem dX1_digest_216 : decode cX1_digest 216 = .ok (.invokevirtual 316, 3) := dk_182 1 60 (dk_at dksX1_digest_9 7 rfl rfl)
theorem dX1_digest_219 : decode cX1_digest 219 = .ok (.i2l, 1) := dk_133 (dk_at dksX1_digest_9 10 rfl rfl)
theorem dX1_digest_220 : decode cX1_digest 220 = .ok (.invokevirtual 501, 3) := dk_182 1 245 (dk_at dksX1_digest_9 11 rfl rfl)
theorem dX1_digest_223 : decode cX1_digest 223 = .ok (.pop2, 1) := dk_88 (dk_at dksX1_digest_9 14 rfl rfl)
theorem dX1_digest_224 : decode cX1_digest 224 = .ok (.iinc 1 1, 3) := dk_132 1 1 (dk_at dksX1_digest_9 15 rfl rfl)
theorem dX1_digest_227 : decode cX1_digest 227 = .ok (.goto (-64), 3) := dk_167 255 192 (dk_at dksX1_digest_9 18 rfl rfl)
theorem dX1_digest_230 : decode cX1_digest 230 = .ok (.aload_n 0, 1) := dk_42 (dk_at dksX1_digest_9 21 rfl rfl)
theorem dX1_digest_231 : decode cX1_digest 231 = .ok (.getfield 48, 3) := dk_180 0 48 (dk_at dksX1_digest_10 0 rfl rfl)
theorem dX1_digest_234 : decode cX1_digest 234 = .ok (.invokevirtual 157, 3) := dk_182 0 157 (dk_at dksX1_digest_10 3 rfl rfl)
theorem dX1_digest_237 : decode cX1_digest 237 = .ok (.astore_n 1, 1) := dk_76 (dk_at dksX1_digest_10 6 rfl rfl)
theorem dX1_digest_238 : decode cX1_digest 238 = .ok (.aload_n 1, 1) := dk_43 (dk_at dksX1_digest_10 7 rfl rfl)
theorem dX1_digest_239 : decode cX1_digest 239 = .ok (.invokeinterface 161 1, 5) := by decide +kernel
theorem dX1_digest_244 : decode cX1_digest 244 = .ok (.ifCond .eq 42, 3) := dk_153 0 42 (dk_at dksX1_digest_10 13 rfl rfl)
theorem dX1_digest_247 : decode cX1_digest 247 = .ok (.aload_n 1, 1) := dk_43 (dk_at dksX1_digest_10 16 rfl rfl)
theorem dX1_digest_248 : decode cX1_digest 248 = .ok (.invokeinterface 166 1, 5) := by decide +kernel
theorem dX1_digest_253 : decode cX1_digest 253 = .ok (.checkcast 104, 3) := dk_192 0 104 (dk_at dksX1_digest_11 0 rfl rfl)
theorem dX1_digest_256 : decode cX1_digest 256 = .ok (.astore_n 2, 1) := dk_77 (dk_at dksX1_digest_11 3 rfl rfl)
theorem dX1_digest_257 : decode cX1_digest 257 = .ok (.iconst 0, 1) := dk_3 (dk_at dksX1_digest_11 4 rfl rfl)
theorem dX1_digest_258 : decode cX1_digest 258 = .ok (.istore_n 3, 1) := dk_62 (dk_at dksX1_digest_11 5 rfl rfl)
theorem dX1_digest_259 : decode cX1_digest 259 = .ok (.iload_n 3, 1) := dk_29 (dk_at dksX1_digest_11 6 rfl rfl)
theorem dX1_digest_260 : decode cX1_digest 260 = .ok (.bipush 8, 2) := dk_16 8 (dk_at dksX1_digest_11 7 rfl rfl)
theorem dX1_digest_262 : decode cX1_digest 262 = .ok (.if_icmp .gt 21, 3) := dk_163 0 21 (dk_at dksX1_digest_11 9 rfl rfl)
theorem dX1_digest_265 : decode cX1_digest 265 = .ok (.aload_n 0, 1) := dk_42 (dk_at dksX1_digest_11 12 rfl rfl)
theorem dX1_digest_266 : decode cX1_digest 266 = .ok (.aload_n 0, 1) := dk_42 (dk_at dksX1_digest_11 13 rfl rfl)
theorem dX1_digest_267 : decode cX1_digest 267 = .ok (.aload_n 2, 1) := dk_44 (dk_at dksX1_digest_11 14 rfl rfl)
theorem dX1_digest_268 : decode cX1_digest 268 = .ok (.iload_n 3, 1) := dk_29 (dk_at dksX1_digest_11 15 rfl rfl)
theorem dX1_digest_269 : decode cX1_digest 269 = .ok (.invokevirtual 411, 3) := dk_182 1 155 (dk_at dksX1_digest_11 16 rfl rfl)
theorem dX1_digest_272 : decode cX1_digest 272 = .ok (.i2l, 1) := dk_133 (dk_at dksX1_digest_11 19 rfl rfl)
theorem dX1_digest_273 : decode cX1_digest 273 = .ok (.invokevirtual 501, 3) := dk_182 1 245 (dk_at dksX1_digest_11 20 rfl rfl)
theorem dX1_digest_276 : decode cX1_digest 276 = .ok (.pop2, 1) := dk_88 (dk_at dksX1_digest_11 23 rfl rfl)
theorem dX1_digest_277 : decode cX1_digest 277 = .ok (.iinc 3 1, 3) := dk_132 3 1 (dk_at dksX1_digest_12 0 rfl rfl)
theorem dX1_digest_280 : decode cX1_digest 280 = .ok (.goto (-21), 3) := dk_167 255 235 (dk_at dksX1_digest_12 3 rfl rfl)
theorem dX1_digest_283 : decode cX1_digest 283 = .ok (.goto (-45), 3) := dk_167 255 211 (dk_at dksX1_digest_12 6 rfl rfl)
theorem dX1_digest_286 : decode cX1_digest 286 = .ok (.aload_n 0, 1) := dk_42 (dk_at dksX1_digest_12 9 rfl rfl)
theorem dX1_digest_287 : decode cX1_digest 287 = .ok (.getfield 51, 3) := dk_180 0 51 (dk_at dksX1_digest_12 10 rfl rfl)
theorem dX1_digest_290 : decode cX1_digest 290 = .ok (.invokevirtual 157, 3) := dk_182 0 157 (dk_at dksX1_digest_12 13 rfl rfl)
theorem dX1_digest_293 : decode cX1_digest 293 = .ok (.astore_n 1, 1) := dk_76 (dk_at dksX1_digest_12 16 rfl rfl)
theorem dX1_digest_294 : decode cX1_digest 294 = .ok (.aload_n 1, 1) := dk_43 (dk_at dksX1_digest_12 17 rfl rfl)
theorem dX1_digest_295 : decode cX1_digest 295 = .ok (.invokeinterface 161 1, 5) := by decide +kernel
theorem dX1_digest_300 : decode cX1_digest 300 = .ok (.ifCond .eq 41, 3) := dk_153 0 41 (dk_at dksX1_digest_13 0 rfl rfl)
theorem dX1_digest_303 : decode cX1_digest 303 = .ok (.aload_n 1, 1) := dk_43 (dk_at dksX1_digest_13 3 rfl rfl)
theorem dX1_digest_304 : decode cX1_digest 304 = .ok (.invokeinterface 166 1, 5) := by decide +kernel
theorem dX1_digest_309 : decode cX1_digest 309 = .ok (.checkcast 374, 3) := dk_192 1 118 (dk_at dksX1_digest_13 9 rfl rfl)
theorem dX1_digest_312 : decode cX1_digest 312 = .ok (.astore_n 2, 1) := dk_77 (dk_at dksX1_digest_13 12 rfl rfl)
theorem dX1_digest_313 : decode cX1_digest 313 = .ok (.iconst 0, 1) := dk_3 (dk_at dksX1_digest_13 13 rfl rfl)
theorem dX1_digest_314 : decode cX1_digest 314 = .ok (.istore_n 3, 1) := dk_62 (dk_at dksX1_digest_13 14 rfl rfl)
theorem dX1_digest_315 : decode cX1_digest 315 = .ok (.iload_n 3, 1) := dk_29 (dk_at dksX1_digest_13 15 rfl rfl)
theorem dX1_digest_316 : decode cX1_digest 316 = .ok (.iconst 4, 1) := dk_7 (dk_at dksX1_digest_13 16 rfl rfl)
theorem dX1_digest_317 : decode cX1_digest 317 = .ok (.if_icmp .gt 21, 3) := dk_163 0 21 (dk_at dksX1_digest_13 17 rfl rfl)
theorem dX1_digest_320 : decode cX1_digest 320 = .ok (.aload_n 0, 1) := dk_42 (dk_at dksX1_digest_13 20 rfl rfl)
theorem dX1_digest_321 : decode cX1_digest 321 = .ok (.aload_n 0, 1) := dk_42 (dk_at dksX1_digest_13 21 rfl rfl)
theorem dX1_digest_322 : decode cX1_digest 322 = .ok (.aload_n 2, 1) := dk_44 (dk_at dksX1_digest_13 22 rfl rfl)
theorem dX1_digest_323 : decode cX1_digest 323 = .ok (.iload_n 3, 1) := dk_29 (dk_at dksX1_digest_13 23 rfl rfl)
theorem dX1_digest_324 : decode cX1_digest 324 = .ok (.invokevirtual 425, 3) := dk_182 1 169 (dk_at dksX1_digest_14 0 rfl rfl)
theorem dX1_digest_327 : decode cX1_digest 327 = .ok (.i2l, 1) := dk_133 (dk_at dksX1_digest_14 3 rfl rfl)
theorem dX1_digest_328 : decode cX1_digest 328 = .ok (.invokevirtual 501, 3) := dk_182 1 245 (dk_at dksX1_digest_14 4 rfl rfl)
theorem dX1_digest_331 : decode cX1_digest 331 = .ok (.pop2, 1) := dk_88 (dk_at dksX1_digest_14 7 rfl rfl)
theorem dX1_digest_332 : decode cX1_digest 332 = .ok (.iinc 3 1, 3) := dk_132 3 1 (dk_at dksX1_digest_14 8 rfl rfl)
theorem dX1_digest_335 : decode cX1_digest 335 = .ok (.goto (-20), 3) := dk_167 255 236 (dk_at dksX1_digest_14 11 rfl rfl)
theorem dX1_digest_338 : decode cX1_digest 338 = .ok (.goto (-44), 3) := dk_167 255 212 (dk_at dksX1_digest_14 14 rfl rfl)
theorem dX1_digest_341 : decode cX1_digest 341 = .ok (.aload_n 0, 1) := dk_42 (dk_at dksX1_digest_14 17 rfl rfl)
theorem dX1_digest_342 : decode cX1_digest 342 = .ok (.aload_n 0, 1) := dk_42 (dk_at dksX1_digest_14 18 rfl rfl)
theorem dX1_digest_343 : decode cX1_digest 343 = .ok (.invokevirtual 490, 3) := dk_182 1 234 (dk_at dksX1_digest_14 19 rfl rfl)
theorem dX1_digest_346 : decode cX1_digest 346 = .ok (.ifCond .eq 7, 3) := dk_153 0 7 (dk_at dksX1_digest_15 0 rfl rfl)
theorem dX1_digest_349 : decode cX1_digest 349 = .ok (.lconst 1, 1) := dk_10 (dk_at dksX1_digest_15 3 rfl rfl)
theorem dX1_digest_350 : decode cX1_digest 350 = .ok (.goto 4, 3) := dk_167 0 4 (dk_at dksX1_digest_15 4 rfl rfl)
theorem dX1_digest_353 : decode cX1_digest 353 = .ok (.lconst 0, 1) := dk_9 (dk_at dksX1_digest_15 7 rfl rfl)
theorem dX1_digest_354 : decode cX1_digest 354 = .ok (.invokevirtual 501, 3) := dk_182 1 245 (dk_at dksX1_digest_15 8 rfl rfl)
theorem dX1_digest_357 : decode cX1_digest 357 = .ok (.lreturn, 1) := dk_173 (dk_at dksX1_digest_15 11 rfl rfl)
abbrev cX1_manyNow : ByteArray := prog_1_method_78_code
def yX1_manyNow : MethodName := ⟨RX1, "manyNow", "(I)I"⟩
def dkwX1_manyNow_9 : List UInt8 := [180, 1, 195, 182, 0, 98, 172, 42, 180, 0, 76, 172, 42, 182, 1, 198, 172, 42, 180, 1, 201, 172]
abbrev dktX1_manyNow_9 : List UInt8 := dkwX1_manyNow_9 ++ []
def dkwX1_manyNow_8 : List UInt8 := [180, 0, 51, 182, 0, 98, 172, 16, 6, 42, 2, 182, 1, 99, 184, 1, 192, 100, 172, 42, 180, 0, 57]
abbrev dktX1_manyNow_8 : List UInt8 := dkwX1_manyNow_8 ++ dktX1_manyNow_9
def dkwX1_manyNow_7 : List UInt8 := [28, 42, 25, 4, 182, 1, 131, 2, 159, 0, 7, 4, 167, 0, 4, 3, 96, 61, 167, 255, 218, 28, 172, 42]
abbrev dktX1_manyNow_7 : List UInt8 := dkwX1_manyNow_7 ++ dktX1_manyNow_8
def dkwX1_manyNow_6 : List UInt8 := [182, 0, 157, 78, 45, 185, 0, 161, 1, 0, 153, 0, 35, 45, 185, 0, 166, 1, 0, 192, 0, 104, 58, 4]
abbrev dktX1_manyNow_6 : List UInt8 := dkwX1_manyNow_6 ++ dktX1_manyNow_7
def dkwX1_manyNow_5 : List UInt8 := [182, 0, 98, 172, 42, 180, 0, 45, 182, 0, 98, 172, 42, 180, 0, 48, 182, 0, 98, 172, 42, 180, 0, 48]
abbrev dktX1_manyNow_5 : List UInt8 := dkwX1_manyNow_5 ++ dktX1_manyNow_6
def dkwX1_manyNow_4 : List UInt8 := [180, 0, 206, 153, 0, 7, 4, 167, 0, 4, 3, 96, 61, 167, 255, 220, 28, 172, 42, 180, 0, 42]
abbrev dktX1_manyNow_4 : List UInt8 := dkwX1_manyNow_4 ++ dktX1_manyNow_5
def dkwX1_manyNow_3 : List UInt8 := [185, 0, 161, 1, 0, 153, 0, 33, 45, 185, 0, 166, 1, 0, 192, 0, 168, 58, 4, 28, 25, 4]
abbrev dktX1_manyNow_3 : List UInt8 := dkwX1_manyNow_3 ++ dktX1_manyNow_4
def dkwX1_manyNow_2 : List UInt8 := [42, 182, 0, 93, 172, 42, 180, 0, 35, 182, 0, 98, 172, 42, 180, 0, 35, 182, 0, 157, 78, 45]
abbrev dktX1_manyNow_2 : List UInt8 := dkwX1_manyNow_2 ++ dktX1_manyNow_3
def dkwX1_manyNow_1 : List UInt8 := [170, 0, 0, 0, 239, 0, 0, 0, 0, 0, 0, 0, 11, 0, 0, 0, 61, 0, 0, 0, 66, 0, 0, 0, 74, 0, 0, 0, 123, 0, 0, 0, 131, 0, 0, 0, 139, 0, 0, 0, 147, 0, 0, 0, 198, 0, 0, 0, 206, 0, 0, 0, 218, 0, 0, 0, 229, 0, 0, 0, 234]
abbrev dktX1_manyNow_1 : List UInt8 := dkwX1_manyNow_1 ++ dktX1_manyNow_2
def dkwX1_manyNow_0 : List UInt8 := [3, 61, 27]
abbrev dktX1_manyNow_0 : List UInt8 := dkwX1_manyNow_0 ++ dktX1_manyNow_1
theorem dksX1_manyNow_0 : cX1_manyNow.data.toList.drop 0 = dktX1_manyNow_0 := by decide +kernel
theorem dksX1_manyNow_1 : cX1_manyNow.data.toList.drop 3 = dktX1_manyNow_1 := dk_seg dksX1_manyNow_0 3 rfl rfl
theorem dksX1_manyNow_2 : cX1_manyNow.data.toList.drop 64 = dktX1_manyNow_2 := dk_seg dksX1_manyNow_1 61 rfl rfl
theorem dksX1_manyNow_3 : cX1_manyNow.data.toList.drop 86 = dktX1_manyNow_3 := dk_seg dksX1_manyNow_2 22 rfl rfl
theorem dksX1_manyNow_4 : cX1_manyNow.data.toList.drop 108 = dktX1_manyNow_4 := dk_seg dksX1_manyNow_3 22 rfl rfl
theorem dksX1_manyNow_5 : cX1_manyNow.data.toList.drop 130 = dktX1_manyNow_5 := dk_seg dksX1_manyNow_4 22 rfl rfl
theorem dksX1_manyNow_6 : cX1_manyNow.data.toList.drop 154 = dktX1_manyNow_6 := dk_seg dksX1_manyNow_5 24 rfl rfl
theorem dksX1_manyNow_7 : cX1_manyNow.data.toList.drop 178 = dktX1_manyNow_7 := dk_seg dksX1_manyNow_6 24 rfl rfl
theorem dksX1_manyNow_8 : cX1_manyNow.data.toList.drop 202 = dktX1_manyNow_8 := dk_seg dksX1_manyNow_7 24 rfl rfl
theorem dksX1_manyNow_9 : cX1_manyNow.data.toList.drop 225 = dktX1_manyNow_9 := dk_seg dksX1_manyNow_8 23 rfl rfl
theorem dX1_manyNow_0 : decode cX1_manyNow 0 = .ok (.iconst 0, 1) := dk_3 (dk_at dksX1_manyNow_0 0 rfl rfl)
theorem dX1_manyNow_1 : decode cX1_manyNow 1 = .ok (.istore_n 2, 1) := dk_61 (dk_at dksX1_manyNow_0 1 rfl rfl)
theorem dX1_manyNow_2 : decode cX1_manyNow 2 = .ok (.iload_n 1, 1) := dk_27 (dk_at dksX1_manyNow_0 2 rfl rfl)
theorem dX1_manyNow_3 : decode cX1_manyNow 3 = .ok (.tableswitch 239 0 11 #[61, 66, 74, 123, 131, 139, 147, 198, 206, 218, 229, 234], 61) := by decide +kernel
theorem dX1_manyNow_64 : decode cX1_manyNow 64 = .ok (.aload_n 0, 1) := dk_42 (dk_at dksX1_manyNow_2 0 rfl rfl)
theorem dX1_manyNow_65 : decode cX1_manyNow 65 = .ok (.invokevirtual 93, 3) := dk_182 0 93 (dk_at dksX1_manyNow_2 1 rfl rfl)
theorem dX1_manyNow_68 : decode cX1_manyNow 68 = .ok (.ireturn, 1) := dk_172 (dk_at dksX1_manyNow_2 4 rfl rfl)
theorem dX1_manyNow_69 : decode cX1_manyNow 69 = .ok (.aload_n 0, 1) := dk_42 (dk_at dksX1_manyNow_2 5 rfl rfl)
theorem dX1_manyNow_70 : decode cX1_manyNow 70 = .ok (.getfield 35, 3) := dk_180 0 35 (dk_at dksX1_manyNow_2 6 rfl rfl)
theorem dX1_manyNow_73 : decode cX1_manyNow 73 = .ok (.invokevirtual 98, 3) := dk_182 0 98 (dk_at dksX1_manyNow_2 9 rfl rfl)
theorem dX1_manyNow_76 : decode cX1_manyNow 76 = .ok (.ireturn, 1) := dk_172 (dk_at dksX1_manyNow_2 12 rfl rfl)
theorem dX1_manyNow_77 : decode cX1_manyNow 77 = .ok (.aload_n 0, 1) := dk_42 (dk_at dksX1_manyNow_2 13 rfl rfl)
theorem dX1_manyNow_78 : decode cX1_manyNow 78 = .ok (.getfield 35, 3) := dk_180 0 35 (dk_at dksX1_manyNow_2 14 rfl rfl)
theorem dX1_manyNow_81 : decode cX1_manyNow 81 = .ok (.invokevirtual 157, 3) := dk_182 0 157 (dk_at dksX1_manyNow_2 17 rfl rfl)
theorem dX1_manyNow_84 : decode cX1_manyNow 84 = .ok (.astore_n 3, 1) := dk_78 (dk_at dksX1_manyNow_2 20 rfl rfl)
theorem dX1_manyNow_85 : decode cX1_manyNow 85 = .ok (.aload_n 3, 1) := dk_45 (dk_at dksX1_manyNow_2 21 rfl rfl)
theorem dX1_manyNow_86 : decode cX1_manyNow 86 = .ok (.invokeinterface 161 1, 5) := by decide +kernel
theorem dX1_manyNow_91 : decode cX1_manyNow 91 = .ok (.ifCond .eq 33, 3) := dk_153 0 33 (dk_at dksX1_manyNow_3 5 rfl rfl)
theorem dX1_manyNow_94 : decode cX1_manyNow 94 = .ok (.aload_n 3, 1) := dk_45 (dk_at dksX1_manyNow_3 8 rfl rfl)
theorem dX1_manyNow_95 : decode cX1_manyNow 95 = .ok (.invokeinterface 166 1, 5) := by decide +kernel
theorem dX1_manyNow_100 : decode cX1_manyNow 100 = .ok (.checkcast 168, 3) := dk_192 0 168 (dk_at dksX1_manyNow_3 14 rfl rfl)
theorem dX1_manyNow_103 : decode cX1_manyNow 103 = .ok (.astore 4, 2) := dk_58 4 (dk_at dksX1_manyNow_3 17 rfl rfl)
theorem dX1_manyNow_105 : decode cX1_manyNow 105 = .ok (.iload_n 2, 1) := dk_28 (dk_at dksX1_manyNow_3 19 rfl rfl)
theorem dX1_manyNow_106 : decode cX1_manyNow 106 = .ok (.aload 4, 2) := dk_25 4 (dk_at dksX1_manyNow_3 20 rfl rfl)
theorem dX1_manyNow_108 : decode cX1_manyNow 108 = .ok (.getfield 206, 3) := dk_180 0 206 (dk_at dksX1_manyNow_4 0 rfl rfl)
theorem dX1_manyNow_111 : decode cX1_manyNow 111 = .ok (.ifCond .eq 7, 3) := dk_153 0 7 (dk_at dksX1_manyNow_4 3 rfl rfl)
theorem dX1_manyNow_114 : decode cX1_manyNow 114 = .ok (.iconst 1, 1) := dk_4 (dk_at dksX1_manyNow_4 6 rfl rfl)
theorem dX1_manyNow_115 : decode cX1_manyNow 115 = .ok (.goto 4, 3) := dk_167 0 4 (dk_at dksX1_manyNow_4 7 rfl rfl)
theorem dX1_manyNow_118 : decode cX1_manyNow 118 = .ok (.iconst 0, 1) := dk_3 (dk_at dksX1_manyNow_4 10 rfl rfl)
theorem dX1_manyNow_119 : decode cX1_manyNow 119 = .ok (.iadd, 1) := dk_96 (dk_at dksX1_manyNow_4 11 rfl rfl)
theorem dX1_manyNow_120 : decode cX1_manyNow 120 = .ok (.istore_n 2, 1) := dk_61 (dk_at dksX1_manyNow_4 12 rfl rfl)
theorem dX1_manyNow_121 : decode cX1_manyNow 121 = .ok (.goto (-36), 3) := dk_167 255 220 (dk_at dksX1_manyNow_4 13 rfl rfl)
theorem dX1_manyNow_124 : decode cX1_manyNow 124 = .ok (.iload_n 2, 1) := dk_28 (dk_at dksX1_manyNow_4 16 rfl rfl)
theorem dX1_manyNow_125 : decode cX1_manyNow 125 = .ok (.ireturn, 1) := dk_172 (dk_at dksX1_manyNow_4 17 rfl rfl)
theorem dX1_manyNow_126 : decode cX1_manyNow 126 = .ok (.aload_n 0, 1) := dk_42 (dk_at dksX1_manyNow_4 18 rfl rfl)
theorem dX1_manyNow_127 : decode cX1_manyNow 127 = .ok (.getfield 42, 3) := dk_180 0 42 (dk_at dksX1_manyNow_4 19 rfl rfl)
theorem dX1_manyNow_130 : decode cX1_manyNow 130 = .ok (.invokevirtual 98, 3) := dk_182 0 98 (dk_at dksX1_manyNow_5 0 rfl rfl)
theorem dX1_manyNow_133 : decode cX1_manyNow 133 = .ok (.ireturn, 1) := dk_172 (dk_at dksX1_manyNow_5 3 rfl rfl)
theorem dX1_manyNow_134 : decode cX1_manyNow 134 = .ok (.aload_n 0, 1) := dk_42 (dk_at dksX1_manyNow_5 4 rfl rfl)
theorem dX1_manyNow_135 : decode cX1_manyNow 135 = .ok (.getfield 45, 3) := dk_180 0 45 (dk_at dksX1_manyNow_5 5 rfl rfl)
theorem dX1_manyNow_138 : decode cX1_manyNow 138 = .ok (.invokevirtual 98, 3) := dk_182 0 98 (dk_at dksX1_manyNow_5 8 rfl rfl)
theorem dX1_manyNow_141 : decode cX1_manyNow 141 = .ok (.ireturn, 1) := dk_172 (dk_at dksX1_manyNow_5 11 rfl rfl)
theorem dX1_manyNow_142 : decode cX1_manyNow 142 = .ok (.aload_n 0, 1) := dk_42 (dk_at dksX1_manyNow_5 12 rfl rfl)
theorem dX1_manyNow_143 : decode cX1_manyNow 143 = .ok (.getfield 48, 3) := dk_180 0 48 (dk_at dksX1_manyNow_5 13 rfl rfl)
theorem dX1_manyNow_146 : decode cX1_manyNow 146 = .ok (.invokevirtual 98, 3) := dk_182 0 98 (dk_at dksX1_manyNow_5 16 rfl rfl)
theorem dX1_manyNow_149 : decode cX1_manyNow 149 = .ok (.ireturn, 1) := dk_172 (dk_at dksX1_manyNow_5 19 rfl rfl)
theorem dX1_manyNow_150 : decode cX1_manyNow 150 = .ok (.aload_n 0, 1) := dk_42 (dk_at dksX1_manyNow_5 20 rfl rfl)
theorem dX1_manyNow_151 : decode cX1_manyNow 151 = .ok (.getfield 48, 3) := dk_180 0 48 (dk_at dksX1_manyNow_5 21 rfl rfl)
theorem dX1_manyNow_154 : decode cX1_manyNow 154 = .ok (.invokevirtual 157, 3) := dk_182 0 157 (dk_at dksX1_manyNow_6 0 rfl rfl)
theorem dX1_manyNow_157 : decode cX1_manyNow 157 = .ok (.astore_n 3, 1) := dk_78 (dk_at dksX1_manyNow_6 3 rfl rfl)
theorem dX1_manyNow_158 : decode cX1_manyNow 158 = .ok (.aload_n 3, 1) := dk_45 (dk_at dksX1_manyNow_6 4 rfl rfl)
theorem dX1_manyNow_159 : decode cX1_manyNow 159 = .ok (.invokeinterface 161 1, 5) := by decide +kernel
theorem dX1_manyNow_164 : decode cX1_manyNow 164 = .ok (.ifCond .eq 35, 3) := dk_153 0 35 (dk_at dksX1_manyNow_6 10 rfl rfl)
theorem dX1_manyNow_167 : decode cX1_manyNow 167 = .ok (.aload_n 3, 1) := dk_45 (dk_at dksX1_manyNow_6 13 rfl rfl)
theorem dX1_manyNow_168 : decode cX1_manyNow 168 = .ok (.invokeinterface 166 1, 5) := by decide +kernel
theorem dX1_manyNow_173 : decode cX1_manyNow 173 = .ok (.checkcast 104, 3) := dk_192 0 104 (dk_at dksX1_manyNow_6 19 rfl rfl)
theorem dX1_manyNow_176 : decode cX1_manyNow 176 = .ok (.astore 4, 2) := dk_58 4 (dk_at dksX1_manyNow_6 22 rfl rfl)
theorem dX1_manyNow_178 : decode cX1_manyNow 178 = .ok (.iload_n 2, 1) := dk_28 (dk_at dksX1_manyNow_7 0 rfl rfl)
theorem dX1_manyNow_179 : decode cX1_manyNow 179 = .ok (.aload_n 0, 1) := dk_42 (dk_at dksX1_manyNow_7 1 rfl rfl)
theorem dX1_manyNow_180 : decode cX1_manyNow 180 = .ok (.aload 4, 2) := dk_25 4 (dk_at dksX1_manyNow_7 2 rfl rfl)
theorem dX1_manyNow_182 : decode cX1_manyNow 182 = .ok (.invokevirtual 387, 3) := dk_182 1 131 (dk_at dksX1_manyNow_7 4 rfl rfl)
theorem dX1_manyNow_185 : decode cX1_manyNow 185 = .ok (.iconst (-1), 1) := dk_2 (dk_at dksX1_manyNow_7 7 rfl rfl)
theorem dX1_manyNow_186 : decode cX1_manyNow 186 = .ok (.if_icmp .eq 7, 3) := dk_159 0 7 (dk_at dksX1_manyNow_7 8 rfl rfl)
theorem dX1_manyNow_189 : decode cX1_manyNow 189 = .ok (.iconst 1, 1) := dk_4 (dk_at dksX1_manyNow_7 11 rfl rfl)
theorem dX1_manyNow_190 : decode cX1_manyNow 190 = .ok (.goto 4, 3) := dk_167 0 4 (dk_at dksX1_manyNow_7 12 rfl rfl)
theorem dX1_manyNow_193 : decode cX1_manyNow 193 = .ok (.iconst 0, 1) := dk_3 (dk_at dksX1_manyNow_7 15 rfl rfl)
theorem dX1_manyNow_194 : decode cX1_manyNow 194 = .ok (.iadd, 1) := dk_96 (dk_at dksX1_manyNow_7 16 rfl rfl)
theorem dX1_manyNow_195 : decode cX1_manyNow 195 = .ok (.istore_n 2, 1) := dk_61 (dk_at dksX1_manyNow_7 17 rfl rfl)
theorem dX1_manyNow_196 : decode cX1_manyNow 196 = .ok (.goto (-38), 3) := dk_167 255 218 (dk_at dksX1_manyNow_7 18 rfl rfl)
theorem dX1_manyNow_199 : decode cX1_manyNow 199 = .ok (.iload_n 2, 1) := dk_28 (dk_at dksX1_manyNow_7 21 rfl rfl)
theorem dX1_manyNow_200 : decode cX1_manyNow 200 = .ok (.ireturn, 1) := dk_172 (dk_at dksX1_manyNow_7 22 rfl rfl)
theorem dX1_manyNow_201 : decode cX1_manyNow 201 = .ok (.aload_n 0, 1) := dk_42 (dk_at dksX1_manyNow_7 23 rfl rfl)
theorem dX1_manyNow_202 : decode cX1_manyNow 202 = .ok (.getfield 51, 3) := dk_180 0 51 (dk_at dksX1_manyNow_8 0 rfl rfl)
theorem dX1_manyNow_205 : decode cX1_manyNow 205 = .ok (.invokevirtual 98, 3) := dk_182 0 98 (dk_at dksX1_manyNow_8 3 rfl rfl)
theorem dX1_manyNow_208 : decode cX1_manyNow 208 = .ok (.ireturn, 1) := dk_172 (dk_at dksX1_manyNow_8 6 rfl rfl)
theorem dX1_manyNow_209 : decode cX1_manyNow 209 = .ok (.bipush 6, 2) := dk_16 6 (dk_at dksX1_manyNow_8 7 rfl rfl)
theorem dX1_manyNow_211 : decode cX1_manyNow 211 = .ok (.aload_n 0, 1) := dk_42 (dk_at dksX1_manyNow_8 9 rfl rfl)
theorem dX1_manyNow_212 : decode cX1_manyNow 212 = .ok (.iconst (-1), 1) := dk_2 (dk_at dksX1_manyNow_8 10 rfl rfl)
theorem dX1_manyNow_213 : decode cX1_manyNow 213 = .ok (.invokevirtual 355, 3) := dk_182 1 99 (dk_at dksX1_manyNow_8 11 rfl rfl)
theorem dX1_manyNow_216 : decode cX1_manyNow 216 = .ok (.invokestatic 448, 3) := dk_184 1 192 (dk_at dksX1_manyNow_8 14 rfl rfl)
theorem dX1_manyNow_219 : decode cX1_manyNow 219 = .ok (.isub, 1) := dk_100 (dk_at dksX1_manyNow_8 17 rfl rfl)
theorem dX1_manyNow_220 : decode cX1_manyNow 220 = .ok (.ireturn, 1) := dk_172 (dk_at dksX1_manyNow_8 18 rfl rfl)
theorem dX1_manyNow_221 : decode cX1_manyNow 221 = .ok (.aload_n 0, 1) := dk_42 (dk_at dksX1_manyNow_8 19 rfl rfl)
theorem dX1_manyNow_222 : decode cX1_manyNow 222 = .ok (.getfield 57, 3) := dk_180 0 57 (dk_at dksX1_manyNow_8 20 rfl rfl)
theorem dX1_manyNow_225 : decode cX1_manyNow 225 = .ok (.getfield 451, 3) := dk_180 1 195 (dk_at dksX1_manyNow_9 0 rfl rfl)
theorem dX1_manyNow_228 : decode cX1_manyNow 228 = .ok (.invokevirtual 98, 3) := dk_182 0 98 (dk_at dksX1_manyNow_9 3 rfl rfl)
theorem dX1_manyNow_231 : decode cX1_manyNow 231 = .ok (.ireturn, 1) := dk_172 (dk_at dksX1_manyNow_9 6 rfl rfl)
theorem dX1_manyNow_232 : decode cX1_manyNow 232 = .ok (.aload_n 0, 1) := dk_42 (dk_at dksX1_manyNow_9 7 rfl rfl)
theorem dX1_manyNow_233 : decode cX1_manyNow 233 = .ok (.getfield 76, 3) := dk_180 0 76 (dk_at dksX1_manyNow_9 8 rfl rfl)
theorem dX1_manyNow_236 : decode cX1_manyNow 236 = .ok (.ireturn, 1) := dk_172 (dk_at dksX1_manyNow_9 11 rfl rfl)
theorem dX1_manyNow_237 : decode cX1_manyNow 237 = .ok (.aload_n 0, 1) := dk_42 (dk_at dksX1_manyNow_9 12 rfl rfl)
theorem dX1_manyNow_238 : decode cX1_manyNow 238 = .ok (.invokevirtual 454, 3) := dk_182 1 198 (dk_at dksX1_manyNow_9 13 rfl rfl)
theorem dX1_manyNow_241 : decode cX1_manyNow 241 = .ok (.ireturn, 1) := dk_172 (dk_at dksX1_manyNow_9 16 rfl rfl)
theorem dX1_manyNow_242 : decode cX1_manyNow 242 = .ok (.aload_n 0, 1) := dk_42 (dk_at dksX1_manyNow_9 17 rfl rfl)
theorem dX1_manyNow_243 : decode cX1_manyNow 243 = .ok (.getfield 457, 3) := dk_180 1 201 (dk_at dksX1_manyNow_9 18 rfl rfl)
theorem dX1_manyNow_246 : decode cX1_manyNow 246 = .ok (.ireturn, 1) := dk_172 (dk_at dksX1_manyNow_9 21 rfl rfl)
abbrev cX1_found : ByteArray := prog_1_method_59_code
def yX1_found : MethodName := ⟨RX1, "found", "(LNightwatchWall$Intruder;)I"⟩
def dkwX1_found_1 : List UInt8 := [153, 0, 5, 28, 172, 132, 2, 1, 167, 255, 231, 2, 172]
abbrev dktX1_found_1 : List UInt8 := dkwX1_found_1 ++ []
def dkwX1_found_0 : List UInt8 := [43, 180, 1, 126, 61, 28, 17, 0, 240, 162, 0, 24, 42, 43, 28, 182, 1, 125, 28, 182, 1, 38]
abbrev dktX1_found_0 : List UInt8 := dkwX1_found_0 ++ dktX1_found_1
theorem dksX1_found_0 : cX1_found.data.toList.drop 0 = dktX1_found_0 := by decide +kernel
theorem dksX1_found_1 : cX1_found.data.toList.drop 22 = dktX1_found_1 := dk_seg dksX1_found_0 22 rfl rfl
theorem dX1_found_0 : decode cX1_found 0 = .ok (.aload_n 1, 1) := dk_43 (dk_at dksX1_found_0 0 rfl rfl)
theorem dX1_found_1 : decode cX1_found 1 = .ok (.getfield 382, 3) := dk_180 1 126 (dk_at dksX1_found_0 1 rfl rfl)
theorem dX1_found_4 : decode cX1_found 4 = .ok (.istore_n 2, 1) := dk_61 (dk_at dksX1_found_0 4 rfl rfl)
theorem dX1_found_5 : decode cX1_found 5 = .ok (.iload_n 2, 1) := dk_28 (dk_at dksX1_found_0 5 rfl rfl)
theorem dX1_found_6 : decode cX1_found 6 = .ok (.sipush 240, 3) := dk_17 0 240 (dk_at dksX1_found_0 6 rfl rfl)
theorem dX1_found_9 : decode cX1_found 9 = .ok (.if_icmp .ge 24, 3) := dk_162 0 24 (dk_at dksX1_found_0 9 rfl rfl)
theorem dX1_found_12 : decode cX1_found 12 = .ok (.aload_n 0, 1) := dk_42 (dk_at dksX1_found_0 12 rfl rfl)
theorem dX1_found_13 : decode cX1_found 13 = .ok (.aload_n 1, 1) := dk_43 (dk_at dksX1_found_0 13 rfl rfl)
theorem dX1_found_14 : decode cX1_found 14 = .ok (.iload_n 2, 1) := dk_28 (dk_at dksX1_found_0 14 rfl rfl)
theorem dX1_found_15 : decode cX1_found 15 = .ok (.invokevirtual 381, 3) := dk_182 1 125 (dk_at dksX1_found_0 15 rfl rfl)
theorem dX1_found_18 : decode cX1_found 18 = .ok (.iload_n 2, 1) := dk_28 (dk_at dksX1_found_0 18 rfl rfl)
theorem dX1_found_19 : decode cX1_found 19 = .ok (.invokevirtual 294, 3) := dk_182 1 38 (dk_at dksX1_found_0 19 rfl rfl)
theorem dX1_found_22 : decode cX1_found 22 = .ok (.ifCond .eq 5, 3) := dk_153 0 5 (dk_at dksX1_found_1 0 rfl rfl)
theorem dX1_found_25 : decode cX1_found 25 = .ok (.iload_n 2, 1) := dk_28 (dk_at dksX1_found_1 3 rfl rfl)
theorem dX1_found_26 : decode cX1_found 26 = .ok (.ireturn, 1) := dk_172 (dk_at dksX1_found_1 4 rfl rfl)
theorem dX1_found_27 : decode cX1_found 27 = .ok (.iinc 2 1, 3) := dk_132 2 1 (dk_at dksX1_found_1 5 rfl rfl)
theorem dX1_found_30 : decode cX1_found 30 = .ok (.goto (-25), 3) := dk_167 255 231 (dk_at dksX1_found_1 8 rfl rfl)
theorem dX1_found_33 : decode cX1_found 33 = .ok (.iconst (-1), 1) := dk_2 (dk_at dksX1_found_1 11 rfl rfl)
theorem dX1_found_34 : decode cX1_found 34 = .ok (.ireturn, 1) := dk_172 (dk_at dksX1_found_1 12 rfl rfl)
abbrev cX1_isWatched : ByteArray := prog_1_method_32_code
def yX1_isWatched : MethodName := ⟨RX1, "isWatched", "(II)Z"⟩
def dkwX1_isWatched_0 : List UInt8 := [42, 27, 28, 182, 1, 25, 153, 0, 7, 4, 167, 0, 4, 3, 172]
abbrev dktX1_isWatched_0 : List UInt8 := dkwX1_isWatched_0 ++ []
theorem dksX1_isWatched_0 : cX1_isWatched.data.toList.drop 0 = dktX1_isWatched_0 := by decide +kernel
theorem dX1_isWatched_0 : decode cX1_isWatched 0 = .ok (.aload_n 0, 1) := dk_42 (dk_at dksX1_isWatched_0 0 rfl rfl)
theorem dX1_isWatched_1 : decode cX1_isWatched 1 = .ok (.iload_n 1, 1) := dk_27 (dk_at dksX1_isWatched_0 1 rfl rfl)
theorem dX1_isWatched_2 : decode cX1_isWatched 2 = .ok (.iload_n 2, 1) := dk_28 (dk_at dksX1_isWatched_0 2 rfl rfl)
theorem dX1_isWatched_3 : decode cX1_isWatched 3 = .ok (.invokevirtual 281, 3) := dk_182 1 25 (dk_at dksX1_isWatched_0 3 rfl rfl)
theorem dX1_isWatched_6 : decode cX1_isWatched 6 = .ok (.ifCond .eq 7, 3) := dk_153 0 7 (dk_at dksX1_isWatched_0 6 rfl rfl)
theorem dX1_isWatched_9 : decode cX1_isWatched 9 = .ok (.iconst 1, 1) := dk_4 (dk_at dksX1_isWatched_0 9 rfl rfl)
theorem dX1_isWatched_10 : decode cX1_isWatched 10 = .ok (.goto 4, 3) := dk_167 0 4 (dk_at dksX1_isWatched_0 10 rfl rfl)
theorem dX1_isWatched_13 : decode cX1_isWatched 13 = .ok (.iconst 0, 1) := dk_3 (dk_at dksX1_isWatched_0 13 rfl rfl)
theorem dX1_isWatched_14 : decode cX1_isWatched 14 = .ok (.ireturn, 1) := dk_172 (dk_at dksX1_isWatched_0 14 rfl rfl)
abbrev cX1_watchers : ByteArray := prog_1_method_31_code
def yX1_watchers : MethodName := ⟨RX1, "watchers", "(II)I"⟩
def dkwX1_watchers_4 : List UInt8 := [132, 5, 1, 167, 255, 172, 21, 4, 172]
abbrev dktX1_watchers_4 : List UInt8 := dkwX1_watchers_4 ++ []
def dkwX1_watchers_3 : List UInt8 := [182, 1, 21, 153, 0, 20, 42, 27, 182, 0, 226, 153, 0, 12, 21, 4, 4, 21, 5, 120, 128, 54, 4]
abbrev dktX1_watchers_3 : List UInt8 := dkwX1_watchers_3 ++ dktX1_watchers_4
def dkwX1_watchers_2 : List UInt8 := [42, 25, 6, 21, 7, 28, 3, 29, 182, 1, 21, 154, 0, 25, 42, 25, 6, 21, 7, 28, 4, 29]
abbrev dktX1_watchers_2 : List UInt8 := dkwX1_watchers_2 ++ dktX1_watchers_3
def dkwX1_watchers_1 : List UInt8 := [42, 180, 0, 42, 21, 5, 182, 0, 99, 192, 0, 102, 58, 6, 42, 25, 6, 27, 28, 182, 1, 17, 54, 7]
abbrev dktX1_watchers_1 : List UInt8 := dkwX1_watchers_1 ++ dktX1_watchers_2
def dkwX1_watchers_0 : List UInt8 := [42, 28, 182, 1, 14, 62, 3, 54, 4, 3, 54, 5, 21, 5, 42, 180, 0, 42, 182, 0, 98, 162, 0, 78]
abbrev dktX1_watchers_0 : List UInt8 := dkwX1_watchers_0 ++ dktX1_watchers_1
theorem dksX1_watchers_0 : cX1_watchers.data.toList.drop 0 = dktX1_watchers_0 := by decide +kernel
theorem dksX1_watchers_1 : cX1_watchers.data.toList.drop 24 = dktX1_watchers_1 := dk_seg dksX1_watchers_0 24 rfl rfl
theorem dksX1_watchers_2 : cX1_watchers.data.toList.drop 48 = dktX1_watchers_2 := dk_seg dksX1_watchers_1 24 rfl rfl
theorem dksX1_watchers_3 : cX1_watchers.data.toList.drop 70 = dktX1_watchers_3 := dk_seg dksX1_watchers_2 22 rfl rfl
theorem dksX1_watchers_4 : cX1_watchers.data.toList.drop 93 = dktX1_watchers_4 := dk_seg dksX1_watchers_3 23 rfl rfl
theorem dX1_watchers_0 : decode cX1_watchers 0 = .ok (.aload_n 0, 1) := dk_42 (dk_at dksX1_watchers_0 0 rfl rfl)
theorem dX1_watchers_1 : decode cX1_watchers 1 = .ok (.iload_n 2, 1) := dk_28 (dk_at dksX1_watchers_0 1 rfl rfl)
theorem dX1_watchers_2 : decode cX1_watchers 2 = .ok (.invokevirtual 270, 3) := dk_182 1 14 (dk_at dksX1_watchers_0 2 rfl rfl)
theorem dX1_watchers_5 : decode cX1_watchers 5 = .ok (.istore_n 3, 1) := dk_62 (dk_at dksX1_watchers_0 5 rfl rfl)
theorem dX1_watchers_6 : decode cX1_watchers 6 = .ok (.iconst 0, 1) := dk_3 (dk_at dksX1_watchers_0 6 rfl rfl)
theorem dX1_watchers_7 : decode cX1_watchers 7 = .ok (.istore 4, 2) := dk_54 4 (dk_at dksX1_watchers_0 7 rfl rfl)
theorem dX1_watchers_9 : decode cX1_watchers 9 = .ok (.iconst 0, 1) := dk_3 (dk_at dksX1_watchers_0 9 rfl rfl)
theorem dX1_watchers_10 : decode cX1_watchers 10 = .ok (.istore 5, 2) := dk_54 5 (dk_at dksX1_watchers_0 10 rfl rfl)
theorem dX1_watchers_12 : decode cX1_watchers 12 = .ok (.iload 5, 2) := dk_21 5 (dk_at dksX1_watchers_0 12 rfl rfl)
theorem dX1_watchers_14 : decode cX1_watchers 14 = .ok (.aload_n 0, 1) := dk_42 (dk_at dksX1_watchers_0 14 rfl rfl)
theorem dX1_watchers_15 : decode cX1_watchers 15 = .ok (.getfield 42, 3) := dk_180 0 42 (dk_at dksX1_watchers_0 15 rfl rfl)
theorem dX1_watchers_18 : decode cX1_watchers 18 = .ok (.invokevirtual 98, 3) := dk_182 0 98 (dk_at dksX1_watchers_0 18 rfl rfl)
theorem dX1_watchers_21 : decode cX1_watchers 21 = .ok (.if_icmp .ge 78, 3) := dk_162 0 78 (dk_at dksX1_watchers_0 21 rfl rfl)
theorem dX1_watchers_24 : decode cX1_watchers 24 = .ok (.aload_n 0, 1) := dk_42 (dk_at dksX1_watchers_1 0 rfl rfl)
theorem dX1_watchers_25 : decode cX1_watchers 25 = .ok (.getfield 42, 3) := dk_180 0 42 (dk_at dksX1_watchers_1 1 rfl rfl)
theorem dX1_watchers_28 : decode cX1_watchers 28 = .ok (.iload 5, 2) := dk_21 5 (dk_at dksX1_watchers_1 4 rfl rfl)
theorem dX1_watchers_30 : decode cX1_watchers 30 = .ok (.invokevirtual 99, 3) := dk_182 0 99 (dk_at dksX1_watchers_1 6 rfl rfl)
theorem dX1_watchers_33 : decode cX1_watchers 33 = .ok (.checkcast 102, 3) := dk_192 0 102 (dk_at dksX1_watchers_1 9 rfl rfl)
theorem dX1_watchers_36 : decode cX1_watchers 36 = .ok (.astore 6, 2) := dk_58 6 (dk_at dksX1_watchers_1 12 rfl rfl)
theorem dX1_watchers_38 : decode cX1_watchers 38 = .ok (.aload_n 0, 1) := dk_42 (dk_at dksX1_watchers_1 14 rfl rfl)
theorem dX1_watchers_39 : decode cX1_watchers 39 = .ok (.aload 6, 2) := dk_25 6 (dk_at dksX1_watchers_1 15 rfl rfl)
theorem dX1_watchers_41 : decode cX1_watchers 41 = .ok (.iload_n 1, 1) := dk_27 (dk_at dksX1_watchers_1 17 rfl rfl)
theorem dX1_watchers_42 : decode cX1_watchers 42 = .ok (.iload_n 2, 1) := dk_28 (dk_at dksX1_watchers_1 18 rfl rfl)
theorem dX1_watchers_43 : decode cX1_watchers 43 = .ok (.invokevirtual 273, 3) := dk_182 1 17 (dk_at dksX1_watchers_1 19 rfl rfl)
theorem dX1_watchers_46 : decode cX1_watchers 46 = .ok (.istore 7, 2) := dk_54 7 (dk_at dksX1_watchers_1 22 rfl rfl)
theorem dX1_watchers_48 : decode cX1_watchers 48 = .ok (.aload_n 0, 1) := dk_42 (dk_at dksX1_watchers_2 0 rfl rfl)
theorem dX1_watchers_49 : decode cX1_watchers 49 = .ok (.aload 6, 2) := dk_25 6 (dk_at dksX1_watchers_2 1 rfl rfl)
theorem dX1_watchers_51 : decode cX1_watchers 51 = .ok (.iload 7, 2) := dk_21 7 (dk_at dksX1_watchers_2 3 rfl rfl)
theorem dX1_watchers_53 : decode cX1_watchers 53 = .ok (.iload_n 2, 1) := dk_28 (dk_at dksX1_watchers_2 5 rfl rfl)
theorem dX1_watchers_54 : decode cX1_watchers 54 = .ok (.iconst 0, 1) := dk_3 (dk_at dksX1_watchers_2 6 rfl rfl)
theorem dX1_watchers_55 : decode cX1_watchers 55 = .ok (.iload_n 3, 1) := dk_29 (dk_at dksX1_watchers_2 7 rfl rfl)
theorem dX1_watchers_56 : decode cX1_watchers 56 = .ok (.invokevirtual 277, 3) := dk_182 1 21 (dk_at dksX1_watchers_2 8 rfl rfl)
theorem dX1_watchers_59 : decode cX1_watchers 59 = .ok (.ifCond .ne 25, 3) := dk_154 0 25 (dk_at dksX1_watchers_2 11 rfl rfl)
theorem dX1_watchers_62 : decode cX1_watchers 62 = .ok (.aload_n 0, 1) := dk_42 (dk_at dksX1_watchers_2 14 rfl rfl)
theorem dX1_watchers_63 : decode cX1_watchers 63 = .ok (.aload 6, 2) := dk_25 6 (dk_at dksX1_watchers_2 15 rfl rfl)
theorem dX1_watchers_65 : decode cX1_watchers 65 = .ok (.iload 7, 2) := dk_21 7 (dk_at dksX1_watchers_2 17 rfl rfl)
theorem dX1_watchers_67 : decode cX1_watchers 67 = .ok (.iload_n 2, 1) := dk_28 (dk_at dksX1_watchers_2 19 rfl rfl)
theorem dX1_watchers_68 : decode cX1_watchers 68 = .ok (.iconst 1, 1) := dk_4 (dk_at dksX1_watchers_2 20 rfl rfl)
theorem dX1_watchers_69 : decode cX1_watchers 69 = .ok (.iload_n 3, 1) := dk_29 (dk_at dksX1_watchers_2 21 rfl rfl)
theorem dX1_watchers_70 : decode cX1_watchers 70 = .ok (.invokevirtual 277, 3) := dk_182 1 21 (dk_at dksX1_watchers_3 0 rfl rfl)
theorem dX1_watchers_73 : decode cX1_watchers 73 = .ok (.ifCond .eq 20, 3) := dk_153 0 20 (dk_at dksX1_watchers_3 3 rfl rfl)
theorem dX1_watchers_76 : decode cX1_watchers 76 = .ok (.aload_n 0, 1) := dk_42 (dk_at dksX1_watchers_3 6 rfl rfl)
theorem dX1_watchers_77 : decode cX1_watchers 77 = .ok (.iload_n 1, 1) := dk_27 (dk_at dksX1_watchers_3 7 rfl rfl)
theorem dX1_watchers_78 : decode cX1_watchers 78 = .ok (.invokevirtual 226, 3) := dk_182 0 226 (dk_at dksX1_watchers_3 8 rfl rfl)
theorem dX1_watchers_81 : decode cX1_watchers 81 = .ok (.ifCond .eq 12, 3) := dk_153 0 12 (dk_at dksX1_watchers_3 11 rfl rfl)
theorem dX1_watchers_84 : decode cX1_watchers 84 = .ok (.iload 4, 2) := dk_21 4 (dk_at dksX1_watchers_3 14 rfl rfl)
theorem dX1_watchers_86 : decode cX1_watchers 86 = .ok (.iconst 1, 1) := dk_4 (dk_at dksX1_watchers_3 16 rfl rfl)
theorem dX1_watchers_87 : decode cX1_watchers 87 = .ok (.iload 5, 2) := dk_21 5 (dk_at dksX1_watchers_3 17 rfl rfl)
theorem dX1_watchers_89 : decode cX1_watchers 89 = .ok (.ishl, 1) := dk_120 (dk_at dksX1_watchers_3 19 rfl rfl)
theorem dX1_watchers_90 : decode cX1_watchers 90 = .ok (.ior, 1) := dk_128 (dk_at dksX1_watchers_3 20 rfl rfl)
theorem dX1_watchers_91 : decode cX1_watchers 91 = .ok (.istore 4, 2) := dk_54 4 (dk_at dksX1_watchers_3 21 rfl rfl)
theorem dX1_watchers_93 : decode cX1_watchers 93 = .ok (.iinc 5 1, 3) := dk_132 5 1 (dk_at dksX1_watchers_4 0 rfl rfl)
theorem dX1_watchers_96 : decode cX1_watchers 96 = .ok (.goto (-84), 3) := dk_167 255 172 (dk_at dksX1_watchers_4 3 rfl rfl)
theorem dX1_watchers_99 : decode cX1_watchers 99 = .ok (.iload 4, 2) := dk_21 4 (dk_at dksX1_watchers_4 6 rfl rfl)
theorem dX1_watchers_101 : decode cX1_watchers 101 = .ok (.ireturn, 1) := dk_172 (dk_at dksX1_watchers_4 8 rfl rfl)
abbrev cX1_fogAt : ByteArray := prog_1_method_21_code
def yX1_fogAt : MethodName := ⟨RX1, "fogAt", "(I)I"⟩
def dkwX1_fogAt_4 : List UInt8 := [180, 0, 219, 172]
abbrev dktX1_fogAt_4 : List UInt8 := dkwX1_fogAt_4 ++ []
def dkwX1_fogAt_3 : List UInt8 := [167, 255, 191, 28, 2, 160, 0, 7, 3, 167, 0, 17, 42, 180, 0, 39, 28, 182, 0, 99, 192, 0, 213]
abbrev dktX1_fogAt_3 : List UInt8 := dkwX1_fogAt_3 ++ dktX1_fogAt_4
def dkwX1_fogAt_2 : List UInt8 := [42, 180, 0, 39, 28, 182, 0, 99, 192, 0, 213, 180, 0, 216, 161, 0, 5, 29, 61, 132, 3, 1]
abbrev dktX1_fogAt_2 : List UInt8 := dkwX1_fogAt_2 ++ dktX1_fogAt_3
def dkwX1_fogAt_1 : List UInt8 := [192, 0, 213, 58, 4, 25, 4, 180, 0, 216, 27, 163, 0, 32, 28, 2, 159, 0, 25, 25, 4, 180, 0, 216]
abbrev dktX1_fogAt_1 : List UInt8 := dkwX1_fogAt_1 ++ dktX1_fogAt_2
def dkwX1_fogAt_0 : List UInt8 := [2, 61, 3, 62, 29, 42, 180, 0, 39, 182, 0, 98, 162, 0, 60, 42, 180, 0, 39, 29, 182, 0, 99]
abbrev dktX1_fogAt_0 : List UInt8 := dkwX1_fogAt_0 ++ dktX1_fogAt_1
theorem dksX1_fogAt_0 : cX1_fogAt.data.toList.drop 0 = dktX1_fogAt_0 := by decide +kernel
theorem dksX1_fogAt_1 : cX1_fogAt.data.toList.drop 23 = dktX1_fogAt_1 := dk_seg dksX1_fogAt_0 23 rfl rfl
theorem dksX1_fogAt_2 : cX1_fogAt.data.toList.drop 47 = dktX1_fogAt_2 := dk_seg dksX1_fogAt_1 24 rfl rfl
theorem dksX1_fogAt_3 : cX1_fogAt.data.toList.drop 69 = dktX1_fogAt_3 := dk_seg dksX1_fogAt_2 22 rfl rfl
theorem dksX1_fogAt_4 : cX1_fogAt.data.toList.drop 92 = dktX1_fogAt_4 := dk_seg dksX1_fogAt_3 23 rfl rfl
theorem dX1_fogAt_0 : decode cX1_fogAt 0 = .ok (.iconst (-1), 1) := dk_2 (dk_at dksX1_fogAt_0 0 rfl rfl)
theorem dX1_fogAt_1 : decode cX1_fogAt 1 = .ok (.istore_n 2, 1) := dk_61 (dk_at dksX1_fogAt_0 1 rfl rfl)
theorem dX1_fogAt_2 : decode cX1_fogAt 2 = .ok (.iconst 0, 1) := dk_3 (dk_at dksX1_fogAt_0 2 rfl rfl)
theorem dX1_fogAt_3 : decode cX1_fogAt 3 = .ok (.istore_n 3, 1) := dk_62 (dk_at dksX1_fogAt_0 3 rfl rfl)
theorem dX1_fogAt_4 : decode cX1_fogAt 4 = .ok (.iload_n 3, 1) := dk_29 (dk_at dksX1_fogAt_0 4 rfl rfl)
theorem dX1_fogAt_5 : decode cX1_fogAt 5 = .ok (.aload_n 0, 1) := dk_42 (dk_at dksX1_fogAt_0 5 rfl rfl)
theorem dX1_fogAt_6 : decode cX1_fogAt 6 = .ok (.getfield 39, 3) := dk_180 0 39 (dk_at dksX1_fogAt_0 6 rfl rfl)
theorem dX1_fogAt_9 : decode cX1_fogAt 9 = .ok (.invokevirtual 98, 3) := dk_182 0 98 (dk_at dksX1_fogAt_0 9 rfl rfl)
theorem dX1_fogAt_12 : decode cX1_fogAt 12 = .ok (.if_icmp .ge 60, 3) := dk_162 0 60 (dk_at dksX1_fogAt_0 12 rfl rfl)
theorem dX1_fogAt_15 : decode cX1_fogAt 15 = .ok (.aload_n 0, 1) := dk_42 (dk_at dksX1_fogAt_0 15 rfl rfl)
theorem dX1_fogAt_16 : decode cX1_fogAt 16 = .ok (.getfield 39, 3) := dk_180 0 39 (dk_at dksX1_fogAt_0 16 rfl rfl)
theorem dX1_fogAt_19 : decode cX1_fogAt 19 = .ok (.iload_n 3, 1) := dk_29 (dk_at dksX1_fogAt_0 19 rfl rfl)
theorem dX1_fogAt_20 : decode cX1_fogAt 20 = .ok (.invokevirtual 99, 3) := dk_182 0 99 (dk_at dksX1_fogAt_0 20 rfl rfl)
theorem dX1_fogAt_23 : decode cX1_fogAt 23 = .ok (.checkcast 213, 3) := dk_192 0 213 (dk_at dksX1_fogAt_1 0 rfl rfl)
theorem dX1_fogAt_26 : decode cX1_fogAt 26 = .ok (.astore 4, 2) := dk_58 4 (dk_at dksX1_fogAt_1 3 rfl rfl)
theorem dX1_fogAt_28 : decode cX1_fogAt 28 = .ok (.aload 4, 2) := dk_25 4 (dk_at dksX1_fogAt_1 5 rfl rfl)
theorem dX1_fogAt_30 : decode cX1_fogAt 30 = .ok (.getfield 216, 3) := dk_180 0 216 (dk_at dksX1_fogAt_1 7 rfl rfl)
theorem dX1_fogAt_33 : decode cX1_fogAt 33 = .ok (.iload_n 1, 1) := dk_27 (dk_at dksX1_fogAt_1 10 rfl rfl)
theorem dX1_fogAt_34 : decode cX1_fogAt 34 = .ok (.if_icmp .gt 32, 3) := dk_163 0 32 (dk_at dksX1_fogAt_1 11 rfl rfl)
theorem dX1_fogAt_37 : decode cX1_fogAt 37 = .ok (.iload_n 2, 1) := dk_28 (dk_at dksX1_fogAt_1 14 rfl rfl)
theorem dX1_fogAt_38 : decode cX1_fogAt 38 = .ok (.iconst (-1), 1) := dk_2 (dk_at dksX1_fogAt_1 15 rfl rfl)
theorem dX1_fogAt_39 : decode cX1_fogAt 39 = .ok (.if_icmp .eq 25, 3) := dk_159 0 25 (dk_at dksX1_fogAt_1 16 rfl rfl)
theorem dX1_fogAt_42 : decode cX1_fogAt 42 = .ok (.aload 4, 2) := dk_25 4 (dk_at dksX1_fogAt_1 19 rfl rfl)
theorem dX1_fogAt_44 : decode cX1_fogAt 44 = .ok (.getfield 216, 3) := dk_180 0 216 (dk_at dksX1_fogAt_1 21 rfl rfl)
theorem dX1_fogAt_47 : decode cX1_fogAt 47 = .ok (.aload_n 0, 1) := dk_42 (dk_at dksX1_fogAt_2 0 rfl rfl)
theorem dX1_fogAt_48 : decode cX1_fogAt 48 = .ok (.getfield 39, 3) := dk_180 0 39 (dk_at dksX1_fogAt_2 1 rfl rfl)
theorem dX1_fogAt_51 : decode cX1_fogAt 51 = .ok (.iload_n 2, 1) := dk_28 (dk_at dksX1_fogAt_2 4 rfl rfl)
theorem dX1_fogAt_52 : decode cX1_fogAt 52 = .ok (.invokevirtual 99, 3) := dk_182 0 99 (dk_at dksX1_fogAt_2 5 rfl rfl)
theorem dX1_fogAt_55 : decode cX1_fogAt 55 = .ok (.checkcast 213, 3) := dk_192 0 213 (dk_at dksX1_fogAt_2 8 rfl rfl)
theorem dX1_fogAt_58 : decode cX1_fogAt 58 = .ok (.getfield 216, 3) := dk_180 0 216 (dk_at dksX1_fogAt_2 11 rfl rfl)
theorem dX1_fogAt_61 : decode cX1_fogAt 61 = .ok (.if_icmp .lt 5, 3) := dk_161 0 5 (dk_at dksX1_fogAt_2 14 rfl rfl)
theorem dX1_fogAt_64 : decode cX1_fogAt 64 = .ok (.iload_n 3, 1) := dk_29 (dk_at dksX1_fogAt_2 17 rfl rfl)
theorem dX1_fogAt_65 : decode cX1_fogAt 65 = .ok (.istore_n 2, 1) := dk_61 (dk_at dksX1_fogAt_2 18 rfl rfl)
theorem dX1_fogAt_66 : decode cX1_fogAt 66 = .ok (.iinc 3 1, 3) := dk_132 3 1 (dk_at dksX1_fogAt_2 19 rfl rfl)
theorem dX1_fogAt_69 : decode cX1_fogAt 69 = .ok (.goto (-65), 3) := dk_167 255 191 (dk_at dksX1_fogAt_3 0 rfl rfl)
theorem dX1_fogAt_72 : decode cX1_fogAt 72 = .ok (.iload_n 2, 1) := dk_28 (dk_at dksX1_fogAt_3 3 rfl rfl)
theorem dX1_fogAt_73 : decode cX1_fogAt 73 = .ok (.iconst (-1), 1) := dk_2 (dk_at dksX1_fogAt_3 4 rfl rfl)
theorem dX1_fogAt_74 : decode cX1_fogAt 74 = .ok (.if_icmp .ne 7, 3) := dk_160 0 7 (dk_at dksX1_fogAt_3 5 rfl rfl)
theorem dX1_fogAt_77 : decode cX1_fogAt 77 = .ok (.iconst 0, 1) := dk_3 (dk_at dksX1_fogAt_3 8 rfl rfl)
theorem dX1_fogAt_78 : decode cX1_fogAt 78 = .ok (.goto 17, 3) := dk_167 0 17 (dk_at dksX1_fogAt_3 9 rfl rfl)
theorem dX1_fogAt_81 : decode cX1_fogAt 81 = .ok (.aload_n 0, 1) := dk_42 (dk_at dksX1_fogAt_3 12 rfl rfl)
theorem dX1_fogAt_82 : decode cX1_fogAt 82 = .ok (.getfield 39, 3) := dk_180 0 39 (dk_at dksX1_fogAt_3 13 rfl rfl)
theorem dX1_fogAt_85 : decode cX1_fogAt 85 = .ok (.iload_n 2, 1) := dk_28 (dk_at dksX1_fogAt_3 16 rfl rfl)
theorem dX1_fogAt_86 : decode cX1_fogAt 86 = .ok (.invokevirtual 99, 3) := dk_182 0 99 (dk_at dksX1_fogAt_3 17 rfl rfl)
theorem dX1_fogAt_89 : decode cX1_fogAt 89 = .ok (.checkcast 213, 3) := dk_192 0 213 (dk_at dksX1_fogAt_3 20 rfl rfl)
theorem dX1_fogAt_92 : decode cX1_fogAt 92 = .ok (.getfield 219, 3) := dk_180 0 219 (dk_at dksX1_fogAt_4 0 rfl rfl)
theorem dX1_fogAt_95 : decode cX1_fogAt 95 = .ok (.ireturn, 1) := dk_172 (dk_at dksX1_fogAt_4 3 rfl rfl)
abbrev cX1_view : ByteArray := prog_1_method_29_code
def yX1_view : MethodName := ⟨RX1, "view", "(LNightwatchWall$Guard;II)I"⟩
def dkwX1_view_2 : List UInt8 := [182, 1, 7, 167, 0, 4, 2, 172]
abbrev dktX1_view_2 : List UInt8 := dkwX1_view_2 ++ []
def dkwX1_view_1 : List UInt8 := [21, 4, 28, 182, 1, 3, 153, 0, 22, 42, 180, 0, 28, 182, 0, 83, 192, 0, 87, 21, 4, 28]
abbrev dktX1_view_1 : List UInt8 := dkwX1_view_1 ++ dktX1_view_2
def dkwX1_view_0 : List UInt8 := [43, 29, 182, 0, 246, 54, 4, 21, 4, 2, 159, 0, 41, 42, 180, 0, 28, 182, 0, 83, 192, 0, 87]
abbrev dktX1_view_0 : List UInt8 := dkwX1_view_0 ++ dktX1_view_1
theorem dksX1_view_0 : cX1_view.data.toList.drop 0 = dktX1_view_0 := by decide +kernel
theorem dksX1_view_1 : cX1_view.data.toList.drop 23 = dktX1_view_1 := dk_seg dksX1_view_0 23 rfl rfl
theorem dksX1_view_2 : cX1_view.data.toList.drop 45 = dktX1_view_2 := dk_seg dksX1_view_1 22 rfl rfl
theorem dX1_view_0 : decode cX1_view 0 = .ok (.aload_n 1, 1) := dk_43 (dk_at dksX1_view_0 0 rfl rfl)
theorem dX1_view_1 : decode cX1_view 1 = .ok (.iload_n 3, 1) := dk_29 (dk_at dksX1_view_0 1 rfl rfl)
theorem dX1_view_2 : decode cX1_view 2 = .ok (.invokevirtual 246, 3) := dk_182 0 246 (dk_at dksX1_view_0 2 rfl rfl)
theorem dX1_view_5 : decode cX1_view 5 = .ok (.istore 4, 2) := dk_54 4 (dk_at dksX1_view_0 5 rfl rfl)
theorem dX1_view_7 : decode cX1_view 7 = .ok (.iload 4, 2) := dk_21 4 (dk_at dksX1_view_0 7 rfl rfl)
theorem dX1_view_9 : decode cX1_view 9 = .ok (.iconst (-1), 1) := dk_2 (dk_at dksX1_view_0 9 rfl rfl)
theorem dX1_view_10 : decode cX1_view 10 = .ok (.if_icmp .eq 41, 3) := dk_159 0 41 (dk_at dksX1_view_0 10 rfl rfl)
theorem dX1_view_13 : decode cX1_view 13 = .ok (.aload_n 0, 1) := dk_42 (dk_at dksX1_view_0 13 rfl rfl)
theorem dX1_view_14 : decode cX1_view 14 = .ok (.getfield 28, 3) := dk_180 0 28 (dk_at dksX1_view_0 14 rfl rfl)
theorem dX1_view_17 : decode cX1_view 17 = .ok (.invokevirtual 83, 3) := dk_182 0 83 (dk_at dksX1_view_0 17 rfl rfl)
theorem dX1_view_20 : decode cX1_view 20 = .ok (.checkcast 87, 3) := dk_192 0 87 (dk_at dksX1_view_0 20 rfl rfl)
theorem dX1_view_23 : decode cX1_view 23 = .ok (.iload 4, 2) := dk_21 4 (dk_at dksX1_view_1 0 rfl rfl)
theorem dX1_view_25 : decode cX1_view 25 = .ok (.iload_n 2, 1) := dk_28 (dk_at dksX1_view_1 2 rfl rfl)
theorem dX1_view_26 : decode cX1_view 26 = .ok (.invokevirtual 259, 3) := dk_182 1 3 (dk_at dksX1_view_1 3 rfl rfl)
theorem dX1_view_29 : decode cX1_view 29 = .ok (.ifCond .eq 22, 3) := dk_153 0 22 (dk_at dksX1_view_1 6 rfl rfl)
theorem dX1_view_32 : decode cX1_view 32 = .ok (.aload_n 0, 1) := dk_42 (dk_at dksX1_view_1 9 rfl rfl)
theorem dX1_view_33 : decode cX1_view 33 = .ok (.getfield 28, 3) := dk_180 0 28 (dk_at dksX1_view_1 10 rfl rfl)
theorem dX1_view_36 : decode cX1_view 36 = .ok (.invokevirtual 83, 3) := dk_182 0 83 (dk_at dksX1_view_1 13 rfl rfl)
theorem dX1_view_39 : decode cX1_view 39 = .ok (.checkcast 87, 3) := dk_192 0 87 (dk_at dksX1_view_1 16 rfl rfl)
theorem dX1_view_42 : decode cX1_view 42 = .ok (.iload 4, 2) := dk_21 4 (dk_at dksX1_view_1 19 rfl rfl)
theorem dX1_view_44 : decode cX1_view 44 = .ok (.iload_n 2, 1) := dk_28 (dk_at dksX1_view_1 21 rfl rfl)
theorem dX1_view_45 : decode cX1_view 45 = .ok (.invokevirtual 263, 3) := dk_182 1 7 (dk_at dksX1_view_2 0 rfl rfl)
theorem dX1_view_48 : decode cX1_view 48 = .ok (.goto 4, 3) := dk_167 0 4 (dk_at dksX1_view_2 3 rfl rfl)
theorem dX1_view_51 : decode cX1_view 51 = .ok (.iconst (-1), 1) := dk_2 (dk_at dksX1_view_2 6 rfl rfl)
theorem dX1_view_52 : decode cX1_view 52 = .ok (.ireturn, 1) := dk_172 (dk_at dksX1_view_2 7 rfl rfl)
abbrev cX1_isFrom : ByteArray := prog_1_method_4_code
def yX1_isFrom : MethodName := ⟨RX1, "isFrom", "(III)Z"⟩
def dkwX1_isFrom_0 : List UInt8 := [28, 26, 161, 0, 12, 28, 27, 163, 0, 7, 4, 167, 0, 4, 3, 172]
abbrev dktX1_isFrom_0 : List UInt8 := dkwX1_isFrom_0 ++ []
theorem dksX1_isFrom_0 : cX1_isFrom.data.toList.drop 0 = dktX1_isFrom_0 := by decide +kernel
theorem dX1_isFrom_0 : decode cX1_isFrom 0 = .ok (.iload_n 2, 1) := dk_28 (dk_at dksX1_isFrom_0 0 rfl rfl)
theorem dX1_isFrom_1 : decode cX1_isFrom 1 = .ok (.iload_n 0, 1) := dk_26 (dk_at dksX1_isFrom_0 1 rfl rfl)
theorem dX1_isFrom_2 : decode cX1_isFrom 2 = .ok (.if_icmp .lt 12, 3) := dk_161 0 12 (dk_at dksX1_isFrom_0 2 rfl rfl)
theorem dX1_isFrom_5 : decode cX1_isFrom 5 = .ok (.iload_n 2, 1) := dk_28 (dk_at dksX1_isFrom_0 5 rfl rfl)
theorem dX1_isFrom_6 : decode cX1_isFrom 6 = .ok (.iload_n 1, 1) := dk_27 (dk_at dksX1_isFrom_0 6 rfl rfl)
theorem dX1_isFrom_7 : decode cX1_isFrom 7 = .ok (.if_icmp .gt 7, 3) := dk_163 0 7 (dk_at dksX1_isFrom_0 7 rfl rfl)
theorem dX1_isFrom_10 : decode cX1_isFrom 10 = .ok (.iconst 1, 1) := dk_4 (dk_at dksX1_isFrom_0 10 rfl rfl)
theorem dX1_isFrom_11 : decode cX1_isFrom 11 = .ok (.goto 4, 3) := dk_167 0 4 (dk_at dksX1_isFrom_0 11 rfl rfl)
theorem dX1_isFrom_14 : decode cX1_isFrom 14 = .ok (.iconst 0, 1) := dk_3 (dk_at dksX1_isFrom_0 14 rfl rfl)
theorem dX1_isFrom_15 : decode cX1_isFrom 15 = .ok (.ireturn, 1) := dk_172 (dk_at dksX1_isFrom_0 15 rfl rfl)
abbrev cX1_sees : ByteArray := prog_1_method_30_code
def yX1_sees : MethodName := ⟨RX1, "sees", "(LNightwatchWall$Guard;IIZI)Z"⟩
def dkwX1_sees_0 : List UInt8 := [28, 2, 159, 0, 20, 28, 43, 21, 4, 29, 21, 5, 184, 1, 10, 163, 0, 7, 4, 167, 0, 4, 3, 172]
abbrev dktX1_sees_0 : List UInt8 := dkwX1_sees_0 ++ []
theorem dksX1_sees_0 : cX1_sees.data.toList.drop 0 = dktX1_sees_0 := by decide +kernel
theorem dX1_sees_0 : decode cX1_sees 0 = .ok (.iload_n 2, 1) := dk_28 (dk_at dksX1_sees_0 0 rfl rfl)
theorem dX1_sees_1 : decode cX1_sees 1 = .ok (.iconst (-1), 1) := dk_2 (dk_at dksX1_sees_0 1 rfl rfl)
theorem dX1_sees_2 : decode cX1_sees 2 = .ok (.if_icmp .eq 20, 3) := dk_159 0 20 (dk_at dksX1_sees_0 2 rfl rfl)
theorem dX1_sees_5 : decode cX1_sees 5 = .ok (.iload_n 2, 1) := dk_28 (dk_at dksX1_sees_0 5 rfl rfl)
theorem dX1_sees_6 : decode cX1_sees 6 = .ok (.aload_n 1, 1) := dk_43 (dk_at dksX1_sees_0 6 rfl rfl)
theorem dX1_sees_7 : decode cX1_sees 7 = .ok (.iload 4, 2) := dk_21 4 (dk_at dksX1_sees_0 7 rfl rfl)
theorem dX1_sees_9 : decode cX1_sees 9 = .ok (.iload_n 3, 1) := dk_29 (dk_at dksX1_sees_0 9 rfl rfl)
theorem dX1_sees_10 : decode cX1_sees 10 = .ok (.iload 5, 2) := dk_21 5 (dk_at dksX1_sees_0 10 rfl rfl)
theorem dX1_sees_12 : decode cX1_sees 12 = .ok (.invokestatic 266, 3) := dk_184 1 10 (dk_at dksX1_sees_0 12 rfl rfl)
theorem dX1_sees_15 : decode cX1_sees 15 = .ok (.if_icmp .gt 7, 3) := dk_163 0 7 (dk_at dksX1_sees_0 15 rfl rfl)
theorem dX1_sees_18 : decode cX1_sees 18 = .ok (.iconst 1, 1) := dk_4 (dk_at dksX1_sees_0 18 rfl rfl)
theorem dX1_sees_19 : decode cX1_sees 19 = .ok (.goto 4, 3) := dk_167 0 4 (dk_at dksX1_sees_0 19 rfl rfl)
theorem dX1_sees_22 : decode cX1_sees 22 = .ok (.iconst 0, 1) := dk_3 (dk_at dksX1_sees_0 22 rfl rfl)
theorem dX1_sees_23 : decode cX1_sees 23 = .ok (.ireturn, 1) := dk_172 (dk_at dksX1_sees_0 23 rfl rfl)
abbrev cX1_range : ByteArray := prog_1_method_28_code
def yX1_range : MethodName := ⟨RX1, "range", "(LNightwatchWall$Guard;ZII)I"⟩
def dkwX1_range_1 : List UInt8 := [4, 167, 0, 4, 3, 100, 54, 4, 3, 21, 4, 184, 0, 253, 172]
abbrev dktX1_range_1 : List UInt8 := dkwX1_range_1 ++ []
def dkwX1_range_0 : List UInt8 := [27, 153, 0, 10, 16, 7, 29, 100, 167, 0, 8, 5, 29, 5, 108, 100, 42, 28, 182, 0, 250, 153, 0, 7]
abbrev dktX1_range_0 : List UInt8 := dkwX1_range_0 ++ dktX1_range_1
theorem dksX1_range_0 : cX1_range.data.toList.drop 0 = dktX1_range_0 := by decide +kernel
theorem dksX1_range_1 : cX1_range.data.toList.drop 24 = dktX1_range_1 := dk_seg dksX1_range_0 24 rfl rfl
theorem dX1_range_0 : decode cX1_range 0 = .ok (.iload_n 1, 1) := dk_27 (dk_at dksX1_range_0 0 rfl rfl)
theorem dX1_range_1 : decode cX1_range 1 = .ok (.ifCond .eq 10, 3) := dk_153 0 10 (dk_at dksX1_range_0 1 rfl rfl)
theorem dX1_range_4 : decode cX1_range 4 = .ok (.bipush 7, 2) := dk_16 7 (dk_at dksX1_range_0 4 rfl rfl)
theorem dX1_range_6 : decode cX1_range 6 = .ok (.iload_n 3, 1) := dk_29 (dk_at dksX1_range_0 6 rfl rfl)
theorem dX1_range_7 : decode cX1_range 7 = .ok (.isub, 1) := dk_100 (dk_at dksX1_range_0 7 rfl rfl)
theorem dX1_range_8 : decode cX1_range 8 = .ok (.goto 8, 3) := dk_167 0 8 (dk_at dksX1_range_0 8 rfl rfl)
theorem dX1_range_11 : decode cX1_range 11 = .ok (.iconst 2, 1) := dk_5 (dk_at dksX1_range_0 11 rfl rfl)
theorem dX1_range_12 : decode cX1_range 12 = .ok (.iload_n 3, 1) := dk_29 (dk_at dksX1_range_0 12 rfl rfl)
theorem dX1_range_13 : decode cX1_range 13 = .ok (.iconst 2, 1) := dk_5 (dk_at dksX1_range_0 13 rfl rfl)
theorem dX1_range_14 : decode cX1_range 14 = .ok (.idiv, 1) := dk_108 (dk_at dksX1_range_0 14 rfl rfl)
theorem dX1_range_15 : decode cX1_range 15 = .ok (.isub, 1) := dk_100 (dk_at dksX1_range_0 15 rfl rfl)
theorem dX1_range_16 : decode cX1_range 16 = .ok (.aload_n 0, 1) := dk_42 (dk_at dksX1_range_0 16 rfl rfl)
theorem dX1_range_17 : decode cX1_range 17 = .ok (.iload_n 2, 1) := dk_28 (dk_at dksX1_range_0 17 rfl rfl)
theorem dX1_range_18 : decode cX1_range 18 = .ok (.invokevirtual 250, 3) := dk_182 0 250 (dk_at dksX1_range_0 18 rfl rfl)
theorem dX1_range_21 : decode cX1_range 21 = .ok (.ifCond .eq 7, 3) := dk_153 0 7 (dk_at dksX1_range_0 21 rfl rfl)
theorem dX1_range_24 : decode cX1_range 24 = .ok (.iconst 1, 1) := dk_4 (dk_at dksX1_range_1 0 rfl rfl)
theorem dX1_range_25 : decode cX1_range 25 = .ok (.goto 4, 3) := dk_167 0 4 (dk_at dksX1_range_1 1 rfl rfl)
theorem dX1_range_28 : decode cX1_range 28 = .ok (.iconst 0, 1) := dk_3 (dk_at dksX1_range_1 4 rfl rfl)
theorem dX1_range_29 : decode cX1_range 29 = .ok (.isub, 1) := dk_100 (dk_at dksX1_range_1 5 rfl rfl)
theorem dX1_range_30 : decode cX1_range 30 = .ok (.istore 4, 2) := dk_54 4 (dk_at dksX1_range_1 6 rfl rfl)
theorem dX1_range_32 : decode cX1_range 32 = .ok (.iconst 0, 1) := dk_3 (dk_at dksX1_range_1 8 rfl rfl)
theorem dX1_range_33 : decode cX1_range 33 = .ok (.iload 4, 2) := dk_21 4 (dk_at dksX1_range_1 9 rfl rfl)
theorem dX1_range_35 : decode cX1_range 35 = .ok (.invokestatic 253, 3) := dk_184 0 253 (dk_at dksX1_range_1 11 rfl rfl)
theorem dX1_range_38 : decode cX1_range 38 = .ok (.ireturn, 1) := dk_172 (dk_at dksX1_range_1 14 rfl rfl)
abbrev cX1_isBright : ByteArray := prog_1_method_22_code
def yX1_isBright : MethodName := ⟨RX1, "isBright", "(I)Z"⟩
def dkwX1_isBright_2 : List UInt8 := [167, 255, 212, 3, 172]
abbrev dktX1_isBright_2 : List UInt8 := dkwX1_isBright_2 ++ []
def dkwX1_isBright_1 : List UInt8 := [42, 180, 0, 28, 182, 0, 83, 192, 0, 87, 27, 182, 0, 222, 153, 0, 5, 4, 172, 132, 2, 1]
abbrev dktX1_isBright_1 : List UInt8 := dkwX1_isBright_1 ++ dktX1_isBright_2
def dkwX1_isBright_0 : List UInt8 := [3, 61, 28, 42, 180, 0, 35, 182, 0, 98, 162, 0, 39, 42, 180, 0, 35, 28, 182, 0, 99, 192, 0, 168]
abbrev dktX1_isBright_0 : List UInt8 := dkwX1_isBright_0 ++ dktX1_isBright_1
theorem dksX1_isBright_0 : cX1_isBright.data.toList.drop 0 = dktX1_isBright_0 := by decide +kernel
theorem dksX1_isBright_1 : cX1_isBright.data.toList.drop 24 = dktX1_isBright_1 := dk_seg dksX1_isBright_0 24 rfl rfl
theorem dksX1_isBright_2 : cX1_isBright.data.toList.drop 46 = dktX1_isBright_2 := dk_seg dksX1_isBright_1 22 rfl rfl
theorem dX1_isBright_0 : decode cX1_isBright 0 = .ok (.iconst 0, 1) := dk_3 (dk_at dksX1_isBright_0 0 rfl rfl)
theorem dX1_isBright_1 : decode cX1_isBright 1 = .ok (.istore_n 2, 1) := dk_61 (dk_at dksX1_isBright_0 1 rfl rfl)
theorem dX1_isBright_2 : decode cX1_isBright 2 = .ok (.iload_n 2, 1) := dk_28 (dk_at dksX1_isBright_0 2 rfl rfl)
theorem dX1_isBright_3 : decode cX1_isBright 3 = .ok (.aload_n 0, 1) := dk_42 (dk_at dksX1_isBright_0 3 rfl rfl)
theorem dX1_isBright_4 : decode cX1_isBright 4 = .ok (.getfield 35, 3) := dk_180 0 35 (dk_at dksX1_isBright_0 4 rfl rfl)
theorem dX1_isBright_7 : decode cX1_isBright 7 = .ok (.invokevirtual 98, 3) := dk_182 0 98 (dk_at dksX1_isBright_0 7 rfl rfl)
theorem dX1_isBright_10 : decode cX1_isBright 10 = .ok (.if_icmp .ge 39, 3) := dk_162 0 39 (dk_at dksX1_isBright_0 10 rfl rfl)
theorem dX1_isBright_13 : decode cX1_isBright 13 = .ok (.aload_n 0, 1) := dk_42 (dk_at dksX1_isBright_0 13 rfl rfl)
theorem dX1_isBright_14 : decode cX1_isBright 14 = .ok (.getfield 35, 3) := dk_180 0 35 (dk_at dksX1_isBright_0 14 rfl rfl)
theorem dX1_isBright_17 : decode cX1_isBright 17 = .ok (.iload_n 2, 1) := dk_28 (dk_at dksX1_isBright_0 17 rfl rfl)
theorem dX1_isBright_18 : decode cX1_isBright 18 = .ok (.invokevirtual 99, 3) := dk_182 0 99 (dk_at dksX1_isBright_0 18 rfl rfl)
theorem dX1_isBright_21 : decode cX1_isBright 21 = .ok (.checkcast 168, 3) := dk_192 0 168 (dk_at dksX1_isBright_0 21 rfl rfl)
theorem dX1_isBright_24 : decode cX1_isBright 24 = .ok (.aload_n 0, 1) := dk_42 (dk_at dksX1_isBright_1 0 rfl rfl)
theorem dX1_isBright_25 : decode cX1_isBright 25 = .ok (.getfield 28, 3) := dk_180 0 28 (dk_at dksX1_isBright_1 1 rfl rfl)
theorem dX1_isBright_28 : decode cX1_isBright 28 = .ok (.invokevirtual 83, 3) := dk_182 0 83 (dk_at dksX1_isBright_1 4 rfl rfl)
theorem dX1_isBright_31 : decode cX1_isBright 31 = .ok (.checkcast 87, 3) := dk_192 0 87 (dk_at dksX1_isBright_1 7 rfl rfl)
theorem dX1_isBright_34 : decode cX1_isBright 34 = .ok (.iload_n 1, 1) := dk_27 (dk_at dksX1_isBright_1 10 rfl rfl)
theorem dX1_isBright_35 : decode cX1_isBright 35 = .ok (.invokevirtual 222, 3) := dk_182 0 222 (dk_at dksX1_isBright_1 11 rfl rfl)
theorem dX1_isBright_38 : decode cX1_isBright 38 = .ok (.ifCond .eq 5, 3) := dk_153 0 5 (dk_at dksX1_isBright_1 14 rfl rfl)
theorem dX1_isBright_41 : decode cX1_isBright 41 = .ok (.iconst 1, 1) := dk_4 (dk_at dksX1_isBright_1 17 rfl rfl)
theorem dX1_isBright_42 : decode cX1_isBright 42 = .ok (.ireturn, 1) := dk_172 (dk_at dksX1_isBright_1 18 rfl rfl)
theorem dX1_isBright_43 : decode cX1_isBright 43 = .ok (.iinc 2 1, 3) := dk_132 2 1 (dk_at dksX1_isBright_1 19 rfl rfl)
theorem dX1_isBright_46 : decode cX1_isBright 46 = .ok (.goto (-44), 3) := dk_167 255 212 (dk_at dksX1_isBright_2 0 rfl rfl)
theorem dX1_isBright_49 : decode cX1_isBright 49 = .ok (.iconst 0, 1) := dk_3 (dk_at dksX1_isBright_2 3 rfl rfl)
theorem dX1_isBright_50 : decode cX1_isBright 50 = .ok (.ireturn, 1) := dk_172 (dk_at dksX1_isBright_2 4 rfl rfl)
abbrev cX1_keysOf : ByteArray := prog_1_method_52_code
def yX1_keysOf : MethodName := ⟨RX1, "keysOf", "(I)I"⟩
def dkwX1_keysOf_1 : List UInt8 := [167, 0, 4, 3, 128, 61, 132, 3, 1, 167, 255, 227, 28, 172]
abbrev dktX1_keysOf_1 : List UInt8 := dkwX1_keysOf_1 ++ []
def dkwX1_keysOf_0 : List UInt8 := [3, 61, 3, 62, 29, 16, 6, 162, 0, 29, 28, 42, 180, 0, 61, 29, 46, 27, 160, 0, 9, 4, 29, 120]
abbrev dktX1_keysOf_0 : List UInt8 := dkwX1_keysOf_0 ++ dktX1_keysOf_1
theorem dksX1_keysOf_0 : cX1_keysOf.data.toList.drop 0 = dktX1_keysOf_0 := by decide +kernel
theorem dksX1_keysOf_1 : cX1_keysOf.data.toList.drop 24 = dktX1_keysOf_1 := dk_seg dksX1_keysOf_0 24 rfl rfl
theorem dX1_keysOf_0 : decode cX1_keysOf 0 = .ok (.iconst 0, 1) := dk_3 (dk_at dksX1_keysOf_0 0 rfl rfl)
theorem dX1_keysOf_1 : decode cX1_keysOf 1 = .ok (.istore_n 2, 1) := dk_61 (dk_at dksX1_keysOf_0 1 rfl rfl)
theorem dX1_keysOf_2 : decode cX1_keysOf 2 = .ok (.iconst 0, 1) := dk_3 (dk_at dksX1_keysOf_0 2 rfl rfl)
theorem dX1_keysOf_3 : decode cX1_keysOf 3 = .ok (.istore_n 3, 1) := dk_62 (dk_at dksX1_keysOf_0 3 rfl rfl)
theorem dX1_keysOf_4 : decode cX1_keysOf 4 = .ok (.iload_n 3, 1) := dk_29 (dk_at dksX1_keysOf_0 4 rfl rfl)
theorem dX1_keysOf_5 : decode cX1_keysOf 5 = .ok (.bipush 6, 2) := dk_16 6 (dk_at dksX1_keysOf_0 5 rfl rfl)
theorem dX1_keysOf_7 : decode cX1_keysOf 7 = .ok (.if_icmp .ge 29, 3) := dk_162 0 29 (dk_at dksX1_keysOf_0 7 rfl rfl)
theorem dX1_keysOf_10 : decode cX1_keysOf 10 = .ok (.iload_n 2, 1) := dk_28 (dk_at dksX1_keysOf_0 10 rfl rfl)
theorem dX1_keysOf_11 : decode cX1_keysOf 11 = .ok (.aload_n 0, 1) := dk_42 (dk_at dksX1_keysOf_0 11 rfl rfl)
theorem dX1_keysOf_12 : decode cX1_keysOf 12 = .ok (.getfield 61, 3) := dk_180 0 61 (dk_at dksX1_keysOf_0 12 rfl rfl)
theorem dX1_keysOf_15 : decode cX1_keysOf 15 = .ok (.iload_n 3, 1) := dk_29 (dk_at dksX1_keysOf_0 15 rfl rfl)
theorem dX1_keysOf_16 : decode cX1_keysOf 16 = .ok (.iaload, 1) := dk_46 (dk_at dksX1_keysOf_0 16 rfl rfl)
theorem dX1_keysOf_17 : decode cX1_keysOf 17 = .ok (.iload_n 1, 1) := dk_27 (dk_at dksX1_keysOf_0 17 rfl rfl)
theorem dX1_keysOf_18 : decode cX1_keysOf 18 = .ok (.if_icmp .ne 9, 3) := dk_160 0 9 (dk_at dksX1_keysOf_0 18 rfl rfl)
theorem dX1_keysOf_21 : decode cX1_keysOf 21 = .ok (.iconst 1, 1) := dk_4 (dk_at dksX1_keysOf_0 21 rfl rfl)
theorem dX1_keysOf_22 : decode cX1_keysOf 22 = .ok (.iload_n 3, 1) := dk_29 (dk_at dksX1_keysOf_0 22 rfl rfl)
theorem dX1_keysOf_23 : decode cX1_keysOf 23 = .ok (.ishl, 1) := dk_120 (dk_at dksX1_keysOf_0 23 rfl rfl)
theorem dX1_keysOf_24 : decode cX1_keysOf 24 = .ok (.goto 4, 3) := dk_167 0 4 (dk_at dksX1_keysOf_1 0 rfl rfl)
theorem dX1_keysOf_27 : decode cX1_keysOf 27 = .ok (.iconst 0, 1) := dk_3 (dk_at dksX1_keysOf_1 3 rfl rfl)
theorem dX1_keysOf_28 : decode cX1_keysOf 28 = .ok (.ior, 1) := dk_128 (dk_at dksX1_keysOf_1 4 rfl rfl)
theorem dX1_keysOf_29 : decode cX1_keysOf 29 = .ok (.istore_n 2, 1) := dk_61 (dk_at dksX1_keysOf_1 5 rfl rfl)
theorem dX1_keysOf_30 : decode cX1_keysOf 30 = .ok (.iinc 3 1, 3) := dk_132 3 1 (dk_at dksX1_keysOf_1 6 rfl rfl)
theorem dX1_keysOf_33 : decode cX1_keysOf 33 = .ok (.goto (-29), 3) := dk_167 255 227 (dk_at dksX1_keysOf_1 9 rfl rfl)
theorem dX1_keysOf_36 : decode cX1_keysOf 36 = .ok (.iload_n 2, 1) := dk_28 (dk_at dksX1_keysOf_1 12 rfl rfl)
theorem dX1_keysOf_37 : decode cX1_keysOf 37 = .ok (.ireturn, 1) := dk_172 (dk_at dksX1_keysOf_1 13 rfl rfl)
abbrev cX1_emptyMinutes : ByteArray := prog_1_method_77_code
def yX1_emptyMinutes : MethodName := ⟨RX1, "emptyMinutes", "()I"⟩
def dkwX1_emptyMinutes_1 : List UInt8 := [3, 96, 60, 132, 2, 1, 167, 255, 230, 27, 172]
abbrev dktX1_emptyMinutes_1 : List UInt8 := dkwX1_emptyMinutes_1 ++ []
def dkwX1_emptyMinutes_0 : List UInt8 := [3, 60, 3, 61, 28, 17, 0, 240, 162, 0, 25, 27, 42, 28, 182, 1, 51, 158, 0, 7, 4, 167, 0, 4]
abbrev dktX1_emptyMinutes_0 : List UInt8 := dkwX1_emptyMinutes_0 ++ dktX1_emptyMinutes_1
theorem dksX1_emptyMinutes_0 : cX1_emptyMinutes.data.toList.drop 0 = dktX1_emptyMinutes_0 := by decide +kernel
theorem dksX1_emptyMinutes_1 : cX1_emptyMinutes.data.toList.drop 24 = dktX1_emptyMinutes_1 := dk_seg dksX1_emptyMinutes_0 24 rfl rfl
theorem dX1_emptyMinutes_0 : decode cX1_emptyMinutes 0 = .ok (.iconst 0, 1) := dk_3 (dk_at dksX1_emptyMinutes_0 0 rfl rfl)
theorem dX1_emptyMinutes_1 : decode cX1_emptyMinutes 1 = .ok (.istore_n 1, 1) := dk_60 (dk_at dksX1_emptyMinutes_0 1 rfl rfl)
theorem dX1_emptyMinutes_2 : decode cX1_emptyMinutes 2 = .ok (.iconst 0, 1) := dk_3 (dk_at dksX1_emptyMinutes_0 2 rfl rfl)
theorem dX1_emptyMinutes_3 : decode cX1_emptyMinutes 3 = .ok (.istore_n 2, 1) := dk_61 (dk_at dksX1_emptyMinutes_0 3 rfl rfl)
theorem dX1_emptyMinutes_4 : decode cX1_emptyMinutes 4 = .ok (.iload_n 2, 1) := dk_28 (dk_at dksX1_emptyMinutes_0 4 rfl rfl)
theorem dX1_emptyMinutes_5 : decode cX1_emptyMinutes 5 = .ok (.sipush 240, 3) := dk_17 0 240 (dk_at dksX1_emptyMinutes_0 5 rfl rfl)
theorem dX1_emptyMinutes_8 : decode cX1_emptyMinutes 8 = .ok (.if_icmp .ge 25, 3) := dk_162 0 25 (dk_at dksX1_emptyMinutes_0 8 rfl rfl)
theorem dX1_emptyMinutes_11 : decode cX1_emptyMinutes 11 = .ok (.iload_n 1, 1) := dk_27 (dk_at dksX1_emptyMinutes_0 11 rfl rfl)
theorem dX1_emptyMinutes_12 : decode cX1_emptyMinutes 12 = .ok (.aload_n 0, 1) := dk_42 (dk_at dksX1_emptyMinutes_0 12 rfl rfl)
theorem dX1_emptyMinutes_13 : decode cX1_emptyMinutes 13 = .ok (.iload_n 2, 1) := dk_28 (dk_at dksX1_emptyMinutes_0 13 rfl rfl)
theorem dX1_emptyMinutes_14 : decode cX1_emptyMinutes 14 = .ok (.invokevirtual 307, 3) := dk_182 1 51 (dk_at dksX1_emptyMinutes_0 14 rfl rfl)
theorem dX1_emptyMinutes_17 : decode cX1_emptyMinutes 17 = .ok (.ifCond .le 7, 3) := dk_158 0 7 (dk_at dksX1_emptyMinutes_0 17 rfl rfl)
theorem dX1_emptyMinutes_20 : decode cX1_emptyMinutes 20 = .ok (.iconst 1, 1) := dk_4 (dk_at dksX1_emptyMinutes_0 20 rfl rfl)
theorem dX1_emptyMinutes_21 : decode cX1_emptyMinutes 21 = .ok (.goto 4, 3) := dk_167 0 4 (dk_at dksX1_emptyMinutes_0 21 rfl rfl)
theorem dX1_emptyMinutes_24 : decode cX1_emptyMinutes 24 = .ok (.iconst 0, 1) := dk_3 (dk_at dksX1_emptyMinutes_1 0 rfl rfl)
theorem dX1_emptyMinutes_25 : decode cX1_emptyMinutes 25 = .ok (.iadd, 1) := dk_96 (dk_at dksX1_emptyMinutes_1 1 rfl rfl)
theorem dX1_emptyMinutes_26 : decode cX1_emptyMinutes 26 = .ok (.istore_n 1, 1) := dk_60 (dk_at dksX1_emptyMinutes_1 2 rfl rfl)
theorem dX1_emptyMinutes_27 : decode cX1_emptyMinutes 27 = .ok (.iinc 2 1, 3) := dk_132 2 1 (dk_at dksX1_emptyMinutes_1 3 rfl rfl)
theorem dX1_emptyMinutes_30 : decode cX1_emptyMinutes 30 = .ok (.goto (-26), 3) := dk_167 255 230 (dk_at dksX1_emptyMinutes_1 6 rfl rfl)
theorem dX1_emptyMinutes_33 : decode cX1_emptyMinutes 33 = .ok (.iload_n 1, 1) := dk_27 (dk_at dksX1_emptyMinutes_1 9 rfl rfl)
theorem dX1_emptyMinutes_34 : decode cX1_emptyMinutes 34 = .ok (.ireturn, 1) := dk_172 (dk_at dksX1_emptyMinutes_1 10 rfl rfl)
abbrev cX1_emptyPosts : ByteArray := prog_1_method_40_code
def yX1_emptyPosts : MethodName := ⟨RX1, "emptyPosts", "(I)I"⟩
def dkwX1_emptyPosts_2 : List UInt8 := [132, 3, 1, 167, 255, 212, 28, 172]
abbrev dktX1_emptyPosts_2 : List UInt8 := dkwX1_emptyPosts_2 ++ []
def dkwX1_emptyPosts_1 : List UInt8 := [182, 0, 99, 192, 0, 173, 182, 0, 175, 27, 182, 1, 28, 154, 0, 7, 4, 167, 0, 4, 3, 96, 61]
abbrev dktX1_emptyPosts_1 : List UInt8 := dkwX1_emptyPosts_1 ++ dktX1_emptyPosts_2
def dkwX1_emptyPosts_0 : List UInt8 := [3, 61, 3, 62, 29, 42, 180, 0, 45, 182, 0, 98, 162, 0, 39, 28, 42, 42, 180, 0, 45, 29]
abbrev dktX1_emptyPosts_0 : List UInt8 := dkwX1_emptyPosts_0 ++ dktX1_emptyPosts_1
theorem dksX1_emptyPosts_0 : cX1_emptyPosts.data.toList.drop 0 = dktX1_emptyPosts_0 := by decide +kernel
theorem dksX1_emptyPosts_1 : cX1_emptyPosts.data.toList.drop 22 = dktX1_emptyPosts_1 := dk_seg dksX1_emptyPosts_0 22 rfl rfl
theorem dksX1_emptyPosts_2 : cX1_emptyPosts.data.toList.drop 45 = dktX1_emptyPosts_2 := dk_seg dksX1_emptyPosts_1 23 rfl rfl
theorem dX1_emptyPosts_0 : decode cX1_emptyPosts 0 = .ok (.iconst 0, 1) := dk_3 (dk_at dksX1_emptyPosts_0 0 rfl rfl)
theorem dX1_emptyPosts_1 : decode cX1_emptyPosts 1 = .ok (.istore_n 2, 1) := dk_61 (dk_at dksX1_emptyPosts_0 1 rfl rfl)
theorem dX1_emptyPosts_2 : decode cX1_emptyPosts 2 = .ok (.iconst 0, 1) := dk_3 (dk_at dksX1_emptyPosts_0 2 rfl rfl)
theorem dX1_emptyPosts_3 : decode cX1_emptyPosts 3 = .ok (.istore_n 3, 1) := dk_62 (dk_at dksX1_emptyPosts_0 3 rfl rfl)
theorem dX1_emptyPosts_4 : decode cX1_emptyPosts 4 = .ok (.iload_n 3, 1) := dk_29 (dk_at dksX1_emptyPosts_0 4 rfl rfl)
theorem dX1_emptyPosts_5 : decode cX1_emptyPosts 5 = .ok (.aload_n 0, 1) := dk_42 (dk_at dksX1_emptyPosts_0 5 rfl rfl)
theorem dX1_emptyPosts_6 : decode cX1_emptyPosts 6 = .ok (.getfield 45, 3) := dk_180 0 45 (dk_at dksX1_emptyPosts_0 6 rfl rfl)
theorem dX1_emptyPosts_9 : decode cX1_emptyPosts 9 = .ok (.invokevirtual 98, 3) := dk_182 0 98 (dk_at dksX1_emptyPosts_0 9 rfl rfl)
theorem dX1_emptyPosts_12 : decode cX1_emptyPosts 12 = .ok (.if_icmp .ge 39, 3) := dk_162 0 39 (dk_at dksX1_emptyPosts_0 12 rfl rfl)
theorem dX1_emptyPosts_15 : decode cX1_emptyPosts 15 = .ok (.iload_n 2, 1) := dk_28 (dk_at dksX1_emptyPosts_0 15 rfl rfl)
theorem dX1_emptyPosts_16 : decode cX1_emptyPosts 16 = .ok (.aload_n 0, 1) := dk_42 (dk_at dksX1_emptyPosts_0 16 rfl rfl)
theorem dX1_emptyPosts_17 : decode cX1_emptyPosts 17 = .ok (.aload_n 0, 1) := dk_42 (dk_at dksX1_emptyPosts_0 17 rfl rfl)
theorem dX1_emptyPosts_18 : decode cX1_emptyPosts 18 = .ok (.getfield 45, 3) := dk_180 0 45 (dk_at dksX1_emptyPosts_0 18 rfl rfl)
theorem dX1_emptyPosts_21 : decode cX1_emptyPosts 21 = .ok (.iload_n 3, 1) := dk_29 (dk_at dksX1_emptyPosts_0 21 rfl rfl)
theorem dX1_emptyPosts_22 : decode cX1_emptyPosts 22 = .ok (.invokevirtual 99, 3) := dk_182 0 99 (dk_at dksX1_emptyPosts_1 0 rfl rfl)
theorem dX1_emptyPosts_25 : decode cX1_emptyPosts 25 = .ok (.checkcast 173, 3) := dk_192 0 173 (dk_at dksX1_emptyPosts_1 3 rfl rfl)
theorem dX1_emptyPosts_28 : decode cX1_emptyPosts 28 = .ok (.invokevirtual 175, 3) := dk_182 0 175 (dk_at dksX1_emptyPosts_1 6 rfl rfl)
theorem dX1_emptyPosts_31 : decode cX1_emptyPosts 31 = .ok (.iload_n 1, 1) := dk_27 (dk_at dksX1_emptyPosts_1 9 rfl rfl)
theorem dX1_emptyPosts_32 : decode cX1_emptyPosts 32 = .ok (.invokevirtual 284, 3) := dk_182 1 28 (dk_at dksX1_emptyPosts_1 10 rfl rfl)
theorem dX1_emptyPosts_35 : decode cX1_emptyPosts 35 = .ok (.ifCond .ne 7, 3) := dk_154 0 7 (dk_at dksX1_emptyPosts_1 13 rfl rfl)
theorem dX1_emptyPosts_38 : decode cX1_emptyPosts 38 = .ok (.iconst 1, 1) := dk_4 (dk_at dksX1_emptyPosts_1 16 rfl rfl)
theorem dX1_emptyPosts_39 : decode cX1_emptyPosts 39 = .ok (.goto 4, 3) := dk_167 0 4 (dk_at dksX1_emptyPosts_1 17 rfl rfl)
theorem dX1_emptyPosts_42 : decode cX1_emptyPosts 42 = .ok (.iconst 0, 1) := dk_3 (dk_at dksX1_emptyPosts_1 20 rfl rfl)
theorem dX1_emptyPosts_43 : decode cX1_emptyPosts 43 = .ok (.iadd, 1) := dk_96 (dk_at dksX1_emptyPosts_1 21 rfl rfl)
theorem dX1_emptyPosts_44 : decode cX1_emptyPosts 44 = .ok (.istore_n 2, 1) := dk_61 (dk_at dksX1_emptyPosts_1 22 rfl rfl)
theorem dX1_emptyPosts_45 : decode cX1_emptyPosts 45 = .ok (.iinc 3 1, 3) := dk_132 3 1 (dk_at dksX1_emptyPosts_2 0 rfl rfl)
theorem dX1_emptyPosts_48 : decode cX1_emptyPosts 48 = .ok (.goto (-44), 3) := dk_167 255 212 (dk_at dksX1_emptyPosts_2 3 rfl rfl)
theorem dX1_emptyPosts_51 : decode cX1_emptyPosts 51 = .ok (.iload_n 2, 1) := dk_28 (dk_at dksX1_emptyPosts_2 6 rfl rfl)
theorem dX1_emptyPosts_52 : decode cX1_emptyPosts 52 = .ok (.ireturn, 1) := dk_172 (dk_at dksX1_emptyPosts_2 7 rfl rfl)
abbrev cX1_guardsOn : ByteArray := prog_1_method_34_code
def yX1_guardsOn : MethodName := ⟨RX1, "guardsOn", "(II)I"⟩
def dkwX1_guardsOn_2 : List UInt8 := [132, 4, 1, 167, 255, 210, 29, 172]
abbrev dktX1_guardsOn_2 : List UInt8 := dkwX1_guardsOn_2 ++ []
def dkwX1_guardsOn_1 : List UInt8 := [182, 0, 99, 192, 0, 102, 28, 182, 0, 246, 27, 160, 0, 10, 4, 21, 4, 120, 167, 0, 4, 3, 128, 62]
abbrev dktX1_guardsOn_1 : List UInt8 := dkwX1_guardsOn_1 ++ dktX1_guardsOn_2
def dkwX1_guardsOn_0 : List UInt8 := [3, 62, 3, 54, 4, 21, 4, 42, 180, 0, 42, 182, 0, 98, 162, 0, 40, 29, 42, 180, 0, 42, 21, 4]
abbrev dktX1_guardsOn_0 : List UInt8 := dkwX1_guardsOn_0 ++ dktX1_guardsOn_1
theorem dksX1_guardsOn_0 : cX1_guardsOn.data.toList.drop 0 = dktX1_guardsOn_0 := by decide +kernel
theorem dksX1_guardsOn_1 : cX1_guardsOn.data.toList.drop 24 = dktX1_guardsOn_1 := dk_seg dksX1_guardsOn_0 24 rfl rfl
theorem dksX1_guardsOn_2 : cX1_guardsOn.data.toList.drop 48 = dktX1_guardsOn_2 := dk_seg dksX1_guardsOn_1 24 rfl rfl
theorem dX1_guardsOn_0 : decode cX1_guardsOn 0 = .ok (.iconst 0, 1) := dk_3 (dk_at dksX1_guardsOn_0 0 rfl rfl)
theorem dX1_guardsOn_1 : decode cX1_guardsOn 1 = .ok (.istore_n 3, 1) := dk_62 (dk_at dksX1_guardsOn_0 1 rfl rfl)
theorem dX1_guardsOn_2 : decode cX1_guardsOn 2 = .ok (.iconst 0, 1) := dk_3 (dk_at dksX1_guardsOn_0 2 rfl rfl)
theorem dX1_guardsOn_3 : decode cX1_guardsOn 3 = .ok (.istore 4, 2) := dk_54 4 (dk_at dksX1_guardsOn_0 3 rfl rfl)
theorem dX1_guardsOn_5 : decode cX1_guardsOn 5 = .ok (.iload 4, 2) := dk_21 4 (dk_at dksX1_guardsOn_0 5 rfl rfl)
theorem dX1_guardsOn_7 : decode cX1_guardsOn 7 = .ok (.aload_n 0, 1) := dk_42 (dk_at dksX1_guardsOn_0 7 rfl rfl)
theorem dX1_guardsOn_8 : decode cX1_guardsOn 8 = .ok (.getfield 42, 3) := dk_180 0 42 (dk_at dksX1_guardsOn_0 8 rfl rfl)
theorem dX1_guardsOn_11 : decode cX1_guardsOn 11 = .ok (.invokevirtual 98, 3) := dk_182 0 98 (dk_at dksX1_guardsOn_0 11 rfl rfl)
theorem dX1_guardsOn_14 : decode cX1_guardsOn 14 = .ok (.if_icmp .ge 40, 3) := dk_162 0 40 (dk_at dksX1_guardsOn_0 14 rfl rfl)
theorem dX1_guardsOn_17 : decode cX1_guardsOn 17 = .ok (.iload_n 3, 1) := dk_29 (dk_at dksX1_guardsOn_0 17 rfl rfl)
theorem dX1_guardsOn_18 : decode cX1_guardsOn 18 = .ok (.aload_n 0, 1) := dk_42 (dk_at dksX1_guardsOn_0 18 rfl rfl)
theorem dX1_guardsOn_19 : decode cX1_guardsOn 19 = .ok (.getfield 42, 3) := dk_180 0 42 (dk_at dksX1_guardsOn_0 19 rfl rfl)
theorem dX1_guardsOn_22 : decode cX1_guardsOn 22 = .ok (.iload 4, 2) := dk_21 4 (dk_at dksX1_guardsOn_0 22 rfl rfl)
theorem dX1_guardsOn_24 : decode cX1_guardsOn 24 = .ok (.invokevirtual 99, 3) := dk_182 0 99 (dk_at dksX1_guardsOn_1 0 rfl rfl)
theorem dX1_guardsOn_27 : decode cX1_guardsOn 27 = .ok (.checkcast 102, 3) := dk_192 0 102 (dk_at dksX1_guardsOn_1 3 rfl rfl)
theorem dX1_guardsOn_30 : decode cX1_guardsOn 30 = .ok (.iload_n 2, 1) := dk_28 (dk_at dksX1_guardsOn_1 6 rfl rfl)
theorem dX1_guardsOn_31 : decode cX1_guardsOn 31 = .ok (.invokevirtual 246, 3) := dk_182 0 246 (dk_at dksX1_guardsOn_1 7 rfl rfl)
theorem dX1_guardsOn_34 : decode cX1_guardsOn 34 = .ok (.iload_n 1, 1) := dk_27 (dk_at dksX1_guardsOn_1 10 rfl rfl)
theorem dX1_guardsOn_35 : decode cX1_guardsOn 35 = .ok (.if_icmp .ne 10, 3) := dk_160 0 10 (dk_at dksX1_guardsOn_1 11 rfl rfl)
theorem dX1_guardsOn_38 : decode cX1_guardsOn 38 = .ok (.iconst 1, 1) := dk_4 (dk_at dksX1_guardsOn_1 14 rfl rfl)
theorem dX1_guardsOn_39 : decode cX1_guardsOn 39 = .ok (.iload 4, 2) := dk_21 4 (dk_at dksX1_guardsOn_1 15 rfl rfl)
theorem dX1_guardsOn_41 : decode cX1_guardsOn 41 = .ok (.ishl, 1) := dk_120 (dk_at dksX1_guardsOn_1 17 rfl rfl)
theorem dX1_guardsOn_42 : decode cX1_guardsOn 42 = .ok (.goto 4, 3) := dk_167 0 4 (dk_at dksX1_guardsOn_1 18 rfl rfl)
theorem dX1_guardsOn_45 : decode cX1_guardsOn 45 = .ok (.iconst 0, 1) := dk_3 (dk_at dksX1_guardsOn_1 21 rfl rfl)
theorem dX1_guardsOn_46 : decode cX1_guardsOn 46 = .ok (.ior, 1) := dk_128 (dk_at dksX1_guardsOn_1 22 rfl rfl)
theorem dX1_guardsOn_47 : decode cX1_guardsOn 47 = .ok (.istore_n 3, 1) := dk_62 (dk_at dksX1_guardsOn_1 23 rfl rfl)
theorem dX1_guardsOn_48 : decode cX1_guardsOn 48 = .ok (.iinc 4 1, 3) := dk_132 4 1 (dk_at dksX1_guardsOn_2 0 rfl rfl)
theorem dX1_guardsOn_51 : decode cX1_guardsOn 51 = .ok (.goto (-46), 3) := dk_167 255 210 (dk_at dksX1_guardsOn_2 3 rfl rfl)
theorem dX1_guardsOn_54 : decode cX1_guardsOn 54 = .ok (.iload_n 3, 1) := dk_29 (dk_at dksX1_guardsOn_2 6 rfl rfl)
theorem dX1_guardsOn_55 : decode cX1_guardsOn 55 = .ok (.ireturn, 1) := dk_172 (dk_at dksX1_guardsOn_2 7 rfl rfl)
abbrev cX1_add : ByteArray := prog_1_method_85_code
def yX1_add : MethodName := ⟨RX1, "add", "(J)J"⟩
def dkwX1_add_0 : List UInt8 := [42, 42, 180, 1, 237, 20, 1, 241, 105, 31, 97, 93, 181, 1, 237, 66, 33, 173]
abbrev dktX1_add_0 : List UInt8 := dkwX1_add_0 ++ []
theorem dksX1_add_0 : cX1_add.data.toList.drop 0 = dktX1_add_0 := by decide +kernel
theorem dX1_add_0 : decode cX1_add 0 = .ok (.aload_n 0, 1) := dk_42 (dk_at dksX1_add_0 0 rfl rfl)
theorem dX1_add_1 : decode cX1_add 1 = .ok (.aload_n 0, 1) := dk_42 (dk_at dksX1_add_0 1 rfl rfl)
theorem dX1_add_2 : decode cX1_add 2 = .ok (.getfield 493, 3) := dk_180 1 237 (dk_at dksX1_add_0 2 rfl rfl)
theorem dX1_add_5 : decode cX1_add 5 = .ok (.ldc2_w 497, 3) := dk_20 1 241 (dk_at dksX1_add_0 5 rfl rfl)
theorem dX1_add_8 : decode cX1_add 8 = .ok (.lmul, 1) := dk_105 (dk_at dksX1_add_0 8 rfl rfl)
theorem dX1_add_9 : decode cX1_add 9 = .ok (.lload_n 1, 1) := dk_31 (dk_at dksX1_add_0 9 rfl rfl)
theorem dX1_add_10 : decode cX1_add 10 = .ok (.ladd, 1) := dk_97 (dk_at dksX1_add_0 10 rfl rfl)
theorem dX1_add_11 : decode cX1_add 11 = .ok (.dup2_x1, 1) := dk_93 (dk_at dksX1_add_0 11 rfl rfl)
theorem dX1_add_12 : decode cX1_add 12 = .ok (.putfield 493, 3) := dk_181 1 237 (dk_at dksX1_add_0 12 rfl rfl)
theorem dX1_add_15 : decode cX1_add 15 = .ok (.lstore_n 3, 1) := dk_66 (dk_at dksX1_add_0 15 rfl rfl)
theorem dX1_add_16 : decode cX1_add 16 = .ok (.lload_n 3, 1) := dk_33 (dk_at dksX1_add_0 16 rfl rfl)
theorem dX1_add_17 : decode cX1_add 17 = .ok (.lreturn, 1) := dk_173 (dk_at dksX1_add_0 17 rfl rfl)
abbrev cX1_ofMinuteNow : ByteArray := prog_1_method_42_code
def yX1_ofMinuteNow : MethodName := ⟨RX1, "ofMinuteNow", "(II)I"⟩
def dkwX1_ofMinuteNow_3 : List UInt8 := [182, 1, 47, 172, 42, 27, 182, 1, 51, 172, 42, 182, 0, 210, 172, 42, 27, 182, 1, 54, 172]
abbrev dktX1_ofMinuteNow_3 : List UInt8 := dkwX1_ofMinuteNow_3 ++ []
def dkwX1_ofMinuteNow_2 : List UInt8 := [42, 27, 182, 1, 14, 172, 42, 27, 182, 1, 44, 172, 42, 27, 3, 182, 1, 47, 172, 42, 27, 4]
abbrev dktX1_ofMinuteNow_2 : List UInt8 := dkwX1_ofMinuteNow_2 ++ dktX1_ofMinuteNow_3
def dkwX1_ofMinuteNow_1 : List UInt8 := [170, 0, 0, 0, 0, 0, 76, 0, 0, 0, 0, 0, 0, 0, 5, 0, 0, 0, 39, 0, 0, 0, 45, 0, 0, 0, 51, 0, 0, 0, 58, 0, 0, 0, 65, 0, 0, 0, 71]
abbrev dktX1_ofMinuteNow_1 : List UInt8 := dkwX1_ofMinuteNow_1 ++ dktX1_ofMinuteNow_2
def dkwX1_ofMinuteNow_0 : List UInt8 := [28]
abbrev dktX1_ofMinuteNow_0 : List UInt8 := dkwX1_ofMinuteNow_0 ++ dktX1_ofMinuteNow_1
theorem dksX1_ofMinuteNow_0 : cX1_ofMinuteNow.data.toList.drop 0 = dktX1_ofMinuteNow_0 := by decide +kernel
theorem dksX1_ofMinuteNow_1 : cX1_ofMinuteNow.data.toList.drop 1 = dktX1_ofMinuteNow_1 := dk_seg dksX1_ofMinuteNow_0 1 rfl rfl
theorem dksX1_ofMinuteNow_2 : cX1_ofMinuteNow.data.toList.drop 40 = dktX1_ofMinuteNow_2 := dk_seg dksX1_ofMinuteNow_1 39 rfl rfl
theorem dksX1_ofMinuteNow_3 : cX1_ofMinuteNow.data.toList.drop 62 = dktX1_ofMinuteNow_3 := dk_seg dksX1_ofMinuteNow_2 22 rfl rfl
theorem dX1_ofMinuteNow_0 : decode cX1_ofMinuteNow 0 = .ok (.iload_n 2, 1) := dk_28 (dk_at dksX1_ofMinuteNow_0 0 rfl rfl)
theorem dX1_ofMinuteNow_1 : decode cX1_ofMinuteNow 1 = .ok (.tableswitch 76 0 5 #[39, 45, 51, 58, 65, 71], 39) := by decide +kernel
theorem dX1_ofMinuteNow_40 : decode cX1_ofMinuteNow 40 = .ok (.aload_n 0, 1) := dk_42 (dk_at dksX1_ofMinuteNow_2 0 rfl rfl)
theorem dX1_ofMinuteNow_41 : decode cX1_ofMinuteNow 41 = .ok (.iload_n 1, 1) := dk_27 (dk_at dksX1_ofMinuteNow_2 1 rfl rfl)
theorem dX1_ofMinuteNow_42 : decode cX1_ofMinuteNow 42 = .ok (.invokevirtual 270, 3) := dk_182 1 14 (dk_at dksX1_ofMinuteNow_2 2 rfl rfl)
theorem dX1_ofMinuteNow_45 : decode cX1_ofMinuteNow 45 = .ok (.ireturn, 1) := dk_172 (dk_at dksX1_ofMinuteNow_2 5 rfl rfl)
theorem dX1_ofMinuteNow_46 : decode cX1_ofMinuteNow 46 = .ok (.aload_n 0, 1) := dk_42 (dk_at dksX1_ofMinuteNow_2 6 rfl rfl)
theorem dX1_ofMinuteNow_47 : decode cX1_ofMinuteNow 47 = .ok (.iload_n 1, 1) := dk_27 (dk_at dksX1_ofMinuteNow_2 7 rfl rfl)
theorem dX1_ofMinuteNow_48 : decode cX1_ofMinuteNow 48 = .ok (.invokevirtual 300, 3) := dk_182 1 44 (dk_at dksX1_ofMinuteNow_2 8 rfl rfl)
theorem dX1_ofMinuteNow_51 : decode cX1_ofMinuteNow 51 = .ok (.ireturn, 1) := dk_172 (dk_at dksX1_ofMinuteNow_2 11 rfl rfl)
theorem dX1_ofMinuteNow_52 : decode cX1_ofMinuteNow 52 = .ok (.aload_n 0, 1) := dk_42 (dk_at dksX1_ofMinuteNow_2 12 rfl rfl)
theorem dX1_ofMinuteNow_53 : decode cX1_ofMinuteNow 53 = .ok (.iload_n 1, 1) := dk_27 (dk_at dksX1_ofMinuteNow_2 13 rfl rfl)
theorem dX1_ofMinuteNow_54 : decode cX1_ofMinuteNow 54 = .ok (.iconst 0, 1) := dk_3 (dk_at dksX1_ofMinuteNow_2 14 rfl rfl)
theorem dX1_ofMinuteNow_55 : decode cX1_ofMinuteNow 55 = .ok (.invokevirtual 303, 3) := dk_182 1 47 (dk_at dksX1_ofMinuteNow_2 15 rfl rfl)
theorem dX1_ofMinuteNow_58 : decode cX1_ofMinuteNow 58 = .ok (.ireturn, 1) := dk_172 (dk_at dksX1_ofMinuteNow_2 18 rfl rfl)
theorem dX1_ofMinuteNow_59 : decode cX1_ofMinuteNow 59 = .ok (.aload_n 0, 1) := dk_42 (dk_at dksX1_ofMinuteNow_2 19 rfl rfl)
theorem dX1_ofMinuteNow_60 : decode cX1_ofMinuteNow 60 = .ok (.iload_n 1, 1) := dk_27 (dk_at dksX1_ofMinuteNow_2 20 rfl rfl)
theorem dX1_ofMinuteNow_61 : decode cX1_ofMinuteNow 61 = .ok (.iconst 1, 1) := dk_4 (dk_at dksX1_ofMinuteNow_2 21 rfl rfl)
theorem dX1_ofMinuteNow_62 : decode cX1_ofMinuteNow 62 = .ok (.invokevirtual 303, 3) := dk_182 1 47 (dk_at dksX1_ofMinuteNow_3 0 rfl rfl)
theorem dX1_ofMinuteNow_65 : decode cX1_ofMinuteNow 65 = .ok (.ireturn, 1) := dk_172 (dk_at dksX1_ofMinuteNow_3 3 rfl rfl)
theorem dX1_ofMinuteNow_66 : decode cX1_ofMinuteNow 66 = .ok (.aload_n 0, 1) := dk_42 (dk_at dksX1_ofMinuteNow_3 4 rfl rfl)
theorem dX1_ofMinuteNow_67 : decode cX1_ofMinuteNow 67 = .ok (.iload_n 1, 1) := dk_27 (dk_at dksX1_ofMinuteNow_3 5 rfl rfl)
theorem dX1_ofMinuteNow_68 : decode cX1_ofMinuteNow 68 = .ok (.invokevirtual 307, 3) := dk_182 1 51 (dk_at dksX1_ofMinuteNow_3 6 rfl rfl)
theorem dX1_ofMinuteNow_71 : decode cX1_ofMinuteNow 71 = .ok (.ireturn, 1) := dk_172 (dk_at dksX1_ofMinuteNow_3 9 rfl rfl)
theorem dX1_ofMinuteNow_72 : decode cX1_ofMinuteNow 72 = .ok (.aload_n 0, 1) := dk_42 (dk_at dksX1_ofMinuteNow_3 10 rfl rfl)
theorem dX1_ofMinuteNow_73 : decode cX1_ofMinuteNow 73 = .ok (.invokevirtual 210, 3) := dk_182 0 210 (dk_at dksX1_ofMinuteNow_3 11 rfl rfl)
theorem dX1_ofMinuteNow_76 : decode cX1_ofMinuteNow 76 = .ok (.ireturn, 1) := dk_172 (dk_at dksX1_ofMinuteNow_3 14 rfl rfl)
theorem dX1_ofMinuteNow_77 : decode cX1_ofMinuteNow 77 = .ok (.aload_n 0, 1) := dk_42 (dk_at dksX1_ofMinuteNow_3 15 rfl rfl)
theorem dX1_ofMinuteNow_78 : decode cX1_ofMinuteNow 78 = .ok (.iload_n 1, 1) := dk_27 (dk_at dksX1_ofMinuteNow_3 16 rfl rfl)
theorem dX1_ofMinuteNow_79 : decode cX1_ofMinuteNow 79 = .ok (.invokevirtual 310, 3) := dk_182 1 54 (dk_at dksX1_ofMinuteNow_3 17 rfl rfl)
theorem dX1_ofMinuteNow_82 : decode cX1_ofMinuteNow 82 = .ok (.ireturn, 1) := dk_172 (dk_at dksX1_ofMinuteNow_3 20 rfl rfl)
abbrev cX1_blind : ByteArray := prog_1_method_38_code
def yX1_blind : MethodName := ⟨RX1, "blind", "(I)I"⟩
def dkwX1_blind_2 : List UInt8 := [132, 3, 1, 167, 255, 211, 28, 172]
abbrev dktX1_blind_2 : List UInt8 := dkwX1_blind_2 ++ []
def dkwX1_blind_1 : List UInt8 := [182, 0, 198, 154, 0, 16, 42, 29, 27, 182, 1, 38, 154, 0, 7, 4, 167, 0, 4, 3, 96, 61]
abbrev dktX1_blind_1 : List UInt8 := dkwX1_blind_1 ++ dktX1_blind_2
def dkwX1_blind_0 : List UInt8 := [3, 61, 3, 62, 29, 42, 182, 0, 93, 162, 0, 43, 28, 42, 180, 0, 28, 182, 0, 83, 192, 0, 87, 29]
abbrev dktX1_blind_0 : List UInt8 := dkwX1_blind_0 ++ dktX1_blind_1
theorem dksX1_blind_0 : cX1_blind.data.toList.drop 0 = dktX1_blind_0 := by decide +kernel
theorem dksX1_blind_1 : cX1_blind.data.toList.drop 24 = dktX1_blind_1 := dk_seg dksX1_blind_0 24 rfl rfl
theorem dksX1_blind_2 : cX1_blind.data.toList.drop 46 = dktX1_blind_2 := dk_seg dksX1_blind_1 22 rfl rfl
theorem dX1_blind_0 : decode cX1_blind 0 = .ok (.iconst 0, 1) := dk_3 (dk_at dksX1_blind_0 0 rfl rfl)
theorem dX1_blind_1 : decode cX1_blind 1 = .ok (.istore_n 2, 1) := dk_61 (dk_at dksX1_blind_0 1 rfl rfl)
theorem dX1_blind_2 : decode cX1_blind 2 = .ok (.iconst 0, 1) := dk_3 (dk_at dksX1_blind_0 2 rfl rfl)
theorem dX1_blind_3 : decode cX1_blind 3 = .ok (.istore_n 3, 1) := dk_62 (dk_at dksX1_blind_0 3 rfl rfl)
theorem dX1_blind_4 : decode cX1_blind 4 = .ok (.iload_n 3, 1) := dk_29 (dk_at dksX1_blind_0 4 rfl rfl)
theorem dX1_blind_5 : decode cX1_blind 5 = .ok (.aload_n 0, 1) := dk_42 (dk_at dksX1_blind_0 5 rfl rfl)
theorem dX1_blind_6 : decode cX1_blind 6 = .ok (.invokevirtual 93, 3) := dk_182 0 93 (dk_at dksX1_blind_0 6 rfl rfl)
theorem dX1_blind_9 : decode cX1_blind 9 = .ok (.if_icmp .ge 43, 3) := dk_162 0 43 (dk_at dksX1_blind_0 9 rfl rfl)
theorem dX1_blind_12 : decode cX1_blind 12 = .ok (.iload_n 2, 1) := dk_28 (dk_at dksX1_blind_0 12 rfl rfl)
theorem dX1_blind_13 : decode cX1_blind 13 = .ok (.aload_n 0, 1) := dk_42 (dk_at dksX1_blind_0 13 rfl rfl)
theorem dX1_blind_14 : decode cX1_blind 14 = .ok (.getfield 28, 3) := dk_180 0 28 (dk_at dksX1_blind_0 14 rfl rfl)
theorem dX1_blind_17 : decode cX1_blind 17 = .ok (.invokevirtual 83, 3) := dk_182 0 83 (dk_at dksX1_blind_0 17 rfl rfl)
theorem dX1_blind_20 : decode cX1_blind 20 = .ok (.checkcast 87, 3) := dk_192 0 87 (dk_at dksX1_blind_0 20 rfl rfl)
theorem dX1_blind_23 : decode cX1_blind 23 = .ok (.iload_n 3, 1) := dk_29 (dk_at dksX1_blind_0 23 rfl rfl)
theorem dX1_blind_24 : decode cX1_blind 24 = .ok (.invokevirtual 198, 3) := dk_182 0 198 (dk_at dksX1_blind_1 0 rfl rfl)
theorem dX1_blind_27 : decode cX1_blind 27 = .ok (.ifCond .ne 16, 3) := dk_154 0 16 (dk_at dksX1_blind_1 3 rfl rfl)
theorem dX1_blind_30 : decode cX1_blind 30 = .ok (.aload_n 0, 1) := dk_42 (dk_at dksX1_blind_1 6 rfl rfl)
theorem dX1_blind_31 : decode cX1_blind 31 = .ok (.iload_n 3, 1) := dk_29 (dk_at dksX1_blind_1 7 rfl rfl)
theorem dX1_blind_32 : decode cX1_blind 32 = .ok (.iload_n 1, 1) := dk_27 (dk_at dksX1_blind_1 8 rfl rfl)
theorem dX1_blind_33 : decode cX1_blind 33 = .ok (.invokevirtual 294, 3) := dk_182 1 38 (dk_at dksX1_blind_1 9 rfl rfl)
theorem dX1_blind_36 : decode cX1_blind 36 = .ok (.ifCond .ne 7, 3) := dk_154 0 7 (dk_at dksX1_blind_1 12 rfl rfl)
theorem dX1_blind_39 : decode cX1_blind 39 = .ok (.iconst 1, 1) := dk_4 (dk_at dksX1_blind_1 15 rfl rfl)
theorem dX1_blind_40 : decode cX1_blind 40 = .ok (.goto 4, 3) := dk_167 0 4 (dk_at dksX1_blind_1 16 rfl rfl)
theorem dX1_blind_43 : decode cX1_blind 43 = .ok (.iconst 0, 1) := dk_3 (dk_at dksX1_blind_1 19 rfl rfl)
theorem dX1_blind_44 : decode cX1_blind 44 = .ok (.iadd, 1) := dk_96 (dk_at dksX1_blind_1 20 rfl rfl)
theorem dX1_blind_45 : decode cX1_blind 45 = .ok (.istore_n 2, 1) := dk_61 (dk_at dksX1_blind_1 21 rfl rfl)
theorem dX1_blind_46 : decode cX1_blind 46 = .ok (.iinc 3 1, 3) := dk_132 3 1 (dk_at dksX1_blind_2 0 rfl rfl)
theorem dX1_blind_49 : decode cX1_blind 49 = .ok (.goto (-45), 3) := dk_167 255 211 (dk_at dksX1_blind_2 3 rfl rfl)
theorem dX1_blind_52 : decode cX1_blind 52 = .ok (.iload_n 2, 1) := dk_28 (dk_at dksX1_blind_2 6 rfl rfl)
theorem dX1_blind_53 : decode cX1_blind 53 = .ok (.ireturn, 1) := dk_172 (dk_at dksX1_blind_2 7 rfl rfl)
abbrev cX1_onDuty : ByteArray := prog_1_method_39_code
def yX1_onDuty : MethodName := ⟨RX1, "onDuty", "(IZ)I"⟩
def dkwX1_onDuty_3 : List UInt8 := [167, 0, 4, 3, 96, 62, 132, 4, 1, 167, 255, 183, 29, 172]
abbrev dktX1_onDuty_3 : List UInt8 := dkwX1_onDuty_3 ++ []
def dkwX1_onDuty_2 : List UInt8 := [167, 0, 27, 42, 180, 0, 42, 21, 4, 182, 0, 99, 192, 0, 102, 27, 182, 1, 41, 153, 0, 7, 4]
abbrev dktX1_onDuty_2 : List UInt8 := dkwX1_onDuty_2 ++ dktX1_onDuty_3
def dkwX1_onDuty_1 : List UInt8 := [180, 0, 42, 21, 4, 182, 0, 99, 192, 0, 102, 27, 182, 0, 250, 153, 0, 7, 4, 167, 0, 31, 3]
abbrev dktX1_onDuty_1 : List UInt8 := dkwX1_onDuty_1 ++ dktX1_onDuty_2
def dkwX1_onDuty_0 : List UInt8 := [3, 62, 3, 54, 4, 21, 4, 42, 180, 0, 42, 182, 0, 98, 162, 0, 67, 29, 28, 153, 0, 30, 42]
abbrev dktX1_onDuty_0 : List UInt8 := dkwX1_onDuty_0 ++ dktX1_onDuty_1
theorem dksX1_onDuty_0 : cX1_onDuty.data.toList.drop 0 = dktX1_onDuty_0 := by decide +kernel
theorem dksX1_onDuty_1 : cX1_onDuty.data.toList.drop 23 = dktX1_onDuty_1 := dk_seg dksX1_onDuty_0 23 rfl rfl
theorem dksX1_onDuty_2 : cX1_onDuty.data.toList.drop 46 = dktX1_onDuty_2 := dk_seg dksX1_onDuty_1 23 rfl rfl
theorem dksX1_onDuty_3 : cX1_onDuty.data.toList.drop 69 = dktX1_onDuty_3 := dk_seg dksX1_onDuty_2 23 rfl rfl
theorem dX1_onDuty_0 : decode cX1_onDuty 0 = .ok (.iconst 0, 1) := dk_3 (dk_at dksX1_onDuty_0 0 rfl rfl)
theorem dX1_onDuty_1 : decode cX1_onDuty 1 = .ok (.istore_n 3, 1) := dk_62 (dk_at dksX1_onDuty_0 1 rfl rfl)
theorem dX1_onDuty_2 : decode cX1_onDuty 2 = .ok (.iconst 0, 1) := dk_3 (dk_at dksX1_onDuty_0 2 rfl rfl)
theorem dX1_onDuty_3 : decode cX1_onDuty 3 = .ok (.istore 4, 2) := dk_54 4 (dk_at dksX1_onDuty_0 3 rfl rfl)
theorem dX1_onDuty_5 : decode cX1_onDuty 5 = .ok (.iload 4, 2) := dk_21 4 (dk_at dksX1_onDuty_0 5 rfl rfl)
theorem dX1_onDuty_7 : decode cX1_onDuty 7 = .ok (.aload_n 0, 1) := dk_42 (dk_at dksX1_onDuty_0 7 rfl rfl)
theorem dX1_onDuty_8 : decode cX1_onDuty 8 = .ok (.getfield 42, 3) := dk_180 0 42 (dk_at dksX1_onDuty_0 8 rfl rfl)
theorem dX1_onDuty_11 : decode cX1_onDuty 11 = .ok (.invokevirtual 98, 3) := dk_182 0 98 (dk_at dksX1_onDuty_0 11 rfl rfl)
theorem dX1_onDuty_14 : decode cX1_onDuty 14 = .ok (.if_icmp .ge 67, 3) := dk_162 0 67 (dk_at dksX1_onDuty_0 14 rfl rfl)
theorem dX1_onDuty_17 : decode cX1_onDuty 17 = .ok (.iload_n 3, 1) := dk_29 (dk_at dksX1_onDuty_0 17 rfl rfl)
theorem dX1_onDuty_18 : decode cX1_onDuty 18 = .ok (.iload_n 2, 1) := dk_28 (dk_at dksX1_onDuty_0 18 rfl rfl)
theorem dX1_onDuty_19 : decode cX1_onDuty 19 = .ok (.ifCond .eq 30, 3) := dk_153 0 30 (dk_at dksX1_onDuty_0 19 rfl rfl)
theorem dX1_onDuty_22 : decode cX1_onDuty 22 = .ok (.aload_n 0, 1) := dk_42 (dk_at dksX1_onDuty_0 22 rfl rfl)
theorem dX1_onDuty_23 : decode cX1_onDuty 23 = .ok (.getfield 42, 3) := dk_180 0 42 (dk_at dksX1_onDuty_1 0 rfl rfl)
theorem dX1_onDuty_26 : decode cX1_onDuty 26 = .ok (.iload 4, 2) := dk_21 4 (dk_at dksX1_onDuty_1 3 rfl rfl)
theorem dX1_onDuty_28 : decode cX1_onDuty 28 = .ok (.invokevirtual 99, 3) := dk_182 0 99 (dk_at dksX1_onDuty_1 5 rfl rfl)
theorem dX1_onDuty_31 : decode cX1_onDuty 31 = .ok (.checkcast 102, 3) := dk_192 0 102 (dk_at dksX1_onDuty_1 8 rfl rfl)
theorem dX1_onDuty_34 : decode cX1_onDuty 34 = .ok (.iload_n 1, 1) := dk_27 (dk_at dksX1_onDuty_1 11 rfl rfl)
theorem dX1_onDuty_35 : decode cX1_onDuty 35 = .ok (.invokevirtual 250, 3) := dk_182 0 250 (dk_at dksX1_onDuty_1 12 rfl rfl)
theorem dX1_onDuty_38 : decode cX1_onDuty 38 = .ok (.ifCond .eq 7, 3) := dk_153 0 7 (dk_at dksX1_onDuty_1 15 rfl rfl)
theorem dX1_onDuty_41 : decode cX1_onDuty 41 = .ok (.iconst 1, 1) := dk_4 (dk_at dksX1_onDuty_1 18 rfl rfl)
theorem dX1_onDuty_42 : decode cX1_onDuty 42 = .ok (.goto 31, 3) := dk_167 0 31 (dk_at dksX1_onDuty_1 19 rfl rfl)
theorem dX1_onDuty_45 : decode cX1_onDuty 45 = .ok (.iconst 0, 1) := dk_3 (dk_at dksX1_onDuty_1 22 rfl rfl)
theorem dX1_onDuty_46 : decode cX1_onDuty 46 = .ok (.goto 27, 3) := dk_167 0 27 (dk_at dksX1_onDuty_2 0 rfl rfl)
theorem dX1_onDuty_49 : decode cX1_onDuty 49 = .ok (.aload_n 0, 1) := dk_42 (dk_at dksX1_onDuty_2 3 rfl rfl)
theorem dX1_onDuty_50 : decode cX1_onDuty 50 = .ok (.getfield 42, 3) := dk_180 0 42 (dk_at dksX1_onDuty_2 4 rfl rfl)
theorem dX1_onDuty_53 : decode cX1_onDuty 53 = .ok (.iload 4, 2) := dk_21 4 (dk_at dksX1_onDuty_2 7 rfl rfl)
theorem dX1_onDuty_55 : decode cX1_onDuty 55 = .ok (.invokevirtual 99, 3) := dk_182 0 99 (dk_at dksX1_onDuty_2 9 rfl rfl)
theorem dX1_onDuty_58 : decode cX1_onDuty 58 = .ok (.checkcast 102, 3) := dk_192 0 102 (dk_at dksX1_onDuty_2 12 rfl rfl)
theorem dX1_onDuty_61 : decode cX1_onDuty 61 = .ok (.iload_n 1, 1) := dk_27 (dk_at dksX1_onDuty_2 15 rfl rfl)
theorem dX1_onDuty_62 : decode cX1_onDuty 62 = .ok (.invokevirtual 297, 3) := dk_182 1 41 (dk_at dksX1_onDuty_2 16 rfl rfl)
theorem dX1_onDuty_65 : decode cX1_onDuty 65 = .ok (.ifCond .eq 7, 3) := dk_153 0 7 (dk_at dksX1_onDuty_2 19 rfl rfl)
theorem dX1_onDuty_68 : decode cX1_onDuty 68 = .ok (.iconst 1, 1) := dk_4 (dk_at dksX1_onDuty_2 22 rfl rfl)
theorem dX1_onDuty_69 : decode cX1_onDuty 69 = .ok (.goto 4, 3) := dk_167 0 4 (dk_at dksX1_onDuty_3 0 rfl rfl)
theorem dX1_onDuty_72 : decode cX1_onDuty 72 = .ok (.iconst 0, 1) := dk_3 (dk_at dksX1_onDuty_3 3 rfl rfl)
theorem dX1_onDuty_73 : decode cX1_onDuty 73 = .ok (.iadd, 1) := dk_96 (dk_at dksX1_onDuty_3 4 rfl rfl)
theorem dX1_onDuty_74 : decode cX1_onDuty 74 = .ok (.istore_n 3, 1) := dk_62 (dk_at dksX1_onDuty_3 5 rfl rfl)
theorem dX1_onDuty_75 : decode cX1_onDuty 75 = .ok (.iinc 4 1, 3) := dk_132 4 1 (dk_at dksX1_onDuty_3 6 rfl rfl)
theorem dX1_onDuty_78 : decode cX1_onDuty 78 = .ok (.goto (-73), 3) := dk_167 255 183 (dk_at dksX1_onDuty_3 9 rfl rfl)
theorem dX1_onDuty_81 : decode cX1_onDuty 81 = .ok (.iload_n 3, 1) := dk_29 (dk_at dksX1_onDuty_3 12 rfl rfl)
theorem dX1_onDuty_82 : decode cX1_onDuty 82 = .ok (.ireturn, 1) := dk_172 (dk_at dksX1_onDuty_3 13 rfl rfl)
abbrev cX1_bright : ByteArray := prog_1_method_23_code
def yX1_bright : MethodName := ⟨RX1, "bright", "()I"⟩
def dkwX1_bright_1 : List UInt8 := [167, 0, 4, 3, 96, 60, 132, 2, 1, 167, 255, 229, 27, 172]
abbrev dktX1_bright_1 : List UInt8 := dkwX1_bright_1 ++ []
def dkwX1_bright_0 : List UInt8 := [3, 60, 3, 61, 28, 42, 182, 0, 93, 162, 0, 25, 27, 42, 28, 182, 0, 226, 153, 0, 7, 4]
abbrev dktX1_bright_0 : List UInt8 := dkwX1_bright_0 ++ dktX1_bright_1
theorem dksX1_bright_0 : cX1_bright.data.toList.drop 0 = dktX1_bright_0 := by decide +kernel
theorem dksX1_bright_1 : cX1_bright.data.toList.drop 22 = dktX1_bright_1 := dk_seg dksX1_bright_0 22 rfl rfl
theorem dX1_bright_0 : decode cX1_bright 0 = .ok (.iconst 0, 1) := dk_3 (dk_at dksX1_bright_0 0 rfl rfl)
theorem dX1_bright_1 : decode cX1_bright 1 = .ok (.istore_n 1, 1) := dk_60 (dk_at dksX1_bright_0 1 rfl rfl)
theorem dX1_bright_2 : decode cX1_bright 2 = .ok (.iconst 0, 1) := dk_3 (dk_at dksX1_bright_0 2 rfl rfl)
theorem dX1_bright_3 : decode cX1_bright 3 = .ok (.istore_n 2, 1) := dk_61 (dk_at dksX1_bright_0 3 rfl rfl)
theorem dX1_bright_4 : decode cX1_bright 4 = .ok (.iload_n 2, 1) := dk_28 (dk_at dksX1_bright_0 4 rfl rfl)
theorem dX1_bright_5 : decode cX1_bright 5 = .ok (.aload_n 0, 1) := dk_42 (dk_at dksX1_bright_0 5 rfl rfl)
theorem dX1_bright_6 : decode cX1_bright 6 = .ok (.invokevirtual 93, 3) := dk_182 0 93 (dk_at dksX1_bright_0 6 rfl rfl)
theorem dX1_bright_9 : decode cX1_bright 9 = .ok (.if_icmp .ge 25, 3) := dk_162 0 25 (dk_at dksX1_bright_0 9 rfl rfl)
theorem dX1_bright_12 : decode cX1_bright 12 = .ok (.iload_n 1, 1) := dk_27 (dk_at dksX1_bright_0 12 rfl rfl)
theorem dX1_bright_13 : decode cX1_bright 13 = .ok (.aload_n 0, 1) := dk_42 (dk_at dksX1_bright_0 13 rfl rfl)
theorem dX1_bright_14 : decode cX1_bright 14 = .ok (.iload_n 2, 1) := dk_28 (dk_at dksX1_bright_0 14 rfl rfl)
theorem dX1_bright_15 : decode cX1_bright 15 = .ok (.invokevirtual 226, 3) := dk_182 0 226 (dk_at dksX1_bright_0 15 rfl rfl)
theorem dX1_bright_18 : decode cX1_bright 18 = .ok (.ifCond .eq 7, 3) := dk_153 0 7 (dk_at dksX1_bright_0 18 rfl rfl)
theorem dX1_bright_21 : decode cX1_bright 21 = .ok (.iconst 1, 1) := dk_4 (dk_at dksX1_bright_0 21 rfl rfl)
theorem dX1_bright_22 : decode cX1_bright 22 = .ok (.goto 4, 3) := dk_167 0 4 (dk_at dksX1_bright_1 0 rfl rfl)
theorem dX1_bright_25 : decode cX1_bright 25 = .ok (.iconst 0, 1) := dk_3 (dk_at dksX1_bright_1 3 rfl rfl)
theorem dX1_bright_26 : decode cX1_bright 26 = .ok (.iadd, 1) := dk_96 (dk_at dksX1_bright_1 4 rfl rfl)
theorem dX1_bright_27 : decode cX1_bright 27 = .ok (.istore_n 1, 1) := dk_60 (dk_at dksX1_bright_1 5 rfl rfl)
theorem dX1_bright_28 : decode cX1_bright 28 = .ok (.iinc 2 1, 3) := dk_132 2 1 (dk_at dksX1_bright_1 6 rfl rfl)
theorem dX1_bright_31 : decode cX1_bright 31 = .ok (.goto (-27), 3) := dk_167 255 229 (dk_at dksX1_bright_1 9 rfl rfl)
theorem dX1_bright_34 : decode cX1_bright 34 = .ok (.iload_n 1, 1) := dk_27 (dk_at dksX1_bright_1 12 rfl rfl)
theorem dX1_bright_35 : decode cX1_bright 35 = .ok (.ireturn, 1) := dk_172 (dk_at dksX1_bright_1 13 rfl rfl)
abbrev cX1_keysAway : ByteArray := prog_1_method_41_code
def yX1_keysAway : MethodName := ⟨RX1, "keysAway", "(I)I"⟩
def dkwX1_keysAway_2 : List UInt8 := [182, 1, 41, 154, 0, 7, 4, 167, 0, 4, 3, 96, 61, 132, 5, 1, 167, 255, 207, 28, 172]
abbrev dktX1_keysAway_2 : List UInt8 := dkwX1_keysAway_2 ++ []
def dkwX1_keysAway_1 : List UInt8 := [46, 54, 6, 28, 21, 6, 2, 159, 0, 26, 42, 180, 0, 42, 21, 6, 182, 0, 99, 192, 0, 102, 27]
abbrev dktX1_keysAway_1 : List UInt8 := dkwX1_keysAway_1 ++ dktX1_keysAway_2
def dkwX1_keysAway_0 : List UInt8 := [3, 61, 42, 180, 0, 61, 78, 45, 190, 54, 4, 3, 54, 5, 21, 5, 21, 4, 162, 0, 48, 45, 21, 5]
abbrev dktX1_keysAway_0 : List UInt8 := dkwX1_keysAway_0 ++ dktX1_keysAway_1
theorem dksX1_keysAway_0 : cX1_keysAway.data.toList.drop 0 = dktX1_keysAway_0 := by decide +kernel
theorem dksX1_keysAway_1 : cX1_keysAway.data.toList.drop 24 = dktX1_keysAway_1 := dk_seg dksX1_keysAway_0 24 rfl rfl
theorem dksX1_keysAway_2 : cX1_keysAway.data.toList.drop 47 = dktX1_keysAway_2 := dk_seg dksX1_keysAway_1 23 rfl rfl
theorem dX1_keysAway_0 : decode cX1_keysAway 0 = .ok (.iconst 0, 1) := dk_3 (dk_at dksX1_keysAway_0 0 rfl rfl)
theorem dX1_keysAway_1 : decode cX1_keysAway 1 = .ok (.istore_n 2, 1) := dk_61 (dk_at dksX1_keysAway_0 1 rfl rfl)
theorem dX1_keysAway_2 : decode cX1_keysAway 2 = .ok (.aload_n 0, 1) := dk_42 (dk_at dksX1_keysAway_0 2 rfl rfl)
theorem dX1_keysAway_3 : decode cX1_keysAway 3 = .ok (.getfield 61, 3) := dk_180 0 61 (dk_at dksX1_keysAway_0 3 rfl rfl)
theorem dX1_keysAway_6 : decode cX1_keysAway 6 = .ok (.astore_n 3, 1) := dk_78 (dk_at dksX1_keysAway_0 6 rfl rfl)
theorem dX1_keysAway_7 : decode cX1_keysAway 7 = .ok (.aload_n 3, 1) := dk_45 (dk_at dksX1_keysAway_0 7 rfl rfl)
theorem dX1_keysAway_8 : decode cX1_keysAway 8 = .ok (.arraylength, 1) := dk_190 (dk_at dksX1_keysAway_0 8 rfl rfl)
theorem dX1_keysAway_9 : decode cX1_keysAway 9 = .ok (.istore 4, 2) := dk_54 4 (dk_at dksX1_keysAway_0 9 rfl rfl)
theorem dX1_keysAway_11 : decode cX1_keysAway 11 = .ok (.iconst 0, 1) := dk_3 (dk_at dksX1_keysAway_0 11 rfl rfl)
theorem dX1_keysAway_12 : decode cX1_keysAway 12 = .ok (.istore 5, 2) := dk_54 5 (dk_at dksX1_keysAway_0 12 rfl rfl)
theorem dX1_keysAway_14 : decode cX1_keysAway 14 = .ok (.iload 5, 2) := dk_21 5 (dk_at dksX1_keysAway_0 14 rfl rfl)
theorem dX1_keysAway_16 : decode cX1_keysAway 16 = .ok (.iload 4, 2) := dk_21 4 (dk_at dksX1_keysAway_0 16 rfl rfl)
theorem dX1_keysAway_18 : decode cX1_keysAway 18 = .ok (.if_icmp .ge 48, 3) := dk_162 0 48 (dk_at dksX1_keysAway_0 18 rfl rfl)
theorem dX1_keysAway_21 : decode cX1_keysAway 21 = .ok (.aload_n 3, 1) := dk_45 (dk_at dksX1_keysAway_0 21 rfl rfl)
theorem dX1_keysAway_22 : decode cX1_keysAway 22 = .ok (.iload 5, 2) := dk_21 5 (dk_at dksX1_keysAway_0 22 rfl rfl)
theorem dX1_keysAway_24 : decode cX1_keysAway 24 = .ok (.iaload, 1) := dk_46 (dk_at dksX1_keysAway_1 0 rfl rfl)
theorem dX1_keysAway_25 : decode cX1_keysAway 25 = .ok (.istore 6, 2) := dk_54 6 (dk_at dksX1_keysAway_1 1 rfl rfl)
theorem dX1_keysAway_27 : decode cX1_keysAway 27 = .ok (.iload_n 2, 1) := dk_28 (dk_at dksX1_keysAway_1 3 rfl rfl)
theorem dX1_keysAway_28 : decode cX1_keysAway 28 = .ok (.iload 6, 2) := dk_21 6 (dk_at dksX1_keysAway_1 4 rfl rfl)
theorem dX1_keysAway_30 : decode cX1_keysAway 30 = .ok (.iconst (-1), 1) := dk_2 (dk_at dksX1_keysAway_1 6 rfl rfl)
theorem dX1_keysAway_31 : decode cX1_keysAway 31 = .ok (.if_icmp .eq 26, 3) := dk_159 0 26 (dk_at dksX1_keysAway_1 7 rfl rfl)
theorem dX1_keysAway_34 : decode cX1_keysAway 34 = .ok (.aload_n 0, 1) := dk_42 (dk_at dksX1_keysAway_1 10 rfl rfl)
theorem dX1_keysAway_35 : decode cX1_keysAway 35 = .ok (.getfield 42, 3) := dk_180 0 42 (dk_at dksX1_keysAway_1 11 rfl rfl)
theorem dX1_keysAway_38 : decode cX1_keysAway 38 = .ok (.iload 6, 2) := dk_21 6 (dk_at dksX1_keysAway_1 14 rfl rfl)
theorem dX1_keysAway_40 : decode cX1_keysAway 40 = .ok (.invokevirtual 99, 3) := dk_182 0 99 (dk_at dksX1_keysAway_1 16 rfl rfl)
theorem dX1_keysAway_43 : decode cX1_keysAway 43 = .ok (.checkcast 102, 3) := dk_192 0 102 (dk_at dksX1_keysAway_1 19 rfl rfl)
theorem dX1_keysAway_46 : decode cX1_keysAway 46 = .ok (.iload_n 1, 1) := dk_27 (dk_at dksX1_keysAway_1 22 rfl rfl)
theorem dX1_keysAway_47 : decode cX1_keysAway 47 = .ok (.invokevirtual 297, 3) := dk_182 1 41 (dk_at dksX1_keysAway_2 0 rfl rfl)
theorem dX1_keysAway_50 : decode cX1_keysAway 50 = .ok (.ifCond .ne 7, 3) := dk_154 0 7 (dk_at dksX1_keysAway_2 3 rfl rfl)
theorem dX1_keysAway_53 : decode cX1_keysAway 53 = .ok (.iconst 1, 1) := dk_4 (dk_at dksX1_keysAway_2 6 rfl rfl)
theorem dX1_keysAway_54 : decode cX1_keysAway 54 = .ok (.goto 4, 3) := dk_167 0 4 (dk_at dksX1_keysAway_2 7 rfl rfl)
theorem dX1_keysAway_57 : decode cX1_keysAway 57 = .ok (.iconst 0, 1) := dk_3 (dk_at dksX1_keysAway_2 10 rfl rfl)
theorem dX1_keysAway_58 : decode cX1_keysAway 58 = .ok (.iadd, 1) := dk_96 (dk_at dksX1_keysAway_2 11 rfl rfl)
theorem dX1_keysAway_59 : decode cX1_keysAway 59 = .ok (.istore_n 2, 1) := dk_61 (dk_at dksX1_keysAway_2 12 rfl rfl)
theorem dX1_keysAway_60 : decode cX1_keysAway 60 = .ok (.iinc 5 1, 3) := dk_132 5 1 (dk_at dksX1_keysAway_2 13 rfl rfl)
theorem dX1_keysAway_63 : decode cX1_keysAway 63 = .ok (.goto (-49), 3) := dk_167 255 207 (dk_at dksX1_keysAway_2 16 rfl rfl)
theorem dX1_keysAway_66 : decode cX1_keysAway 66 = .ok (.iload_n 2, 1) := dk_28 (dk_at dksX1_keysAway_2 19 rfl rfl)
theorem dX1_keysAway_67 : decode cX1_keysAway 67 = .ok (.ireturn, 1) := dk_172 (dk_at dksX1_keysAway_2 20 rfl rfl)
abbrev cX1_ofCellNow : ByteArray := prog_1_method_36_code
def yX1_ofCellNow : MethodName := ⟨RX1, "ofCellNow", "(III)I"⟩
def dkwX1_ofCellNow_4 : List UInt8 := [27, 28, 182, 1, 31, 153, 0, 7, 4, 167, 0, 4, 3, 172]
abbrev dktX1_ofCellNow_4 : List UInt8 := dkwX1_ofCellNow_4 ++ []
def dkwX1_ofCellNow_3 : List UInt8 := [153, 0, 7, 4, 167, 0, 4, 3, 172, 42, 27, 28, 182, 1, 25, 172, 42, 27, 28, 182, 1, 28, 172, 42]
abbrev dktX1_ofCellNow_3 : List UInt8 := dkwX1_ofCellNow_3 ++ dktX1_ofCellNow_4
def dkwX1_ofCellNow_2 : List UInt8 := [42, 180, 0, 28, 182, 0, 83, 192, 0, 87, 180, 0, 130, 27, 50, 182, 0, 192, 172, 42, 27, 182, 0, 226]
abbrev dktX1_ofCellNow_2 : List UInt8 := dkwX1_ofCellNow_2 ++ dktX1_ofCellNow_3
def dkwX1_ofCellNow_1 : List UInt8 := [170, 0, 0, 0, 0, 0, 78, 0, 0, 0, 0, 0, 0, 0, 3, 0, 0, 0, 31, 0, 0, 0, 50, 0, 0, 0, 64, 0, 0, 0, 71]
abbrev dktX1_ofCellNow_1 : List UInt8 := dkwX1_ofCellNow_1 ++ dktX1_ofCellNow_2
def dkwX1_ofCellNow_0 : List UInt8 := [29]
abbrev dktX1_ofCellNow_0 : List UInt8 := dkwX1_ofCellNow_0 ++ dktX1_ofCellNow_1
theorem dksX1_ofCellNow_0 : cX1_ofCellNow.data.toList.drop 0 = dktX1_ofCellNow_0 := by decide +kernel
theorem dksX1_ofCellNow_1 : cX1_ofCellNow.data.toList.drop 1 = dktX1_ofCellNow_1 := dk_seg dksX1_ofCellNow_0 1 rfl rfl
theorem dksX1_ofCellNow_2 : cX1_ofCellNow.data.toList.drop 32 = dktX1_ofCellNow_2 := dk_seg dksX1_ofCellNow_1 31 rfl rfl
theorem dksX1_ofCellNow_3 : cX1_ofCellNow.data.toList.drop 56 = dktX1_ofCellNow_3 := dk_seg dksX1_ofCellNow_2 24 rfl rfl
theorem dksX1_ofCellNow_4 : cX1_ofCellNow.data.toList.drop 80 = dktX1_ofCellNow_4 := dk_seg dksX1_ofCellNow_3 24 rfl rfl
theorem dX1_ofCellNow_0 : decode cX1_ofCellNow 0 = .ok (.iload_n 3, 1) := dk_29 (dk_at dksX1_ofCellNow_0 0 rfl rfl)
theorem dX1_ofCellNow_1 : decode cX1_ofCellNow 1 = .ok (.tableswitch 78 0 3 #[31, 50, 64, 71], 31) := by decide +kernel
theorem dX1_ofCellNow_32 : decode cX1_ofCellNow 32 = .ok (.aload_n 0, 1) := dk_42 (dk_at dksX1_ofCellNow_2 0 rfl rfl)
theorem dX1_ofCellNow_33 : decode cX1_ofCellNow 33 = .ok (.getfield 28, 3) := dk_180 0 28 (dk_at dksX1_ofCellNow_2 1 rfl rfl)
theorem dX1_ofCellNow_36 : decode cX1_ofCellNow 36 = .ok (.invokevirtual 83, 3) := dk_182 0 83 (dk_at dksX1_ofCellNow_2 4 rfl rfl)
theorem dX1_ofCellNow_39 : decode cX1_ofCellNow 39 = .ok (.checkcast 87, 3) := dk_192 0 87 (dk_at dksX1_ofCellNow_2 7 rfl rfl)
theorem dX1_ofCellNow_42 : decode cX1_ofCellNow 42 = .ok (.getfield 130, 3) := dk_180 0 130 (dk_at dksX1_ofCellNow_2 10 rfl rfl)
theorem dX1_ofCellNow_45 : decode cX1_ofCellNow 45 = .ok (.iload_n 1, 1) := dk_27 (dk_at dksX1_ofCellNow_2 13 rfl rfl)
theorem dX1_ofCellNow_46 : decode cX1_ofCellNow 46 = .ok (.aaload, 1) := dk_50 (dk_at dksX1_ofCellNow_2 14 rfl rfl)
theorem dX1_ofCellNow_47 : decode cX1_ofCellNow 47 = .ok (.invokevirtual 192, 3) := dk_182 0 192 (dk_at dksX1_ofCellNow_2 15 rfl rfl)
theorem dX1_ofCellNow_50 : decode cX1_ofCellNow 50 = .ok (.ireturn, 1) := dk_172 (dk_at dksX1_ofCellNow_2 18 rfl rfl)
theorem dX1_ofCellNow_51 : decode cX1_ofCellNow 51 = .ok (.aload_n 0, 1) := dk_42 (dk_at dksX1_ofCellNow_2 19 rfl rfl)
theorem dX1_ofCellNow_52 : decode cX1_ofCellNow 52 = .ok (.iload_n 1, 1) := dk_27 (dk_at dksX1_ofCellNow_2 20 rfl rfl)
theorem dX1_ofCellNow_53 : decode cX1_ofCellNow 53 = .ok (.invokevirtual 226, 3) := dk_182 0 226 (dk_at dksX1_ofCellNow_2 21 rfl rfl)
theorem dX1_ofCellNow_56 : decode cX1_ofCellNow 56 = .ok (.ifCond .eq 7, 3) := dk_153 0 7 (dk_at dksX1_ofCellNow_3 0 rfl rfl)
theorem dX1_ofCellNow_59 : decode cX1_ofCellNow 59 = .ok (.iconst 1, 1) := dk_4 (dk_at dksX1_ofCellNow_3 3 rfl rfl)
theorem dX1_ofCellNow_60 : decode cX1_ofCellNow 60 = .ok (.goto 4, 3) := dk_167 0 4 (dk_at dksX1_ofCellNow_3 4 rfl rfl)
theorem dX1_ofCellNow_63 : decode cX1_ofCellNow 63 = .ok (.iconst 0, 1) := dk_3 (dk_at dksX1_ofCellNow_3 7 rfl rfl)
theorem dX1_ofCellNow_64 : decode cX1_ofCellNow 64 = .ok (.ireturn, 1) := dk_172 (dk_at dksX1_ofCellNow_3 8 rfl rfl)
theorem dX1_ofCellNow_65 : decode cX1_ofCellNow 65 = .ok (.aload_n 0, 1) := dk_42 (dk_at dksX1_ofCellNow_3 9 rfl rfl)
theorem dX1_ofCellNow_66 : decode cX1_ofCellNow 66 = .ok (.iload_n 1, 1) := dk_27 (dk_at dksX1_ofCellNow_3 10 rfl rfl)
theorem dX1_ofCellNow_67 : decode cX1_ofCellNow 67 = .ok (.iload_n 2, 1) := dk_28 (dk_at dksX1_ofCellNow_3 11 rfl rfl)
theorem dX1_ofCellNow_68 : decode cX1_ofCellNow 68 = .ok (.invokevirtual 281, 3) := dk_182 1 25 (dk_at dksX1_ofCellNow_3 12 rfl rfl)
theorem dX1_ofCellNow_71 : decode cX1_ofCellNow 71 = .ok (.ireturn, 1) := dk_172 (dk_at dksX1_ofCellNow_3 15 rfl rfl)
theorem dX1_ofCellNow_72 : decode cX1_ofCellNow 72 = .ok (.aload_n 0, 1) := dk_42 (dk_at dksX1_ofCellNow_3 16 rfl rfl)
theorem dX1_ofCellNow_73 : decode cX1_ofCellNow 73 = .ok (.iload_n 1, 1) := dk_27 (dk_at dksX1_ofCellNow_3 17 rfl rfl)
theorem dX1_ofCellNow_74 : decode cX1_ofCellNow 74 = .ok (.iload_n 2, 1) := dk_28 (dk_at dksX1_ofCellNow_3 18 rfl rfl)
theorem dX1_ofCellNow_75 : decode cX1_ofCellNow 75 = .ok (.invokevirtual 284, 3) := dk_182 1 28 (dk_at dksX1_ofCellNow_3 19 rfl rfl)
theorem dX1_ofCellNow_78 : decode cX1_ofCellNow 78 = .ok (.ireturn, 1) := dk_172 (dk_at dksX1_ofCellNow_3 22 rfl rfl)
theorem dX1_ofCellNow_79 : decode cX1_ofCellNow 79 = .ok (.aload_n 0, 1) := dk_42 (dk_at dksX1_ofCellNow_3 23 rfl rfl)
theorem dX1_ofCellNow_80 : decode cX1_ofCellNow 80 = .ok (.iload_n 1, 1) := dk_27 (dk_at dksX1_ofCellNow_4 0 rfl rfl)
theorem dX1_ofCellNow_81 : decode cX1_ofCellNow 81 = .ok (.iload_n 2, 1) := dk_28 (dk_at dksX1_ofCellNow_4 1 rfl rfl)
theorem dX1_ofCellNow_82 : decode cX1_ofCellNow 82 = .ok (.invokevirtual 287, 3) := dk_182 1 31 (dk_at dksX1_ofCellNow_4 2 rfl rfl)
theorem dX1_ofCellNow_85 : decode cX1_ofCellNow 85 = .ok (.ifCond .eq 7, 3) := dk_153 0 7 (dk_at dksX1_ofCellNow_4 5 rfl rfl)
theorem dX1_ofCellNow_88 : decode cX1_ofCellNow 88 = .ok (.iconst 1, 1) := dk_4 (dk_at dksX1_ofCellNow_4 8 rfl rfl)
theorem dX1_ofCellNow_89 : decode cX1_ofCellNow 89 = .ok (.goto 4, 3) := dk_167 0 4 (dk_at dksX1_ofCellNow_4 9 rfl rfl)
theorem dX1_ofCellNow_92 : decode cX1_ofCellNow 92 = .ok (.iconst 0, 1) := dk_3 (dk_at dksX1_ofCellNow_4 12 rfl rfl)
theorem dX1_ofCellNow_93 : decode cX1_ofCellNow 93 = .ok (.ireturn, 1) := dk_172 (dk_at dksX1_ofCellNow_4 13 rfl rfl)
abbrev cX1_isWalkable : ByteArray := prog_1_method_35_code
def yX1_isWalkable : MethodName := ⟨RX1, "isWalkable", "(II)Z"⟩
def dkwX1_isWalkable_2 : List UInt8 := [167, 0, 4, 3, 172]
abbrev dktX1_isWalkable_2 : List UInt8 := dkwX1_isWalkable_2 ++ []
def dkwX1_isWalkable_1 : List UInt8 := [178, 0, 143, 166, 0, 18, 42, 180, 0, 69, 42, 180, 0, 73, 28, 184, 0, 15, 153, 0, 7, 4]
abbrev dktX1_isWalkable_1 : List UInt8 := dkwX1_isWalkable_1 ++ dktX1_isWalkable_2
def dkwX1_isWalkable_0 : List UInt8 := [42, 180, 0, 28, 182, 0, 83, 192, 0, 87, 180, 0, 130, 27, 50, 78, 45, 178, 0, 134, 165, 0, 29, 45]
abbrev dktX1_isWalkable_0 : List UInt8 := dkwX1_isWalkable_0 ++ dktX1_isWalkable_1
theorem dksX1_isWalkable_0 : cX1_isWalkable.data.toList.drop 0 = dktX1_isWalkable_0 := by decide +kernel
theorem dksX1_isWalkable_1 : cX1_isWalkable.data.toList.drop 24 = dktX1_isWalkable_1 := dk_seg dksX1_isWalkable_0 24 rfl rfl
theorem dksX1_isWalkable_2 : cX1_isWalkable.data.toList.drop 46 = dktX1_isWalkable_2 := dk_seg dksX1_isWalkable_1 22 rfl rfl
theorem dX1_isWalkable_0 : decode cX1_isWalkable 0 = .ok (.aload_n 0, 1) := dk_42 (dk_at dksX1_isWalkable_0 0 rfl rfl)
theorem dX1_isWalkable_1 : decode cX1_isWalkable 1 = .ok (.getfield 28, 3) := dk_180 0 28 (dk_at dksX1_isWalkable_0 1 rfl rfl)
theorem dX1_isWalkable_4 : decode cX1_isWalkable 4 = .ok (.invokevirtual 83, 3) := dk_182 0 83 (dk_at dksX1_isWalkable_0 4 rfl rfl)
theorem dX1_isWalkable_7 : decode cX1_isWalkable 7 = .ok (.checkcast 87, 3) := dk_192 0 87 (dk_at dksX1_isWalkable_0 7 rfl rfl)
theorem dX1_isWalkable_10 : decode cX1_isWalkable 10 = .ok (.getfield 130, 3) := dk_180 0 130 (dk_at dksX1_isWalkable_0 10 rfl rfl)
theorem dX1_isWalkable_13 : decode cX1_isWalkable 13 = .ok (.iload_n 1, 1) := dk_27 (dk_at dksX1_isWalkable_0 13 rfl rfl)
theorem dX1_isWalkable_14 : decode cX1_isWalkable 14 = .ok (.aaload, 1) := dk_50 (dk_at dksX1_isWalkable_0 14 rfl rfl)
theorem dX1_isWalkable_15 : decode cX1_isWalkable 15 = .ok (.astore_n 3, 1) := dk_78 (dk_at dksX1_isWalkable_0 15 rfl rfl)
theorem dX1_isWalkable_16 : decode cX1_isWalkable 16 = .ok (.aload_n 3, 1) := dk_45 (dk_at dksX1_isWalkable_0 16 rfl rfl)
theorem dX1_isWalkable_17 : decode cX1_isWalkable 17 = .ok (.getstatic 134, 3) := dk_178 0 134 (dk_at dksX1_isWalkable_0 17 rfl rfl)
theorem dX1_isWalkable_20 : decode cX1_isWalkable 20 = .ok (.if_acmp .eq 29, 3) := dk_165 0 29 (dk_at dksX1_isWalkable_0 20 rfl rfl)
theorem dX1_isWalkable_23 : decode cX1_isWalkable 23 = .ok (.aload_n 3, 1) := dk_45 (dk_at dksX1_isWalkable_0 23 rfl rfl)
theorem dX1_isWalkable_24 : decode cX1_isWalkable 24 = .ok (.getstatic 143, 3) := dk_178 0 143 (dk_at dksX1_isWalkable_1 0 rfl rfl)
theorem dX1_isWalkable_27 : decode cX1_isWalkable 27 = .ok (.if_acmp .ne 18, 3) := dk_166 0 18 (dk_at dksX1_isWalkable_1 3 rfl rfl)
theorem dX1_isWalkable_30 : decode cX1_isWalkable 30 = .ok (.aload_n 0, 1) := dk_42 (dk_at dksX1_isWalkable_1 6 rfl rfl)
theorem dX1_isWalkable_31 : decode cX1_isWalkable 31 = .ok (.getfield 69, 3) := dk_180 0 69 (dk_at dksX1_isWalkable_1 7 rfl rfl)
theorem dX1_isWalkable_34 : decode cX1_isWalkable 34 = .ok (.aload_n 0, 1) := dk_42 (dk_at dksX1_isWalkable_1 10 rfl rfl)
theorem dX1_isWalkable_35 : decode cX1_isWalkable 35 = .ok (.getfield 73, 3) := dk_180 0 73 (dk_at dksX1_isWalkable_1 11 rfl rfl)
theorem dX1_isWalkable_38 : decode cX1_isWalkable 38 = .ok (.iload_n 2, 1) := dk_28 (dk_at dksX1_isWalkable_1 14 rfl rfl)
theorem dX1_isWalkable_39 : decode cX1_isWalkable 39 = .ok (.invokestatic 15, 3) := dk_184 0 15 (dk_at dksX1_isWalkable_1 15 rfl rfl)
theorem dX1_isWalkable_42 : decode cX1_isWalkable 42 = .ok (.ifCond .eq 7, 3) := dk_153 0 7 (dk_at dksX1_isWalkable_1 18 rfl rfl)
theorem dX1_isWalkable_45 : decode cX1_isWalkable 45 = .ok (.iconst 1, 1) := dk_4 (dk_at dksX1_isWalkable_1 21 rfl rfl)
theorem dX1_isWalkable_46 : decode cX1_isWalkable 46 = .ok (.goto 4, 3) := dk_167 0 4 (dk_at dksX1_isWalkable_2 0 rfl rfl)
theorem dX1_isWalkable_49 : decode cX1_isWalkable 49 = .ok (.iconst 0, 1) := dk_3 (dk_at dksX1_isWalkable_2 3 rfl rfl)
theorem dX1_isWalkable_50 : decode cX1_isWalkable 50 = .ok (.ireturn, 1) := dk_172 (dk_at dksX1_isWalkable_2 4 rfl rfl)
abbrev cX1_ofGuardNow : ByteArray := prog_1_method_53_code
def yX1_ofGuardNow : MethodName := ⟨RX1, "ofGuardNow", "(II)I"⟩
def dkwX1_ofGuardNow_4 : List UInt8 := [180, 1, 66, 172, 45, 182, 1, 102, 172]
abbrev dktX1_ofGuardNow_4 : List UInt8 := dkwX1_ofGuardNow_4 ++ []
def dkwX1_ofGuardNow_3 : List UInt8 := [180, 1, 63, 172, 45, 182, 1, 96, 153, 0, 7, 4, 167, 0, 4, 3, 172, 42, 27, 182, 1, 99, 172, 45]
abbrev dktX1_ofGuardNow_3 : List UInt8 := dkwX1_ofGuardNow_3 ++ dktX1_ofGuardNow_4
def dkwX1_ofGuardNow_2 : List UInt8 := [45, 180, 1, 87, 172, 45, 180, 1, 90, 172, 45, 180, 1, 93, 172, 45, 180, 0, 236, 182, 0, 98, 172, 45]
abbrev dktX1_ofGuardNow_2 : List UInt8 := dkwX1_ofGuardNow_2 ++ dktX1_ofGuardNow_3
def dkwX1_ofGuardNow_1 : List UInt8 := [170, 0, 0, 0, 0, 0, 99, 0, 0, 0, 0, 0, 0, 0, 7, 0, 0, 0, 47, 0, 0, 0, 52, 0, 0, 0, 57, 0, 0, 0, 62, 0, 0, 0, 70, 0, 0, 0, 75, 0, 0, 0, 88, 0, 0, 0, 94]
abbrev dktX1_ofGuardNow_1 : List UInt8 := dkwX1_ofGuardNow_1 ++ dktX1_ofGuardNow_2
def dkwX1_ofGuardNow_0 : List UInt8 := [42, 180, 0, 42, 27, 182, 0, 99, 192, 0, 102, 78, 28]
abbrev dktX1_ofGuardNow_0 : List UInt8 := dkwX1_ofGuardNow_0 ++ dktX1_ofGuardNow_1
theorem dksX1_ofGuardNow_0 : cX1_ofGuardNow.data.toList.drop 0 = dktX1_ofGuardNow_0 := by decide +kernel
theorem dksX1_ofGuardNow_1 : cX1_ofGuardNow.data.toList.drop 13 = dktX1_ofGuardNow_1 := dk_seg dksX1_ofGuardNow_0 13 rfl rfl
theorem dksX1_ofGuardNow_2 : cX1_ofGuardNow.data.toList.drop 60 = dktX1_ofGuardNow_2 := dk_seg dksX1_ofGuardNow_1 47 rfl rfl
theorem dksX1_ofGuardNow_3 : cX1_ofGuardNow.data.toList.drop 84 = dktX1_ofGuardNow_3 := dk_seg dksX1_ofGuardNow_2 24 rfl rfl
theorem dksX1_ofGuardNow_4 : cX1_ofGuardNow.data.toList.drop 108 = dktX1_ofGuardNow_4 := dk_seg dksX1_ofGuardNow_3 24 rfl rfl
theorem dX1_ofGuardNow_0 : decode cX1_ofGuardNow 0 = .ok (.aload_n 0, 1) := dk_42 (dk_at dksX1_ofGuardNow_0 0 rfl rfl)
theorem dX1_ofGuardNow_1 : decode cX1_ofGuardNow 1 = .ok (.getfield 42, 3) := dk_180 0 42 (dk_at dksX1_ofGuardNow_0 1 rfl rfl)
theorem dX1_ofGuardNow_4 : decode cX1_ofGuardNow 4 = .ok (.iload_n 1, 1) := dk_27 (dk_at dksX1_ofGuardNow_0 4 rfl rfl)
theorem dX1_ofGuardNow_5 : decode cX1_ofGuardNow 5 = .ok (.invokevirtual 99, 3) := dk_182 0 99 (dk_at dksX1_ofGuardNow_0 5 rfl rfl)
theorem dX1_ofGuardNow_8 : decode cX1_ofGuardNow 8 = .ok (.checkcast 102, 3) := dk_192 0 102 (dk_at dksX1_ofGuardNow_0 8 rfl rfl)
theorem dX1_ofGuardNow_11 : decode cX1_ofGuardNow 11 = .ok (.astore_n 3, 1) := dk_78 (dk_at dksX1_ofGuardNow_0 11 rfl rfl)
theorem dX1_ofGuardNow_12 : decode cX1_ofGuardNow 12 = .ok (.iload_n 2, 1) := dk_28 (dk_at dksX1_ofGuardNow_0 12 rfl rfl)
theorem dX1_ofGuardNow_13 : decode cX1_ofGuardNow 13 = .ok (.tableswitch 99 0 7 #[47, 52, 57, 62, 70, 75, 88, 94], 47) := by decide +kernel
theorem dX1_ofGuardNow_60 : decode cX1_ofGuardNow 60 = .ok (.aload_n 3, 1) := dk_45 (dk_at dksX1_ofGuardNow_2 0 rfl rfl)
theorem dX1_ofGuardNow_61 : decode cX1_ofGuardNow 61 = .ok (.getfield 343, 3) := dk_180 1 87 (dk_at dksX1_ofGuardNow_2 1 rfl rfl)
theorem dX1_ofGuardNow_64 : decode cX1_ofGuardNow 64 = .ok (.ireturn, 1) := dk_172 (dk_at dksX1_ofGuardNow_2 4 rfl rfl)
theorem dX1_ofGuardNow_65 : decode cX1_ofGuardNow 65 = .ok (.aload_n 3, 1) := dk_45 (dk_at dksX1_ofGuardNow_2 5 rfl rfl)
theorem dX1_ofGuardNow_66 : decode cX1_ofGuardNow 66 = .ok (.getfield 346, 3) := dk_180 1 90 (dk_at dksX1_ofGuardNow_2 6 rfl rfl)
theorem dX1_ofGuardNow_69 : decode cX1_ofGuardNow 69 = .ok (.ireturn, 1) := dk_172 (dk_at dksX1_ofGuardNow_2 9 rfl rfl)
theorem dX1_ofGuardNow_70 : decode cX1_ofGuardNow 70 = .ok (.aload_n 3, 1) := dk_45 (dk_at dksX1_ofGuardNow_2 10 rfl rfl)
theorem dX1_ofGuardNow_71 : decode cX1_ofGuardNow 71 = .ok (.getfield 349, 3) := dk_180 1 93 (dk_at dksX1_ofGuardNow_2 11 rfl rfl)
theorem dX1_ofGuardNow_74 : decode cX1_ofGuardNow 74 = .ok (.ireturn, 1) := dk_172 (dk_at dksX1_ofGuardNow_2 14 rfl rfl)
theorem dX1_ofGuardNow_75 : decode cX1_ofGuardNow 75 = .ok (.aload_n 3, 1) := dk_45 (dk_at dksX1_ofGuardNow_2 15 rfl rfl)
theorem dX1_ofGuardNow_76 : decode cX1_ofGuardNow 76 = .ok (.getfield 236, 3) := dk_180 0 236 (dk_at dksX1_ofGuardNow_2 16 rfl rfl)
theorem dX1_ofGuardNow_79 : decode cX1_ofGuardNow 79 = .ok (.invokevirtual 98, 3) := dk_182 0 98 (dk_at dksX1_ofGuardNow_2 19 rfl rfl)
theorem dX1_ofGuardNow_82 : decode cX1_ofGuardNow 82 = .ok (.ireturn, 1) := dk_172 (dk_at dksX1_ofGuardNow_2 22 rfl rfl)
theorem dX1_ofGuardNow_83 : decode cX1_ofGuardNow 83 = .ok (.aload_n 3, 1) := dk_45 (dk_at dksX1_ofGuardNow_2 23 rfl rfl)
theorem dX1_ofGuardNow_84 : decode cX1_ofGuardNow 84 = .ok (.getfield 319, 3) := dk_180 1 63 (dk_at dksX1_ofGuardNow_3 0 rfl rfl)
theorem dX1_ofGuardNow_87 : decode cX1_ofGuardNow 87 = .ok (.ireturn, 1) := dk_172 (dk_at dksX1_ofGuardNow_3 3 rfl rfl)
theorem dX1_ofGuardNow_88 : decode cX1_ofGuardNow 88 = .ok (.aload_n 3, 1) := dk_45 (dk_at dksX1_ofGuardNow_3 4 rfl rfl)
theorem dX1_ofGuardNow_89 : decode cX1_ofGuardNow 89 = .ok (.invokevirtual 352, 3) := dk_182 1 96 (dk_at dksX1_ofGuardNow_3 5 rfl rfl)
theorem dX1_ofGuardNow_92 : decode cX1_ofGuardNow 92 = .ok (.ifCond .eq 7, 3) := dk_153 0 7 (dk_at dksX1_ofGuardNow_3 8 rfl rfl)
theorem dX1_ofGuardNow_95 : decode cX1_ofGuardNow 95 = .ok (.iconst 1, 1) := dk_4 (dk_at dksX1_ofGuardNow_3 11 rfl rfl)
theorem dX1_ofGuardNow_96 : decode cX1_ofGuardNow 96 = .ok (.goto 4, 3) := dk_167 0 4 (dk_at dksX1_ofGuardNow_3 12 rfl rfl)
theorem dX1_ofGuardNow_99 : decode cX1_ofGuardNow 99 = .ok (.iconst 0, 1) := dk_3 (dk_at dksX1_ofGuardNow_3 15 rfl rfl)
theorem dX1_ofGuardNow_100 : decode cX1_ofGuardNow 100 = .ok (.ireturn, 1) := dk_172 (dk_at dksX1_ofGuardNow_3 16 rfl rfl)
theorem dX1_ofGuardNow_101 : decode cX1_ofGuardNow 101 = .ok (.aload_n 0, 1) := dk_42 (dk_at dksX1_ofGuardNow_3 17 rfl rfl)
theorem dX1_ofGuardNow_102 : decode cX1_ofGuardNow 102 = .ok (.iload_n 1, 1) := dk_27 (dk_at dksX1_ofGuardNow_3 18 rfl rfl)
theorem dX1_ofGuardNow_103 : decode cX1_ofGuardNow 103 = .ok (.invokevirtual 355, 3) := dk_182 1 99 (dk_at dksX1_ofGuardNow_3 19 rfl rfl)
theorem dX1_ofGuardNow_106 : decode cX1_ofGuardNow 106 = .ok (.ireturn, 1) := dk_172 (dk_at dksX1_ofGuardNow_3 22 rfl rfl)
theorem dX1_ofGuardNow_107 : decode cX1_ofGuardNow 107 = .ok (.aload_n 3, 1) := dk_45 (dk_at dksX1_ofGuardNow_3 23 rfl rfl)
theorem dX1_ofGuardNow_108 : decode cX1_ofGuardNow 108 = .ok (.getfield 322, 3) := dk_180 1 66 (dk_at dksX1_ofGuardNow_4 0 rfl rfl)
theorem dX1_ofGuardNow_111 : decode cX1_ofGuardNow 111 = .ok (.ireturn, 1) := dk_172 (dk_at dksX1_ofGuardNow_4 3 rfl rfl)
theorem dX1_ofGuardNow_112 : decode cX1_ofGuardNow 112 = .ok (.aload_n 3, 1) := dk_45 (dk_at dksX1_ofGuardNow_4 4 rfl rfl)
theorem dX1_ofGuardNow_113 : decode cX1_ofGuardNow 113 = .ok (.invokevirtual 358, 3) := dk_182 1 102 (dk_at dksX1_ofGuardNow_4 5 rfl rfl)
theorem dX1_ofGuardNow_116 : decode cX1_ofGuardNow 116 = .ok (.ireturn, 1) := dk_172 (dk_at dksX1_ofGuardNow_4 8 rfl rfl)
abbrev cX1_emptyNow : ByteArray := prog_1_method_44_code
def yX1_emptyNow : MethodName := ⟨RX1, "emptyNow", "(IZ)I"⟩
def dkwX1_emptyNow_2 : List UInt8 := [167, 0, 4, 29, 172]
abbrev dktX1_emptyNow_2 : List UInt8 := dkwX1_emptyNow_2 ++ []
def dkwX1_emptyNow_1 : List UInt8 := [167, 0, 13, 28, 153, 0, 6, 21, 4, 172, 132, 3, 1, 132, 4, 1, 167, 255, 222, 28, 153, 0, 7, 2]
abbrev dktX1_emptyNow_1 : List UInt8 := dkwX1_emptyNow_1 ++ dktX1_emptyNow_2
def dkwX1_emptyNow_0 : List UInt8 := [3, 62, 3, 54, 4, 21, 4, 17, 0, 240, 162, 0, 32, 42, 27, 21, 4, 182, 1, 28, 153, 0, 6]
abbrev dktX1_emptyNow_0 : List UInt8 := dkwX1_emptyNow_0 ++ dktX1_emptyNow_1
theorem dksX1_emptyNow_0 : cX1_emptyNow.data.toList.drop 0 = dktX1_emptyNow_0 := by decide +kernel
theorem dksX1_emptyNow_1 : cX1_emptyNow.data.toList.drop 23 = dktX1_emptyNow_1 := dk_seg dksX1_emptyNow_0 23 rfl rfl
theorem dksX1_emptyNow_2 : cX1_emptyNow.data.toList.drop 47 = dktX1_emptyNow_2 := dk_seg dksX1_emptyNow_1 24 rfl rfl
theorem dX1_emptyNow_0 : decode cX1_emptyNow 0 = .ok (.iconst 0, 1) := dk_3 (dk_at dksX1_emptyNow_0 0 rfl rfl)
theorem dX1_emptyNow_1 : decode cX1_emptyNow 1 = .ok (.istore_n 3, 1) := dk_62 (dk_at dksX1_emptyNow_0 1 rfl rfl)
theorem dX1_emptyNow_2 : decode cX1_emptyNow 2 = .ok (.iconst 0, 1) := dk_3 (dk_at dksX1_emptyNow_0 2 rfl rfl)
theorem dX1_emptyNow_3 : decode cX1_emptyNow 3 = .ok (.istore 4, 2) := dk_54 4 (dk_at dksX1_emptyNow_0 3 rfl rfl)
theorem dX1_emptyNow_5 : decode cX1_emptyNow 5 = .ok (.iload 4, 2) := dk_21 4 (dk_at dksX1_emptyNow_0 5 rfl rfl)
theorem dX1_emptyNow_7 : decode cX1_emptyNow 7 = .ok (.sipush 240, 3) := dk_17 0 240 (dk_at dksX1_emptyNow_0 7 rfl rfl)
theorem dX1_emptyNow_10 : decode cX1_emptyNow 10 = .ok (.if_icmp .ge 32, 3) := dk_162 0 32 (dk_at dksX1_emptyNow_0 10 rfl rfl)
theorem dX1_emptyNow_13 : decode cX1_emptyNow 13 = .ok (.aload_n 0, 1) := dk_42 (dk_at dksX1_emptyNow_0 13 rfl rfl)
theorem dX1_emptyNow_14 : decode cX1_emptyNow 14 = .ok (.iload_n 1, 1) := dk_27 (dk_at dksX1_emptyNow_0 14 rfl rfl)
theorem dX1_emptyNow_15 : decode cX1_emptyNow 15 = .ok (.iload 4, 2) := dk_21 4 (dk_at dksX1_emptyNow_0 15 rfl rfl)
theorem dX1_emptyNow_17 : decode cX1_emptyNow 17 = .ok (.invokevirtual 284, 3) := dk_182 1 28 (dk_at dksX1_emptyNow_0 17 rfl rfl)
theorem dX1_emptyNow_20 : decode cX1_emptyNow 20 = .ok (.ifCond .eq 6, 3) := dk_153 0 6 (dk_at dksX1_emptyNow_0 20 rfl rfl)
theorem dX1_emptyNow_23 : decode cX1_emptyNow 23 = .ok (.goto 13, 3) := dk_167 0 13 (dk_at dksX1_emptyNow_1 0 rfl rfl)
theorem dX1_emptyNow_26 : decode cX1_emptyNow 26 = .ok (.iload_n 2, 1) := dk_28 (dk_at dksX1_emptyNow_1 3 rfl rfl)
theorem dX1_emptyNow_27 : decode cX1_emptyNow 27 = .ok (.ifCond .eq 6, 3) := dk_153 0 6 (dk_at dksX1_emptyNow_1 4 rfl rfl)
theorem dX1_emptyNow_30 : decode cX1_emptyNow 30 = .ok (.iload 4, 2) := dk_21 4 (dk_at dksX1_emptyNow_1 7 rfl rfl)
theorem dX1_emptyNow_32 : decode cX1_emptyNow 32 = .ok (.ireturn, 1) := dk_172 (dk_at dksX1_emptyNow_1 9 rfl rfl)
theorem dX1_emptyNow_33 : decode cX1_emptyNow 33 = .ok (.iinc 3 1, 3) := dk_132 3 1 (dk_at dksX1_emptyNow_1 10 rfl rfl)
theorem dX1_emptyNow_36 : decode cX1_emptyNow 36 = .ok (.iinc 4 1, 3) := dk_132 4 1 (dk_at dksX1_emptyNow_1 13 rfl rfl)
theorem dX1_emptyNow_39 : decode cX1_emptyNow 39 = .ok (.goto (-34), 3) := dk_167 255 222 (dk_at dksX1_emptyNow_1 16 rfl rfl)
theorem dX1_emptyNow_42 : decode cX1_emptyNow 42 = .ok (.iload_n 2, 1) := dk_28 (dk_at dksX1_emptyNow_1 19 rfl rfl)
theorem dX1_emptyNow_43 : decode cX1_emptyNow 43 = .ok (.ifCond .eq 7, 3) := dk_153 0 7 (dk_at dksX1_emptyNow_1 20 rfl rfl)
theorem dX1_emptyNow_46 : decode cX1_emptyNow 46 = .ok (.iconst (-1), 1) := dk_2 (dk_at dksX1_emptyNow_1 23 rfl rfl)
theorem dX1_emptyNow_47 : decode cX1_emptyNow 47 = .ok (.goto 4, 3) := dk_167 0 4 (dk_at dksX1_emptyNow_2 0 rfl rfl)
theorem dX1_emptyNow_50 : decode cX1_emptyNow 50 = .ok (.iload_n 3, 1) := dk_29 (dk_at dksX1_emptyNow_2 3 rfl rfl)
theorem dX1_emptyNow_51 : decode cX1_emptyNow 51 = .ok (.ireturn, 1) := dk_172 (dk_at dksX1_emptyNow_2 4 rfl rfl)
abbrev cX1_ofIntruderNow : ByteArray := prog_1_method_63_code
def yX1_ofIntruderNow : MethodName := ⟨RX1, "ofIntruderNow", "(LNightwatchWall$Intruder;I)I"⟩
def dkwX1_ofIntruderNow_4 : List UInt8 := [42, 43, 3, 182, 1, 145, 172, 42, 43, 4, 182, 1, 145, 172, 43, 180, 1, 149, 172, 43, 180, 1, 152, 172]
abbrev dktX1_ofIntruderNow_4 : List UInt8 := dkwX1_ofIntruderNow_4 ++ []
def dkwX1_ofIntruderNow_3 : List UInt8 := [182, 1, 131, 62, 29, 2, 160, 0, 7, 3, 167, 0, 13, 42, 43, 29, 182, 1, 125, 29, 182, 1, 25, 172]
abbrev dktX1_ofIntruderNow_3 : List UInt8 := dkwX1_ofIntruderNow_3 ++ dktX1_ofIntruderNow_4
def dkwX1_ofIntruderNow_2 : List UInt8 := [43, 180, 1, 126, 172, 43, 180, 1, 139, 172, 43, 182, 1, 142, 172, 42, 43, 182, 1, 131, 172, 42, 43]
abbrev dktX1_ofIntruderNow_2 : List UInt8 := dkwX1_ofIntruderNow_2 ++ dktX1_ofIntruderNow_3
def dkwX1_ofIntruderNow_1 : List UInt8 := [170, 0, 0, 0, 0, 0, 113, 0, 0, 0, 0, 0, 0, 0, 7, 0, 0, 0, 47, 0, 0, 0, 52, 0, 0, 0, 57, 0, 0, 0, 62, 0, 0, 0, 68, 0, 0, 0, 94, 0, 0, 0, 101, 0, 0, 0, 108]
abbrev dktX1_ofIntruderNow_1 : List UInt8 := dkwX1_ofIntruderNow_1 ++ dktX1_ofIntruderNow_2
def dkwX1_ofIntruderNow_0 : List UInt8 := [28]
abbrev dktX1_ofIntruderNow_0 : List UInt8 := dkwX1_ofIntruderNow_0 ++ dktX1_ofIntruderNow_1
theorem dksX1_ofIntruderNow_0 : cX1_ofIntruderNow.data.toList.drop 0 = dktX1_ofIntruderNow_0 := by decide +kernel
theorem dksX1_ofIntruderNow_1 : cX1_ofIntruderNow.data.toList.drop 1 = dktX1_ofIntruderNow_1 := dk_seg dksX1_ofIntruderNow_0 1 rfl rfl
theorem dksX1_ofIntruderNow_2 : cX1_ofIntruderNow.data.toList.drop 48 = dktX1_ofIntruderNow_2 := dk_seg dksX1_ofIntruderNow_1 47 rfl rfl
theorem dksX1_ofIntruderNow_3 : cX1_ofIntruderNow.data.toList.drop 71 = dktX1_ofIntruderNow_3 := dk_seg dksX1_ofIntruderNow_2 23 rfl rfl
theorem dksX1_ofIntruderNow_4 : cX1_ofIntruderNow.data.toList.drop 95 = dktX1_ofIntruderNow_4 := dk_seg dksX1_ofIntruderNow_3 24 rfl rfl
theorem dX1_ofIntruderNow_0 : decode cX1_ofIntruderNow 0 = .ok (.iload_n 2, 1) := dk_28 (dk_at dksX1_ofIntruderNow_0 0 rfl rfl)
theorem dX1_ofIntruderNow_1 : decode cX1_ofIntruderNow 1 = .ok (.tableswitch 113 0 7 #[47, 52, 57, 62, 68, 94, 101, 108], 47) := by decide +kernel
theorem dX1_ofIntruderNow_48 : decode cX1_ofIntruderNow 48 = .ok (.aload_n 1, 1) := dk_43 (dk_at dksX1_ofIntruderNow_2 0 rfl rfl)
theorem dX1_ofIntruderNow_49 : decode cX1_ofIntruderNow 49 = .ok (.getfield 382, 3) := dk_180 1 126 (dk_at dksX1_ofIntruderNow_2 1 rfl rfl)
theorem dX1_ofIntruderNow_52 : decode cX1_ofIntruderNow 52 = .ok (.ireturn, 1) := dk_172 (dk_at dksX1_ofIntruderNow_2 4 rfl rfl)
theorem dX1_ofIntruderNow_53 : decode cX1_ofIntruderNow 53 = .ok (.aload_n 1, 1) := dk_43 (dk_at dksX1_ofIntruderNow_2 5 rfl rfl)
theorem dX1_ofIntruderNow_54 : decode cX1_ofIntruderNow 54 = .ok (.getfield 395, 3) := dk_180 1 139 (dk_at dksX1_ofIntruderNow_2 6 rfl rfl)
theorem dX1_ofIntruderNow_57 : decode cX1_ofIntruderNow 57 = .ok (.ireturn, 1) := dk_172 (dk_at dksX1_ofIntruderNow_2 9 rfl rfl)
theorem dX1_ofIntruderNow_58 : decode cX1_ofIntruderNow 58 = .ok (.aload_n 1, 1) := dk_43 (dk_at dksX1_ofIntruderNow_2 10 rfl rfl)
theorem dX1_ofIntruderNow_59 : decode cX1_ofIntruderNow 59 = .ok (.invokevirtual 398, 3) := dk_182 1 142 (dk_at dksX1_ofIntruderNow_2 11 rfl rfl)
theorem dX1_ofIntruderNow_62 : decode cX1_ofIntruderNow 62 = .ok (.ireturn, 1) := dk_172 (dk_at dksX1_ofIntruderNow_2 14 rfl rfl)
theorem dX1_ofIntruderNow_63 : decode cX1_ofIntruderNow 63 = .ok (.aload_n 0, 1) := dk_42 (dk_at dksX1_ofIntruderNow_2 15 rfl rfl)
theorem dX1_ofIntruderNow_64 : decode cX1_ofIntruderNow 64 = .ok (.aload_n 1, 1) := dk_43 (dk_at dksX1_ofIntruderNow_2 16 rfl rfl)
theorem dX1_ofIntruderNow_65 : decode cX1_ofIntruderNow 65 = .ok (.invokevirtual 387, 3) := dk_182 1 131 (dk_at dksX1_ofIntruderNow_2 17 rfl rfl)
theorem dX1_ofIntruderNow_68 : decode cX1_ofIntruderNow 68 = .ok (.ireturn, 1) := dk_172 (dk_at dksX1_ofIntruderNow_2 20 rfl rfl)
theorem dX1_ofIntruderNow_69 : decode cX1_ofIntruderNow 69 = .ok (.aload_n 0, 1) := dk_42 (dk_at dksX1_ofIntruderNow_2 21 rfl rfl)
theorem dX1_ofIntruderNow_70 : decode cX1_ofIntruderNow 70 = .ok (.aload_n 1, 1) := dk_43 (dk_at dksX1_ofIntruderNow_2 22 rfl rfl)
theorem dX1_ofIntruderNow_71 : decode cX1_ofIntruderNow 71 = .ok (.invokevirtual 387, 3) := dk_182 1 131 (dk_at dksX1_ofIntruderNow_3 0 rfl rfl)
theorem dX1_ofIntruderNow_74 : decode cX1_ofIntruderNow 74 = .ok (.istore_n 3, 1) := dk_62 (dk_at dksX1_ofIntruderNow_3 3 rfl rfl)
theorem dX1_ofIntruderNow_75 : decode cX1_ofIntruderNow 75 = .ok (.iload_n 3, 1) := dk_29 (dk_at dksX1_ofIntruderNow_3 4 rfl rfl)
theorem dX1_ofIntruderNow_76 : decode cX1_ofIntruderNow 76 = .ok (.iconst (-1), 1) := dk_2 (dk_at dksX1_ofIntruderNow_3 5 rfl rfl)
theorem dX1_ofIntruderNow_77 : decode cX1_ofIntruderNow 77 = .ok (.if_icmp .ne 7, 3) := dk_160 0 7 (dk_at dksX1_ofIntruderNow_3 6 rfl rfl)
theorem dX1_ofIntruderNow_80 : decode cX1_ofIntruderNow 80 = .ok (.iconst 0, 1) := dk_3 (dk_at dksX1_ofIntruderNow_3 9 rfl rfl)
theorem dX1_ofIntruderNow_81 : decode cX1_ofIntruderNow 81 = .ok (.goto 13, 3) := dk_167 0 13 (dk_at dksX1_ofIntruderNow_3 10 rfl rfl)
theorem dX1_ofIntruderNow_84 : decode cX1_ofIntruderNow 84 = .ok (.aload_n 0, 1) := dk_42 (dk_at dksX1_ofIntruderNow_3 13 rfl rfl)
theorem dX1_ofIntruderNow_85 : decode cX1_ofIntruderNow 85 = .ok (.aload_n 1, 1) := dk_43 (dk_at dksX1_ofIntruderNow_3 14 rfl rfl)
theorem dX1_ofIntruderNow_86 : decode cX1_ofIntruderNow 86 = .ok (.iload_n 3, 1) := dk_29 (dk_at dksX1_ofIntruderNow_3 15 rfl rfl)
theorem dX1_ofIntruderNow_87 : decode cX1_ofIntruderNow 87 = .ok (.invokevirtual 381, 3) := dk_182 1 125 (dk_at dksX1_ofIntruderNow_3 16 rfl rfl)
theorem dX1_ofIntruderNow_90 : decode cX1_ofIntruderNow 90 = .ok (.iload_n 3, 1) := dk_29 (dk_at dksX1_ofIntruderNow_3 19 rfl rfl)
theorem dX1_ofIntruderNow_91 : decode cX1_ofIntruderNow 91 = .ok (.invokevirtual 281, 3) := dk_182 1 25 (dk_at dksX1_ofIntruderNow_3 20 rfl rfl)
theorem dX1_ofIntruderNow_94 : decode cX1_ofIntruderNow 94 = .ok (.ireturn, 1) := dk_172 (dk_at dksX1_ofIntruderNow_3 23 rfl rfl)
theorem dX1_ofIntruderNow_95 : decode cX1_ofIntruderNow 95 = .ok (.aload_n 0, 1) := dk_42 (dk_at dksX1_ofIntruderNow_4 0 rfl rfl)
theorem dX1_ofIntruderNow_96 : decode cX1_ofIntruderNow 96 = .ok (.aload_n 1, 1) := dk_43 (dk_at dksX1_ofIntruderNow_4 1 rfl rfl)
theorem dX1_ofIntruderNow_97 : decode cX1_ofIntruderNow 97 = .ok (.iconst 0, 1) := dk_3 (dk_at dksX1_ofIntruderNow_4 2 rfl rfl)
theorem dX1_ofIntruderNow_98 : decode cX1_ofIntruderNow 98 = .ok (.invokevirtual 401, 3) := dk_182 1 145 (dk_at dksX1_ofIntruderNow_4 3 rfl rfl)
theorem dX1_ofIntruderNow_101 : decode cX1_ofIntruderNow 101 = .ok (.ireturn, 1) := dk_172 (dk_at dksX1_ofIntruderNow_4 6 rfl rfl)
theorem dX1_ofIntruderNow_102 : decode cX1_ofIntruderNow 102 = .ok (.aload_n 0, 1) := dk_42 (dk_at dksX1_ofIntruderNow_4 7 rfl rfl)
theorem dX1_ofIntruderNow_103 : decode cX1_ofIntruderNow 103 = .ok (.aload_n 1, 1) := dk_43 (dk_at dksX1_ofIntruderNow_4 8 rfl rfl)
theorem dX1_ofIntruderNow_104 : decode cX1_ofIntruderNow 104 = .ok (.iconst 1, 1) := dk_4 (dk_at dksX1_ofIntruderNow_4 9 rfl rfl)
theorem dX1_ofIntruderNow_105 : decode cX1_ofIntruderNow 105 = .ok (.invokevirtual 401, 3) := dk_182 1 145 (dk_at dksX1_ofIntruderNow_4 10 rfl rfl)
theorem dX1_ofIntruderNow_108 : decode cX1_ofIntruderNow 108 = .ok (.ireturn, 1) := dk_172 (dk_at dksX1_ofIntruderNow_4 13 rfl rfl)
theorem dX1_ofIntruderNow_109 : decode cX1_ofIntruderNow 109 = .ok (.aload_n 1, 1) := dk_43 (dk_at dksX1_ofIntruderNow_4 14 rfl rfl)
theorem dX1_ofIntruderNow_110 : decode cX1_ofIntruderNow 110 = .ok (.getfield 405, 3) := dk_180 1 149 (dk_at dksX1_ofIntruderNow_4 15 rfl rfl)
theorem dX1_ofIntruderNow_113 : decode cX1_ofIntruderNow 113 = .ok (.ireturn, 1) := dk_172 (dk_at dksX1_ofIntruderNow_4 18 rfl rfl)
theorem dX1_ofIntruderNow_114 : decode cX1_ofIntruderNow 114 = .ok (.aload_n 1, 1) := dk_43 (dk_at dksX1_ofIntruderNow_4 19 rfl rfl)
theorem dX1_ofIntruderNow_115 : decode cX1_ofIntruderNow 115 = .ok (.getfield 408, 3) := dk_180 1 152 (dk_at dksX1_ofIntruderNow_4 20 rfl rfl)
theorem dX1_ofIntruderNow_118 : decode cX1_ofIntruderNow 118 = .ok (.ireturn, 1) := dk_172 (dk_at dksX1_ofIntruderNow_4 23 rfl rfl)
abbrev cX1_firstResponse : ByteArray := prog_1_method_62_code
def yX1_firstResponse : MethodName := ⟨RX1, "firstResponse", "(LNightwatchWall$Intruder;Z)I"⟩
def dkwX1_firstResponse_4 : List UInt8 := [21, 4, 172]
abbrev dktX1_firstResponse_4 : List UInt8 := dkwX1_firstResponse_4 ++ []
def dkwX1_firstResponse_3 : List UInt8 := [21, 7, 54, 4, 21, 6, 54, 5, 132, 6, 1, 167, 255, 189, 28, 153, 0, 8, 21, 5, 167, 0, 5]
abbrev dktX1_firstResponse_3 : List UInt8 := dkwX1_firstResponse_3 ++ dktX1_firstResponse_4
def dkwX1_firstResponse_2 : List UInt8 := [182, 1, 135, 54, 7, 21, 7, 2, 159, 0, 24, 21, 4, 2, 159, 0, 10, 21, 7, 21, 4, 162, 0, 11]
abbrev dktX1_firstResponse_2 : List UInt8 := dkwX1_firstResponse_2 ++ dktX1_firstResponse_3
def dkwX1_firstResponse_1 : List UInt8 := [162, 0, 61, 29, 2, 159, 0, 56, 42, 42, 180, 0, 42, 21, 6, 182, 0, 99, 192, 0, 102, 43, 29]
abbrev dktX1_firstResponse_1 : List UInt8 := dkwX1_firstResponse_1 ++ dktX1_firstResponse_2
def dkwX1_firstResponse_0 : List UInt8 := [42, 43, 182, 1, 131, 62, 2, 54, 4, 2, 54, 5, 3, 54, 6, 21, 6, 42, 180, 0, 42, 182, 0, 98]
abbrev dktX1_firstResponse_0 : List UInt8 := dkwX1_firstResponse_0 ++ dktX1_firstResponse_1
theorem dksX1_firstResponse_0 : cX1_firstResponse.data.toList.drop 0 = dktX1_firstResponse_0 := by decide +kernel
theorem dksX1_firstResponse_1 : cX1_firstResponse.data.toList.drop 24 = dktX1_firstResponse_1 := dk_seg dksX1_firstResponse_0 24 rfl rfl
theorem dksX1_firstResponse_2 : cX1_firstResponse.data.toList.drop 47 = dktX1_firstResponse_2 := dk_seg dksX1_firstResponse_1 23 rfl rfl
theorem dksX1_firstResponse_3 : cX1_firstResponse.data.toList.drop 71 = dktX1_firstResponse_3 := dk_seg dksX1_firstResponse_2 24 rfl rfl
theorem dksX1_firstResponse_4 : cX1_firstResponse.data.toList.drop 94 = dktX1_firstResponse_4 := dk_seg dksX1_firstResponse_3 23 rfl rfl
theorem dX1_firstResponse_0 : decode cX1_firstResponse 0 = .ok (.aload_n 0, 1) := dk_42 (dk_at dksX1_firstResponse_0 0 rfl rfl)
theorem dX1_firstResponse_1 : decode cX1_firstResponse 1 = .ok (.aload_n 1, 1) := dk_43 (dk_at dksX1_firstResponse_0 1 rfl rfl)
theorem dX1_firstResponse_2 : decode cX1_firstResponse 2 = .ok (.invokevirtual 387, 3) := dk_182 1 131 (dk_at dksX1_firstResponse_0 2 rfl rfl)
theorem dX1_firstResponse_5 : decode cX1_firstResponse 5 = .ok (.istore_n 3, 1) := dk_62 (dk_at dksX1_firstResponse_0 5 rfl rfl)
theorem dX1_firstResponse_6 : decode cX1_firstResponse 6 = .ok (.iconst (-1), 1) := dk_2 (dk_at dksX1_firstResponse_0 6 rfl rfl)
theorem dX1_firstResponse_7 : decode cX1_firstResponse 7 = .ok (.istore 4, 2) := dk_54 4 (dk_at dksX1_firstResponse_0 7 rfl rfl)
theorem dX1_firstResponse_9 : decode cX1_firstResponse 9 = .ok (.iconst (-1), 1) := dk_2 (dk_at dksX1_firstResponse_0 9 rfl rfl)
theorem dX1_firstResponse_10 : decode cX1_firstResponse 10 = .ok (.istore 5, 2) := dk_54 5 (dk_at dksX1_firstResponse_0 10 rfl rfl)
theorem dX1_firstResponse_12 : decode cX1_firstResponse 12 = .ok (.iconst 0, 1) := dk_3 (dk_at dksX1_firstResponse_0 12 rfl rfl)
theorem dX1_firstResponse_13 : decode cX1_firstResponse 13 = .ok (.istore 6, 2) := dk_54 6 (dk_at dksX1_firstResponse_0 13 rfl rfl)
theorem dX1_firstResponse_15 : decode cX1_firstResponse 15 = .ok (.iload 6, 2) := dk_21 6 (dk_at dksX1_firstResponse_0 15 rfl rfl)
theorem dX1_firstResponse_17 : decode cX1_firstResponse 17 = .ok (.aload_n 0, 1) := dk_42 (dk_at dksX1_firstResponse_0 17 rfl rfl)
theorem dX1_firstResponse_18 : decode cX1_firstResponse 18 = .ok (.getfield 42, 3) := dk_180 0 42 (dk_at dksX1_firstResponse_0 18 rfl rfl)
theorem dX1_firstResponse_21 : decode cX1_firstResponse 21 = .ok (.invokevirtual 98, 3) := dk_182 0 98 (dk_at dksX1_firstResponse_0 21 rfl rfl)
theorem dX1_firstResponse_24 : decode cX1_firstResponse 24 = .ok (.if_icmp .ge 61, 3) := dk_162 0 61 (dk_at dksX1_firstResponse_1 0 rfl rfl)
theorem dX1_firstResponse_27 : decode cX1_firstResponse 27 = .ok (.iload_n 3, 1) := dk_29 (dk_at dksX1_firstResponse_1 3 rfl rfl)
theorem dX1_firstResponse_28 : decode cX1_firstResponse 28 = .ok (.iconst (-1), 1) := dk_2 (dk_at dksX1_firstResponse_1 4 rfl rfl)
theorem dX1_firstResponse_29 : decode cX1_firstResponse 29 = .ok (.if_icmp .eq 56, 3) := dk_159 0 56 (dk_at dksX1_firstResponse_1 5 rfl rfl)
theorem dX1_firstResponse_32 : decode cX1_firstResponse 32 = .ok (.aload_n 0, 1) := dk_42 (dk_at dksX1_firstResponse_1 8 rfl rfl)
theorem dX1_firstResponse_33 : decode cX1_firstResponse 33 = .ok (.aload_n 0, 1) := dk_42 (dk_at dksX1_firstResponse_1 9 rfl rfl)
theorem dX1_firstResponse_34 : decode cX1_firstResponse 34 = .ok (.getfield 42, 3) := dk_180 0 42 (dk_at dksX1_firstResponse_1 10 rfl rfl)
theorem dX1_firstResponse_37 : decode cX1_firstResponse 37 = .ok (.iload 6, 2) := dk_21 6 (dk_at dksX1_firstResponse_1 13 rfl rfl)
theorem dX1_firstResponse_39 : decode cX1_firstResponse 39 = .ok (.invokevirtual 99, 3) := dk_182 0 99 (dk_at dksX1_firstResponse_1 15 rfl rfl)
theorem dX1_firstResponse_42 : decode cX1_firstResponse 42 = .ok (.checkcast 102, 3) := dk_192 0 102 (dk_at dksX1_firstResponse_1 18 rfl rfl)
theorem dX1_firstResponse_45 : decode cX1_firstResponse 45 = .ok (.aload_n 1, 1) := dk_43 (dk_at dksX1_firstResponse_1 21 rfl rfl)
theorem dX1_firstResponse_46 : decode cX1_firstResponse 46 = .ok (.iload_n 3, 1) := dk_29 (dk_at dksX1_firstResponse_1 22 rfl rfl)
theorem dX1_firstResponse_47 : decode cX1_firstResponse 47 = .ok (.invokevirtual 391, 3) := dk_182 1 135 (dk_at dksX1_firstResponse_2 0 rfl rfl)
theorem dX1_firstResponse_50 : decode cX1_firstResponse 50 = .ok (.istore 7, 2) := dk_54 7 (dk_at dksX1_firstResponse_2 3 rfl rfl)
theorem dX1_firstResponse_52 : decode cX1_firstResponse 52 = .ok (.iload 7, 2) := dk_21 7 (dk_at dksX1_firstResponse_2 5 rfl rfl)
theorem dX1_firstResponse_54 : decode cX1_firstResponse 54 = .ok (.iconst (-1), 1) := dk_2 (dk_at dksX1_firstResponse_2 7 rfl rfl)
theorem dX1_firstResponse_55 : decode cX1_firstResponse 55 = .ok (.if_icmp .eq 24, 3) := dk_159 0 24 (dk_at dksX1_firstResponse_2 8 rfl rfl)
theorem dX1_firstResponse_58 : decode cX1_firstResponse 58 = .ok (.iload 4, 2) := dk_21 4 (dk_at dksX1_firstResponse_2 11 rfl rfl)
theorem dX1_firstResponse_60 : decode cX1_firstResponse 60 = .ok (.iconst (-1), 1) := dk_2 (dk_at dksX1_firstResponse_2 13 rfl rfl)
theorem dX1_firstResponse_61 : decode cX1_firstResponse 61 = .ok (.if_icmp .eq 10, 3) := dk_159 0 10 (dk_at dksX1_firstResponse_2 14 rfl rfl)
theorem dX1_firstResponse_64 : decode cX1_firstResponse 64 = .ok (.iload 7, 2) := dk_21 7 (dk_at dksX1_firstResponse_2 17 rfl rfl)
theorem dX1_firstResponse_66 : decode cX1_firstResponse 66 = .ok (.iload 4, 2) := dk_21 4 (dk_at dksX1_firstResponse_2 19 rfl rfl)
theorem dX1_firstResponse_68 : decode cX1_firstResponse 68 = .ok (.if_icmp .ge 11, 3) := dk_162 0 11 (dk_at dksX1_firstResponse_2 21 rfl rfl)
theorem dX1_firstResponse_71 : decode cX1_firstResponse 71 = .ok (.iload 7, 2) := dk_21 7 (dk_at dksX1_firstResponse_3 0 rfl rfl)
theorem dX1_firstResponse_73 : decode cX1_firstResponse 73 = .ok (.istore 4, 2) := dk_54 4 (dk_at dksX1_firstResponse_3 2 rfl rfl)
theorem dX1_firstResponse_75 : decode cX1_firstResponse 75 = .ok (.iload 6, 2) := dk_21 6 (dk_at dksX1_firstResponse_3 4 rfl rfl)
theorem dX1_firstResponse_77 : decode cX1_firstResponse 77 = .ok (.istore 5, 2) := dk_54 5 (dk_at dksX1_firstResponse_3 6 rfl rfl)
theorem dX1_firstResponse_79 : decode cX1_firstResponse 79 = .ok (.iinc 6 1, 3) := dk_132 6 1 (dk_at dksX1_firstResponse_3 8 rfl rfl)
theorem dX1_firstResponse_82 : decode cX1_firstResponse 82 = .ok (.goto (-67), 3) := dk_167 255 189 (dk_at dksX1_firstResponse_3 11 rfl rfl)
theorem dX1_firstResponse_85 : decode cX1_firstResponse 85 = .ok (.iload_n 2, 1) := dk_28 (dk_at dksX1_firstResponse_3 14 rfl rfl)
theorem dX1_firstResponse_86 : decode cX1_firstResponse 86 = .ok (.ifCond .eq 8, 3) := dk_153 0 8 (dk_at dksX1_firstResponse_3 15 rfl rfl)
theorem dX1_firstResponse_89 : decode cX1_firstResponse 89 = .ok (.iload 5, 2) := dk_21 5 (dk_at dksX1_firstResponse_3 18 rfl rfl)
theorem dX1_firstResponse_91 : decode cX1_firstResponse 91 = .ok (.goto 5, 3) := dk_167 0 5 (dk_at dksX1_firstResponse_3 20 rfl rfl)
theorem dX1_firstResponse_94 : decode cX1_firstResponse 94 = .ok (.iload 4, 2) := dk_21 4 (dk_at dksX1_firstResponse_4 0 rfl rfl)
theorem dX1_firstResponse_96 : decode cX1_firstResponse 96 = .ok (.ireturn, 1) := dk_172 (dk_at dksX1_firstResponse_4 2 rfl rfl)
abbrev cX1_response : ByteArray := prog_1_method_61_code
def yX1_response : MethodName := ⟨RX1, "response", "(LNightwatchWall$Guard;LNightwatchWall$Intruder;I)I"⟩
def dkwX1_response_2 : List UInt8 := [159, 0, 15, 21, 7, 21, 6, 29, 100, 163, 0, 6, 21, 6, 172, 132, 6, 1, 167, 255, 216, 2, 172]
abbrev dktX1_response_2 : List UInt8 := dkwX1_response_2 ++ []
def dkwX1_response_1 : List UInt8 := [54, 6, 21, 6, 17, 0, 240, 162, 0, 38, 25, 5, 44, 21, 6, 182, 1, 125, 46, 54, 7, 21, 7, 2]
abbrev dktX1_response_1 : List UInt8 := dkwX1_response_1 ++ dktX1_response_2
def dkwX1_response_0 : List UInt8 := [43, 29, 182, 0, 246, 54, 4, 21, 4, 2, 160, 0, 5, 2, 172, 42, 21, 4, 182, 1, 127, 58, 5, 29]
abbrev dktX1_response_0 : List UInt8 := dkwX1_response_0 ++ dktX1_response_1
theorem dksX1_response_0 : cX1_response.data.toList.drop 0 = dktX1_response_0 := by decide +kernel
theorem dksX1_response_1 : cX1_response.data.toList.drop 24 = dktX1_response_1 := dk_seg dksX1_response_0 24 rfl rfl
theorem dksX1_response_2 : cX1_response.data.toList.drop 48 = dktX1_response_2 := dk_seg dksX1_response_1 24 rfl rfl
theorem dX1_response_0 : decode cX1_response 0 = .ok (.aload_n 1, 1) := dk_43 (dk_at dksX1_response_0 0 rfl rfl)
theorem dX1_response_1 : decode cX1_response 1 = .ok (.iload_n 3, 1) := dk_29 (dk_at dksX1_response_0 1 rfl rfl)
theorem dX1_response_2 : decode cX1_response 2 = .ok (.invokevirtual 246, 3) := dk_182 0 246 (dk_at dksX1_response_0 2 rfl rfl)
theorem dX1_response_5 : decode cX1_response 5 = .ok (.istore 4, 2) := dk_54 4 (dk_at dksX1_response_0 5 rfl rfl)
theorem dX1_response_7 : decode cX1_response 7 = .ok (.iload 4, 2) := dk_21 4 (dk_at dksX1_response_0 7 rfl rfl)
theorem dX1_response_9 : decode cX1_response 9 = .ok (.iconst (-1), 1) := dk_2 (dk_at dksX1_response_0 9 rfl rfl)
theorem dX1_response_10 : decode cX1_response 10 = .ok (.if_icmp .ne 5, 3) := dk_160 0 5 (dk_at dksX1_response_0 10 rfl rfl)
theorem dX1_response_13 : decode cX1_response 13 = .ok (.iconst (-1), 1) := dk_2 (dk_at dksX1_response_0 13 rfl rfl)
theorem dX1_response_14 : decode cX1_response 14 = .ok (.ireturn, 1) := dk_172 (dk_at dksX1_response_0 14 rfl rfl)
theorem dX1_response_15 : decode cX1_response 15 = .ok (.aload_n 0, 1) := dk_42 (dk_at dksX1_response_0 15 rfl rfl)
theorem dX1_response_16 : decode cX1_response 16 = .ok (.iload 4, 2) := dk_21 4 (dk_at dksX1_response_0 16 rfl rfl)
theorem dX1_response_18 : decode cX1_response 18 = .ok (.invokevirtual 383, 3) := dk_182 1 127 (dk_at dksX1_response_0 18 rfl rfl)
theorem dX1_response_21 : decode cX1_response 21 = .ok (.astore 5, 2) := dk_58 5 (dk_at dksX1_response_0 21 rfl rfl)
theorem dX1_response_23 : decode cX1_response 23 = .ok (.iload_n 3, 1) := dk_29 (dk_at dksX1_response_0 23 rfl rfl)
theorem dX1_response_24 : decode cX1_response 24 = .ok (.istore 6, 2) := dk_54 6 (dk_at dksX1_response_1 0 rfl rfl)
theorem dX1_response_26 : decode cX1_response 26 = .ok (.iload 6, 2) := dk_21 6 (dk_at dksX1_response_1 2 rfl rfl)
theorem dX1_response_28 : decode cX1_response 28 = .ok (.sipush 240, 3) := dk_17 0 240 (dk_at dksX1_response_1 4 rfl rfl)
theorem dX1_response_31 : decode cX1_response 31 = .ok (.if_icmp .ge 38, 3) := dk_162 0 38 (dk_at dksX1_response_1 7 rfl rfl)
theorem dX1_response_34 : decode cX1_response 34 = .ok (.aload 5, 2) := dk_25 5 (dk_at dksX1_response_1 10 rfl rfl)
theorem dX1_response_36 : decode cX1_response 36 = .ok (.aload_n 2, 1) := dk_44 (dk_at dksX1_response_1 12 rfl rfl)
theorem dX1_response_37 : decode cX1_response 37 = .ok (.iload 6, 2) := dk_21 6 (dk_at dksX1_response_1 13 rfl rfl)
theorem dX1_response_39 : decode cX1_response 39 = .ok (.invokevirtual 381, 3) := dk_182 1 125 (dk_at dksX1_response_1 15 rfl rfl)
theorem dX1_response_42 : decode cX1_response 42 = .ok (.iaload, 1) := dk_46 (dk_at dksX1_response_1 18 rfl rfl)
theorem dX1_response_43 : decode cX1_response 43 = .ok (.istore 7, 2) := dk_54 7 (dk_at dksX1_response_1 19 rfl rfl)
theorem dX1_response_45 : decode cX1_response 45 = .ok (.iload 7, 2) := dk_21 7 (dk_at dksX1_response_1 21 rfl rfl)
theorem dX1_response_47 : decode cX1_response 47 = .ok (.iconst (-1), 1) := dk_2 (dk_at dksX1_response_1 23 rfl rfl)
theorem dX1_response_48 : decode cX1_response 48 = .ok (.if_icmp .eq 15, 3) := dk_159 0 15 (dk_at dksX1_response_2 0 rfl rfl)
theorem dX1_response_51 : decode cX1_response 51 = .ok (.iload 7, 2) := dk_21 7 (dk_at dksX1_response_2 3 rfl rfl)
theorem dX1_response_53 : decode cX1_response 53 = .ok (.iload 6, 2) := dk_21 6 (dk_at dksX1_response_2 5 rfl rfl)
theorem dX1_response_55 : decode cX1_response 55 = .ok (.iload_n 3, 1) := dk_29 (dk_at dksX1_response_2 7 rfl rfl)
theorem dX1_response_56 : decode cX1_response 56 = .ok (.isub, 1) := dk_100 (dk_at dksX1_response_2 8 rfl rfl)
theorem dX1_response_57 : decode cX1_response 57 = .ok (.if_icmp .gt 6, 3) := dk_163 0 6 (dk_at dksX1_response_2 9 rfl rfl)
theorem dX1_response_60 : decode cX1_response 60 = .ok (.iload 6, 2) := dk_21 6 (dk_at dksX1_response_2 12 rfl rfl)
theorem dX1_response_62 : decode cX1_response 62 = .ok (.ireturn, 1) := dk_172 (dk_at dksX1_response_2 14 rfl rfl)
theorem dX1_response_63 : decode cX1_response 63 = .ok (.iinc 6 1, 3) := dk_132 6 1 (dk_at dksX1_response_2 15 rfl rfl)
theorem dX1_response_66 : decode cX1_response 66 = .ok (.goto (-40), 3) := dk_167 255 216 (dk_at dksX1_response_2 18 rfl rfl)
theorem dX1_response_69 : decode cX1_response 69 = .ok (.iconst (-1), 1) := dk_2 (dk_at dksX1_response_2 21 rfl rfl)
theorem dX1_response_70 : decode cX1_response 70 = .ok (.ireturn, 1) := dk_172 (dk_at dksX1_response_2 22 rfl rfl)
abbrev cX1_runs : ByteArray := prog_1_method_60_code
def yX1_runs : MethodName := ⟨RX1, "runs", "(I)[I"⟩
def dkwX1_runs_6 : List UInt8 := [132, 7, 1, 167, 255, 174, 132, 5, 1, 167, 255, 152, 44, 176]
abbrev dktX1_runs_6 : List UInt8 := dkwX1_runs_6 ++ []
def dkwX1_runs_5 : List UInt8 := [167, 0, 22, 44, 21, 8, 44, 21, 6, 46, 4, 96, 79, 45, 21, 4, 21, 8, 79, 132, 4, 1]
abbrev dktX1_runs_5 : List UInt8 := dkwX1_runs_5 ++ dktX1_runs_6
def dkwX1_runs_4 : List UInt8 := [46, 2, 160, 0, 43, 42, 180, 0, 28, 182, 0, 83, 192, 0, 87, 21, 8, 182, 0, 198, 153, 0, 6]
abbrev dktX1_runs_4 : List UInt8 := dkwX1_runs_4 ++ dktX1_runs_5
def dkwX1_runs_3 : List UInt8 := [182, 0, 83, 192, 0, 87, 21, 6, 21, 7, 182, 1, 108, 54, 8, 21, 8, 2, 159, 0, 51, 44, 21, 8]
abbrev dktX1_runs_3 : List UInt8 := dkwX1_runs_3 ++ dktX1_runs_4
def dkwX1_runs_2 : List UInt8 := [21, 4, 162, 0, 103, 45, 21, 5, 46, 54, 6, 4, 54, 7, 21, 7, 7, 163, 0, 82, 42, 180, 0, 28]
abbrev dktX1_runs_2 : List UInt8 := dkwX1_runs_2 ++ dktX1_runs_3
def dkwX1_runs_1 : List UInt8 := [167, 255, 243, 44, 190, 188, 10, 78, 45, 3, 27, 79, 44, 27, 3, 79, 4, 54, 4, 3, 54, 5, 21, 5]
abbrev dktX1_runs_1 : List UInt8 := dkwX1_runs_1 ++ dktX1_runs_2
def dkwX1_runs_0 : List UInt8 := [42, 182, 0, 93, 188, 10, 77, 3, 62, 29, 44, 190, 162, 0, 13, 44, 29, 2, 79, 132, 3, 1]
abbrev dktX1_runs_0 : List UInt8 := dkwX1_runs_0 ++ dktX1_runs_1
theorem dksX1_runs_0 : cX1_runs.data.toList.drop 0 = dktX1_runs_0 := by decide +kernel
theorem dksX1_runs_1 : cX1_runs.data.toList.drop 22 = dktX1_runs_1 := dk_seg dksX1_runs_0 22 rfl rfl
theorem dksX1_runs_2 : cX1_runs.data.toList.drop 46 = dktX1_runs_2 := dk_seg dksX1_runs_1 24 rfl rfl
theorem dksX1_runs_3 : cX1_runs.data.toList.drop 70 = dktX1_runs_3 := dk_seg dksX1_runs_2 24 rfl rfl
theorem dksX1_runs_4 : cX1_runs.data.toList.drop 94 = dktX1_runs_4 := dk_seg dksX1_runs_3 24 rfl rfl
theorem dksX1_runs_5 : cX1_runs.data.toList.drop 117 = dktX1_runs_5 := dk_seg dksX1_runs_4 23 rfl rfl
theorem dksX1_runs_6 : cX1_runs.data.toList.drop 139 = dktX1_runs_6 := dk_seg dksX1_runs_5 22 rfl rfl
theorem dX1_runs_0 : decode cX1_runs 0 = .ok (.aload_n 0, 1) := dk_42 (dk_at dksX1_runs_0 0 rfl rfl)
theorem dX1_runs_1 : decode cX1_runs 1 = .ok (.invokevirtual 93, 3) := dk_182 0 93 (dk_at dksX1_runs_0 1 rfl rfl)
theorem dX1_runs_4 : decode cX1_runs 4 = .ok (.newarray .int, 2) := dk_188_10 (dk_at dksX1_runs_0 4 rfl rfl)
theorem dX1_runs_6 : decode cX1_runs 6 = .ok (.astore_n 2, 1) := dk_77 (dk_at dksX1_runs_0 6 rfl rfl)
theorem dX1_runs_7 : decode cX1_runs 7 = .ok (.iconst 0, 1) := dk_3 (dk_at dksX1_runs_0 7 rfl rfl)
theorem dX1_runs_8 : decode cX1_runs 8 = .ok (.istore_n 3, 1) := dk_62 (dk_at dksX1_runs_0 8 rfl rfl)
theorem dX1_runs_9 : decode cX1_runs 9 = .ok (.iload_n 3, 1) := dk_29 (dk_at dksX1_runs_0 9 rfl rfl)
theorem dX1_runs_10 : decode cX1_runs 10 = .ok (.aload_n 2, 1) := dk_44 (dk_at dksX1_runs_0 10 rfl rfl)
theorem dX1_runs_11 : decode cX1_runs 11 = .ok (.arraylength, 1) := dk_190 (dk_at dksX1_runs_0 11 rfl rfl)
theorem dX1_runs_12 : decode cX1_runs 12 = .ok (.if_icmp .ge 13, 3) := dk_162 0 13 (dk_at dksX1_runs_0 12 rfl rfl)
theorem dX1_runs_15 : decode cX1_runs 15 = .ok (.aload_n 2, 1) := dk_44 (dk_at dksX1_runs_0 15 rfl rfl)
theorem dX1_runs_16 : decode cX1_runs 16 = .ok (.iload_n 3, 1) := dk_29 (dk_at dksX1_runs_0 16 rfl rfl)
theorem dX1_runs_17 : decode cX1_runs 17 = .ok (.iconst (-1), 1) := dk_2 (dk_at dksX1_runs_0 17 rfl rfl)
theorem dX1_runs_18 : decode cX1_runs 18 = .ok (.iastore, 1) := dk_79 (dk_at dksX1_runs_0 18 rfl rfl)
theorem dX1_runs_19 : decode cX1_runs 19 = .ok (.iinc 3 1, 3) := dk_132 3 1 (dk_at dksX1_runs_0 19 rfl rfl)
theorem dX1_runs_22 : decode cX1_runs 22 = .ok (.goto (-13), 3) := dk_167 255 243 (dk_at dksX1_runs_1 0 rfl rfl)
theorem dX1_runs_25 : decode cX1_runs 25 = .ok (.aload_n 2, 1) := dk_44 (dk_at dksX1_runs_1 3 rfl rfl)
theorem dX1_runs_26 : decode cX1_runs 26 = .ok (.arraylength, 1) := dk_190 (dk_at dksX1_runs_1 4 rfl rfl)
theorem dX1_runs_27 : decode cX1_runs 27 = .ok (.newarray .int, 2) := dk_188_10 (dk_at dksX1_runs_1 5 rfl rfl)
theorem dX1_runs_29 : decode cX1_runs 29 = .ok (.astore_n 3, 1) := dk_78 (dk_at dksX1_runs_1 7 rfl rfl)
theorem dX1_runs_30 : decode cX1_runs 30 = .ok (.aload_n 3, 1) := dk_45 (dk_at dksX1_runs_1 8 rfl rfl)
theorem dX1_runs_31 : decode cX1_runs 31 = .ok (.iconst 0, 1) := dk_3 (dk_at dksX1_runs_1 9 rfl rfl)
theorem dX1_runs_32 : decode cX1_runs 32 = .ok (.iload_n 1, 1) := dk_27 (dk_at dksX1_runs_1 10 rfl rfl)
theorem dX1_runs_33 : decode cX1_runs 33 = .ok (.iastore, 1) := dk_79 (dk_at dksX1_runs_1 11 rfl rfl)
theorem dX1_runs_34 : decode cX1_runs 34 = .ok (.aload_n 2, 1) := dk_44 (dk_at dksX1_runs_1 12 rfl rfl)
theorem dX1_runs_35 : decode cX1_runs 35 = .ok (.iload_n 1, 1) := dk_27 (dk_at dksX1_runs_1 13 rfl rfl)
theorem dX1_runs_36 : decode cX1_runs 36 = .ok (.iconst 0, 1) := dk_3 (dk_at dksX1_runs_1 14 rfl rfl)
theorem dX1_runs_37 : decode cX1_runs 37 = .ok (.iastore, 1) := dk_79 (dk_at dksX1_runs_1 15 rfl rfl)
theorem dX1_runs_38 : decode cX1_runs 38 = .ok (.iconst 1, 1) := dk_4 (dk_at dksX1_runs_1 16 rfl rfl)
theorem dX1_runs_39 : decode cX1_runs 39 = .ok (.istore 4, 2) := dk_54 4 (dk_at dksX1_runs_1 17 rfl rfl)
theorem dX1_runs_41 : decode cX1_runs 41 = .ok (.iconst 0, 1) := dk_3 (dk_at dksX1_runs_1 19 rfl rfl)
theorem dX1_runs_42 : decode cX1_runs 42 = .ok (.istore 5, 2) := dk_54 5 (dk_at dksX1_runs_1 20 rfl rfl)
theorem dX1_runs_44 : decode cX1_runs 44 = .ok (.iload 5, 2) := dk_21 5 (dk_at dksX1_runs_1 22 rfl rfl)
theorem dX1_runs_46 : decode cX1_runs 46 = .ok (.iload 4, 2) := dk_21 4 (dk_at dksX1_runs_2 0 rfl rfl)
theorem dX1_runs_48 : decode cX1_runs 48 = .ok (.if_icmp .ge 103, 3) := dk_162 0 103 (dk_at dksX1_runs_2 2 rfl rfl)
theorem dX1_runs_51 : decode cX1_runs 51 = .ok (.aload_n 3, 1) := dk_45 (dk_at dksX1_runs_2 5 rfl rfl)
theorem dX1_runs_52 : decode cX1_runs 52 = .ok (.iload 5, 2) := dk_21 5 (dk_at dksX1_runs_2 6 rfl rfl)
theorem dX1_runs_54 : decode cX1_runs 54 = .ok (.iaload, 1) := dk_46 (dk_at dksX1_runs_2 8 rfl rfl)
theorem dX1_runs_55 : decode cX1_runs 55 = .ok (.istore 6, 2) := dk_54 6 (dk_at dksX1_runs_2 9 rfl rfl)
theorem dX1_runs_57 : decode cX1_runs 57 = .ok (.iconst 1, 1) := dk_4 (dk_at dksX1_runs_2 11 rfl rfl)
theorem dX1_runs_58 : decode cX1_runs 58 = .ok (.istore 7, 2) := dk_54 7 (dk_at dksX1_runs_2 12 rfl rfl)
theorem dX1_runs_60 : decode cX1_runs 60 = .ok (.iload 7, 2) := dk_21 7 (dk_at dksX1_runs_2 14 rfl rfl)
theorem dX1_runs_62 : decode cX1_runs 62 = .ok (.iconst 4, 1) := dk_7 (dk_at dksX1_runs_2 16 rfl rfl)
theorem dX1_runs_63 : decode cX1_runs 63 = .ok (.if_icmp .gt 82, 3) := dk_163 0 82 (dk_at dksX1_runs_2 17 rfl rfl)
theorem dX1_runs_66 : decode cX1_runs 66 = .ok (.aload_n 0, 1) := dk_42 (dk_at dksX1_runs_2 20 rfl rfl)
theorem dX1_runs_67 : decode cX1_runs 67 = .ok (.getfield 28, 3) := dk_180 0 28 (dk_at dksX1_runs_2 21 rfl rfl)
theorem dX1_runs_70 : decode cX1_runs 70 = .ok (.invokevirtual 83, 3) := dk_182 0 83 (dk_at dksX1_runs_3 0 rfl rfl)
theorem dX1_runs_73 : decode cX1_runs 73 = .ok (.checkcast 87, 3) := dk_192 0 87 (dk_at dksX1_runs_3 3 rfl rfl)
theorem dX1_runs_76 : decode cX1_runs 76 = .ok (.iload 6, 2) := dk_21 6 (dk_at dksX1_runs_3 6 rfl rfl)
theorem dX1_runs_78 : decode cX1_runs 78 = .ok (.iload 7, 2) := dk_21 7 (dk_at dksX1_runs_3 8 rfl rfl)
theorem dX1_runs_80 : decode cX1_runs 80 = .ok (.invokevirtual 364, 3) := dk_182 1 108 (dk_at dksX1_runs_3 10 rfl rfl)
theorem dX1_runs_83 : decode cX1_runs 83 = .ok (.istore 8, 2) := dk_54 8 (dk_at dksX1_runs_3 13 rfl rfl)
theorem dX1_runs_85 : decode cX1_runs 85 = .ok (.iload 8, 2) := dk_21 8 (dk_at dksX1_runs_3 15 rfl rfl)
theorem dX1_runs_87 : decode cX1_runs 87 = .ok (.iconst (-1), 1) := dk_2 (dk_at dksX1_runs_3 17 rfl rfl)
theorem dX1_runs_88 : decode cX1_runs 88 = .ok (.if_icmp .eq 51, 3) := dk_159 0 51 (dk_at dksX1_runs_3 18 rfl rfl)
theorem dX1_runs_91 : decode cX1_runs 91 = .ok (.aload_n 2, 1) := dk_44 (dk_at dksX1_runs_3 21 rfl rfl)
theorem dX1_runs_92 : decode cX1_runs 92 = .ok (.iload 8, 2) := dk_21 8 (dk_at dksX1_runs_3 22 rfl rfl)
theorem dX1_runs_94 : decode cX1_runs 94 = .ok (.iaload, 1) := dk_46 (dk_at dksX1_runs_4 0 rfl rfl)
theorem dX1_runs_95 : decode cX1_runs 95 = .ok (.iconst (-1), 1) := dk_2 (dk_at dksX1_runs_4 1 rfl rfl)
theorem dX1_runs_96 : decode cX1_runs 96 = .ok (.if_icmp .ne 43, 3) := dk_160 0 43 (dk_at dksX1_runs_4 2 rfl rfl)
theorem dX1_runs_99 : decode cX1_runs 99 = .ok (.aload_n 0, 1) := dk_42 (dk_at dksX1_runs_4 5 rfl rfl)
theorem dX1_runs_100 : decode cX1_runs 100 = .ok (.getfield 28, 3) := dk_180 0 28 (dk_at dksX1_runs_4 6 rfl rfl)
theorem dX1_runs_103 : decode cX1_runs 103 = .ok (.invokevirtual 83, 3) := dk_182 0 83 (dk_at dksX1_runs_4 9 rfl rfl)
theorem dX1_runs_106 : decode cX1_runs 106 = .ok (.checkcast 87, 3) := dk_192 0 87 (dk_at dksX1_runs_4 12 rfl rfl)
theorem dX1_runs_109 : decode cX1_runs 109 = .ok (.iload 8, 2) := dk_21 8 (dk_at dksX1_runs_4 15 rfl rfl)
theorem dX1_runs_111 : decode cX1_runs 111 = .ok (.invokevirtual 198, 3) := dk_182 0 198 (dk_at dksX1_runs_4 17 rfl rfl)
theorem dX1_runs_114 : decode cX1_runs 114 = .ok (.ifCond .eq 6, 3) := dk_153 0 6 (dk_at dksX1_runs_4 20 rfl rfl)
theorem dX1_runs_117 : decode cX1_runs 117 = .ok (.goto 22, 3) := dk_167 0 22 (dk_at dksX1_runs_5 0 rfl rfl)
theorem dX1_runs_120 : decode cX1_runs 120 = .ok (.aload_n 2, 1) := dk_44 (dk_at dksX1_runs_5 3 rfl rfl)
theorem dX1_runs_121 : decode cX1_runs 121 = .ok (.iload 8, 2) := dk_21 8 (dk_at dksX1_runs_5 4 rfl rfl)
theorem dX1_runs_123 : decode cX1_runs 123 = .ok (.aload_n 2, 1) := dk_44 (dk_at dksX1_runs_5 6 rfl rfl)
theorem dX1_runs_124 : decode cX1_runs 124 = .ok (.iload 6, 2) := dk_21 6 (dk_at dksX1_runs_5 7 rfl rfl)
theorem dX1_runs_126 : decode cX1_runs 126 = .ok (.iaload, 1) := dk_46 (dk_at dksX1_runs_5 9 rfl rfl)
theorem dX1_runs_127 : decode cX1_runs 127 = .ok (.iconst 1, 1) := dk_4 (dk_at dksX1_runs_5 10 rfl rfl)
theorem dX1_runs_128 : decode cX1_runs 128 = .ok (.iadd, 1) := dk_96 (dk_at dksX1_runs_5 11 rfl rfl)
theorem dX1_runs_129 : decode cX1_runs 129 = .ok (.iastore, 1) := dk_79 (dk_at dksX1_runs_5 12 rfl rfl)
theorem dX1_runs_130 : decode cX1_runs 130 = .ok (.aload_n 3, 1) := dk_45 (dk_at dksX1_runs_5 13 rfl rfl)
theorem dX1_runs_131 : decode cX1_runs 131 = .ok (.iload 4, 2) := dk_21 4 (dk_at dksX1_runs_5 14 rfl rfl)
theorem dX1_runs_133 : decode cX1_runs 133 = .ok (.iload 8, 2) := dk_21 8 (dk_at dksX1_runs_5 16 rfl rfl)
theorem dX1_runs_135 : decode cX1_runs 135 = .ok (.iastore, 1) := dk_79 (dk_at dksX1_runs_5 18 rfl rfl)
theorem dX1_runs_136 : decode cX1_runs 136 = .ok (.iinc 4 1, 3) := dk_132 4 1 (dk_at dksX1_runs_5 19 rfl rfl)
theorem dX1_runs_139 : decode cX1_runs 139 = .ok (.iinc 7 1, 3) := dk_132 7 1 (dk_at dksX1_runs_6 0 rfl rfl)
theorem dX1_runs_142 : decode cX1_runs 142 = .ok (.goto (-82), 3) := dk_167 255 174 (dk_at dksX1_runs_6 3 rfl rfl)
theorem dX1_runs_145 : decode cX1_runs 145 = .ok (.iinc 5 1, 3) := dk_132 5 1 (dk_at dksX1_runs_6 6 rfl rfl)
theorem dX1_runs_148 : decode cX1_runs 148 = .ok (.goto (-104), 3) := dk_167 255 152 (dk_at dksX1_runs_6 9 rfl rfl)
theorem dX1_runs_151 : decode cX1_runs 151 = .ok (.aload_n 2, 1) := dk_44 (dk_at dksX1_runs_6 12 rfl rfl)
theorem dX1_runs_152 : decode cX1_runs 152 = .ok (.areturn, 1) := dk_176 (dk_at dksX1_runs_6 13 rfl rfl)
abbrev cX1_ofWireNow : ByteArray := prog_1_method_67_code
def yX1_ofWireNow : MethodName := ⟨RX1, "ofWireNow", "(LNightwatchWall$Wire;I)I"⟩
def dkwX1_ofWireNow_5 : List UInt8 := [167, 0, 15, 28, 6, 160, 0, 8, 21, 4, 167, 0, 5, 21, 5, 172]
abbrev dktX1_ofWireNow_5 : List UInt8 := dkwX1_ofWireNow_5 ++ []
def dkwX1_ofWireNow_4 : List UInt8 := [21, 5, 2, 160, 0, 7, 21, 6, 54, 5, 132, 6, 1, 167, 255, 182, 28, 5, 160, 0, 7, 29]
abbrev dktX1_ofWireNow_4 : List UInt8 := dkwX1_ofWireNow_4 ++ dktX1_ofWireNow_5
def dkwX1_ofWireNow_3 : List UInt8 := [132, 3, 1, 21, 4, 21, 7, 154, 0, 7, 4, 167, 0, 4, 3, 96, 54, 4, 21, 7, 158, 0, 13]
abbrev dktX1_ofWireNow_3 : List UInt8 := dkwX1_ofWireNow_3 ++ dktX1_ofWireNow_4
def dkwX1_ofWireNow_2 : List UInt8 := [182, 1, 163, 54, 7, 43, 21, 6, 21, 7, 182, 1, 166, 43, 180, 1, 160, 162, 0, 6, 167, 0, 36]
abbrev dktX1_ofWireNow_2 : List UInt8 := dkwX1_ofWireNow_2 ++ dktX1_ofWireNow_3
def dkwX1_ofWireNow_1 : List UInt8 := [54, 4, 2, 54, 5, 3, 54, 6, 21, 6, 17, 0, 240, 162, 0, 72, 42, 43, 180, 1, 159, 21, 6]
abbrev dktX1_ofWireNow_1 : List UInt8 := dkwX1_ofWireNow_1 ++ dktX1_ofWireNow_2
def dkwX1_ofWireNow_0 : List UInt8 := [28, 5, 162, 0, 19, 28, 154, 0, 10, 43, 180, 1, 159, 167, 0, 7, 43, 180, 1, 160, 172, 3, 62, 3]
abbrev dktX1_ofWireNow_0 : List UInt8 := dkwX1_ofWireNow_0 ++ dktX1_ofWireNow_1
theorem dksX1_ofWireNow_0 : cX1_ofWireNow.data.toList.drop 0 = dktX1_ofWireNow_0 := by decide +kernel
theorem dksX1_ofWireNow_1 : cX1_ofWireNow.data.toList.drop 24 = dktX1_ofWireNow_1 := dk_seg dksX1_ofWireNow_0 24 rfl rfl
theorem dksX1_ofWireNow_2 : cX1_ofWireNow.data.toList.drop 47 = dktX1_ofWireNow_2 := dk_seg dksX1_ofWireNow_1 23 rfl rfl
theorem dksX1_ofWireNow_3 : cX1_ofWireNow.data.toList.drop 70 = dktX1_ofWireNow_3 := dk_seg dksX1_ofWireNow_2 23 rfl rfl
theorem dksX1_ofWireNow_4 : cX1_ofWireNow.data.toList.drop 93 = dktX1_ofWireNow_4 := dk_seg dksX1_ofWireNow_3 23 rfl rfl
theorem dksX1_ofWireNow_5 : cX1_ofWireNow.data.toList.drop 115 = dktX1_ofWireNow_5 := dk_seg dksX1_ofWireNow_4 22 rfl rfl
theorem dX1_ofWireNow_0 : decode cX1_ofWireNow 0 = .ok (.iload_n 2, 1) := dk_28 (dk_at dksX1_ofWireNow_0 0 rfl rfl)
theorem dX1_ofWireNow_1 : decode cX1_ofWireNow 1 = .ok (.iconst 2, 1) := dk_5 (dk_at dksX1_ofWireNow_0 1 rfl rfl)
theorem dX1_ofWireNow_2 : decode cX1_ofWireNow 2 = .ok (.if_icmp .ge 19, 3) := dk_162 0 19 (dk_at dksX1_ofWireNow_0 2 rfl rfl)
theorem dX1_ofWireNow_5 : decode cX1_ofWireNow 5 = .ok (.iload_n 2, 1) := dk_28 (dk_at dksX1_ofWireNow_0 5 rfl rfl)
theorem dX1_ofWireNow_6 : decode cX1_ofWireNow 6 = .ok (.ifCond .ne 10, 3) := dk_154 0 10 (dk_at dksX1_ofWireNow_0 6 rfl rfl)
theorem dX1_ofWireNow_9 : decode cX1_ofWireNow 9 = .ok (.aload_n 1, 1) := dk_43 (dk_at dksX1_ofWireNow_0 9 rfl rfl)
theorem dX1_ofWireNow_10 : decode cX1_ofWireNow 10 = .ok (.getfield 415, 3) := dk_180 1 159 (dk_at dksX1_ofWireNow_0 10 rfl rfl)
theorem dX1_ofWireNow_13 : decode cX1_ofWireNow 13 = .ok (.goto 7, 3) := dk_167 0 7 (dk_at dksX1_ofWireNow_0 13 rfl rfl)
theorem dX1_ofWireNow_16 : decode cX1_ofWireNow 16 = .ok (.aload_n 1, 1) := dk_43 (dk_at dksX1_ofWireNow_0 16 rfl rfl)
theorem dX1_ofWireNow_17 : decode cX1_ofWireNow 17 = .ok (.getfield 416, 3) := dk_180 1 160 (dk_at dksX1_ofWireNow_0 17 rfl rfl)
theorem dX1_ofWireNow_20 : decode cX1_ofWireNow 20 = .ok (.ireturn, 1) := dk_172 (dk_at dksX1_ofWireNow_0 20 rfl rfl)
theorem dX1_ofWireNow_21 : decode cX1_ofWireNow 21 = .ok (.iconst 0, 1) := dk_3 (dk_at dksX1_ofWireNow_0 21 rfl rfl)
theorem dX1_ofWireNow_22 : decode cX1_ofWireNow 22 = .ok (.istore_n 3, 1) := dk_62 (dk_at dksX1_ofWireNow_0 22 rfl rfl)
theorem dX1_ofWireNow_23 : decode cX1_ofWireNow 23 = .ok (.iconst 0, 1) := dk_3 (dk_at dksX1_ofWireNow_0 23 rfl rfl)
theorem dX1_ofWireNow_24 : decode cX1_ofWireNow 24 = .ok (.istore 4, 2) := dk_54 4 (dk_at dksX1_ofWireNow_1 0 rfl rfl)
theorem dX1_ofWireNow_26 : decode cX1_ofWireNow 26 = .ok (.iconst (-1), 1) := dk_2 (dk_at dksX1_ofWireNow_1 2 rfl rfl)
theorem dX1_ofWireNow_27 : decode cX1_ofWireNow 27 = .ok (.istore 5, 2) := dk_54 5 (dk_at dksX1_ofWireNow_1 3 rfl rfl)
theorem dX1_ofWireNow_29 : decode cX1_ofWireNow 29 = .ok (.iconst 0, 1) := dk_3 (dk_at dksX1_ofWireNow_1 5 rfl rfl)
theorem dX1_ofWireNow_30 : decode cX1_ofWireNow 30 = .ok (.istore 6, 2) := dk_54 6 (dk_at dksX1_ofWireNow_1 6 rfl rfl)
theorem dX1_ofWireNow_32 : decode cX1_ofWireNow 32 = .ok (.iload 6, 2) := dk_21 6 (dk_at dksX1_ofWireNow_1 8 rfl rfl)
theorem dX1_ofWireNow_34 : decode cX1_ofWireNow 34 = .ok (.sipush 240, 3) := dk_17 0 240 (dk_at dksX1_ofWireNow_1 10 rfl rfl)
theorem dX1_ofWireNow_37 : decode cX1_ofWireNow 37 = .ok (.if_icmp .ge 72, 3) := dk_162 0 72 (dk_at dksX1_ofWireNow_1 13 rfl rfl)
theorem dX1_ofWireNow_40 : decode cX1_ofWireNow 40 = .ok (.aload_n 0, 1) := dk_42 (dk_at dksX1_ofWireNow_1 16 rfl rfl)
theorem dX1_ofWireNow_41 : decode cX1_ofWireNow 41 = .ok (.aload_n 1, 1) := dk_43 (dk_at dksX1_ofWireNow_1 17 rfl rfl)
theorem dX1_ofWireNow_42 : decode cX1_ofWireNow 42 = .ok (.getfield 415, 3) := dk_180 1 159 (dk_at dksX1_ofWireNow_1 18 rfl rfl)
theorem dX1_ofWireNow_45 : decode cX1_ofWireNow 45 = .ok (.iload 6, 2) := dk_21 6 (dk_at dksX1_ofWireNow_1 21 rfl rfl)
theorem dX1_ofWireNow_47 : decode cX1_ofWireNow 47 = .ok (.invokevirtual 419, 3) := dk_182 1 163 (dk_at dksX1_ofWireNow_2 0 rfl rfl)
theorem dX1_ofWireNow_50 : decode cX1_ofWireNow 50 = .ok (.istore 7, 2) := dk_54 7 (dk_at dksX1_ofWireNow_2 3 rfl rfl)
theorem dX1_ofWireNow_52 : decode cX1_ofWireNow 52 = .ok (.aload_n 1, 1) := dk_43 (dk_at dksX1_ofWireNow_2 5 rfl rfl)
theorem dX1_ofWireNow_53 : decode cX1_ofWireNow 53 = .ok (.iload 6, 2) := dk_21 6 (dk_at dksX1_ofWireNow_2 6 rfl rfl)
theorem dX1_ofWireNow_55 : decode cX1_ofWireNow 55 = .ok (.iload 7, 2) := dk_21 7 (dk_at dksX1_ofWireNow_2 8 rfl rfl)
theorem dX1_ofWireNow_57 : decode cX1_ofWireNow 57 = .ok (.invokevirtual 422, 3) := dk_182 1 166 (dk_at dksX1_ofWireNow_2 10 rfl rfl)
theorem dX1_ofWireNow_60 : decode cX1_ofWireNow 60 = .ok (.aload_n 1, 1) := dk_43 (dk_at dksX1_ofWireNow_2 13 rfl rfl)
theorem dX1_ofWireNow_61 : decode cX1_ofWireNow 61 = .ok (.getfield 416, 3) := dk_180 1 160 (dk_at dksX1_ofWireNow_2 14 rfl rfl)
theorem dX1_ofWireNow_64 : decode cX1_ofWireNow 64 = .ok (.if_icmp .ge 6, 3) := dk_162 0 6 (dk_at dksX1_ofWireNow_2 17 rfl rfl)
theorem dX1_ofWireNow_67 : decode cX1_ofWireNow 67 = .ok (.goto 36, 3) := dk_167 0 36 (dk_at dksX1_ofWireNow_2 20 rfl rfl)
theorem dX1_ofWireNow_70 : decode cX1_ofWireNow 70 = .ok (.iinc 3 1, 3) := dk_132 3 1 (dk_at dksX1_ofWireNow_3 0 rfl rfl)
theorem dX1_ofWireNow_73 : decode cX1_ofWireNow 73 = .ok (.iload 4, 2) := dk_21 4 (dk_at dksX1_ofWireNow_3 3 rfl rfl)
theorem dX1_ofWireNow_75 : decode cX1_ofWireNow 75 = .ok (.iload 7, 2) := dk_21 7 (dk_at dksX1_ofWireNow_3 5 rfl rfl)
theorem dX1_ofWireNow_77 : decode cX1_ofWireNow 77 = .ok (.ifCond .ne 7, 3) := dk_154 0 7 (dk_at dksX1_ofWireNow_3 7 rfl rfl)
theorem dX1_ofWireNow_80 : decode cX1_ofWireNow 80 = .ok (.iconst 1, 1) := dk_4 (dk_at dksX1_ofWireNow_3 10 rfl rfl)
theorem dX1_ofWireNow_81 : decode cX1_ofWireNow 81 = .ok (.goto 4, 3) := dk_167 0 4 (dk_at dksX1_ofWireNow_3 11 rfl rfl)
theorem dX1_ofWireNow_84 : decode cX1_ofWireNow 84 = .ok (.iconst 0, 1) := dk_3 (dk_at dksX1_ofWireNow_3 14 rfl rfl)
theorem dX1_ofWireNow_85 : decode cX1_ofWireNow 85 = .ok (.iadd, 1) := dk_96 (dk_at dksX1_ofWireNow_3 15 rfl rfl)
theorem dX1_ofWireNow_86 : decode cX1_ofWireNow 86 = .ok (.istore 4, 2) := dk_54 4 (dk_at dksX1_ofWireNow_3 16 rfl rfl)
theorem dX1_ofWireNow_88 : decode cX1_ofWireNow 88 = .ok (.iload 7, 2) := dk_21 7 (dk_at dksX1_ofWireNow_3 18 rfl rfl)
theorem dX1_ofWireNow_90 : decode cX1_ofWireNow 90 = .ok (.ifCond .le 13, 3) := dk_158 0 13 (dk_at dksX1_ofWireNow_3 20 rfl rfl)
theorem dX1_ofWireNow_93 : decode cX1_ofWireNow 93 = .ok (.iload 5, 2) := dk_21 5 (dk_at dksX1_ofWireNow_4 0 rfl rfl)
theorem dX1_ofWireNow_95 : decode cX1_ofWireNow 95 = .ok (.iconst (-1), 1) := dk_2 (dk_at dksX1_ofWireNow_4 2 rfl rfl)
theorem dX1_ofWireNow_96 : decode cX1_ofWireNow 96 = .ok (.if_icmp .ne 7, 3) := dk_160 0 7 (dk_at dksX1_ofWireNow_4 3 rfl rfl)
theorem dX1_ofWireNow_99 : decode cX1_ofWireNow 99 = .ok (.iload 6, 2) := dk_21 6 (dk_at dksX1_ofWireNow_4 6 rfl rfl)
theorem dX1_ofWireNow_101 : decode cX1_ofWireNow 101 = .ok (.istore 5, 2) := dk_54 5 (dk_at dksX1_ofWireNow_4 8 rfl rfl)
theorem dX1_ofWireNow_103 : decode cX1_ofWireNow 103 = .ok (.iinc 6 1, 3) := dk_132 6 1 (dk_at dksX1_ofWireNow_4 10 rfl rfl)
theorem dX1_ofWireNow_106 : decode cX1_ofWireNow 106 = .ok (.goto (-74), 3) := dk_167 255 182 (dk_at dksX1_ofWireNow_4 13 rfl rfl)
theorem dX1_ofWireNow_109 : decode cX1_ofWireNow 109 = .ok (.iload_n 2, 1) := dk_28 (dk_at dksX1_ofWireNow_4 16 rfl rfl)
theorem dX1_ofWireNow_110 : decode cX1_ofWireNow 110 = .ok (.iconst 2, 1) := dk_5 (dk_at dksX1_ofWireNow_4 17 rfl rfl)
theorem dX1_ofWireNow_111 : decode cX1_ofWireNow 111 = .ok (.if_icmp .ne 7, 3) := dk_160 0 7 (dk_at dksX1_ofWireNow_4 18 rfl rfl)
theorem dX1_ofWireNow_114 : decode cX1_ofWireNow 114 = .ok (.iload_n 3, 1) := dk_29 (dk_at dksX1_ofWireNow_4 21 rfl rfl)
theorem dX1_ofWireNow_115 : decode cX1_ofWireNow 115 = .ok (.goto 15, 3) := dk_167 0 15 (dk_at dksX1_ofWireNow_5 0 rfl rfl)
theorem dX1_ofWireNow_118 : decode cX1_ofWireNow 118 = .ok (.iload_n 2, 1) := dk_28 (dk_at dksX1_ofWireNow_5 3 rfl rfl)
theorem dX1_ofWireNow_119 : decode cX1_ofWireNow 119 = .ok (.iconst 3, 1) := dk_6 (dk_at dksX1_ofWireNow_5 4 rfl rfl)
theorem dX1_ofWireNow_120 : decode cX1_ofWireNow 120 = .ok (.if_icmp .ne 8, 3) := dk_160 0 8 (dk_at dksX1_ofWireNow_5 5 rfl rfl)
theorem dX1_ofWireNow_123 : decode cX1_ofWireNow 123 = .ok (.iload 4, 2) := dk_21 4 (dk_at dksX1_ofWireNow_5 8 rfl rfl)
theorem dX1_ofWireNow_125 : decode cX1_ofWireNow 125 = .ok (.goto 5, 3) := dk_167 0 5 (dk_at dksX1_ofWireNow_5 10 rfl rfl)
theorem dX1_ofWireNow_128 : decode cX1_ofWireNow 128 = .ok (.iload 5, 2) := dk_21 5 (dk_at dksX1_ofWireNow_5 13 rfl rfl)
theorem dX1_ofWireNow_130 : decode cX1_ofWireNow 130 = .ok (.ireturn, 1) := dk_172 (dk_at dksX1_ofWireNow_5 15 rfl rfl)
abbrev cX1_there : ByteArray := prog_1_method_66_code
def yX1_there : MethodName := ⟨RX1, "there", "(II)I"⟩
def dkwX1_there_2 : List UInt8 := [167, 255, 213, 29, 172]
abbrev dktX1_there_2 : List UInt8 := dkwX1_there_2 ++ []
def dkwX1_there_1 : List UInt8 := [182, 0, 99, 192, 0, 104, 28, 182, 1, 125, 27, 160, 0, 7, 4, 167, 0, 4, 3, 96, 62, 132, 4, 1]
abbrev dktX1_there_1 : List UInt8 := dkwX1_there_1 ++ dktX1_there_2
def dkwX1_there_0 : List UInt8 := [3, 62, 3, 54, 4, 21, 4, 42, 180, 0, 48, 182, 0, 98, 162, 0, 37, 29, 42, 180, 0, 48, 21, 4]
abbrev dktX1_there_0 : List UInt8 := dkwX1_there_0 ++ dktX1_there_1
theorem dksX1_there_0 : cX1_there.data.toList.drop 0 = dktX1_there_0 := by decide +kernel
theorem dksX1_there_1 : cX1_there.data.toList.drop 24 = dktX1_there_1 := dk_seg dksX1_there_0 24 rfl rfl
theorem dksX1_there_2 : cX1_there.data.toList.drop 48 = dktX1_there_2 := dk_seg dksX1_there_1 24 rfl rfl
theorem dX1_there_0 : decode cX1_there 0 = .ok (.iconst 0, 1) := dk_3 (dk_at dksX1_there_0 0 rfl rfl)
theorem dX1_there_1 : decode cX1_there 1 = .ok (.istore_n 3, 1) := dk_62 (dk_at dksX1_there_0 1 rfl rfl)
theorem dX1_there_2 : decode cX1_there 2 = .ok (.iconst 0, 1) := dk_3 (dk_at dksX1_there_0 2 rfl rfl)
theorem dX1_there_3 : decode cX1_there 3 = .ok (.istore 4, 2) := dk_54 4 (dk_at dksX1_there_0 3 rfl rfl)
theorem dX1_there_5 : decode cX1_there 5 = .ok (.iload 4, 2) := dk_21 4 (dk_at dksX1_there_0 5 rfl rfl)
theorem dX1_there_7 : decode cX1_there 7 = .ok (.aload_n 0, 1) := dk_42 (dk_at dksX1_there_0 7 rfl rfl)
theorem dX1_there_8 : decode cX1_there 8 = .ok (.getfield 48, 3) := dk_180 0 48 (dk_at dksX1_there_0 8 rfl rfl)
theorem dX1_there_11 : decode cX1_there 11 = .ok (.invokevirtual 98, 3) := dk_182 0 98 (dk_at dksX1_there_0 11 rfl rfl)
theorem dX1_there_14 : decode cX1_there 14 = .ok (.if_icmp .ge 37, 3) := dk_162 0 37 (dk_at dksX1_there_0 14 rfl rfl)
theorem dX1_there_17 : decode cX1_there 17 = .ok (.iload_n 3, 1) := dk_29 (dk_at dksX1_there_0 17 rfl rfl)
theorem dX1_there_18 : decode cX1_there 18 = .ok (.aload_n 0, 1) := dk_42 (dk_at dksX1_there_0 18 rfl rfl)
theorem dX1_there_19 : decode cX1_there 19 = .ok (.getfield 48, 3) := dk_180 0 48 (dk_at dksX1_there_0 19 rfl rfl)
theorem dX1_there_22 : decode cX1_there 22 = .ok (.iload 4, 2) := dk_21 4 (dk_at dksX1_there_0 22 rfl rfl)
theorem dX1_there_24 : decode cX1_there 24 = .ok (.invokevirtual 99, 3) := dk_182 0 99 (dk_at dksX1_there_1 0 rfl rfl)
theorem dX1_there_27 : decode cX1_there 27 = .ok (.checkcast 104, 3) := dk_192 0 104 (dk_at dksX1_there_1 3 rfl rfl)
theorem dX1_there_30 : decode cX1_there 30 = .ok (.iload_n 2, 1) := dk_28 (dk_at dksX1_there_1 6 rfl rfl)
theorem dX1_there_31 : decode cX1_there 31 = .ok (.invokevirtual 381, 3) := dk_182 1 125 (dk_at dksX1_there_1 7 rfl rfl)
theorem dX1_there_34 : decode cX1_there 34 = .ok (.iload_n 1, 1) := dk_27 (dk_at dksX1_there_1 10 rfl rfl)
theorem dX1_there_35 : decode cX1_there 35 = .ok (.if_icmp .ne 7, 3) := dk_160 0 7 (dk_at dksX1_there_1 11 rfl rfl)
theorem dX1_there_38 : decode cX1_there 38 = .ok (.iconst 1, 1) := dk_4 (dk_at dksX1_there_1 14 rfl rfl)
theorem dX1_there_39 : decode cX1_there 39 = .ok (.goto 4, 3) := dk_167 0 4 (dk_at dksX1_there_1 15 rfl rfl)
theorem dX1_there_42 : decode cX1_there 42 = .ok (.iconst 0, 1) := dk_3 (dk_at dksX1_there_1 18 rfl rfl)
theorem dX1_there_43 : decode cX1_there 43 = .ok (.iadd, 1) := dk_96 (dk_at dksX1_there_1 19 rfl rfl)
theorem dX1_there_44 : decode cX1_there 44 = .ok (.istore_n 3, 1) := dk_62 (dk_at dksX1_there_1 20 rfl rfl)
theorem dX1_there_45 : decode cX1_there 45 = .ok (.iinc 4 1, 3) := dk_132 4 1 (dk_at dksX1_there_1 21 rfl rfl)
theorem dX1_there_48 : decode cX1_there 48 = .ok (.goto (-43), 3) := dk_167 255 213 (dk_at dksX1_there_2 0 rfl rfl)
theorem dX1_there_51 : decode cX1_there 51 = .ok (.iload_n 3, 1) := dk_29 (dk_at dksX1_there_2 3 rfl rfl)
theorem dX1_there_52 : decode cX1_there 52 = .ok (.ireturn, 1) := dk_172 (dk_at dksX1_there_2 4 rfl rfl)
abbrev cX1_base : ByteArray := prog_1_method_14_code
def yX1_base : MethodName := ⟨RX1, "base", "(III)I"⟩
def dkwX1_base_7 : List UInt8 := [184, 0, 149, 181, 0, 28, 25, 4, 182, 0, 89, 25, 4, 178, 0, 134, 182, 0, 153, 100, 172]
abbrev dktX1_base_7 : List UInt8 := dkwX1_base_7 ++ []
def dkwX1_base_6 : List UInt8 := [160, 0, 9, 178, 0, 143, 167, 0, 6, 178, 0, 146, 83, 132, 6, 1, 167, 255, 180, 42, 25, 4]
abbrev dktX1_base_6 : List UInt8 := dkwX1_base_6 ++ dktX1_base_7
def dkwX1_base_5 : List UInt8 := [162, 0, 9, 178, 0, 134, 167, 0, 30, 21, 7, 5, 160, 0, 9, 178, 0, 140, 167, 0, 18, 21, 7, 6]
abbrev dktX1_base_5 : List UInt8 := dkwX1_base_5 ++ dktX1_base_6
def dkwX1_base_4 : List UInt8 := [162, 0, 66, 25, 5, 182, 0, 127, 16, 10, 112, 54, 7, 25, 4, 180, 0, 130, 21, 6, 21, 7, 5]
abbrev dktX1_base_4 : List UInt8 := dkwX1_base_4 ++ dktX1_base_5
def dkwX1_base_3 : List UInt8 := [29, 183, 0, 125, 58, 5, 3, 54, 6, 21, 6, 25, 4, 182, 0, 89, 162, 0, 72, 29, 16, 100]
abbrev dktX1_base_3 : List UInt8 := dkwX1_base_3 ++ dktX1_base_4
def dkwX1_base_2 : List UInt8 := [180, 0, 57, 180, 0, 114, 182, 0, 117, 187, 0, 87, 89, 27, 28, 183, 0, 121, 58, 4, 187, 0, 123, 89]
abbrev dktX1_base_2 : List UInt8 := dkwX1_base_2 ++ dktX1_base_3
def dkwX1_base_1 : List UInt8 := [184, 0, 15, 153, 0, 7, 4, 167, 0, 4, 3, 184, 0, 110, 42, 182, 0, 65, 42, 180, 0, 57, 42]
abbrev dktX1_base_1 : List UInt8 := dkwX1_base_1 ++ dktX1_base_2
def dkwX1_base_0 : List UInt8 := [6, 16, 8, 27, 184, 0, 15, 153, 0, 27, 6, 16, 8, 28, 184, 0, 15, 153, 0, 17, 3, 16, 100, 29]
abbrev dktX1_base_0 : List UInt8 := dkwX1_base_0 ++ dktX1_base_1
theorem dksX1_base_0 : cX1_base.data.toList.drop 0 = dktX1_base_0 := by decide +kernel
theorem dksX1_base_1 : cX1_base.data.toList.drop 24 = dktX1_base_1 := dk_seg dksX1_base_0 24 rfl rfl
theorem dksX1_base_2 : cX1_base.data.toList.drop 47 = dktX1_base_2 := dk_seg dksX1_base_1 23 rfl rfl
theorem dksX1_base_3 : cX1_base.data.toList.drop 71 = dktX1_base_3 := dk_seg dksX1_base_2 24 rfl rfl
theorem dksX1_base_4 : cX1_base.data.toList.drop 93 = dktX1_base_4 := dk_seg dksX1_base_3 22 rfl rfl
theorem dksX1_base_5 : cX1_base.data.toList.drop 116 = dktX1_base_5 := dk_seg dksX1_base_4 23 rfl rfl
theorem dksX1_base_6 : cX1_base.data.toList.drop 140 = dktX1_base_6 := dk_seg dksX1_base_5 24 rfl rfl
theorem dksX1_base_7 : cX1_base.data.toList.drop 162 = dktX1_base_7 := dk_seg dksX1_base_6 22 rfl rfl
theorem dX1_base_0 : decode cX1_base 0 = .ok (.iconst 3, 1) := dk_6 (dk_at dksX1_base_0 0 rfl rfl)
theorem dX1_base_1 : decode cX1_base 1 = .ok (.bipush 8, 2) := dk_16 8 (dk_at dksX1_base_0 1 rfl rfl)
theorem dX1_base_3 : decode cX1_base 3 = .ok (.iload_n 1, 1) := dk_27 (dk_at dksX1_base_0 3 rfl rfl)
theorem dX1_base_4 : decode cX1_base 4 = .ok (.invokestatic 15, 3) := dk_184 0 15 (dk_at dksX1_base_0 4 rfl rfl)
theorem dX1_base_7 : decode cX1_base 7 = .ok (.ifCond .eq 27, 3) := dk_153 0 27 (dk_at dksX1_base_0 7 rfl rfl)
theorem dX1_base_10 : decode cX1_base 10 = .ok (.iconst 3, 1) := dk_6 (dk_at dksX1_base_0 10 rfl rfl)
theorem dX1_base_11 : decode cX1_base 11 = .ok (.bipush 8, 2) := dk_16 8 (dk_at dksX1_base_0 11 rfl rfl)
theorem dX1_base_13 : decode cX1_base 13 = .ok (.iload_n 2, 1) := dk_28 (dk_at dksX1_base_0 13 rfl rfl)
theorem dX1_base_14 : decode cX1_base 14 = .ok (.invokestatic 15, 3) := dk_184 0 15 (dk_at dksX1_base_0 14 rfl rfl)
theorem dX1_base_17 : decode cX1_base 17 = .ok (.ifCond .eq 17, 3) := dk_153 0 17 (dk_at dksX1_base_0 17 rfl rfl)
theorem dX1_base_20 : decode cX1_base 20 = .ok (.iconst 0, 1) := dk_3 (dk_at dksX1_base_0 20 rfl rfl)
theorem dX1_base_21 : decode cX1_base 21 = .ok (.bipush 100, 2) := dk_16 100 (dk_at dksX1_base_0 21 rfl rfl)
theorem dX1_base_23 : decode cX1_base 23 = .ok (.iload_n 3, 1) := dk_29 (dk_at dksX1_base_0 23 rfl rfl)
theorem dX1_base_24 : decode cX1_base 24 = .ok (.invokestatic 15, 3) := dk_184 0 15 (dk_at dksX1_base_1 0 rfl rfl)
theorem dX1_base_27 : decode cX1_base 27 = .ok (.ifCond .eq 7, 3) := dk_153 0 7 (dk_at dksX1_base_1 3 rfl rfl)
theorem dX1_base_30 : decode cX1_base 30 = .ok (.iconst 1, 1) := dk_4 (dk_at dksX1_base_1 6 rfl rfl)
theorem dX1_base_31 : decode cX1_base 31 = .ok (.goto 4, 3) := dk_167 0 4 (dk_at dksX1_base_1 7 rfl rfl)
theorem dX1_base_34 : decode cX1_base 34 = .ok (.iconst 0, 1) := dk_3 (dk_at dksX1_base_1 10 rfl rfl)
theorem dX1_base_35 : decode cX1_base 35 = .ok (.invokestatic 110, 3) := dk_184 0 110 (dk_at dksX1_base_1 11 rfl rfl)
theorem dX1_base_38 : decode cX1_base 38 = .ok (.aload_n 0, 1) := dk_42 (dk_at dksX1_base_1 14 rfl rfl)
theorem dX1_base_39 : decode cX1_base 39 = .ok (.invokevirtual 65, 3) := dk_182 0 65 (dk_at dksX1_base_1 15 rfl rfl)
theorem dX1_base_42 : decode cX1_base 42 = .ok (.aload_n 0, 1) := dk_42 (dk_at dksX1_base_1 18 rfl rfl)
theorem dX1_base_43 : decode cX1_base 43 = .ok (.getfield 57, 3) := dk_180 0 57 (dk_at dksX1_base_1 19 rfl rfl)
theorem dX1_base_46 : decode cX1_base 46 = .ok (.aload_n 0, 1) := dk_42 (dk_at dksX1_base_1 22 rfl rfl)
theorem dX1_base_47 : decode cX1_base 47 = .ok (.getfield 57, 3) := dk_180 0 57 (dk_at dksX1_base_2 0 rfl rfl)
theorem dX1_base_50 : decode cX1_base 50 = .ok (.getfield 114, 3) := dk_180 0 114 (dk_at dksX1_base_2 3 rfl rfl)
theorem dX1_base_53 : decode cX1_base 53 = .ok (.invokevirtual 117, 3) := dk_182 0 117 (dk_at dksX1_base_2 6 rfl rfl)
theorem dX1_base_56 : decode cX1_base 56 = .ok (.new 87, 3) := dk_187 0 87 (dk_at dksX1_base_2 9 rfl rfl)
theorem dX1_base_59 : decode cX1_base 59 = .ok (.dup, 1) := dk_89 (dk_at dksX1_base_2 12 rfl rfl)
theorem dX1_base_60 : decode cX1_base 60 = .ok (.iload_n 1, 1) := dk_27 (dk_at dksX1_base_2 13 rfl rfl)
theorem dX1_base_61 : decode cX1_base 61 = .ok (.iload_n 2, 1) := dk_28 (dk_at dksX1_base_2 14 rfl rfl)
theorem dX1_base_62 : decode cX1_base 62 = .ok (.invokespecial 121, 3) := dk_183 0 121 (dk_at dksX1_base_2 15 rfl rfl)
theorem dX1_base_65 : decode cX1_base 65 = .ok (.astore 4, 2) := dk_58 4 (dk_at dksX1_base_2 18 rfl rfl)
theorem dX1_base_67 : decode cX1_base 67 = .ok (.new 123, 3) := dk_187 0 123 (dk_at dksX1_base_2 20 rfl rfl)
theorem dX1_base_70 : decode cX1_base 70 = .ok (.dup, 1) := dk_89 (dk_at dksX1_base_2 23 rfl rfl)
theorem dX1_base_71 : decode cX1_base 71 = .ok (.iload_n 3, 1) := dk_29 (dk_at dksX1_base_3 0 rfl rfl)
theorem dX1_base_72 : decode cX1_base 72 = .ok (.invokespecial 125, 3) := dk_183 0 125 (dk_at dksX1_base_3 1 rfl rfl)
theorem dX1_base_75 : decode cX1_base 75 = .ok (.astore 5, 2) := dk_58 5 (dk_at dksX1_base_3 4 rfl rfl)
theorem dX1_base_77 : decode cX1_base 77 = .ok (.iconst 0, 1) := dk_3 (dk_at dksX1_base_3 6 rfl rfl)
theorem dX1_base_78 : decode cX1_base 78 = .ok (.istore 6, 2) := dk_54 6 (dk_at dksX1_base_3 7 rfl rfl)
theorem dX1_base_80 : decode cX1_base 80 = .ok (.iload 6, 2) := dk_21 6 (dk_at dksX1_base_3 9 rfl rfl)
theorem dX1_base_82 : decode cX1_base 82 = .ok (.aload 4, 2) := dk_25 4 (dk_at dksX1_base_3 11 rfl rfl)
theorem dX1_base_84 : decode cX1_base 84 = .ok (.invokevirtual 89, 3) := dk_182 0 89 (dk_at dksX1_base_3 13 rfl rfl)
theorem dX1_base_87 : decode cX1_base 87 = .ok (.if_icmp .ge 72, 3) := dk_162 0 72 (dk_at dksX1_base_3 16 rfl rfl)
theorem dX1_base_90 : decode cX1_base 90 = .ok (.iload_n 3, 1) := dk_29 (dk_at dksX1_base_3 19 rfl rfl)
theorem dX1_base_91 : decode cX1_base 91 = .ok (.bipush 100, 2) := dk_16 100 (dk_at dksX1_base_3 20 rfl rfl)
theorem dX1_base_93 : decode cX1_base 93 = .ok (.if_icmp .ge 66, 3) := dk_162 0 66 (dk_at dksX1_base_4 0 rfl rfl)
theorem dX1_base_96 : decode cX1_base 96 = .ok (.aload 5, 2) := dk_25 5 (dk_at dksX1_base_4 3 rfl rfl)
theorem dX1_base_98 : decode cX1_base 98 = .ok (.invokevirtual 127, 3) := dk_182 0 127 (dk_at dksX1_base_4 5 rfl rfl)
theorem dX1_base_101 : decode cX1_base 101 = .ok (.bipush 10, 2) := dk_16 10 (dk_at dksX1_base_4 8 rfl rfl)
theorem dX1_base_103 : decode cX1_base 103 = .ok (.irem, 1) := dk_112 (dk_at dksX1_base_4 10 rfl rfl)
theorem dX1_base_104 : decode cX1_base 104 = .ok (.istore 7, 2) := dk_54 7 (dk_at dksX1_base_4 11 rfl rfl)
theorem dX1_base_106 : decode cX1_base 106 = .ok (.aload 4, 2) := dk_25 4 (dk_at dksX1_base_4 13 rfl rfl)
theorem dX1_base_108 : decode cX1_base 108 = .ok (.getfield 130, 3) := dk_180 0 130 (dk_at dksX1_base_4 15 rfl rfl)
theorem dX1_base_111 : decode cX1_base 111 = .ok (.iload 6, 2) := dk_21 6 (dk_at dksX1_base_4 18 rfl rfl)
theorem dX1_base_113 : decode cX1_base 113 = .ok (.iload 7, 2) := dk_21 7 (dk_at dksX1_base_4 20 rfl rfl)
theorem dX1_base_115 : decode cX1_base 115 = .ok (.iconst 2, 1) := dk_5 (dk_at dksX1_base_4 22 rfl rfl)
theorem dX1_base_116 : decode cX1_base 116 = .ok (.if_icmp .ge 9, 3) := dk_162 0 9 (dk_at dksX1_base_5 0 rfl rfl)
theorem dX1_base_119 : decode cX1_base 119 = .ok (.getstatic 134, 3) := dk_178 0 134 (dk_at dksX1_base_5 3 rfl rfl)
theorem dX1_base_122 : decode cX1_base 122 = .ok (.goto 30, 3) := dk_167 0 30 (dk_at dksX1_base_5 6 rfl rfl)
theorem dX1_base_125 : decode cX1_base 125 = .ok (.iload 7, 2) := dk_21 7 (dk_at dksX1_base_5 9 rfl rfl)
theorem dX1_base_127 : decode cX1_base 127 = .ok (.iconst 2, 1) := dk_5 (dk_at dksX1_base_5 11 rfl rfl)
theorem dX1_base_128 : decode cX1_base 128 = .ok (.if_icmp .ne 9, 3) := dk_160 0 9 (dk_at dksX1_base_5 12 rfl rfl)
theorem dX1_base_131 : decode cX1_base 131 = .ok (.getstatic 140, 3) := dk_178 0 140 (dk_at dksX1_base_5 15 rfl rfl)
theorem dX1_base_134 : decode cX1_base 134 = .ok (.goto 18, 3) := dk_167 0 18 (dk_at dksX1_base_5 18 rfl rfl)
theorem dX1_base_137 : decode cX1_base 137 = .ok (.iload 7, 2) := dk_21 7 (dk_at dksX1_base_5 21 rfl rfl)
theorem dX1_base_139 : decode cX1_base 139 = .ok (.iconst 3, 1) := dk_6 (dk_at dksX1_base_5 23 rfl rfl)
theorem dX1_base_140 : decode cX1_base 140 = .ok (.if_icmp .ne 9, 3) := dk_160 0 9 (dk_at dksX1_base_6 0 rfl rfl)
theorem dX1_base_143 : decode cX1_base 143 = .ok (.getstatic 143, 3) := dk_178 0 143 (dk_at dksX1_base_6 3 rfl rfl)
theorem dX1_base_146 : decode cX1_base 146 = .ok (.goto 6, 3) := dk_167 0 6 (dk_at dksX1_base_6 6 rfl rfl)
theorem dX1_base_149 : decode cX1_base 149 = .ok (.getstatic 146, 3) := dk_178 0 146 (dk_at dksX1_base_6 9 rfl rfl)
theorem dX1_base_152 : decode cX1_base 152 = .ok (.aastore, 1) := dk_83 (dk_at dksX1_base_6 12 rfl rfl)
theorem dX1_base_153 : decode cX1_base 153 = .ok (.iinc 6 1, 3) := dk_132 6 1 (dk_at dksX1_base_6 13 rfl rfl)
theorem dX1_base_156 : decode cX1_base 156 = .ok (.goto (-76), 3) := dk_167 255 180 (dk_at dksX1_base_6 16 rfl rfl)
theorem dX1_base_159 : decode cX1_base 159 = .ok (.aload_n 0, 1) := dk_42 (dk_at dksX1_base_6 19 rfl rfl)
theorem dX1_base_160 : decode cX1_base 160 = .ok (.aload 4, 2) := dk_25 4 (dk_at dksX1_base_6 20 rfl rfl)
theorem dX1_base_162 : decode cX1_base 162 = .ok (.invokestatic 149, 3) := dk_184 0 149 (dk_at dksX1_base_7 0 rfl rfl)
theorem dX1_base_165 : decode cX1_base 165 = .ok (.putfield 28, 3) := dk_181 0 28 (dk_at dksX1_base_7 3 rfl rfl)
theorem dX1_base_168 : decode cX1_base 168 = .ok (.aload 4, 2) := dk_25 4 (dk_at dksX1_base_7 6 rfl rfl)
theorem dX1_base_170 : decode cX1_base 170 = .ok (.invokevirtual 89, 3) := dk_182 0 89 (dk_at dksX1_base_7 8 rfl rfl)
theorem dX1_base_173 : decode cX1_base 173 = .ok (.aload 4, 2) := dk_25 4 (dk_at dksX1_base_7 11 rfl rfl)
theorem dX1_base_175 : decode cX1_base 175 = .ok (.getstatic 134, 3) := dk_178 0 134 (dk_at dksX1_base_7 13 rfl rfl)
theorem dX1_base_178 : decode cX1_base 178 = .ok (.invokevirtual 153, 3) := dk_182 0 153 (dk_at dksX1_base_7 16 rfl rfl)
theorem dX1_base_181 : decode cX1_base 181 = .ok (.isub, 1) := dk_100 (dk_at dksX1_base_7 19 rfl rfl)
theorem dX1_base_182 : decode cX1_base 182 = .ok (.ireturn, 1) := dk_172 (dk_at dksX1_base_7 20 rfl rfl)
abbrev cX1_require : ByteArray := prog_1_method_1_code
def yX1_require : MethodName := ⟨RX1, "require", "(Z)V"⟩
def dkwX1_require_0 : List UInt8 := [26, 154, 0, 11, 187, 0, 1, 89, 183, 0, 3, 191, 177]
abbrev dktX1_require_0 : List UInt8 := dkwX1_require_0 ++ []
theorem dksX1_require_0 : cX1_require.data.toList.drop 0 = dktX1_require_0 := by decide +kernel
theorem dX1_require_0 : decode cX1_require 0 = .ok (.iload_n 0, 1) := dk_26 (dk_at dksX1_require_0 0 rfl rfl)
theorem dX1_require_1 : decode cX1_require 1 = .ok (.ifCond .ne 11, 3) := dk_154 0 11 (dk_at dksX1_require_0 1 rfl rfl)
theorem dX1_require_4 : decode cX1_require 4 = .ok (.new 1, 3) := dk_187 0 1 (dk_at dksX1_require_0 4 rfl rfl)
theorem dX1_require_7 : decode cX1_require 7 = .ok (.dup, 1) := dk_89 (dk_at dksX1_require_0 7 rfl rfl)
theorem dX1_require_8 : decode cX1_require 8 = .ok (.invokespecial 3, 3) := dk_183 0 3 (dk_at dksX1_require_0 8 rfl rfl)
theorem dX1_require_11 : decode cX1_require 11 = .ok (.athrow, 1) := dk_191 (dk_at dksX1_require_0 11 rfl rfl)
theorem dX1_require_12 : decode cX1_require 12 = .ok (.return_, 1) := dk_177 (dk_at dksX1_require_0 12 rfl rfl)
abbrev cX1_lay : ByteArray := prog_1_method_16_code
def yX1_lay : MethodName := ⟨RX1, "lay", "(II)I"⟩
def dkwX1_lay_2 : List UInt8 := [54, 4, 45, 180, 0, 130, 27, 28, 184, 0, 195, 83, 21, 4, 172]
abbrev dktX1_lay_2 : List UInt8 := dkwX1_lay_2 ++ []
def dkwX1_lay_1 : List UInt8 := [182, 0, 186, 154, 0, 7, 4, 167, 0, 4, 3, 184, 0, 189, 45, 180, 0, 130, 27, 50, 182, 0, 192]
abbrev dktX1_lay_1 : List UInt8 := dkwX1_lay_1 ++ dktX1_lay_2
def dkwX1_lay_0 : List UInt8 := [42, 27, 182, 0, 182, 78, 3, 6, 28, 184, 0, 15, 184, 0, 110, 28, 4, 160, 0, 11, 42, 27]
abbrev dktX1_lay_0 : List UInt8 := dkwX1_lay_0 ++ dktX1_lay_1
theorem dksX1_lay_0 : cX1_lay.data.toList.drop 0 = dktX1_lay_0 := by decide +kernel
theorem dksX1_lay_1 : cX1_lay.data.toList.drop 22 = dktX1_lay_1 := dk_seg dksX1_lay_0 22 rfl rfl
theorem dksX1_lay_2 : cX1_lay.data.toList.drop 45 = dktX1_lay_2 := dk_seg dksX1_lay_1 23 rfl rfl
theorem dX1_lay_0 : decode cX1_lay 0 = .ok (.aload_n 0, 1) := dk_42 (dk_at dksX1_lay_0 0 rfl rfl)
theorem dX1_lay_1 : decode cX1_lay 1 = .ok (.iload_n 1, 1) := dk_27 (dk_at dksX1_lay_0 1 rfl rfl)
theorem dX1_lay_2 : decode cX1_lay 2 = .ok (.invokevirtual 182, 3) := dk_182 0 182 (dk_at dksX1_lay_0 2 rfl rfl)
theorem dX1_lay_5 : decode cX1_lay 5 = .ok (.astore_n 3, 1) := dk_78 (dk_at dksX1_lay_0 5 rfl rfl)
theorem dX1_lay_6 : decode cX1_lay 6 = .ok (.iconst 0, 1) := dk_3 (dk_at dksX1_lay_0 6 rfl rfl)
theorem dX1_lay_7 : decode cX1_lay 7 = .ok (.iconst 3, 1) := dk_6 (dk_at dksX1_lay_0 7 rfl rfl)
theorem dX1_lay_8 : decode cX1_lay 8 = .ok (.iload_n 2, 1) := dk_28 (dk_at dksX1_lay_0 8 rfl rfl)
theorem dX1_lay_9 : decode cX1_lay 9 = .ok (.invokestatic 15, 3) := dk_184 0 15 (dk_at dksX1_lay_0 9 rfl rfl)
theorem dX1_lay_12 : decode cX1_lay 12 = .ok (.invokestatic 110, 3) := dk_184 0 110 (dk_at dksX1_lay_0 12 rfl rfl)
theorem dX1_lay_15 : decode cX1_lay 15 = .ok (.iload_n 2, 1) := dk_28 (dk_at dksX1_lay_0 15 rfl rfl)
theorem dX1_lay_16 : decode cX1_lay 16 = .ok (.iconst 1, 1) := dk_4 (dk_at dksX1_lay_0 16 rfl rfl)
theorem dX1_lay_17 : decode cX1_lay 17 = .ok (.if_icmp .ne 11, 3) := dk_160 0 11 (dk_at dksX1_lay_0 17 rfl rfl)
theorem dX1_lay_20 : decode cX1_lay 20 = .ok (.aload_n 0, 1) := dk_42 (dk_at dksX1_lay_0 20 rfl rfl)
theorem dX1_lay_21 : decode cX1_lay 21 = .ok (.iload_n 1, 1) := dk_27 (dk_at dksX1_lay_0 21 rfl rfl)
theorem dX1_lay_22 : decode cX1_lay 22 = .ok (.invokevirtual 186, 3) := dk_182 0 186 (dk_at dksX1_lay_1 0 rfl rfl)
theorem dX1_lay_25 : decode cX1_lay 25 = .ok (.ifCond .ne 7, 3) := dk_154 0 7 (dk_at dksX1_lay_1 3 rfl rfl)
theorem dX1_lay_28 : decode cX1_lay 28 = .ok (.iconst 1, 1) := dk_4 (dk_at dksX1_lay_1 6 rfl rfl)
theorem dX1_lay_29 : decode cX1_lay 29 = .ok (.goto 4, 3) := dk_167 0 4 (dk_at dksX1_lay_1 7 rfl rfl)
theorem dX1_lay_32 : decode cX1_lay 32 = .ok (.iconst 0, 1) := dk_3 (dk_at dksX1_lay_1 10 rfl rfl)
theorem dX1_lay_33 : decode cX1_lay 33 = .ok (.invokestatic 189, 3) := dk_184 0 189 (dk_at dksX1_lay_1 11 rfl rfl)
theorem dX1_lay_36 : decode cX1_lay 36 = .ok (.aload_n 3, 1) := dk_45 (dk_at dksX1_lay_1 14 rfl rfl)
theorem dX1_lay_37 : decode cX1_lay 37 = .ok (.getfield 130, 3) := dk_180 0 130 (dk_at dksX1_lay_1 15 rfl rfl)
theorem dX1_lay_40 : decode cX1_lay 40 = .ok (.iload_n 1, 1) := dk_27 (dk_at dksX1_lay_1 18 rfl rfl)
theorem dX1_lay_41 : decode cX1_lay 41 = .ok (.aaload, 1) := dk_50 (dk_at dksX1_lay_1 19 rfl rfl)
theorem dX1_lay_42 : decode cX1_lay 42 = .ok (.invokevirtual 192, 3) := dk_182 0 192 (dk_at dksX1_lay_1 20 rfl rfl)
theorem dX1_lay_45 : decode cX1_lay 45 = .ok (.istore 4, 2) := dk_54 4 (dk_at dksX1_lay_2 0 rfl rfl)
theorem dX1_lay_47 : decode cX1_lay 47 = .ok (.aload_n 3, 1) := dk_45 (dk_at dksX1_lay_2 2 rfl rfl)
theorem dX1_lay_48 : decode cX1_lay 48 = .ok (.getfield 130, 3) := dk_180 0 130 (dk_at dksX1_lay_2 3 rfl rfl)
theorem dX1_lay_51 : decode cX1_lay 51 = .ok (.iload_n 1, 1) := dk_27 (dk_at dksX1_lay_2 6 rfl rfl)
theorem dX1_lay_52 : decode cX1_lay 52 = .ok (.iload_n 2, 1) := dk_28 (dk_at dksX1_lay_2 7 rfl rfl)
theorem dX1_lay_53 : decode cX1_lay 53 = .ok (.invokestatic 195, 3) := dk_184 0 195 (dk_at dksX1_lay_2 8 rfl rfl)
theorem dX1_lay_56 : decode cX1_lay 56 = .ok (.aastore, 1) := dk_83 (dk_at dksX1_lay_2 11 rfl rfl)
theorem dX1_lay_57 : decode cX1_lay 57 = .ok (.iload 4, 2) := dk_21 4 (dk_at dksX1_lay_2 12 rfl rfl)
theorem dX1_lay_59 : decode cX1_lay 59 = .ok (.ireturn, 1) := dk_172 (dk_at dksX1_lay_2 14 rfl rfl)
abbrev cX1_groundAt : ByteArray := prog_1_method_10_code
def yX1_groundAt : MethodName := ⟨RX1, "groundAt", "(I)LNightwatchWall$Ground;"⟩
def dkwX1_groundAt_0 : List UInt8 := [27, 42, 182, 0, 93, 184, 0, 94, 42, 180, 0, 28, 182, 0, 83, 192, 0, 87, 176]
abbrev dktX1_groundAt_0 : List UInt8 := dkwX1_groundAt_0 ++ []
theorem dksX1_groundAt_0 : cX1_groundAt.data.toList.drop 0 = dktX1_groundAt_0 := by decide +kernel
theorem dX1_groundAt_0 : decode cX1_groundAt 0 = .ok (.iload_n 1, 1) := dk_27 (dk_at dksX1_groundAt_0 0 rfl rfl)
theorem dX1_groundAt_1 : decode cX1_groundAt 1 = .ok (.aload_n 0, 1) := dk_42 (dk_at dksX1_groundAt_0 1 rfl rfl)
theorem dX1_groundAt_2 : decode cX1_groundAt 2 = .ok (.invokevirtual 93, 3) := dk_182 0 93 (dk_at dksX1_groundAt_0 2 rfl rfl)
theorem dX1_groundAt_5 : decode cX1_groundAt 5 = .ok (.invokestatic 94, 3) := dk_184 0 94 (dk_at dksX1_groundAt_0 5 rfl rfl)
theorem dX1_groundAt_8 : decode cX1_groundAt 8 = .ok (.aload_n 0, 1) := dk_42 (dk_at dksX1_groundAt_0 8 rfl rfl)
theorem dX1_groundAt_9 : decode cX1_groundAt 9 = .ok (.getfield 28, 3) := dk_180 0 28 (dk_at dksX1_groundAt_0 9 rfl rfl)
theorem dX1_groundAt_12 : decode cX1_groundAt 12 = .ok (.invokevirtual 83, 3) := dk_182 0 83 (dk_at dksX1_groundAt_0 12 rfl rfl)
theorem dX1_groundAt_15 : decode cX1_groundAt 15 = .ok (.checkcast 87, 3) := dk_192 0 87 (dk_at dksX1_groundAt_0 15 rfl rfl)
theorem dX1_groundAt_18 : decode cX1_groundAt 18 = .ok (.areturn, 1) := dk_176 (dk_at dksX1_groundAt_0 18 rfl rfl)
abbrev cX1_requireIndex : ByteArray := prog_1_method_3_code
def yX1_requireIndex : MethodName := ⟨RX1, "requireIndex", "(II)V"⟩
def dkwX1_requireIndex_0 : List UInt8 := [26, 155, 0, 8, 26, 27, 161, 0, 11, 187, 0, 10, 89, 183, 0, 12, 191, 177]
abbrev dktX1_requireIndex_0 : List UInt8 := dkwX1_requireIndex_0 ++ []
theorem dksX1_requireIndex_0 : cX1_requireIndex.data.toList.drop 0 = dktX1_requireIndex_0 := by decide +kernel
theorem dX1_requireIndex_0 : decode cX1_requireIndex 0 = .ok (.iload_n 0, 1) := dk_26 (dk_at dksX1_requireIndex_0 0 rfl rfl)
theorem dX1_requireIndex_1 : decode cX1_requireIndex 1 = .ok (.ifCond .lt 8, 3) := dk_155 0 8 (dk_at dksX1_requireIndex_0 1 rfl rfl)
theorem dX1_requireIndex_4 : decode cX1_requireIndex 4 = .ok (.iload_n 0, 1) := dk_26 (dk_at dksX1_requireIndex_0 4 rfl rfl)
theorem dX1_requireIndex_5 : decode cX1_requireIndex 5 = .ok (.iload_n 1, 1) := dk_27 (dk_at dksX1_requireIndex_0 5 rfl rfl)
theorem dX1_requireIndex_6 : decode cX1_requireIndex 6 = .ok (.if_icmp .lt 11, 3) := dk_161 0 11 (dk_at dksX1_requireIndex_0 6 rfl rfl)
theorem dX1_requireIndex_9 : decode cX1_requireIndex 9 = .ok (.new 10, 3) := dk_187 0 10 (dk_at dksX1_requireIndex_0 9 rfl rfl)
theorem dX1_requireIndex_12 : decode cX1_requireIndex 12 = .ok (.dup, 1) := dk_89 (dk_at dksX1_requireIndex_0 12 rfl rfl)
theorem dX1_requireIndex_13 : decode cX1_requireIndex 13 = .ok (.invokespecial 12, 3) := dk_183 0 12 (dk_at dksX1_requireIndex_0 13 rfl rfl)
theorem dX1_requireIndex_16 : decode cX1_requireIndex 16 = .ok (.athrow, 1) := dk_191 (dk_at dksX1_requireIndex_0 16 rfl rfl)
theorem dX1_requireIndex_17 : decode cX1_requireIndex 17 = .ok (.return_, 1) := dk_177 (dk_at dksX1_requireIndex_0 17 rfl rfl)
abbrev cX1_requireState : ByteArray := prog_1_method_2_code
def yX1_requireState : MethodName := ⟨RX1, "requireState", "(Z)V"⟩
def dkwX1_requireState_0 : List UInt8 := [26, 154, 0, 11, 187, 0, 7, 89, 183, 0, 9, 191, 177]
abbrev dktX1_requireState_0 : List UInt8 := dkwX1_requireState_0 ++ []
theorem dksX1_requireState_0 : cX1_requireState.data.toList.drop 0 = dktX1_requireState_0 := by decide +kernel
theorem dX1_requireState_0 : decode cX1_requireState 0 = .ok (.iload_n 0, 1) := dk_26 (dk_at dksX1_requireState_0 0 rfl rfl)
theorem dX1_requireState_1 : decode cX1_requireState 1 = .ok (.ifCond .ne 11, 3) := dk_154 0 11 (dk_at dksX1_requireState_0 1 rfl rfl)
theorem dX1_requireState_4 : decode cX1_requireState 4 = .ok (.new 7, 3) := dk_187 0 7 (dk_at dksX1_requireState_0 4 rfl rfl)
theorem dX1_requireState_7 : decode cX1_requireState 7 = .ok (.dup, 1) := dk_89 (dk_at dksX1_requireState_0 7 rfl rfl)
theorem dX1_requireState_8 : decode cX1_requireState 8 = .ok (.invokespecial 9, 3) := dk_183 0 9 (dk_at dksX1_requireState_0 8 rfl rfl)
theorem dX1_requireState_11 : decode cX1_requireState 11 = .ok (.athrow, 1) := dk_191 (dk_at dksX1_requireState_0 11 rfl rfl)
theorem dX1_requireState_12 : decode cX1_requireState 12 = .ok (.return_, 1) := dk_177 (dk_at dksX1_requireState_0 12 rfl rfl)
abbrev cX1_gates : ByteArray := prog_1_method_17_code
def yX1_gates : MethodName := ⟨RX1, "gates", "(II)I"⟩
def dkwX1_gates_2 : List UInt8 := [182, 0, 83, 192, 0, 87, 178, 0, 143, 182, 0, 153, 167, 0, 4, 3, 172]
abbrev dktX1_gates_2 : List UInt8 := dkwX1_gates_2 ++ []
def dkwX1_gates_1 : List UInt8 := [181, 0, 69, 42, 28, 181, 0, 73, 42, 180, 0, 28, 182, 0, 79, 153, 0, 22, 42, 180, 0, 28]
abbrev dktX1_gates_1 : List UInt8 := dkwX1_gates_1 ++ dktX1_gates_2
def dkwX1_gates_0 : List UInt8 := [27, 184, 0, 106, 153, 0, 14, 28, 184, 0, 106, 153, 0, 7, 4, 167, 0, 4, 3, 184, 0, 110, 42, 27]
abbrev dktX1_gates_0 : List UInt8 := dkwX1_gates_0 ++ dktX1_gates_1
theorem dksX1_gates_0 : cX1_gates.data.toList.drop 0 = dktX1_gates_0 := by decide +kernel
theorem dksX1_gates_1 : cX1_gates.data.toList.drop 24 = dktX1_gates_1 := dk_seg dksX1_gates_0 24 rfl rfl
theorem dksX1_gates_2 : cX1_gates.data.toList.drop 46 = dktX1_gates_2 := dk_seg dksX1_gates_1 22 rfl rfl
theorem dX1_gates_0 : decode cX1_gates 0 = .ok (.iload_n 1, 1) := dk_27 (dk_at dksX1_gates_0 0 rfl rfl)
theorem dX1_gates_1 : decode cX1_gates 1 = .ok (.invokestatic 106, 3) := dk_184 0 106 (dk_at dksX1_gates_0 1 rfl rfl)
theorem dX1_gates_4 : decode cX1_gates 4 = .ok (.ifCond .eq 14, 3) := dk_153 0 14 (dk_at dksX1_gates_0 4 rfl rfl)
theorem dX1_gates_7 : decode cX1_gates 7 = .ok (.iload_n 2, 1) := dk_28 (dk_at dksX1_gates_0 7 rfl rfl)
theorem dX1_gates_8 : decode cX1_gates 8 = .ok (.invokestatic 106, 3) := dk_184 0 106 (dk_at dksX1_gates_0 8 rfl rfl)
theorem dX1_gates_11 : decode cX1_gates 11 = .ok (.ifCond .eq 7, 3) := dk_153 0 7 (dk_at dksX1_gates_0 11 rfl rfl)
theorem dX1_gates_14 : decode cX1_gates 14 = .ok (.iconst 1, 1) := dk_4 (dk_at dksX1_gates_0 14 rfl rfl)
theorem dX1_gates_15 : decode cX1_gates 15 = .ok (.goto 4, 3) := dk_167 0 4 (dk_at dksX1_gates_0 15 rfl rfl)
theorem dX1_gates_18 : decode cX1_gates 18 = .ok (.iconst 0, 1) := dk_3 (dk_at dksX1_gates_0 18 rfl rfl)
theorem dX1_gates_19 : decode cX1_gates 19 = .ok (.invokestatic 110, 3) := dk_184 0 110 (dk_at dksX1_gates_0 19 rfl rfl)
theorem dX1_gates_22 : decode cX1_gates 22 = .ok (.aload_n 0, 1) := dk_42 (dk_at dksX1_gates_0 22 rfl rfl)
theorem dX1_gates_23 : decode cX1_gates 23 = .ok (.iload_n 1, 1) := dk_27 (dk_at dksX1_gates_0 23 rfl rfl)
theorem dX1_gates_24 : decode cX1_gates 24 = .ok (.putfield 69, 3) := dk_181 0 69 (dk_at dksX1_gates_1 0 rfl rfl)
theorem dX1_gates_27 : decode cX1_gates 27 = .ok (.aload_n 0, 1) := dk_42 (dk_at dksX1_gates_1 3 rfl rfl)
theorem dX1_gates_28 : decode cX1_gates 28 = .ok (.iload_n 2, 1) := dk_28 (dk_at dksX1_gates_1 4 rfl rfl)
theorem dX1_gates_29 : decode cX1_gates 29 = .ok (.putfield 73, 3) := dk_181 0 73 (dk_at dksX1_gates_1 5 rfl rfl)
theorem dX1_gates_32 : decode cX1_gates 32 = .ok (.aload_n 0, 1) := dk_42 (dk_at dksX1_gates_1 8 rfl rfl)
theorem dX1_gates_33 : decode cX1_gates 33 = .ok (.getfield 28, 3) := dk_180 0 28 (dk_at dksX1_gates_1 9 rfl rfl)
theorem dX1_gates_36 : decode cX1_gates 36 = .ok (.invokevirtual 79, 3) := dk_182 0 79 (dk_at dksX1_gates_1 12 rfl rfl)
theorem dX1_gates_39 : decode cX1_gates 39 = .ok (.ifCond .eq 22, 3) := dk_153 0 22 (dk_at dksX1_gates_1 15 rfl rfl)
theorem dX1_gates_42 : decode cX1_gates 42 = .ok (.aload_n 0, 1) := dk_42 (dk_at dksX1_gates_1 18 rfl rfl)
theorem dX1_gates_43 : decode cX1_gates 43 = .ok (.getfield 28, 3) := dk_180 0 28 (dk_at dksX1_gates_1 19 rfl rfl)
theorem dX1_gates_46 : decode cX1_gates 46 = .ok (.invokevirtual 83, 3) := dk_182 0 83 (dk_at dksX1_gates_2 0 rfl rfl)
theorem dX1_gates_49 : decode cX1_gates 49 = .ok (.checkcast 87, 3) := dk_192 0 87 (dk_at dksX1_gates_2 3 rfl rfl)
theorem dX1_gates_52 : decode cX1_gates 52 = .ok (.getstatic 143, 3) := dk_178 0 143 (dk_at dksX1_gates_2 6 rfl rfl)
theorem dX1_gates_55 : decode cX1_gates 55 = .ok (.invokevirtual 153, 3) := dk_182 0 153 (dk_at dksX1_gates_2 9 rfl rfl)
theorem dX1_gates_58 : decode cX1_gates 58 = .ok (.goto 4, 3) := dk_167 0 4 (dk_at dksX1_gates_2 12 rfl rfl)
theorem dX1_gates_61 : decode cX1_gates 61 = .ok (.iconst 0, 1) := dk_3 (dk_at dksX1_gates_2 15 rfl rfl)
theorem dX1_gates_62 : decode cX1_gates 62 = .ok (.ireturn, 1) := dk_172 (dk_at dksX1_gates_2 16 rfl rfl)
abbrev cX1_isMinute : ByteArray := prog_1_method_5_code
def yX1_isMinute : MethodName := ⟨RX1, "isMinute", "(I)Z"⟩
def dkwX1_isMinute_0 : List UInt8 := [3, 17, 0, 239, 26, 184, 0, 15, 172]
abbrev dktX1_isMinute_0 : List UInt8 := dkwX1_isMinute_0 ++ []
theorem dksX1_isMinute_0 : cX1_isMinute.data.toList.drop 0 = dktX1_isMinute_0 := by decide +kernel
theorem dX1_isMinute_0 : decode cX1_isMinute 0 = .ok (.iconst 0, 1) := dk_3 (dk_at dksX1_isMinute_0 0 rfl rfl)
theorem dX1_isMinute_1 : decode cX1_isMinute 1 = .ok (.sipush 239, 3) := dk_17 0 239 (dk_at dksX1_isMinute_0 1 rfl rfl)
theorem dX1_isMinute_4 : decode cX1_isMinute 4 = .ok (.iload_n 0, 1) := dk_26 (dk_at dksX1_isMinute_0 4 rfl rfl)
theorem dX1_isMinute_5 : decode cX1_isMinute 5 = .ok (.invokestatic 15, 3) := dk_184 0 15 (dk_at dksX1_isMinute_0 5 rfl rfl)
theorem dX1_isMinute_8 : decode cX1_isMinute 8 = .ok (.ireturn, 1) := dk_172 (dk_at dksX1_isMinute_0 8 rfl rfl)
abbrev cX1_lamp : ByteArray := prog_1_method_18_code
def yX1_lamp : MethodName := ⟨RX1, "lamp", "(II)I"⟩
def dkwX1_lamp_2 : List UInt8 := [187, 0, 168, 89, 27, 28, 183, 0, 201, 182, 0, 202, 87, 42, 180, 0, 35, 182, 0, 98, 4, 100, 172]
abbrev dktX1_lamp_2 : List UInt8 := dkwX1_lamp_2 ++ []
def dkwX1_lamp_1 : List UInt8 := [162, 0, 15, 45, 27, 182, 0, 198, 154, 0, 7, 4, 167, 0, 4, 3, 184, 0, 189, 42, 180, 0, 35]
abbrev dktX1_lamp_1 : List UInt8 := dkwX1_lamp_1 ++ dktX1_lamp_2
def dkwX1_lamp_0 : List UInt8 := [42, 27, 182, 0, 182, 78, 4, 7, 28, 184, 0, 15, 184, 0, 110, 42, 180, 0, 35, 182, 0, 98, 16, 6]
abbrev dktX1_lamp_0 : List UInt8 := dkwX1_lamp_0 ++ dktX1_lamp_1
theorem dksX1_lamp_0 : cX1_lamp.data.toList.drop 0 = dktX1_lamp_0 := by decide +kernel
theorem dksX1_lamp_1 : cX1_lamp.data.toList.drop 24 = dktX1_lamp_1 := dk_seg dksX1_lamp_0 24 rfl rfl
theorem dksX1_lamp_2 : cX1_lamp.data.toList.drop 47 = dktX1_lamp_2 := dk_seg dksX1_lamp_1 23 rfl rfl
theorem dX1_lamp_0 : decode cX1_lamp 0 = .ok (.aload_n 0, 1) := dk_42 (dk_at dksX1_lamp_0 0 rfl rfl)
theorem dX1_lamp_1 : decode cX1_lamp 1 = .ok (.iload_n 1, 1) := dk_27 (dk_at dksX1_lamp_0 1 rfl rfl)
theorem dX1_lamp_2 : decode cX1_lamp 2 = .ok (.invokevirtual 182, 3) := dk_182 0 182 (dk_at dksX1_lamp_0 2 rfl rfl)
theorem dX1_lamp_5 : decode cX1_lamp 5 = .ok (.astore_n 3, 1) := dk_78 (dk_at dksX1_lamp_0 5 rfl rfl)
theorem dX1_lamp_6 : decode cX1_lamp 6 = .ok (.iconst 1, 1) := dk_4 (dk_at dksX1_lamp_0 6 rfl rfl)
theorem dX1_lamp_7 : decode cX1_lamp 7 = .ok (.iconst 4, 1) := dk_7 (dk_at dksX1_lamp_0 7 rfl rfl)
theorem dX1_lamp_8 : decode cX1_lamp 8 = .ok (.iload_n 2, 1) := dk_28 (dk_at dksX1_lamp_0 8 rfl rfl)
theorem dX1_lamp_9 : decode cX1_lamp 9 = .ok (.invokestatic 15, 3) := dk_184 0 15 (dk_at dksX1_lamp_0 9 rfl rfl)
theorem dX1_lamp_12 : decode cX1_lamp 12 = .ok (.invokestatic 110, 3) := dk_184 0 110 (dk_at dksX1_lamp_0 12 rfl rfl)
theorem dX1_lamp_15 : decode cX1_lamp 15 = .ok (.aload_n 0, 1) := dk_42 (dk_at dksX1_lamp_0 15 rfl rfl)
theorem dX1_lamp_16 : decode cX1_lamp 16 = .ok (.getfield 35, 3) := dk_180 0 35 (dk_at dksX1_lamp_0 16 rfl rfl)
theorem dX1_lamp_19 : decode cX1_lamp 19 = .ok (.invokevirtual 98, 3) := dk_182 0 98 (dk_at dksX1_lamp_0 19 rfl rfl)
theorem dX1_lamp_22 : decode cX1_lamp 22 = .ok (.bipush 6, 2) := dk_16 6 (dk_at dksX1_lamp_0 22 rfl rfl)
theorem dX1_lamp_24 : decode cX1_lamp 24 = .ok (.if_icmp .ge 15, 3) := dk_162 0 15 (dk_at dksX1_lamp_1 0 rfl rfl)
theorem dX1_lamp_27 : decode cX1_lamp 27 = .ok (.aload_n 3, 1) := dk_45 (dk_at dksX1_lamp_1 3 rfl rfl)
theorem dX1_lamp_28 : decode cX1_lamp 28 = .ok (.iload_n 1, 1) := dk_27 (dk_at dksX1_lamp_1 4 rfl rfl)
theorem dX1_lamp_29 : decode cX1_lamp 29 = .ok (.invokevirtual 198, 3) := dk_182 0 198 (dk_at dksX1_lamp_1 5 rfl rfl)
theorem dX1_lamp_32 : decode cX1_lamp 32 = .ok (.ifCond .ne 7, 3) := dk_154 0 7 (dk_at dksX1_lamp_1 8 rfl rfl)
theorem dX1_lamp_35 : decode cX1_lamp 35 = .ok (.iconst 1, 1) := dk_4 (dk_at dksX1_lamp_1 11 rfl rfl)
theorem dX1_lamp_36 : decode cX1_lamp 36 = .ok (.goto 4, 3) := dk_167 0 4 (dk_at dksX1_lamp_1 12 rfl rfl)
theorem dX1_lamp_39 : decode cX1_lamp 39 = .ok (.iconst 0, 1) := dk_3 (dk_at dksX1_lamp_1 15 rfl rfl)
theorem dX1_lamp_40 : decode cX1_lamp 40 = .ok (.invokestatic 189, 3) := dk_184 0 189 (dk_at dksX1_lamp_1 16 rfl rfl)
theorem dX1_lamp_43 : decode cX1_lamp 43 = .ok (.aload_n 0, 1) := dk_42 (dk_at dksX1_lamp_1 19 rfl rfl)
theorem dX1_lamp_44 : decode cX1_lamp 44 = .ok (.getfield 35, 3) := dk_180 0 35 (dk_at dksX1_lamp_1 20 rfl rfl)
theorem dX1_lamp_47 : decode cX1_lamp 47 = .ok (.new 168, 3) := dk_187 0 168 (dk_at dksX1_lamp_2 0 rfl rfl)
theorem dX1_lamp_50 : decode cX1_lamp 50 = .ok (.dup, 1) := dk_89 (dk_at dksX1_lamp_2 3 rfl rfl)
theorem dX1_lamp_51 : decode cX1_lamp 51 = .ok (.iload_n 1, 1) := dk_27 (dk_at dksX1_lamp_2 4 rfl rfl)
theorem dX1_lamp_52 : decode cX1_lamp 52 = .ok (.iload_n 2, 1) := dk_28 (dk_at dksX1_lamp_2 5 rfl rfl)
theorem dX1_lamp_53 : decode cX1_lamp 53 = .ok (.invokespecial 201, 3) := dk_183 0 201 (dk_at dksX1_lamp_2 6 rfl rfl)
theorem dX1_lamp_56 : decode cX1_lamp 56 = .ok (.invokevirtual 202, 3) := dk_182 0 202 (dk_at dksX1_lamp_2 9 rfl rfl)
theorem dX1_lamp_59 : decode cX1_lamp 59 = .ok (.pop, 1) := dk_87 (dk_at dksX1_lamp_2 12 rfl rfl)
theorem dX1_lamp_60 : decode cX1_lamp 60 = .ok (.aload_n 0, 1) := dk_42 (dk_at dksX1_lamp_2 13 rfl rfl)
theorem dX1_lamp_61 : decode cX1_lamp 61 = .ok (.getfield 35, 3) := dk_180 0 35 (dk_at dksX1_lamp_2 14 rfl rfl)
theorem dX1_lamp_64 : decode cX1_lamp 64 = .ok (.invokevirtual 98, 3) := dk_182 0 98 (dk_at dksX1_lamp_2 17 rfl rfl)
theorem dX1_lamp_67 : decode cX1_lamp 67 = .ok (.iconst 1, 1) := dk_4 (dk_at dksX1_lamp_2 20 rfl rfl)
theorem dX1_lamp_68 : decode cX1_lamp 68 = .ok (.isub, 1) := dk_100 (dk_at dksX1_lamp_2 21 rfl rfl)
theorem dX1_lamp_69 : decode cX1_lamp 69 = .ok (.ireturn, 1) := dk_172 (dk_at dksX1_lamp_2 22 rfl rfl)
abbrev cX1_light : ByteArray := prog_1_method_19_code
def yX1_light : MethodName := ⟨RX1, "light", "(IZ)I"⟩
def dkwX1_light_1 : List UInt8 := [181, 0, 206, 42, 182, 0, 210, 172]
abbrev dktX1_light_1 : List UInt8 := dkwX1_light_1 ++ []
def dkwX1_light_0 : List UInt8 := [27, 42, 180, 0, 35, 182, 0, 98, 184, 0, 94, 42, 180, 0, 35, 27, 182, 0, 99, 192, 0, 168, 28]
abbrev dktX1_light_0 : List UInt8 := dkwX1_light_0 ++ dktX1_light_1
theorem dksX1_light_0 : cX1_light.data.toList.drop 0 = dktX1_light_0 := by decide +kernel
theorem dksX1_light_1 : cX1_light.data.toList.drop 23 = dktX1_light_1 := dk_seg dksX1_light_0 23 rfl rfl
theorem dX1_light_0 : decode cX1_light 0 = .ok (.iload_n 1, 1) := dk_27 (dk_at dksX1_light_0 0 rfl rfl)
theorem dX1_light_1 : decode cX1_light 1 = .ok (.aload_n 0, 1) := dk_42 (dk_at dksX1_light_0 1 rfl rfl)
theorem dX1_light_2 : decode cX1_light 2 = .ok (.getfield 35, 3) := dk_180 0 35 (dk_at dksX1_light_0 2 rfl rfl)
theorem dX1_light_5 : decode cX1_light 5 = .ok (.invokevirtual 98, 3) := dk_182 0 98 (dk_at dksX1_light_0 5 rfl rfl)
theorem dX1_light_8 : decode cX1_light 8 = .ok (.invokestatic 94, 3) := dk_184 0 94 (dk_at dksX1_light_0 8 rfl rfl)
theorem dX1_light_11 : decode cX1_light 11 = .ok (.aload_n 0, 1) := dk_42 (dk_at dksX1_light_0 11 rfl rfl)
theorem dX1_light_12 : decode cX1_light 12 = .ok (.getfield 35, 3) := dk_180 0 35 (dk_at dksX1_light_0 12 rfl rfl)
theorem dX1_light_15 : decode cX1_light 15 = .ok (.iload_n 1, 1) := dk_27 (dk_at dksX1_light_0 15 rfl rfl)
theorem dX1_light_16 : decode cX1_light 16 = .ok (.invokevirtual 99, 3) := dk_182 0 99 (dk_at dksX1_light_0 16 rfl rfl)
theorem dX1_light_19 : decode cX1_light 19 = .ok (.checkcast 168, 3) := dk_192 0 168 (dk_at dksX1_light_0 19 rfl rfl)
theorem dX1_light_22 : decode cX1_light 22 = .ok (.iload_n 2, 1) := dk_28 (dk_at dksX1_light_0 22 rfl rfl)
theorem dX1_light_23 : decode cX1_light 23 = .ok (.putfield 206, 3) := dk_181 0 206 (dk_at dksX1_light_1 0 rfl rfl)
theorem dX1_light_26 : decode cX1_light 26 = .ok (.aload_n 0, 1) := dk_42 (dk_at dksX1_light_1 3 rfl rfl)
theorem dX1_light_27 : decode cX1_light 27 = .ok (.invokevirtual 210, 3) := dk_182 0 210 (dk_at dksX1_light_1 4 rfl rfl)
theorem dX1_light_30 : decode cX1_light 30 = .ok (.ireturn, 1) := dk_172 (dk_at dksX1_light_1 7 rfl rfl)
abbrev cX1_fog : ByteArray := prog_1_method_20_code
def yX1_fog : MethodName := ⟨RX1, "fog", "(II)I"⟩
def dkwX1_fog_2 : List UInt8 := [187, 0, 213, 89, 27, 28, 183, 0, 215, 182, 0, 202, 87, 42, 180, 0, 39, 182, 0, 98, 172]
abbrev dktX1_fog_2 : List UInt8 := dkwX1_fog_2 ++ []
def dkwX1_fog_1 : List UInt8 := [42, 180, 0, 39, 182, 0, 98, 16, 8, 162, 0, 7, 4, 167, 0, 4, 3, 184, 0, 189, 42, 180, 0, 39]
abbrev dktX1_fog_1 : List UInt8 := dkwX1_fog_1 ++ dktX1_fog_2
def dkwX1_fog_0 : List UInt8 := [27, 184, 0, 106, 153, 0, 16, 3, 8, 28, 184, 0, 15, 153, 0, 7, 4, 167, 0, 4, 3, 184, 0, 110]
abbrev dktX1_fog_0 : List UInt8 := dkwX1_fog_0 ++ dktX1_fog_1
theorem dksX1_fog_0 : cX1_fog.data.toList.drop 0 = dktX1_fog_0 := by decide +kernel
theorem dksX1_fog_1 : cX1_fog.data.toList.drop 24 = dktX1_fog_1 := dk_seg dksX1_fog_0 24 rfl rfl
theorem dksX1_fog_2 : cX1_fog.data.toList.drop 48 = dktX1_fog_2 := dk_seg dksX1_fog_1 24 rfl rfl
theorem dX1_fog_0 : decode cX1_fog 0 = .ok (.iload_n 1, 1) := dk_27 (dk_at dksX1_fog_0 0 rfl rfl)
theorem dX1_fog_1 : decode cX1_fog 1 = .ok (.invokestatic 106, 3) := dk_184 0 106 (dk_at dksX1_fog_0 1 rfl rfl)
theorem dX1_fog_4 : decode cX1_fog 4 = .ok (.ifCond .eq 16, 3) := dk_153 0 16 (dk_at dksX1_fog_0 4 rfl rfl)
theorem dX1_fog_7 : decode cX1_fog 7 = .ok (.iconst 0, 1) := dk_3 (dk_at dksX1_fog_0 7 rfl rfl)
theorem dX1_fog_8 : decode cX1_fog 8 = .ok (.iconst 5, 1) := dk_8 (dk_at dksX1_fog_0 8 rfl rfl)
theorem dX1_fog_9 : decode cX1_fog 9 = .ok (.iload_n 2, 1) := dk_28 (dk_at dksX1_fog_0 9 rfl rfl)
theorem dX1_fog_10 : decode cX1_fog 10 = .ok (.invokestatic 15, 3) := dk_184 0 15 (dk_at dksX1_fog_0 10 rfl rfl)
theorem dX1_fog_13 : decode cX1_fog 13 = .ok (.ifCond .eq 7, 3) := dk_153 0 7 (dk_at dksX1_fog_0 13 rfl rfl)
theorem dX1_fog_16 : decode cX1_fog 16 = .ok (.iconst 1, 1) := dk_4 (dk_at dksX1_fog_0 16 rfl rfl)
theorem dX1_fog_17 : decode cX1_fog 17 = .ok (.goto 4, 3) := dk_167 0 4 (dk_at dksX1_fog_0 17 rfl rfl)
theorem dX1_fog_20 : decode cX1_fog 20 = .ok (.iconst 0, 1) := dk_3 (dk_at dksX1_fog_0 20 rfl rfl)
theorem dX1_fog_21 : decode cX1_fog 21 = .ok (.invokestatic 110, 3) := dk_184 0 110 (dk_at dksX1_fog_0 21 rfl rfl)
theorem dX1_fog_24 : decode cX1_fog 24 = .ok (.aload_n 0, 1) := dk_42 (dk_at dksX1_fog_1 0 rfl rfl)
theorem dX1_fog_25 : decode cX1_fog 25 = .ok (.getfield 39, 3) := dk_180 0 39 (dk_at dksX1_fog_1 1 rfl rfl)
theorem dX1_fog_28 : decode cX1_fog 28 = .ok (.invokevirtual 98, 3) := dk_182 0 98 (dk_at dksX1_fog_1 4 rfl rfl)
theorem dX1_fog_31 : decode cX1_fog 31 = .ok (.bipush 8, 2) := dk_16 8 (dk_at dksX1_fog_1 7 rfl rfl)
theorem dX1_fog_33 : decode cX1_fog 33 = .ok (.if_icmp .ge 7, 3) := dk_162 0 7 (dk_at dksX1_fog_1 9 rfl rfl)
theorem dX1_fog_36 : decode cX1_fog 36 = .ok (.iconst 1, 1) := dk_4 (dk_at dksX1_fog_1 12 rfl rfl)
theorem dX1_fog_37 : decode cX1_fog 37 = .ok (.goto 4, 3) := dk_167 0 4 (dk_at dksX1_fog_1 13 rfl rfl)
theorem dX1_fog_40 : decode cX1_fog 40 = .ok (.iconst 0, 1) := dk_3 (dk_at dksX1_fog_1 16 rfl rfl)
theorem dX1_fog_41 : decode cX1_fog 41 = .ok (.invokestatic 189, 3) := dk_184 0 189 (dk_at dksX1_fog_1 17 rfl rfl)
theorem dX1_fog_44 : decode cX1_fog 44 = .ok (.aload_n 0, 1) := dk_42 (dk_at dksX1_fog_1 20 rfl rfl)
theorem dX1_fog_45 : decode cX1_fog 45 = .ok (.getfield 39, 3) := dk_180 0 39 (dk_at dksX1_fog_1 21 rfl rfl)
theorem dX1_fog_48 : decode cX1_fog 48 = .ok (.new 213, 3) := dk_187 0 213 (dk_at dksX1_fog_2 0 rfl rfl)
theorem dX1_fog_51 : decode cX1_fog 51 = .ok (.dup, 1) := dk_89 (dk_at dksX1_fog_2 3 rfl rfl)
theorem dX1_fog_52 : decode cX1_fog 52 = .ok (.iload_n 1, 1) := dk_27 (dk_at dksX1_fog_2 4 rfl rfl)
theorem dX1_fog_53 : decode cX1_fog 53 = .ok (.iload_n 2, 1) := dk_28 (dk_at dksX1_fog_2 5 rfl rfl)
theorem dX1_fog_54 : decode cX1_fog 54 = .ok (.invokespecial 215, 3) := dk_183 0 215 (dk_at dksX1_fog_2 6 rfl rfl)
theorem dX1_fog_57 : decode cX1_fog 57 = .ok (.invokevirtual 202, 3) := dk_182 0 202 (dk_at dksX1_fog_2 9 rfl rfl)
theorem dX1_fog_60 : decode cX1_fog 60 = .ok (.pop, 1) := dk_87 (dk_at dksX1_fog_2 12 rfl rfl)
theorem dX1_fog_61 : decode cX1_fog 61 = .ok (.aload_n 0, 1) := dk_42 (dk_at dksX1_fog_2 13 rfl rfl)
theorem dX1_fog_62 : decode cX1_fog 62 = .ok (.getfield 39, 3) := dk_180 0 39 (dk_at dksX1_fog_2 14 rfl rfl)
theorem dX1_fog_65 : decode cX1_fog 65 = .ok (.invokevirtual 98, 3) := dk_182 0 98 (dk_at dksX1_fog_2 17 rfl rfl)
theorem dX1_fog_68 : decode cX1_fog 68 = .ok (.ireturn, 1) := dk_172 (dk_at dksX1_fog_2 20 rfl rfl)
abbrev cX1_guard : ByteArray := prog_1_method_24_code
def yX1_guard : MethodName := ⟨RX1, "guard", "(IIII)I"⟩
def dkwX1_guard_4 : List UInt8 := [42, 180, 0, 42, 182, 0, 98, 4, 100, 172]
abbrev dktX1_guard_4 : List UInt8 := dkwX1_guard_4 ++ []
def dkwX1_guard_3 : List UInt8 := [3, 184, 0, 189, 42, 180, 0, 42, 187, 0, 102, 89, 27, 28, 29, 21, 4, 183, 0, 229, 182, 0, 202, 87]
abbrev dktX1_guard_3 : List UInt8 := dkwX1_guard_3 ++ dktX1_guard_4
def dkwX1_guard_2 : List UInt8 := [180, 0, 42, 182, 0, 98, 16, 6, 162, 0, 16, 25, 5, 27, 182, 0, 198, 154, 0, 7, 4, 167, 0, 4]
abbrev dktX1_guard_2 : List UInt8 := dkwX1_guard_2 ++ dktX1_guard_3
def dkwX1_guard_1 : List UInt8 := [163, 0, 18, 4, 16, 20, 21, 4, 184, 0, 15, 153, 0, 7, 4, 167, 0, 4, 3, 184, 0, 110, 42]
abbrev dktX1_guard_1 : List UInt8 := dkwX1_guard_1 ++ dktX1_guard_2
def dkwX1_guard_0 : List UInt8 := [42, 27, 182, 0, 182, 58, 5, 28, 184, 0, 106, 153, 0, 30, 29, 184, 0, 106, 153, 0, 23, 28, 29]
abbrev dktX1_guard_0 : List UInt8 := dkwX1_guard_0 ++ dktX1_guard_1
theorem dksX1_guard_0 : cX1_guard.data.toList.drop 0 = dktX1_guard_0 := by decide +kernel
theorem dksX1_guard_1 : cX1_guard.data.toList.drop 23 = dktX1_guard_1 := dk_seg dksX1_guard_0 23 rfl rfl
theorem dksX1_guard_2 : cX1_guard.data.toList.drop 46 = dktX1_guard_2 := dk_seg dksX1_guard_1 23 rfl rfl
theorem dksX1_guard_3 : cX1_guard.data.toList.drop 70 = dktX1_guard_3 := dk_seg dksX1_guard_2 24 rfl rfl
theorem dksX1_guard_4 : cX1_guard.data.toList.drop 94 = dktX1_guard_4 := dk_seg dksX1_guard_3 24 rfl rfl
theorem dX1_guard_0 : decode cX1_guard 0 = .ok (.aload_n 0, 1) := dk_42 (dk_at dksX1_guard_0 0 rfl rfl)
theorem dX1_guard_1 : decode cX1_guard 1 = .ok (.iload_n 1, 1) := dk_27 (dk_at dksX1_guard_0 1 rfl rfl)
theorem dX1_guard_2 : decode cX1_guard 2 = .ok (.invokevirtual 182, 3) := dk_182 0 182 (dk_at dksX1_guard_0 2 rfl rfl)
theorem dX1_guard_5 : decode cX1_guard 5 = .ok (.astore 5, 2) := dk_58 5 (dk_at dksX1_guard_0 5 rfl rfl)
theorem dX1_guard_7 : decode cX1_guard 7 = .ok (.iload_n 2, 1) := dk_28 (dk_at dksX1_guard_0 7 rfl rfl)
theorem dX1_guard_8 : decode cX1_guard 8 = .ok (.invokestatic 106, 3) := dk_184 0 106 (dk_at dksX1_guard_0 8 rfl rfl)
theorem dX1_guard_11 : decode cX1_guard 11 = .ok (.ifCond .eq 30, 3) := dk_153 0 30 (dk_at dksX1_guard_0 11 rfl rfl)
theorem dX1_guard_14 : decode cX1_guard 14 = .ok (.iload_n 3, 1) := dk_29 (dk_at dksX1_guard_0 14 rfl rfl)
theorem dX1_guard_15 : decode cX1_guard 15 = .ok (.invokestatic 106, 3) := dk_184 0 106 (dk_at dksX1_guard_0 15 rfl rfl)
theorem dX1_guard_18 : decode cX1_guard 18 = .ok (.ifCond .eq 23, 3) := dk_153 0 23 (dk_at dksX1_guard_0 18 rfl rfl)
theorem dX1_guard_21 : decode cX1_guard 21 = .ok (.iload_n 2, 1) := dk_28 (dk_at dksX1_guard_0 21 rfl rfl)
theorem dX1_guard_22 : decode cX1_guard 22 = .ok (.iload_n 3, 1) := dk_29 (dk_at dksX1_guard_0 22 rfl rfl)
theorem dX1_guard_23 : decode cX1_guard 23 = .ok (.if_icmp .gt 18, 3) := dk_163 0 18 (dk_at dksX1_guard_1 0 rfl rfl)
theorem dX1_guard_26 : decode cX1_guard 26 = .ok (.iconst 1, 1) := dk_4 (dk_at dksX1_guard_1 3 rfl rfl)
theorem dX1_guard_27 : decode cX1_guard 27 = .ok (.bipush 20, 2) := dk_16 20 (dk_at dksX1_guard_1 4 rfl rfl)
theorem dX1_guard_29 : decode cX1_guard 29 = .ok (.iload 4, 2) := dk_21 4 (dk_at dksX1_guard_1 6 rfl rfl)
theorem dX1_guard_31 : decode cX1_guard 31 = .ok (.invokestatic 15, 3) := dk_184 0 15 (dk_at dksX1_guard_1 8 rfl rfl)
theorem dX1_guard_34 : decode cX1_guard 34 = .ok (.ifCond .eq 7, 3) := dk_153 0 7 (dk_at dksX1_guard_1 11 rfl rfl)
theorem dX1_guard_37 : decode cX1_guard 37 = .ok (.iconst 1, 1) := dk_4 (dk_at dksX1_guard_1 14 rfl rfl)
theorem dX1_guard_38 : decode cX1_guard 38 = .ok (.goto 4, 3) := dk_167 0 4 (dk_at dksX1_guard_1 15 rfl rfl)
theorem dX1_guard_41 : decode cX1_guard 41 = .ok (.iconst 0, 1) := dk_3 (dk_at dksX1_guard_1 18 rfl rfl)
theorem dX1_guard_42 : decode cX1_guard 42 = .ok (.invokestatic 110, 3) := dk_184 0 110 (dk_at dksX1_guard_1 19 rfl rfl)
theorem dX1_guard_45 : decode cX1_guard 45 = .ok (.aload_n 0, 1) := dk_42 (dk_at dksX1_guard_1 22 rfl rfl)
theorem dX1_guard_46 : decode cX1_guard 46 = .ok (.getfield 42, 3) := dk_180 0 42 (dk_at dksX1_guard_2 0 rfl rfl)
theorem dX1_guard_49 : decode cX1_guard 49 = .ok (.invokevirtual 98, 3) := dk_182 0 98 (dk_at dksX1_guard_2 3 rfl rfl)
theorem dX1_guard_52 : decode cX1_guard 52 = .ok (.bipush 6, 2) := dk_16 6 (dk_at dksX1_guard_2 6 rfl rfl)
theorem dX1_guard_54 : decode cX1_guard 54 = .ok (.if_icmp .ge 16, 3) := dk_162 0 16 (dk_at dksX1_guard_2 8 rfl rfl)
theorem dX1_guard_57 : decode cX1_guard 57 = .ok (.aload 5, 2) := dk_25 5 (dk_at dksX1_guard_2 11 rfl rfl)
theorem dX1_guard_59 : decode cX1_guard 59 = .ok (.iload_n 1, 1) := dk_27 (dk_at dksX1_guard_2 13 rfl rfl)
theorem dX1_guard_60 : decode cX1_guard 60 = .ok (.invokevirtual 198, 3) := dk_182 0 198 (dk_at dksX1_guard_2 14 rfl rfl)
theorem dX1_guard_63 : decode cX1_guard 63 = .ok (.ifCond .ne 7, 3) := dk_154 0 7 (dk_at dksX1_guard_2 17 rfl rfl)
theorem dX1_guard_66 : decode cX1_guard 66 = .ok (.iconst 1, 1) := dk_4 (dk_at dksX1_guard_2 20 rfl rfl)
theorem dX1_guard_67 : decode cX1_guard 67 = .ok (.goto 4, 3) := dk_167 0 4 (dk_at dksX1_guard_2 21 rfl rfl)
theorem dX1_guard_70 : decode cX1_guard 70 = .ok (.iconst 0, 1) := dk_3 (dk_at dksX1_guard_3 0 rfl rfl)
theorem dX1_guard_71 : decode cX1_guard 71 = .ok (.invokestatic 189, 3) := dk_184 0 189 (dk_at dksX1_guard_3 1 rfl rfl)
theorem dX1_guard_74 : decode cX1_guard 74 = .ok (.aload_n 0, 1) := dk_42 (dk_at dksX1_guard_3 4 rfl rfl)
theorem dX1_guard_75 : decode cX1_guard 75 = .ok (.getfield 42, 3) := dk_180 0 42 (dk_at dksX1_guard_3 5 rfl rfl)
theorem dX1_guard_78 : decode cX1_guard 78 = .ok (.new 102, 3) := dk_187 0 102 (dk_at dksX1_guard_3 8 rfl rfl)
theorem dX1_guard_81 : decode cX1_guard 81 = .ok (.dup, 1) := dk_89 (dk_at dksX1_guard_3 11 rfl rfl)
theorem dX1_guard_82 : decode cX1_guard 82 = .ok (.iload_n 1, 1) := dk_27 (dk_at dksX1_guard_3 12 rfl rfl)
theorem dX1_guard_83 : decode cX1_guard 83 = .ok (.iload_n 2, 1) := dk_28 (dk_at dksX1_guard_3 13 rfl rfl)
theorem dX1_guard_84 : decode cX1_guard 84 = .ok (.iload_n 3, 1) := dk_29 (dk_at dksX1_guard_3 14 rfl rfl)
theorem dX1_guard_85 : decode cX1_guard 85 = .ok (.iload 4, 2) := dk_21 4 (dk_at dksX1_guard_3 15 rfl rfl)
theorem dX1_guard_87 : decode cX1_guard 87 = .ok (.invokespecial 229, 3) := dk_183 0 229 (dk_at dksX1_guard_3 17 rfl rfl)
theorem dX1_guard_90 : decode cX1_guard 90 = .ok (.invokevirtual 202, 3) := dk_182 0 202 (dk_at dksX1_guard_3 20 rfl rfl)
theorem dX1_guard_93 : decode cX1_guard 93 = .ok (.pop, 1) := dk_87 (dk_at dksX1_guard_3 23 rfl rfl)
theorem dX1_guard_94 : decode cX1_guard 94 = .ok (.aload_n 0, 1) := dk_42 (dk_at dksX1_guard_4 0 rfl rfl)
theorem dX1_guard_95 : decode cX1_guard 95 = .ok (.getfield 42, 3) := dk_180 0 42 (dk_at dksX1_guard_4 1 rfl rfl)
theorem dX1_guard_98 : decode cX1_guard 98 = .ok (.invokevirtual 98, 3) := dk_182 0 98 (dk_at dksX1_guard_4 4 rfl rfl)
theorem dX1_guard_101 : decode cX1_guard 101 = .ok (.iconst 1, 1) := dk_4 (dk_at dksX1_guard_4 7 rfl rfl)
theorem dX1_guard_102 : decode cX1_guard 102 = .ok (.isub, 1) := dk_100 (dk_at dksX1_guard_4 8 rfl rfl)
theorem dX1_guard_103 : decode cX1_guard 103 = .ok (.ireturn, 1) := dk_172 (dk_at dksX1_guard_4 9 rfl rfl)
abbrev cX1_round : ByteArray := prog_1_method_25_code
def yX1_round : MethodName := ⟨RX1, "round", "(II)I"⟩
def dkwX1_round_2 : List UInt8 := [28, 184, 0, 239, 182, 0, 202, 87, 45, 180, 0, 236, 182, 0, 98, 172]
abbrev dktX1_round_2 : List UInt8 := dkwX1_round_2 ++ []
def dkwX1_round_1 : List UInt8 := [162, 0, 16, 25, 4, 28, 182, 0, 198, 154, 0, 7, 4, 167, 0, 4, 3, 184, 0, 189, 45, 180, 0, 236]
abbrev dktX1_round_1 : List UInt8 := dkwX1_round_1 ++ dktX1_round_2
def dkwX1_round_0 : List UInt8 := [42, 27, 182, 0, 232, 78, 42, 28, 182, 0, 182, 58, 4, 45, 180, 0, 236, 182, 0, 98, 16, 6]
abbrev dktX1_round_0 : List UInt8 := dkwX1_round_0 ++ dktX1_round_1
theorem dksX1_round_0 : cX1_round.data.toList.drop 0 = dktX1_round_0 := by decide +kernel
theorem dksX1_round_1 : cX1_round.data.toList.drop 22 = dktX1_round_1 := dk_seg dksX1_round_0 22 rfl rfl
theorem dksX1_round_2 : cX1_round.data.toList.drop 46 = dktX1_round_2 := dk_seg dksX1_round_1 24 rfl rfl
theorem dX1_round_0 : decode cX1_round 0 = .ok (.aload_n 0, 1) := dk_42 (dk_at dksX1_round_0 0 rfl rfl)
theorem dX1_round_1 : decode cX1_round 1 = .ok (.iload_n 1, 1) := dk_27 (dk_at dksX1_round_0 1 rfl rfl)
theorem dX1_round_2 : decode cX1_round 2 = .ok (.invokevirtual 232, 3) := dk_182 0 232 (dk_at dksX1_round_0 2 rfl rfl)
theorem dX1_round_5 : decode cX1_round 5 = .ok (.astore_n 3, 1) := dk_78 (dk_at dksX1_round_0 5 rfl rfl)
theorem dX1_round_6 : decode cX1_round 6 = .ok (.aload_n 0, 1) := dk_42 (dk_at dksX1_round_0 6 rfl rfl)
theorem dX1_round_7 : decode cX1_round 7 = .ok (.iload_n 2, 1) := dk_28 (dk_at dksX1_round_0 7 rfl rfl)
theorem dX1_round_8 : decode cX1_round 8 = .ok (.invokevirtual 182, 3) := dk_182 0 182 (dk_at dksX1_round_0 8 rfl rfl)
theorem dX1_round_11 : decode cX1_round 11 = .ok (.astore 4, 2) := dk_58 4 (dk_at dksX1_round_0 11 rfl rfl)
theorem dX1_round_13 : decode cX1_round 13 = .ok (.aload_n 3, 1) := dk_45 (dk_at dksX1_round_0 13 rfl rfl)
theorem dX1_round_14 : decode cX1_round 14 = .ok (.getfield 236, 3) := dk_180 0 236 (dk_at dksX1_round_0 14 rfl rfl)
theorem dX1_round_17 : decode cX1_round 17 = .ok (.invokevirtual 98, 3) := dk_182 0 98 (dk_at dksX1_round_0 17 rfl rfl)
theorem dX1_round_20 : decode cX1_round 20 = .ok (.bipush 6, 2) := dk_16 6 (dk_at dksX1_round_0 20 rfl rfl)
theorem dX1_round_22 : decode cX1_round 22 = .ok (.if_icmp .ge 16, 3) := dk_162 0 16 (dk_at dksX1_round_1 0 rfl rfl)
theorem dX1_round_25 : decode cX1_round 25 = .ok (.aload 4, 2) := dk_25 4 (dk_at dksX1_round_1 3 rfl rfl)
theorem dX1_round_27 : decode cX1_round 27 = .ok (.iload_n 2, 1) := dk_28 (dk_at dksX1_round_1 5 rfl rfl)
theorem dX1_round_28 : decode cX1_round 28 = .ok (.invokevirtual 198, 3) := dk_182 0 198 (dk_at dksX1_round_1 6 rfl rfl)
theorem dX1_round_31 : decode cX1_round 31 = .ok (.ifCond .ne 7, 3) := dk_154 0 7 (dk_at dksX1_round_1 9 rfl rfl)
theorem dX1_round_34 : decode cX1_round 34 = .ok (.iconst 1, 1) := dk_4 (dk_at dksX1_round_1 12 rfl rfl)
theorem dX1_round_35 : decode cX1_round 35 = .ok (.goto 4, 3) := dk_167 0 4 (dk_at dksX1_round_1 13 rfl rfl)
theorem dX1_round_38 : decode cX1_round 38 = .ok (.iconst 0, 1) := dk_3 (dk_at dksX1_round_1 16 rfl rfl)
theorem dX1_round_39 : decode cX1_round 39 = .ok (.invokestatic 189, 3) := dk_184 0 189 (dk_at dksX1_round_1 17 rfl rfl)
theorem dX1_round_42 : decode cX1_round 42 = .ok (.aload_n 3, 1) := dk_45 (dk_at dksX1_round_1 20 rfl rfl)
theorem dX1_round_43 : decode cX1_round 43 = .ok (.getfield 236, 3) := dk_180 0 236 (dk_at dksX1_round_1 21 rfl rfl)
theorem dX1_round_46 : decode cX1_round 46 = .ok (.iload_n 2, 1) := dk_28 (dk_at dksX1_round_2 0 rfl rfl)
theorem dX1_round_47 : decode cX1_round 47 = .ok (.invokestatic 239, 3) := dk_184 0 239 (dk_at dksX1_round_2 1 rfl rfl)
theorem dX1_round_50 : decode cX1_round 50 = .ok (.invokevirtual 202, 3) := dk_182 0 202 (dk_at dksX1_round_2 4 rfl rfl)
theorem dX1_round_53 : decode cX1_round 53 = .ok (.pop, 1) := dk_87 (dk_at dksX1_round_2 7 rfl rfl)
theorem dX1_round_54 : decode cX1_round 54 = .ok (.aload_n 3, 1) := dk_45 (dk_at dksX1_round_2 8 rfl rfl)
theorem dX1_round_55 : decode cX1_round 55 = .ok (.getfield 236, 3) := dk_180 0 236 (dk_at dksX1_round_2 9 rfl rfl)
theorem dX1_round_58 : decode cX1_round 58 = .ok (.invokevirtual 98, 3) := dk_182 0 98 (dk_at dksX1_round_2 12 rfl rfl)
theorem dX1_round_61 : decode cX1_round 61 = .ok (.ireturn, 1) := dk_172 (dk_at dksX1_round_2 15 rfl rfl)
abbrev cX1_guardAt : ByteArray := prog_1_method_11_code
def yX1_guardAt : MethodName := ⟨RX1, "guardAt", "(I)LNightwatchWall$Guard;"⟩
def dkwX1_guardAt_0 : List UInt8 := [27, 42, 180, 0, 42, 182, 0, 98, 184, 0, 94, 42, 180, 0, 42, 27, 182, 0, 99, 192, 0, 102, 176]
abbrev dktX1_guardAt_0 : List UInt8 := dkwX1_guardAt_0 ++ []
theorem dksX1_guardAt_0 : cX1_guardAt.data.toList.drop 0 = dktX1_guardAt_0 := by decide +kernel
theorem dX1_guardAt_0 : decode cX1_guardAt 0 = .ok (.iload_n 1, 1) := dk_27 (dk_at dksX1_guardAt_0 0 rfl rfl)
theorem dX1_guardAt_1 : decode cX1_guardAt 1 = .ok (.aload_n 0, 1) := dk_42 (dk_at dksX1_guardAt_0 1 rfl rfl)
theorem dX1_guardAt_2 : decode cX1_guardAt 2 = .ok (.getfield 42, 3) := dk_180 0 42 (dk_at dksX1_guardAt_0 2 rfl rfl)
theorem dX1_guardAt_5 : decode cX1_guardAt 5 = .ok (.invokevirtual 98, 3) := dk_182 0 98 (dk_at dksX1_guardAt_0 5 rfl rfl)
theorem dX1_guardAt_8 : decode cX1_guardAt 8 = .ok (.invokestatic 94, 3) := dk_184 0 94 (dk_at dksX1_guardAt_0 8 rfl rfl)
theorem dX1_guardAt_11 : decode cX1_guardAt 11 = .ok (.aload_n 0, 1) := dk_42 (dk_at dksX1_guardAt_0 11 rfl rfl)
theorem dX1_guardAt_12 : decode cX1_guardAt 12 = .ok (.getfield 42, 3) := dk_180 0 42 (dk_at dksX1_guardAt_0 12 rfl rfl)
theorem dX1_guardAt_15 : decode cX1_guardAt 15 = .ok (.iload_n 1, 1) := dk_27 (dk_at dksX1_guardAt_0 15 rfl rfl)
theorem dX1_guardAt_16 : decode cX1_guardAt 16 = .ok (.invokevirtual 99, 3) := dk_182 0 99 (dk_at dksX1_guardAt_0 16 rfl rfl)
theorem dX1_guardAt_19 : decode cX1_guardAt 19 = .ok (.checkcast 102, 3) := dk_192 0 102 (dk_at dksX1_guardAt_0 19 rfl rfl)
theorem dX1_guardAt_22 : decode cX1_guardAt 22 = .ok (.areturn, 1) := dk_176 (dk_at dksX1_guardAt_0 22 rfl rfl)
abbrev cX1_post : ByteArray := prog_1_method_26_code
def yX1_post : MethodName := ⟨RX1, "post", "(I)I"⟩
def dkwX1_post_2 : List UInt8 := [180, 0, 45, 182, 0, 98, 4, 100, 172]
abbrev dktX1_post_2 : List UInt8 := dkwX1_post_2 ++ []
def dkwX1_post_1 : List UInt8 := [154, 0, 7, 4, 167, 0, 4, 3, 184, 0, 189, 42, 180, 0, 45, 27, 184, 0, 239, 182, 0, 202, 87, 42]
abbrev dktX1_post_1 : List UInt8 := dkwX1_post_1 ++ dktX1_post_2
def dkwX1_post_0 : List UInt8 := [42, 27, 182, 0, 182, 77, 42, 180, 0, 45, 182, 0, 98, 7, 162, 0, 15, 44, 27, 182, 0, 198]
abbrev dktX1_post_0 : List UInt8 := dkwX1_post_0 ++ dktX1_post_1
theorem dksX1_post_0 : cX1_post.data.toList.drop 0 = dktX1_post_0 := by decide +kernel
theorem dksX1_post_1 : cX1_post.data.toList.drop 22 = dktX1_post_1 := dk_seg dksX1_post_0 22 rfl rfl
theorem dksX1_post_2 : cX1_post.data.toList.drop 46 = dktX1_post_2 := dk_seg dksX1_post_1 24 rfl rfl
theorem dX1_post_0 : decode cX1_post 0 = .ok (.aload_n 0, 1) := dk_42 (dk_at dksX1_post_0 0 rfl rfl)
theorem dX1_post_1 : decode cX1_post 1 = .ok (.iload_n 1, 1) := dk_27 (dk_at dksX1_post_0 1 rfl rfl)
theorem dX1_post_2 : decode cX1_post 2 = .ok (.invokevirtual 182, 3) := dk_182 0 182 (dk_at dksX1_post_0 2 rfl rfl)
theorem dX1_post_5 : decode cX1_post 5 = .ok (.astore_n 2, 1) := dk_77 (dk_at dksX1_post_0 5 rfl rfl)
theorem dX1_post_6 : decode cX1_post 6 = .ok (.aload_n 0, 1) := dk_42 (dk_at dksX1_post_0 6 rfl rfl)
theorem dX1_post_7 : decode cX1_post 7 = .ok (.getfield 45, 3) := dk_180 0 45 (dk_at dksX1_post_0 7 rfl rfl)
theorem dX1_post_10 : decode cX1_post 10 = .ok (.invokevirtual 98, 3) := dk_182 0 98 (dk_at dksX1_post_0 10 rfl rfl)
theorem dX1_post_13 : decode cX1_post 13 = .ok (.iconst 4, 1) := dk_7 (dk_at dksX1_post_0 13 rfl rfl)
theorem dX1_post_14 : decode cX1_post 14 = .ok (.if_icmp .ge 15, 3) := dk_162 0 15 (dk_at dksX1_post_0 14 rfl rfl)
theorem dX1_post_17 : decode cX1_post 17 = .ok (.aload_n 2, 1) := dk_44 (dk_at dksX1_post_0 17 rfl rfl)
theorem dX1_post_18 : decode cX1_post 18 = .ok (.iload_n 1, 1) := dk_27 (dk_at dksX1_post_0 18 rfl rfl)
theorem dX1_post_19 : decode cX1_post 19 = .ok (.invokevirtual 198, 3) := dk_182 0 198 (dk_at dksX1_post_0 19 rfl rfl)
theorem dX1_post_22 : decode cX1_post 22 = .ok (.ifCond .ne 7, 3) := dk_154 0 7 (dk_at dksX1_post_1 0 rfl rfl)
theorem dX1_post_25 : decode cX1_post 25 = .ok (.iconst 1, 1) := dk_4 (dk_at dksX1_post_1 3 rfl rfl)
theorem dX1_post_26 : decode cX1_post 26 = .ok (.goto 4, 3) := dk_167 0 4 (dk_at dksX1_post_1 4 rfl rfl)
theorem dX1_post_29 : decode cX1_post 29 = .ok (.iconst 0, 1) := dk_3 (dk_at dksX1_post_1 7 rfl rfl)
theorem dX1_post_30 : decode cX1_post 30 = .ok (.invokestatic 189, 3) := dk_184 0 189 (dk_at dksX1_post_1 8 rfl rfl)
theorem dX1_post_33 : decode cX1_post 33 = .ok (.aload_n 0, 1) := dk_42 (dk_at dksX1_post_1 11 rfl rfl)
theorem dX1_post_34 : decode cX1_post 34 = .ok (.getfield 45, 3) := dk_180 0 45 (dk_at dksX1_post_1 12 rfl rfl)
theorem dX1_post_37 : decode cX1_post 37 = .ok (.iload_n 1, 1) := dk_27 (dk_at dksX1_post_1 15 rfl rfl)
theorem dX1_post_38 : decode cX1_post 38 = .ok (.invokestatic 239, 3) := dk_184 0 239 (dk_at dksX1_post_1 16 rfl rfl)
theorem dX1_post_41 : decode cX1_post 41 = .ok (.invokevirtual 202, 3) := dk_182 0 202 (dk_at dksX1_post_1 19 rfl rfl)
theorem dX1_post_44 : decode cX1_post 44 = .ok (.pop, 1) := dk_87 (dk_at dksX1_post_1 22 rfl rfl)
theorem dX1_post_45 : decode cX1_post 45 = .ok (.aload_n 0, 1) := dk_42 (dk_at dksX1_post_1 23 rfl rfl)
theorem dX1_post_46 : decode cX1_post 46 = .ok (.getfield 45, 3) := dk_180 0 45 (dk_at dksX1_post_2 0 rfl rfl)
theorem dX1_post_49 : decode cX1_post 49 = .ok (.invokevirtual 98, 3) := dk_182 0 98 (dk_at dksX1_post_2 3 rfl rfl)
theorem dX1_post_52 : decode cX1_post 52 = .ok (.iconst 1, 1) := dk_4 (dk_at dksX1_post_2 6 rfl rfl)
theorem dX1_post_53 : decode cX1_post 53 = .ok (.isub, 1) := dk_100 (dk_at dksX1_post_2 7 rfl rfl)
theorem dX1_post_54 : decode cX1_post 54 = .ok (.ireturn, 1) := dk_172 (dk_at dksX1_post_2 8 rfl rfl)
abbrev cX1_place : ByteArray := prog_1_method_27_code
def yX1_place : MethodName := ⟨RX1, "place", "(II)I"⟩
def dkwX1_place_0 : List UInt8 := [42, 27, 182, 0, 232, 78, 28, 184, 0, 243, 45, 28, 182, 0, 246, 172]
abbrev dktX1_place_0 : List UInt8 := dkwX1_place_0 ++ []
theorem dksX1_place_0 : cX1_place.data.toList.drop 0 = dktX1_place_0 := by decide +kernel
theorem dX1_place_0 : decode cX1_place 0 = .ok (.aload_n 0, 1) := dk_42 (dk_at dksX1_place_0 0 rfl rfl)
theorem dX1_place_1 : decode cX1_place 1 = .ok (.iload_n 1, 1) := dk_27 (dk_at dksX1_place_0 1 rfl rfl)
theorem dX1_place_2 : decode cX1_place 2 = .ok (.invokevirtual 232, 3) := dk_182 0 232 (dk_at dksX1_place_0 2 rfl rfl)
theorem dX1_place_5 : decode cX1_place 5 = .ok (.astore_n 3, 1) := dk_78 (dk_at dksX1_place_0 5 rfl rfl)
theorem dX1_place_6 : decode cX1_place 6 = .ok (.iload_n 2, 1) := dk_28 (dk_at dksX1_place_0 6 rfl rfl)
theorem dX1_place_7 : decode cX1_place 7 = .ok (.invokestatic 243, 3) := dk_184 0 243 (dk_at dksX1_place_0 7 rfl rfl)
theorem dX1_place_10 : decode cX1_place 10 = .ok (.aload_n 3, 1) := dk_45 (dk_at dksX1_place_0 10 rfl rfl)
theorem dX1_place_11 : decode cX1_place 11 = .ok (.iload_n 2, 1) := dk_28 (dk_at dksX1_place_0 11 rfl rfl)
theorem dX1_place_12 : decode cX1_place 12 = .ok (.invokevirtual 246, 3) := dk_182 0 246 (dk_at dksX1_place_0 12 rfl rfl)
theorem dX1_place_15 : decode cX1_place 15 = .ok (.ireturn, 1) := dk_172 (dk_at dksX1_place_0 15 rfl rfl)
abbrev cX1_requireMinute : ByteArray := prog_1_method_13_code
def yX1_requireMinute : MethodName := ⟨RX1, "requireMinute", "(I)V"⟩
def dkwX1_requireMinute_0 : List UInt8 := [26, 184, 0, 106, 184, 0, 110, 177]
abbrev dktX1_requireMinute_0 : List UInt8 := dkwX1_requireMinute_0 ++ []
theorem dksX1_requireMinute_0 : cX1_requireMinute.data.toList.drop 0 = dktX1_requireMinute_0 := by decide +kernel
theorem dX1_requireMinute_0 : decode cX1_requireMinute 0 = .ok (.iload_n 0, 1) := dk_26 (dk_at dksX1_requireMinute_0 0 rfl rfl)
theorem dX1_requireMinute_1 : decode cX1_requireMinute 1 = .ok (.invokestatic 106, 3) := dk_184 0 106 (dk_at dksX1_requireMinute_0 1 rfl rfl)
theorem dX1_requireMinute_4 : decode cX1_requireMinute 4 = .ok (.invokestatic 110, 3) := dk_184 0 110 (dk_at dksX1_requireMinute_0 4 rfl rfl)
theorem dX1_requireMinute_7 : decode cX1_requireMinute 7 = .ok (.return_, 1) := dk_177 (dk_at dksX1_requireMinute_0 7 rfl rfl)
abbrev cX1_sees_2 : ByteArray := prog_1_method_33_code
def yX1_sees_2 : MethodName := ⟨RX1, "sees", "(III)Z"⟩
def dkwX1_sees_2_2 : List UInt8 := [167, 0, 22, 3, 167, 0, 18, 21, 4, 27, 122, 4, 126, 4, 160, 0, 7, 4, 167, 0, 4, 3, 172]
abbrev dktX1_sees_2_2 : List UInt8 := dkwX1_sees_2_2 ++ []
def dkwX1_sees_2_1 : List UInt8 := [184, 0, 243, 42, 28, 29, 182, 1, 25, 54, 4, 27, 2, 160, 0, 16, 21, 4, 153, 0, 7, 4]
abbrev dktX1_sees_2_1 : List UInt8 := dkwX1_sees_2_1 ++ dktX1_sees_2_2
def dkwX1_sees_2_0 : List UInt8 := [27, 4, 96, 42, 180, 0, 42, 182, 0, 98, 4, 96, 184, 0, 94, 42, 28, 182, 0, 182, 87, 29]
abbrev dktX1_sees_2_0 : List UInt8 := dkwX1_sees_2_0 ++ dktX1_sees_2_1
theorem dksX1_sees_2_0 : cX1_sees_2.data.toList.drop 0 = dktX1_sees_2_0 := by decide +kernel
theorem dksX1_sees_2_1 : cX1_sees_2.data.toList.drop 22 = dktX1_sees_2_1 := dk_seg dksX1_sees_2_0 22 rfl rfl
theorem dksX1_sees_2_2 : cX1_sees_2.data.toList.drop 44 = dktX1_sees_2_2 := dk_seg dksX1_sees_2_1 22 rfl rfl
theorem dX1_sees_2_0 : decode cX1_sees_2 0 = .ok (.iload_n 1, 1) := dk_27 (dk_at dksX1_sees_2_0 0 rfl rfl)
theorem dX1_sees_2_1 : decode cX1_sees_2 1 = .ok (.iconst 1, 1) := dk_4 (dk_at dksX1_sees_2_0 1 rfl rfl)
theorem dX1_sees_2_2 : decode cX1_sees_2 2 = .ok (.iadd, 1) := dk_96 (dk_at dksX1_sees_2_0 2 rfl rfl)
theorem dX1_sees_2_3 : decode cX1_sees_2 3 = .ok (.aload_n 0, 1) := dk_42 (dk_at dksX1_sees_2_0 3 rfl rfl)
theorem dX1_sees_2_4 : decode cX1_sees_2 4 = .ok (.getfield 42, 3) := dk_180 0 42 (dk_at dksX1_sees_2_0 4 rfl rfl)
theorem dX1_sees_2_7 : decode cX1_sees_2 7 = .ok (.invokevirtual 98, 3) := dk_182 0 98 (dk_at dksX1_sees_2_0 7 rfl rfl)
theorem dX1_sees_2_10 : decode cX1_sees_2 10 = .ok (.iconst 1, 1) := dk_4 (dk_at dksX1_sees_2_0 10 rfl rfl)
theorem dX1_sees_2_11 : decode cX1_sees_2 11 = .ok (.iadd, 1) := dk_96 (dk_at dksX1_sees_2_0 11 rfl rfl)
theorem dX1_sees_2_12 : decode cX1_sees_2 12 = .ok (.invokestatic 94, 3) := dk_184 0 94 (dk_at dksX1_sees_2_0 12 rfl rfl)
theorem dX1_sees_2_15 : decode cX1_sees_2 15 = .ok (.aload_n 0, 1) := dk_42 (dk_at dksX1_sees_2_0 15 rfl rfl)
theorem dX1_sees_2_16 : decode cX1_sees_2 16 = .ok (.iload_n 2, 1) := dk_28 (dk_at dksX1_sees_2_0 16 rfl rfl)
theorem dX1_sees_2_17 : decode cX1_sees_2 17 = .ok (.invokevirtual 182, 3) := dk_182 0 182 (dk_at dksX1_sees_2_0 17 rfl rfl)
theorem dX1_sees_2_20 : decode cX1_sees_2 20 = .ok (.pop, 1) := dk_87 (dk_at dksX1_sees_2_0 20 rfl rfl)
theorem dX1_sees_2_21 : decode cX1_sees_2 21 = .ok (.iload_n 3, 1) := dk_29 (dk_at dksX1_sees_2_0 21 rfl rfl)
theorem dX1_sees_2_22 : decode cX1_sees_2 22 = .ok (.invokestatic 243, 3) := dk_184 0 243 (dk_at dksX1_sees_2_1 0 rfl rfl)
theorem dX1_sees_2_25 : decode cX1_sees_2 25 = .ok (.aload_n 0, 1) := dk_42 (dk_at dksX1_sees_2_1 3 rfl rfl)
theorem dX1_sees_2_26 : decode cX1_sees_2 26 = .ok (.iload_n 2, 1) := dk_28 (dk_at dksX1_sees_2_1 4 rfl rfl)
theorem dX1_sees_2_27 : decode cX1_sees_2 27 = .ok (.iload_n 3, 1) := dk_29 (dk_at dksX1_sees_2_1 5 rfl rfl)
theorem dX1_sees_2_28 : decode cX1_sees_2 28 = .ok (.invokevirtual 281, 3) := dk_182 1 25 (dk_at dksX1_sees_2_1 6 rfl rfl)
theorem dX1_sees_2_31 : decode cX1_sees_2 31 = .ok (.istore 4, 2) := dk_54 4 (dk_at dksX1_sees_2_1 9 rfl rfl)
theorem dX1_sees_2_33 : decode cX1_sees_2 33 = .ok (.iload_n 1, 1) := dk_27 (dk_at dksX1_sees_2_1 11 rfl rfl)
theorem dX1_sees_2_34 : decode cX1_sees_2 34 = .ok (.iconst (-1), 1) := dk_2 (dk_at dksX1_sees_2_1 12 rfl rfl)
theorem dX1_sees_2_35 : decode cX1_sees_2 35 = .ok (.if_icmp .ne 16, 3) := dk_160 0 16 (dk_at dksX1_sees_2_1 13 rfl rfl)
theorem dX1_sees_2_38 : decode cX1_sees_2 38 = .ok (.iload 4, 2) := dk_21 4 (dk_at dksX1_sees_2_1 16 rfl rfl)
theorem dX1_sees_2_40 : decode cX1_sees_2 40 = .ok (.ifCond .eq 7, 3) := dk_153 0 7 (dk_at dksX1_sees_2_1 18 rfl rfl)
theorem dX1_sees_2_43 : decode cX1_sees_2 43 = .ok (.iconst 1, 1) := dk_4 (dk_at dksX1_sees_2_1 21 rfl rfl)
theorem dX1_sees_2_44 : decode cX1_sees_2 44 = .ok (.goto 22, 3) := dk_167 0 22 (dk_at dksX1_sees_2_2 0 rfl rfl)
theorem dX1_sees_2_47 : decode cX1_sees_2 47 = .ok (.iconst 0, 1) := dk_3 (dk_at dksX1_sees_2_2 3 rfl rfl)
theorem dX1_sees_2_48 : decode cX1_sees_2 48 = .ok (.goto 18, 3) := dk_167 0 18 (dk_at dksX1_sees_2_2 4 rfl rfl)
theorem dX1_sees_2_51 : decode cX1_sees_2 51 = .ok (.iload 4, 2) := dk_21 4 (dk_at dksX1_sees_2_2 7 rfl rfl)
theorem dX1_sees_2_53 : decode cX1_sees_2 53 = .ok (.iload_n 1, 1) := dk_27 (dk_at dksX1_sees_2_2 9 rfl rfl)
theorem dX1_sees_2_54 : decode cX1_sees_2 54 = .ok (.ishr, 1) := dk_122 (dk_at dksX1_sees_2_2 10 rfl rfl)
theorem dX1_sees_2_55 : decode cX1_sees_2 55 = .ok (.iconst 1, 1) := dk_4 (dk_at dksX1_sees_2_2 11 rfl rfl)
theorem dX1_sees_2_56 : decode cX1_sees_2 56 = .ok (.iand, 1) := dk_126 (dk_at dksX1_sees_2_2 12 rfl rfl)
theorem dX1_sees_2_57 : decode cX1_sees_2 57 = .ok (.iconst 1, 1) := dk_4 (dk_at dksX1_sees_2_2 13 rfl rfl)
theorem dX1_sees_2_58 : decode cX1_sees_2 58 = .ok (.if_icmp .ne 7, 3) := dk_160 0 7 (dk_at dksX1_sees_2_2 14 rfl rfl)
theorem dX1_sees_2_61 : decode cX1_sees_2 61 = .ok (.iconst 1, 1) := dk_4 (dk_at dksX1_sees_2_2 17 rfl rfl)
theorem dX1_sees_2_62 : decode cX1_sees_2 62 = .ok (.goto 4, 3) := dk_167 0 4 (dk_at dksX1_sees_2_2 18 rfl rfl)
theorem dX1_sees_2_65 : decode cX1_sees_2 65 = .ok (.iconst 0, 1) := dk_3 (dk_at dksX1_sees_2_2 21 rfl rfl)
theorem dX1_sees_2_66 : decode cX1_sees_2 66 = .ok (.ireturn, 1) := dk_172 (dk_at dksX1_sees_2_2 22 rfl rfl)
abbrev cX1_ofCell : ByteArray := prog_1_method_37_code
def yX1_ofCell : MethodName := ⟨RX1, "ofCell", "(III)I"⟩
def dkwX1_ofCell_1 : List UInt8 := [167, 0, 4, 3, 184, 0, 110, 42, 27, 28, 29, 182, 1, 34, 172]
abbrev dktX1_ofCell_1 : List UInt8 := dkwX1_ofCell_1 ++ []
def dkwX1_ofCell_0 : List UInt8 := [42, 27, 182, 0, 182, 87, 28, 184, 0, 106, 153, 0, 16, 3, 7, 29, 184, 0, 15, 153, 0, 7, 4]
abbrev dktX1_ofCell_0 : List UInt8 := dkwX1_ofCell_0 ++ dktX1_ofCell_1
theorem dksX1_ofCell_0 : cX1_ofCell.data.toList.drop 0 = dktX1_ofCell_0 := by decide +kernel
theorem dksX1_ofCell_1 : cX1_ofCell.data.toList.drop 23 = dktX1_ofCell_1 := dk_seg dksX1_ofCell_0 23 rfl rfl
theorem dX1_ofCell_0 : decode cX1_ofCell 0 = .ok (.aload_n 0, 1) := dk_42 (dk_at dksX1_ofCell_0 0 rfl rfl)
theorem dX1_ofCell_1 : decode cX1_ofCell 1 = .ok (.iload_n 1, 1) := dk_27 (dk_at dksX1_ofCell_0 1 rfl rfl)
theorem dX1_ofCell_2 : decode cX1_ofCell 2 = .ok (.invokevirtual 182, 3) := dk_182 0 182 (dk_at dksX1_ofCell_0 2 rfl rfl)
theorem dX1_ofCell_5 : decode cX1_ofCell 5 = .ok (.pop, 1) := dk_87 (dk_at dksX1_ofCell_0 5 rfl rfl)
theorem dX1_ofCell_6 : decode cX1_ofCell 6 = .ok (.iload_n 2, 1) := dk_28 (dk_at dksX1_ofCell_0 6 rfl rfl)
theorem dX1_ofCell_7 : decode cX1_ofCell 7 = .ok (.invokestatic 106, 3) := dk_184 0 106 (dk_at dksX1_ofCell_0 7 rfl rfl)
theorem dX1_ofCell_10 : decode cX1_ofCell 10 = .ok (.ifCond .eq 16, 3) := dk_153 0 16 (dk_at dksX1_ofCell_0 10 rfl rfl)
theorem dX1_ofCell_13 : decode cX1_ofCell 13 = .ok (.iconst 0, 1) := dk_3 (dk_at dksX1_ofCell_0 13 rfl rfl)
theorem dX1_ofCell_14 : decode cX1_ofCell 14 = .ok (.iconst 4, 1) := dk_7 (dk_at dksX1_ofCell_0 14 rfl rfl)
theorem dX1_ofCell_15 : decode cX1_ofCell 15 = .ok (.iload_n 3, 1) := dk_29 (dk_at dksX1_ofCell_0 15 rfl rfl)
theorem dX1_ofCell_16 : decode cX1_ofCell 16 = .ok (.invokestatic 15, 3) := dk_184 0 15 (dk_at dksX1_ofCell_0 16 rfl rfl)
theorem dX1_ofCell_19 : decode cX1_ofCell 19 = .ok (.ifCond .eq 7, 3) := dk_153 0 7 (dk_at dksX1_ofCell_0 19 rfl rfl)
theorem dX1_ofCell_22 : decode cX1_ofCell 22 = .ok (.iconst 1, 1) := dk_4 (dk_at dksX1_ofCell_0 22 rfl rfl)
theorem dX1_ofCell_23 : decode cX1_ofCell 23 = .ok (.goto 4, 3) := dk_167 0 4 (dk_at dksX1_ofCell_1 0 rfl rfl)
theorem dX1_ofCell_26 : decode cX1_ofCell 26 = .ok (.iconst 0, 1) := dk_3 (dk_at dksX1_ofCell_1 3 rfl rfl)
theorem dX1_ofCell_27 : decode cX1_ofCell 27 = .ok (.invokestatic 110, 3) := dk_184 0 110 (dk_at dksX1_ofCell_1 4 rfl rfl)
theorem dX1_ofCell_30 : decode cX1_ofCell 30 = .ok (.aload_n 0, 1) := dk_42 (dk_at dksX1_ofCell_1 7 rfl rfl)
theorem dX1_ofCell_31 : decode cX1_ofCell 31 = .ok (.iload_n 1, 1) := dk_27 (dk_at dksX1_ofCell_1 8 rfl rfl)
theorem dX1_ofCell_32 : decode cX1_ofCell 32 = .ok (.iload_n 2, 1) := dk_28 (dk_at dksX1_ofCell_1 9 rfl rfl)
theorem dX1_ofCell_33 : decode cX1_ofCell 33 = .ok (.iload_n 3, 1) := dk_29 (dk_at dksX1_ofCell_1 10 rfl rfl)
theorem dX1_ofCell_34 : decode cX1_ofCell 34 = .ok (.invokevirtual 290, 3) := dk_182 1 34 (dk_at dksX1_ofCell_1 11 rfl rfl)
theorem dX1_ofCell_37 : decode cX1_ofCell 37 = .ok (.ireturn, 1) := dk_172 (dk_at dksX1_ofCell_1 14 rfl rfl)
abbrev cX1_ofMinute : ByteArray := prog_1_method_43_code
def yX1_ofMinute : MethodName := ⟨RX1, "ofMinute", "(II)I"⟩
def dkwX1_ofMinute_1 : List UInt8 := [184, 0, 110, 42, 27, 28, 182, 1, 57, 172]
abbrev dktX1_ofMinute_1 : List UInt8 := dkwX1_ofMinute_1 ++ []
def dkwX1_ofMinute_0 : List UInt8 := [27, 184, 0, 106, 153, 0, 17, 3, 16, 6, 28, 184, 0, 15, 153, 0, 7, 4, 167, 0, 4, 3]
abbrev dktX1_ofMinute_0 : List UInt8 := dkwX1_ofMinute_0 ++ dktX1_ofMinute_1
theorem dksX1_ofMinute_0 : cX1_ofMinute.data.toList.drop 0 = dktX1_ofMinute_0 := by decide +kernel
theorem dksX1_ofMinute_1 : cX1_ofMinute.data.toList.drop 22 = dktX1_ofMinute_1 := dk_seg dksX1_ofMinute_0 22 rfl rfl
theorem dX1_ofMinute_0 : decode cX1_ofMinute 0 = .ok (.iload_n 1, 1) := dk_27 (dk_at dksX1_ofMinute_0 0 rfl rfl)
theorem dX1_ofMinute_1 : decode cX1_ofMinute 1 = .ok (.invokestatic 106, 3) := dk_184 0 106 (dk_at dksX1_ofMinute_0 1 rfl rfl)
theorem dX1_ofMinute_4 : decode cX1_ofMinute 4 = .ok (.ifCond .eq 17, 3) := dk_153 0 17 (dk_at dksX1_ofMinute_0 4 rfl rfl)
theorem dX1_ofMinute_7 : decode cX1_ofMinute 7 = .ok (.iconst 0, 1) := dk_3 (dk_at dksX1_ofMinute_0 7 rfl rfl)
theorem dX1_ofMinute_8 : decode cX1_ofMinute 8 = .ok (.bipush 6, 2) := dk_16 6 (dk_at dksX1_ofMinute_0 8 rfl rfl)
theorem dX1_ofMinute_10 : decode cX1_ofMinute 10 = .ok (.iload_n 2, 1) := dk_28 (dk_at dksX1_ofMinute_0 10 rfl rfl)
theorem dX1_ofMinute_11 : decode cX1_ofMinute 11 = .ok (.invokestatic 15, 3) := dk_184 0 15 (dk_at dksX1_ofMinute_0 11 rfl rfl)
theorem dX1_ofMinute_14 : decode cX1_ofMinute 14 = .ok (.ifCond .eq 7, 3) := dk_153 0 7 (dk_at dksX1_ofMinute_0 14 rfl rfl)
theorem dX1_ofMinute_17 : decode cX1_ofMinute 17 = .ok (.iconst 1, 1) := dk_4 (dk_at dksX1_ofMinute_0 17 rfl rfl)
theorem dX1_ofMinute_18 : decode cX1_ofMinute 18 = .ok (.goto 4, 3) := dk_167 0 4 (dk_at dksX1_ofMinute_0 18 rfl rfl)
theorem dX1_ofMinute_21 : decode cX1_ofMinute 21 = .ok (.iconst 0, 1) := dk_3 (dk_at dksX1_ofMinute_0 21 rfl rfl)
theorem dX1_ofMinute_22 : decode cX1_ofMinute 22 = .ok (.invokestatic 110, 3) := dk_184 0 110 (dk_at dksX1_ofMinute_1 0 rfl rfl)
theorem dX1_ofMinute_25 : decode cX1_ofMinute 25 = .ok (.aload_n 0, 1) := dk_42 (dk_at dksX1_ofMinute_1 3 rfl rfl)
theorem dX1_ofMinute_26 : decode cX1_ofMinute 26 = .ok (.iload_n 1, 1) := dk_27 (dk_at dksX1_ofMinute_1 4 rfl rfl)
theorem dX1_ofMinute_27 : decode cX1_ofMinute 27 = .ok (.iload_n 2, 1) := dk_28 (dk_at dksX1_ofMinute_1 5 rfl rfl)
theorem dX1_ofMinute_28 : decode cX1_ofMinute 28 = .ok (.invokevirtual 313, 3) := dk_182 1 57 (dk_at dksX1_ofMinute_1 6 rfl rfl)
theorem dX1_ofMinute_31 : decode cX1_ofMinute 31 = .ok (.ireturn, 1) := dk_172 (dk_at dksX1_ofMinute_1 9 rfl rfl)
abbrev cX1_empty : ByteArray := prog_1_method_45_code
def yX1_empty : MethodName := ⟨RX1, "empty", "(IZ)I"⟩
def dkwX1_empty_1 : List UInt8 := [182, 0, 175, 28, 182, 1, 60, 172]
abbrev dktX1_empty_1 : List UInt8 := dkwX1_empty_1 ++ []
def dkwX1_empty_0 : List UInt8 := [27, 42, 180, 0, 45, 182, 0, 98, 184, 0, 94, 42, 42, 180, 0, 45, 27, 182, 0, 99, 192, 0, 173]
abbrev dktX1_empty_0 : List UInt8 := dkwX1_empty_0 ++ dktX1_empty_1
theorem dksX1_empty_0 : cX1_empty.data.toList.drop 0 = dktX1_empty_0 := by decide +kernel
theorem dksX1_empty_1 : cX1_empty.data.toList.drop 23 = dktX1_empty_1 := dk_seg dksX1_empty_0 23 rfl rfl
theorem dX1_empty_0 : decode cX1_empty 0 = .ok (.iload_n 1, 1) := dk_27 (dk_at dksX1_empty_0 0 rfl rfl)
theorem dX1_empty_1 : decode cX1_empty 1 = .ok (.aload_n 0, 1) := dk_42 (dk_at dksX1_empty_0 1 rfl rfl)
theorem dX1_empty_2 : decode cX1_empty 2 = .ok (.getfield 45, 3) := dk_180 0 45 (dk_at dksX1_empty_0 2 rfl rfl)
theorem dX1_empty_5 : decode cX1_empty 5 = .ok (.invokevirtual 98, 3) := dk_182 0 98 (dk_at dksX1_empty_0 5 rfl rfl)
theorem dX1_empty_8 : decode cX1_empty 8 = .ok (.invokestatic 94, 3) := dk_184 0 94 (dk_at dksX1_empty_0 8 rfl rfl)
theorem dX1_empty_11 : decode cX1_empty 11 = .ok (.aload_n 0, 1) := dk_42 (dk_at dksX1_empty_0 11 rfl rfl)
theorem dX1_empty_12 : decode cX1_empty 12 = .ok (.aload_n 0, 1) := dk_42 (dk_at dksX1_empty_0 12 rfl rfl)
theorem dX1_empty_13 : decode cX1_empty 13 = .ok (.getfield 45, 3) := dk_180 0 45 (dk_at dksX1_empty_0 13 rfl rfl)
theorem dX1_empty_16 : decode cX1_empty 16 = .ok (.iload_n 1, 1) := dk_27 (dk_at dksX1_empty_0 16 rfl rfl)
theorem dX1_empty_17 : decode cX1_empty 17 = .ok (.invokevirtual 99, 3) := dk_182 0 99 (dk_at dksX1_empty_0 17 rfl rfl)
theorem dX1_empty_20 : decode cX1_empty 20 = .ok (.checkcast 173, 3) := dk_192 0 173 (dk_at dksX1_empty_0 20 rfl rfl)
theorem dX1_empty_23 : decode cX1_empty 23 = .ok (.invokevirtual 175, 3) := dk_182 0 175 (dk_at dksX1_empty_1 0 rfl rfl)
theorem dX1_empty_26 : decode cX1_empty 26 = .ok (.iload_n 2, 1) := dk_28 (dk_at dksX1_empty_1 3 rfl rfl)
theorem dX1_empty_27 : decode cX1_empty 27 = .ok (.invokevirtual 316, 3) := dk_182 1 60 (dk_at dksX1_empty_1 4 rfl rfl)
theorem dX1_empty_30 : decode cX1_empty 30 = .ok (.ireturn, 1) := dk_172 (dk_at dksX1_empty_1 7 rfl rfl)
abbrev cX1_lapse : ByteArray := prog_1_method_46_code
def yX1_lapse : MethodName := ⟨RX1, "lapse", "(III)I"⟩
def dkwX1_lapse_2 : List UInt8 := [182, 1, 38, 154, 0, 6, 21, 4, 172, 132, 4, 1, 167, 255, 234, 2, 172]
abbrev dktX1_lapse_2 : List UInt8 := dkwX1_lapse_2 ++ []
def dkwX1_lapse_1 : List UInt8 := [163, 0, 7, 4, 167, 0, 4, 3, 184, 0, 110, 28, 54, 4, 21, 4, 29, 163, 0, 22, 42, 27, 21, 4]
abbrev dktX1_lapse_1 : List UInt8 := dkwX1_lapse_1 ++ dktX1_lapse_2
def dkwX1_lapse_0 : List UInt8 := [42, 27, 182, 0, 182, 87, 28, 184, 0, 106, 153, 0, 19, 29, 184, 0, 106, 153, 0, 12, 28, 29]
abbrev dktX1_lapse_0 : List UInt8 := dkwX1_lapse_0 ++ dktX1_lapse_1
theorem dksX1_lapse_0 : cX1_lapse.data.toList.drop 0 = dktX1_lapse_0 := by decide +kernel
theorem dksX1_lapse_1 : cX1_lapse.data.toList.drop 22 = dktX1_lapse_1 := dk_seg dksX1_lapse_0 22 rfl rfl
theorem dksX1_lapse_2 : cX1_lapse.data.toList.drop 46 = dktX1_lapse_2 := dk_seg dksX1_lapse_1 24 rfl rfl
theorem dX1_lapse_0 : decode cX1_lapse 0 = .ok (.aload_n 0, 1) := dk_42 (dk_at dksX1_lapse_0 0 rfl rfl)
theorem dX1_lapse_1 : decode cX1_lapse 1 = .ok (.iload_n 1, 1) := dk_27 (dk_at dksX1_lapse_0 1 rfl rfl)
theorem dX1_lapse_2 : decode cX1_lapse 2 = .ok (.invokevirtual 182, 3) := dk_182 0 182 (dk_at dksX1_lapse_0 2 rfl rfl)
theorem dX1_lapse_5 : decode cX1_lapse 5 = .ok (.pop, 1) := dk_87 (dk_at dksX1_lapse_0 5 rfl rfl)
theorem dX1_lapse_6 : decode cX1_lapse 6 = .ok (.iload_n 2, 1) := dk_28 (dk_at dksX1_lapse_0 6 rfl rfl)
theorem dX1_lapse_7 : decode cX1_lapse 7 = .ok (.invokestatic 106, 3) := dk_184 0 106 (dk_at dksX1_lapse_0 7 rfl rfl)
theorem dX1_lapse_10 : decode cX1_lapse 10 = .ok (.ifCond .eq 19, 3) := dk_153 0 19 (dk_at dksX1_lapse_0 10 rfl rfl)
theorem dX1_lapse_13 : decode cX1_lapse 13 = .ok (.iload_n 3, 1) := dk_29 (dk_at dksX1_lapse_0 13 rfl rfl)
theorem dX1_lapse_14 : decode cX1_lapse 14 = .ok (.invokestatic 106, 3) := dk_184 0 106 (dk_at dksX1_lapse_0 14 rfl rfl)
theorem dX1_lapse_17 : decode cX1_lapse 17 = .ok (.ifCond .eq 12, 3) := dk_153 0 12 (dk_at dksX1_lapse_0 17 rfl rfl)
theorem dX1_lapse_20 : decode cX1_lapse 20 = .ok (.iload_n 2, 1) := dk_28 (dk_at dksX1_lapse_0 20 rfl rfl)
theorem dX1_lapse_21 : decode cX1_lapse 21 = .ok (.iload_n 3, 1) := dk_29 (dk_at dksX1_lapse_0 21 rfl rfl)
theorem dX1_lapse_22 : decode cX1_lapse 22 = .ok (.if_icmp .gt 7, 3) := dk_163 0 7 (dk_at dksX1_lapse_1 0 rfl rfl)
theorem dX1_lapse_25 : decode cX1_lapse 25 = .ok (.iconst 1, 1) := dk_4 (dk_at dksX1_lapse_1 3 rfl rfl)
theorem dX1_lapse_26 : decode cX1_lapse 26 = .ok (.goto 4, 3) := dk_167 0 4 (dk_at dksX1_lapse_1 4 rfl rfl)
theorem dX1_lapse_29 : decode cX1_lapse 29 = .ok (.iconst 0, 1) := dk_3 (dk_at dksX1_lapse_1 7 rfl rfl)
theorem dX1_lapse_30 : decode cX1_lapse 30 = .ok (.invokestatic 110, 3) := dk_184 0 110 (dk_at dksX1_lapse_1 8 rfl rfl)
theorem dX1_lapse_33 : decode cX1_lapse 33 = .ok (.iload_n 2, 1) := dk_28 (dk_at dksX1_lapse_1 11 rfl rfl)
theorem dX1_lapse_34 : decode cX1_lapse 34 = .ok (.istore 4, 2) := dk_54 4 (dk_at dksX1_lapse_1 12 rfl rfl)
theorem dX1_lapse_36 : decode cX1_lapse 36 = .ok (.iload 4, 2) := dk_21 4 (dk_at dksX1_lapse_1 14 rfl rfl)
theorem dX1_lapse_38 : decode cX1_lapse 38 = .ok (.iload_n 3, 1) := dk_29 (dk_at dksX1_lapse_1 16 rfl rfl)
theorem dX1_lapse_39 : decode cX1_lapse 39 = .ok (.if_icmp .gt 22, 3) := dk_163 0 22 (dk_at dksX1_lapse_1 17 rfl rfl)
theorem dX1_lapse_42 : decode cX1_lapse 42 = .ok (.aload_n 0, 1) := dk_42 (dk_at dksX1_lapse_1 20 rfl rfl)
theorem dX1_lapse_43 : decode cX1_lapse 43 = .ok (.iload_n 1, 1) := dk_27 (dk_at dksX1_lapse_1 21 rfl rfl)
theorem dX1_lapse_44 : decode cX1_lapse 44 = .ok (.iload 4, 2) := dk_21 4 (dk_at dksX1_lapse_1 22 rfl rfl)
theorem dX1_lapse_46 : decode cX1_lapse 46 = .ok (.invokevirtual 294, 3) := dk_182 1 38 (dk_at dksX1_lapse_2 0 rfl rfl)
theorem dX1_lapse_49 : decode cX1_lapse 49 = .ok (.ifCond .ne 6, 3) := dk_154 0 6 (dk_at dksX1_lapse_2 3 rfl rfl)
theorem dX1_lapse_52 : decode cX1_lapse 52 = .ok (.iload 4, 2) := dk_21 4 (dk_at dksX1_lapse_2 6 rfl rfl)
theorem dX1_lapse_54 : decode cX1_lapse 54 = .ok (.ireturn, 1) := dk_172 (dk_at dksX1_lapse_2 8 rfl rfl)
theorem dX1_lapse_55 : decode cX1_lapse 55 = .ok (.iinc 4 1, 3) := dk_132 4 1 (dk_at dksX1_lapse_2 9 rfl rfl)
theorem dX1_lapse_58 : decode cX1_lapse 58 = .ok (.goto (-22), 3) := dk_167 255 234 (dk_at dksX1_lapse_2 12 rfl rfl)
theorem dX1_lapse_61 : decode cX1_lapse 61 = .ok (.iconst (-1), 1) := dk_2 (dk_at dksX1_lapse_2 15 rfl rfl)
theorem dX1_lapse_62 : decode cX1_lapse 62 = .ok (.ireturn, 1) := dk_172 (dk_at dksX1_lapse_2 16 rfl rfl)
abbrev cX1_words : ByteArray := prog_1_method_48_code
def yX1_words : MethodName := ⟨RX1, "words", "(I)I"⟩
def dkwX1_words_1 : List UInt8 := [180, 0, 57, 180, 1, 72, 3, 46, 172]
abbrev dktX1_words_1 : List UInt8 := dkwX1_words_1 ++ []
def dkwX1_words_0 : List UInt8 := [3, 16, 99, 27, 184, 0, 15, 184, 0, 110, 42, 180, 0, 57, 27, 182, 0, 117, 42, 182, 1, 69, 42]
abbrev dktX1_words_0 : List UInt8 := dkwX1_words_0 ++ dktX1_words_1
theorem dksX1_words_0 : cX1_words.data.toList.drop 0 = dktX1_words_0 := by decide +kernel
theorem dksX1_words_1 : cX1_words.data.toList.drop 23 = dktX1_words_1 := dk_seg dksX1_words_0 23 rfl rfl
theorem dX1_words_0 : decode cX1_words 0 = .ok (.iconst 0, 1) := dk_3 (dk_at dksX1_words_0 0 rfl rfl)
theorem dX1_words_1 : decode cX1_words 1 = .ok (.bipush 99, 2) := dk_16 99 (dk_at dksX1_words_0 1 rfl rfl)
theorem dX1_words_3 : decode cX1_words 3 = .ok (.iload_n 1, 1) := dk_27 (dk_at dksX1_words_0 3 rfl rfl)
theorem dX1_words_4 : decode cX1_words 4 = .ok (.invokestatic 15, 3) := dk_184 0 15 (dk_at dksX1_words_0 4 rfl rfl)
theorem dX1_words_7 : decode cX1_words 7 = .ok (.invokestatic 110, 3) := dk_184 0 110 (dk_at dksX1_words_0 7 rfl rfl)
theorem dX1_words_10 : decode cX1_words 10 = .ok (.aload_n 0, 1) := dk_42 (dk_at dksX1_words_0 10 rfl rfl)
theorem dX1_words_11 : decode cX1_words 11 = .ok (.getfield 57, 3) := dk_180 0 57 (dk_at dksX1_words_0 11 rfl rfl)
theorem dX1_words_14 : decode cX1_words 14 = .ok (.iload_n 1, 1) := dk_27 (dk_at dksX1_words_0 14 rfl rfl)
theorem dX1_words_15 : decode cX1_words 15 = .ok (.invokevirtual 117, 3) := dk_182 0 117 (dk_at dksX1_words_0 15 rfl rfl)
theorem dX1_words_18 : decode cX1_words 18 = .ok (.aload_n 0, 1) := dk_42 (dk_at dksX1_words_0 18 rfl rfl)
theorem dX1_words_19 : decode cX1_words 19 = .ok (.invokevirtual 325, 3) := dk_182 1 69 (dk_at dksX1_words_0 19 rfl rfl)
theorem dX1_words_22 : decode cX1_words 22 = .ok (.aload_n 0, 1) := dk_42 (dk_at dksX1_words_0 22 rfl rfl)
theorem dX1_words_23 : decode cX1_words 23 = .ok (.getfield 57, 3) := dk_180 0 57 (dk_at dksX1_words_1 0 rfl rfl)
theorem dX1_words_26 : decode cX1_words 26 = .ok (.getfield 328, 3) := dk_180 1 72 (dk_at dksX1_words_1 3 rfl rfl)
theorem dX1_words_29 : decode cX1_words 29 = .ok (.iconst 0, 1) := dk_3 (dk_at dksX1_words_1 6 rfl rfl)
theorem dX1_words_30 : decode cX1_words 30 = .ok (.iaload, 1) := dk_46 (dk_at dksX1_words_1 7 rfl rfl)
theorem dX1_words_31 : decode cX1_words 31 = .ok (.ireturn, 1) := dk_172 (dk_at dksX1_words_1 8 rfl rfl)
abbrev cX1_forgetAnswers : ByteArray := prog_1_method_47_code
def yX1_forgetAnswers : MethodName := ⟨RX1, "forgetAnswers", "()V"⟩
def dkwX1_forgetAnswers_1 : List UInt8 := [192, 0, 102, 77, 44, 3, 181, 1, 63, 44, 3, 181, 1, 66, 167, 255, 227, 42, 3, 181, 0, 76, 177]
abbrev dktX1_forgetAnswers_1 : List UInt8 := dkwX1_forgetAnswers_1 ++ []
def dkwX1_forgetAnswers_0 : List UInt8 := [42, 180, 0, 42, 182, 0, 157, 76, 43, 185, 0, 161, 1, 0, 153, 0, 26, 43, 185, 0, 166, 1, 0]
abbrev dktX1_forgetAnswers_0 : List UInt8 := dkwX1_forgetAnswers_0 ++ dktX1_forgetAnswers_1
theorem dksX1_forgetAnswers_0 : cX1_forgetAnswers.data.toList.drop 0 = dktX1_forgetAnswers_0 := by decide +kernel
theorem dksX1_forgetAnswers_1 : cX1_forgetAnswers.data.toList.drop 23 = dktX1_forgetAnswers_1 := dk_seg dksX1_forgetAnswers_0 23 rfl rfl
theorem dX1_forgetAnswers_0 : decode cX1_forgetAnswers 0 = .ok (.aload_n 0, 1) := dk_42 (dk_at dksX1_forgetAnswers_0 0 rfl rfl)
theorem dX1_forgetAnswers_1 : decode cX1_forgetAnswers 1 = .ok (.getfield 42, 3) := dk_180 0 42 (dk_at dksX1_forgetAnswers_0 1 rfl rfl)
theorem dX1_forgetAnswers_4 : decode cX1_forgetAnswers 4 = .ok (.invokevirtual 157, 3) := dk_182 0 157 (dk_at dksX1_forgetAnswers_0 4 rfl rfl)
theorem dX1_forgetAnswers_7 : decode cX1_forgetAnswers 7 = .ok (.astore_n 1, 1) := dk_76 (dk_at dksX1_forgetAnswers_0 7 rfl rfl)
theorem dX1_forgetAnswers_8 : decode cX1_forgetAnswers 8 = .ok (.aload_n 1, 1) := dk_43 (dk_at dksX1_forgetAnswers_0 8 rfl rfl)
theorem dX1_forgetAnswers_9 : decode cX1_forgetAnswers 9 = .ok (.invokeinterface 161 1, 5) := by decide +kernel
theorem dX1_forgetAnswers_14 : decode cX1_forgetAnswers 14 = .ok (.ifCond .eq 26, 3) := dk_153 0 26 (dk_at dksX1_forgetAnswers_0 14 rfl rfl)
theorem dX1_forgetAnswers_17 : decode cX1_forgetAnswers 17 = .ok (.aload_n 1, 1) := dk_43 (dk_at dksX1_forgetAnswers_0 17 rfl rfl)
theorem dX1_forgetAnswers_18 : decode cX1_forgetAnswers 18 = .ok (.invokeinterface 166 1, 5) := by decide +kernel
theorem dX1_forgetAnswers_23 : decode cX1_forgetAnswers 23 = .ok (.checkcast 102, 3) := dk_192 0 102 (dk_at dksX1_forgetAnswers_1 0 rfl rfl)
theorem dX1_forgetAnswers_26 : decode cX1_forgetAnswers 26 = .ok (.astore_n 2, 1) := dk_77 (dk_at dksX1_forgetAnswers_1 3 rfl rfl)
theorem dX1_forgetAnswers_27 : decode cX1_forgetAnswers 27 = .ok (.aload_n 2, 1) := dk_44 (dk_at dksX1_forgetAnswers_1 4 rfl rfl)
theorem dX1_forgetAnswers_28 : decode cX1_forgetAnswers 28 = .ok (.iconst 0, 1) := dk_3 (dk_at dksX1_forgetAnswers_1 5 rfl rfl)
theorem dX1_forgetAnswers_29 : decode cX1_forgetAnswers 29 = .ok (.putfield 319, 3) := dk_181 1 63 (dk_at dksX1_forgetAnswers_1 6 rfl rfl)
theorem dX1_forgetAnswers_32 : decode cX1_forgetAnswers 32 = .ok (.aload_n 2, 1) := dk_44 (dk_at dksX1_forgetAnswers_1 9 rfl rfl)
theorem dX1_forgetAnswers_33 : decode cX1_forgetAnswers 33 = .ok (.iconst 0, 1) := dk_3 (dk_at dksX1_forgetAnswers_1 10 rfl rfl)
theorem dX1_forgetAnswers_34 : decode cX1_forgetAnswers 34 = .ok (.putfield 322, 3) := dk_181 1 66 (dk_at dksX1_forgetAnswers_1 11 rfl rfl)
theorem dX1_forgetAnswers_37 : decode cX1_forgetAnswers 37 = .ok (.goto (-29), 3) := dk_167 255 227 (dk_at dksX1_forgetAnswers_1 14 rfl rfl)
theorem dX1_forgetAnswers_40 : decode cX1_forgetAnswers 40 = .ok (.aload_n 0, 1) := dk_42 (dk_at dksX1_forgetAnswers_1 17 rfl rfl)
theorem dX1_forgetAnswers_41 : decode cX1_forgetAnswers 41 = .ok (.iconst 0, 1) := dk_3 (dk_at dksX1_forgetAnswers_1 18 rfl rfl)
theorem dX1_forgetAnswers_42 : decode cX1_forgetAnswers 42 = .ok (.putfield 76, 3) := dk_181 0 76 (dk_at dksX1_forgetAnswers_1 19 rfl rfl)
theorem dX1_forgetAnswers_45 : decode cX1_forgetAnswers 45 = .ok (.return_, 1) := dk_177 (dk_at dksX1_forgetAnswers_1 22 rfl rfl)
abbrev cX1_leak : ByteArray := prog_1_method_49_code
def yX1_leak : MethodName := ⟨RX1, "leak", "(I)I"⟩
def dkwX1_leak_1 : List UInt8 := [184, 0, 189, 42, 180, 0, 57, 27, 182, 1, 78, 172]
abbrev dktX1_leak_1 : List UInt8 := dkwX1_leak_1 ++ []
def dkwX1_leak_0 : List UInt8 := [3, 6, 27, 184, 0, 15, 184, 0, 110, 42, 180, 0, 57, 182, 1, 75, 154, 0, 7, 4, 167, 0, 4, 3]
abbrev dktX1_leak_0 : List UInt8 := dkwX1_leak_0 ++ dktX1_leak_1
theorem dksX1_leak_0 : cX1_leak.data.toList.drop 0 = dktX1_leak_0 := by decide +kernel
theorem dksX1_leak_1 : cX1_leak.data.toList.drop 24 = dktX1_leak_1 := dk_seg dksX1_leak_0 24 rfl rfl
theorem dX1_leak_0 : decode cX1_leak 0 = .ok (.iconst 0, 1) := dk_3 (dk_at dksX1_leak_0 0 rfl rfl)
theorem dX1_leak_1 : decode cX1_leak 1 = .ok (.iconst 3, 1) := dk_6 (dk_at dksX1_leak_0 1 rfl rfl)
theorem dX1_leak_2 : decode cX1_leak 2 = .ok (.iload_n 1, 1) := dk_27 (dk_at dksX1_leak_0 2 rfl rfl)
theorem dX1_leak_3 : decode cX1_leak 3 = .ok (.invokestatic 15, 3) := dk_184 0 15 (dk_at dksX1_leak_0 3 rfl rfl)
theorem dX1_leak_6 : decode cX1_leak 6 = .ok (.invokestatic 110, 3) := dk_184 0 110 (dk_at dksX1_leak_0 6 rfl rfl)
theorem dX1_leak_9 : decode cX1_leak 9 = .ok (.aload_n 0, 1) := dk_42 (dk_at dksX1_leak_0 9 rfl rfl)
theorem dX1_leak_10 : decode cX1_leak 10 = .ok (.getfield 57, 3) := dk_180 0 57 (dk_at dksX1_leak_0 10 rfl rfl)
theorem dX1_leak_13 : decode cX1_leak 13 = .ok (.invokevirtual 331, 3) := dk_182 1 75 (dk_at dksX1_leak_0 13 rfl rfl)
theorem dX1_leak_16 : decode cX1_leak 16 = .ok (.ifCond .ne 7, 3) := dk_154 0 7 (dk_at dksX1_leak_0 16 rfl rfl)
theorem dX1_leak_19 : decode cX1_leak 19 = .ok (.iconst 1, 1) := dk_4 (dk_at dksX1_leak_0 19 rfl rfl)
theorem dX1_leak_20 : decode cX1_leak 20 = .ok (.goto 4, 3) := dk_167 0 4 (dk_at dksX1_leak_0 20 rfl rfl)
theorem dX1_leak_23 : decode cX1_leak 23 = .ok (.iconst 0, 1) := dk_3 (dk_at dksX1_leak_0 23 rfl rfl)
theorem dX1_leak_24 : decode cX1_leak 24 = .ok (.invokestatic 189, 3) := dk_184 0 189 (dk_at dksX1_leak_1 0 rfl rfl)
theorem dX1_leak_27 : decode cX1_leak 27 = .ok (.aload_n 0, 1) := dk_42 (dk_at dksX1_leak_1 3 rfl rfl)
theorem dX1_leak_28 : decode cX1_leak 28 = .ok (.getfield 57, 3) := dk_180 0 57 (dk_at dksX1_leak_1 4 rfl rfl)
theorem dX1_leak_31 : decode cX1_leak 31 = .ok (.iload_n 1, 1) := dk_27 (dk_at dksX1_leak_1 7 rfl rfl)
theorem dX1_leak_32 : decode cX1_leak 32 = .ok (.invokevirtual 334, 3) := dk_182 1 78 (dk_at dksX1_leak_1 8 rfl rfl)
theorem dX1_leak_35 : decode cX1_leak 35 = .ok (.ireturn, 1) := dk_172 (dk_at dksX1_leak_1 11 rfl rfl)
abbrev cX1_answer : ByteArray := prog_1_method_50_code
def yX1_answer : MethodName := ⟨RX1, "answer", "(III)I"⟩
def dkwX1_answer_2 : List UInt8 := [21, 5, 172]
abbrev dktX1_answer_2 : List UInt8 := dkwX1_answer_2 ++ []
def dkwX1_answer_1 : List UInt8 := [182, 1, 84, 54, 5, 42, 89, 180, 0, 76, 21, 5, 154, 0, 7, 4, 167, 0, 4, 3, 96, 181, 0, 76]
abbrev dktX1_answer_1 : List UInt8 := dkwX1_answer_1 ++ dktX1_answer_2
def dkwX1_answer_0 : List UInt8 := [42, 27, 182, 0, 232, 58, 4, 28, 184, 0, 243, 42, 180, 0, 57, 25, 4, 28, 184, 1, 81, 29]
abbrev dktX1_answer_0 : List UInt8 := dkwX1_answer_0 ++ dktX1_answer_1
theorem dksX1_answer_0 : cX1_answer.data.toList.drop 0 = dktX1_answer_0 := by decide +kernel
theorem dksX1_answer_1 : cX1_answer.data.toList.drop 22 = dktX1_answer_1 := dk_seg dksX1_answer_0 22 rfl rfl
theorem dksX1_answer_2 : cX1_answer.data.toList.drop 46 = dktX1_answer_2 := dk_seg dksX1_answer_1 24 rfl rfl
theorem dX1_answer_0 : decode cX1_answer 0 = .ok (.aload_n 0, 1) := dk_42 (dk_at dksX1_answer_0 0 rfl rfl)
theorem dX1_answer_1 : decode cX1_answer 1 = .ok (.iload_n 1, 1) := dk_27 (dk_at dksX1_answer_0 1 rfl rfl)
theorem dX1_answer_2 : decode cX1_answer 2 = .ok (.invokevirtual 232, 3) := dk_182 0 232 (dk_at dksX1_answer_0 2 rfl rfl)
theorem dX1_answer_5 : decode cX1_answer 5 = .ok (.astore 4, 2) := dk_58 4 (dk_at dksX1_answer_0 5 rfl rfl)
theorem dX1_answer_7 : decode cX1_answer 7 = .ok (.iload_n 2, 1) := dk_28 (dk_at dksX1_answer_0 7 rfl rfl)
theorem dX1_answer_8 : decode cX1_answer 8 = .ok (.invokestatic 243, 3) := dk_184 0 243 (dk_at dksX1_answer_0 8 rfl rfl)
theorem dX1_answer_11 : decode cX1_answer 11 = .ok (.aload_n 0, 1) := dk_42 (dk_at dksX1_answer_0 11 rfl rfl)
theorem dX1_answer_12 : decode cX1_answer 12 = .ok (.getfield 57, 3) := dk_180 0 57 (dk_at dksX1_answer_0 12 rfl rfl)
theorem dX1_answer_15 : decode cX1_answer 15 = .ok (.aload 4, 2) := dk_25 4 (dk_at dksX1_answer_0 15 rfl rfl)
theorem dX1_answer_17 : decode cX1_answer 17 = .ok (.iload_n 2, 1) := dk_28 (dk_at dksX1_answer_0 17 rfl rfl)
theorem dX1_answer_18 : decode cX1_answer 18 = .ok (.invokestatic 337, 3) := dk_184 1 81 (dk_at dksX1_answer_0 18 rfl rfl)
theorem dX1_answer_21 : decode cX1_answer 21 = .ok (.iload_n 3, 1) := dk_29 (dk_at dksX1_answer_0 21 rfl rfl)
theorem dX1_answer_22 : decode cX1_answer 22 = .ok (.invokevirtual 340, 3) := dk_182 1 84 (dk_at dksX1_answer_1 0 rfl rfl)
theorem dX1_answer_25 : decode cX1_answer 25 = .ok (.istore 5, 2) := dk_54 5 (dk_at dksX1_answer_1 3 rfl rfl)
theorem dX1_answer_27 : decode cX1_answer 27 = .ok (.aload_n 0, 1) := dk_42 (dk_at dksX1_answer_1 5 rfl rfl)
theorem dX1_answer_28 : decode cX1_answer 28 = .ok (.dup, 1) := dk_89 (dk_at dksX1_answer_1 6 rfl rfl)
theorem dX1_answer_29 : decode cX1_answer 29 = .ok (.getfield 76, 3) := dk_180 0 76 (dk_at dksX1_answer_1 7 rfl rfl)
theorem dX1_answer_32 : decode cX1_answer 32 = .ok (.iload 5, 2) := dk_21 5 (dk_at dksX1_answer_1 10 rfl rfl)
theorem dX1_answer_34 : decode cX1_answer 34 = .ok (.ifCond .ne 7, 3) := dk_154 0 7 (dk_at dksX1_answer_1 12 rfl rfl)
theorem dX1_answer_37 : decode cX1_answer 37 = .ok (.iconst 1, 1) := dk_4 (dk_at dksX1_answer_1 15 rfl rfl)
theorem dX1_answer_38 : decode cX1_answer 38 = .ok (.goto 4, 3) := dk_167 0 4 (dk_at dksX1_answer_1 16 rfl rfl)
theorem dX1_answer_41 : decode cX1_answer 41 = .ok (.iconst 0, 1) := dk_3 (dk_at dksX1_answer_1 19 rfl rfl)
theorem dX1_answer_42 : decode cX1_answer 42 = .ok (.iadd, 1) := dk_96 (dk_at dksX1_answer_1 20 rfl rfl)
theorem dX1_answer_43 : decode cX1_answer 43 = .ok (.putfield 76, 3) := dk_181 0 76 (dk_at dksX1_answer_1 21 rfl rfl)
theorem dX1_answer_46 : decode cX1_answer 46 = .ok (.iload 5, 2) := dk_21 5 (dk_at dksX1_answer_2 0 rfl rfl)
theorem dX1_answer_48 : decode cX1_answer 48 = .ok (.ireturn, 1) := dk_172 (dk_at dksX1_answer_2 2 rfl rfl)
abbrev cX1_hourOf : ByteArray := prog_1_method_6_code
def yX1_hourOf : MethodName := ⟨RX1, "hourOf", "(I)I"⟩
def dkwX1_hourOf_0 : List UInt8 := [26, 16, 60, 108, 172]
abbrev dktX1_hourOf_0 : List UInt8 := dkwX1_hourOf_0 ++ []
theorem dksX1_hourOf_0 : cX1_hourOf.data.toList.drop 0 = dktX1_hourOf_0 := by decide +kernel
theorem dX1_hourOf_0 : decode cX1_hourOf 0 = .ok (.iload_n 0, 1) := dk_26 (dk_at dksX1_hourOf_0 0 rfl rfl)
theorem dX1_hourOf_1 : decode cX1_hourOf 1 = .ok (.bipush 60, 2) := dk_16 60 (dk_at dksX1_hourOf_0 1 rfl rfl)
theorem dX1_hourOf_3 : decode cX1_hourOf 3 = .ok (.idiv, 1) := dk_108 (dk_at dksX1_hourOf_0 3 rfl rfl)
theorem dX1_hourOf_4 : decode cX1_hourOf 4 = .ok (.ireturn, 1) := dk_172 (dk_at dksX1_hourOf_0 4 rfl rfl)
abbrev cX1_key : ByteArray := prog_1_method_51_code
def yX1_key : MethodName := ⟨RX1, "key", "(II)I"⟩
def dkwX1_key_1 : List UInt8 := [180, 0, 61, 27, 46, 62, 42, 180, 0, 61, 27, 28, 79, 29, 172]
abbrev dktX1_key_1 : List UInt8 := dkwX1_key_1 ++ []
def dkwX1_key_0 : List UInt8 := [27, 16, 6, 184, 0, 94, 28, 4, 96, 42, 180, 0, 42, 182, 0, 98, 4, 96, 184, 0, 94, 42]
abbrev dktX1_key_0 : List UInt8 := dkwX1_key_0 ++ dktX1_key_1
theorem dksX1_key_0 : cX1_key.data.toList.drop 0 = dktX1_key_0 := by decide +kernel
theorem dksX1_key_1 : cX1_key.data.toList.drop 22 = dktX1_key_1 := dk_seg dksX1_key_0 22 rfl rfl
theorem dX1_key_0 : decode cX1_key 0 = .ok (.iload_n 1, 1) := dk_27 (dk_at dksX1_key_0 0 rfl rfl)
theorem dX1_key_1 : decode cX1_key 1 = .ok (.bipush 6, 2) := dk_16 6 (dk_at dksX1_key_0 1 rfl rfl)
theorem dX1_key_3 : decode cX1_key 3 = .ok (.invokestatic 94, 3) := dk_184 0 94 (dk_at dksX1_key_0 3 rfl rfl)
theorem dX1_key_6 : decode cX1_key 6 = .ok (.iload_n 2, 1) := dk_28 (dk_at dksX1_key_0 6 rfl rfl)
theorem dX1_key_7 : decode cX1_key 7 = .ok (.iconst 1, 1) := dk_4 (dk_at dksX1_key_0 7 rfl rfl)
theorem dX1_key_8 : decode cX1_key 8 = .ok (.iadd, 1) := dk_96 (dk_at dksX1_key_0 8 rfl rfl)
theorem dX1_key_9 : decode cX1_key 9 = .ok (.aload_n 0, 1) := dk_42 (dk_at dksX1_key_0 9 rfl rfl)
theorem dX1_key_10 : decode cX1_key 10 = .ok (.getfield 42, 3) := dk_180 0 42 (dk_at dksX1_key_0 10 rfl rfl)
theorem dX1_key_13 : decode cX1_key 13 = .ok (.invokevirtual 98, 3) := dk_182 0 98 (dk_at dksX1_key_0 13 rfl rfl)
theorem dX1_key_16 : decode cX1_key 16 = .ok (.iconst 1, 1) := dk_4 (dk_at dksX1_key_0 16 rfl rfl)
theorem dX1_key_17 : decode cX1_key 17 = .ok (.iadd, 1) := dk_96 (dk_at dksX1_key_0 17 rfl rfl)
theorem dX1_key_18 : decode cX1_key 18 = .ok (.invokestatic 94, 3) := dk_184 0 94 (dk_at dksX1_key_0 18 rfl rfl)
theorem dX1_key_21 : decode cX1_key 21 = .ok (.aload_n 0, 1) := dk_42 (dk_at dksX1_key_0 21 rfl rfl)
theorem dX1_key_22 : decode cX1_key 22 = .ok (.getfield 61, 3) := dk_180 0 61 (dk_at dksX1_key_1 0 rfl rfl)
theorem dX1_key_25 : decode cX1_key 25 = .ok (.iload_n 1, 1) := dk_27 (dk_at dksX1_key_1 3 rfl rfl)
theorem dX1_key_26 : decode cX1_key 26 = .ok (.iaload, 1) := dk_46 (dk_at dksX1_key_1 4 rfl rfl)
theorem dX1_key_27 : decode cX1_key 27 = .ok (.istore_n 3, 1) := dk_62 (dk_at dksX1_key_1 5 rfl rfl)
theorem dX1_key_28 : decode cX1_key 28 = .ok (.aload_n 0, 1) := dk_42 (dk_at dksX1_key_1 6 rfl rfl)
theorem dX1_key_29 : decode cX1_key 29 = .ok (.getfield 61, 3) := dk_180 0 61 (dk_at dksX1_key_1 7 rfl rfl)
theorem dX1_key_32 : decode cX1_key 32 = .ok (.iload_n 1, 1) := dk_27 (dk_at dksX1_key_1 10 rfl rfl)
theorem dX1_key_33 : decode cX1_key 33 = .ok (.iload_n 2, 1) := dk_28 (dk_at dksX1_key_1 11 rfl rfl)
theorem dX1_key_34 : decode cX1_key 34 = .ok (.iastore, 1) := dk_79 (dk_at dksX1_key_1 12 rfl rfl)
theorem dX1_key_35 : decode cX1_key 35 = .ok (.iload_n 3, 1) := dk_29 (dk_at dksX1_key_1 13 rfl rfl)
theorem dX1_key_36 : decode cX1_key 36 = .ok (.ireturn, 1) := dk_172 (dk_at dksX1_key_1 14 rfl rfl)
abbrev cX1_ofGuard : ByteArray := prog_1_method_54_code
def yX1_ofGuard : MethodName := ⟨RX1, "ofGuard", "(II)I"⟩
def dkwX1_ofGuard_0 : List UInt8 := [42, 27, 182, 0, 232, 87, 3, 16, 8, 28, 184, 0, 15, 184, 0, 110, 42, 27, 28, 182, 1, 105, 172]
abbrev dktX1_ofGuard_0 : List UInt8 := dkwX1_ofGuard_0 ++ []
theorem dksX1_ofGuard_0 : cX1_ofGuard.data.toList.drop 0 = dktX1_ofGuard_0 := by decide +kernel
theorem dX1_ofGuard_0 : decode cX1_ofGuard 0 = .ok (.aload_n 0, 1) := dk_42 (dk_at dksX1_ofGuard_0 0 rfl rfl)
theorem dX1_ofGuard_1 : decode cX1_ofGuard 1 = .ok (.iload_n 1, 1) := dk_27 (dk_at dksX1_ofGuard_0 1 rfl rfl)
theorem dX1_ofGuard_2 : decode cX1_ofGuard 2 = .ok (.invokevirtual 232, 3) := dk_182 0 232 (dk_at dksX1_ofGuard_0 2 rfl rfl)
theorem dX1_ofGuard_5 : decode cX1_ofGuard 5 = .ok (.pop, 1) := dk_87 (dk_at dksX1_ofGuard_0 5 rfl rfl)
theorem dX1_ofGuard_6 : decode cX1_ofGuard 6 = .ok (.iconst 0, 1) := dk_3 (dk_at dksX1_ofGuard_0 6 rfl rfl)
theorem dX1_ofGuard_7 : decode cX1_ofGuard 7 = .ok (.bipush 8, 2) := dk_16 8 (dk_at dksX1_ofGuard_0 7 rfl rfl)
theorem dX1_ofGuard_9 : decode cX1_ofGuard 9 = .ok (.iload_n 2, 1) := dk_28 (dk_at dksX1_ofGuard_0 9 rfl rfl)
theorem dX1_ofGuard_10 : decode cX1_ofGuard 10 = .ok (.invokestatic 15, 3) := dk_184 0 15 (dk_at dksX1_ofGuard_0 10 rfl rfl)
theorem dX1_ofGuard_13 : decode cX1_ofGuard 13 = .ok (.invokestatic 110, 3) := dk_184 0 110 (dk_at dksX1_ofGuard_0 13 rfl rfl)
theorem dX1_ofGuard_16 : decode cX1_ofGuard 16 = .ok (.aload_n 0, 1) := dk_42 (dk_at dksX1_ofGuard_0 16 rfl rfl)
theorem dX1_ofGuard_17 : decode cX1_ofGuard 17 = .ok (.iload_n 1, 1) := dk_27 (dk_at dksX1_ofGuard_0 17 rfl rfl)
theorem dX1_ofGuard_18 : decode cX1_ofGuard 18 = .ok (.iload_n 2, 1) := dk_28 (dk_at dksX1_ofGuard_0 18 rfl rfl)
theorem dX1_ofGuard_19 : decode cX1_ofGuard 19 = .ok (.invokevirtual 361, 3) := dk_182 1 105 (dk_at dksX1_ofGuard_0 19 rfl rfl)
theorem dX1_ofGuard_22 : decode cX1_ofGuard 22 = .ok (.ireturn, 1) := dk_172 (dk_at dksX1_ofGuard_0 22 rfl rfl)
abbrev cX1_intruder : ByteArray := prog_1_method_56_code
def yX1_intruder : MethodName := ⟨RX1, "intruder", "(III)I"⟩
def dkwX1_intruder_5 : List UInt8 := [180, 0, 48, 182, 0, 98, 4, 100, 172]
abbrev dktX1_intruder_5 : List UInt8 := dkwX1_intruder_5 ++ []
def dkwX1_intruder_4 : List UInt8 := [187, 0, 104, 89, 28, 25, 5, 182, 0, 83, 192, 0, 32, 21, 6, 183, 1, 115, 182, 0, 202, 87, 42]
abbrev dktX1_intruder_4 : List UInt8 := dkwX1_intruder_4 ++ dktX1_intruder_5
def dkwX1_intruder_3 : List UInt8 := [54, 7, 21, 7, 158, 0, 15, 132, 6, 1, 21, 7, 8, 108, 54, 7, 167, 255, 242, 42, 180, 0, 48]
abbrev dktX1_intruder_3 : List UInt8 := dkwX1_intruder_3 ++ dktX1_intruder_4
def dkwX1_intruder_2 : List UInt8 := [162, 0, 15, 25, 5, 182, 0, 79, 153, 0, 7, 4, 167, 0, 4, 3, 184, 0, 189, 3, 54, 6, 29]
abbrev dktX1_intruder_2 : List UInt8 := dkwX1_intruder_2 ++ dktX1_intruder_3
def dkwX1_intruder_1 : List UInt8 := [184, 0, 110, 42, 25, 4, 27, 28, 29, 182, 1, 111, 58, 5, 42, 180, 0, 48, 182, 0, 98, 7]
abbrev dktX1_intruder_1 : List UInt8 := dkwX1_intruder_1 ++ dktX1_intruder_2
def dkwX1_intruder_0 : List UInt8 := [42, 27, 182, 0, 182, 58, 4, 28, 184, 0, 106, 153, 0, 11, 29, 155, 0, 7, 4, 167, 0, 4, 3]
abbrev dktX1_intruder_0 : List UInt8 := dkwX1_intruder_0 ++ dktX1_intruder_1
theorem dksX1_intruder_0 : cX1_intruder.data.toList.drop 0 = dktX1_intruder_0 := by decide +kernel
theorem dksX1_intruder_1 : cX1_intruder.data.toList.drop 23 = dktX1_intruder_1 := dk_seg dksX1_intruder_0 23 rfl rfl
theorem dksX1_intruder_2 : cX1_intruder.data.toList.drop 45 = dktX1_intruder_2 := dk_seg dksX1_intruder_1 22 rfl rfl
theorem dksX1_intruder_3 : cX1_intruder.data.toList.drop 68 = dktX1_intruder_3 := dk_seg dksX1_intruder_2 23 rfl rfl
theorem dksX1_intruder_4 : cX1_intruder.data.toList.drop 91 = dktX1_intruder_4 := dk_seg dksX1_intruder_3 23 rfl rfl
theorem dksX1_intruder_5 : cX1_intruder.data.toList.drop 114 = dktX1_intruder_5 := dk_seg dksX1_intruder_4 23 rfl rfl
theorem dX1_intruder_0 : decode cX1_intruder 0 = .ok (.aload_n 0, 1) := dk_42 (dk_at dksX1_intruder_0 0 rfl rfl)
theorem dX1_intruder_1 : decode cX1_intruder 1 = .ok (.iload_n 1, 1) := dk_27 (dk_at dksX1_intruder_0 1 rfl rfl)
theorem dX1_intruder_2 : decode cX1_intruder 2 = .ok (.invokevirtual 182, 3) := dk_182 0 182 (dk_at dksX1_intruder_0 2 rfl rfl)
theorem dX1_intruder_5 : decode cX1_intruder 5 = .ok (.astore 4, 2) := dk_58 4 (dk_at dksX1_intruder_0 5 rfl rfl)
theorem dX1_intruder_7 : decode cX1_intruder 7 = .ok (.iload_n 2, 1) := dk_28 (dk_at dksX1_intruder_0 7 rfl rfl)
theorem dX1_intruder_8 : decode cX1_intruder 8 = .ok (.invokestatic 106, 3) := dk_184 0 106 (dk_at dksX1_intruder_0 8 rfl rfl)
theorem dX1_intruder_11 : decode cX1_intruder 11 = .ok (.ifCond .eq 11, 3) := dk_153 0 11 (dk_at dksX1_intruder_0 11 rfl rfl)
theorem dX1_intruder_14 : decode cX1_intruder 14 = .ok (.iload_n 3, 1) := dk_29 (dk_at dksX1_intruder_0 14 rfl rfl)
theorem dX1_intruder_15 : decode cX1_intruder 15 = .ok (.ifCond .lt 7, 3) := dk_155 0 7 (dk_at dksX1_intruder_0 15 rfl rfl)
theorem dX1_intruder_18 : decode cX1_intruder 18 = .ok (.iconst 1, 1) := dk_4 (dk_at dksX1_intruder_0 18 rfl rfl)
theorem dX1_intruder_19 : decode cX1_intruder 19 = .ok (.goto 4, 3) := dk_167 0 4 (dk_at dksX1_intruder_0 19 rfl rfl)
theorem dX1_intruder_22 : decode cX1_intruder 22 = .ok (.iconst 0, 1) := dk_3 (dk_at dksX1_intruder_0 22 rfl rfl)
theorem dX1_intruder_23 : decode cX1_intruder 23 = .ok (.invokestatic 110, 3) := dk_184 0 110 (dk_at dksX1_intruder_1 0 rfl rfl)
theorem dX1_intruder_26 : decode cX1_intruder 26 = .ok (.aload_n 0, 1) := dk_42 (dk_at dksX1_intruder_1 3 rfl rfl)
theorem dX1_intruder_27 : decode cX1_intruder 27 = .ok (.aload 4, 2) := dk_25 4 (dk_at dksX1_intruder_1 4 rfl rfl)
theorem dX1_intruder_29 : decode cX1_intruder 29 = .ok (.iload_n 1, 1) := dk_27 (dk_at dksX1_intruder_1 6 rfl rfl)
theorem dX1_intruder_30 : decode cX1_intruder 30 = .ok (.iload_n 2, 1) := dk_28 (dk_at dksX1_intruder_1 7 rfl rfl)
theorem dX1_intruder_31 : decode cX1_intruder 31 = .ok (.iload_n 3, 1) := dk_29 (dk_at dksX1_intruder_1 8 rfl rfl)
theorem dX1_intruder_32 : decode cX1_intruder 32 = .ok (.invokevirtual 367, 3) := dk_182 1 111 (dk_at dksX1_intruder_1 9 rfl rfl)
theorem dX1_intruder_35 : decode cX1_intruder 35 = .ok (.astore 5, 2) := dk_58 5 (dk_at dksX1_intruder_1 12 rfl rfl)
theorem dX1_intruder_37 : decode cX1_intruder 37 = .ok (.aload_n 0, 1) := dk_42 (dk_at dksX1_intruder_1 14 rfl rfl)
theorem dX1_intruder_38 : decode cX1_intruder 38 = .ok (.getfield 48, 3) := dk_180 0 48 (dk_at dksX1_intruder_1 15 rfl rfl)
theorem dX1_intruder_41 : decode cX1_intruder 41 = .ok (.invokevirtual 98, 3) := dk_182 0 98 (dk_at dksX1_intruder_1 18 rfl rfl)
theorem dX1_intruder_44 : decode cX1_intruder 44 = .ok (.iconst 4, 1) := dk_7 (dk_at dksX1_intruder_1 21 rfl rfl)
theorem dX1_intruder_45 : decode cX1_intruder 45 = .ok (.if_icmp .ge 15, 3) := dk_162 0 15 (dk_at dksX1_intruder_2 0 rfl rfl)
theorem dX1_intruder_48 : decode cX1_intruder 48 = .ok (.aload 5, 2) := dk_25 5 (dk_at dksX1_intruder_2 3 rfl rfl)
theorem dX1_intruder_50 : decode cX1_intruder 50 = .ok (.invokevirtual 79, 3) := dk_182 0 79 (dk_at dksX1_intruder_2 5 rfl rfl)
theorem dX1_intruder_53 : decode cX1_intruder 53 = .ok (.ifCond .eq 7, 3) := dk_153 0 7 (dk_at dksX1_intruder_2 8 rfl rfl)
theorem dX1_intruder_56 : decode cX1_intruder 56 = .ok (.iconst 1, 1) := dk_4 (dk_at dksX1_intruder_2 11 rfl rfl)
theorem dX1_intruder_57 : decode cX1_intruder 57 = .ok (.goto 4, 3) := dk_167 0 4 (dk_at dksX1_intruder_2 12 rfl rfl)
theorem dX1_intruder_60 : decode cX1_intruder 60 = .ok (.iconst 0, 1) := dk_3 (dk_at dksX1_intruder_2 15 rfl rfl)
theorem dX1_intruder_61 : decode cX1_intruder 61 = .ok (.invokestatic 189, 3) := dk_184 0 189 (dk_at dksX1_intruder_2 16 rfl rfl)
theorem dX1_intruder_64 : decode cX1_intruder 64 = .ok (.iconst 0, 1) := dk_3 (dk_at dksX1_intruder_2 19 rfl rfl)
theorem dX1_intruder_65 : decode cX1_intruder 65 = .ok (.istore 6, 2) := dk_54 6 (dk_at dksX1_intruder_2 20 rfl rfl)
theorem dX1_intruder_67 : decode cX1_intruder 67 = .ok (.iload_n 3, 1) := dk_29 (dk_at dksX1_intruder_2 22 rfl rfl)
theorem dX1_intruder_68 : decode cX1_intruder 68 = .ok (.istore 7, 2) := dk_54 7 (dk_at dksX1_intruder_3 0 rfl rfl)
theorem dX1_intruder_70 : decode cX1_intruder 70 = .ok (.iload 7, 2) := dk_21 7 (dk_at dksX1_intruder_3 2 rfl rfl)
theorem dX1_intruder_72 : decode cX1_intruder 72 = .ok (.ifCond .le 15, 3) := dk_158 0 15 (dk_at dksX1_intruder_3 4 rfl rfl)
theorem dX1_intruder_75 : decode cX1_intruder 75 = .ok (.iinc 6 1, 3) := dk_132 6 1 (dk_at dksX1_intruder_3 7 rfl rfl)
theorem dX1_intruder_78 : decode cX1_intruder 78 = .ok (.iload 7, 2) := dk_21 7 (dk_at dksX1_intruder_3 10 rfl rfl)
theorem dX1_intruder_80 : decode cX1_intruder 80 = .ok (.iconst 5, 1) := dk_8 (dk_at dksX1_intruder_3 12 rfl rfl)
theorem dX1_intruder_81 : decode cX1_intruder 81 = .ok (.idiv, 1) := dk_108 (dk_at dksX1_intruder_3 13 rfl rfl)
theorem dX1_intruder_82 : decode cX1_intruder 82 = .ok (.istore 7, 2) := dk_54 7 (dk_at dksX1_intruder_3 14 rfl rfl)
theorem dX1_intruder_84 : decode cX1_intruder 84 = .ok (.goto (-14), 3) := dk_167 255 242 (dk_at dksX1_intruder_3 16 rfl rfl)
theorem dX1_intruder_87 : decode cX1_intruder 87 = .ok (.aload_n 0, 1) := dk_42 (dk_at dksX1_intruder_3 19 rfl rfl)
theorem dX1_intruder_88 : decode cX1_intruder 88 = .ok (.getfield 48, 3) := dk_180 0 48 (dk_at dksX1_intruder_3 20 rfl rfl)
theorem dX1_intruder_91 : decode cX1_intruder 91 = .ok (.new 104, 3) := dk_187 0 104 (dk_at dksX1_intruder_4 0 rfl rfl)
theorem dX1_intruder_94 : decode cX1_intruder 94 = .ok (.dup, 1) := dk_89 (dk_at dksX1_intruder_4 3 rfl rfl)
theorem dX1_intruder_95 : decode cX1_intruder 95 = .ok (.iload_n 2, 1) := dk_28 (dk_at dksX1_intruder_4 4 rfl rfl)
theorem dX1_intruder_96 : decode cX1_intruder 96 = .ok (.aload 5, 2) := dk_25 5 (dk_at dksX1_intruder_4 5 rfl rfl)
theorem dX1_intruder_98 : decode cX1_intruder 98 = .ok (.invokevirtual 83, 3) := dk_182 0 83 (dk_at dksX1_intruder_4 7 rfl rfl)
theorem dX1_intruder_101 : decode cX1_intruder 101 = .ok (.checkcast 32, 3) := dk_192 0 32 (dk_at dksX1_intruder_4 10 rfl rfl)
theorem dX1_intruder_104 : decode cX1_intruder 104 = .ok (.iload 6, 2) := dk_21 6 (dk_at dksX1_intruder_4 13 rfl rfl)
theorem dX1_intruder_106 : decode cX1_intruder 106 = .ok (.invokespecial 371, 3) := dk_183 1 115 (dk_at dksX1_intruder_4 15 rfl rfl)
theorem dX1_intruder_109 : decode cX1_intruder 109 = .ok (.invokevirtual 202, 3) := dk_182 0 202 (dk_at dksX1_intruder_4 18 rfl rfl)
theorem dX1_intruder_112 : decode cX1_intruder 112 = .ok (.pop, 1) := dk_87 (dk_at dksX1_intruder_4 21 rfl rfl)
theorem dX1_intruder_113 : decode cX1_intruder 113 = .ok (.aload_n 0, 1) := dk_42 (dk_at dksX1_intruder_4 22 rfl rfl)
theorem dX1_intruder_114 : decode cX1_intruder 114 = .ok (.getfield 48, 3) := dk_180 0 48 (dk_at dksX1_intruder_5 0 rfl rfl)
theorem dX1_intruder_117 : decode cX1_intruder 117 = .ok (.invokevirtual 98, 3) := dk_182 0 98 (dk_at dksX1_intruder_5 3 rfl rfl)
theorem dX1_intruder_120 : decode cX1_intruder 120 = .ok (.iconst 1, 1) := dk_4 (dk_at dksX1_intruder_5 6 rfl rfl)
theorem dX1_intruder_121 : decode cX1_intruder 121 = .ok (.isub, 1) := dk_100 (dk_at dksX1_intruder_5 7 rfl rfl)
theorem dX1_intruder_122 : decode cX1_intruder 122 = .ok (.ireturn, 1) := dk_172 (dk_at dksX1_intruder_5 8 rfl rfl)
abbrev cX1_wayOf : ByteArray := prog_1_method_55_code
def yX1_wayOf : MethodName := ⟨RX1, "wayOf", "(LNightwatchWall$Ground;III)Ljava/util/Optional;"⟩
def dkwX1_wayOf_9 : List UInt8 := [184, 0, 22, 176]
abbrev dktX1_wayOf_9 : List UInt8 := dkwX1_wayOf_9 ++ []
def dkwX1_wayOf_8 : List UInt8 := [184, 0, 149, 176, 132, 9, 255, 167, 255, 148, 21, 8, 153, 0, 11, 25, 6, 184, 0, 149, 167, 0, 6]
abbrev dktX1_wayOf_8 : List UInt8 := dkwX1_wayOf_8 ++ dktX1_wayOf_9
def dkwX1_wayOf_7 : List UInt8 := [21, 10, 153, 0, 14, 25, 6, 21, 7, 184, 0, 239, 182, 0, 202, 87, 21, 10, 154, 0, 9, 25, 6]
abbrev dktX1_wayOf_7 : List UInt8 := dkwX1_wayOf_7 ++ dktX1_wayOf_8
def dkwX1_wayOf_6 : List UInt8 := [159, 0, 12, 43, 21, 7, 182, 0, 198, 153, 0, 8, 21, 10, 154, 0, 7, 4, 167, 0, 4, 3, 54, 8]
abbrev dktX1_wayOf_6 : List UInt8 := dkwX1_wayOf_6 ++ dktX1_wayOf_7
def dkwX1_wayOf_5 : List UInt8 := [29, 25, 6, 182, 0, 98, 96, 17, 0, 240, 162, 0, 7, 4, 167, 0, 4, 3, 54, 10, 21, 7, 2]
abbrev dktX1_wayOf_5 : List UInt8 := dkwX1_wayOf_5 ++ dktX1_wayOf_6
def dkwX1_wayOf_4 : List UInt8 := [153, 0, 104, 43, 21, 7, 25, 5, 21, 9, 182, 0, 99, 192, 0, 173, 182, 0, 175, 182, 1, 108, 54, 7]
abbrev dktX1_wayOf_4 : List UInt8 := dkwX1_wayOf_4 ++ dktX1_wayOf_5
def dkwX1_wayOf_3 : List UInt8 := [167, 0, 4, 3, 54, 8, 25, 5, 182, 0, 98, 4, 100, 54, 9, 21, 9, 155, 0, 109, 21, 8]
abbrev dktX1_wayOf_3 : List UInt8 := dkwX1_wayOf_3 ++ dktX1_wayOf_4
def dkwX1_wayOf_2 : List UInt8 := [58, 6, 25, 6, 28, 184, 0, 239, 182, 0, 202, 87, 28, 54, 7, 43, 28, 182, 0, 198, 154, 0, 7, 4]
abbrev dktX1_wayOf_2 : List UInt8 := dkwX1_wayOf_2 ++ dktX1_wayOf_3
def dkwX1_wayOf_1 : List UInt8 := [184, 0, 239, 182, 0, 202, 87, 21, 6, 8, 108, 54, 6, 167, 255, 232, 187, 0, 32, 89, 183, 0, 34]
abbrev dktX1_wayOf_1 : List UInt8 := dkwX1_wayOf_1 ++ dktX1_wayOf_2
def dkwX1_wayOf_0 : List UInt8 := [187, 0, 32, 89, 183, 0, 34, 58, 5, 21, 4, 54, 6, 21, 6, 158, 0, 25, 25, 5, 21, 6, 8, 112]
abbrev dktX1_wayOf_0 : List UInt8 := dkwX1_wayOf_0 ++ dktX1_wayOf_1
theorem dksX1_wayOf_0 : cX1_wayOf.data.toList.drop 0 = dktX1_wayOf_0 := by decide +kernel
theorem dksX1_wayOf_1 : cX1_wayOf.data.toList.drop 24 = dktX1_wayOf_1 := dk_seg dksX1_wayOf_0 24 rfl rfl
theorem dksX1_wayOf_2 : cX1_wayOf.data.toList.drop 47 = dktX1_wayOf_2 := dk_seg dksX1_wayOf_1 23 rfl rfl
theorem dksX1_wayOf_3 : cX1_wayOf.data.toList.drop 71 = dktX1_wayOf_3 := dk_seg dksX1_wayOf_2 24 rfl rfl
theorem dksX1_wayOf_4 : cX1_wayOf.data.toList.drop 93 = dktX1_wayOf_4 := dk_seg dksX1_wayOf_3 22 rfl rfl
theorem dksX1_wayOf_5 : cX1_wayOf.data.toList.drop 117 = dktX1_wayOf_5 := dk_seg dksX1_wayOf_4 24 rfl rfl
theorem dksX1_wayOf_6 : cX1_wayOf.data.toList.drop 140 = dktX1_wayOf_6 := dk_seg dksX1_wayOf_5 23 rfl rfl
theorem dksX1_wayOf_7 : cX1_wayOf.data.toList.drop 164 = dktX1_wayOf_7 := dk_seg dksX1_wayOf_6 24 rfl rfl
theorem dksX1_wayOf_8 : cX1_wayOf.data.toList.drop 187 = dktX1_wayOf_8 := dk_seg dksX1_wayOf_7 23 rfl rfl
theorem dksX1_wayOf_9 : cX1_wayOf.data.toList.drop 210 = dktX1_wayOf_9 := dk_seg dksX1_wayOf_8 23 rfl rfl
theorem dX1_wayOf_0 : decode cX1_wayOf 0 = .ok (.new 32, 3) := dk_187 0 32 (dk_at dksX1_wayOf_0 0 rfl rfl)
theorem dX1_wayOf_3 : decode cX1_wayOf 3 = .ok (.dup, 1) := dk_89 (dk_at dksX1_wayOf_0 3 rfl rfl)
theorem dX1_wayOf_4 : decode cX1_wayOf 4 = .ok (.invokespecial 34, 3) := dk_183 0 34 (dk_at dksX1_wayOf_0 4 rfl rfl)
theorem dX1_wayOf_7 : decode cX1_wayOf 7 = .ok (.astore 5, 2) := dk_58 5 (dk_at dksX1_wayOf_0 7 rfl rfl)
theorem dX1_wayOf_9 : decode cX1_wayOf 9 = .ok (.iload 4, 2) := dk_21 4 (dk_at dksX1_wayOf_0 9 rfl rfl)
theorem dX1_wayOf_11 : decode cX1_wayOf 11 = .ok (.istore 6, 2) := dk_54 6 (dk_at dksX1_wayOf_0 11 rfl rfl)
theorem dX1_wayOf_13 : decode cX1_wayOf 13 = .ok (.iload 6, 2) := dk_21 6 (dk_at dksX1_wayOf_0 13 rfl rfl)
theorem dX1_wayOf_15 : decode cX1_wayOf 15 = .ok (.ifCond .le 25, 3) := dk_158 0 25 (dk_at dksX1_wayOf_0 15 rfl rfl)
theorem dX1_wayOf_18 : decode cX1_wayOf 18 = .ok (.aload 5, 2) := dk_25 5 (dk_at dksX1_wayOf_0 18 rfl rfl)
theorem dX1_wayOf_20 : decode cX1_wayOf 20 = .ok (.iload 6, 2) := dk_21 6 (dk_at dksX1_wayOf_0 20 rfl rfl)
theorem dX1_wayOf_22 : decode cX1_wayOf 22 = .ok (.iconst 5, 1) := dk_8 (dk_at dksX1_wayOf_0 22 rfl rfl)
theorem dX1_wayOf_23 : decode cX1_wayOf 23 = .ok (.irem, 1) := dk_112 (dk_at dksX1_wayOf_0 23 rfl rfl)
theorem dX1_wayOf_24 : decode cX1_wayOf 24 = .ok (.invokestatic 239, 3) := dk_184 0 239 (dk_at dksX1_wayOf_1 0 rfl rfl)
theorem dX1_wayOf_27 : decode cX1_wayOf 27 = .ok (.invokevirtual 202, 3) := dk_182 0 202 (dk_at dksX1_wayOf_1 3 rfl rfl)
theorem dX1_wayOf_30 : decode cX1_wayOf 30 = .ok (.pop, 1) := dk_87 (dk_at dksX1_wayOf_1 6 rfl rfl)
theorem dX1_wayOf_31 : decode cX1_wayOf 31 = .ok (.iload 6, 2) := dk_21 6 (dk_at dksX1_wayOf_1 7 rfl rfl)
theorem dX1_wayOf_33 : decode cX1_wayOf 33 = .ok (.iconst 5, 1) := dk_8 (dk_at dksX1_wayOf_1 9 rfl rfl)
theorem dX1_wayOf_34 : decode cX1_wayOf 34 = .ok (.idiv, 1) := dk_108 (dk_at dksX1_wayOf_1 10 rfl rfl)
theorem dX1_wayOf_35 : decode cX1_wayOf 35 = .ok (.istore 6, 2) := dk_54 6 (dk_at dksX1_wayOf_1 11 rfl rfl)
theorem dX1_wayOf_37 : decode cX1_wayOf 37 = .ok (.goto (-24), 3) := dk_167 255 232 (dk_at dksX1_wayOf_1 13 rfl rfl)
theorem dX1_wayOf_40 : decode cX1_wayOf 40 = .ok (.new 32, 3) := dk_187 0 32 (dk_at dksX1_wayOf_1 16 rfl rfl)
theorem dX1_wayOf_43 : decode cX1_wayOf 43 = .ok (.dup, 1) := dk_89 (dk_at dksX1_wayOf_1 19 rfl rfl)
theorem dX1_wayOf_44 : decode cX1_wayOf 44 = .ok (.invokespecial 34, 3) := dk_183 0 34 (dk_at dksX1_wayOf_1 20 rfl rfl)
theorem dX1_wayOf_47 : decode cX1_wayOf 47 = .ok (.astore 6, 2) := dk_58 6 (dk_at dksX1_wayOf_2 0 rfl rfl)
theorem dX1_wayOf_49 : decode cX1_wayOf 49 = .ok (.aload 6, 2) := dk_25 6 (dk_at dksX1_wayOf_2 2 rfl rfl)
theorem dX1_wayOf_51 : decode cX1_wayOf 51 = .ok (.iload_n 2, 1) := dk_28 (dk_at dksX1_wayOf_2 4 rfl rfl)
theorem dX1_wayOf_52 : decode cX1_wayOf 52 = .ok (.invokestatic 239, 3) := dk_184 0 239 (dk_at dksX1_wayOf_2 5 rfl rfl)
theorem dX1_wayOf_55 : decode cX1_wayOf 55 = .ok (.invokevirtual 202, 3) := dk_182 0 202 (dk_at dksX1_wayOf_2 8 rfl rfl)
theorem dX1_wayOf_58 : decode cX1_wayOf 58 = .ok (.pop, 1) := dk_87 (dk_at dksX1_wayOf_2 11 rfl rfl)
theorem dX1_wayOf_59 : decode cX1_wayOf 59 = .ok (.iload_n 2, 1) := dk_28 (dk_at dksX1_wayOf_2 12 rfl rfl)
theorem dX1_wayOf_60 : decode cX1_wayOf 60 = .ok (.istore 7, 2) := dk_54 7 (dk_at dksX1_wayOf_2 13 rfl rfl)
theorem dX1_wayOf_62 : decode cX1_wayOf 62 = .ok (.aload_n 1, 1) := dk_43 (dk_at dksX1_wayOf_2 15 rfl rfl)
theorem dX1_wayOf_63 : decode cX1_wayOf 63 = .ok (.iload_n 2, 1) := dk_28 (dk_at dksX1_wayOf_2 16 rfl rfl)
theorem dX1_wayOf_64 : decode cX1_wayOf 64 = .ok (.invokevirtual 198, 3) := dk_182 0 198 (dk_at dksX1_wayOf_2 17 rfl rfl)
theorem dX1_wayOf_67 : decode cX1_wayOf 67 = .ok (.ifCond .ne 7, 3) := dk_154 0 7 (dk_at dksX1_wayOf_2 20 rfl rfl)
theorem dX1_wayOf_70 : decode cX1_wayOf 70 = .ok (.iconst 1, 1) := dk_4 (dk_at dksX1_wayOf_2 23 rfl rfl)
theorem dX1_wayOf_71 : decode cX1_wayOf 71 = .ok (.goto 4, 3) := dk_167 0 4 (dk_at dksX1_wayOf_3 0 rfl rfl)
theorem dX1_wayOf_74 : decode cX1_wayOf 74 = .ok (.iconst 0, 1) := dk_3 (dk_at dksX1_wayOf_3 3 rfl rfl)
theorem dX1_wayOf_75 : decode cX1_wayOf 75 = .ok (.istore 8, 2) := dk_54 8 (dk_at dksX1_wayOf_3 4 rfl rfl)
theorem dX1_wayOf_77 : decode cX1_wayOf 77 = .ok (.aload 5, 2) := dk_25 5 (dk_at dksX1_wayOf_3 6 rfl rfl)
theorem dX1_wayOf_79 : decode cX1_wayOf 79 = .ok (.invokevirtual 98, 3) := dk_182 0 98 (dk_at dksX1_wayOf_3 8 rfl rfl)
theorem dX1_wayOf_82 : decode cX1_wayOf 82 = .ok (.iconst 1, 1) := dk_4 (dk_at dksX1_wayOf_3 11 rfl rfl)
theorem dX1_wayOf_83 : decode cX1_wayOf 83 = .ok (.isub, 1) := dk_100 (dk_at dksX1_wayOf_3 12 rfl rfl)
theorem dX1_wayOf_84 : decode cX1_wayOf 84 = .ok (.istore 9, 2) := dk_54 9 (dk_at dksX1_wayOf_3 13 rfl rfl)
theorem dX1_wayOf_86 : decode cX1_wayOf 86 = .ok (.iload 9, 2) := dk_21 9 (dk_at dksX1_wayOf_3 15 rfl rfl)
theorem dX1_wayOf_88 : decode cX1_wayOf 88 = .ok (.ifCond .lt 109, 3) := dk_155 0 109 (dk_at dksX1_wayOf_3 17 rfl rfl)
theorem dX1_wayOf_91 : decode cX1_wayOf 91 = .ok (.iload 8, 2) := dk_21 8 (dk_at dksX1_wayOf_3 20 rfl rfl)
theorem dX1_wayOf_93 : decode cX1_wayOf 93 = .ok (.ifCond .eq 104, 3) := dk_153 0 104 (dk_at dksX1_wayOf_4 0 rfl rfl)
theorem dX1_wayOf_96 : decode cX1_wayOf 96 = .ok (.aload_n 1, 1) := dk_43 (dk_at dksX1_wayOf_4 3 rfl rfl)
theorem dX1_wayOf_97 : decode cX1_wayOf 97 = .ok (.iload 7, 2) := dk_21 7 (dk_at dksX1_wayOf_4 4 rfl rfl)
theorem dX1_wayOf_99 : decode cX1_wayOf 99 = .ok (.aload 5, 2) := dk_25 5 (dk_at dksX1_wayOf_4 6 rfl rfl)
theorem dX1_wayOf_101 : decode cX1_wayOf 101 = .ok (.iload 9, 2) := dk_21 9 (dk_at dksX1_wayOf_4 8 rfl rfl)
theorem dX1_wayOf_103 : decode cX1_wayOf 103 = .ok (.invokevirtual 99, 3) := dk_182 0 99 (dk_at dksX1_wayOf_4 10 rfl rfl)
theorem dX1_wayOf_106 : decode cX1_wayOf 106 = .ok (.checkcast 173, 3) := dk_192 0 173 (dk_at dksX1_wayOf_4 13 rfl rfl)
theorem dX1_wayOf_109 : decode cX1_wayOf 109 = .ok (.invokevirtual 175, 3) := dk_182 0 175 (dk_at dksX1_wayOf_4 16 rfl rfl)
theorem dX1_wayOf_112 : decode cX1_wayOf 112 = .ok (.invokevirtual 364, 3) := dk_182 1 108 (dk_at dksX1_wayOf_4 19 rfl rfl)
theorem dX1_wayOf_115 : decode cX1_wayOf 115 = .ok (.istore 7, 2) := dk_54 7 (dk_at dksX1_wayOf_4 22 rfl rfl)
theorem dX1_wayOf_117 : decode cX1_wayOf 117 = .ok (.iload_n 3, 1) := dk_29 (dk_at dksX1_wayOf_5 0 rfl rfl)
theorem dX1_wayOf_118 : decode cX1_wayOf 118 = .ok (.aload 6, 2) := dk_25 6 (dk_at dksX1_wayOf_5 1 rfl rfl)
theorem dX1_wayOf_120 : decode cX1_wayOf 120 = .ok (.invokevirtual 98, 3) := dk_182 0 98 (dk_at dksX1_wayOf_5 3 rfl rfl)
theorem dX1_wayOf_123 : decode cX1_wayOf 123 = .ok (.iadd, 1) := dk_96 (dk_at dksX1_wayOf_5 6 rfl rfl)
theorem dX1_wayOf_124 : decode cX1_wayOf 124 = .ok (.sipush 240, 3) := dk_17 0 240 (dk_at dksX1_wayOf_5 7 rfl rfl)
theorem dX1_wayOf_127 : decode cX1_wayOf 127 = .ok (.if_icmp .ge 7, 3) := dk_162 0 7 (dk_at dksX1_wayOf_5 10 rfl rfl)
theorem dX1_wayOf_130 : decode cX1_wayOf 130 = .ok (.iconst 1, 1) := dk_4 (dk_at dksX1_wayOf_5 13 rfl rfl)
theorem dX1_wayOf_131 : decode cX1_wayOf 131 = .ok (.goto 4, 3) := dk_167 0 4 (dk_at dksX1_wayOf_5 14 rfl rfl)
theorem dX1_wayOf_134 : decode cX1_wayOf 134 = .ok (.iconst 0, 1) := dk_3 (dk_at dksX1_wayOf_5 17 rfl rfl)
theorem dX1_wayOf_135 : decode cX1_wayOf 135 = .ok (.istore 10, 2) := dk_54 10 (dk_at dksX1_wayOf_5 18 rfl rfl)
theorem dX1_wayOf_137 : decode cX1_wayOf 137 = .ok (.iload 7, 2) := dk_21 7 (dk_at dksX1_wayOf_5 20 rfl rfl)
theorem dX1_wayOf_139 : decode cX1_wayOf 139 = .ok (.iconst (-1), 1) := dk_2 (dk_at dksX1_wayOf_5 22 rfl rfl)
theorem dX1_wayOf_140 : decode cX1_wayOf 140 = .ok (.if_icmp .eq 12, 3) := dk_159 0 12 (dk_at dksX1_wayOf_6 0 rfl rfl)
theorem dX1_wayOf_143 : decode cX1_wayOf 143 = .ok (.aload_n 1, 1) := dk_43 (dk_at dksX1_wayOf_6 3 rfl rfl)
theorem dX1_wayOf_144 : decode cX1_wayOf 144 = .ok (.iload 7, 2) := dk_21 7 (dk_at dksX1_wayOf_6 4 rfl rfl)
theorem dX1_wayOf_146 : decode cX1_wayOf 146 = .ok (.invokevirtual 198, 3) := dk_182 0 198 (dk_at dksX1_wayOf_6 6 rfl rfl)
theorem dX1_wayOf_149 : decode cX1_wayOf 149 = .ok (.ifCond .eq 8, 3) := dk_153 0 8 (dk_at dksX1_wayOf_6 9 rfl rfl)
theorem dX1_wayOf_152 : decode cX1_wayOf 152 = .ok (.iload 10, 2) := dk_21 10 (dk_at dksX1_wayOf_6 12 rfl rfl)
theorem dX1_wayOf_154 : decode cX1_wayOf 154 = .ok (.ifCond .ne 7, 3) := dk_154 0 7 (dk_at dksX1_wayOf_6 14 rfl rfl)
theorem dX1_wayOf_157 : decode cX1_wayOf 157 = .ok (.iconst 1, 1) := dk_4 (dk_at dksX1_wayOf_6 17 rfl rfl)
theorem dX1_wayOf_158 : decode cX1_wayOf 158 = .ok (.goto 4, 3) := dk_167 0 4 (dk_at dksX1_wayOf_6 18 rfl rfl)
theorem dX1_wayOf_161 : decode cX1_wayOf 161 = .ok (.iconst 0, 1) := dk_3 (dk_at dksX1_wayOf_6 21 rfl rfl)
theorem dX1_wayOf_162 : decode cX1_wayOf 162 = .ok (.istore 8, 2) := dk_54 8 (dk_at dksX1_wayOf_6 22 rfl rfl)
theorem dX1_wayOf_164 : decode cX1_wayOf 164 = .ok (.iload 10, 2) := dk_21 10 (dk_at dksX1_wayOf_7 0 rfl rfl)
theorem dX1_wayOf_166 : decode cX1_wayOf 166 = .ok (.ifCond .eq 14, 3) := dk_153 0 14 (dk_at dksX1_wayOf_7 2 rfl rfl)
theorem dX1_wayOf_169 : decode cX1_wayOf 169 = .ok (.aload 6, 2) := dk_25 6 (dk_at dksX1_wayOf_7 5 rfl rfl)
theorem dX1_wayOf_171 : decode cX1_wayOf 171 = .ok (.iload 7, 2) := dk_21 7 (dk_at dksX1_wayOf_7 7 rfl rfl)
theorem dX1_wayOf_173 : decode cX1_wayOf 173 = .ok (.invokestatic 239, 3) := dk_184 0 239 (dk_at dksX1_wayOf_7 9 rfl rfl)
theorem dX1_wayOf_176 : decode cX1_wayOf 176 = .ok (.invokevirtual 202, 3) := dk_182 0 202 (dk_at dksX1_wayOf_7 12 rfl rfl)
theorem dX1_wayOf_179 : decode cX1_wayOf 179 = .ok (.pop, 1) := dk_87 (dk_at dksX1_wayOf_7 15 rfl rfl)
theorem dX1_wayOf_180 : decode cX1_wayOf 180 = .ok (.iload 10, 2) := dk_21 10 (dk_at dksX1_wayOf_7 16 rfl rfl)
theorem dX1_wayOf_182 : decode cX1_wayOf 182 = .ok (.ifCond .ne 9, 3) := dk_154 0 9 (dk_at dksX1_wayOf_7 18 rfl rfl)
theorem dX1_wayOf_185 : decode cX1_wayOf 185 = .ok (.aload 6, 2) := dk_25 6 (dk_at dksX1_wayOf_7 21 rfl rfl)
theorem dX1_wayOf_187 : decode cX1_wayOf 187 = .ok (.invokestatic 149, 3) := dk_184 0 149 (dk_at dksX1_wayOf_8 0 rfl rfl)
theorem dX1_wayOf_190 : decode cX1_wayOf 190 = .ok (.areturn, 1) := dk_176 (dk_at dksX1_wayOf_8 3 rfl rfl)
theorem dX1_wayOf_191 : decode cX1_wayOf 191 = .ok (.iinc 9 (-1), 3) := dk_132 9 255 (dk_at dksX1_wayOf_8 4 rfl rfl)
theorem dX1_wayOf_194 : decode cX1_wayOf 194 = .ok (.goto (-108), 3) := dk_167 255 148 (dk_at dksX1_wayOf_8 7 rfl rfl)
theorem dX1_wayOf_197 : decode cX1_wayOf 197 = .ok (.iload 8, 2) := dk_21 8 (dk_at dksX1_wayOf_8 10 rfl rfl)
theorem dX1_wayOf_199 : decode cX1_wayOf 199 = .ok (.ifCond .eq 11, 3) := dk_153 0 11 (dk_at dksX1_wayOf_8 12 rfl rfl)
theorem dX1_wayOf_202 : decode cX1_wayOf 202 = .ok (.aload 6, 2) := dk_25 6 (dk_at dksX1_wayOf_8 15 rfl rfl)
theorem dX1_wayOf_204 : decode cX1_wayOf 204 = .ok (.invokestatic 149, 3) := dk_184 0 149 (dk_at dksX1_wayOf_8 17 rfl rfl)
theorem dX1_wayOf_207 : decode cX1_wayOf 207 = .ok (.goto 6, 3) := dk_167 0 6 (dk_at dksX1_wayOf_8 20 rfl rfl)
theorem dX1_wayOf_210 : decode cX1_wayOf 210 = .ok (.invokestatic 22, 3) := dk_184 0 22 (dk_at dksX1_wayOf_9 0 rfl rfl)
theorem dX1_wayOf_213 : decode cX1_wayOf 213 = .ok (.areturn, 1) := dk_176 (dk_at dksX1_wayOf_9 3 rfl rfl)
abbrev cX1_wire : ByteArray := prog_1_method_57_code
def yX1_wire : MethodName := ⟨RX1, "wire", "(II)I"⟩
def dkwX1_wire_2 : List UInt8 := [182, 0, 202, 87, 42, 180, 0, 51, 182, 0, 98, 4, 100, 172]
abbrev dktX1_wire_2 : List UInt8 := dkwX1_wire_2 ++ []
def dkwX1_wire_1 : List UInt8 := [162, 0, 7, 4, 167, 0, 4, 3, 184, 0, 189, 42, 180, 0, 51, 187, 1, 118, 89, 27, 28, 183, 1, 120]
abbrev dktX1_wire_1 : List UInt8 := dkwX1_wire_1 ++ dktX1_wire_2
def dkwX1_wire_0 : List UInt8 := [42, 27, 182, 0, 182, 87, 4, 16, 12, 28, 184, 0, 15, 184, 0, 110, 42, 180, 0, 51, 182, 0, 98, 8]
abbrev dktX1_wire_0 : List UInt8 := dkwX1_wire_0 ++ dktX1_wire_1
theorem dksX1_wire_0 : cX1_wire.data.toList.drop 0 = dktX1_wire_0 := by decide +kernel
theorem dksX1_wire_1 : cX1_wire.data.toList.drop 24 = dktX1_wire_1 := dk_seg dksX1_wire_0 24 rfl rfl
theorem dksX1_wire_2 : cX1_wire.data.toList.drop 48 = dktX1_wire_2 := dk_seg dksX1_wire_1 24 rfl rfl
theorem dX1_wire_0 : decode cX1_wire 0 = .ok (.aload_n 0, 1) := dk_42 (dk_at dksX1_wire_0 0 rfl rfl)
theorem dX1_wire_1 : decode cX1_wire 1 = .ok (.iload_n 1, 1) := dk_27 (dk_at dksX1_wire_0 1 rfl rfl)
theorem dX1_wire_2 : decode cX1_wire 2 = .ok (.invokevirtual 182, 3) := dk_182 0 182 (dk_at dksX1_wire_0 2 rfl rfl)
theorem dX1_wire_5 : decode cX1_wire 5 = .ok (.pop, 1) := dk_87 (dk_at dksX1_wire_0 5 rfl rfl)
theorem dX1_wire_6 : decode cX1_wire 6 = .ok (.iconst 1, 1) := dk_4 (dk_at dksX1_wire_0 6 rfl rfl)
theorem dX1_wire_7 : decode cX1_wire 7 = .ok (.bipush 12, 2) := dk_16 12 (dk_at dksX1_wire_0 7 rfl rfl)
theorem dX1_wire_9 : decode cX1_wire 9 = .ok (.iload_n 2, 1) := dk_28 (dk_at dksX1_wire_0 9 rfl rfl)
theorem dX1_wire_10 : decode cX1_wire 10 = .ok (.invokestatic 15, 3) := dk_184 0 15 (dk_at dksX1_wire_0 10 rfl rfl)
theorem dX1_wire_13 : decode cX1_wire 13 = .ok (.invokestatic 110, 3) := dk_184 0 110 (dk_at dksX1_wire_0 13 rfl rfl)
theorem dX1_wire_16 : decode cX1_wire 16 = .ok (.aload_n 0, 1) := dk_42 (dk_at dksX1_wire_0 16 rfl rfl)
theorem dX1_wire_17 : decode cX1_wire 17 = .ok (.getfield 51, 3) := dk_180 0 51 (dk_at dksX1_wire_0 17 rfl rfl)
theorem dX1_wire_20 : decode cX1_wire 20 = .ok (.invokevirtual 98, 3) := dk_182 0 98 (dk_at dksX1_wire_0 20 rfl rfl)
theorem dX1_wire_23 : decode cX1_wire 23 = .ok (.iconst 5, 1) := dk_8 (dk_at dksX1_wire_0 23 rfl rfl)
theorem dX1_wire_24 : decode cX1_wire 24 = .ok (.if_icmp .ge 7, 3) := dk_162 0 7 (dk_at dksX1_wire_1 0 rfl rfl)
theorem dX1_wire_27 : decode cX1_wire 27 = .ok (.iconst 1, 1) := dk_4 (dk_at dksX1_wire_1 3 rfl rfl)
theorem dX1_wire_28 : decode cX1_wire 28 = .ok (.goto 4, 3) := dk_167 0 4 (dk_at dksX1_wire_1 4 rfl rfl)
theorem dX1_wire_31 : decode cX1_wire 31 = .ok (.iconst 0, 1) := dk_3 (dk_at dksX1_wire_1 7 rfl rfl)
theorem dX1_wire_32 : decode cX1_wire 32 = .ok (.invokestatic 189, 3) := dk_184 0 189 (dk_at dksX1_wire_1 8 rfl rfl)
theorem dX1_wire_35 : decode cX1_wire 35 = .ok (.aload_n 0, 1) := dk_42 (dk_at dksX1_wire_1 11 rfl rfl)
theorem dX1_wire_36 : decode cX1_wire 36 = .ok (.getfield 51, 3) := dk_180 0 51 (dk_at dksX1_wire_1 12 rfl rfl)
theorem dX1_wire_39 : decode cX1_wire 39 = .ok (.new 374, 3) := dk_187 1 118 (dk_at dksX1_wire_1 15 rfl rfl)
theorem dX1_wire_42 : decode cX1_wire 42 = .ok (.dup, 1) := dk_89 (dk_at dksX1_wire_1 18 rfl rfl)
theorem dX1_wire_43 : decode cX1_wire 43 = .ok (.iload_n 1, 1) := dk_27 (dk_at dksX1_wire_1 19 rfl rfl)
theorem dX1_wire_44 : decode cX1_wire 44 = .ok (.iload_n 2, 1) := dk_28 (dk_at dksX1_wire_1 20 rfl rfl)
theorem dX1_wire_45 : decode cX1_wire 45 = .ok (.invokespecial 376, 3) := dk_183 1 120 (dk_at dksX1_wire_1 21 rfl rfl)
theorem dX1_wire_48 : decode cX1_wire 48 = .ok (.invokevirtual 202, 3) := dk_182 0 202 (dk_at dksX1_wire_2 0 rfl rfl)
theorem dX1_wire_51 : decode cX1_wire 51 = .ok (.pop, 1) := dk_87 (dk_at dksX1_wire_2 3 rfl rfl)
theorem dX1_wire_52 : decode cX1_wire 52 = .ok (.aload_n 0, 1) := dk_42 (dk_at dksX1_wire_2 4 rfl rfl)
theorem dX1_wire_53 : decode cX1_wire 53 = .ok (.getfield 51, 3) := dk_180 0 51 (dk_at dksX1_wire_2 5 rfl rfl)
theorem dX1_wire_56 : decode cX1_wire 56 = .ok (.invokevirtual 98, 3) := dk_182 0 98 (dk_at dksX1_wire_2 8 rfl rfl)
theorem dX1_wire_59 : decode cX1_wire 59 = .ok (.iconst 1, 1) := dk_4 (dk_at dksX1_wire_2 11 rfl rfl)
theorem dX1_wire_60 : decode cX1_wire 60 = .ok (.isub, 1) := dk_100 (dk_at dksX1_wire_2 12 rfl rfl)
theorem dX1_wire_61 : decode cX1_wire 61 = .ok (.ireturn, 1) := dk_172 (dk_at dksX1_wire_2 13 rfl rfl)
abbrev cX1_where : ByteArray := prog_1_method_58_code
def yX1_where : MethodName := ⟨RX1, "where", "(II)I"⟩
def dkwX1_where_0 : List UInt8 := [42, 27, 182, 1, 121, 78, 28, 184, 0, 243, 45, 28, 182, 1, 125, 172]
abbrev dktX1_where_0 : List UInt8 := dkwX1_where_0 ++ []
theorem dksX1_where_0 : cX1_where.data.toList.drop 0 = dktX1_where_0 := by decide +kernel
theorem dX1_where_0 : decode cX1_where 0 = .ok (.aload_n 0, 1) := dk_42 (dk_at dksX1_where_0 0 rfl rfl)
theorem dX1_where_1 : decode cX1_where 1 = .ok (.iload_n 1, 1) := dk_27 (dk_at dksX1_where_0 1 rfl rfl)
theorem dX1_where_2 : decode cX1_where 2 = .ok (.invokevirtual 377, 3) := dk_182 1 121 (dk_at dksX1_where_0 2 rfl rfl)
theorem dX1_where_5 : decode cX1_where 5 = .ok (.astore_n 3, 1) := dk_78 (dk_at dksX1_where_0 5 rfl rfl)
theorem dX1_where_6 : decode cX1_where 6 = .ok (.iload_n 2, 1) := dk_28 (dk_at dksX1_where_0 6 rfl rfl)
theorem dX1_where_7 : decode cX1_where 7 = .ok (.invokestatic 243, 3) := dk_184 0 243 (dk_at dksX1_where_0 7 rfl rfl)
theorem dX1_where_10 : decode cX1_where 10 = .ok (.aload_n 3, 1) := dk_45 (dk_at dksX1_where_0 10 rfl rfl)
theorem dX1_where_11 : decode cX1_where 11 = .ok (.iload_n 2, 1) := dk_28 (dk_at dksX1_where_0 11 rfl rfl)
theorem dX1_where_12 : decode cX1_where 12 = .ok (.invokevirtual 381, 3) := dk_182 1 125 (dk_at dksX1_where_0 12 rfl rfl)
theorem dX1_where_15 : decode cX1_where 15 = .ok (.ireturn, 1) := dk_172 (dk_at dksX1_where_0 15 rfl rfl)
abbrev cX1_intruderAt : ByteArray := prog_1_method_12_code
def yX1_intruderAt : MethodName := ⟨RX1, "intruderAt", "(I)LNightwatchWall$Intruder;"⟩
def dkwX1_intruderAt_0 : List UInt8 := [27, 42, 180, 0, 48, 182, 0, 98, 184, 0, 94, 42, 180, 0, 48, 27, 182, 0, 99, 192, 0, 104, 176]
abbrev dktX1_intruderAt_0 : List UInt8 := dkwX1_intruderAt_0 ++ []
theorem dksX1_intruderAt_0 : cX1_intruderAt.data.toList.drop 0 = dktX1_intruderAt_0 := by decide +kernel
theorem dX1_intruderAt_0 : decode cX1_intruderAt 0 = .ok (.iload_n 1, 1) := dk_27 (dk_at dksX1_intruderAt_0 0 rfl rfl)
theorem dX1_intruderAt_1 : decode cX1_intruderAt 1 = .ok (.aload_n 0, 1) := dk_42 (dk_at dksX1_intruderAt_0 1 rfl rfl)
theorem dX1_intruderAt_2 : decode cX1_intruderAt 2 = .ok (.getfield 48, 3) := dk_180 0 48 (dk_at dksX1_intruderAt_0 2 rfl rfl)
theorem dX1_intruderAt_5 : decode cX1_intruderAt 5 = .ok (.invokevirtual 98, 3) := dk_182 0 98 (dk_at dksX1_intruderAt_0 5 rfl rfl)
theorem dX1_intruderAt_8 : decode cX1_intruderAt 8 = .ok (.invokestatic 94, 3) := dk_184 0 94 (dk_at dksX1_intruderAt_0 8 rfl rfl)
theorem dX1_intruderAt_11 : decode cX1_intruderAt 11 = .ok (.aload_n 0, 1) := dk_42 (dk_at dksX1_intruderAt_0 11 rfl rfl)
theorem dX1_intruderAt_12 : decode cX1_intruderAt 12 = .ok (.getfield 48, 3) := dk_180 0 48 (dk_at dksX1_intruderAt_0 12 rfl rfl)
theorem dX1_intruderAt_15 : decode cX1_intruderAt 15 = .ok (.iload_n 1, 1) := dk_27 (dk_at dksX1_intruderAt_0 15 rfl rfl)
theorem dX1_intruderAt_16 : decode cX1_intruderAt 16 = .ok (.invokevirtual 99, 3) := dk_182 0 99 (dk_at dksX1_intruderAt_0 16 rfl rfl)
theorem dX1_intruderAt_19 : decode cX1_intruderAt 19 = .ok (.checkcast 104, 3) := dk_192 0 104 (dk_at dksX1_intruderAt_0 19 rfl rfl)
theorem dX1_intruderAt_22 : decode cX1_intruderAt 22 = .ok (.areturn, 1) := dk_176 (dk_at dksX1_intruderAt_0 22 rfl rfl)
abbrev cX1_ofIntruder : ByteArray := prog_1_method_64_code
def yX1_ofIntruder : MethodName := ⟨RX1, "ofIntruder", "(II)I"⟩
def dkwX1_ofIntruder_0 : List UInt8 := [42, 27, 182, 1, 121, 78, 3, 16, 8, 28, 184, 0, 15, 184, 0, 110, 42, 45, 28, 182, 1, 155, 172]
abbrev dktX1_ofIntruder_0 : List UInt8 := dkwX1_ofIntruder_0 ++ []
theorem dksX1_ofIntruder_0 : cX1_ofIntruder.data.toList.drop 0 = dktX1_ofIntruder_0 := by decide +kernel
theorem dX1_ofIntruder_0 : decode cX1_ofIntruder 0 = .ok (.aload_n 0, 1) := dk_42 (dk_at dksX1_ofIntruder_0 0 rfl rfl)
theorem dX1_ofIntruder_1 : decode cX1_ofIntruder 1 = .ok (.iload_n 1, 1) := dk_27 (dk_at dksX1_ofIntruder_0 1 rfl rfl)
theorem dX1_ofIntruder_2 : decode cX1_ofIntruder 2 = .ok (.invokevirtual 377, 3) := dk_182 1 121 (dk_at dksX1_ofIntruder_0 2 rfl rfl)
theorem dX1_ofIntruder_5 : decode cX1_ofIntruder 5 = .ok (.astore_n 3, 1) := dk_78 (dk_at dksX1_ofIntruder_0 5 rfl rfl)
theorem dX1_ofIntruder_6 : decode cX1_ofIntruder 6 = .ok (.iconst 0, 1) := dk_3 (dk_at dksX1_ofIntruder_0 6 rfl rfl)
theorem dX1_ofIntruder_7 : decode cX1_ofIntruder 7 = .ok (.bipush 8, 2) := dk_16 8 (dk_at dksX1_ofIntruder_0 7 rfl rfl)
theorem dX1_ofIntruder_9 : decode cX1_ofIntruder 9 = .ok (.iload_n 2, 1) := dk_28 (dk_at dksX1_ofIntruder_0 9 rfl rfl)
theorem dX1_ofIntruder_10 : decode cX1_ofIntruder 10 = .ok (.invokestatic 15, 3) := dk_184 0 15 (dk_at dksX1_ofIntruder_0 10 rfl rfl)
theorem dX1_ofIntruder_13 : decode cX1_ofIntruder 13 = .ok (.invokestatic 110, 3) := dk_184 0 110 (dk_at dksX1_ofIntruder_0 13 rfl rfl)
theorem dX1_ofIntruder_16 : decode cX1_ofIntruder 16 = .ok (.aload_n 0, 1) := dk_42 (dk_at dksX1_ofIntruder_0 16 rfl rfl)
theorem dX1_ofIntruder_17 : decode cX1_ofIntruder 17 = .ok (.aload_n 3, 1) := dk_45 (dk_at dksX1_ofIntruder_0 17 rfl rfl)
theorem dX1_ofIntruder_18 : decode cX1_ofIntruder 18 = .ok (.iload_n 2, 1) := dk_28 (dk_at dksX1_ofIntruder_0 18 rfl rfl)
theorem dX1_ofIntruder_19 : decode cX1_ofIntruder 19 = .ok (.invokevirtual 411, 3) := dk_182 1 155 (dk_at dksX1_ofIntruder_0 19 rfl rfl)
theorem dX1_ofIntruder_22 : decode cX1_ofIntruder 22 = .ok (.ireturn, 1) := dk_172 (dk_at dksX1_ofIntruder_0 22 rfl rfl)
abbrev cX1_force : ByteArray := prog_1_method_65_code
def yX1_force : MethodName := ⟨RX1, "force", "(III)I"⟩
def dkwX1_force_4 : List UInt8 := [25, 4, 180, 1, 149, 172]
abbrev dktX1_force_4 : List UInt8 := dkwX1_force_4 ++ []
def dkwX1_force_3 : List UInt8 := [167, 0, 4, 3, 184, 0, 189, 25, 4, 89, 180, 1, 149, 4, 96, 181, 1, 149, 25, 4, 29, 181, 1, 152]
abbrev dktX1_force_3 : List UInt8 := dkwX1_force_3 ++ dktX1_force_4
def dkwX1_force_2 : List UInt8 := [21, 5, 2, 159, 0, 22, 29, 21, 5, 161, 0, 16, 29, 25, 4, 180, 1, 152, 161, 0, 7, 4]
abbrev dktX1_force_2 : List UInt8 := dkwX1_force_2 ++ dktX1_force_3
def dkwX1_force_1 : List UInt8 := [167, 0, 4, 3, 184, 0, 110, 42, 25, 4, 182, 1, 131, 54, 5, 28, 25, 4, 180, 1, 149, 160, 0, 28]
abbrev dktX1_force_1 : List UInt8 := dkwX1_force_1 ++ dktX1_force_2
def dkwX1_force_0 : List UInt8 := [42, 27, 182, 1, 121, 58, 4, 3, 6, 28, 184, 0, 15, 153, 0, 14, 29, 184, 0, 106, 153, 0, 7, 4]
abbrev dktX1_force_0 : List UInt8 := dkwX1_force_0 ++ dktX1_force_1
theorem dksX1_force_0 : cX1_force.data.toList.drop 0 = dktX1_force_0 := by decide +kernel
theorem dksX1_force_1 : cX1_force.data.toList.drop 24 = dktX1_force_1 := dk_seg dksX1_force_0 24 rfl rfl
theorem dksX1_force_2 : cX1_force.data.toList.drop 48 = dktX1_force_2 := dk_seg dksX1_force_1 24 rfl rfl
theorem dksX1_force_3 : cX1_force.data.toList.drop 70 = dktX1_force_3 := dk_seg dksX1_force_2 22 rfl rfl
theorem dksX1_force_4 : cX1_force.data.toList.drop 94 = dktX1_force_4 := dk_seg dksX1_force_3 24 rfl rfl
theorem dX1_force_0 : decode cX1_force 0 = .ok (.aload_n 0, 1) := dk_42 (dk_at dksX1_force_0 0 rfl rfl)
theorem dX1_force_1 : decode cX1_force 1 = .ok (.iload_n 1, 1) := dk_27 (dk_at dksX1_force_0 1 rfl rfl)
theorem dX1_force_2 : decode cX1_force 2 = .ok (.invokevirtual 377, 3) := dk_182 1 121 (dk_at dksX1_force_0 2 rfl rfl)
theorem dX1_force_5 : decode cX1_force 5 = .ok (.astore 4, 2) := dk_58 4 (dk_at dksX1_force_0 5 rfl rfl)
theorem dX1_force_7 : decode cX1_force 7 = .ok (.iconst 0, 1) := dk_3 (dk_at dksX1_force_0 7 rfl rfl)
theorem dX1_force_8 : decode cX1_force 8 = .ok (.iconst 3, 1) := dk_6 (dk_at dksX1_force_0 8 rfl rfl)
theorem dX1_force_9 : decode cX1_force 9 = .ok (.iload_n 2, 1) := dk_28 (dk_at dksX1_force_0 9 rfl rfl)
theorem dX1_force_10 : decode cX1_force 10 = .ok (.invokestatic 15, 3) := dk_184 0 15 (dk_at dksX1_force_0 10 rfl rfl)
theorem dX1_force_13 : decode cX1_force 13 = .ok (.ifCond .eq 14, 3) := dk_153 0 14 (dk_at dksX1_force_0 13 rfl rfl)
theorem dX1_force_16 : decode cX1_force 16 = .ok (.iload_n 3, 1) := dk_29 (dk_at dksX1_force_0 16 rfl rfl)
theorem dX1_force_17 : decode cX1_force 17 = .ok (.invokestatic 106, 3) := dk_184 0 106 (dk_at dksX1_force_0 17 rfl rfl)
theorem dX1_force_20 : decode cX1_force 20 = .ok (.ifCond .eq 7, 3) := dk_153 0 7 (dk_at dksX1_force_0 20 rfl rfl)
theorem dX1_force_23 : decode cX1_force 23 = .ok (.iconst 1, 1) := dk_4 (dk_at dksX1_force_0 23 rfl rfl)
theorem dX1_force_24 : decode cX1_force 24 = .ok (.goto 4, 3) := dk_167 0 4 (dk_at dksX1_force_1 0 rfl rfl)
theorem dX1_force_27 : decode cX1_force 27 = .ok (.iconst 0, 1) := dk_3 (dk_at dksX1_force_1 3 rfl rfl)
theorem dX1_force_28 : decode cX1_force 28 = .ok (.invokestatic 110, 3) := dk_184 0 110 (dk_at dksX1_force_1 4 rfl rfl)
theorem dX1_force_31 : decode cX1_force 31 = .ok (.aload_n 0, 1) := dk_42 (dk_at dksX1_force_1 7 rfl rfl)
theorem dX1_force_32 : decode cX1_force 32 = .ok (.aload 4, 2) := dk_25 4 (dk_at dksX1_force_1 8 rfl rfl)
theorem dX1_force_34 : decode cX1_force 34 = .ok (.invokevirtual 387, 3) := dk_182 1 131 (dk_at dksX1_force_1 10 rfl rfl)
theorem dX1_force_37 : decode cX1_force 37 = .ok (.istore 5, 2) := dk_54 5 (dk_at dksX1_force_1 13 rfl rfl)
theorem dX1_force_39 : decode cX1_force 39 = .ok (.iload_n 2, 1) := dk_28 (dk_at dksX1_force_1 15 rfl rfl)
theorem dX1_force_40 : decode cX1_force 40 = .ok (.aload 4, 2) := dk_25 4 (dk_at dksX1_force_1 16 rfl rfl)
theorem dX1_force_42 : decode cX1_force 42 = .ok (.getfield 405, 3) := dk_180 1 149 (dk_at dksX1_force_1 18 rfl rfl)
theorem dX1_force_45 : decode cX1_force 45 = .ok (.if_icmp .ne 28, 3) := dk_160 0 28 (dk_at dksX1_force_1 21 rfl rfl)
theorem dX1_force_48 : decode cX1_force 48 = .ok (.iload 5, 2) := dk_21 5 (dk_at dksX1_force_2 0 rfl rfl)
theorem dX1_force_50 : decode cX1_force 50 = .ok (.iconst (-1), 1) := dk_2 (dk_at dksX1_force_2 2 rfl rfl)
theorem dX1_force_51 : decode cX1_force 51 = .ok (.if_icmp .eq 22, 3) := dk_159 0 22 (dk_at dksX1_force_2 3 rfl rfl)
theorem dX1_force_54 : decode cX1_force 54 = .ok (.iload_n 3, 1) := dk_29 (dk_at dksX1_force_2 6 rfl rfl)
theorem dX1_force_55 : decode cX1_force 55 = .ok (.iload 5, 2) := dk_21 5 (dk_at dksX1_force_2 7 rfl rfl)
theorem dX1_force_57 : decode cX1_force 57 = .ok (.if_icmp .lt 16, 3) := dk_161 0 16 (dk_at dksX1_force_2 9 rfl rfl)
theorem dX1_force_60 : decode cX1_force 60 = .ok (.iload_n 3, 1) := dk_29 (dk_at dksX1_force_2 12 rfl rfl)
theorem dX1_force_61 : decode cX1_force 61 = .ok (.aload 4, 2) := dk_25 4 (dk_at dksX1_force_2 13 rfl rfl)
theorem dX1_force_63 : decode cX1_force 63 = .ok (.getfield 408, 3) := dk_180 1 152 (dk_at dksX1_force_2 15 rfl rfl)
theorem dX1_force_66 : decode cX1_force 66 = .ok (.if_icmp .lt 7, 3) := dk_161 0 7 (dk_at dksX1_force_2 18 rfl rfl)
theorem dX1_force_69 : decode cX1_force 69 = .ok (.iconst 1, 1) := dk_4 (dk_at dksX1_force_2 21 rfl rfl)
theorem dX1_force_70 : decode cX1_force 70 = .ok (.goto 4, 3) := dk_167 0 4 (dk_at dksX1_force_3 0 rfl rfl)
theorem dX1_force_73 : decode cX1_force 73 = .ok (.iconst 0, 1) := dk_3 (dk_at dksX1_force_3 3 rfl rfl)
theorem dX1_force_74 : decode cX1_force 74 = .ok (.invokestatic 189, 3) := dk_184 0 189 (dk_at dksX1_force_3 4 rfl rfl)
theorem dX1_force_77 : decode cX1_force 77 = .ok (.aload 4, 2) := dk_25 4 (dk_at dksX1_force_3 7 rfl rfl)
theorem dX1_force_79 : decode cX1_force 79 = .ok (.dup, 1) := dk_89 (dk_at dksX1_force_3 9 rfl rfl)
theorem dX1_force_80 : decode cX1_force 80 = .ok (.getfield 405, 3) := dk_180 1 149 (dk_at dksX1_force_3 10 rfl rfl)
theorem dX1_force_83 : decode cX1_force 83 = .ok (.iconst 1, 1) := dk_4 (dk_at dksX1_force_3 13 rfl rfl)
theorem dX1_force_84 : decode cX1_force 84 = .ok (.iadd, 1) := dk_96 (dk_at dksX1_force_3 14 rfl rfl)
theorem dX1_force_85 : decode cX1_force 85 = .ok (.putfield 405, 3) := dk_181 1 149 (dk_at dksX1_force_3 15 rfl rfl)
theorem dX1_force_88 : decode cX1_force 88 = .ok (.aload 4, 2) := dk_25 4 (dk_at dksX1_force_3 18 rfl rfl)
theorem dX1_force_90 : decode cX1_force 90 = .ok (.iload_n 3, 1) := dk_29 (dk_at dksX1_force_3 20 rfl rfl)
theorem dX1_force_91 : decode cX1_force 91 = .ok (.putfield 408, 3) := dk_181 1 152 (dk_at dksX1_force_3 21 rfl rfl)
theorem dX1_force_94 : decode cX1_force 94 = .ok (.aload 4, 2) := dk_25 4 (dk_at dksX1_force_4 0 rfl rfl)
theorem dX1_force_96 : decode cX1_force 96 = .ok (.getfield 405, 3) := dk_180 1 149 (dk_at dksX1_force_4 2 rfl rfl)
theorem dX1_force_99 : decode cX1_force 99 = .ok (.ireturn, 1) := dk_172 (dk_at dksX1_force_4 5 rfl rfl)
abbrev cX1_ofWire : ByteArray := prog_1_method_68_code
def yX1_ofWire : MethodName := ⟨RX1, "ofWire", "(II)I"⟩
def dkwX1_ofWire_1 : List UInt8 := [180, 0, 51, 27, 182, 0, 99, 192, 1, 118, 28, 182, 1, 169, 172]
abbrev dktX1_ofWire_1 : List UInt8 := dkwX1_ofWire_1 ++ []
def dkwX1_ofWire_0 : List UInt8 := [27, 42, 180, 0, 51, 182, 0, 98, 184, 0, 94, 3, 7, 28, 184, 0, 15, 184, 0, 110, 42, 42]
abbrev dktX1_ofWire_0 : List UInt8 := dkwX1_ofWire_0 ++ dktX1_ofWire_1
theorem dksX1_ofWire_0 : cX1_ofWire.data.toList.drop 0 = dktX1_ofWire_0 := by decide +kernel
theorem dksX1_ofWire_1 : cX1_ofWire.data.toList.drop 22 = dktX1_ofWire_1 := dk_seg dksX1_ofWire_0 22 rfl rfl
theorem dX1_ofWire_0 : decode cX1_ofWire 0 = .ok (.iload_n 1, 1) := dk_27 (dk_at dksX1_ofWire_0 0 rfl rfl)
theorem dX1_ofWire_1 : decode cX1_ofWire 1 = .ok (.aload_n 0, 1) := dk_42 (dk_at dksX1_ofWire_0 1 rfl rfl)
theorem dX1_ofWire_2 : decode cX1_ofWire 2 = .ok (.getfield 51, 3) := dk_180 0 51 (dk_at dksX1_ofWire_0 2 rfl rfl)
theorem dX1_ofWire_5 : decode cX1_ofWire 5 = .ok (.invokevirtual 98, 3) := dk_182 0 98 (dk_at dksX1_ofWire_0 5 rfl rfl)
theorem dX1_ofWire_8 : decode cX1_ofWire 8 = .ok (.invokestatic 94, 3) := dk_184 0 94 (dk_at dksX1_ofWire_0 8 rfl rfl)
theorem dX1_ofWire_11 : decode cX1_ofWire 11 = .ok (.iconst 0, 1) := dk_3 (dk_at dksX1_ofWire_0 11 rfl rfl)
theorem dX1_ofWire_12 : decode cX1_ofWire 12 = .ok (.iconst 4, 1) := dk_7 (dk_at dksX1_ofWire_0 12 rfl rfl)
theorem dX1_ofWire_13 : decode cX1_ofWire 13 = .ok (.iload_n 2, 1) := dk_28 (dk_at dksX1_ofWire_0 13 rfl rfl)
theorem dX1_ofWire_14 : decode cX1_ofWire 14 = .ok (.invokestatic 15, 3) := dk_184 0 15 (dk_at dksX1_ofWire_0 14 rfl rfl)
theorem dX1_ofWire_17 : decode cX1_ofWire 17 = .ok (.invokestatic 110, 3) := dk_184 0 110 (dk_at dksX1_ofWire_0 17 rfl rfl)
theorem dX1_ofWire_20 : decode cX1_ofWire 20 = .ok (.aload_n 0, 1) := dk_42 (dk_at dksX1_ofWire_0 20 rfl rfl)
theorem dX1_ofWire_21 : decode cX1_ofWire 21 = .ok (.aload_n 0, 1) := dk_42 (dk_at dksX1_ofWire_0 21 rfl rfl)
theorem dX1_ofWire_22 : decode cX1_ofWire 22 = .ok (.getfield 51, 3) := dk_180 0 51 (dk_at dksX1_ofWire_1 0 rfl rfl)
theorem dX1_ofWire_25 : decode cX1_ofWire 25 = .ok (.iload_n 1, 1) := dk_27 (dk_at dksX1_ofWire_1 3 rfl rfl)
theorem dX1_ofWire_26 : decode cX1_ofWire 26 = .ok (.invokevirtual 99, 3) := dk_182 0 99 (dk_at dksX1_ofWire_1 4 rfl rfl)
theorem dX1_ofWire_29 : decode cX1_ofWire 29 = .ok (.checkcast 374, 3) := dk_192 1 118 (dk_at dksX1_ofWire_1 7 rfl rfl)
theorem dX1_ofWire_32 : decode cX1_ofWire 32 = .ok (.iload_n 2, 1) := dk_28 (dk_at dksX1_ofWire_1 10 rfl rfl)
theorem dX1_ofWire_33 : decode cX1_ofWire 33 = .ok (.invokevirtual 425, 3) := dk_182 1 169 (dk_at dksX1_ofWire_1 11 rfl rfl)
theorem dX1_ofWire_36 : decode cX1_ofWire 36 = .ok (.ireturn, 1) := dk_172 (dk_at dksX1_ofWire_1 14 rfl rfl)
abbrev cX1_sneak : ByteArray := prog_1_method_72_code
def yX1_sneak : MethodName := ⟨RX1, "sneak", "(IIII)I"⟩
def dkwX1_sneak_4 : List UInt8 := [132, 6, 1, 167, 255, 209, 2, 172]
abbrev dktX1_sneak_4 : List UInt8 := dkwX1_sneak_4 ++ []
def dkwX1_sneak_3 : List UInt8 := [42, 25, 5, 29, 21, 6, 96, 182, 1, 180, 58, 5, 25, 5, 28, 51, 153, 0, 6, 21, 6, 172]
abbrev dktX1_sneak_3 : List UInt8 := dkwX1_sneak_3 ++ dktX1_sneak_4
def dkwX1_sneak_2 : List UInt8 := [54, 6, 21, 6, 21, 4, 163, 0, 46, 29, 21, 6, 96, 17, 0, 240, 162, 0, 36, 21, 6, 158, 0, 15]
abbrev dktX1_sneak_2 : List UInt8 := dkwX1_sneak_2 ++ dktX1_sneak_3
def dkwX1_sneak_1 : List UInt8 := [184, 0, 15, 153, 0, 7, 4, 167, 0, 4, 3, 184, 0, 110, 42, 27, 29, 182, 1, 176, 58, 5, 3]
abbrev dktX1_sneak_1 : List UInt8 := dkwX1_sneak_1 ++ dktX1_sneak_2
def dkwX1_sneak_0 : List UInt8 := [42, 27, 182, 0, 182, 87, 42, 28, 182, 0, 182, 87, 29, 184, 0, 106, 153, 0, 18, 3, 16, 60, 21, 4]
abbrev dktX1_sneak_0 : List UInt8 := dkwX1_sneak_0 ++ dktX1_sneak_1
theorem dksX1_sneak_0 : cX1_sneak.data.toList.drop 0 = dktX1_sneak_0 := by decide +kernel
theorem dksX1_sneak_1 : cX1_sneak.data.toList.drop 24 = dktX1_sneak_1 := dk_seg dksX1_sneak_0 24 rfl rfl
theorem dksX1_sneak_2 : cX1_sneak.data.toList.drop 47 = dktX1_sneak_2 := dk_seg dksX1_sneak_1 23 rfl rfl
theorem dksX1_sneak_3 : cX1_sneak.data.toList.drop 71 = dktX1_sneak_3 := dk_seg dksX1_sneak_2 24 rfl rfl
theorem dksX1_sneak_4 : cX1_sneak.data.toList.drop 93 = dktX1_sneak_4 := dk_seg dksX1_sneak_3 22 rfl rfl
theorem dX1_sneak_0 : decode cX1_sneak 0 = .ok (.aload_n 0, 1) := dk_42 (dk_at dksX1_sneak_0 0 rfl rfl)
theorem dX1_sneak_1 : decode cX1_sneak 1 = .ok (.iload_n 1, 1) := dk_27 (dk_at dksX1_sneak_0 1 rfl rfl)
theorem dX1_sneak_2 : decode cX1_sneak 2 = .ok (.invokevirtual 182, 3) := dk_182 0 182 (dk_at dksX1_sneak_0 2 rfl rfl)
theorem dX1_sneak_5 : decode cX1_sneak 5 = .ok (.pop, 1) := dk_87 (dk_at dksX1_sneak_0 5 rfl rfl)
theorem dX1_sneak_6 : decode cX1_sneak 6 = .ok (.aload_n 0, 1) := dk_42 (dk_at dksX1_sneak_0 6 rfl rfl)
theorem dX1_sneak_7 : decode cX1_sneak 7 = .ok (.iload_n 2, 1) := dk_28 (dk_at dksX1_sneak_0 7 rfl rfl)
theorem dX1_sneak_8 : decode cX1_sneak 8 = .ok (.invokevirtual 182, 3) := dk_182 0 182 (dk_at dksX1_sneak_0 8 rfl rfl)
theorem dX1_sneak_11 : decode cX1_sneak 11 = .ok (.pop, 1) := dk_87 (dk_at dksX1_sneak_0 11 rfl rfl)
theorem dX1_sneak_12 : decode cX1_sneak 12 = .ok (.iload_n 3, 1) := dk_29 (dk_at dksX1_sneak_0 12 rfl rfl)
theorem dX1_sneak_13 : decode cX1_sneak 13 = .ok (.invokestatic 106, 3) := dk_184 0 106 (dk_at dksX1_sneak_0 13 rfl rfl)
theorem dX1_sneak_16 : decode cX1_sneak 16 = .ok (.ifCond .eq 18, 3) := dk_153 0 18 (dk_at dksX1_sneak_0 16 rfl rfl)
theorem dX1_sneak_19 : decode cX1_sneak 19 = .ok (.iconst 0, 1) := dk_3 (dk_at dksX1_sneak_0 19 rfl rfl)
theorem dX1_sneak_20 : decode cX1_sneak 20 = .ok (.bipush 60, 2) := dk_16 60 (dk_at dksX1_sneak_0 20 rfl rfl)
theorem dX1_sneak_22 : decode cX1_sneak 22 = .ok (.iload 4, 2) := dk_21 4 (dk_at dksX1_sneak_0 22 rfl rfl)
theorem dX1_sneak_24 : decode cX1_sneak 24 = .ok (.invokestatic 15, 3) := dk_184 0 15 (dk_at dksX1_sneak_1 0 rfl rfl)
theorem dX1_sneak_27 : decode cX1_sneak 27 = .ok (.ifCond .eq 7, 3) := dk_153 0 7 (dk_at dksX1_sneak_1 3 rfl rfl)
theorem dX1_sneak_30 : decode cX1_sneak 30 = .ok (.iconst 1, 1) := dk_4 (dk_at dksX1_sneak_1 6 rfl rfl)
theorem dX1_sneak_31 : decode cX1_sneak 31 = .ok (.goto 4, 3) := dk_167 0 4 (dk_at dksX1_sneak_1 7 rfl rfl)
theorem dX1_sneak_34 : decode cX1_sneak 34 = .ok (.iconst 0, 1) := dk_3 (dk_at dksX1_sneak_1 10 rfl rfl)
theorem dX1_sneak_35 : decode cX1_sneak 35 = .ok (.invokestatic 110, 3) := dk_184 0 110 (dk_at dksX1_sneak_1 11 rfl rfl)
theorem dX1_sneak_38 : decode cX1_sneak 38 = .ok (.aload_n 0, 1) := dk_42 (dk_at dksX1_sneak_1 14 rfl rfl)
theorem dX1_sneak_39 : decode cX1_sneak 39 = .ok (.iload_n 1, 1) := dk_27 (dk_at dksX1_sneak_1 15 rfl rfl)
theorem dX1_sneak_40 : decode cX1_sneak 40 = .ok (.iload_n 3, 1) := dk_29 (dk_at dksX1_sneak_1 16 rfl rfl)
theorem dX1_sneak_41 : decode cX1_sneak 41 = .ok (.invokevirtual 432, 3) := dk_182 1 176 (dk_at dksX1_sneak_1 17 rfl rfl)
theorem dX1_sneak_44 : decode cX1_sneak 44 = .ok (.astore 5, 2) := dk_58 5 (dk_at dksX1_sneak_1 20 rfl rfl)
theorem dX1_sneak_46 : decode cX1_sneak 46 = .ok (.iconst 0, 1) := dk_3 (dk_at dksX1_sneak_1 22 rfl rfl)
theorem dX1_sneak_47 : decode cX1_sneak 47 = .ok (.istore 6, 2) := dk_54 6 (dk_at dksX1_sneak_2 0 rfl rfl)
theorem dX1_sneak_49 : decode cX1_sneak 49 = .ok (.iload 6, 2) := dk_21 6 (dk_at dksX1_sneak_2 2 rfl rfl)
theorem dX1_sneak_51 : decode cX1_sneak 51 = .ok (.iload 4, 2) := dk_21 4 (dk_at dksX1_sneak_2 4 rfl rfl)
theorem dX1_sneak_53 : decode cX1_sneak 53 = .ok (.if_icmp .gt 46, 3) := dk_163 0 46 (dk_at dksX1_sneak_2 6 rfl rfl)
theorem dX1_sneak_56 : decode cX1_sneak 56 = .ok (.iload_n 3, 1) := dk_29 (dk_at dksX1_sneak_2 9 rfl rfl)
theorem dX1_sneak_57 : decode cX1_sneak 57 = .ok (.iload 6, 2) := dk_21 6 (dk_at dksX1_sneak_2 10 rfl rfl)
theorem dX1_sneak_59 : decode cX1_sneak 59 = .ok (.iadd, 1) := dk_96 (dk_at dksX1_sneak_2 12 rfl rfl)
theorem dX1_sneak_60 : decode cX1_sneak 60 = .ok (.sipush 240, 3) := dk_17 0 240 (dk_at dksX1_sneak_2 13 rfl rfl)
theorem dX1_sneak_63 : decode cX1_sneak 63 = .ok (.if_icmp .ge 36, 3) := dk_162 0 36 (dk_at dksX1_sneak_2 16 rfl rfl)
theorem dX1_sneak_66 : decode cX1_sneak 66 = .ok (.iload 6, 2) := dk_21 6 (dk_at dksX1_sneak_2 19 rfl rfl)
theorem dX1_sneak_68 : decode cX1_sneak 68 = .ok (.ifCond .le 15, 3) := dk_158 0 15 (dk_at dksX1_sneak_2 21 rfl rfl)
theorem dX1_sneak_71 : decode cX1_sneak 71 = .ok (.aload_n 0, 1) := dk_42 (dk_at dksX1_sneak_3 0 rfl rfl)
theorem dX1_sneak_72 : decode cX1_sneak 72 = .ok (.aload 5, 2) := dk_25 5 (dk_at dksX1_sneak_3 1 rfl rfl)
theorem dX1_sneak_74 : decode cX1_sneak 74 = .ok (.iload_n 3, 1) := dk_29 (dk_at dksX1_sneak_3 3 rfl rfl)
theorem dX1_sneak_75 : decode cX1_sneak 75 = .ok (.iload 6, 2) := dk_21 6 (dk_at dksX1_sneak_3 4 rfl rfl)
theorem dX1_sneak_77 : decode cX1_sneak 77 = .ok (.iadd, 1) := dk_96 (dk_at dksX1_sneak_3 6 rfl rfl)
theorem dX1_sneak_78 : decode cX1_sneak 78 = .ok (.invokevirtual 436, 3) := dk_182 1 180 (dk_at dksX1_sneak_3 7 rfl rfl)
theorem dX1_sneak_81 : decode cX1_sneak 81 = .ok (.astore 5, 2) := dk_58 5 (dk_at dksX1_sneak_3 10 rfl rfl)
theorem dX1_sneak_83 : decode cX1_sneak 83 = .ok (.aload 5, 2) := dk_25 5 (dk_at dksX1_sneak_3 12 rfl rfl)
theorem dX1_sneak_85 : decode cX1_sneak 85 = .ok (.iload_n 2, 1) := dk_28 (dk_at dksX1_sneak_3 14 rfl rfl)
theorem dX1_sneak_86 : decode cX1_sneak 86 = .ok (.baload, 1) := dk_51 (dk_at dksX1_sneak_3 15 rfl rfl)
theorem dX1_sneak_87 : decode cX1_sneak 87 = .ok (.ifCond .eq 6, 3) := dk_153 0 6 (dk_at dksX1_sneak_3 16 rfl rfl)
theorem dX1_sneak_90 : decode cX1_sneak 90 = .ok (.iload 6, 2) := dk_21 6 (dk_at dksX1_sneak_3 19 rfl rfl)
theorem dX1_sneak_92 : decode cX1_sneak 92 = .ok (.ireturn, 1) := dk_172 (dk_at dksX1_sneak_3 21 rfl rfl)
theorem dX1_sneak_93 : decode cX1_sneak 93 = .ok (.iinc 6 1, 3) := dk_132 6 1 (dk_at dksX1_sneak_4 0 rfl rfl)
theorem dX1_sneak_96 : decode cX1_sneak 96 = .ok (.goto (-47), 3) := dk_167 255 209 (dk_at dksX1_sneak_4 3 rfl rfl)
theorem dX1_sneak_99 : decode cX1_sneak 99 = .ok (.iconst (-1), 1) := dk_2 (dk_at dksX1_sneak_4 6 rfl rfl)
theorem dX1_sneak_100 : decode cX1_sneak 100 = .ok (.ireturn, 1) := dk_172 (dk_at dksX1_sneak_4 7 rfl rfl)
abbrev cX1_start : ByteArray := prog_1_method_71_code
def yX1_start : MethodName := ⟨RX1, "start", "(II)[Z"⟩
def dkwX1_start_0 : List UInt8 := [42, 182, 0, 93, 188, 4, 78, 45, 27, 42, 27, 28, 182, 1, 173, 84, 45, 176]
abbrev dktX1_start_0 : List UInt8 := dkwX1_start_0 ++ []
theorem dksX1_start_0 : cX1_start.data.toList.drop 0 = dktX1_start_0 := by decide +kernel
theorem dX1_start_0 : decode cX1_start 0 = .ok (.aload_n 0, 1) := dk_42 (dk_at dksX1_start_0 0 rfl rfl)
theorem dX1_start_1 : decode cX1_start 1 = .ok (.invokevirtual 93, 3) := dk_182 0 93 (dk_at dksX1_start_0 1 rfl rfl)
theorem dX1_start_4 : decode cX1_start 4 = .ok (.newarray .boolean, 2) := dk_188_4 (dk_at dksX1_start_0 4 rfl rfl)
theorem dX1_start_6 : decode cX1_start 6 = .ok (.astore_n 3, 1) := dk_78 (dk_at dksX1_start_0 6 rfl rfl)
theorem dX1_start_7 : decode cX1_start 7 = .ok (.aload_n 3, 1) := dk_45 (dk_at dksX1_start_0 7 rfl rfl)
theorem dX1_start_8 : decode cX1_start 8 = .ok (.iload_n 1, 1) := dk_27 (dk_at dksX1_start_0 8 rfl rfl)
theorem dX1_start_9 : decode cX1_start 9 = .ok (.aload_n 0, 1) := dk_42 (dk_at dksX1_start_0 9 rfl rfl)
theorem dX1_start_10 : decode cX1_start 10 = .ok (.iload_n 1, 1) := dk_27 (dk_at dksX1_start_0 10 rfl rfl)
theorem dX1_start_11 : decode cX1_start 11 = .ok (.iload_n 2, 1) := dk_28 (dk_at dksX1_start_0 11 rfl rfl)
theorem dX1_start_12 : decode cX1_start 12 = .ok (.invokevirtual 429, 3) := dk_182 1 173 (dk_at dksX1_start_0 12 rfl rfl)
theorem dX1_start_15 : decode cX1_start 15 = .ok (.bastore, 1) := dk_84 (dk_at dksX1_start_0 15 rfl rfl)
theorem dX1_start_16 : decode cX1_start 16 = .ok (.aload_n 3, 1) := dk_45 (dk_at dksX1_start_0 16 rfl rfl)
theorem dX1_start_17 : decode cX1_start 17 = .ok (.areturn, 1) := dk_176 (dk_at dksX1_start_0 17 rfl rfl)
abbrev cX1_isHidden : ByteArray := prog_1_method_69_code
def yX1_isHidden : MethodName := ⟨RX1, "isHidden", "(II)Z"⟩
def dkwX1_isHidden_0 : List UInt8 := [42, 27, 28, 182, 1, 31, 153, 0, 16, 42, 27, 28, 182, 1, 38, 154, 0, 7, 4, 167, 0, 4, 3, 172]
abbrev dktX1_isHidden_0 : List UInt8 := dkwX1_isHidden_0 ++ []
theorem dksX1_isHidden_0 : cX1_isHidden.data.toList.drop 0 = dktX1_isHidden_0 := by decide +kernel
theorem dX1_isHidden_0 : decode cX1_isHidden 0 = .ok (.aload_n 0, 1) := dk_42 (dk_at dksX1_isHidden_0 0 rfl rfl)
theorem dX1_isHidden_1 : decode cX1_isHidden 1 = .ok (.iload_n 1, 1) := dk_27 (dk_at dksX1_isHidden_0 1 rfl rfl)
theorem dX1_isHidden_2 : decode cX1_isHidden 2 = .ok (.iload_n 2, 1) := dk_28 (dk_at dksX1_isHidden_0 2 rfl rfl)
theorem dX1_isHidden_3 : decode cX1_isHidden 3 = .ok (.invokevirtual 287, 3) := dk_182 1 31 (dk_at dksX1_isHidden_0 3 rfl rfl)
theorem dX1_isHidden_6 : decode cX1_isHidden 6 = .ok (.ifCond .eq 16, 3) := dk_153 0 16 (dk_at dksX1_isHidden_0 6 rfl rfl)
theorem dX1_isHidden_9 : decode cX1_isHidden 9 = .ok (.aload_n 0, 1) := dk_42 (dk_at dksX1_isHidden_0 9 rfl rfl)
theorem dX1_isHidden_10 : decode cX1_isHidden 10 = .ok (.iload_n 1, 1) := dk_27 (dk_at dksX1_isHidden_0 10 rfl rfl)
theorem dX1_isHidden_11 : decode cX1_isHidden 11 = .ok (.iload_n 2, 1) := dk_28 (dk_at dksX1_isHidden_0 11 rfl rfl)
theorem dX1_isHidden_12 : decode cX1_isHidden 12 = .ok (.invokevirtual 294, 3) := dk_182 1 38 (dk_at dksX1_isHidden_0 12 rfl rfl)
theorem dX1_isHidden_15 : decode cX1_isHidden 15 = .ok (.ifCond .ne 7, 3) := dk_154 0 7 (dk_at dksX1_isHidden_0 15 rfl rfl)
theorem dX1_isHidden_18 : decode cX1_isHidden 18 = .ok (.iconst 1, 1) := dk_4 (dk_at dksX1_isHidden_0 18 rfl rfl)
theorem dX1_isHidden_19 : decode cX1_isHidden 19 = .ok (.goto 4, 3) := dk_167 0 4 (dk_at dksX1_isHidden_0 19 rfl rfl)
theorem dX1_isHidden_22 : decode cX1_isHidden 22 = .ok (.iconst 0, 1) := dk_3 (dk_at dksX1_isHidden_0 22 rfl rfl)
theorem dX1_isHidden_23 : decode cX1_isHidden 23 = .ok (.ireturn, 1) := dk_172 (dk_at dksX1_isHidden_0 23 rfl rfl)
abbrev cX1_spread : ByteArray := prog_1_method_70_code
def yX1_spread : MethodName := ⟨RX1, "spread", "([ZI)[Z"⟩
def dkwX1_spread_4 : List UInt8 := [153, 0, 7, 4, 167, 0, 4, 3, 84, 132, 4, 1, 167, 255, 160, 45, 176]
abbrev dktX1_spread_4 : List UInt8 := dkwX1_spread_4 ++ []
def dkwX1_spread_3 : List UInt8 := [54, 5, 132, 6, 1, 167, 255, 203, 45, 21, 4, 21, 5, 153, 0, 17, 42, 21, 4, 28, 182, 1, 173]
abbrev dktX1_spread_3 : List UInt8 := dkwX1_spread_3 ++ dktX1_spread_4
def dkwX1_spread_2 : List UInt8 := [182, 1, 108, 54, 7, 21, 7, 2, 159, 0, 14, 43, 21, 7, 51, 153, 0, 7, 4, 167, 0, 4, 3]
abbrev dktX1_spread_2 : List UInt8 := dkwX1_spread_2 ++ dktX1_spread_3
def dkwX1_spread_1 : List UInt8 := [163, 0, 53, 21, 5, 154, 0, 48, 42, 180, 0, 28, 182, 0, 83, 192, 0, 87, 21, 4, 21, 6]
abbrev dktX1_spread_1 : List UInt8 := dkwX1_spread_1 ++ dktX1_spread_2
def dkwX1_spread_0 : List UInt8 := [43, 190, 188, 4, 78, 3, 54, 4, 21, 4, 43, 190, 162, 0, 95, 3, 54, 5, 3, 54, 6, 21, 6, 7]
abbrev dktX1_spread_0 : List UInt8 := dkwX1_spread_0 ++ dktX1_spread_1
theorem dksX1_spread_0 : cX1_spread.data.toList.drop 0 = dktX1_spread_0 := by decide +kernel
theorem dksX1_spread_1 : cX1_spread.data.toList.drop 24 = dktX1_spread_1 := dk_seg dksX1_spread_0 24 rfl rfl
theorem dksX1_spread_2 : cX1_spread.data.toList.drop 46 = dktX1_spread_2 := dk_seg dksX1_spread_1 22 rfl rfl
theorem dksX1_spread_3 : cX1_spread.data.toList.drop 69 = dktX1_spread_3 := dk_seg dksX1_spread_2 23 rfl rfl
theorem dksX1_spread_4 : cX1_spread.data.toList.drop 92 = dktX1_spread_4 := dk_seg dksX1_spread_3 23 rfl rfl
theorem dX1_spread_0 : decode cX1_spread 0 = .ok (.aload_n 1, 1) := dk_43 (dk_at dksX1_spread_0 0 rfl rfl)
theorem dX1_spread_1 : decode cX1_spread 1 = .ok (.arraylength, 1) := dk_190 (dk_at dksX1_spread_0 1 rfl rfl)
theorem dX1_spread_2 : decode cX1_spread 2 = .ok (.newarray .boolean, 2) := dk_188_4 (dk_at dksX1_spread_0 2 rfl rfl)
theorem dX1_spread_4 : decode cX1_spread 4 = .ok (.astore_n 3, 1) := dk_78 (dk_at dksX1_spread_0 4 rfl rfl)
theorem dX1_spread_5 : decode cX1_spread 5 = .ok (.iconst 0, 1) := dk_3 (dk_at dksX1_spread_0 5 rfl rfl)
theorem dX1_spread_6 : decode cX1_spread 6 = .ok (.istore 4, 2) := dk_54 4 (dk_at dksX1_spread_0 6 rfl rfl)
theorem dX1_spread_8 : decode cX1_spread 8 = .ok (.iload 4, 2) := dk_21 4 (dk_at dksX1_spread_0 8 rfl rfl)
theorem dX1_spread_10 : decode cX1_spread 10 = .ok (.aload_n 1, 1) := dk_43 (dk_at dksX1_spread_0 10 rfl rfl)
theorem dX1_spread_11 : decode cX1_spread 11 = .ok (.arraylength, 1) := dk_190 (dk_at dksX1_spread_0 11 rfl rfl)
theorem dX1_spread_12 : decode cX1_spread 12 = .ok (.if_icmp .ge 95, 3) := dk_162 0 95 (dk_at dksX1_spread_0 12 rfl rfl)
theorem dX1_spread_15 : decode cX1_spread 15 = .ok (.iconst 0, 1) := dk_3 (dk_at dksX1_spread_0 15 rfl rfl)
theorem dX1_spread_16 : decode cX1_spread 16 = .ok (.istore 5, 2) := dk_54 5 (dk_at dksX1_spread_0 16 rfl rfl)
theorem dX1_spread_18 : decode cX1_spread 18 = .ok (.iconst 0, 1) := dk_3 (dk_at dksX1_spread_0 18 rfl rfl)
theorem dX1_spread_19 : decode cX1_spread 19 = .ok (.istore 6, 2) := dk_54 6 (dk_at dksX1_spread_0 19 rfl rfl)
theorem dX1_spread_21 : decode cX1_spread 21 = .ok (.iload 6, 2) := dk_21 6 (dk_at dksX1_spread_0 21 rfl rfl)
theorem dX1_spread_23 : decode cX1_spread 23 = .ok (.iconst 4, 1) := dk_7 (dk_at dksX1_spread_0 23 rfl rfl)
theorem dX1_spread_24 : decode cX1_spread 24 = .ok (.if_icmp .gt 53, 3) := dk_163 0 53 (dk_at dksX1_spread_1 0 rfl rfl)
theorem dX1_spread_27 : decode cX1_spread 27 = .ok (.iload 5, 2) := dk_21 5 (dk_at dksX1_spread_1 3 rfl rfl)
theorem dX1_spread_29 : decode cX1_spread 29 = .ok (.ifCond .ne 48, 3) := dk_154 0 48 (dk_at dksX1_spread_1 5 rfl rfl)
theorem dX1_spread_32 : decode cX1_spread 32 = .ok (.aload_n 0, 1) := dk_42 (dk_at dksX1_spread_1 8 rfl rfl)
theorem dX1_spread_33 : decode cX1_spread 33 = .ok (.getfield 28, 3) := dk_180 0 28 (dk_at dksX1_spread_1 9 rfl rfl)
theorem dX1_spread_36 : decode cX1_spread 36 = .ok (.invokevirtual 83, 3) := dk_182 0 83 (dk_at dksX1_spread_1 12 rfl rfl)
theorem dX1_spread_39 : decode cX1_spread 39 = .ok (.checkcast 87, 3) := dk_192 0 87 (dk_at dksX1_spread_1 15 rfl rfl)
theorem dX1_spread_42 : decode cX1_spread 42 = .ok (.iload 4, 2) := dk_21 4 (dk_at dksX1_spread_1 18 rfl rfl)
theorem dX1_spread_44 : decode cX1_spread 44 = .ok (.iload 6, 2) := dk_21 6 (dk_at dksX1_spread_1 20 rfl rfl)
theorem dX1_spread_46 : decode cX1_spread 46 = .ok (.invokevirtual 364, 3) := dk_182 1 108 (dk_at dksX1_spread_2 0 rfl rfl)
theorem dX1_spread_49 : decode cX1_spread 49 = .ok (.istore 7, 2) := dk_54 7 (dk_at dksX1_spread_2 3 rfl rfl)
theorem dX1_spread_51 : decode cX1_spread 51 = .ok (.iload 7, 2) := dk_21 7 (dk_at dksX1_spread_2 5 rfl rfl)
theorem dX1_spread_53 : decode cX1_spread 53 = .ok (.iconst (-1), 1) := dk_2 (dk_at dksX1_spread_2 7 rfl rfl)
theorem dX1_spread_54 : decode cX1_spread 54 = .ok (.if_icmp .eq 14, 3) := dk_159 0 14 (dk_at dksX1_spread_2 8 rfl rfl)
theorem dX1_spread_57 : decode cX1_spread 57 = .ok (.aload_n 1, 1) := dk_43 (dk_at dksX1_spread_2 11 rfl rfl)
theorem dX1_spread_58 : decode cX1_spread 58 = .ok (.iload 7, 2) := dk_21 7 (dk_at dksX1_spread_2 12 rfl rfl)
theorem dX1_spread_60 : decode cX1_spread 60 = .ok (.baload, 1) := dk_51 (dk_at dksX1_spread_2 14 rfl rfl)
theorem dX1_spread_61 : decode cX1_spread 61 = .ok (.ifCond .eq 7, 3) := dk_153 0 7 (dk_at dksX1_spread_2 15 rfl rfl)
theorem dX1_spread_64 : decode cX1_spread 64 = .ok (.iconst 1, 1) := dk_4 (dk_at dksX1_spread_2 18 rfl rfl)
theorem dX1_spread_65 : decode cX1_spread 65 = .ok (.goto 4, 3) := dk_167 0 4 (dk_at dksX1_spread_2 19 rfl rfl)
theorem dX1_spread_68 : decode cX1_spread 68 = .ok (.iconst 0, 1) := dk_3 (dk_at dksX1_spread_2 22 rfl rfl)
theorem dX1_spread_69 : decode cX1_spread 69 = .ok (.istore 5, 2) := dk_54 5 (dk_at dksX1_spread_3 0 rfl rfl)
theorem dX1_spread_71 : decode cX1_spread 71 = .ok (.iinc 6 1, 3) := dk_132 6 1 (dk_at dksX1_spread_3 2 rfl rfl)
theorem dX1_spread_74 : decode cX1_spread 74 = .ok (.goto (-53), 3) := dk_167 255 203 (dk_at dksX1_spread_3 5 rfl rfl)
theorem dX1_spread_77 : decode cX1_spread 77 = .ok (.aload_n 3, 1) := dk_45 (dk_at dksX1_spread_3 8 rfl rfl)
theorem dX1_spread_78 : decode cX1_spread 78 = .ok (.iload 4, 2) := dk_21 4 (dk_at dksX1_spread_3 9 rfl rfl)
theorem dX1_spread_80 : decode cX1_spread 80 = .ok (.iload 5, 2) := dk_21 5 (dk_at dksX1_spread_3 11 rfl rfl)
theorem dX1_spread_82 : decode cX1_spread 82 = .ok (.ifCond .eq 17, 3) := dk_153 0 17 (dk_at dksX1_spread_3 13 rfl rfl)
theorem dX1_spread_85 : decode cX1_spread 85 = .ok (.aload_n 0, 1) := dk_42 (dk_at dksX1_spread_3 16 rfl rfl)
theorem dX1_spread_86 : decode cX1_spread 86 = .ok (.iload 4, 2) := dk_21 4 (dk_at dksX1_spread_3 17 rfl rfl)
theorem dX1_spread_88 : decode cX1_spread 88 = .ok (.iload_n 2, 1) := dk_28 (dk_at dksX1_spread_3 19 rfl rfl)
theorem dX1_spread_89 : decode cX1_spread 89 = .ok (.invokevirtual 429, 3) := dk_182 1 173 (dk_at dksX1_spread_3 20 rfl rfl)
theorem dX1_spread_92 : decode cX1_spread 92 = .ok (.ifCond .eq 7, 3) := dk_153 0 7 (dk_at dksX1_spread_4 0 rfl rfl)
theorem dX1_spread_95 : decode cX1_spread 95 = .ok (.iconst 1, 1) := dk_4 (dk_at dksX1_spread_4 3 rfl rfl)
theorem dX1_spread_96 : decode cX1_spread 96 = .ok (.goto 4, 3) := dk_167 0 4 (dk_at dksX1_spread_4 4 rfl rfl)
theorem dX1_spread_99 : decode cX1_spread 99 = .ok (.iconst 0, 1) := dk_3 (dk_at dksX1_spread_4 7 rfl rfl)
theorem dX1_spread_100 : decode cX1_spread 100 = .ok (.bastore, 1) := dk_84 (dk_at dksX1_spread_4 8 rfl rfl)
theorem dX1_spread_101 : decode cX1_spread 101 = .ok (.iinc 4 1, 3) := dk_132 4 1 (dk_at dksX1_spread_4 9 rfl rfl)
theorem dX1_spread_104 : decode cX1_spread 104 = .ok (.goto (-96), 3) := dk_167 255 160 (dk_at dksX1_spread_4 12 rfl rfl)
theorem dX1_spread_107 : decode cX1_spread 107 = .ok (.aload_n 3, 1) := dk_45 (dk_at dksX1_spread_4 15 rfl rfl)
theorem dX1_spread_108 : decode cX1_spread 108 = .ok (.areturn, 1) := dk_176 (dk_at dksX1_spread_4 16 rfl rfl)
abbrev cX1_reach : ByteArray := prog_1_method_73_code
def yX1_reach : MethodName := ⟨RX1, "reach", "(III)I"⟩
def dkwX1_reach_4 : List UInt8 := [153, 0, 7, 4, 167, 0, 4, 3, 96, 54, 5, 132, 6, 1, 167, 255, 227, 21, 5, 172]
abbrev dktX1_reach_4 : List UInt8 := dkwX1_reach_4 ++ []
def dkwX1_reach_3 : List UInt8 := [167, 255, 235, 3, 54, 5, 3, 54, 6, 21, 6, 25, 4, 190, 162, 0, 27, 21, 5, 25, 4, 21, 6, 51]
abbrev dktX1_reach_3 : List UInt8 := dkwX1_reach_3 ++ dktX1_reach_4
def dkwX1_reach_2 : List UInt8 := [4, 54, 5, 21, 5, 29, 163, 0, 21, 42, 25, 4, 28, 21, 5, 96, 182, 1, 180, 58, 4, 132, 5, 1]
abbrev dktX1_reach_2 : List UInt8 := dkwX1_reach_2 ++ dktX1_reach_3
def dkwX1_reach_1 : List UInt8 := [29, 96, 17, 0, 240, 162, 0, 7, 4, 167, 0, 4, 3, 184, 0, 110, 42, 27, 28, 182, 1, 176, 58, 4]
abbrev dktX1_reach_1 : List UInt8 := dkwX1_reach_1 ++ dktX1_reach_2
def dkwX1_reach_0 : List UInt8 := [42, 27, 182, 0, 182, 87, 28, 184, 0, 106, 153, 0, 26, 3, 16, 60, 29, 184, 0, 15, 153, 0, 16, 28]
abbrev dktX1_reach_0 : List UInt8 := dkwX1_reach_0 ++ dktX1_reach_1
theorem dksX1_reach_0 : cX1_reach.data.toList.drop 0 = dktX1_reach_0 := by decide +kernel
theorem dksX1_reach_1 : cX1_reach.data.toList.drop 24 = dktX1_reach_1 := dk_seg dksX1_reach_0 24 rfl rfl
theorem dksX1_reach_2 : cX1_reach.data.toList.drop 48 = dktX1_reach_2 := dk_seg dksX1_reach_1 24 rfl rfl
theorem dksX1_reach_3 : cX1_reach.data.toList.drop 72 = dktX1_reach_3 := dk_seg dksX1_reach_2 24 rfl rfl
theorem dksX1_reach_4 : cX1_reach.data.toList.drop 96 = dktX1_reach_4 := dk_seg dksX1_reach_3 24 rfl rfl
theorem dX1_reach_0 : decode cX1_reach 0 = .ok (.aload_n 0, 1) := dk_42 (dk_at dksX1_reach_0 0 rfl rfl)
theorem dX1_reach_1 : decode cX1_reach 1 = .ok (.iload_n 1, 1) := dk_27 (dk_at dksX1_reach_0 1 rfl rfl)
theorem dX1_reach_2 : decode cX1_reach 2 = .ok (.invokevirtual 182, 3) := dk_182 0 182 (dk_at dksX1_reach_0 2 rfl rfl)
theorem dX1_reach_5 : decode cX1_reach 5 = .ok (.pop, 1) := dk_87 (dk_at dksX1_reach_0 5 rfl rfl)
theorem dX1_reach_6 : decode cX1_reach 6 = .ok (.iload_n 2, 1) := dk_28 (dk_at dksX1_reach_0 6 rfl rfl)
theorem dX1_reach_7 : decode cX1_reach 7 = .ok (.invokestatic 106, 3) := dk_184 0 106 (dk_at dksX1_reach_0 7 rfl rfl)
theorem dX1_reach_10 : decode cX1_reach 10 = .ok (.ifCond .eq 26, 3) := dk_153 0 26 (dk_at dksX1_reach_0 10 rfl rfl)
theorem dX1_reach_13 : decode cX1_reach 13 = .ok (.iconst 0, 1) := dk_3 (dk_at dksX1_reach_0 13 rfl rfl)
theorem dX1_reach_14 : decode cX1_reach 14 = .ok (.bipush 60, 2) := dk_16 60 (dk_at dksX1_reach_0 14 rfl rfl)
theorem dX1_reach_16 : decode cX1_reach 16 = .ok (.iload_n 3, 1) := dk_29 (dk_at dksX1_reach_0 16 rfl rfl)
theorem dX1_reach_17 : decode cX1_reach 17 = .ok (.invokestatic 15, 3) := dk_184 0 15 (dk_at dksX1_reach_0 17 rfl rfl)
theorem dX1_reach_20 : decode cX1_reach 20 = .ok (.ifCond .eq 16, 3) := dk_153 0 16 (dk_at dksX1_reach_0 20 rfl rfl)
theorem dX1_reach_23 : decode cX1_reach 23 = .ok (.iload_n 2, 1) := dk_28 (dk_at dksX1_reach_0 23 rfl rfl)
theorem dX1_reach_24 : decode cX1_reach 24 = .ok (.iload_n 3, 1) := dk_29 (dk_at dksX1_reach_1 0 rfl rfl)
theorem dX1_reach_25 : decode cX1_reach 25 = .ok (.iadd, 1) := dk_96 (dk_at dksX1_reach_1 1 rfl rfl)
theorem dX1_reach_26 : decode cX1_reach 26 = .ok (.sipush 240, 3) := dk_17 0 240 (dk_at dksX1_reach_1 2 rfl rfl)
theorem dX1_reach_29 : decode cX1_reach 29 = .ok (.if_icmp .ge 7, 3) := dk_162 0 7 (dk_at dksX1_reach_1 5 rfl rfl)
theorem dX1_reach_32 : decode cX1_reach 32 = .ok (.iconst 1, 1) := dk_4 (dk_at dksX1_reach_1 8 rfl rfl)
theorem dX1_reach_33 : decode cX1_reach 33 = .ok (.goto 4, 3) := dk_167 0 4 (dk_at dksX1_reach_1 9 rfl rfl)
theorem dX1_reach_36 : decode cX1_reach 36 = .ok (.iconst 0, 1) := dk_3 (dk_at dksX1_reach_1 12 rfl rfl)
theorem dX1_reach_37 : decode cX1_reach 37 = .ok (.invokestatic 110, 3) := dk_184 0 110 (dk_at dksX1_reach_1 13 rfl rfl)
theorem dX1_reach_40 : decode cX1_reach 40 = .ok (.aload_n 0, 1) := dk_42 (dk_at dksX1_reach_1 16 rfl rfl)
theorem dX1_reach_41 : decode cX1_reach 41 = .ok (.iload_n 1, 1) := dk_27 (dk_at dksX1_reach_1 17 rfl rfl)
theorem dX1_reach_42 : decode cX1_reach 42 = .ok (.iload_n 2, 1) := dk_28 (dk_at dksX1_reach_1 18 rfl rfl)
theorem dX1_reach_43 : decode cX1_reach 43 = .ok (.invokevirtual 432, 3) := dk_182 1 176 (dk_at dksX1_reach_1 19 rfl rfl)
theorem dX1_reach_46 : decode cX1_reach 46 = .ok (.astore 4, 2) := dk_58 4 (dk_at dksX1_reach_1 22 rfl rfl)
theorem dX1_reach_48 : decode cX1_reach 48 = .ok (.iconst 1, 1) := dk_4 (dk_at dksX1_reach_2 0 rfl rfl)
theorem dX1_reach_49 : decode cX1_reach 49 = .ok (.istore 5, 2) := dk_54 5 (dk_at dksX1_reach_2 1 rfl rfl)
theorem dX1_reach_51 : decode cX1_reach 51 = .ok (.iload 5, 2) := dk_21 5 (dk_at dksX1_reach_2 3 rfl rfl)
theorem dX1_reach_53 : decode cX1_reach 53 = .ok (.iload_n 3, 1) := dk_29 (dk_at dksX1_reach_2 5 rfl rfl)
theorem dX1_reach_54 : decode cX1_reach 54 = .ok (.if_icmp .gt 21, 3) := dk_163 0 21 (dk_at dksX1_reach_2 6 rfl rfl)
theorem dX1_reach_57 : decode cX1_reach 57 = .ok (.aload_n 0, 1) := dk_42 (dk_at dksX1_reach_2 9 rfl rfl)
theorem dX1_reach_58 : decode cX1_reach 58 = .ok (.aload 4, 2) := dk_25 4 (dk_at dksX1_reach_2 10 rfl rfl)
theorem dX1_reach_60 : decode cX1_reach 60 = .ok (.iload_n 2, 1) := dk_28 (dk_at dksX1_reach_2 12 rfl rfl)
theorem dX1_reach_61 : decode cX1_reach 61 = .ok (.iload 5, 2) := dk_21 5 (dk_at dksX1_reach_2 13 rfl rfl)
theorem dX1_reach_63 : decode cX1_reach 63 = .ok (.iadd, 1) := dk_96 (dk_at dksX1_reach_2 15 rfl rfl)
theorem dX1_reach_64 : decode cX1_reach 64 = .ok (.invokevirtual 436, 3) := dk_182 1 180 (dk_at dksX1_reach_2 16 rfl rfl)
theorem dX1_reach_67 : decode cX1_reach 67 = .ok (.astore 4, 2) := dk_58 4 (dk_at dksX1_reach_2 19 rfl rfl)
theorem dX1_reach_69 : decode cX1_reach 69 = .ok (.iinc 5 1, 3) := dk_132 5 1 (dk_at dksX1_reach_2 21 rfl rfl)
theorem dX1_reach_72 : decode cX1_reach 72 = .ok (.goto (-21), 3) := dk_167 255 235 (dk_at dksX1_reach_3 0 rfl rfl)
theorem dX1_reach_75 : decode cX1_reach 75 = .ok (.iconst 0, 1) := dk_3 (dk_at dksX1_reach_3 3 rfl rfl)
theorem dX1_reach_76 : decode cX1_reach 76 = .ok (.istore 5, 2) := dk_54 5 (dk_at dksX1_reach_3 4 rfl rfl)
theorem dX1_reach_78 : decode cX1_reach 78 = .ok (.iconst 0, 1) := dk_3 (dk_at dksX1_reach_3 6 rfl rfl)
theorem dX1_reach_79 : decode cX1_reach 79 = .ok (.istore 6, 2) := dk_54 6 (dk_at dksX1_reach_3 7 rfl rfl)
theorem dX1_reach_81 : decode cX1_reach 81 = .ok (.iload 6, 2) := dk_21 6 (dk_at dksX1_reach_3 9 rfl rfl)
theorem dX1_reach_83 : decode cX1_reach 83 = .ok (.aload 4, 2) := dk_25 4 (dk_at dksX1_reach_3 11 rfl rfl)
theorem dX1_reach_85 : decode cX1_reach 85 = .ok (.arraylength, 1) := dk_190 (dk_at dksX1_reach_3 13 rfl rfl)
theorem dX1_reach_86 : decode cX1_reach 86 = .ok (.if_icmp .ge 27, 3) := dk_162 0 27 (dk_at dksX1_reach_3 14 rfl rfl)
theorem dX1_reach_89 : decode cX1_reach 89 = .ok (.iload 5, 2) := dk_21 5 (dk_at dksX1_reach_3 17 rfl rfl)
theorem dX1_reach_91 : decode cX1_reach 91 = .ok (.aload 4, 2) := dk_25 4 (dk_at dksX1_reach_3 19 rfl rfl)
theorem dX1_reach_93 : decode cX1_reach 93 = .ok (.iload 6, 2) := dk_21 6 (dk_at dksX1_reach_3 21 rfl rfl)
theorem dX1_reach_95 : decode cX1_reach 95 = .ok (.baload, 1) := dk_51 (dk_at dksX1_reach_3 23 rfl rfl)
theorem dX1_reach_96 : decode cX1_reach 96 = .ok (.ifCond .eq 7, 3) := dk_153 0 7 (dk_at dksX1_reach_4 0 rfl rfl)
theorem dX1_reach_99 : decode cX1_reach 99 = .ok (.iconst 1, 1) := dk_4 (dk_at dksX1_reach_4 3 rfl rfl)
theorem dX1_reach_100 : decode cX1_reach 100 = .ok (.goto 4, 3) := dk_167 0 4 (dk_at dksX1_reach_4 4 rfl rfl)
theorem dX1_reach_103 : decode cX1_reach 103 = .ok (.iconst 0, 1) := dk_3 (dk_at dksX1_reach_4 7 rfl rfl)
theorem dX1_reach_104 : decode cX1_reach 104 = .ok (.iadd, 1) := dk_96 (dk_at dksX1_reach_4 8 rfl rfl)
theorem dX1_reach_105 : decode cX1_reach 105 = .ok (.istore 5, 2) := dk_54 5 (dk_at dksX1_reach_4 9 rfl rfl)
theorem dX1_reach_107 : decode cX1_reach 107 = .ok (.iinc 6 1, 3) := dk_132 6 1 (dk_at dksX1_reach_4 11 rfl rfl)
theorem dX1_reach_110 : decode cX1_reach 110 = .ok (.goto (-29), 3) := dk_167 255 227 (dk_at dksX1_reach_4 14 rfl rfl)
theorem dX1_reach_113 : decode cX1_reach 113 = .ok (.iload 5, 2) := dk_21 5 (dk_at dksX1_reach_4 17 rfl rfl)
theorem dX1_reach_115 : decode cX1_reach 115 = .ok (.ireturn, 1) := dk_172 (dk_at dksX1_reach_4 19 rfl rfl)
abbrev cX1_nextLamp : ByteArray := prog_1_method_76_code
def yX1_nextLamp : MethodName := ⟨RX1, "nextLamp", "(IIZ)I"⟩
def dkwX1_nextLamp_5 : List UInt8 := [21, 6, 172]
abbrev dktX1_nextLamp_5 : List UInt8 := dkwX1_nextLamp_5 ++ []
def dkwX1_nextLamp_4 : List UInt8 := [21, 8, 54, 6, 21, 7, 54, 5, 132, 7, 1, 167, 255, 191, 29, 153, 0, 8, 21, 5, 167, 0, 5]
abbrev dktX1_nextLamp_4 : List UInt8 := dkwX1_nextLamp_4 ++ dktX1_nextLamp_5
def dkwX1_nextLamp_3 : List UInt8 := [187, 0, 168, 89, 21, 7, 28, 183, 0, 201, 25, 4, 182, 1, 188, 54, 8, 21, 8, 21, 6, 164, 0, 11]
abbrev dktX1_nextLamp_3 : List UInt8 := dkwX1_nextLamp_3 ++ dktX1_nextLamp_4
def dkwX1_nextLamp_2 : List UInt8 := [42, 180, 0, 28, 182, 0, 83, 192, 0, 87, 21, 7, 182, 0, 198, 153, 0, 6, 167, 0, 36, 42]
abbrev dktX1_nextLamp_2 : List UInt8 := dkwX1_nextLamp_2 ++ dktX1_nextLamp_3
def dkwX1_nextLamp_1 : List UInt8 := [42, 27, 182, 1, 184, 58, 4, 2, 54, 5, 2, 54, 6, 3, 54, 7, 21, 7, 25, 4, 190, 162, 0, 63]
abbrev dktX1_nextLamp_1 : List UInt8 := dkwX1_nextLamp_1 ++ dktX1_nextLamp_2
def dkwX1_nextLamp_0 : List UInt8 := [27, 184, 0, 106, 153, 0, 16, 4, 7, 28, 184, 0, 15, 153, 0, 7, 4, 167, 0, 4, 3, 184, 0, 110]
abbrev dktX1_nextLamp_0 : List UInt8 := dkwX1_nextLamp_0 ++ dktX1_nextLamp_1
theorem dksX1_nextLamp_0 : cX1_nextLamp.data.toList.drop 0 = dktX1_nextLamp_0 := by decide +kernel
theorem dksX1_nextLamp_1 : cX1_nextLamp.data.toList.drop 24 = dktX1_nextLamp_1 := dk_seg dksX1_nextLamp_0 24 rfl rfl
theorem dksX1_nextLamp_2 : cX1_nextLamp.data.toList.drop 48 = dktX1_nextLamp_2 := dk_seg dksX1_nextLamp_1 24 rfl rfl
theorem dksX1_nextLamp_3 : cX1_nextLamp.data.toList.drop 70 = dktX1_nextLamp_3 := dk_seg dksX1_nextLamp_2 22 rfl rfl
theorem dksX1_nextLamp_4 : cX1_nextLamp.data.toList.drop 94 = dktX1_nextLamp_4 := dk_seg dksX1_nextLamp_3 24 rfl rfl
theorem dksX1_nextLamp_5 : cX1_nextLamp.data.toList.drop 117 = dktX1_nextLamp_5 := dk_seg dksX1_nextLamp_4 23 rfl rfl
theorem dX1_nextLamp_0 : decode cX1_nextLamp 0 = .ok (.iload_n 1, 1) := dk_27 (dk_at dksX1_nextLamp_0 0 rfl rfl)
theorem dX1_nextLamp_1 : decode cX1_nextLamp 1 = .ok (.invokestatic 106, 3) := dk_184 0 106 (dk_at dksX1_nextLamp_0 1 rfl rfl)
theorem dX1_nextLamp_4 : decode cX1_nextLamp 4 = .ok (.ifCond .eq 16, 3) := dk_153 0 16 (dk_at dksX1_nextLamp_0 4 rfl rfl)
theorem dX1_nextLamp_7 : decode cX1_nextLamp 7 = .ok (.iconst 1, 1) := dk_4 (dk_at dksX1_nextLamp_0 7 rfl rfl)
theorem dX1_nextLamp_8 : decode cX1_nextLamp 8 = .ok (.iconst 4, 1) := dk_7 (dk_at dksX1_nextLamp_0 8 rfl rfl)
theorem dX1_nextLamp_9 : decode cX1_nextLamp 9 = .ok (.iload_n 2, 1) := dk_28 (dk_at dksX1_nextLamp_0 9 rfl rfl)
theorem dX1_nextLamp_10 : decode cX1_nextLamp 10 = .ok (.invokestatic 15, 3) := dk_184 0 15 (dk_at dksX1_nextLamp_0 10 rfl rfl)
theorem dX1_nextLamp_13 : decode cX1_nextLamp 13 = .ok (.ifCond .eq 7, 3) := dk_153 0 7 (dk_at dksX1_nextLamp_0 13 rfl rfl)
theorem dX1_nextLamp_16 : decode cX1_nextLamp 16 = .ok (.iconst 1, 1) := dk_4 (dk_at dksX1_nextLamp_0 16 rfl rfl)
theorem dX1_nextLamp_17 : decode cX1_nextLamp 17 = .ok (.goto 4, 3) := dk_167 0 4 (dk_at dksX1_nextLamp_0 17 rfl rfl)
theorem dX1_nextLamp_20 : decode cX1_nextLamp 20 = .ok (.iconst 0, 1) := dk_3 (dk_at dksX1_nextLamp_0 20 rfl rfl)
theorem dX1_nextLamp_21 : decode cX1_nextLamp 21 = .ok (.invokestatic 110, 3) := dk_184 0 110 (dk_at dksX1_nextLamp_0 21 rfl rfl)
theorem dX1_nextLamp_24 : decode cX1_nextLamp 24 = .ok (.aload_n 0, 1) := dk_42 (dk_at dksX1_nextLamp_1 0 rfl rfl)
theorem dX1_nextLamp_25 : decode cX1_nextLamp 25 = .ok (.iload_n 1, 1) := dk_27 (dk_at dksX1_nextLamp_1 1 rfl rfl)
theorem dX1_nextLamp_26 : decode cX1_nextLamp 26 = .ok (.invokevirtual 440, 3) := dk_182 1 184 (dk_at dksX1_nextLamp_1 2 rfl rfl)
theorem dX1_nextLamp_29 : decode cX1_nextLamp 29 = .ok (.astore 4, 2) := dk_58 4 (dk_at dksX1_nextLamp_1 5 rfl rfl)
theorem dX1_nextLamp_31 : decode cX1_nextLamp 31 = .ok (.iconst (-1), 1) := dk_2 (dk_at dksX1_nextLamp_1 7 rfl rfl)
theorem dX1_nextLamp_32 : decode cX1_nextLamp 32 = .ok (.istore 5, 2) := dk_54 5 (dk_at dksX1_nextLamp_1 8 rfl rfl)
theorem dX1_nextLamp_34 : decode cX1_nextLamp 34 = .ok (.iconst (-1), 1) := dk_2 (dk_at dksX1_nextLamp_1 10 rfl rfl)
theorem dX1_nextLamp_35 : decode cX1_nextLamp 35 = .ok (.istore 6, 2) := dk_54 6 (dk_at dksX1_nextLamp_1 11 rfl rfl)
theorem dX1_nextLamp_37 : decode cX1_nextLamp 37 = .ok (.iconst 0, 1) := dk_3 (dk_at dksX1_nextLamp_1 13 rfl rfl)
theorem dX1_nextLamp_38 : decode cX1_nextLamp 38 = .ok (.istore 7, 2) := dk_54 7 (dk_at dksX1_nextLamp_1 14 rfl rfl)
theorem dX1_nextLamp_40 : decode cX1_nextLamp 40 = .ok (.iload 7, 2) := dk_21 7 (dk_at dksX1_nextLamp_1 16 rfl rfl)
theorem dX1_nextLamp_42 : decode cX1_nextLamp 42 = .ok (.aload 4, 2) := dk_25 4 (dk_at dksX1_nextLamp_1 18 rfl rfl)
theorem dX1_nextLamp_44 : decode cX1_nextLamp 44 = .ok (.arraylength, 1) := dk_190 (dk_at dksX1_nextLamp_1 20 rfl rfl)
theorem dX1_nextLamp_45 : decode cX1_nextLamp 45 = .ok (.if_icmp .ge 63, 3) := dk_162 0 63 (dk_at dksX1_nextLamp_1 21 rfl rfl)
theorem dX1_nextLamp_48 : decode cX1_nextLamp 48 = .ok (.aload_n 0, 1) := dk_42 (dk_at dksX1_nextLamp_2 0 rfl rfl)
theorem dX1_nextLamp_49 : decode cX1_nextLamp 49 = .ok (.getfield 28, 3) := dk_180 0 28 (dk_at dksX1_nextLamp_2 1 rfl rfl)
theorem dX1_nextLamp_52 : decode cX1_nextLamp 52 = .ok (.invokevirtual 83, 3) := dk_182 0 83 (dk_at dksX1_nextLamp_2 4 rfl rfl)
theorem dX1_nextLamp_55 : decode cX1_nextLamp 55 = .ok (.checkcast 87, 3) := dk_192 0 87 (dk_at dksX1_nextLamp_2 7 rfl rfl)
theorem dX1_nextLamp_58 : decode cX1_nextLamp 58 = .ok (.iload 7, 2) := dk_21 7 (dk_at dksX1_nextLamp_2 10 rfl rfl)
theorem dX1_nextLamp_60 : decode cX1_nextLamp 60 = .ok (.invokevirtual 198, 3) := dk_182 0 198 (dk_at dksX1_nextLamp_2 12 rfl rfl)
theorem dX1_nextLamp_63 : decode cX1_nextLamp 63 = .ok (.ifCond .eq 6, 3) := dk_153 0 6 (dk_at dksX1_nextLamp_2 15 rfl rfl)
theorem dX1_nextLamp_66 : decode cX1_nextLamp 66 = .ok (.goto 36, 3) := dk_167 0 36 (dk_at dksX1_nextLamp_2 18 rfl rfl)
theorem dX1_nextLamp_69 : decode cX1_nextLamp 69 = .ok (.aload_n 0, 1) := dk_42 (dk_at dksX1_nextLamp_2 21 rfl rfl)
theorem dX1_nextLamp_70 : decode cX1_nextLamp 70 = .ok (.new 168, 3) := dk_187 0 168 (dk_at dksX1_nextLamp_3 0 rfl rfl)
theorem dX1_nextLamp_73 : decode cX1_nextLamp 73 = .ok (.dup, 1) := dk_89 (dk_at dksX1_nextLamp_3 3 rfl rfl)
theorem dX1_nextLamp_74 : decode cX1_nextLamp 74 = .ok (.iload 7, 2) := dk_21 7 (dk_at dksX1_nextLamp_3 4 rfl rfl)
theorem dX1_nextLamp_76 : decode cX1_nextLamp 76 = .ok (.iload_n 2, 1) := dk_28 (dk_at dksX1_nextLamp_3 6 rfl rfl)
theorem dX1_nextLamp_77 : decode cX1_nextLamp 77 = .ok (.invokespecial 201, 3) := dk_183 0 201 (dk_at dksX1_nextLamp_3 7 rfl rfl)
theorem dX1_nextLamp_80 : decode cX1_nextLamp 80 = .ok (.aload 4, 2) := dk_25 4 (dk_at dksX1_nextLamp_3 10 rfl rfl)
theorem dX1_nextLamp_82 : decode cX1_nextLamp 82 = .ok (.invokevirtual 444, 3) := dk_182 1 188 (dk_at dksX1_nextLamp_3 12 rfl rfl)
theorem dX1_nextLamp_85 : decode cX1_nextLamp 85 = .ok (.istore 8, 2) := dk_54 8 (dk_at dksX1_nextLamp_3 15 rfl rfl)
theorem dX1_nextLamp_87 : decode cX1_nextLamp 87 = .ok (.iload 8, 2) := dk_21 8 (dk_at dksX1_nextLamp_3 17 rfl rfl)
theorem dX1_nextLamp_89 : decode cX1_nextLamp 89 = .ok (.iload 6, 2) := dk_21 6 (dk_at dksX1_nextLamp_3 19 rfl rfl)
theorem dX1_nextLamp_91 : decode cX1_nextLamp 91 = .ok (.if_icmp .le 11, 3) := dk_164 0 11 (dk_at dksX1_nextLamp_3 21 rfl rfl)
theorem dX1_nextLamp_94 : decode cX1_nextLamp 94 = .ok (.iload 8, 2) := dk_21 8 (dk_at dksX1_nextLamp_4 0 rfl rfl)
theorem dX1_nextLamp_96 : decode cX1_nextLamp 96 = .ok (.istore 6, 2) := dk_54 6 (dk_at dksX1_nextLamp_4 2 rfl rfl)
theorem dX1_nextLamp_98 : decode cX1_nextLamp 98 = .ok (.iload 7, 2) := dk_21 7 (dk_at dksX1_nextLamp_4 4 rfl rfl)
theorem dX1_nextLamp_100 : decode cX1_nextLamp 100 = .ok (.istore 5, 2) := dk_54 5 (dk_at dksX1_nextLamp_4 6 rfl rfl)
theorem dX1_nextLamp_102 : decode cX1_nextLamp 102 = .ok (.iinc 7 1, 3) := dk_132 7 1 (dk_at dksX1_nextLamp_4 8 rfl rfl)
theorem dX1_nextLamp_105 : decode cX1_nextLamp 105 = .ok (.goto (-65), 3) := dk_167 255 191 (dk_at dksX1_nextLamp_4 11 rfl rfl)
theorem dX1_nextLamp_108 : decode cX1_nextLamp 108 = .ok (.iload_n 3, 1) := dk_29 (dk_at dksX1_nextLamp_4 14 rfl rfl)
theorem dX1_nextLamp_109 : decode cX1_nextLamp 109 = .ok (.ifCond .eq 8, 3) := dk_153 0 8 (dk_at dksX1_nextLamp_4 15 rfl rfl)
theorem dX1_nextLamp_112 : decode cX1_nextLamp 112 = .ok (.iload 5, 2) := dk_21 5 (dk_at dksX1_nextLamp_4 18 rfl rfl)
theorem dX1_nextLamp_114 : decode cX1_nextLamp 114 = .ok (.goto 5, 3) := dk_167 0 5 (dk_at dksX1_nextLamp_4 20 rfl rfl)
theorem dX1_nextLamp_117 : decode cX1_nextLamp 117 = .ok (.iload 6, 2) := dk_21 6 (dk_at dksX1_nextLamp_5 0 rfl rfl)
theorem dX1_nextLamp_119 : decode cX1_nextLamp 119 = .ok (.ireturn, 1) := dk_172 (dk_at dksX1_nextLamp_5 2 rfl rfl)
abbrev cX1_hopes : ByteArray := prog_1_method_74_code
def yX1_hopes : MethodName := ⟨RX1, "hopes", "(I)[Z"⟩
def dkwX1_hopes_5 : List UInt8 := [167, 255, 196, 132, 4, 1, 167, 255, 149, 45, 176]
abbrev dktX1_hopes_5 : List UInt8 := dkwX1_hopes_5 ++ []
def dkwX1_hopes_4 : List UInt8 := [182, 0, 99, 192, 0, 102, 21, 4, 27, 182, 1, 17, 27, 4, 28, 182, 1, 21, 128, 84, 132, 5, 1]
abbrev dktX1_hopes_4 : List UInt8 := dkwX1_hopes_4 ++ dktX1_hopes_5
def dkwX1_hopes_3 : List UInt8 := [92, 51, 42, 42, 180, 0, 42, 21, 5, 182, 0, 99, 192, 0, 102, 42, 42, 180, 0, 42, 21, 5]
abbrev dktX1_hopes_3 : List UInt8 := dkwX1_hopes_3 ++ dktX1_hopes_4
def dkwX1_hopes_2 : List UInt8 := [153, 0, 6, 167, 0, 69, 3, 54, 5, 21, 5, 42, 180, 0, 42, 182, 0, 98, 162, 0, 54, 45, 21, 4]
abbrev dktX1_hopes_2 : List UInt8 := dkwX1_hopes_2 ++ dktX1_hopes_3
def dkwX1_hopes_1 : List UInt8 := [180, 0, 28, 182, 0, 83, 192, 0, 87, 21, 4, 182, 0, 198, 154, 0, 82, 42, 21, 4, 27, 182, 1, 38]
abbrev dktX1_hopes_1 : List UInt8 := dkwX1_hopes_1 ++ dktX1_hopes_2
def dkwX1_hopes_0 : List UInt8 := [42, 27, 182, 1, 14, 61, 42, 182, 0, 93, 188, 4, 78, 3, 54, 4, 21, 4, 45, 190, 162, 0, 106, 42]
abbrev dktX1_hopes_0 : List UInt8 := dkwX1_hopes_0 ++ dktX1_hopes_1
theorem dksX1_hopes_0 : cX1_hopes.data.toList.drop 0 = dktX1_hopes_0 := by decide +kernel
theorem dksX1_hopes_1 : cX1_hopes.data.toList.drop 24 = dktX1_hopes_1 := dk_seg dksX1_hopes_0 24 rfl rfl
theorem dksX1_hopes_2 : cX1_hopes.data.toList.drop 48 = dktX1_hopes_2 := dk_seg dksX1_hopes_1 24 rfl rfl
theorem dksX1_hopes_3 : cX1_hopes.data.toList.drop 72 = dktX1_hopes_3 := dk_seg dksX1_hopes_2 24 rfl rfl
theorem dksX1_hopes_4 : cX1_hopes.data.toList.drop 94 = dktX1_hopes_4 := dk_seg dksX1_hopes_3 22 rfl rfl
theorem dksX1_hopes_5 : cX1_hopes.data.toList.drop 117 = dktX1_hopes_5 := dk_seg dksX1_hopes_4 23 rfl rfl
theorem dX1_hopes_0 : decode cX1_hopes 0 = .ok (.aload_n 0, 1) := dk_42 (dk_at dksX1_hopes_0 0 rfl rfl)
theorem dX1_hopes_1 : decode cX1_hopes 1 = .ok (.iload_n 1, 1) := dk_27 (dk_at dksX1_hopes_0 1 rfl rfl)
theorem dX1_hopes_2 : decode cX1_hopes 2 = .ok (.invokevirtual 270, 3) := dk_182 1 14 (dk_at dksX1_hopes_0 2 rfl rfl)
theorem dX1_hopes_5 : decode cX1_hopes 5 = .ok (.istore_n 2, 1) := dk_61 (dk_at dksX1_hopes_0 5 rfl rfl)
theorem dX1_hopes_6 : decode cX1_hopes 6 = .ok (.aload_n 0, 1) := dk_42 (dk_at dksX1_hopes_0 6 rfl rfl)
theorem dX1_hopes_7 : decode cX1_hopes 7 = .ok (.invokevirtual 93, 3) := dk_182 0 93 (dk_at dksX1_hopes_0 7 rfl rfl)
theorem dX1_hopes_10 : decode cX1_hopes 10 = .ok (.newarray .boolean, 2) := dk_188_4 (dk_at dksX1_hopes_0 10 rfl rfl)
theorem dX1_hopes_12 : decode cX1_hopes 12 = .ok (.astore_n 3, 1) := dk_78 (dk_at dksX1_hopes_0 12 rfl rfl)
theorem dX1_hopes_13 : decode cX1_hopes 13 = .ok (.iconst 0, 1) := dk_3 (dk_at dksX1_hopes_0 13 rfl rfl)
theorem dX1_hopes_14 : decode cX1_hopes 14 = .ok (.istore 4, 2) := dk_54 4 (dk_at dksX1_hopes_0 14 rfl rfl)
theorem dX1_hopes_16 : decode cX1_hopes 16 = .ok (.iload 4, 2) := dk_21 4 (dk_at dksX1_hopes_0 16 rfl rfl)
theorem dX1_hopes_18 : decode cX1_hopes 18 = .ok (.aload_n 3, 1) := dk_45 (dk_at dksX1_hopes_0 18 rfl rfl)
theorem dX1_hopes_19 : decode cX1_hopes 19 = .ok (.arraylength, 1) := dk_190 (dk_at dksX1_hopes_0 19 rfl rfl)
theorem dX1_hopes_20 : decode cX1_hopes 20 = .ok (.if_icmp .ge 106, 3) := dk_162 0 106 (dk_at dksX1_hopes_0 20 rfl rfl)
theorem dX1_hopes_23 : decode cX1_hopes 23 = .ok (.aload_n 0, 1) := dk_42 (dk_at dksX1_hopes_0 23 rfl rfl)
theorem dX1_hopes_24 : decode cX1_hopes 24 = .ok (.getfield 28, 3) := dk_180 0 28 (dk_at dksX1_hopes_1 0 rfl rfl)
theorem dX1_hopes_27 : decode cX1_hopes 27 = .ok (.invokevirtual 83, 3) := dk_182 0 83 (dk_at dksX1_hopes_1 3 rfl rfl)
theorem dX1_hopes_30 : decode cX1_hopes 30 = .ok (.checkcast 87, 3) := dk_192 0 87 (dk_at dksX1_hopes_1 6 rfl rfl)
theorem dX1_hopes_33 : decode cX1_hopes 33 = .ok (.iload 4, 2) := dk_21 4 (dk_at dksX1_hopes_1 9 rfl rfl)
theorem dX1_hopes_35 : decode cX1_hopes 35 = .ok (.invokevirtual 198, 3) := dk_182 0 198 (dk_at dksX1_hopes_1 11 rfl rfl)
theorem dX1_hopes_38 : decode cX1_hopes 38 = .ok (.ifCond .ne 82, 3) := dk_154 0 82 (dk_at dksX1_hopes_1 14 rfl rfl)
theorem dX1_hopes_41 : decode cX1_hopes 41 = .ok (.aload_n 0, 1) := dk_42 (dk_at dksX1_hopes_1 17 rfl rfl)
theorem dX1_hopes_42 : decode cX1_hopes 42 = .ok (.iload 4, 2) := dk_21 4 (dk_at dksX1_hopes_1 18 rfl rfl)
theorem dX1_hopes_44 : decode cX1_hopes 44 = .ok (.iload_n 1, 1) := dk_27 (dk_at dksX1_hopes_1 20 rfl rfl)
theorem dX1_hopes_45 : decode cX1_hopes 45 = .ok (.invokevirtual 294, 3) := dk_182 1 38 (dk_at dksX1_hopes_1 21 rfl rfl)
theorem dX1_hopes_48 : decode cX1_hopes 48 = .ok (.ifCond .eq 6, 3) := dk_153 0 6 (dk_at dksX1_hopes_2 0 rfl rfl)
theorem dX1_hopes_51 : decode cX1_hopes 51 = .ok (.goto 69, 3) := dk_167 0 69 (dk_at dksX1_hopes_2 3 rfl rfl)
theorem dX1_hopes_54 : decode cX1_hopes 54 = .ok (.iconst 0, 1) := dk_3 (dk_at dksX1_hopes_2 6 rfl rfl)
theorem dX1_hopes_55 : decode cX1_hopes 55 = .ok (.istore 5, 2) := dk_54 5 (dk_at dksX1_hopes_2 7 rfl rfl)
theorem dX1_hopes_57 : decode cX1_hopes 57 = .ok (.iload 5, 2) := dk_21 5 (dk_at dksX1_hopes_2 9 rfl rfl)
theorem dX1_hopes_59 : decode cX1_hopes 59 = .ok (.aload_n 0, 1) := dk_42 (dk_at dksX1_hopes_2 11 rfl rfl)
theorem dX1_hopes_60 : decode cX1_hopes 60 = .ok (.getfield 42, 3) := dk_180 0 42 (dk_at dksX1_hopes_2 12 rfl rfl)
theorem dX1_hopes_63 : decode cX1_hopes 63 = .ok (.invokevirtual 98, 3) := dk_182 0 98 (dk_at dksX1_hopes_2 15 rfl rfl)
theorem dX1_hopes_66 : decode cX1_hopes 66 = .ok (.if_icmp .ge 54, 3) := dk_162 0 54 (dk_at dksX1_hopes_2 18 rfl rfl)
theorem dX1_hopes_69 : decode cX1_hopes 69 = .ok (.aload_n 3, 1) := dk_45 (dk_at dksX1_hopes_2 21 rfl rfl)
theorem dX1_hopes_70 : decode cX1_hopes 70 = .ok (.iload 4, 2) := dk_21 4 (dk_at dksX1_hopes_2 22 rfl rfl)
theorem dX1_hopes_72 : decode cX1_hopes 72 = .ok (.dup2, 1) := dk_92 (dk_at dksX1_hopes_3 0 rfl rfl)
theorem dX1_hopes_73 : decode cX1_hopes 73 = .ok (.baload, 1) := dk_51 (dk_at dksX1_hopes_3 1 rfl rfl)
theorem dX1_hopes_74 : decode cX1_hopes 74 = .ok (.aload_n 0, 1) := dk_42 (dk_at dksX1_hopes_3 2 rfl rfl)
theorem dX1_hopes_75 : decode cX1_hopes 75 = .ok (.aload_n 0, 1) := dk_42 (dk_at dksX1_hopes_3 3 rfl rfl)
theorem dX1_hopes_76 : decode cX1_hopes 76 = .ok (.getfield 42, 3) := dk_180 0 42 (dk_at dksX1_hopes_3 4 rfl rfl)
theorem dX1_hopes_79 : decode cX1_hopes 79 = .ok (.iload 5, 2) := dk_21 5 (dk_at dksX1_hopes_3 7 rfl rfl)
theorem dX1_hopes_81 : decode cX1_hopes 81 = .ok (.invokevirtual 99, 3) := dk_182 0 99 (dk_at dksX1_hopes_3 9 rfl rfl)
theorem dX1_hopes_84 : decode cX1_hopes 84 = .ok (.checkcast 102, 3) := dk_192 0 102 (dk_at dksX1_hopes_3 12 rfl rfl)
theorem dX1_hopes_87 : decode cX1_hopes 87 = .ok (.aload_n 0, 1) := dk_42 (dk_at dksX1_hopes_3 15 rfl rfl)
theorem dX1_hopes_88 : decode cX1_hopes 88 = .ok (.aload_n 0, 1) := dk_42 (dk_at dksX1_hopes_3 16 rfl rfl)
theorem dX1_hopes_89 : decode cX1_hopes 89 = .ok (.getfield 42, 3) := dk_180 0 42 (dk_at dksX1_hopes_3 17 rfl rfl)
theorem dX1_hopes_92 : decode cX1_hopes 92 = .ok (.iload 5, 2) := dk_21 5 (dk_at dksX1_hopes_3 20 rfl rfl)
theorem dX1_hopes_94 : decode cX1_hopes 94 = .ok (.invokevirtual 99, 3) := dk_182 0 99 (dk_at dksX1_hopes_4 0 rfl rfl)
theorem dX1_hopes_97 : decode cX1_hopes 97 = .ok (.checkcast 102, 3) := dk_192 0 102 (dk_at dksX1_hopes_4 3 rfl rfl)
theorem dX1_hopes_100 : decode cX1_hopes 100 = .ok (.iload 4, 2) := dk_21 4 (dk_at dksX1_hopes_4 6 rfl rfl)
theorem dX1_hopes_102 : decode cX1_hopes 102 = .ok (.iload_n 1, 1) := dk_27 (dk_at dksX1_hopes_4 8 rfl rfl)
theorem dX1_hopes_103 : decode cX1_hopes 103 = .ok (.invokevirtual 273, 3) := dk_182 1 17 (dk_at dksX1_hopes_4 9 rfl rfl)
theorem dX1_hopes_106 : decode cX1_hopes 106 = .ok (.iload_n 1, 1) := dk_27 (dk_at dksX1_hopes_4 12 rfl rfl)
theorem dX1_hopes_107 : decode cX1_hopes 107 = .ok (.iconst 1, 1) := dk_4 (dk_at dksX1_hopes_4 13 rfl rfl)
theorem dX1_hopes_108 : decode cX1_hopes 108 = .ok (.iload_n 2, 1) := dk_28 (dk_at dksX1_hopes_4 14 rfl rfl)
theorem dX1_hopes_109 : decode cX1_hopes 109 = .ok (.invokevirtual 277, 3) := dk_182 1 21 (dk_at dksX1_hopes_4 15 rfl rfl)
theorem dX1_hopes_112 : decode cX1_hopes 112 = .ok (.ior, 1) := dk_128 (dk_at dksX1_hopes_4 18 rfl rfl)
theorem dX1_hopes_113 : decode cX1_hopes 113 = .ok (.bastore, 1) := dk_84 (dk_at dksX1_hopes_4 19 rfl rfl)
theorem dX1_hopes_114 : decode cX1_hopes 114 = .ok (.iinc 5 1, 3) := dk_132 5 1 (dk_at dksX1_hopes_4 20 rfl rfl)
theorem dX1_hopes_117 : decode cX1_hopes 117 = .ok (.goto (-60), 3) := dk_167 255 196 (dk_at dksX1_hopes_5 0 rfl rfl)
theorem dX1_hopes_120 : decode cX1_hopes 120 = .ok (.iinc 4 1, 3) := dk_132 4 1 (dk_at dksX1_hopes_5 3 rfl rfl)
theorem dX1_hopes_123 : decode cX1_hopes 123 = .ok (.goto (-107), 3) := dk_167 255 149 (dk_at dksX1_hopes_5 6 rfl rfl)
theorem dX1_hopes_126 : decode cX1_hopes 126 = .ok (.aload_n 3, 1) := dk_45 (dk_at dksX1_hopes_5 9 rfl rfl)
theorem dX1_hopes_127 : decode cX1_hopes 127 = .ok (.areturn, 1) := dk_176 (dk_at dksX1_hopes_5 10 rfl rfl)
abbrev cX1_gain : ByteArray := prog_1_method_75_code
def yX1_gain : MethodName := ⟨RX1, "gain", "(LNightwatchWall$Lamp;[Z)I"⟩
def dkwX1_gain_2 : List UInt8 := [132, 4, 1, 167, 255, 212, 29, 172]
abbrev dktX1_gain_2 : List UInt8 := dkwX1_gain_2 ++ []
def dkwX1_gain_1 : List UInt8 := [180, 0, 28, 182, 0, 83, 192, 0, 87, 21, 4, 182, 0, 222, 153, 0, 7, 4, 167, 0, 4, 3, 96, 62]
abbrev dktX1_gain_1 : List UInt8 := dkwX1_gain_1 ++ dktX1_gain_2
def dkwX1_gain_0 : List UInt8 := [3, 62, 3, 54, 4, 21, 4, 44, 190, 162, 0, 43, 29, 44, 21, 4, 51, 153, 0, 26, 43, 42]
abbrev dktX1_gain_0 : List UInt8 := dkwX1_gain_0 ++ dktX1_gain_1
theorem dksX1_gain_0 : cX1_gain.data.toList.drop 0 = dktX1_gain_0 := by decide +kernel
theorem dksX1_gain_1 : cX1_gain.data.toList.drop 22 = dktX1_gain_1 := dk_seg dksX1_gain_0 22 rfl rfl
theorem dksX1_gain_2 : cX1_gain.data.toList.drop 46 = dktX1_gain_2 := dk_seg dksX1_gain_1 24 rfl rfl
theorem dX1_gain_0 : decode cX1_gain 0 = .ok (.iconst 0, 1) := dk_3 (dk_at dksX1_gain_0 0 rfl rfl)
theorem dX1_gain_1 : decode cX1_gain 1 = .ok (.istore_n 3, 1) := dk_62 (dk_at dksX1_gain_0 1 rfl rfl)
theorem dX1_gain_2 : decode cX1_gain 2 = .ok (.iconst 0, 1) := dk_3 (dk_at dksX1_gain_0 2 rfl rfl)
theorem dX1_gain_3 : decode cX1_gain 3 = .ok (.istore 4, 2) := dk_54 4 (dk_at dksX1_gain_0 3 rfl rfl)
theorem dX1_gain_5 : decode cX1_gain 5 = .ok (.iload 4, 2) := dk_21 4 (dk_at dksX1_gain_0 5 rfl rfl)
theorem dX1_gain_7 : decode cX1_gain 7 = .ok (.aload_n 2, 1) := dk_44 (dk_at dksX1_gain_0 7 rfl rfl)
theorem dX1_gain_8 : decode cX1_gain 8 = .ok (.arraylength, 1) := dk_190 (dk_at dksX1_gain_0 8 rfl rfl)
theorem dX1_gain_9 : decode cX1_gain 9 = .ok (.if_icmp .ge 43, 3) := dk_162 0 43 (dk_at dksX1_gain_0 9 rfl rfl)
theorem dX1_gain_12 : decode cX1_gain 12 = .ok (.iload_n 3, 1) := dk_29 (dk_at dksX1_gain_0 12 rfl rfl)
theorem dX1_gain_13 : decode cX1_gain 13 = .ok (.aload_n 2, 1) := dk_44 (dk_at dksX1_gain_0 13 rfl rfl)
theorem dX1_gain_14 : decode cX1_gain 14 = .ok (.iload 4, 2) := dk_21 4 (dk_at dksX1_gain_0 14 rfl rfl)
theorem dX1_gain_16 : decode cX1_gain 16 = .ok (.baload, 1) := dk_51 (dk_at dksX1_gain_0 16 rfl rfl)
theorem dX1_gain_17 : decode cX1_gain 17 = .ok (.ifCond .eq 26, 3) := dk_153 0 26 (dk_at dksX1_gain_0 17 rfl rfl)
theorem dX1_gain_20 : decode cX1_gain 20 = .ok (.aload_n 1, 1) := dk_43 (dk_at dksX1_gain_0 20 rfl rfl)
theorem dX1_gain_21 : decode cX1_gain 21 = .ok (.aload_n 0, 1) := dk_42 (dk_at dksX1_gain_0 21 rfl rfl)
theorem dX1_gain_22 : decode cX1_gain 22 = .ok (.getfield 28, 3) := dk_180 0 28 (dk_at dksX1_gain_1 0 rfl rfl)
theorem dX1_gain_25 : decode cX1_gain 25 = .ok (.invokevirtual 83, 3) := dk_182 0 83 (dk_at dksX1_gain_1 3 rfl rfl)
theorem dX1_gain_28 : decode cX1_gain 28 = .ok (.checkcast 87, 3) := dk_192 0 87 (dk_at dksX1_gain_1 6 rfl rfl)
theorem dX1_gain_31 : decode cX1_gain 31 = .ok (.iload 4, 2) := dk_21 4 (dk_at dksX1_gain_1 9 rfl rfl)
theorem dX1_gain_33 : decode cX1_gain 33 = .ok (.invokevirtual 222, 3) := dk_182 0 222 (dk_at dksX1_gain_1 11 rfl rfl)
theorem dX1_gain_36 : decode cX1_gain 36 = .ok (.ifCond .eq 7, 3) := dk_153 0 7 (dk_at dksX1_gain_1 14 rfl rfl)
theorem dX1_gain_39 : decode cX1_gain 39 = .ok (.iconst 1, 1) := dk_4 (dk_at dksX1_gain_1 17 rfl rfl)
theorem dX1_gain_40 : decode cX1_gain 40 = .ok (.goto 4, 3) := dk_167 0 4 (dk_at dksX1_gain_1 18 rfl rfl)
theorem dX1_gain_43 : decode cX1_gain 43 = .ok (.iconst 0, 1) := dk_3 (dk_at dksX1_gain_1 21 rfl rfl)
theorem dX1_gain_44 : decode cX1_gain 44 = .ok (.iadd, 1) := dk_96 (dk_at dksX1_gain_1 22 rfl rfl)
theorem dX1_gain_45 : decode cX1_gain 45 = .ok (.istore_n 3, 1) := dk_62 (dk_at dksX1_gain_1 23 rfl rfl)
theorem dX1_gain_46 : decode cX1_gain 46 = .ok (.iinc 4 1, 3) := dk_132 4 1 (dk_at dksX1_gain_2 0 rfl rfl)
theorem dX1_gain_49 : decode cX1_gain 49 = .ok (.goto (-44), 3) := dk_167 255 212 (dk_at dksX1_gain_2 3 rfl rfl)
theorem dX1_gain_52 : decode cX1_gain 52 = .ok (.iload_n 3, 1) := dk_29 (dk_at dksX1_gain_2 6 rfl rfl)
theorem dX1_gain_53 : decode cX1_gain 53 = .ok (.ireturn, 1) := dk_172 (dk_at dksX1_gain_2 7 rfl rfl)
abbrev cX1_many : ByteArray := prog_1_method_79_code
def yX1_many : MethodName := ⟨RX1, "many", "(I)I"⟩
def dkwX1_many_0 : List UInt8 := [3, 16, 12, 27, 184, 0, 15, 184, 0, 110, 42, 27, 182, 1, 204, 172]
abbrev dktX1_many_0 : List UInt8 := dkwX1_many_0 ++ []
theorem dksX1_many_0 : cX1_many.data.toList.drop 0 = dktX1_many_0 := by decide +kernel
theorem dX1_many_0 : decode cX1_many 0 = .ok (.iconst 0, 1) := dk_3 (dk_at dksX1_many_0 0 rfl rfl)
theorem dX1_many_1 : decode cX1_many 1 = .ok (.bipush 12, 2) := dk_16 12 (dk_at dksX1_many_0 1 rfl rfl)
theorem dX1_many_3 : decode cX1_many 3 = .ok (.iload_n 1, 1) := dk_27 (dk_at dksX1_many_0 3 rfl rfl)
theorem dX1_many_4 : decode cX1_many 4 = .ok (.invokestatic 15, 3) := dk_184 0 15 (dk_at dksX1_many_0 4 rfl rfl)
theorem dX1_many_7 : decode cX1_many 7 = .ok (.invokestatic 110, 3) := dk_184 0 110 (dk_at dksX1_many_0 7 rfl rfl)
theorem dX1_many_10 : decode cX1_many 10 = .ok (.aload_n 0, 1) := dk_42 (dk_at dksX1_many_0 10 rfl rfl)
theorem dX1_many_11 : decode cX1_many 11 = .ok (.iload_n 1, 1) := dk_27 (dk_at dksX1_many_0 11 rfl rfl)
theorem dX1_many_12 : decode cX1_many 12 = .ok (.invokevirtual 460, 3) := dk_182 1 204 (dk_at dksX1_many_0 12 rfl rfl)
theorem dX1_many_15 : decode cX1_many 15 = .ok (.ireturn, 1) := dk_172 (dk_at dksX1_many_0 15 rfl rfl)
abbrev cX1_drawn : ByteArray := prog_1_method_81_code
def yX1_drawn : MethodName := ⟨RX1, "drawn", "(II)Ljava/lang/String;"⟩
def dkwX1_drawn_3 : List UInt8 := [104, 21, 5, 96, 28, 182, 1, 223, 182, 1, 226, 87, 132, 5, 1, 167, 255, 230, 25, 4, 182, 1, 230, 176]
abbrev dktX1_drawn_3 : List UInt8 := dkwX1_drawn_3 ++ []
def dkwX1_drawn_2 : List UInt8 := [62, 187, 1, 220, 89, 183, 1, 222, 58, 4, 3, 54, 5, 21, 5, 29, 162, 0, 26, 25, 4, 42, 27, 29]
abbrev dktX1_drawn_2 : List UInt8 := dkwX1_drawn_2 ++ dktX1_drawn_3
def dkwX1_drawn_1 : List UInt8 := [167, 0, 4, 3, 184, 0, 94, 28, 184, 0, 243, 42, 180, 0, 28, 182, 0, 83, 192, 0, 87, 180, 1, 217]
abbrev dktX1_drawn_1 : List UInt8 := dkwX1_drawn_1 ++ dktX1_drawn_2
def dkwX1_drawn_0 : List UInt8 := [27, 42, 180, 0, 28, 182, 0, 79, 153, 0, 19, 42, 180, 0, 28, 182, 0, 83, 192, 0, 87, 180, 1, 214]
abbrev dktX1_drawn_0 : List UInt8 := dkwX1_drawn_0 ++ dktX1_drawn_1
theorem dksX1_drawn_0 : cX1_drawn.data.toList.drop 0 = dktX1_drawn_0 := by decide +kernel
theorem dksX1_drawn_1 : cX1_drawn.data.toList.drop 24 = dktX1_drawn_1 := dk_seg dksX1_drawn_0 24 rfl rfl
theorem dksX1_drawn_2 : cX1_drawn.data.toList.drop 48 = dktX1_drawn_2 := dk_seg dksX1_drawn_1 24 rfl rfl
theorem dksX1_drawn_3 : cX1_drawn.data.toList.drop 72 = dktX1_drawn_3 := dk_seg dksX1_drawn_2 24 rfl rfl
theorem dX1_drawn_0 : decode cX1_drawn 0 = .ok (.iload_n 1, 1) := dk_27 (dk_at dksX1_drawn_0 0 rfl rfl)
theorem dX1_drawn_1 : decode cX1_drawn 1 = .ok (.aload_n 0, 1) := dk_42 (dk_at dksX1_drawn_0 1 rfl rfl)
theorem dX1_drawn_2 : decode cX1_drawn 2 = .ok (.getfield 28, 3) := dk_180 0 28 (dk_at dksX1_drawn_0 2 rfl rfl)
theorem dX1_drawn_5 : decode cX1_drawn 5 = .ok (.invokevirtual 79, 3) := dk_182 0 79 (dk_at dksX1_drawn_0 5 rfl rfl)
theorem dX1_drawn_8 : decode cX1_drawn 8 = .ok (.ifCond .eq 19, 3) := dk_153 0 19 (dk_at dksX1_drawn_0 8 rfl rfl)
theorem dX1_drawn_11 : decode cX1_drawn 11 = .ok (.aload_n 0, 1) := dk_42 (dk_at dksX1_drawn_0 11 rfl rfl)
theorem dX1_drawn_12 : decode cX1_drawn 12 = .ok (.getfield 28, 3) := dk_180 0 28 (dk_at dksX1_drawn_0 12 rfl rfl)
theorem dX1_drawn_15 : decode cX1_drawn 15 = .ok (.invokevirtual 83, 3) := dk_182 0 83 (dk_at dksX1_drawn_0 15 rfl rfl)
theorem dX1_drawn_18 : decode cX1_drawn 18 = .ok (.checkcast 87, 3) := dk_192 0 87 (dk_at dksX1_drawn_0 18 rfl rfl)
theorem dX1_drawn_21 : decode cX1_drawn 21 = .ok (.getfield 470, 3) := dk_180 1 214 (dk_at dksX1_drawn_0 21 rfl rfl)
theorem dX1_drawn_24 : decode cX1_drawn 24 = .ok (.goto 4, 3) := dk_167 0 4 (dk_at dksX1_drawn_1 0 rfl rfl)
theorem dX1_drawn_27 : decode cX1_drawn 27 = .ok (.iconst 0, 1) := dk_3 (dk_at dksX1_drawn_1 3 rfl rfl)
theorem dX1_drawn_28 : decode cX1_drawn 28 = .ok (.invokestatic 94, 3) := dk_184 0 94 (dk_at dksX1_drawn_1 4 rfl rfl)
theorem dX1_drawn_31 : decode cX1_drawn 31 = .ok (.iload_n 2, 1) := dk_28 (dk_at dksX1_drawn_1 7 rfl rfl)
theorem dX1_drawn_32 : decode cX1_drawn 32 = .ok (.invokestatic 243, 3) := dk_184 0 243 (dk_at dksX1_drawn_1 8 rfl rfl)
theorem dX1_drawn_35 : decode cX1_drawn 35 = .ok (.aload_n 0, 1) := dk_42 (dk_at dksX1_drawn_1 11 rfl rfl)
theorem dX1_drawn_36 : decode cX1_drawn 36 = .ok (.getfield 28, 3) := dk_180 0 28 (dk_at dksX1_drawn_1 12 rfl rfl)
theorem dX1_drawn_39 : decode cX1_drawn 39 = .ok (.invokevirtual 83, 3) := dk_182 0 83 (dk_at dksX1_drawn_1 15 rfl rfl)
theorem dX1_drawn_42 : decode cX1_drawn 42 = .ok (.checkcast 87, 3) := dk_192 0 87 (dk_at dksX1_drawn_1 18 rfl rfl)
theorem dX1_drawn_45 : decode cX1_drawn 45 = .ok (.getfield 473, 3) := dk_180 1 217 (dk_at dksX1_drawn_1 21 rfl rfl)
theorem dX1_drawn_48 : decode cX1_drawn 48 = .ok (.istore_n 3, 1) := dk_62 (dk_at dksX1_drawn_2 0 rfl rfl)
theorem dX1_drawn_49 : decode cX1_drawn 49 = .ok (.new 476, 3) := dk_187 1 220 (dk_at dksX1_drawn_2 1 rfl rfl)
theorem dX1_drawn_52 : decode cX1_drawn 52 = .ok (.dup, 1) := dk_89 (dk_at dksX1_drawn_2 4 rfl rfl)
theorem dX1_drawn_53 : decode cX1_drawn 53 = .ok (.invokespecial 478, 3) := dk_183 1 222 (dk_at dksX1_drawn_2 5 rfl rfl)
theorem dX1_drawn_56 : decode cX1_drawn 56 = .ok (.astore 4, 2) := dk_58 4 (dk_at dksX1_drawn_2 8 rfl rfl)
theorem dX1_drawn_58 : decode cX1_drawn 58 = .ok (.iconst 0, 1) := dk_3 (dk_at dksX1_drawn_2 10 rfl rfl)
theorem dX1_drawn_59 : decode cX1_drawn 59 = .ok (.istore 5, 2) := dk_54 5 (dk_at dksX1_drawn_2 11 rfl rfl)
theorem dX1_drawn_61 : decode cX1_drawn 61 = .ok (.iload 5, 2) := dk_21 5 (dk_at dksX1_drawn_2 13 rfl rfl)
theorem dX1_drawn_63 : decode cX1_drawn 63 = .ok (.iload_n 3, 1) := dk_29 (dk_at dksX1_drawn_2 15 rfl rfl)
theorem dX1_drawn_64 : decode cX1_drawn 64 = .ok (.if_icmp .ge 26, 3) := dk_162 0 26 (dk_at dksX1_drawn_2 16 rfl rfl)
theorem dX1_drawn_67 : decode cX1_drawn 67 = .ok (.aload 4, 2) := dk_25 4 (dk_at dksX1_drawn_2 19 rfl rfl)
theorem dX1_drawn_69 : decode cX1_drawn 69 = .ok (.aload_n 0, 1) := dk_42 (dk_at dksX1_drawn_2 21 rfl rfl)
theorem dX1_drawn_70 : decode cX1_drawn 70 = .ok (.iload_n 1, 1) := dk_27 (dk_at dksX1_drawn_2 22 rfl rfl)
theorem dX1_drawn_71 : decode cX1_drawn 71 = .ok (.iload_n 3, 1) := dk_29 (dk_at dksX1_drawn_2 23 rfl rfl)
theorem dX1_drawn_72 : decode cX1_drawn 72 = .ok (.imul, 1) := dk_104 (dk_at dksX1_drawn_3 0 rfl rfl)
theorem dX1_drawn_73 : decode cX1_drawn 73 = .ok (.iload 5, 2) := dk_21 5 (dk_at dksX1_drawn_3 1 rfl rfl)
theorem dX1_drawn_75 : decode cX1_drawn 75 = .ok (.iadd, 1) := dk_96 (dk_at dksX1_drawn_3 3 rfl rfl)
theorem dX1_drawn_76 : decode cX1_drawn 76 = .ok (.iload_n 2, 1) := dk_28 (dk_at dksX1_drawn_3 4 rfl rfl)
theorem dX1_drawn_77 : decode cX1_drawn 77 = .ok (.invokevirtual 479, 3) := dk_182 1 223 (dk_at dksX1_drawn_3 5 rfl rfl)
theorem dX1_drawn_80 : decode cX1_drawn 80 = .ok (.invokevirtual 482, 3) := dk_182 1 226 (dk_at dksX1_drawn_3 8 rfl rfl)
theorem dX1_drawn_83 : decode cX1_drawn 83 = .ok (.pop, 1) := dk_87 (dk_at dksX1_drawn_3 11 rfl rfl)
theorem dX1_drawn_84 : decode cX1_drawn 84 = .ok (.iinc 5 1, 3) := dk_132 5 1 (dk_at dksX1_drawn_3 12 rfl rfl)
theorem dX1_drawn_87 : decode cX1_drawn 87 = .ok (.goto (-26), 3) := dk_167 255 230 (dk_at dksX1_drawn_3 15 rfl rfl)
theorem dX1_drawn_90 : decode cX1_drawn 90 = .ok (.aload 4, 2) := dk_25 4 (dk_at dksX1_drawn_3 18 rfl rfl)
theorem dX1_drawn_92 : decode cX1_drawn 92 = .ok (.invokevirtual 486, 3) := dk_182 1 230 (dk_at dksX1_drawn_3 20 rfl rfl)
theorem dX1_drawn_95 : decode cX1_drawn 95 = .ok (.areturn, 1) := dk_176 (dk_at dksX1_drawn_3 23 rfl rfl)
abbrev cX1_sign : ByteArray := prog_1_method_80_code
def yX1_sign : MethodName := ⟨RX1, "sign", "(II)C"⟩
def dkwX1_sign_2 : List UInt8 := [182, 1, 38, 153, 0, 8, 16, 58, 167, 0, 8, 25, 4, 182, 1, 210, 172]
abbrev dktX1_sign_2 : List UInt8 := dkwX1_sign_2 ++ []
def dkwX1_sign_1 : List UInt8 := [182, 0, 83, 192, 0, 87, 180, 0, 130, 27, 50, 58, 4, 25, 4, 178, 0, 146, 166, 0, 17, 42, 27, 28]
abbrev dktX1_sign_1 : List UInt8 := dkwX1_sign_1 ++ dktX1_sign_2
def dkwX1_sign_0 : List UInt8 := [42, 27, 28, 182, 1, 28, 62, 29, 153, 0, 12, 16, 48, 29, 184, 1, 207, 96, 146, 172, 42, 180, 0, 28]
abbrev dktX1_sign_0 : List UInt8 := dkwX1_sign_0 ++ dktX1_sign_1
theorem dksX1_sign_0 : cX1_sign.data.toList.drop 0 = dktX1_sign_0 := by decide +kernel
theorem dksX1_sign_1 : cX1_sign.data.toList.drop 24 = dktX1_sign_1 := dk_seg dksX1_sign_0 24 rfl rfl
theorem dksX1_sign_2 : cX1_sign.data.toList.drop 48 = dktX1_sign_2 := dk_seg dksX1_sign_1 24 rfl rfl
theorem dX1_sign_0 : decode cX1_sign 0 = .ok (.aload_n 0, 1) := dk_42 (dk_at dksX1_sign_0 0 rfl rfl)
theorem dX1_sign_1 : decode cX1_sign 1 = .ok (.iload_n 1, 1) := dk_27 (dk_at dksX1_sign_0 1 rfl rfl)
theorem dX1_sign_2 : decode cX1_sign 2 = .ok (.iload_n 2, 1) := dk_28 (dk_at dksX1_sign_0 2 rfl rfl)
theorem dX1_sign_3 : decode cX1_sign 3 = .ok (.invokevirtual 284, 3) := dk_182 1 28 (dk_at dksX1_sign_0 3 rfl rfl)
theorem dX1_sign_6 : decode cX1_sign 6 = .ok (.istore_n 3, 1) := dk_62 (dk_at dksX1_sign_0 6 rfl rfl)
theorem dX1_sign_7 : decode cX1_sign 7 = .ok (.iload_n 3, 1) := dk_29 (dk_at dksX1_sign_0 7 rfl rfl)
theorem dX1_sign_8 : decode cX1_sign 8 = .ok (.ifCond .eq 12, 3) := dk_153 0 12 (dk_at dksX1_sign_0 8 rfl rfl)
theorem dX1_sign_11 : decode cX1_sign 11 = .ok (.bipush 48, 2) := dk_16 48 (dk_at dksX1_sign_0 11 rfl rfl)
theorem dX1_sign_13 : decode cX1_sign 13 = .ok (.iload_n 3, 1) := dk_29 (dk_at dksX1_sign_0 13 rfl rfl)
theorem dX1_sign_14 : decode cX1_sign 14 = .ok (.invokestatic 463, 3) := dk_184 1 207 (dk_at dksX1_sign_0 14 rfl rfl)
theorem dX1_sign_17 : decode cX1_sign 17 = .ok (.iadd, 1) := dk_96 (dk_at dksX1_sign_0 17 rfl rfl)
theorem dX1_sign_18 : decode cX1_sign 18 = .ok (.i2c, 1) := dk_146 (dk_at dksX1_sign_0 18 rfl rfl)
theorem dX1_sign_19 : decode cX1_sign 19 = .ok (.ireturn, 1) := dk_172 (dk_at dksX1_sign_0 19 rfl rfl)
theorem dX1_sign_20 : decode cX1_sign 20 = .ok (.aload_n 0, 1) := dk_42 (dk_at dksX1_sign_0 20 rfl rfl)
theorem dX1_sign_21 : decode cX1_sign 21 = .ok (.getfield 28, 3) := dk_180 0 28 (dk_at dksX1_sign_0 21 rfl rfl)
theorem dX1_sign_24 : decode cX1_sign 24 = .ok (.invokevirtual 83, 3) := dk_182 0 83 (dk_at dksX1_sign_1 0 rfl rfl)
theorem dX1_sign_27 : decode cX1_sign 27 = .ok (.checkcast 87, 3) := dk_192 0 87 (dk_at dksX1_sign_1 3 rfl rfl)
theorem dX1_sign_30 : decode cX1_sign 30 = .ok (.getfield 130, 3) := dk_180 0 130 (dk_at dksX1_sign_1 6 rfl rfl)
theorem dX1_sign_33 : decode cX1_sign 33 = .ok (.iload_n 1, 1) := dk_27 (dk_at dksX1_sign_1 9 rfl rfl)
theorem dX1_sign_34 : decode cX1_sign 34 = .ok (.aaload, 1) := dk_50 (dk_at dksX1_sign_1 10 rfl rfl)
theorem dX1_sign_35 : decode cX1_sign 35 = .ok (.astore 4, 2) := dk_58 4 (dk_at dksX1_sign_1 11 rfl rfl)
theorem dX1_sign_37 : decode cX1_sign 37 = .ok (.aload 4, 2) := dk_25 4 (dk_at dksX1_sign_1 13 rfl rfl)
theorem dX1_sign_39 : decode cX1_sign 39 = .ok (.getstatic 146, 3) := dk_178 0 146 (dk_at dksX1_sign_1 15 rfl rfl)
theorem dX1_sign_42 : decode cX1_sign 42 = .ok (.if_acmp .ne 17, 3) := dk_166 0 17 (dk_at dksX1_sign_1 18 rfl rfl)
theorem dX1_sign_45 : decode cX1_sign 45 = .ok (.aload_n 0, 1) := dk_42 (dk_at dksX1_sign_1 21 rfl rfl)
theorem dX1_sign_46 : decode cX1_sign 46 = .ok (.iload_n 1, 1) := dk_27 (dk_at dksX1_sign_1 22 rfl rfl)
theorem dX1_sign_47 : decode cX1_sign 47 = .ok (.iload_n 2, 1) := dk_28 (dk_at dksX1_sign_1 23 rfl rfl)
theorem dX1_sign_48 : decode cX1_sign 48 = .ok (.invokevirtual 294, 3) := dk_182 1 38 (dk_at dksX1_sign_2 0 rfl rfl)
theorem dX1_sign_51 : decode cX1_sign 51 = .ok (.ifCond .eq 8, 3) := dk_153 0 8 (dk_at dksX1_sign_2 3 rfl rfl)
theorem dX1_sign_54 : decode cX1_sign 54 = .ok (.bipush 58, 2) := dk_16 58 (dk_at dksX1_sign_2 6 rfl rfl)
theorem dX1_sign_56 : decode cX1_sign 56 = .ok (.goto 8, 3) := dk_167 0 8 (dk_at dksX1_sign_2 8 rfl rfl)
theorem dX1_sign_59 : decode cX1_sign 59 = .ok (.aload 4, 2) := dk_25 4 (dk_at dksX1_sign_2 11 rfl rfl)
theorem dX1_sign_61 : decode cX1_sign 61 = .ok (.invokevirtual 466, 3) := dk_182 1 210 (dk_at dksX1_sign_2 13 rfl rfl)
theorem dX1_sign_64 : decode cX1_sign 64 = .ok (.ireturn, 1) := dk_172 (dk_at dksX1_sign_2 16 rfl rfl)
theorem q86 : (Jvm.Cond.initialized "NightwatchWall") ∈ lw_all := lw_g (lw_at lw_m1 1 rfl) rfl
theorem q128 : (Jvm.Cond.instantiable "NightwatchWall" (14 : Nat)) ∈ lw_all := lw_g (lw_at lw_m1 43 rfl) rfl
theorem q130 : (Jvm.Cond.instanceMethod ({ cls := "NightwatchWall", name := "<init>", desc := "()V" } : Jvm.MethodName)) ∈ lw_all := lw_g (lw_at lw_m1 45 rfl) rfl
theorem q131 : (Jvm.Cond.code ({ cls := "NightwatchWall", name := "<init>", desc := "()V" } : Jvm.MethodName) prog_1_method_7_code (1 : Nat) (Option.none : Option Jvm.ClassFile.FieldType)) ∈ lw_all := lw_g (lw_at lw_m1 46 rfl) rfl
theorem q132 : (Jvm.Cond.methodLink "NightwatchWall" (19 : Nat) ({ cls := "java/lang/Object", name := "<init>", desc := "()V" } : Jvm.MethodName)) ∈ lw_all := lw_g (lw_at lw_m1 47 rfl) rfl
theorem q135 : (Jvm.Cond.methodLink "NightwatchWall" (22 : Nat) ({ cls := "java/util/Optional", name := "empty", desc := "()Ljava/util/Optional;" } : Jvm.MethodName)) ∈ lw_all := lw_g (lw_at lw_m1 50 rfl) rfl
theorem q140 : (Jvm.Cond.classLink "NightwatchWall" (32 : Nat) "java/util/ArrayList") ∈ lw_all := lw_g (lw_at lw_m1 55 rfl) rfl
theorem q142 : (Jvm.Cond.methodLink "NightwatchWall" (34 : Nat) ({ cls := "java/util/ArrayList", name := "<init>", desc := "()V" } : Jvm.MethodName)) ∈ lw_all := lw_g (lw_at lw_m1 57 rfl) rfl
theorem q169 : (Jvm.Cond.classLink "NightwatchWall" (54 : Nat) "NightwatchWall$Words") ∈ lw_all := lw_g (lw_at lw_m1 84 rfl) rfl
theorem q171 : (Jvm.Cond.methodLink "NightwatchWall" (56 : Nat) ({ cls := "NightwatchWall$Words", name := "<init>", desc := "()V" } : Jvm.MethodName)) ∈ lw_all := lw_g (lw_at lw_m1 86 rfl) rfl
theorem q201 : (Jvm.Cond.fieldLinkNest "NightwatchWall" (114 : Nat) "NightwatchWall$Words" "seed" "I" "NightwatchWall") ∈ lw_tbl := lw_at lw_m1 116 rfl
theorem q204 : (Jvm.Cond.fieldLinkNest "NightwatchWall" (328 : Nat) "NightwatchWall$Words" "now" "[I" "NightwatchWall") ∈ lw_tbl := lw_at lw_m1 119 rfl
theorem q206 : (Jvm.Cond.fieldLinkNest "NightwatchWall" (451 : Nat) "NightwatchWall$Words" "old" "Ljava/util/ArrayList;" "NightwatchWall") ∈ lw_tbl := lw_at lw_m1 121 rfl
theorem q216 : (Jvm.Cond.methodLink "NightwatchWall" (65 : Nat) ({ cls := "NightwatchWall", name := "clear", desc := "()V" } : Jvm.MethodName)) ∈ lw_all := lw_g (lw_at lw_m1 131 rfl) rfl
theorem q217 : (Jvm.Cond.privateMethod ({ cls := "NightwatchWall", name := "clear", desc := "()V" } : Jvm.MethodName)) ∈ lw_tbl := lw_at lw_m1 132 rfl
theorem q218 : (Jvm.Cond.instanceMethod ({ cls := "NightwatchWall", name := "clear", desc := "()V" } : Jvm.MethodName)) ∈ lw_all := lw_g (lw_at lw_m1 133 rfl) rfl
theorem q219 : (Jvm.Cond.code ({ cls := "NightwatchWall", name := "clear", desc := "()V" } : Jvm.MethodName) prog_1_method_8_code (2 : Nat) (Option.none : Option Jvm.ClassFile.FieldType)) ∈ lw_all := lw_g (lw_at lw_m1 134 rfl) rfl
theorem q220 : (Jvm.Cond.methodLink "NightwatchWall" (68 : Nat) ({ cls := "java/util/ArrayList", name := "clear", desc := "()V" } : Jvm.MethodName)) ∈ lw_all := lw_g (lw_at lw_m1 135 rfl) rfl
theorem q221 : (Jvm.Cond.fieldLink "NightwatchWall" (28 : Nat) "NightwatchWall" "laid" "Ljava/util/Optional;") ∈ lw_all := lw_g (lw_at lw_m1 136 rfl) rfl
theorem q222 : (Jvm.Cond.fieldLink "NightwatchWall" (35 : Nat) "NightwatchWall" "lamps" "Ljava/util/ArrayList;") ∈ lw_all := lw_g (lw_at lw_m1 137 rfl) rfl
theorem q223 : (Jvm.Cond.fieldLink "NightwatchWall" (39 : Nat) "NightwatchWall" "reports" "Ljava/util/ArrayList;") ∈ lw_all := lw_g (lw_at lw_m1 138 rfl) rfl
theorem q224 : (Jvm.Cond.fieldLink "NightwatchWall" (42 : Nat) "NightwatchWall" "guards" "Ljava/util/ArrayList;") ∈ lw_all := lw_g (lw_at lw_m1 139 rfl) rfl
theorem q225 : (Jvm.Cond.fieldLink "NightwatchWall" (45 : Nat) "NightwatchWall" "posts" "Ljava/util/ArrayList;") ∈ lw_all := lw_g (lw_at lw_m1 140 rfl) rfl
theorem q226 : (Jvm.Cond.fieldLink "NightwatchWall" (48 : Nat) "NightwatchWall" "intruders" "Ljava/util/ArrayList;") ∈ lw_all := lw_g (lw_at lw_m1 141 rfl) rfl
theorem q227 : (Jvm.Cond.fieldLink "NightwatchWall" (51 : Nat) "NightwatchWall" "wires" "Ljava/util/ArrayList;") ∈ lw_all := lw_g (lw_at lw_m1 142 rfl) rfl
theorem q228 : (Jvm.Cond.fieldLink "NightwatchWall" (57 : Nat) "NightwatchWall" "words" "LNightwatchWall$Words;") ∈ lw_all := lw_g (lw_at lw_m1 143 rfl) rfl
theorem q229 : (Jvm.Cond.fieldLink "NightwatchWall" (61 : Nat) "NightwatchWall" "keys" "[I") ∈ lw_all := lw_g (lw_at lw_m1 144 rfl) rfl
theorem q230 : (Jvm.Cond.fieldLink "NightwatchWall" (69 : Nat) "NightwatchWall" "gatesFrom" "I") ∈ lw_all := lw_g (lw_at lw_m1 145 rfl) rfl
theorem q231 : (Jvm.Cond.fieldLink "NightwatchWall" (73 : Nat) "NightwatchWall" "gatesTo" "I") ∈ lw_all := lw_g (lw_at lw_m1 146 rfl) rfl
theorem q232 : (Jvm.Cond.fieldLink "NightwatchWall" (76 : Nat) "NightwatchWall" "right" "I") ∈ lw_all := lw_g (lw_at lw_m1 147 rfl) rfl
theorem q233 : (Jvm.Cond.fieldLink "NightwatchWall" (457 : Nat) "NightwatchWall" "refused" "I") ∈ lw_all := lw_g (lw_at lw_m1 148 rfl) rfl
theorem q234 : (Jvm.Cond.fieldLink "NightwatchWall" (493 : Nat) "NightwatchWall" "sum" "J") ∈ lw_all := lw_g (lw_at lw_m1 149 rfl) rfl
theorem q235 : (Jvm.Cond.lays "NightwatchWall" "NightwatchWall" "laid" "Ljava/util/Optional;") ∈ lw_all := lw_g (lw_at lw_m1 150 rfl) rfl
theorem q236 : (Jvm.Cond.soleField "NightwatchWall" "laid") ∈ lw_all := lw_g (lw_at lw_m1 151 rfl) rfl
theorem q237 : (Jvm.Cond.laysFinal "NightwatchWall" "NightwatchWall" "lamps" "Ljava/util/ArrayList;") ∈ lw_all := lw_g (lw_at lw_m1 152 rfl) rfl
theorem q238 : (Jvm.Cond.soleField "NightwatchWall" "lamps") ∈ lw_all := lw_g (lw_at lw_m1 153 rfl) rfl
theorem q239 : (Jvm.Cond.laysFinal "NightwatchWall" "NightwatchWall" "reports" "Ljava/util/ArrayList;") ∈ lw_all := lw_g (lw_at lw_m1 154 rfl) rfl
theorem q240 : (Jvm.Cond.soleField "NightwatchWall" "reports") ∈ lw_all := lw_g (lw_at lw_m1 155 rfl) rfl
theorem q241 : (Jvm.Cond.laysFinal "NightwatchWall" "NightwatchWall" "guards" "Ljava/util/ArrayList;") ∈ lw_all := lw_g (lw_at lw_m1 156 rfl) rfl
theorem q242 : (Jvm.Cond.soleField "NightwatchWall" "guards") ∈ lw_all := lw_g (lw_at lw_m1 157 rfl) rfl
theorem q243 : (Jvm.Cond.laysFinal "NightwatchWall" "NightwatchWall" "posts" "Ljava/util/ArrayList;") ∈ lw_all := lw_g (lw_at lw_m1 158 rfl) rfl
theorem q244 : (Jvm.Cond.soleField "NightwatchWall" "posts") ∈ lw_all := lw_g (lw_at lw_m1 159 rfl) rfl
theorem q245 : (Jvm.Cond.laysFinal "NightwatchWall" "NightwatchWall" "intruders" "Ljava/util/ArrayList;") ∈ lw_all := lw_g (lw_at lw_m1 160 rfl) rfl
theorem q246 : (Jvm.Cond.soleField "NightwatchWall" "intruders") ∈ lw_all := lw_g (lw_at lw_m1 161 rfl) rfl
theorem q247 : (Jvm.Cond.laysFinal "NightwatchWall" "NightwatchWall" "wires" "Ljava/util/ArrayList;") ∈ lw_all := lw_g (lw_at lw_m1 162 rfl) rfl
theorem q248 : (Jvm.Cond.soleField "NightwatchWall" "wires") ∈ lw_all := lw_g (lw_at lw_m1 163 rfl) rfl
theorem q249 : (Jvm.Cond.laysFinal "NightwatchWall" "NightwatchWall" "words" "LNightwatchWall$Words;") ∈ lw_all := lw_g (lw_at lw_m1 164 rfl) rfl
theorem q250 : (Jvm.Cond.soleField "NightwatchWall" "words") ∈ lw_all := lw_g (lw_at lw_m1 165 rfl) rfl
theorem q251 : (Jvm.Cond.laysFinal "NightwatchWall" "NightwatchWall" "keys" "[I") ∈ lw_all := lw_g (lw_at lw_m1 166 rfl) rfl
theorem q252 : (Jvm.Cond.soleField "NightwatchWall" "keys") ∈ lw_all := lw_g (lw_at lw_m1 167 rfl) rfl
theorem q253 : (Jvm.Cond.lays "NightwatchWall" "NightwatchWall" "gatesFrom" "I") ∈ lw_all := lw_g (lw_at lw_m1 168 rfl) rfl
theorem q254 : (Jvm.Cond.soleField "NightwatchWall" "gatesFrom") ∈ lw_all := lw_g (lw_at lw_m1 169 rfl) rfl
theorem q255 : (Jvm.Cond.lays "NightwatchWall" "NightwatchWall" "gatesTo" "I") ∈ lw_all := lw_g (lw_at lw_m1 170 rfl) rfl
theorem q256 : (Jvm.Cond.soleField "NightwatchWall" "gatesTo") ∈ lw_all := lw_g (lw_at lw_m1 171 rfl) rfl
theorem q257 : (Jvm.Cond.lays "NightwatchWall" "NightwatchWall" "right" "I") ∈ lw_all := lw_g (lw_at lw_m1 172 rfl) rfl
theorem q258 : (Jvm.Cond.soleField "NightwatchWall" "right") ∈ lw_all := lw_g (lw_at lw_m1 173 rfl) rfl
theorem q259 : (Jvm.Cond.lays "NightwatchWall" "NightwatchWall" "refused" "I") ∈ lw_all := lw_g (lw_at lw_m1 174 rfl) rfl
theorem q260 : (Jvm.Cond.soleField "NightwatchWall" "refused") ∈ lw_all := lw_g (lw_at lw_m1 175 rfl) rfl
theorem q261 : (Jvm.Cond.lays "NightwatchWall" "NightwatchWall" "sum" "J") ∈ lw_all := lw_g (lw_at lw_m1 176 rfl) rfl
theorem q262 : (Jvm.Cond.soleField "NightwatchWall" "sum") ∈ lw_all := lw_g (lw_at lw_m1 177 rfl) rfl
theorem q263 : (Jvm.Cond.superclass "NightwatchWall" "java/lang/Object") ∈ lw_all := lw_g (lw_at lw_m1 178 rfl) rfl
theorem q265 : (Jvm.Cond.instanceMethod ({ cls := "NightwatchWall", name := "isSound", desc := "()Z" } : Jvm.MethodName)) ∈ lw_all := lw_g (lw_at lw_m1 180 rfl) rfl
theorem q266 : (Jvm.Cond.selects "NightwatchWall" ({ cls := "NightwatchWall", name := "isSound", desc := "()Z" } : Jvm.MethodName) ({ cls := "NightwatchWall", name := "isSound", desc := "()Z" } : Jvm.MethodName)) ∈ lw_all := lw_g (lw_at lw_m1 181 rfl) rfl
theorem q267 : (Jvm.Cond.code ({ cls := "NightwatchWall", name := "isSound", desc := "()Z" } : Jvm.MethodName) prog_1_method_83_code (1 : Nat) (Option.some Jvm.ClassFile.FieldType.boolean)) ∈ lw_all := lw_g (lw_at lw_m1 182 rfl) rfl
theorem q268 : (Jvm.Cond.methodLink "NightwatchWall" (490 : Nat) ({ cls := "NightwatchWall", name := "isSoundNow", desc := "()Z" } : Jvm.MethodName)) ∈ lw_all := lw_g (lw_at lw_m1 183 rfl) rfl
theorem q269 : (Jvm.Cond.privateMethod ({ cls := "NightwatchWall", name := "isSoundNow", desc := "()Z" } : Jvm.MethodName)) ∈ lw_tbl := lw_at lw_m1 184 rfl
theorem q270 : (Jvm.Cond.instanceMethod ({ cls := "NightwatchWall", name := "isSoundNow", desc := "()Z" } : Jvm.MethodName)) ∈ lw_all := lw_g (lw_at lw_m1 185 rfl) rfl
theorem q271 : (Jvm.Cond.code ({ cls := "NightwatchWall", name := "isSoundNow", desc := "()Z" } : Jvm.MethodName) prog_1_method_82_code (5 : Nat) (Option.some Jvm.ClassFile.FieldType.boolean)) ∈ lw_all := lw_g (lw_at lw_m1 186 rfl) rfl
theorem q272 : (Jvm.Cond.methodLink "NightwatchWall" (93 : Nat) ({ cls := "NightwatchWall", name := "size", desc := "()I" } : Jvm.MethodName)) ∈ lw_all := lw_g (lw_at lw_m1 187 rfl) rfl
theorem q273 : (Jvm.Cond.privateMethod ({ cls := "NightwatchWall", name := "size", desc := "()I" } : Jvm.MethodName)) ∈ lw_tbl := lw_at lw_m1 188 rfl
theorem q274 : (Jvm.Cond.instanceMethod ({ cls := "NightwatchWall", name := "size", desc := "()I" } : Jvm.MethodName)) ∈ lw_all := lw_g (lw_at lw_m1 189 rfl) rfl
theorem q275 : (Jvm.Cond.code ({ cls := "NightwatchWall", name := "size", desc := "()I" } : Jvm.MethodName) prog_1_method_9_code (1 : Nat) (Option.some Jvm.ClassFile.FieldType.int)) ∈ lw_all := lw_g (lw_at lw_m1 190 rfl) rfl
theorem q276 : (Jvm.Cond.methodLink "NightwatchWall" (79 : Nat) ({ cls := "java/util/Optional", name := "isPresent", desc := "()Z" } : Jvm.MethodName)) ∈ lw_all := lw_g (lw_at lw_m1 191 rfl) rfl
theorem q280 : (Jvm.Cond.methodLink "NightwatchWall" (83 : Nat) ({ cls := "java/util/Optional", name := "get", desc := "()Ljava/lang/Object;" } : Jvm.MethodName)) ∈ lw_all := lw_g (lw_at lw_m1 195 rfl) rfl
theorem q284 : (Jvm.Cond.classLink "NightwatchWall" (87 : Nat) "NightwatchWall$Ground") ∈ lw_all := lw_g (lw_at lw_m1 199 rfl) rfl
theorem q285 : (Jvm.Cond.methodLink "NightwatchWall" (89 : Nat) ({ cls := "NightwatchWall$Ground", name := "size", desc := "()I" } : Jvm.MethodName)) ∈ lw_all := lw_g (lw_at lw_m1 200 rfl) rfl
theorem q289 : (Jvm.Cond.methodLink "NightwatchWall" (198 : Nat) ({ cls := "NightwatchWall$Ground", name := "isWall", desc := "(I)Z" } : Jvm.MethodName)) ∈ lw_all := lw_g (lw_at lw_m1 204 rfl) rfl
theorem q295 : (Jvm.Cond.methodLink "NightwatchWall" (186 : Nat) ({ cls := "NightwatchWall", name := "isTaken", desc := "(I)Z" } : Jvm.MethodName)) ∈ lw_all := lw_g (lw_at lw_m1 210 rfl) rfl
theorem q296 : (Jvm.Cond.privateMethod ({ cls := "NightwatchWall", name := "isTaken", desc := "(I)Z" } : Jvm.MethodName)) ∈ lw_tbl := lw_at lw_m1 211 rfl
theorem q297 : (Jvm.Cond.instanceMethod ({ cls := "NightwatchWall", name := "isTaken", desc := "(I)Z" } : Jvm.MethodName)) ∈ lw_all := lw_g (lw_at lw_m1 212 rfl) rfl
theorem q298 : (Jvm.Cond.code ({ cls := "NightwatchWall", name := "isTaken", desc := "(I)Z" } : Jvm.MethodName) prog_1_method_15_code (4 : Nat) (Option.some Jvm.ClassFile.FieldType.boolean)) ∈ lw_all := lw_g (lw_at lw_m1 213 rfl) rfl
theorem q299 : (Jvm.Cond.methodLink "NightwatchWall" (157 : Nat) ({ cls := "java/util/ArrayList", name := "iterator", desc := "()Ljava/util/Iterator;" } : Jvm.MethodName)) ∈ lw_all := lw_g (lw_at lw_m1 214 rfl) rfl
theorem q322 : (Jvm.Cond.interfaceEntry "NightwatchWall" (161 : Nat)) ∈ lw_tbl := lw_at lw_m1 237 rfl
theorem q323 : (Jvm.Cond.methodLink "NightwatchWall" (161 : Nat) ({ cls := "java/util/Iterator", name := "hasNext", desc := "()Z" } : Jvm.MethodName)) ∈ lw_all := lw_g (lw_at lw_m1 238 rfl) rfl
theorem q332 : (Jvm.Cond.interfaceEntry "NightwatchWall" (166 : Nat)) ∈ lw_tbl := lw_at lw_m2 7 rfl
theorem q333 : (Jvm.Cond.methodLink "NightwatchWall" (166 : Nat) ({ cls := "java/util/Iterator", name := "next", desc := "()Ljava/lang/Object;" } : Jvm.MethodName)) ∈ lw_all := lw_g (lw_at lw_m2 8 rfl) rfl
theorem q345 : (Jvm.Cond.classLink "NightwatchWall" (168 : Nat) "NightwatchWall$Lamp") ∈ lw_all := lw_g (lw_at lw_m2 20 rfl) rfl
theorem q346 : (Jvm.Cond.methodLink "NightwatchWall" (98 : Nat) ({ cls := "java/util/ArrayList", name := "size", desc := "()I" } : Jvm.MethodName)) ∈ lw_all := lw_g (lw_at lw_m2 21 rfl) rfl
theorem q350 : (Jvm.Cond.methodLink "NightwatchWall" (99 : Nat) ({ cls := "java/util/ArrayList", name := "get", desc := "(I)Ljava/lang/Object;" } : Jvm.MethodName)) ∈ lw_all := lw_g (lw_at lw_m2 25 rfl) rfl
theorem q364 : (Jvm.Cond.classLink "NightwatchWall" (173 : Nat) "java/lang/Integer") ∈ lw_all := lw_g (lw_at lw_m2 39 rfl) rfl
theorem q365 : (Jvm.Cond.methodLink "NightwatchWall" (175 : Nat) ({ cls := "java/lang/Integer", name := "intValue", desc := "()I" } : Jvm.MethodName)) ∈ lw_all := lw_g (lw_at lw_m2 40 rfl) rfl
theorem q369 : (Jvm.Cond.classLink "NightwatchWall" (102 : Nat) "NightwatchWall$Guard") ∈ lw_all := lw_g (lw_at lw_m2 44 rfl) rfl
theorem q370 : (Jvm.Cond.methodLink "NightwatchWall" (178 : Nat) ({ cls := "NightwatchWall$Guard", name := "walksOn", desc := "(I)Z" } : Jvm.MethodName)) ∈ lw_all := lw_g (lw_at lw_m2 45 rfl) rfl
theorem q378 : (Jvm.Cond.classLink "NightwatchWall" (104 : Nat) "NightwatchWall$Intruder") ∈ lw_all := lw_g (lw_at lw_m2 53 rfl) rfl
theorem q379 : (Jvm.Cond.methodLink "NightwatchWall" (181 : Nat) ({ cls := "NightwatchWall$Intruder", name := "walksOn", desc := "(I)Z" } : Jvm.MethodName)) ∈ lw_all := lw_g (lw_at lw_m2 54 rfl) rfl
theorem q395 : (Jvm.Cond.instanceMethod ({ cls := "NightwatchWall", name := "knock", desc := "()I" } : Jvm.MethodName)) ∈ lw_all := lw_g (lw_at lw_m2 70 rfl) rfl
theorem q396 : (Jvm.Cond.selects "NightwatchWall" ({ cls := "NightwatchWall", name := "knock", desc := "()I" } : Jvm.MethodName) ({ cls := "NightwatchWall", name := "knock", desc := "()I" } : Jvm.MethodName)) ∈ lw_all := lw_g (lw_at lw_m2 71 rfl) rfl
theorem q397 : (Jvm.Cond.code ({ cls := "NightwatchWall", name := "knock", desc := "()I" } : Jvm.MethodName) prog_1_method_84_code (1 : Nat) (Option.some Jvm.ClassFile.FieldType.int)) ∈ lw_all := lw_g (lw_at lw_m2 72 rfl) rfl
theorem q399 : (Jvm.Cond.instanceMethod ({ cls := "NightwatchWall", name := "digest", desc := "()J" } : Jvm.MethodName)) ∈ lw_all := lw_g (lw_at lw_m2 74 rfl) rfl
theorem q400 : (Jvm.Cond.selects "NightwatchWall" ({ cls := "NightwatchWall", name := "digest", desc := "()J" } : Jvm.MethodName) ({ cls := "NightwatchWall", name := "digest", desc := "()J" } : Jvm.MethodName)) ∈ lw_all := lw_g (lw_at lw_m2 75 rfl) rfl
theorem q401 : (Jvm.Cond.code ({ cls := "NightwatchWall", name := "digest", desc := "()J" } : Jvm.MethodName) prog_1_method_86_code (4 : Nat) (Option.some Jvm.ClassFile.FieldType.long)) ∈ lw_all := lw_g (lw_at lw_m2 76 rfl) rfl
theorem q402 : (Jvm.Cond.constantLong "NightwatchWall" (499 : Nat) (9241 : Int64)) ∈ lw_all := lw_g (lw_at lw_m2 77 rfl) rfl
theorem q403 : (Jvm.Cond.methodLink "NightwatchWall" (460 : Nat) ({ cls := "NightwatchWall", name := "manyNow", desc := "(I)I" } : Jvm.MethodName)) ∈ lw_all := lw_g (lw_at lw_m2 78 rfl) rfl
theorem q404 : (Jvm.Cond.privateMethod ({ cls := "NightwatchWall", name := "manyNow", desc := "(I)I" } : Jvm.MethodName)) ∈ lw_tbl := lw_at lw_m2 79 rfl
theorem q405 : (Jvm.Cond.instanceMethod ({ cls := "NightwatchWall", name := "manyNow", desc := "(I)I" } : Jvm.MethodName)) ∈ lw_all := lw_g (lw_at lw_m2 80 rfl) rfl
theorem q406 : (Jvm.Cond.code ({ cls := "NightwatchWall", name := "manyNow", desc := "(I)I" } : Jvm.MethodName) prog_1_method_78_code (5 : Nat) (Option.some Jvm.ClassFile.FieldType.int)) ∈ lw_all := lw_g (lw_at lw_m2 81 rfl) rfl
theorem q407 : (Jvm.Cond.methodLink "NightwatchWall" (387 : Nat) ({ cls := "NightwatchWall", name := "found", desc := "(LNightwatchWall$Intruder;)I" } : Jvm.MethodName)) ∈ lw_all := lw_g (lw_at lw_m2 82 rfl) rfl
theorem q408 : (Jvm.Cond.privateMethod ({ cls := "NightwatchWall", name := "found", desc := "(LNightwatchWall$Intruder;)I" } : Jvm.MethodName)) ∈ lw_tbl := lw_at lw_m2 83 rfl
theorem q409 : (Jvm.Cond.instanceMethod ({ cls := "NightwatchWall", name := "found", desc := "(LNightwatchWall$Intruder;)I" } : Jvm.MethodName)) ∈ lw_all := lw_g (lw_at lw_m2 84 rfl) rfl
theorem q410 : (Jvm.Cond.code ({ cls := "NightwatchWall", name := "found", desc := "(LNightwatchWall$Intruder;)I" } : Jvm.MethodName) prog_1_method_59_code (3 : Nat) (Option.some Jvm.ClassFile.FieldType.int)) ∈ lw_all := lw_g (lw_at lw_m2 85 rfl) rfl
theorem q411 : (Jvm.Cond.methodLink "NightwatchWall" (381 : Nat) ({ cls := "NightwatchWall$Intruder", name := "place", desc := "(I)I" } : Jvm.MethodName)) ∈ lw_all := lw_g (lw_at lw_m2 86 rfl) rfl
theorem q412 : (Jvm.Cond.methodLink "NightwatchWall" (294 : Nat) ({ cls := "NightwatchWall", name := "isWatched", desc := "(II)Z" } : Jvm.MethodName)) ∈ lw_all := lw_g (lw_at lw_m2 87 rfl) rfl
theorem q413 : (Jvm.Cond.privateMethod ({ cls := "NightwatchWall", name := "isWatched", desc := "(II)Z" } : Jvm.MethodName)) ∈ lw_tbl := lw_at lw_m2 88 rfl
theorem q414 : (Jvm.Cond.instanceMethod ({ cls := "NightwatchWall", name := "isWatched", desc := "(II)Z" } : Jvm.MethodName)) ∈ lw_all := lw_g (lw_at lw_m2 89 rfl) rfl
theorem q415 : (Jvm.Cond.code ({ cls := "NightwatchWall", name := "isWatched", desc := "(II)Z" } : Jvm.MethodName) prog_1_method_32_code (3 : Nat) (Option.some Jvm.ClassFile.FieldType.boolean)) ∈ lw_all := lw_g (lw_at lw_m2 90 rfl) rfl
theorem q416 : (Jvm.Cond.methodLink "NightwatchWall" (281 : Nat) ({ cls := "NightwatchWall", name := "watchers", desc := "(II)I" } : Jvm.MethodName)) ∈ lw_all := lw_g (lw_at lw_m2 91 rfl) rfl
theorem q417 : (Jvm.Cond.privateMethod ({ cls := "NightwatchWall", name := "watchers", desc := "(II)I" } : Jvm.MethodName)) ∈ lw_tbl := lw_at lw_m2 92 rfl
theorem q418 : (Jvm.Cond.instanceMethod ({ cls := "NightwatchWall", name := "watchers", desc := "(II)I" } : Jvm.MethodName)) ∈ lw_all := lw_g (lw_at lw_m2 93 rfl) rfl
theorem q419 : (Jvm.Cond.code ({ cls := "NightwatchWall", name := "watchers", desc := "(II)I" } : Jvm.MethodName) prog_1_method_31_code (8 : Nat) (Option.some Jvm.ClassFile.FieldType.int)) ∈ lw_all := lw_g (lw_at lw_m2 94 rfl) rfl
theorem q420 : (Jvm.Cond.methodLink "NightwatchWall" (270 : Nat) ({ cls := "NightwatchWall", name := "fogAt", desc := "(I)I" } : Jvm.MethodName)) ∈ lw_all := lw_g (lw_at lw_m2 95 rfl) rfl
theorem q421 : (Jvm.Cond.privateMethod ({ cls := "NightwatchWall", name := "fogAt", desc := "(I)I" } : Jvm.MethodName)) ∈ lw_tbl := lw_at lw_m2 96 rfl
theorem q422 : (Jvm.Cond.instanceMethod ({ cls := "NightwatchWall", name := "fogAt", desc := "(I)I" } : Jvm.MethodName)) ∈ lw_all := lw_g (lw_at lw_m2 97 rfl) rfl
theorem q423 : (Jvm.Cond.code ({ cls := "NightwatchWall", name := "fogAt", desc := "(I)I" } : Jvm.MethodName) prog_1_method_21_code (5 : Nat) (Option.some Jvm.ClassFile.FieldType.int)) ∈ lw_all := lw_g (lw_at lw_m2 98 rfl) rfl
theorem q424 : (Jvm.Cond.classLink "NightwatchWall" (213 : Nat) "NightwatchWall$Report") ∈ lw_all := lw_g (lw_at lw_m2 99 rfl) rfl
theorem q425 : (Jvm.Cond.methodLink "NightwatchWall" (273 : Nat) ({ cls := "NightwatchWall", name := "view", desc := "(LNightwatchWall$Guard;II)I" } : Jvm.MethodName)) ∈ lw_all := lw_g (lw_at lw_m2 100 rfl) rfl
theorem q426 : (Jvm.Cond.privateMethod ({ cls := "NightwatchWall", name := "view", desc := "(LNightwatchWall$Guard;II)I" } : Jvm.MethodName)) ∈ lw_tbl := lw_at lw_m2 101 rfl
theorem q427 : (Jvm.Cond.instanceMethod ({ cls := "NightwatchWall", name := "view", desc := "(LNightwatchWall$Guard;II)I" } : Jvm.MethodName)) ∈ lw_all := lw_g (lw_at lw_m2 102 rfl) rfl
theorem q428 : (Jvm.Cond.code ({ cls := "NightwatchWall", name := "view", desc := "(LNightwatchWall$Guard;II)I" } : Jvm.MethodName) prog_1_method_29_code (5 : Nat) (Option.some Jvm.ClassFile.FieldType.int)) ∈ lw_all := lw_g (lw_at lw_m2 103 rfl) rfl
theorem q429 : (Jvm.Cond.methodLink "NightwatchWall" (246 : Nat) ({ cls := "NightwatchWall$Guard", name := "place", desc := "(I)I" } : Jvm.MethodName)) ∈ lw_all := lw_g (lw_at lw_m2 104 rfl) rfl
theorem q438 : (Jvm.Cond.static ({ cls := "NightwatchWall", name := "isFrom", desc := "(III)Z" } : Jvm.MethodName)) ∈ lw_all := lw_g (lw_at lw_m2 113 rfl) rfl
theorem q439 : (Jvm.Cond.code ({ cls := "NightwatchWall", name := "isFrom", desc := "(III)Z" } : Jvm.MethodName) prog_1_method_4_code (3 : Nat) (Option.some Jvm.ClassFile.FieldType.boolean)) ∈ lw_all := lw_g (lw_at lw_m2 114 rfl) rfl
theorem q440 : (Jvm.Cond.methodLink "NightwatchWall" (259 : Nat) ({ cls := "NightwatchWall$Ground", name := "isClear", desc := "(II)Z" } : Jvm.MethodName)) ∈ lw_all := lw_g (lw_at lw_m2 115 rfl) rfl
theorem q478 : (Jvm.Cond.methodLink "NightwatchWall" (263 : Nat) ({ cls := "NightwatchWall$Ground", name := "apart", desc := "(II)I" } : Jvm.MethodName)) ∈ lw_all := lw_g (lw_at lw_m2 153 rfl) rfl
theorem q485 : (Jvm.Cond.methodLink "NightwatchWall" (277 : Nat) ({ cls := "NightwatchWall", name := "sees", desc := "(LNightwatchWall$Guard;IIZI)Z" } : Jvm.MethodName)) ∈ lw_all := lw_g (lw_at lw_m2 160 rfl) rfl
theorem q486 : (Jvm.Cond.privateMethod ({ cls := "NightwatchWall", name := "sees", desc := "(LNightwatchWall$Guard;IIZI)Z" } : Jvm.MethodName)) ∈ lw_tbl := lw_at lw_m2 161 rfl
theorem q487 : (Jvm.Cond.instanceMethod ({ cls := "NightwatchWall", name := "sees", desc := "(LNightwatchWall$Guard;IIZI)Z" } : Jvm.MethodName)) ∈ lw_all := lw_g (lw_at lw_m2 162 rfl) rfl
theorem q488 : (Jvm.Cond.code ({ cls := "NightwatchWall", name := "sees", desc := "(LNightwatchWall$Guard;IIZI)Z" } : Jvm.MethodName) prog_1_method_30_code (6 : Nat) (Option.some Jvm.ClassFile.FieldType.boolean)) ∈ lw_all := lw_g (lw_at lw_m2 163 rfl) rfl
theorem q489 : (Jvm.Cond.methodLink "NightwatchWall" (266 : Nat) ({ cls := "NightwatchWall", name := "range", desc := "(LNightwatchWall$Guard;ZII)I" } : Jvm.MethodName)) ∈ lw_all := lw_g (lw_at lw_m2 164 rfl) rfl
theorem q490 : (Jvm.Cond.static ({ cls := "NightwatchWall", name := "range", desc := "(LNightwatchWall$Guard;ZII)I" } : Jvm.MethodName)) ∈ lw_all := lw_g (lw_at lw_m2 165 rfl) rfl
theorem q491 : (Jvm.Cond.code ({ cls := "NightwatchWall", name := "range", desc := "(LNightwatchWall$Guard;ZII)I" } : Jvm.MethodName) prog_1_method_28_code (5 : Nat) (Option.some Jvm.ClassFile.FieldType.int)) ∈ lw_all := lw_g (lw_at lw_m2 166 rfl) rfl
theorem q492 : (Jvm.Cond.methodLink "NightwatchWall" (250 : Nat) ({ cls := "NightwatchWall$Guard", name := "isTired", desc := "(I)Z" } : Jvm.MethodName)) ∈ lw_all := lw_g (lw_at lw_m2 167 rfl) rfl
theorem q496 : (Jvm.Cond.methodLink "NightwatchWall" (253 : Nat) ({ cls := "java/lang/Math", name := "max", desc := "(II)I" } : Jvm.MethodName)) ∈ lw_all := lw_g (lw_at lw_m2 171 rfl) rfl
theorem q497 : (Jvm.Cond.methodLink "NightwatchWall" (226 : Nat) ({ cls := "NightwatchWall", name := "isBright", desc := "(I)Z" } : Jvm.MethodName)) ∈ lw_all := lw_g (lw_at lw_m2 172 rfl) rfl
theorem q498 : (Jvm.Cond.privateMethod ({ cls := "NightwatchWall", name := "isBright", desc := "(I)Z" } : Jvm.MethodName)) ∈ lw_tbl := lw_at lw_m2 173 rfl
theorem q499 : (Jvm.Cond.instanceMethod ({ cls := "NightwatchWall", name := "isBright", desc := "(I)Z" } : Jvm.MethodName)) ∈ lw_all := lw_g (lw_at lw_m2 174 rfl) rfl
theorem q500 : (Jvm.Cond.code ({ cls := "NightwatchWall", name := "isBright", desc := "(I)Z" } : Jvm.MethodName) prog_1_method_22_code (3 : Nat) (Option.some Jvm.ClassFile.FieldType.boolean)) ∈ lw_all := lw_g (lw_at lw_m2 175 rfl) rfl
theorem q501 : (Jvm.Cond.methodLink "NightwatchWall" (222 : Nat) ({ cls := "NightwatchWall$Lamp", name := "lights", desc := "(LNightwatchWall$Ground;I)Z" } : Jvm.MethodName)) ∈ lw_all := lw_g (lw_at lw_m2 176 rfl) rfl
theorem q507 : (Jvm.Cond.methodLink "NightwatchWall" (355 : Nat) ({ cls := "NightwatchWall", name := "keysOf", desc := "(I)I" } : Jvm.MethodName)) ∈ lw_all := lw_g (lw_at lw_m2 182 rfl) rfl
theorem q508 : (Jvm.Cond.privateMethod ({ cls := "NightwatchWall", name := "keysOf", desc := "(I)I" } : Jvm.MethodName)) ∈ lw_tbl := lw_at lw_m2 183 rfl
theorem q509 : (Jvm.Cond.instanceMethod ({ cls := "NightwatchWall", name := "keysOf", desc := "(I)I" } : Jvm.MethodName)) ∈ lw_all := lw_g (lw_at lw_m2 184 rfl) rfl
theorem q510 : (Jvm.Cond.code ({ cls := "NightwatchWall", name := "keysOf", desc := "(I)I" } : Jvm.MethodName) prog_1_method_52_code (4 : Nat) (Option.some Jvm.ClassFile.FieldType.int)) ∈ lw_all := lw_g (lw_at lw_m2 185 rfl) rfl
theorem q511 : (Jvm.Cond.methodLink "NightwatchWall" (448 : Nat) ({ cls := "java/lang/Integer", name := "bitCount", desc := "(I)I" } : Jvm.MethodName)) ∈ lw_all := lw_g (lw_at lw_m2 186 rfl) rfl
theorem q517 : (Jvm.Cond.methodLink "NightwatchWall" (454 : Nat) ({ cls := "NightwatchWall", name := "emptyMinutes", desc := "()I" } : Jvm.MethodName)) ∈ lw_all := lw_g (lw_at lw_m2 192 rfl) rfl
theorem q518 : (Jvm.Cond.privateMethod ({ cls := "NightwatchWall", name := "emptyMinutes", desc := "()I" } : Jvm.MethodName)) ∈ lw_tbl := lw_at lw_m2 193 rfl
theorem q519 : (Jvm.Cond.instanceMethod ({ cls := "NightwatchWall", name := "emptyMinutes", desc := "()I" } : Jvm.MethodName)) ∈ lw_all := lw_g (lw_at lw_m2 194 rfl) rfl
theorem q520 : (Jvm.Cond.code ({ cls := "NightwatchWall", name := "emptyMinutes", desc := "()I" } : Jvm.MethodName) prog_1_method_77_code (3 : Nat) (Option.some Jvm.ClassFile.FieldType.int)) ∈ lw_all := lw_g (lw_at lw_m2 195 rfl) rfl
theorem q521 : (Jvm.Cond.methodLink "NightwatchWall" (307 : Nat) ({ cls := "NightwatchWall", name := "emptyPosts", desc := "(I)I" } : Jvm.MethodName)) ∈ lw_all := lw_g (lw_at lw_m2 196 rfl) rfl
theorem q522 : (Jvm.Cond.privateMethod ({ cls := "NightwatchWall", name := "emptyPosts", desc := "(I)I" } : Jvm.MethodName)) ∈ lw_tbl := lw_at lw_m2 197 rfl
theorem q523 : (Jvm.Cond.instanceMethod ({ cls := "NightwatchWall", name := "emptyPosts", desc := "(I)I" } : Jvm.MethodName)) ∈ lw_all := lw_g (lw_at lw_m2 198 rfl) rfl
theorem q524 : (Jvm.Cond.code ({ cls := "NightwatchWall", name := "emptyPosts", desc := "(I)I" } : Jvm.MethodName) prog_1_method_40_code (4 : Nat) (Option.some Jvm.ClassFile.FieldType.int)) ∈ lw_all := lw_g (lw_at lw_m2 199 rfl) rfl
theorem q525 : (Jvm.Cond.methodLink "NightwatchWall" (284 : Nat) ({ cls := "NightwatchWall", name := "guardsOn", desc := "(II)I" } : Jvm.MethodName)) ∈ lw_all := lw_g (lw_at lw_m2 200 rfl) rfl
theorem q526 : (Jvm.Cond.privateMethod ({ cls := "NightwatchWall", name := "guardsOn", desc := "(II)I" } : Jvm.MethodName)) ∈ lw_tbl := lw_at lw_m2 201 rfl
theorem q527 : (Jvm.Cond.instanceMethod ({ cls := "NightwatchWall", name := "guardsOn", desc := "(II)I" } : Jvm.MethodName)) ∈ lw_all := lw_g (lw_at lw_m2 202 rfl) rfl
theorem q528 : (Jvm.Cond.code ({ cls := "NightwatchWall", name := "guardsOn", desc := "(II)I" } : Jvm.MethodName) prog_1_method_34_code (5 : Nat) (Option.some Jvm.ClassFile.FieldType.int)) ∈ lw_all := lw_g (lw_at lw_m2 203 rfl) rfl
theorem q529 : (Jvm.Cond.methodLink "NightwatchWall" (501 : Nat) ({ cls := "NightwatchWall", name := "add", desc := "(J)J" } : Jvm.MethodName)) ∈ lw_all := lw_g (lw_at lw_m2 204 rfl) rfl
theorem q530 : (Jvm.Cond.privateMethod ({ cls := "NightwatchWall", name := "add", desc := "(J)J" } : Jvm.MethodName)) ∈ lw_tbl := lw_at lw_m2 205 rfl
theorem q531 : (Jvm.Cond.instanceMethod ({ cls := "NightwatchWall", name := "add", desc := "(J)J" } : Jvm.MethodName)) ∈ lw_all := lw_g (lw_at lw_m2 206 rfl) rfl
theorem q532 : (Jvm.Cond.code ({ cls := "NightwatchWall", name := "add", desc := "(J)J" } : Jvm.MethodName) prog_1_method_85_code (5 : Nat) (Option.some Jvm.ClassFile.FieldType.long)) ∈ lw_all := lw_g (lw_at lw_m2 207 rfl) rfl
theorem q533 : (Jvm.Cond.constantLong "NightwatchWall" (497 : Nat) (31 : Int64)) ∈ lw_all := lw_g (lw_at lw_m2 208 rfl) rfl
theorem q534 : (Jvm.Cond.methodLink "NightwatchWall" (313 : Nat) ({ cls := "NightwatchWall", name := "ofMinuteNow", desc := "(II)I" } : Jvm.MethodName)) ∈ lw_all := lw_g (lw_at lw_m2 209 rfl) rfl
theorem q535 : (Jvm.Cond.privateMethod ({ cls := "NightwatchWall", name := "ofMinuteNow", desc := "(II)I" } : Jvm.MethodName)) ∈ lw_tbl := lw_at lw_m2 210 rfl
theorem q536 : (Jvm.Cond.instanceMethod ({ cls := "NightwatchWall", name := "ofMinuteNow", desc := "(II)I" } : Jvm.MethodName)) ∈ lw_all := lw_g (lw_at lw_m2 211 rfl) rfl
theorem q537 : (Jvm.Cond.code ({ cls := "NightwatchWall", name := "ofMinuteNow", desc := "(II)I" } : Jvm.MethodName) prog_1_method_42_code (3 : Nat) (Option.some Jvm.ClassFile.FieldType.int)) ∈ lw_all := lw_g (lw_at lw_m2 212 rfl) rfl
theorem q538 : (Jvm.Cond.methodLink "NightwatchWall" (300 : Nat) ({ cls := "NightwatchWall", name := "blind", desc := "(I)I" } : Jvm.MethodName)) ∈ lw_all := lw_g (lw_at lw_m2 213 rfl) rfl
theorem q539 : (Jvm.Cond.privateMethod ({ cls := "NightwatchWall", name := "blind", desc := "(I)I" } : Jvm.MethodName)) ∈ lw_tbl := lw_at lw_m2 214 rfl
theorem q540 : (Jvm.Cond.instanceMethod ({ cls := "NightwatchWall", name := "blind", desc := "(I)I" } : Jvm.MethodName)) ∈ lw_all := lw_g (lw_at lw_m2 215 rfl) rfl
theorem q541 : (Jvm.Cond.code ({ cls := "NightwatchWall", name := "blind", desc := "(I)I" } : Jvm.MethodName) prog_1_method_38_code (4 : Nat) (Option.some Jvm.ClassFile.FieldType.int)) ∈ lw_all := lw_g (lw_at lw_m2 216 rfl) rfl
theorem q542 : (Jvm.Cond.methodLink "NightwatchWall" (303 : Nat) ({ cls := "NightwatchWall", name := "onDuty", desc := "(IZ)I" } : Jvm.MethodName)) ∈ lw_all := lw_g (lw_at lw_m2 217 rfl) rfl
theorem q543 : (Jvm.Cond.privateMethod ({ cls := "NightwatchWall", name := "onDuty", desc := "(IZ)I" } : Jvm.MethodName)) ∈ lw_tbl := lw_at lw_m2 218 rfl
theorem q544 : (Jvm.Cond.instanceMethod ({ cls := "NightwatchWall", name := "onDuty", desc := "(IZ)I" } : Jvm.MethodName)) ∈ lw_all := lw_g (lw_at lw_m2 219 rfl) rfl
theorem q545 : (Jvm.Cond.code ({ cls := "NightwatchWall", name := "onDuty", desc := "(IZ)I" } : Jvm.MethodName) prog_1_method_39_code (5 : Nat) (Option.some Jvm.ClassFile.FieldType.int)) ∈ lw_all := lw_g (lw_at lw_m2 220 rfl) rfl
theorem q546 : (Jvm.Cond.methodLink "NightwatchWall" (297 : Nat) ({ cls := "NightwatchWall$Guard", name := "isOn", desc := "(I)Z" } : Jvm.MethodName)) ∈ lw_all := lw_g (lw_at lw_m2 221 rfl) rfl
theorem q547 : (Jvm.Cond.methodLink "NightwatchWall" (210 : Nat) ({ cls := "NightwatchWall", name := "bright", desc := "()I" } : Jvm.MethodName)) ∈ lw_all := lw_g (lw_at lw_m2 222 rfl) rfl
theorem q548 : (Jvm.Cond.privateMethod ({ cls := "NightwatchWall", name := "bright", desc := "()I" } : Jvm.MethodName)) ∈ lw_tbl := lw_at lw_m2 223 rfl
theorem q549 : (Jvm.Cond.instanceMethod ({ cls := "NightwatchWall", name := "bright", desc := "()I" } : Jvm.MethodName)) ∈ lw_all := lw_g (lw_at lw_m2 224 rfl) rfl
theorem q550 : (Jvm.Cond.code ({ cls := "NightwatchWall", name := "bright", desc := "()I" } : Jvm.MethodName) prog_1_method_23_code (3 : Nat) (Option.some Jvm.ClassFile.FieldType.int)) ∈ lw_all := lw_g (lw_at lw_m2 225 rfl) rfl
theorem q551 : (Jvm.Cond.methodLink "NightwatchWall" (310 : Nat) ({ cls := "NightwatchWall", name := "keysAway", desc := "(I)I" } : Jvm.MethodName)) ∈ lw_all := lw_g (lw_at lw_m2 226 rfl) rfl
theorem q552 : (Jvm.Cond.privateMethod ({ cls := "NightwatchWall", name := "keysAway", desc := "(I)I" } : Jvm.MethodName)) ∈ lw_tbl := lw_at lw_m2 227 rfl
theorem q553 : (Jvm.Cond.instanceMethod ({ cls := "NightwatchWall", name := "keysAway", desc := "(I)I" } : Jvm.MethodName)) ∈ lw_all := lw_g (lw_at lw_m2 228 rfl) rfl
theorem q554 : (Jvm.Cond.code ({ cls := "NightwatchWall", name := "keysAway", desc := "(I)I" } : Jvm.MethodName) prog_1_method_41_code (7 : Nat) (Option.some Jvm.ClassFile.FieldType.int)) ∈ lw_all := lw_g (lw_at lw_m2 229 rfl) rfl
theorem q555 : (Jvm.Cond.methodLink "NightwatchWall" (290 : Nat) ({ cls := "NightwatchWall", name := "ofCellNow", desc := "(III)I" } : Jvm.MethodName)) ∈ lw_all := lw_g (lw_at lw_m2 230 rfl) rfl
theorem q556 : (Jvm.Cond.privateMethod ({ cls := "NightwatchWall", name := "ofCellNow", desc := "(III)I" } : Jvm.MethodName)) ∈ lw_tbl := lw_at lw_m2 231 rfl
theorem q557 : (Jvm.Cond.instanceMethod ({ cls := "NightwatchWall", name := "ofCellNow", desc := "(III)I" } : Jvm.MethodName)) ∈ lw_all := lw_g (lw_at lw_m2 232 rfl) rfl
theorem q558 : (Jvm.Cond.code ({ cls := "NightwatchWall", name := "ofCellNow", desc := "(III)I" } : Jvm.MethodName) prog_1_method_36_code (4 : Nat) (Option.some Jvm.ClassFile.FieldType.int)) ∈ lw_all := lw_g (lw_at lw_m2 233 rfl) rfl
theorem q559 : (Jvm.Cond.methodLink "NightwatchWall" (192 : Nat) ({ cls := "NightwatchWall$Kind", name := "number", desc := "()I" } : Jvm.MethodName)) ∈ lw_all := lw_g (lw_at lw_m2 234 rfl) rfl
theorem q572 : (Jvm.Cond.methodLink "NightwatchWall" (287 : Nat) ({ cls := "NightwatchWall", name := "isWalkable", desc := "(II)Z" } : Jvm.MethodName)) ∈ lw_all := lw_g (lw_at lw_m3 7 rfl) rfl
theorem q573 : (Jvm.Cond.privateMethod ({ cls := "NightwatchWall", name := "isWalkable", desc := "(II)Z" } : Jvm.MethodName)) ∈ lw_tbl := lw_at lw_m3 8 rfl
theorem q574 : (Jvm.Cond.instanceMethod ({ cls := "NightwatchWall", name := "isWalkable", desc := "(II)Z" } : Jvm.MethodName)) ∈ lw_all := lw_g (lw_at lw_m3 9 rfl) rfl
theorem q575 : (Jvm.Cond.code ({ cls := "NightwatchWall", name := "isWalkable", desc := "(II)Z" } : Jvm.MethodName) prog_1_method_35_code (4 : Nat) (Option.some Jvm.ClassFile.FieldType.boolean)) ∈ lw_all := lw_g (lw_at lw_m3 10 rfl) rfl
theorem q576 : (Jvm.Cond.fieldLink "NightwatchWall" (134 : Nat) "NightwatchWall$Kind" "WALL" "LNightwatchWall$Kind;") ∈ lw_all := lw_g (lw_at lw_m3 11 rfl) rfl
theorem q577 : (Jvm.Cond.fieldLink "NightwatchWall" (143 : Nat) "NightwatchWall$Kind" "GATE" "LNightwatchWall$Kind;") ∈ lw_all := lw_g (lw_at lw_m3 12 rfl) rfl
theorem q579 : (Jvm.Cond.methodLink "NightwatchWall" (15 : Nat) ({ cls := "NightwatchWall", name := "isFrom", desc := "(III)Z" } : Jvm.MethodName)) ∈ lw_all := lw_g (lw_at lw_m3 14 rfl) rfl
theorem q580 : (Jvm.Cond.methodLink "NightwatchWall" (361 : Nat) ({ cls := "NightwatchWall", name := "ofGuardNow", desc := "(II)I" } : Jvm.MethodName)) ∈ lw_all := lw_g (lw_at lw_m3 15 rfl) rfl
theorem q581 : (Jvm.Cond.privateMethod ({ cls := "NightwatchWall", name := "ofGuardNow", desc := "(II)I" } : Jvm.MethodName)) ∈ lw_tbl := lw_at lw_m3 16 rfl
theorem q582 : (Jvm.Cond.instanceMethod ({ cls := "NightwatchWall", name := "ofGuardNow", desc := "(II)I" } : Jvm.MethodName)) ∈ lw_all := lw_g (lw_at lw_m3 17 rfl) rfl
theorem q583 : (Jvm.Cond.code ({ cls := "NightwatchWall", name := "ofGuardNow", desc := "(II)I" } : Jvm.MethodName) prog_1_method_53_code (4 : Nat) (Option.some Jvm.ClassFile.FieldType.int)) ∈ lw_all := lw_g (lw_at lw_m3 18 rfl) rfl
theorem q584 : (Jvm.Cond.methodLink "NightwatchWall" (352 : Nat) ({ cls := "NightwatchWall$Guard", name := "isBarred", desc := "()Z" } : Jvm.MethodName)) ∈ lw_all := lw_g (lw_at lw_m3 19 rfl) rfl
theorem q588 : (Jvm.Cond.methodLink "NightwatchWall" (358 : Nat) ({ cls := "NightwatchWall$Guard", name := "tiredMinutes", desc := "()I" } : Jvm.MethodName)) ∈ lw_all := lw_g (lw_at lw_m3 23 rfl) rfl
theorem q593 : (Jvm.Cond.methodLink "NightwatchWall" (316 : Nat) ({ cls := "NightwatchWall", name := "emptyNow", desc := "(IZ)I" } : Jvm.MethodName)) ∈ lw_all := lw_g (lw_at lw_m3 28 rfl) rfl
theorem q594 : (Jvm.Cond.privateMethod ({ cls := "NightwatchWall", name := "emptyNow", desc := "(IZ)I" } : Jvm.MethodName)) ∈ lw_tbl := lw_at lw_m3 29 rfl
theorem q595 : (Jvm.Cond.instanceMethod ({ cls := "NightwatchWall", name := "emptyNow", desc := "(IZ)I" } : Jvm.MethodName)) ∈ lw_all := lw_g (lw_at lw_m3 30 rfl) rfl
theorem q596 : (Jvm.Cond.code ({ cls := "NightwatchWall", name := "emptyNow", desc := "(IZ)I" } : Jvm.MethodName) prog_1_method_44_code (5 : Nat) (Option.some Jvm.ClassFile.FieldType.int)) ∈ lw_all := lw_g (lw_at lw_m3 31 rfl) rfl
theorem q597 : (Jvm.Cond.methodLink "NightwatchWall" (411 : Nat) ({ cls := "NightwatchWall", name := "ofIntruderNow", desc := "(LNightwatchWall$Intruder;I)I" } : Jvm.MethodName)) ∈ lw_all := lw_g (lw_at lw_m3 32 rfl) rfl
theorem q598 : (Jvm.Cond.privateMethod ({ cls := "NightwatchWall", name := "ofIntruderNow", desc := "(LNightwatchWall$Intruder;I)I" } : Jvm.MethodName)) ∈ lw_tbl := lw_at lw_m3 33 rfl
theorem q599 : (Jvm.Cond.instanceMethod ({ cls := "NightwatchWall", name := "ofIntruderNow", desc := "(LNightwatchWall$Intruder;I)I" } : Jvm.MethodName)) ∈ lw_all := lw_g (lw_at lw_m3 34 rfl) rfl
theorem q600 : (Jvm.Cond.code ({ cls := "NightwatchWall", name := "ofIntruderNow", desc := "(LNightwatchWall$Intruder;I)I" } : Jvm.MethodName) prog_1_method_63_code (4 : Nat) (Option.some Jvm.ClassFile.FieldType.int)) ∈ lw_all := lw_g (lw_at lw_m3 35 rfl) rfl
theorem q601 : (Jvm.Cond.methodLink "NightwatchWall" (398 : Nat) ({ cls := "NightwatchWall$Intruder", name := "end", desc := "()I" } : Jvm.MethodName)) ∈ lw_all := lw_g (lw_at lw_m3 36 rfl) rfl
theorem q605 : (Jvm.Cond.methodLink "NightwatchWall" (401 : Nat) ({ cls := "NightwatchWall", name := "firstResponse", desc := "(LNightwatchWall$Intruder;Z)I" } : Jvm.MethodName)) ∈ lw_all := lw_g (lw_at lw_m3 40 rfl) rfl
theorem q606 : (Jvm.Cond.privateMethod ({ cls := "NightwatchWall", name := "firstResponse", desc := "(LNightwatchWall$Intruder;Z)I" } : Jvm.MethodName)) ∈ lw_tbl := lw_at lw_m3 41 rfl
theorem q607 : (Jvm.Cond.instanceMethod ({ cls := "NightwatchWall", name := "firstResponse", desc := "(LNightwatchWall$Intruder;Z)I" } : Jvm.MethodName)) ∈ lw_all := lw_g (lw_at lw_m3 42 rfl) rfl
theorem q608 : (Jvm.Cond.code ({ cls := "NightwatchWall", name := "firstResponse", desc := "(LNightwatchWall$Intruder;Z)I" } : Jvm.MethodName) prog_1_method_62_code (8 : Nat) (Option.some Jvm.ClassFile.FieldType.int)) ∈ lw_all := lw_g (lw_at lw_m3 43 rfl) rfl
theorem q609 : (Jvm.Cond.methodLink "NightwatchWall" (391 : Nat) ({ cls := "NightwatchWall", name := "response", desc := "(LNightwatchWall$Guard;LNightwatchWall$Intruder;I)I" } : Jvm.MethodName)) ∈ lw_all := lw_g (lw_at lw_m3 44 rfl) rfl
theorem q610 : (Jvm.Cond.privateMethod ({ cls := "NightwatchWall", name := "response", desc := "(LNightwatchWall$Guard;LNightwatchWall$Intruder;I)I" } : Jvm.MethodName)) ∈ lw_tbl := lw_at lw_m3 45 rfl
theorem q611 : (Jvm.Cond.instanceMethod ({ cls := "NightwatchWall", name := "response", desc := "(LNightwatchWall$Guard;LNightwatchWall$Intruder;I)I" } : Jvm.MethodName)) ∈ lw_all := lw_g (lw_at lw_m3 46 rfl) rfl
theorem q612 : (Jvm.Cond.code ({ cls := "NightwatchWall", name := "response", desc := "(LNightwatchWall$Guard;LNightwatchWall$Intruder;I)I" } : Jvm.MethodName) prog_1_method_61_code (8 : Nat) (Option.some Jvm.ClassFile.FieldType.int)) ∈ lw_all := lw_g (lw_at lw_m3 47 rfl) rfl
theorem q613 : (Jvm.Cond.methodLink "NightwatchWall" (383 : Nat) ({ cls := "NightwatchWall", name := "runs", desc := "(I)[I" } : Jvm.MethodName)) ∈ lw_all := lw_g (lw_at lw_m3 48 rfl) rfl
theorem q614 : (Jvm.Cond.privateMethod ({ cls := "NightwatchWall", name := "runs", desc := "(I)[I" } : Jvm.MethodName)) ∈ lw_tbl := lw_at lw_m3 49 rfl
theorem q615 : (Jvm.Cond.instanceMethod ({ cls := "NightwatchWall", name := "runs", desc := "(I)[I" } : Jvm.MethodName)) ∈ lw_all := lw_g (lw_at lw_m3 50 rfl) rfl
theorem q616 : (Jvm.Cond.code ({ cls := "NightwatchWall", name := "runs", desc := "(I)[I" } : Jvm.MethodName) prog_1_method_60_code (9 : Nat) (Option.some (Jvm.ClassFile.FieldType.array Jvm.ClassFile.FieldType.int))) ∈ lw_all := lw_g (lw_at lw_m3 51 rfl) rfl
theorem q617 : (Jvm.Cond.methodLink "NightwatchWall" (364 : Nat) ({ cls := "NightwatchWall$Ground", name := "moved", desc := "(II)I" } : Jvm.MethodName)) ∈ lw_all := lw_g (lw_at lw_m3 52 rfl) rfl
theorem q621 : (Jvm.Cond.classLink "NightwatchWall" (374 : Nat) "NightwatchWall$Wire") ∈ lw_all := lw_g (lw_at lw_m3 56 rfl) rfl
theorem q622 : (Jvm.Cond.methodLink "NightwatchWall" (425 : Nat) ({ cls := "NightwatchWall", name := "ofWireNow", desc := "(LNightwatchWall$Wire;I)I" } : Jvm.MethodName)) ∈ lw_all := lw_g (lw_at lw_m3 57 rfl) rfl
theorem q623 : (Jvm.Cond.privateMethod ({ cls := "NightwatchWall", name := "ofWireNow", desc := "(LNightwatchWall$Wire;I)I" } : Jvm.MethodName)) ∈ lw_tbl := lw_at lw_m3 58 rfl
theorem q624 : (Jvm.Cond.instanceMethod ({ cls := "NightwatchWall", name := "ofWireNow", desc := "(LNightwatchWall$Wire;I)I" } : Jvm.MethodName)) ∈ lw_all := lw_g (lw_at lw_m3 59 rfl) rfl
theorem q625 : (Jvm.Cond.code ({ cls := "NightwatchWall", name := "ofWireNow", desc := "(LNightwatchWall$Wire;I)I" } : Jvm.MethodName) prog_1_method_67_code (8 : Nat) (Option.some Jvm.ClassFile.FieldType.int)) ∈ lw_all := lw_g (lw_at lw_m3 60 rfl) rfl
theorem q626 : (Jvm.Cond.methodLink "NightwatchWall" (419 : Nat) ({ cls := "NightwatchWall", name := "there", desc := "(II)I" } : Jvm.MethodName)) ∈ lw_all := lw_g (lw_at lw_m3 61 rfl) rfl
theorem q627 : (Jvm.Cond.privateMethod ({ cls := "NightwatchWall", name := "there", desc := "(II)I" } : Jvm.MethodName)) ∈ lw_tbl := lw_at lw_m3 62 rfl
theorem q628 : (Jvm.Cond.instanceMethod ({ cls := "NightwatchWall", name := "there", desc := "(II)I" } : Jvm.MethodName)) ∈ lw_all := lw_g (lw_at lw_m3 63 rfl) rfl
theorem q629 : (Jvm.Cond.code ({ cls := "NightwatchWall", name := "there", desc := "(II)I" } : Jvm.MethodName) prog_1_method_66_code (5 : Nat) (Option.some Jvm.ClassFile.FieldType.int)) ∈ lw_all := lw_g (lw_at lw_m3 64 rfl) rfl
theorem q630 : (Jvm.Cond.methodLink "NightwatchWall" (422 : Nat) ({ cls := "NightwatchWall$Wire", name := "noise", desc := "(II)I" } : Jvm.MethodName)) ∈ lw_all := lw_g (lw_at lw_m3 65 rfl) rfl
theorem q652 : (Jvm.Cond.instanceMethod ({ cls := "NightwatchWall", name := "base", desc := "(III)I" } : Jvm.MethodName)) ∈ lw_all := lw_g (lw_at lw_m3 87 rfl) rfl
theorem q653 : (Jvm.Cond.selects "NightwatchWall" ({ cls := "NightwatchWall", name := "base", desc := "(III)I" } : Jvm.MethodName) ({ cls := "NightwatchWall", name := "base", desc := "(III)I" } : Jvm.MethodName)) ∈ lw_all := lw_g (lw_at lw_m3 88 rfl) rfl
theorem q654 : (Jvm.Cond.code ({ cls := "NightwatchWall", name := "base", desc := "(III)I" } : Jvm.MethodName) prog_1_method_14_code (8 : Nat) (Option.some Jvm.ClassFile.FieldType.int)) ∈ lw_all := lw_g (lw_at lw_m3 89 rfl) rfl
theorem q655 : (Jvm.Cond.methodLink "NightwatchWall" (110 : Nat) ({ cls := "NightwatchWall", name := "require", desc := "(Z)V" } : Jvm.MethodName)) ∈ lw_all := lw_g (lw_at lw_m3 90 rfl) rfl
theorem q656 : (Jvm.Cond.static ({ cls := "NightwatchWall", name := "require", desc := "(Z)V" } : Jvm.MethodName)) ∈ lw_all := lw_g (lw_at lw_m3 91 rfl) rfl
theorem q657 : (Jvm.Cond.code ({ cls := "NightwatchWall", name := "require", desc := "(Z)V" } : Jvm.MethodName) prog_1_method_1_code (1 : Nat) (Option.none : Option Jvm.ClassFile.FieldType)) ∈ lw_all := lw_g (lw_at lw_m3 92 rfl) rfl
theorem q658 : (Jvm.Cond.classLink "NightwatchWall" (1 : Nat) "java/lang/IllegalArgumentException") ∈ lw_all := lw_g (lw_at lw_m3 93 rfl) rfl
theorem q700 : (Jvm.Cond.methodLink "NightwatchWall" (3 : Nat) ({ cls := "java/lang/IllegalArgumentException", name := "<init>", desc := "()V" } : Jvm.MethodName)) ∈ lw_all := lw_g (lw_at lw_m3 135 rfl) rfl
theorem q723 : (Jvm.Cond.methodLink "NightwatchWall" (117 : Nat) ({ cls := "NightwatchWall$Words", name := "begin", desc := "(I)V" } : Jvm.MethodName)) ∈ lw_all := lw_g (lw_at lw_m3 158 rfl) rfl
theorem q724 : (Jvm.Cond.methodLink "NightwatchWall" (121 : Nat) ({ cls := "NightwatchWall$Ground", name := "<init>", desc := "(II)V" } : Jvm.MethodName)) ∈ lw_all := lw_g (lw_at lw_m3 159 rfl) rfl
theorem q732 : (Jvm.Cond.fieldLinkNest "NightwatchWall" (473 : Nat) "NightwatchWall$Ground" "wide" "I" "NightwatchWall") ∈ lw_tbl := lw_at lw_m3 167 rfl
theorem q734 : (Jvm.Cond.fieldLinkNest "NightwatchWall" (470 : Nat) "NightwatchWall$Ground" "high" "I" "NightwatchWall") ∈ lw_tbl := lw_at lw_m3 169 rfl
theorem q736 : (Jvm.Cond.fieldLinkNest "NightwatchWall" (130 : Nat) "NightwatchWall$Ground" "kinds" "[LNightwatchWall$Kind;" "NightwatchWall") ∈ lw_tbl := lw_at lw_m3 171 rfl
theorem q744 : (Jvm.Cond.classLink "NightwatchWall" (123 : Nat) "NightwatchWall$Row") ∈ lw_all := lw_g (lw_at lw_m3 179 rfl) rfl
theorem q745 : (Jvm.Cond.methodLink "NightwatchWall" (125 : Nat) ({ cls := "NightwatchWall$Row", name := "<init>", desc := "(I)V" } : Jvm.MethodName)) ∈ lw_all := lw_g (lw_at lw_m3 180 rfl) rfl
theorem q746 : (Jvm.Cond.methodLink "NightwatchWall" (127 : Nat) ({ cls := "NightwatchWall$Row", name := "next", desc := "()I" } : Jvm.MethodName)) ∈ lw_all := lw_g (lw_at lw_m3 181 rfl) rfl
theorem q747 : (Jvm.Cond.fieldLink "NightwatchWall" (140 : Nat) "NightwatchWall$Kind" "HEDGE" "LNightwatchWall$Kind;") ∈ lw_all := lw_g (lw_at lw_m3 182 rfl) rfl
theorem q748 : (Jvm.Cond.fieldLink "NightwatchWall" (146 : Nat) "NightwatchWall$Kind" "GROUND" "LNightwatchWall$Kind;") ∈ lw_all := lw_g (lw_at lw_m3 183 rfl) rfl
theorem q749 : (Jvm.Cond.methodLink "NightwatchWall" (149 : Nat) ({ cls := "java/util/Optional", name := "of", desc := "(Ljava/lang/Object;)Ljava/util/Optional;" } : Jvm.MethodName)) ∈ lw_all := lw_g (lw_at lw_m3 184 rfl) rfl
theorem q765 : (Jvm.Cond.methodLink "NightwatchWall" (153 : Nat) ({ cls := "NightwatchWall$Ground", name := "count", desc := "(LNightwatchWall$Kind;)I" } : Jvm.MethodName)) ∈ lw_all := lw_g (lw_at lw_m3 200 rfl) rfl
theorem q807 : (Jvm.Cond.instanceMethod ({ cls := "NightwatchWall", name := "lay", desc := "(II)I" } : Jvm.MethodName)) ∈ lw_all := lw_g (lw_at lw_m4 2 rfl) rfl
theorem q808 : (Jvm.Cond.selects "NightwatchWall" ({ cls := "NightwatchWall", name := "lay", desc := "(II)I" } : Jvm.MethodName) ({ cls := "NightwatchWall", name := "lay", desc := "(II)I" } : Jvm.MethodName)) ∈ lw_all := lw_g (lw_at lw_m4 3 rfl) rfl
theorem q809 : (Jvm.Cond.code ({ cls := "NightwatchWall", name := "lay", desc := "(II)I" } : Jvm.MethodName) prog_1_method_16_code (5 : Nat) (Option.some Jvm.ClassFile.FieldType.int)) ∈ lw_all := lw_g (lw_at lw_m4 4 rfl) rfl
theorem q810 : (Jvm.Cond.methodLink "NightwatchWall" (182 : Nat) ({ cls := "NightwatchWall", name := "groundAt", desc := "(I)LNightwatchWall$Ground;" } : Jvm.MethodName)) ∈ lw_all := lw_g (lw_at lw_m4 5 rfl) rfl
theorem q811 : (Jvm.Cond.privateMethod ({ cls := "NightwatchWall", name := "groundAt", desc := "(I)LNightwatchWall$Ground;" } : Jvm.MethodName)) ∈ lw_tbl := lw_at lw_m4 6 rfl
theorem q812 : (Jvm.Cond.instanceMethod ({ cls := "NightwatchWall", name := "groundAt", desc := "(I)LNightwatchWall$Ground;" } : Jvm.MethodName)) ∈ lw_all := lw_g (lw_at lw_m4 7 rfl) rfl
theorem q813 : (Jvm.Cond.code ({ cls := "NightwatchWall", name := "groundAt", desc := "(I)LNightwatchWall$Ground;" } : Jvm.MethodName) prog_1_method_10_code (2 : Nat) (Option.some (Jvm.ClassFile.FieldType.object "NightwatchWall$Ground"))) ∈ lw_all := lw_g (lw_at lw_m4 8 rfl) rfl
theorem q814 : (Jvm.Cond.methodLink "NightwatchWall" (94 : Nat) ({ cls := "NightwatchWall", name := "requireIndex", desc := "(II)V" } : Jvm.MethodName)) ∈ lw_all := lw_g (lw_at lw_m4 9 rfl) rfl
theorem q815 : (Jvm.Cond.static ({ cls := "NightwatchWall", name := "requireIndex", desc := "(II)V" } : Jvm.MethodName)) ∈ lw_all := lw_g (lw_at lw_m4 10 rfl) rfl
theorem q816 : (Jvm.Cond.code ({ cls := "NightwatchWall", name := "requireIndex", desc := "(II)V" } : Jvm.MethodName) prog_1_method_3_code (2 : Nat) (Option.none : Option Jvm.ClassFile.FieldType)) ∈ lw_all := lw_g (lw_at lw_m4 11 rfl) rfl
theorem q817 : (Jvm.Cond.classLink "NightwatchWall" (10 : Nat) "java/lang/IndexOutOfBoundsException") ∈ lw_all := lw_g (lw_at lw_m4 12 rfl) rfl
theorem q826 : (Jvm.Cond.methodLink "NightwatchWall" (12 : Nat) ({ cls := "java/lang/IndexOutOfBoundsException", name := "<init>", desc := "()V" } : Jvm.MethodName)) ∈ lw_all := lw_g (lw_at lw_m4 21 rfl) rfl
theorem q832 : (Jvm.Cond.methodLink "NightwatchWall" (189 : Nat) ({ cls := "NightwatchWall", name := "requireState", desc := "(Z)V" } : Jvm.MethodName)) ∈ lw_all := lw_g (lw_at lw_m4 27 rfl) rfl
theorem q833 : (Jvm.Cond.static ({ cls := "NightwatchWall", name := "requireState", desc := "(Z)V" } : Jvm.MethodName)) ∈ lw_all := lw_g (lw_at lw_m4 28 rfl) rfl
theorem q834 : (Jvm.Cond.code ({ cls := "NightwatchWall", name := "requireState", desc := "(Z)V" } : Jvm.MethodName) prog_1_method_2_code (1 : Nat) (Option.none : Option Jvm.ClassFile.FieldType)) ∈ lw_all := lw_g (lw_at lw_m4 29 rfl) rfl
theorem q835 : (Jvm.Cond.classLink "NightwatchWall" (7 : Nat) "java/lang/IllegalStateException") ∈ lw_all := lw_g (lw_at lw_m4 30 rfl) rfl
theorem q844 : (Jvm.Cond.methodLink "NightwatchWall" (9 : Nat) ({ cls := "java/lang/IllegalStateException", name := "<init>", desc := "()V" } : Jvm.MethodName)) ∈ lw_all := lw_g (lw_at lw_m4 39 rfl) rfl
theorem q850 : (Jvm.Cond.methodLink "NightwatchWall" (195 : Nat) ({ cls := "NightwatchWall$Kind", name := "of", desc := "(I)LNightwatchWall$Kind;" } : Jvm.MethodName)) ∈ lw_all := lw_g (lw_at lw_m4 45 rfl) rfl
theorem q858 : (Jvm.Cond.instanceMethod ({ cls := "NightwatchWall", name := "gates", desc := "(II)I" } : Jvm.MethodName)) ∈ lw_all := lw_g (lw_at lw_m4 53 rfl) rfl
theorem q859 : (Jvm.Cond.selects "NightwatchWall" ({ cls := "NightwatchWall", name := "gates", desc := "(II)I" } : Jvm.MethodName) ({ cls := "NightwatchWall", name := "gates", desc := "(II)I" } : Jvm.MethodName)) ∈ lw_all := lw_g (lw_at lw_m4 54 rfl) rfl
theorem q860 : (Jvm.Cond.code ({ cls := "NightwatchWall", name := "gates", desc := "(II)I" } : Jvm.MethodName) prog_1_method_17_code (3 : Nat) (Option.some Jvm.ClassFile.FieldType.int)) ∈ lw_all := lw_g (lw_at lw_m4 55 rfl) rfl
theorem q861 : (Jvm.Cond.methodLink "NightwatchWall" (106 : Nat) ({ cls := "NightwatchWall", name := "isMinute", desc := "(I)Z" } : Jvm.MethodName)) ∈ lw_all := lw_g (lw_at lw_m4 56 rfl) rfl
theorem q862 : (Jvm.Cond.static ({ cls := "NightwatchWall", name := "isMinute", desc := "(I)Z" } : Jvm.MethodName)) ∈ lw_all := lw_g (lw_at lw_m4 57 rfl) rfl
theorem q863 : (Jvm.Cond.code ({ cls := "NightwatchWall", name := "isMinute", desc := "(I)Z" } : Jvm.MethodName) prog_1_method_5_code (1 : Nat) (Option.some Jvm.ClassFile.FieldType.boolean)) ∈ lw_all := lw_g (lw_at lw_m4 58 rfl) rfl
theorem q868 : (Jvm.Cond.instanceMethod ({ cls := "NightwatchWall", name := "lamp", desc := "(II)I" } : Jvm.MethodName)) ∈ lw_all := lw_g (lw_at lw_m4 63 rfl) rfl
theorem q869 : (Jvm.Cond.selects "NightwatchWall" ({ cls := "NightwatchWall", name := "lamp", desc := "(II)I" } : Jvm.MethodName) ({ cls := "NightwatchWall", name := "lamp", desc := "(II)I" } : Jvm.MethodName)) ∈ lw_all := lw_g (lw_at lw_m4 64 rfl) rfl
theorem q870 : (Jvm.Cond.code ({ cls := "NightwatchWall", name := "lamp", desc := "(II)I" } : Jvm.MethodName) prog_1_method_18_code (4 : Nat) (Option.some Jvm.ClassFile.FieldType.int)) ∈ lw_all := lw_g (lw_at lw_m4 65 rfl) rfl
theorem q872 : (Jvm.Cond.methodLink "NightwatchWall" (201 : Nat) ({ cls := "NightwatchWall$Lamp", name := "<init>", desc := "(II)V" } : Jvm.MethodName)) ∈ lw_all := lw_g (lw_at lw_m4 67 rfl) rfl
theorem q877 : (Jvm.Cond.fieldLinkNest "NightwatchWall" (170 : Nat) "NightwatchWall$Lamp" "cell" "I" "NightwatchWall") ∈ lw_tbl := lw_at lw_m4 72 rfl
theorem q880 : (Jvm.Cond.fieldLinkNest "NightwatchWall" (206 : Nat) "NightwatchWall$Lamp" "isLit" "Z" "NightwatchWall") ∈ lw_tbl := lw_at lw_m4 75 rfl
theorem q888 : (Jvm.Cond.methodLink "NightwatchWall" (202 : Nat) ({ cls := "java/util/ArrayList", name := "add", desc := "(Ljava/lang/Object;)Z" } : Jvm.MethodName)) ∈ lw_all := lw_g (lw_at lw_m4 83 rfl) rfl
theorem q918 : (Jvm.Cond.selects "NightwatchWall" ({ cls := "java/lang/Object", name := "getClass", desc := "()Ljava/lang/Class;" } : Jvm.MethodName) ({ cls := "java/lang/Object", name := "getClass", desc := "()Ljava/lang/Class;" } : Jvm.MethodName)) ∈ lw_all := lw_g (lw_at lw_m4 113 rfl) rfl
theorem q962 : (Jvm.Cond.instanceMethod ({ cls := "NightwatchWall", name := "light", desc := "(IZ)I" } : Jvm.MethodName)) ∈ lw_all := lw_g (lw_at lw_m4 157 rfl) rfl
theorem q963 : (Jvm.Cond.selects "NightwatchWall" ({ cls := "NightwatchWall", name := "light", desc := "(IZ)I" } : Jvm.MethodName) ({ cls := "NightwatchWall", name := "light", desc := "(IZ)I" } : Jvm.MethodName)) ∈ lw_all := lw_g (lw_at lw_m4 158 rfl) rfl
theorem q964 : (Jvm.Cond.code ({ cls := "NightwatchWall", name := "light", desc := "(IZ)I" } : Jvm.MethodName) prog_1_method_19_code (3 : Nat) (Option.some Jvm.ClassFile.FieldType.int)) ∈ lw_all := lw_g (lw_at lw_m4 159 rfl) rfl
theorem q969 : (Jvm.Cond.instanceMethod ({ cls := "NightwatchWall", name := "fog", desc := "(II)I" } : Jvm.MethodName)) ∈ lw_all := lw_g (lw_at lw_m4 164 rfl) rfl
theorem q970 : (Jvm.Cond.selects "NightwatchWall" ({ cls := "NightwatchWall", name := "fog", desc := "(II)I" } : Jvm.MethodName) ({ cls := "NightwatchWall", name := "fog", desc := "(II)I" } : Jvm.MethodName)) ∈ lw_all := lw_g (lw_at lw_m4 165 rfl) rfl
theorem q971 : (Jvm.Cond.code ({ cls := "NightwatchWall", name := "fog", desc := "(II)I" } : Jvm.MethodName) prog_1_method_20_code (3 : Nat) (Option.some Jvm.ClassFile.FieldType.int)) ∈ lw_all := lw_g (lw_at lw_m4 166 rfl) rfl
theorem q973 : (Jvm.Cond.methodLink "NightwatchWall" (215 : Nat) ({ cls := "NightwatchWall$Report", name := "<init>", desc := "(II)V" } : Jvm.MethodName)) ∈ lw_all := lw_g (lw_at lw_m4 168 rfl) rfl
theorem q978 : (Jvm.Cond.fieldLinkNest "NightwatchWall" (216 : Nat) "NightwatchWall$Report" "minute" "I" "NightwatchWall") ∈ lw_tbl := lw_at lw_m4 173 rfl
theorem q980 : (Jvm.Cond.fieldLinkNest "NightwatchWall" (219 : Nat) "NightwatchWall$Report" "fog" "I" "NightwatchWall") ∈ lw_tbl := lw_at lw_m4 175 rfl
theorem q990 : (Jvm.Cond.instanceMethod ({ cls := "NightwatchWall", name := "guard", desc := "(IIII)I" } : Jvm.MethodName)) ∈ lw_all := lw_g (lw_at lw_m4 185 rfl) rfl
theorem q991 : (Jvm.Cond.selects "NightwatchWall" ({ cls := "NightwatchWall", name := "guard", desc := "(IIII)I" } : Jvm.MethodName) ({ cls := "NightwatchWall", name := "guard", desc := "(IIII)I" } : Jvm.MethodName)) ∈ lw_all := lw_g (lw_at lw_m4 186 rfl) rfl
theorem q992 : (Jvm.Cond.code ({ cls := "NightwatchWall", name := "guard", desc := "(IIII)I" } : Jvm.MethodName) prog_1_method_24_code (6 : Nat) (Option.some Jvm.ClassFile.FieldType.int)) ∈ lw_all := lw_g (lw_at lw_m4 187 rfl) rfl
theorem q994 : (Jvm.Cond.methodLink "NightwatchWall" (229 : Nat) ({ cls := "NightwatchWall$Guard", name := "<init>", desc := "(IIII)V" } : Jvm.MethodName)) ∈ lw_all := lw_g (lw_at lw_m4 189 rfl) rfl
theorem q1022 : (Jvm.Cond.fieldLinkNest "NightwatchWall" (343 : Nat) "NightwatchWall$Guard" "from" "I" "NightwatchWall") ∈ lw_tbl := lw_at lw_m4 217 rfl
theorem q1024 : (Jvm.Cond.fieldLinkNest "NightwatchWall" (346 : Nat) "NightwatchWall$Guard" "to" "I" "NightwatchWall") ∈ lw_tbl := lw_at lw_m4 219 rfl
theorem q1026 : (Jvm.Cond.fieldLinkNest "NightwatchWall" (349 : Nat) "NightwatchWall$Guard" "stay" "I" "NightwatchWall") ∈ lw_tbl := lw_at lw_m4 221 rfl
theorem q1028 : (Jvm.Cond.fieldLinkNest "NightwatchWall" (236 : Nat) "NightwatchWall$Guard" "cells" "Ljava/util/ArrayList;" "NightwatchWall") ∈ lw_tbl := lw_at lw_m4 223 rfl
theorem q1030 : (Jvm.Cond.fieldLinkNest "NightwatchWall" (319 : Nat) "NightwatchWall$Guard" "strikes" "I" "NightwatchWall") ∈ lw_tbl := lw_at lw_m4 225 rfl
theorem q1032 : (Jvm.Cond.fieldLinkNest "NightwatchWall" (322 : Nat) "NightwatchWall$Guard" "answered" "I" "NightwatchWall") ∈ lw_tbl := lw_at lw_m4 227 rfl
theorem q1050 : (Jvm.Cond.instanceMethod ({ cls := "NightwatchWall", name := "round", desc := "(II)I" } : Jvm.MethodName)) ∈ lw_all := lw_g (lw_at lw_m5 5 rfl) rfl
theorem q1051 : (Jvm.Cond.selects "NightwatchWall" ({ cls := "NightwatchWall", name := "round", desc := "(II)I" } : Jvm.MethodName) ({ cls := "NightwatchWall", name := "round", desc := "(II)I" } : Jvm.MethodName)) ∈ lw_all := lw_g (lw_at lw_m5 6 rfl) rfl
theorem q1052 : (Jvm.Cond.code ({ cls := "NightwatchWall", name := "round", desc := "(II)I" } : Jvm.MethodName) prog_1_method_25_code (5 : Nat) (Option.some Jvm.ClassFile.FieldType.int)) ∈ lw_all := lw_g (lw_at lw_m5 7 rfl) rfl
theorem q1053 : (Jvm.Cond.methodLink "NightwatchWall" (232 : Nat) ({ cls := "NightwatchWall", name := "guardAt", desc := "(I)LNightwatchWall$Guard;" } : Jvm.MethodName)) ∈ lw_all := lw_g (lw_at lw_m5 8 rfl) rfl
theorem q1054 : (Jvm.Cond.privateMethod ({ cls := "NightwatchWall", name := "guardAt", desc := "(I)LNightwatchWall$Guard;" } : Jvm.MethodName)) ∈ lw_tbl := lw_at lw_m5 9 rfl
theorem q1055 : (Jvm.Cond.instanceMethod ({ cls := "NightwatchWall", name := "guardAt", desc := "(I)LNightwatchWall$Guard;" } : Jvm.MethodName)) ∈ lw_all := lw_g (lw_at lw_m5 10 rfl) rfl
theorem q1056 : (Jvm.Cond.code ({ cls := "NightwatchWall", name := "guardAt", desc := "(I)LNightwatchWall$Guard;" } : Jvm.MethodName) prog_1_method_11_code (2 : Nat) (Option.some (Jvm.ClassFile.FieldType.object "NightwatchWall$Guard"))) ∈ lw_all := lw_g (lw_at lw_m5 11 rfl) rfl
theorem q1057 : (Jvm.Cond.methodLink "NightwatchWall" (239 : Nat) ({ cls := "java/lang/Integer", name := "valueOf", desc := "(I)Ljava/lang/Integer;" } : Jvm.MethodName)) ∈ lw_all := lw_g (lw_at lw_m5 12 rfl) rfl
theorem q1062 : (Jvm.Cond.instanceMethod ({ cls := "NightwatchWall", name := "post", desc := "(I)I" } : Jvm.MethodName)) ∈ lw_all := lw_g (lw_at lw_m5 17 rfl) rfl
theorem q1063 : (Jvm.Cond.selects "NightwatchWall" ({ cls := "NightwatchWall", name := "post", desc := "(I)I" } : Jvm.MethodName) ({ cls := "NightwatchWall", name := "post", desc := "(I)I" } : Jvm.MethodName)) ∈ lw_all := lw_g (lw_at lw_m5 18 rfl) rfl
theorem q1064 : (Jvm.Cond.code ({ cls := "NightwatchWall", name := "post", desc := "(I)I" } : Jvm.MethodName) prog_1_method_26_code (3 : Nat) (Option.some Jvm.ClassFile.FieldType.int)) ∈ lw_all := lw_g (lw_at lw_m5 19 rfl) rfl
theorem q1069 : (Jvm.Cond.instanceMethod ({ cls := "NightwatchWall", name := "place", desc := "(II)I" } : Jvm.MethodName)) ∈ lw_all := lw_g (lw_at lw_m5 24 rfl) rfl
theorem q1070 : (Jvm.Cond.selects "NightwatchWall" ({ cls := "NightwatchWall", name := "place", desc := "(II)I" } : Jvm.MethodName) ({ cls := "NightwatchWall", name := "place", desc := "(II)I" } : Jvm.MethodName)) ∈ lw_all := lw_g (lw_at lw_m5 25 rfl) rfl
theorem q1071 : (Jvm.Cond.code ({ cls := "NightwatchWall", name := "place", desc := "(II)I" } : Jvm.MethodName) prog_1_method_27_code (4 : Nat) (Option.some Jvm.ClassFile.FieldType.int)) ∈ lw_all := lw_g (lw_at lw_m5 26 rfl) rfl
theorem q1072 : (Jvm.Cond.methodLink "NightwatchWall" (243 : Nat) ({ cls := "NightwatchWall", name := "requireMinute", desc := "(I)V" } : Jvm.MethodName)) ∈ lw_all := lw_g (lw_at lw_m5 27 rfl) rfl
theorem q1073 : (Jvm.Cond.static ({ cls := "NightwatchWall", name := "requireMinute", desc := "(I)V" } : Jvm.MethodName)) ∈ lw_all := lw_g (lw_at lw_m5 28 rfl) rfl
theorem q1074 : (Jvm.Cond.code ({ cls := "NightwatchWall", name := "requireMinute", desc := "(I)V" } : Jvm.MethodName) prog_1_method_13_code (1 : Nat) (Option.none : Option Jvm.ClassFile.FieldType)) ∈ lw_all := lw_g (lw_at lw_m5 29 rfl) rfl
theorem q1079 : (Jvm.Cond.instanceMethod ({ cls := "NightwatchWall", name := "sees", desc := "(III)Z" } : Jvm.MethodName)) ∈ lw_all := lw_g (lw_at lw_m5 34 rfl) rfl
theorem q1080 : (Jvm.Cond.selects "NightwatchWall" ({ cls := "NightwatchWall", name := "sees", desc := "(III)Z" } : Jvm.MethodName) ({ cls := "NightwatchWall", name := "sees", desc := "(III)Z" } : Jvm.MethodName)) ∈ lw_all := lw_g (lw_at lw_m5 35 rfl) rfl
theorem q1081 : (Jvm.Cond.code ({ cls := "NightwatchWall", name := "sees", desc := "(III)Z" } : Jvm.MethodName) prog_1_method_33_code (5 : Nat) (Option.some Jvm.ClassFile.FieldType.boolean)) ∈ lw_all := lw_g (lw_at lw_m5 36 rfl) rfl
theorem q1086 : (Jvm.Cond.instanceMethod ({ cls := "NightwatchWall", name := "ofCell", desc := "(III)I" } : Jvm.MethodName)) ∈ lw_all := lw_g (lw_at lw_m5 41 rfl) rfl
theorem q1087 : (Jvm.Cond.selects "NightwatchWall" ({ cls := "NightwatchWall", name := "ofCell", desc := "(III)I" } : Jvm.MethodName) ({ cls := "NightwatchWall", name := "ofCell", desc := "(III)I" } : Jvm.MethodName)) ∈ lw_all := lw_g (lw_at lw_m5 42 rfl) rfl
theorem q1088 : (Jvm.Cond.code ({ cls := "NightwatchWall", name := "ofCell", desc := "(III)I" } : Jvm.MethodName) prog_1_method_37_code (4 : Nat) (Option.some Jvm.ClassFile.FieldType.int)) ∈ lw_all := lw_g (lw_at lw_m5 43 rfl) rfl
theorem q1093 : (Jvm.Cond.instanceMethod ({ cls := "NightwatchWall", name := "ofMinute", desc := "(II)I" } : Jvm.MethodName)) ∈ lw_all := lw_g (lw_at lw_m5 48 rfl) rfl
theorem q1094 : (Jvm.Cond.selects "NightwatchWall" ({ cls := "NightwatchWall", name := "ofMinute", desc := "(II)I" } : Jvm.MethodName) ({ cls := "NightwatchWall", name := "ofMinute", desc := "(II)I" } : Jvm.MethodName)) ∈ lw_all := lw_g (lw_at lw_m5 49 rfl) rfl
theorem q1095 : (Jvm.Cond.code ({ cls := "NightwatchWall", name := "ofMinute", desc := "(II)I" } : Jvm.MethodName) prog_1_method_43_code (3 : Nat) (Option.some Jvm.ClassFile.FieldType.int)) ∈ lw_all := lw_g (lw_at lw_m5 50 rfl) rfl
theorem q1100 : (Jvm.Cond.instanceMethod ({ cls := "NightwatchWall", name := "empty", desc := "(IZ)I" } : Jvm.MethodName)) ∈ lw_all := lw_g (lw_at lw_m5 55 rfl) rfl
theorem q1101 : (Jvm.Cond.selects "NightwatchWall" ({ cls := "NightwatchWall", name := "empty", desc := "(IZ)I" } : Jvm.MethodName) ({ cls := "NightwatchWall", name := "empty", desc := "(IZ)I" } : Jvm.MethodName)) ∈ lw_all := lw_g (lw_at lw_m5 56 rfl) rfl
theorem q1102 : (Jvm.Cond.code ({ cls := "NightwatchWall", name := "empty", desc := "(IZ)I" } : Jvm.MethodName) prog_1_method_45_code (3 : Nat) (Option.some Jvm.ClassFile.FieldType.int)) ∈ lw_all := lw_g (lw_at lw_m5 57 rfl) rfl
theorem q1107 : (Jvm.Cond.instanceMethod ({ cls := "NightwatchWall", name := "lapse", desc := "(III)I" } : Jvm.MethodName)) ∈ lw_all := lw_g (lw_at lw_m5 62 rfl) rfl
theorem q1108 : (Jvm.Cond.selects "NightwatchWall" ({ cls := "NightwatchWall", name := "lapse", desc := "(III)I" } : Jvm.MethodName) ({ cls := "NightwatchWall", name := "lapse", desc := "(III)I" } : Jvm.MethodName)) ∈ lw_all := lw_g (lw_at lw_m5 63 rfl) rfl
theorem q1109 : (Jvm.Cond.code ({ cls := "NightwatchWall", name := "lapse", desc := "(III)I" } : Jvm.MethodName) prog_1_method_46_code (5 : Nat) (Option.some Jvm.ClassFile.FieldType.int)) ∈ lw_all := lw_g (lw_at lw_m5 64 rfl) rfl
theorem q1114 : (Jvm.Cond.instanceMethod ({ cls := "NightwatchWall", name := "words", desc := "(I)I" } : Jvm.MethodName)) ∈ lw_all := lw_g (lw_at lw_m5 69 rfl) rfl
theorem q1115 : (Jvm.Cond.selects "NightwatchWall" ({ cls := "NightwatchWall", name := "words", desc := "(I)I" } : Jvm.MethodName) ({ cls := "NightwatchWall", name := "words", desc := "(I)I" } : Jvm.MethodName)) ∈ lw_all := lw_g (lw_at lw_m5 70 rfl) rfl
theorem q1116 : (Jvm.Cond.code ({ cls := "NightwatchWall", name := "words", desc := "(I)I" } : Jvm.MethodName) prog_1_method_48_code (2 : Nat) (Option.some Jvm.ClassFile.FieldType.int)) ∈ lw_all := lw_g (lw_at lw_m5 71 rfl) rfl
theorem q1117 : (Jvm.Cond.methodLink "NightwatchWall" (325 : Nat) ({ cls := "NightwatchWall", name := "forgetAnswers", desc := "()V" } : Jvm.MethodName)) ∈ lw_all := lw_g (lw_at lw_m5 72 rfl) rfl
theorem q1118 : (Jvm.Cond.privateMethod ({ cls := "NightwatchWall", name := "forgetAnswers", desc := "()V" } : Jvm.MethodName)) ∈ lw_tbl := lw_at lw_m5 73 rfl
theorem q1119 : (Jvm.Cond.instanceMethod ({ cls := "NightwatchWall", name := "forgetAnswers", desc := "()V" } : Jvm.MethodName)) ∈ lw_all := lw_g (lw_at lw_m5 74 rfl) rfl
theorem q1120 : (Jvm.Cond.code ({ cls := "NightwatchWall", name := "forgetAnswers", desc := "()V" } : Jvm.MethodName) prog_1_method_47_code (3 : Nat) (Option.none : Option Jvm.ClassFile.FieldType)) ∈ lw_all := lw_g (lw_at lw_m5 75 rfl) rfl
theorem q1125 : (Jvm.Cond.instanceMethod ({ cls := "NightwatchWall", name := "leak", desc := "(I)I" } : Jvm.MethodName)) ∈ lw_all := lw_g (lw_at lw_m5 80 rfl) rfl
theorem q1126 : (Jvm.Cond.selects "NightwatchWall" ({ cls := "NightwatchWall", name := "leak", desc := "(I)I" } : Jvm.MethodName) ({ cls := "NightwatchWall", name := "leak", desc := "(I)I" } : Jvm.MethodName)) ∈ lw_all := lw_g (lw_at lw_m5 81 rfl) rfl
theorem q1127 : (Jvm.Cond.code ({ cls := "NightwatchWall", name := "leak", desc := "(I)I" } : Jvm.MethodName) prog_1_method_49_code (2 : Nat) (Option.some Jvm.ClassFile.FieldType.int)) ∈ lw_all := lw_g (lw_at lw_m5 82 rfl) rfl
theorem q1128 : (Jvm.Cond.methodLink "NightwatchWall" (331 : Nat) ({ cls := "NightwatchWall$Words", name := "isSpent", desc := "()Z" } : Jvm.MethodName)) ∈ lw_all := lw_g (lw_at lw_m5 83 rfl) rfl
theorem q1133 : (Jvm.Cond.methodLink "NightwatchWall" (334 : Nat) ({ cls := "NightwatchWall$Words", name := "leak", desc := "(I)I" } : Jvm.MethodName)) ∈ lw_all := lw_g (lw_at lw_m5 88 rfl) rfl
theorem q1143 : (Jvm.Cond.instanceMethod ({ cls := "NightwatchWall", name := "answer", desc := "(III)I" } : Jvm.MethodName)) ∈ lw_all := lw_g (lw_at lw_m5 98 rfl) rfl
theorem q1144 : (Jvm.Cond.selects "NightwatchWall" ({ cls := "NightwatchWall", name := "answer", desc := "(III)I" } : Jvm.MethodName) ({ cls := "NightwatchWall", name := "answer", desc := "(III)I" } : Jvm.MethodName)) ∈ lw_all := lw_g (lw_at lw_m5 99 rfl) rfl
theorem q1145 : (Jvm.Cond.code ({ cls := "NightwatchWall", name := "answer", desc := "(III)I" } : Jvm.MethodName) prog_1_method_50_code (6 : Nat) (Option.some Jvm.ClassFile.FieldType.int)) ∈ lw_all := lw_g (lw_at lw_m5 100 rfl) rfl
theorem q1146 : (Jvm.Cond.methodLink "NightwatchWall" (337 : Nat) ({ cls := "NightwatchWall", name := "hourOf", desc := "(I)I" } : Jvm.MethodName)) ∈ lw_all := lw_g (lw_at lw_m5 101 rfl) rfl
theorem q1147 : (Jvm.Cond.static ({ cls := "NightwatchWall", name := "hourOf", desc := "(I)I" } : Jvm.MethodName)) ∈ lw_all := lw_g (lw_at lw_m5 102 rfl) rfl
theorem q1148 : (Jvm.Cond.code ({ cls := "NightwatchWall", name := "hourOf", desc := "(I)I" } : Jvm.MethodName) prog_1_method_6_code (1 : Nat) (Option.some Jvm.ClassFile.FieldType.int)) ∈ lw_all := lw_g (lw_at lw_m5 103 rfl) rfl
theorem q1149 : (Jvm.Cond.methodLink "NightwatchWall" (340 : Nat) ({ cls := "NightwatchWall$Words", name := "answer", desc := "(LNightwatchWall$Guard;II)I" } : Jvm.MethodName)) ∈ lw_all := lw_g (lw_at lw_m5 104 rfl) rfl
theorem q1169 : (Jvm.Cond.instanceMethod ({ cls := "NightwatchWall", name := "key", desc := "(II)I" } : Jvm.MethodName)) ∈ lw_all := lw_g (lw_at lw_m5 124 rfl) rfl
theorem q1170 : (Jvm.Cond.selects "NightwatchWall" ({ cls := "NightwatchWall", name := "key", desc := "(II)I" } : Jvm.MethodName) ({ cls := "NightwatchWall", name := "key", desc := "(II)I" } : Jvm.MethodName)) ∈ lw_all := lw_g (lw_at lw_m5 125 rfl) rfl
theorem q1171 : (Jvm.Cond.code ({ cls := "NightwatchWall", name := "key", desc := "(II)I" } : Jvm.MethodName) prog_1_method_51_code (4 : Nat) (Option.some Jvm.ClassFile.FieldType.int)) ∈ lw_all := lw_g (lw_at lw_m5 126 rfl) rfl
theorem q1176 : (Jvm.Cond.instanceMethod ({ cls := "NightwatchWall", name := "ofGuard", desc := "(II)I" } : Jvm.MethodName)) ∈ lw_all := lw_g (lw_at lw_m5 131 rfl) rfl
theorem q1177 : (Jvm.Cond.selects "NightwatchWall" ({ cls := "NightwatchWall", name := "ofGuard", desc := "(II)I" } : Jvm.MethodName) ({ cls := "NightwatchWall", name := "ofGuard", desc := "(II)I" } : Jvm.MethodName)) ∈ lw_all := lw_g (lw_at lw_m5 132 rfl) rfl
theorem q1178 : (Jvm.Cond.code ({ cls := "NightwatchWall", name := "ofGuard", desc := "(II)I" } : Jvm.MethodName) prog_1_method_54_code (3 : Nat) (Option.some Jvm.ClassFile.FieldType.int)) ∈ lw_all := lw_g (lw_at lw_m5 133 rfl) rfl
theorem q1183 : (Jvm.Cond.instanceMethod ({ cls := "NightwatchWall", name := "intruder", desc := "(III)I" } : Jvm.MethodName)) ∈ lw_all := lw_g (lw_at lw_m5 138 rfl) rfl
theorem q1184 : (Jvm.Cond.selects "NightwatchWall" ({ cls := "NightwatchWall", name := "intruder", desc := "(III)I" } : Jvm.MethodName) ({ cls := "NightwatchWall", name := "intruder", desc := "(III)I" } : Jvm.MethodName)) ∈ lw_all := lw_g (lw_at lw_m5 139 rfl) rfl
theorem q1185 : (Jvm.Cond.code ({ cls := "NightwatchWall", name := "intruder", desc := "(III)I" } : Jvm.MethodName) prog_1_method_56_code (8 : Nat) (Option.some Jvm.ClassFile.FieldType.int)) ∈ lw_all := lw_g (lw_at lw_m5 140 rfl) rfl
theorem q1186 : (Jvm.Cond.methodLink "NightwatchWall" (367 : Nat) ({ cls := "NightwatchWall", name := "wayOf", desc := "(LNightwatchWall$Ground;III)Ljava/util/Optional;" } : Jvm.MethodName)) ∈ lw_all := lw_g (lw_at lw_m5 141 rfl) rfl
theorem q1187 : (Jvm.Cond.privateMethod ({ cls := "NightwatchWall", name := "wayOf", desc := "(LNightwatchWall$Ground;III)Ljava/util/Optional;" } : Jvm.MethodName)) ∈ lw_tbl := lw_at lw_m5 142 rfl
theorem q1188 : (Jvm.Cond.instanceMethod ({ cls := "NightwatchWall", name := "wayOf", desc := "(LNightwatchWall$Ground;III)Ljava/util/Optional;" } : Jvm.MethodName)) ∈ lw_all := lw_g (lw_at lw_m5 143 rfl) rfl
theorem q1189 : (Jvm.Cond.code ({ cls := "NightwatchWall", name := "wayOf", desc := "(LNightwatchWall$Ground;III)Ljava/util/Optional;" } : Jvm.MethodName) prog_1_method_55_code (11 : Nat) (Option.some (Jvm.ClassFile.FieldType.object "java/util/Optional"))) ∈ lw_all := lw_g (lw_at lw_m5 144 rfl) rfl
theorem q1191 : (Jvm.Cond.methodLink "NightwatchWall" (371 : Nat) ({ cls := "NightwatchWall$Intruder", name := "<init>", desc := "(ILjava/util/ArrayList;I)V" } : Jvm.MethodName)) ∈ lw_all := lw_g (lw_at lw_m5 146 rfl) rfl
theorem q1196 : (Jvm.Cond.fieldLinkNest "NightwatchWall" (382 : Nat) "NightwatchWall$Intruder" "from" "I" "NightwatchWall") ∈ lw_tbl := lw_at lw_m5 151 rfl
theorem q1199 : (Jvm.Cond.fieldLinkNest "NightwatchWall" (395 : Nat) "NightwatchWall$Intruder" "moves" "I" "NightwatchWall") ∈ lw_tbl := lw_at lw_m5 154 rfl
theorem q1200 : (Jvm.Cond.fieldLinkNest "NightwatchWall" (405 : Nat) "NightwatchWall$Intruder" "steps" "I" "NightwatchWall") ∈ lw_tbl := lw_at lw_m5 155 rfl
theorem q1202 : (Jvm.Cond.fieldLinkNest "NightwatchWall" (408 : Nat) "NightwatchWall$Intruder" "last" "I" "NightwatchWall") ∈ lw_tbl := lw_at lw_m5 157 rfl
theorem q1218 : (Jvm.Cond.instanceMethod ({ cls := "NightwatchWall", name := "wire", desc := "(II)I" } : Jvm.MethodName)) ∈ lw_all := lw_g (lw_at lw_m5 173 rfl) rfl
theorem q1219 : (Jvm.Cond.selects "NightwatchWall" ({ cls := "NightwatchWall", name := "wire", desc := "(II)I" } : Jvm.MethodName) ({ cls := "NightwatchWall", name := "wire", desc := "(II)I" } : Jvm.MethodName)) ∈ lw_all := lw_g (lw_at lw_m5 174 rfl) rfl
theorem q1220 : (Jvm.Cond.code ({ cls := "NightwatchWall", name := "wire", desc := "(II)I" } : Jvm.MethodName) prog_1_method_57_code (3 : Nat) (Option.some Jvm.ClassFile.FieldType.int)) ∈ lw_all := lw_g (lw_at lw_m5 175 rfl) rfl
theorem q1222 : (Jvm.Cond.methodLink "NightwatchWall" (376 : Nat) ({ cls := "NightwatchWall$Wire", name := "<init>", desc := "(II)V" } : Jvm.MethodName)) ∈ lw_all := lw_g (lw_at lw_m5 177 rfl) rfl
theorem q1227 : (Jvm.Cond.fieldLinkNest "NightwatchWall" (415 : Nat) "NightwatchWall$Wire" "cell" "I" "NightwatchWall") ∈ lw_tbl := lw_at lw_m5 182 rfl
theorem q1229 : (Jvm.Cond.fieldLinkNest "NightwatchWall" (416 : Nat) "NightwatchWall$Wire" "bar" "I" "NightwatchWall") ∈ lw_tbl := lw_at lw_m5 184 rfl
theorem q1239 : (Jvm.Cond.instanceMethod ({ cls := "NightwatchWall", name := "where", desc := "(II)I" } : Jvm.MethodName)) ∈ lw_all := lw_g (lw_at lw_m5 194 rfl) rfl
theorem q1240 : (Jvm.Cond.selects "NightwatchWall" ({ cls := "NightwatchWall", name := "where", desc := "(II)I" } : Jvm.MethodName) ({ cls := "NightwatchWall", name := "where", desc := "(II)I" } : Jvm.MethodName)) ∈ lw_all := lw_g (lw_at lw_m5 195 rfl) rfl
theorem q1241 : (Jvm.Cond.code ({ cls := "NightwatchWall", name := "where", desc := "(II)I" } : Jvm.MethodName) prog_1_method_58_code (4 : Nat) (Option.some Jvm.ClassFile.FieldType.int)) ∈ lw_all := lw_g (lw_at lw_m5 196 rfl) rfl
theorem q1242 : (Jvm.Cond.methodLink "NightwatchWall" (377 : Nat) ({ cls := "NightwatchWall", name := "intruderAt", desc := "(I)LNightwatchWall$Intruder;" } : Jvm.MethodName)) ∈ lw_all := lw_g (lw_at lw_m5 197 rfl) rfl
theorem q1243 : (Jvm.Cond.privateMethod ({ cls := "NightwatchWall", name := "intruderAt", desc := "(I)LNightwatchWall$Intruder;" } : Jvm.MethodName)) ∈ lw_tbl := lw_at lw_m5 198 rfl
theorem q1244 : (Jvm.Cond.instanceMethod ({ cls := "NightwatchWall", name := "intruderAt", desc := "(I)LNightwatchWall$Intruder;" } : Jvm.MethodName)) ∈ lw_all := lw_g (lw_at lw_m5 199 rfl) rfl
theorem q1245 : (Jvm.Cond.code ({ cls := "NightwatchWall", name := "intruderAt", desc := "(I)LNightwatchWall$Intruder;" } : Jvm.MethodName) prog_1_method_12_code (2 : Nat) (Option.some (Jvm.ClassFile.FieldType.object "NightwatchWall$Intruder"))) ∈ lw_all := lw_g (lw_at lw_m5 200 rfl) rfl
theorem q1250 : (Jvm.Cond.instanceMethod ({ cls := "NightwatchWall", name := "ofIntruder", desc := "(II)I" } : Jvm.MethodName)) ∈ lw_all := lw_g (lw_at lw_m5 205 rfl) rfl
theorem q1251 : (Jvm.Cond.selects "NightwatchWall" ({ cls := "NightwatchWall", name := "ofIntruder", desc := "(II)I" } : Jvm.MethodName) ({ cls := "NightwatchWall", name := "ofIntruder", desc := "(II)I" } : Jvm.MethodName)) ∈ lw_all := lw_g (lw_at lw_m5 206 rfl) rfl
theorem q1252 : (Jvm.Cond.code ({ cls := "NightwatchWall", name := "ofIntruder", desc := "(II)I" } : Jvm.MethodName) prog_1_method_64_code (4 : Nat) (Option.some Jvm.ClassFile.FieldType.int)) ∈ lw_all := lw_g (lw_at lw_m5 207 rfl) rfl
theorem q1257 : (Jvm.Cond.instanceMethod ({ cls := "NightwatchWall", name := "force", desc := "(III)I" } : Jvm.MethodName)) ∈ lw_all := lw_g (lw_at lw_m5 212 rfl) rfl
theorem q1258 : (Jvm.Cond.selects "NightwatchWall" ({ cls := "NightwatchWall", name := "force", desc := "(III)I" } : Jvm.MethodName) ({ cls := "NightwatchWall", name := "force", desc := "(III)I" } : Jvm.MethodName)) ∈ lw_all := lw_g (lw_at lw_m5 213 rfl) rfl
theorem q1259 : (Jvm.Cond.code ({ cls := "NightwatchWall", name := "force", desc := "(III)I" } : Jvm.MethodName) prog_1_method_65_code (6 : Nat) (Option.some Jvm.ClassFile.FieldType.int)) ∈ lw_all := lw_g (lw_at lw_m5 214 rfl) rfl
theorem q1264 : (Jvm.Cond.instanceMethod ({ cls := "NightwatchWall", name := "ofWire", desc := "(II)I" } : Jvm.MethodName)) ∈ lw_all := lw_g (lw_at lw_m5 219 rfl) rfl
theorem q1265 : (Jvm.Cond.selects "NightwatchWall" ({ cls := "NightwatchWall", name := "ofWire", desc := "(II)I" } : Jvm.MethodName) ({ cls := "NightwatchWall", name := "ofWire", desc := "(II)I" } : Jvm.MethodName)) ∈ lw_all := lw_g (lw_at lw_m5 220 rfl) rfl
theorem q1266 : (Jvm.Cond.code ({ cls := "NightwatchWall", name := "ofWire", desc := "(II)I" } : Jvm.MethodName) prog_1_method_68_code (3 : Nat) (Option.some Jvm.ClassFile.FieldType.int)) ∈ lw_all := lw_g (lw_at lw_m5 221 rfl) rfl
theorem q1271 : (Jvm.Cond.instanceMethod ({ cls := "NightwatchWall", name := "sneak", desc := "(IIII)I" } : Jvm.MethodName)) ∈ lw_all := lw_g (lw_at lw_m5 226 rfl) rfl
theorem q1272 : (Jvm.Cond.selects "NightwatchWall" ({ cls := "NightwatchWall", name := "sneak", desc := "(IIII)I" } : Jvm.MethodName) ({ cls := "NightwatchWall", name := "sneak", desc := "(IIII)I" } : Jvm.MethodName)) ∈ lw_all := lw_g (lw_at lw_m5 227 rfl) rfl
theorem q1273 : (Jvm.Cond.code ({ cls := "NightwatchWall", name := "sneak", desc := "(IIII)I" } : Jvm.MethodName) prog_1_method_72_code (7 : Nat) (Option.some Jvm.ClassFile.FieldType.int)) ∈ lw_all := lw_g (lw_at lw_m5 228 rfl) rfl
theorem q1274 : (Jvm.Cond.methodLink "NightwatchWall" (432 : Nat) ({ cls := "NightwatchWall", name := "start", desc := "(II)[Z" } : Jvm.MethodName)) ∈ lw_all := lw_g (lw_at lw_m5 229 rfl) rfl
theorem q1275 : (Jvm.Cond.privateMethod ({ cls := "NightwatchWall", name := "start", desc := "(II)[Z" } : Jvm.MethodName)) ∈ lw_tbl := lw_at lw_m5 230 rfl
theorem q1276 : (Jvm.Cond.instanceMethod ({ cls := "NightwatchWall", name := "start", desc := "(II)[Z" } : Jvm.MethodName)) ∈ lw_all := lw_g (lw_at lw_m5 231 rfl) rfl
theorem q1277 : (Jvm.Cond.code ({ cls := "NightwatchWall", name := "start", desc := "(II)[Z" } : Jvm.MethodName) prog_1_method_71_code (4 : Nat) (Option.some (Jvm.ClassFile.FieldType.array Jvm.ClassFile.FieldType.boolean))) ∈ lw_all := lw_g (lw_at lw_m5 232 rfl) rfl
theorem q1278 : (Jvm.Cond.methodLink "NightwatchWall" (429 : Nat) ({ cls := "NightwatchWall", name := "isHidden", desc := "(II)Z" } : Jvm.MethodName)) ∈ lw_all := lw_g (lw_at lw_m5 233 rfl) rfl
theorem q1279 : (Jvm.Cond.privateMethod ({ cls := "NightwatchWall", name := "isHidden", desc := "(II)Z" } : Jvm.MethodName)) ∈ lw_tbl := lw_at lw_m5 234 rfl
theorem q1280 : (Jvm.Cond.instanceMethod ({ cls := "NightwatchWall", name := "isHidden", desc := "(II)Z" } : Jvm.MethodName)) ∈ lw_all := lw_g (lw_at lw_m5 235 rfl) rfl
theorem q1281 : (Jvm.Cond.code ({ cls := "NightwatchWall", name := "isHidden", desc := "(II)Z" } : Jvm.MethodName) prog_1_method_69_code (3 : Nat) (Option.some Jvm.ClassFile.FieldType.boolean)) ∈ lw_all := lw_g (lw_at lw_m5 236 rfl) rfl
theorem q1282 : (Jvm.Cond.methodLink "NightwatchWall" (436 : Nat) ({ cls := "NightwatchWall", name := "spread", desc := "([ZI)[Z" } : Jvm.MethodName)) ∈ lw_all := lw_g (lw_at lw_m5 237 rfl) rfl
theorem q1283 : (Jvm.Cond.privateMethod ({ cls := "NightwatchWall", name := "spread", desc := "([ZI)[Z" } : Jvm.MethodName)) ∈ lw_tbl := lw_at lw_m5 238 rfl
theorem q1284 : (Jvm.Cond.instanceMethod ({ cls := "NightwatchWall", name := "spread", desc := "([ZI)[Z" } : Jvm.MethodName)) ∈ lw_all := lw_g (lw_at lw_m5 239 rfl) rfl
theorem q1285 : (Jvm.Cond.code ({ cls := "NightwatchWall", name := "spread", desc := "([ZI)[Z" } : Jvm.MethodName) prog_1_method_70_code (8 : Nat) (Option.some (Jvm.ClassFile.FieldType.array Jvm.ClassFile.FieldType.boolean))) ∈ lw_all := lw_g (lw_at lw_m6 0 rfl) rfl
theorem q1291 : (Jvm.Cond.instanceMethod ({ cls := "NightwatchWall", name := "reach", desc := "(III)I" } : Jvm.MethodName)) ∈ lw_all := lw_g (lw_at lw_m6 6 rfl) rfl
theorem q1292 : (Jvm.Cond.selects "NightwatchWall" ({ cls := "NightwatchWall", name := "reach", desc := "(III)I" } : Jvm.MethodName) ({ cls := "NightwatchWall", name := "reach", desc := "(III)I" } : Jvm.MethodName)) ∈ lw_all := lw_g (lw_at lw_m6 7 rfl) rfl
theorem q1293 : (Jvm.Cond.code ({ cls := "NightwatchWall", name := "reach", desc := "(III)I" } : Jvm.MethodName) prog_1_method_73_code (7 : Nat) (Option.some Jvm.ClassFile.FieldType.int)) ∈ lw_all := lw_g (lw_at lw_m6 8 rfl) rfl
theorem q1298 : (Jvm.Cond.instanceMethod ({ cls := "NightwatchWall", name := "nextLamp", desc := "(IIZ)I" } : Jvm.MethodName)) ∈ lw_all := lw_g (lw_at lw_m6 13 rfl) rfl
theorem q1299 : (Jvm.Cond.selects "NightwatchWall" ({ cls := "NightwatchWall", name := "nextLamp", desc := "(IIZ)I" } : Jvm.MethodName) ({ cls := "NightwatchWall", name := "nextLamp", desc := "(IIZ)I" } : Jvm.MethodName)) ∈ lw_all := lw_g (lw_at lw_m6 14 rfl) rfl
theorem q1300 : (Jvm.Cond.code ({ cls := "NightwatchWall", name := "nextLamp", desc := "(IIZ)I" } : Jvm.MethodName) prog_1_method_76_code (9 : Nat) (Option.some Jvm.ClassFile.FieldType.int)) ∈ lw_all := lw_g (lw_at lw_m6 15 rfl) rfl
theorem q1301 : (Jvm.Cond.methodLink "NightwatchWall" (440 : Nat) ({ cls := "NightwatchWall", name := "hopes", desc := "(I)[Z" } : Jvm.MethodName)) ∈ lw_all := lw_g (lw_at lw_m6 16 rfl) rfl
theorem q1302 : (Jvm.Cond.privateMethod ({ cls := "NightwatchWall", name := "hopes", desc := "(I)[Z" } : Jvm.MethodName)) ∈ lw_tbl := lw_at lw_m6 17 rfl
theorem q1303 : (Jvm.Cond.instanceMethod ({ cls := "NightwatchWall", name := "hopes", desc := "(I)[Z" } : Jvm.MethodName)) ∈ lw_all := lw_g (lw_at lw_m6 18 rfl) rfl
theorem q1304 : (Jvm.Cond.code ({ cls := "NightwatchWall", name := "hopes", desc := "(I)[Z" } : Jvm.MethodName) prog_1_method_74_code (6 : Nat) (Option.some (Jvm.ClassFile.FieldType.array Jvm.ClassFile.FieldType.boolean))) ∈ lw_all := lw_g (lw_at lw_m6 19 rfl) rfl
theorem q1305 : (Jvm.Cond.methodLink "NightwatchWall" (444 : Nat) ({ cls := "NightwatchWall", name := "gain", desc := "(LNightwatchWall$Lamp;[Z)I" } : Jvm.MethodName)) ∈ lw_all := lw_g (lw_at lw_m6 20 rfl) rfl
theorem q1306 : (Jvm.Cond.privateMethod ({ cls := "NightwatchWall", name := "gain", desc := "(LNightwatchWall$Lamp;[Z)I" } : Jvm.MethodName)) ∈ lw_tbl := lw_at lw_m6 21 rfl
theorem q1307 : (Jvm.Cond.instanceMethod ({ cls := "NightwatchWall", name := "gain", desc := "(LNightwatchWall$Lamp;[Z)I" } : Jvm.MethodName)) ∈ lw_all := lw_g (lw_at lw_m6 22 rfl) rfl
theorem q1308 : (Jvm.Cond.code ({ cls := "NightwatchWall", name := "gain", desc := "(LNightwatchWall$Lamp;[Z)I" } : Jvm.MethodName) prog_1_method_75_code (5 : Nat) (Option.some Jvm.ClassFile.FieldType.int)) ∈ lw_all := lw_g (lw_at lw_m6 23 rfl) rfl
theorem q1313 : (Jvm.Cond.instanceMethod ({ cls := "NightwatchWall", name := "many", desc := "(I)I" } : Jvm.MethodName)) ∈ lw_all := lw_g (lw_at lw_m6 28 rfl) rfl
theorem q1314 : (Jvm.Cond.selects "NightwatchWall" ({ cls := "NightwatchWall", name := "many", desc := "(I)I" } : Jvm.MethodName) ({ cls := "NightwatchWall", name := "many", desc := "(I)I" } : Jvm.MethodName)) ∈ lw_all := lw_g (lw_at lw_m6 29 rfl) rfl
theorem q1315 : (Jvm.Cond.code ({ cls := "NightwatchWall", name := "many", desc := "(I)I" } : Jvm.MethodName) prog_1_method_79_code (2 : Nat) (Option.some Jvm.ClassFile.FieldType.int)) ∈ lw_all := lw_g (lw_at lw_m6 30 rfl) rfl
theorem q1320 : (Jvm.Cond.instanceMethod ({ cls := "NightwatchWall", name := "drawn", desc := "(II)Ljava/lang/String;" } : Jvm.MethodName)) ∈ lw_all := lw_g (lw_at lw_m6 35 rfl) rfl
theorem q1321 : (Jvm.Cond.selects "NightwatchWall" ({ cls := "NightwatchWall", name := "drawn", desc := "(II)Ljava/lang/String;" } : Jvm.MethodName) ({ cls := "NightwatchWall", name := "drawn", desc := "(II)Ljava/lang/String;" } : Jvm.MethodName)) ∈ lw_all := lw_g (lw_at lw_m6 36 rfl) rfl
theorem q1322 : (Jvm.Cond.code ({ cls := "NightwatchWall", name := "drawn", desc := "(II)Ljava/lang/String;" } : Jvm.MethodName) prog_1_method_81_code (6 : Nat) (Option.some (Jvm.ClassFile.FieldType.object "java/lang/String"))) ∈ lw_all := lw_g (lw_at lw_m6 37 rfl) rfl
theorem q1323 : (Jvm.Cond.classLink "NightwatchWall" (476 : Nat) "java/lang/StringBuilder") ∈ lw_all := lw_g (lw_at lw_m6 38 rfl) rfl
theorem q1325 : (Jvm.Cond.methodLink "NightwatchWall" (478 : Nat) ({ cls := "java/lang/StringBuilder", name := "<init>", desc := "()V" } : Jvm.MethodName)) ∈ lw_all := lw_g (lw_at lw_m6 40 rfl) rfl
theorem q1354 : (Jvm.Cond.methodLink "NightwatchWall" (479 : Nat) ({ cls := "NightwatchWall", name := "sign", desc := "(II)C" } : Jvm.MethodName)) ∈ lw_all := lw_g (lw_at lw_m6 69 rfl) rfl
theorem q1355 : (Jvm.Cond.privateMethod ({ cls := "NightwatchWall", name := "sign", desc := "(II)C" } : Jvm.MethodName)) ∈ lw_tbl := lw_at lw_m6 70 rfl
theorem q1356 : (Jvm.Cond.instanceMethod ({ cls := "NightwatchWall", name := "sign", desc := "(II)C" } : Jvm.MethodName)) ∈ lw_all := lw_g (lw_at lw_m6 71 rfl) rfl
theorem q1357 : (Jvm.Cond.code ({ cls := "NightwatchWall", name := "sign", desc := "(II)C" } : Jvm.MethodName) prog_1_method_80_code (5 : Nat) (Option.some Jvm.ClassFile.FieldType.char)) ∈ lw_all := lw_g (lw_at lw_m6 72 rfl) rfl
theorem q1358 : (Jvm.Cond.methodLink "NightwatchWall" (463 : Nat) ({ cls := "java/lang/Integer", name := "numberOfTrailingZeros", desc := "(I)I" } : Jvm.MethodName)) ∈ lw_all := lw_g (lw_at lw_m6 73 rfl) rfl
theorem q1362 : (Jvm.Cond.methodLink "NightwatchWall" (466 : Nat) ({ cls := "NightwatchWall$Kind", name := "sign", desc := "()C" } : Jvm.MethodName)) ∈ lw_all := lw_g (lw_at lw_m6 77 rfl) rfl
theorem q1377 : (Jvm.Cond.methodLink "NightwatchWall" (482 : Nat) ({ cls := "java/lang/StringBuilder", name := "append", desc := "(C)Ljava/lang/StringBuilder;" } : Jvm.MethodName)) ∈ lw_all := lw_g (lw_at lw_m6 92 rfl) rfl
theorem q1455 : (Jvm.Cond.methodLink "NightwatchWall" (486 : Nat) ({ cls := "java/lang/StringBuilder", name := "toString", desc := "()Ljava/lang/String;" } : Jvm.MethodName)) ∈ lw_all := lw_g (lw_at lw_m6 170 rfl) rfl
theorem q2120 : (Jvm.Cond.castable "NightwatchWall" "java/lang/Object") ∈ lw_tbl := lw_at lw_m9 115 rfl
theorem in_X1 : ∀ w ∈ wsX10, w ∈ lw_all := lw_in wsX10 [235, 237, 239, 241, 243, 245, 247, 249, 251, 253, 255, 257, 259, 261] (by decide +kernel) (by decide +kernel)
