/-! NightwatchWall$Words -/
set_option maxRecDepth 100000
def RX2 : String := "NightwatchWall$Words"
def TX2 : u_T := fun k => match k with
  | 0 => ("NightwatchWall$Words", "seed", "I", false)
  | 1 => ("NightwatchWall$Words", "row", "LNightwatchWall$Row;", false)
  | 2 => ("NightwatchWall$Words", "now", "[I", true)
  | _ => ("NightwatchWall$Words", "old", "Ljava/util/ArrayList;", true)
def tyX2 : Nat → FieldType := fun k => match k with
  | 0 => .int
  | 1 => .object "NightwatchWall$Row"
  | 2 => .array .int
  | _ => .object "java/util/ArrayList"
abbrev wsX20 : List Cond := u_ws RX2 TX2 4
theorem nmX2 : ∀ a, a < 4 → ∀ b, b < 4 → a ≠ b → (TX2 a).2.1 ≠ (TX2 b).2.1 := by decide +kernel
theorem tyX2_ok : ∀ k, k < 4 → parseFieldDescriptor (TX2 k).2.2.1 = some (tyX2 k) := by decide +kernel
abbrev cX2_init : ByteArray := prog_14_method_1_code
def yX2_init : MethodName := ⟨RX2, "<init>", "()V"⟩
def dkwX2_init_1 : List UInt8 := [182, 0, 22, 177]
abbrev dktX2_init_1 : List UInt8 := dkwX2_init_1 ++ []
def dkwX2_init_0 : List UInt8 := [42, 183, 0, 3, 42, 7, 188, 10, 181, 0, 9, 42, 187, 0, 15, 89, 183, 0, 17, 181, 0, 18, 42, 3]
abbrev dktX2_init_0 : List UInt8 := dkwX2_init_0 ++ dktX2_init_1
theorem dksX2_init_0 : cX2_init.data.toList.drop 0 = dktX2_init_0 := by decide +kernel
theorem dksX2_init_1 : cX2_init.data.toList.drop 24 = dktX2_init_1 := dk_seg dksX2_init_0 24 rfl rfl
theorem dX2_init_0 : decode cX2_init 0 = .ok (.aload_n 0, 1) := dk_42 (dk_at dksX2_init_0 0 rfl rfl)
theorem dX2_init_1 : decode cX2_init 1 = .ok (.invokespecial 3, 3) := dk_183 0 3 (dk_at dksX2_init_0 1 rfl rfl)
theorem dX2_init_4 : decode cX2_init 4 = .ok (.aload_n 0, 1) := dk_42 (dk_at dksX2_init_0 4 rfl rfl)
theorem dX2_init_5 : decode cX2_init 5 = .ok (.iconst 4, 1) := dk_7 (dk_at dksX2_init_0 5 rfl rfl)
theorem dX2_init_6 : decode cX2_init 6 = .ok (.newarray .int, 2) := dk_188_10 (dk_at dksX2_init_0 6 rfl rfl)
theorem dX2_init_8 : decode cX2_init 8 = .ok (.putfield 9, 3) := dk_181 0 9 (dk_at dksX2_init_0 8 rfl rfl)
theorem dX2_init_11 : decode cX2_init 11 = .ok (.aload_n 0, 1) := dk_42 (dk_at dksX2_init_0 11 rfl rfl)
theorem dX2_init_12 : decode cX2_init 12 = .ok (.new 15, 3) := dk_187 0 15 (dk_at dksX2_init_0 12 rfl rfl)
theorem dX2_init_15 : decode cX2_init 15 = .ok (.dup, 1) := dk_89 (dk_at dksX2_init_0 15 rfl rfl)
theorem dX2_init_16 : decode cX2_init 16 = .ok (.invokespecial 17, 3) := dk_183 0 17 (dk_at dksX2_init_0 16 rfl rfl)
theorem dX2_init_19 : decode cX2_init 19 = .ok (.putfield 18, 3) := dk_181 0 18 (dk_at dksX2_init_0 19 rfl rfl)
theorem dX2_init_22 : decode cX2_init 22 = .ok (.aload_n 0, 1) := dk_42 (dk_at dksX2_init_0 22 rfl rfl)
theorem dX2_init_23 : decode cX2_init 23 = .ok (.iconst 0, 1) := dk_3 (dk_at dksX2_init_0 23 rfl rfl)
theorem dX2_init_24 : decode cX2_init 24 = .ok (.invokevirtual 22, 3) := dk_182 0 22 (dk_at dksX2_init_1 0 rfl rfl)
theorem dX2_init_27 : decode cX2_init 27 = .ok (.return_, 1) := dk_177 (dk_at dksX2_init_1 3 rfl rfl)
abbrev cX2_begin : ByteArray := prog_14_method_2_code
def yX2_begin : MethodName := ⟨RX2, "begin", "(I)V"⟩
def dkwX2_begin_2 : List UInt8 := [167, 255, 235, 177]
abbrev dktX2_begin_2 : List UInt8 := dkwX2_begin_2 ++ []
def dkwX2_begin_1 : List UInt8 := [3, 61, 28, 7, 162, 0, 22, 42, 180, 0, 9, 28, 42, 180, 0, 34, 182, 0, 41, 79, 132, 2, 1]
abbrev dktX2_begin_1 : List UInt8 := dkwX2_begin_1 ++ dktX2_begin_2
def dkwX2_begin_0 : List UInt8 := [42, 27, 181, 0, 26, 42, 187, 0, 30, 89, 27, 183, 0, 32, 181, 0, 34, 42, 180, 0, 18, 182, 0, 38]
abbrev dktX2_begin_0 : List UInt8 := dkwX2_begin_0 ++ dktX2_begin_1
theorem dksX2_begin_0 : cX2_begin.data.toList.drop 0 = dktX2_begin_0 := by decide +kernel
theorem dksX2_begin_1 : cX2_begin.data.toList.drop 24 = dktX2_begin_1 := dk_seg dksX2_begin_0 24 rfl rfl
theorem dksX2_begin_2 : cX2_begin.data.toList.drop 47 = dktX2_begin_2 := dk_seg dksX2_begin_1 23 rfl rfl
theorem dX2_begin_0 : decode cX2_begin 0 = .ok (.aload_n 0, 1) := dk_42 (dk_at dksX2_begin_0 0 rfl rfl)
theorem dX2_begin_1 : decode cX2_begin 1 = .ok (.iload_n 1, 1) := dk_27 (dk_at dksX2_begin_0 1 rfl rfl)
theorem dX2_begin_2 : decode cX2_begin 2 = .ok (.putfield 26, 3) := dk_181 0 26 (dk_at dksX2_begin_0 2 rfl rfl)
theorem dX2_begin_5 : decode cX2_begin 5 = .ok (.aload_n 0, 1) := dk_42 (dk_at dksX2_begin_0 5 rfl rfl)
theorem dX2_begin_6 : decode cX2_begin 6 = .ok (.new 30, 3) := dk_187 0 30 (dk_at dksX2_begin_0 6 rfl rfl)
theorem dX2_begin_9 : decode cX2_begin 9 = .ok (.dup, 1) := dk_89 (dk_at dksX2_begin_0 9 rfl rfl)
theorem dX2_begin_10 : decode cX2_begin 10 = .ok (.iload_n 1, 1) := dk_27 (dk_at dksX2_begin_0 10 rfl rfl)
theorem dX2_begin_11 : decode cX2_begin 11 = .ok (.invokespecial 32, 3) := dk_183 0 32 (dk_at dksX2_begin_0 11 rfl rfl)
theorem dX2_begin_14 : decode cX2_begin 14 = .ok (.putfield 34, 3) := dk_181 0 34 (dk_at dksX2_begin_0 14 rfl rfl)
theorem dX2_begin_17 : decode cX2_begin 17 = .ok (.aload_n 0, 1) := dk_42 (dk_at dksX2_begin_0 17 rfl rfl)
theorem dX2_begin_18 : decode cX2_begin 18 = .ok (.getfield 18, 3) := dk_180 0 18 (dk_at dksX2_begin_0 18 rfl rfl)
theorem dX2_begin_21 : decode cX2_begin 21 = .ok (.invokevirtual 38, 3) := dk_182 0 38 (dk_at dksX2_begin_0 21 rfl rfl)
theorem dX2_begin_24 : decode cX2_begin 24 = .ok (.iconst 0, 1) := dk_3 (dk_at dksX2_begin_1 0 rfl rfl)
theorem dX2_begin_25 : decode cX2_begin 25 = .ok (.istore_n 2, 1) := dk_61 (dk_at dksX2_begin_1 1 rfl rfl)
theorem dX2_begin_26 : decode cX2_begin 26 = .ok (.iload_n 2, 1) := dk_28 (dk_at dksX2_begin_1 2 rfl rfl)
theorem dX2_begin_27 : decode cX2_begin 27 = .ok (.iconst 4, 1) := dk_7 (dk_at dksX2_begin_1 3 rfl rfl)
theorem dX2_begin_28 : decode cX2_begin 28 = .ok (.if_icmp .ge 22, 3) := dk_162 0 22 (dk_at dksX2_begin_1 4 rfl rfl)
theorem dX2_begin_31 : decode cX2_begin 31 = .ok (.aload_n 0, 1) := dk_42 (dk_at dksX2_begin_1 7 rfl rfl)
theorem dX2_begin_32 : decode cX2_begin 32 = .ok (.getfield 9, 3) := dk_180 0 9 (dk_at dksX2_begin_1 8 rfl rfl)
theorem dX2_begin_35 : decode cX2_begin 35 = .ok (.iload_n 2, 1) := dk_28 (dk_at dksX2_begin_1 11 rfl rfl)
theorem dX2_begin_36 : decode cX2_begin 36 = .ok (.aload_n 0, 1) := dk_42 (dk_at dksX2_begin_1 12 rfl rfl)
theorem dX2_begin_37 : decode cX2_begin 37 = .ok (.getfield 34, 3) := dk_180 0 34 (dk_at dksX2_begin_1 13 rfl rfl)
theorem dX2_begin_40 : decode cX2_begin 40 = .ok (.invokevirtual 41, 3) := dk_182 0 41 (dk_at dksX2_begin_1 16 rfl rfl)
theorem dX2_begin_43 : decode cX2_begin 43 = .ok (.iastore, 1) := dk_79 (dk_at dksX2_begin_1 19 rfl rfl)
theorem dX2_begin_44 : decode cX2_begin 44 = .ok (.iinc 2 1, 3) := dk_132 2 1 (dk_at dksX2_begin_1 20 rfl rfl)
theorem dX2_begin_47 : decode cX2_begin 47 = .ok (.goto (-21), 3) := dk_167 255 235 (dk_at dksX2_begin_2 0 rfl rfl)
theorem dX2_begin_50 : decode cX2_begin 50 = .ok (.return_, 1) := dk_177 (dk_at dksX2_begin_2 3 rfl rfl)
abbrev cX2_isSpent : ByteArray := prog_14_method_3_code
def yX2_isSpent : MethodName := ⟨RX2, "isSpent", "()Z"⟩
def dkwX2_isSpent_0 : List UInt8 := [42, 180, 0, 18, 182, 0, 45, 16, 8, 160, 0, 7, 4, 167, 0, 4, 3, 172]
abbrev dktX2_isSpent_0 : List UInt8 := dkwX2_isSpent_0 ++ []
theorem dksX2_isSpent_0 : cX2_isSpent.data.toList.drop 0 = dktX2_isSpent_0 := by decide +kernel
theorem dX2_isSpent_0 : decode cX2_isSpent 0 = .ok (.aload_n 0, 1) := dk_42 (dk_at dksX2_isSpent_0 0 rfl rfl)
theorem dX2_isSpent_1 : decode cX2_isSpent 1 = .ok (.getfield 18, 3) := dk_180 0 18 (dk_at dksX2_isSpent_0 1 rfl rfl)
theorem dX2_isSpent_4 : decode cX2_isSpent 4 = .ok (.invokevirtual 45, 3) := dk_182 0 45 (dk_at dksX2_isSpent_0 4 rfl rfl)
theorem dX2_isSpent_7 : decode cX2_isSpent 7 = .ok (.bipush 8, 2) := dk_16 8 (dk_at dksX2_isSpent_0 7 rfl rfl)
theorem dX2_isSpent_9 : decode cX2_isSpent 9 = .ok (.if_icmp .ne 7, 3) := dk_160 0 7 (dk_at dksX2_isSpent_0 9 rfl rfl)
theorem dX2_isSpent_12 : decode cX2_isSpent 12 = .ok (.iconst 1, 1) := dk_4 (dk_at dksX2_isSpent_0 12 rfl rfl)
theorem dX2_isSpent_13 : decode cX2_isSpent 13 = .ok (.goto 4, 3) := dk_167 0 4 (dk_at dksX2_isSpent_0 13 rfl rfl)
theorem dX2_isSpent_16 : decode cX2_isSpent 16 = .ok (.iconst 0, 1) := dk_3 (dk_at dksX2_isSpent_0 16 rfl rfl)
theorem dX2_isSpent_17 : decode cX2_isSpent 17 = .ok (.ireturn, 1) := dk_172 (dk_at dksX2_isSpent_0 17 rfl rfl)
abbrev cX2_leak : ByteArray := prog_14_method_4_code
def yX2_leak : MethodName := ⟨RX2, "leak", "(I)I"⟩
def dkwX2_leak_1 : List UInt8 := [180, 0, 34, 182, 0, 41, 79, 42, 180, 0, 9, 27, 46, 172]
abbrev dktX2_leak_1 : List UInt8 := dkwX2_leak_1 ++ []
def dkwX2_leak_0 : List UInt8 := [42, 180, 0, 18, 42, 180, 0, 9, 27, 46, 184, 0, 48, 182, 0, 54, 87, 42, 180, 0, 9, 27, 42]
abbrev dktX2_leak_0 : List UInt8 := dkwX2_leak_0 ++ dktX2_leak_1
theorem dksX2_leak_0 : cX2_leak.data.toList.drop 0 = dktX2_leak_0 := by decide +kernel
theorem dksX2_leak_1 : cX2_leak.data.toList.drop 23 = dktX2_leak_1 := dk_seg dksX2_leak_0 23 rfl rfl
theorem dX2_leak_0 : decode cX2_leak 0 = .ok (.aload_n 0, 1) := dk_42 (dk_at dksX2_leak_0 0 rfl rfl)
theorem dX2_leak_1 : decode cX2_leak 1 = .ok (.getfield 18, 3) := dk_180 0 18 (dk_at dksX2_leak_0 1 rfl rfl)
theorem dX2_leak_4 : decode cX2_leak 4 = .ok (.aload_n 0, 1) := dk_42 (dk_at dksX2_leak_0 4 rfl rfl)
theorem dX2_leak_5 : decode cX2_leak 5 = .ok (.getfield 9, 3) := dk_180 0 9 (dk_at dksX2_leak_0 5 rfl rfl)
theorem dX2_leak_8 : decode cX2_leak 8 = .ok (.iload_n 1, 1) := dk_27 (dk_at dksX2_leak_0 8 rfl rfl)
theorem dX2_leak_9 : decode cX2_leak 9 = .ok (.iaload, 1) := dk_46 (dk_at dksX2_leak_0 9 rfl rfl)
theorem dX2_leak_10 : decode cX2_leak 10 = .ok (.invokestatic 48, 3) := dk_184 0 48 (dk_at dksX2_leak_0 10 rfl rfl)
theorem dX2_leak_13 : decode cX2_leak 13 = .ok (.invokevirtual 54, 3) := dk_182 0 54 (dk_at dksX2_leak_0 13 rfl rfl)
theorem dX2_leak_16 : decode cX2_leak 16 = .ok (.pop, 1) := dk_87 (dk_at dksX2_leak_0 16 rfl rfl)
theorem dX2_leak_17 : decode cX2_leak 17 = .ok (.aload_n 0, 1) := dk_42 (dk_at dksX2_leak_0 17 rfl rfl)
theorem dX2_leak_18 : decode cX2_leak 18 = .ok (.getfield 9, 3) := dk_180 0 9 (dk_at dksX2_leak_0 18 rfl rfl)
theorem dX2_leak_21 : decode cX2_leak 21 = .ok (.iload_n 1, 1) := dk_27 (dk_at dksX2_leak_0 21 rfl rfl)
theorem dX2_leak_22 : decode cX2_leak 22 = .ok (.aload_n 0, 1) := dk_42 (dk_at dksX2_leak_0 22 rfl rfl)
theorem dX2_leak_23 : decode cX2_leak 23 = .ok (.getfield 34, 3) := dk_180 0 34 (dk_at dksX2_leak_1 0 rfl rfl)
theorem dX2_leak_26 : decode cX2_leak 26 = .ok (.invokevirtual 41, 3) := dk_182 0 41 (dk_at dksX2_leak_1 3 rfl rfl)
theorem dX2_leak_29 : decode cX2_leak 29 = .ok (.iastore, 1) := dk_79 (dk_at dksX2_leak_1 6 rfl rfl)
theorem dX2_leak_30 : decode cX2_leak 30 = .ok (.aload_n 0, 1) := dk_42 (dk_at dksX2_leak_1 7 rfl rfl)
theorem dX2_leak_31 : decode cX2_leak 31 = .ok (.getfield 9, 3) := dk_180 0 9 (dk_at dksX2_leak_1 8 rfl rfl)
theorem dX2_leak_34 : decode cX2_leak 34 = .ok (.iload_n 1, 1) := dk_27 (dk_at dksX2_leak_1 11 rfl rfl)
theorem dX2_leak_35 : decode cX2_leak 35 = .ok (.iaload, 1) := dk_46 (dk_at dksX2_leak_1 12 rfl rfl)
theorem dX2_leak_36 : decode cX2_leak 36 = .ok (.ireturn, 1) := dk_172 (dk_at dksX2_leak_1 13 rfl rfl)
abbrev cX2_answer : ByteArray := prog_14_method_6_code
def yX2_answer : MethodName := ⟨RX2, "answer", "(LNightwatchWall$Guard;II)I"⟩
def dkwX2_answer_2 : List UInt8 := [160, 0, 9, 43, 4, 182, 0, 75, 172, 43, 89, 180, 0, 79, 4, 28, 120, 128, 181, 0, 79, 3, 172]
abbrev dktX2_answer_2 : List UInt8 := dkwX2_answer_2 ++ []
def dkwX2_answer_1 : List UInt8 := [182, 0, 71, 153, 0, 7, 5, 167, 0, 4, 6, 182, 0, 75, 172, 43, 180, 0, 79, 28, 122, 4, 126, 4]
abbrev dktX2_answer_1 : List UInt8 := dkwX2_answer_1 ++ dktX2_answer_2
def dkwX2_answer_0 : List UInt8 := [43, 182, 0, 65, 153, 0, 5, 7, 172, 42, 180, 0, 9, 28, 46, 29, 159, 0, 21, 43, 42, 29]
abbrev dktX2_answer_0 : List UInt8 := dkwX2_answer_0 ++ dktX2_answer_1
theorem dksX2_answer_0 : cX2_answer.data.toList.drop 0 = dktX2_answer_0 := by decide +kernel
theorem dksX2_answer_1 : cX2_answer.data.toList.drop 22 = dktX2_answer_1 := dk_seg dksX2_answer_0 22 rfl rfl
theorem dksX2_answer_2 : cX2_answer.data.toList.drop 46 = dktX2_answer_2 := dk_seg dksX2_answer_1 24 rfl rfl
theorem dX2_answer_0 : decode cX2_answer 0 = .ok (.aload_n 1, 1) := dk_43 (dk_at dksX2_answer_0 0 rfl rfl)
theorem dX2_answer_1 : decode cX2_answer 1 = .ok (.invokevirtual 65, 3) := dk_182 0 65 (dk_at dksX2_answer_0 1 rfl rfl)
theorem dX2_answer_4 : decode cX2_answer 4 = .ok (.ifCond .eq 5, 3) := dk_153 0 5 (dk_at dksX2_answer_0 4 rfl rfl)
theorem dX2_answer_7 : decode cX2_answer 7 = .ok (.iconst 4, 1) := dk_7 (dk_at dksX2_answer_0 7 rfl rfl)
theorem dX2_answer_8 : decode cX2_answer 8 = .ok (.ireturn, 1) := dk_172 (dk_at dksX2_answer_0 8 rfl rfl)
theorem dX2_answer_9 : decode cX2_answer 9 = .ok (.aload_n 0, 1) := dk_42 (dk_at dksX2_answer_0 9 rfl rfl)
theorem dX2_answer_10 : decode cX2_answer 10 = .ok (.getfield 9, 3) := dk_180 0 9 (dk_at dksX2_answer_0 10 rfl rfl)
theorem dX2_answer_13 : decode cX2_answer 13 = .ok (.iload_n 2, 1) := dk_28 (dk_at dksX2_answer_0 13 rfl rfl)
theorem dX2_answer_14 : decode cX2_answer 14 = .ok (.iaload, 1) := dk_46 (dk_at dksX2_answer_0 14 rfl rfl)
theorem dX2_answer_15 : decode cX2_answer 15 = .ok (.iload_n 3, 1) := dk_29 (dk_at dksX2_answer_0 15 rfl rfl)
theorem dX2_answer_16 : decode cX2_answer 16 = .ok (.if_icmp .eq 21, 3) := dk_159 0 21 (dk_at dksX2_answer_0 16 rfl rfl)
theorem dX2_answer_19 : decode cX2_answer 19 = .ok (.aload_n 1, 1) := dk_43 (dk_at dksX2_answer_0 19 rfl rfl)
theorem dX2_answer_20 : decode cX2_answer 20 = .ok (.aload_n 0, 1) := dk_42 (dk_at dksX2_answer_0 20 rfl rfl)
theorem dX2_answer_21 : decode cX2_answer 21 = .ok (.iload_n 3, 1) := dk_29 (dk_at dksX2_answer_0 21 rfl rfl)
theorem dX2_answer_22 : decode cX2_answer 22 = .ok (.invokevirtual 71, 3) := dk_182 0 71 (dk_at dksX2_answer_1 0 rfl rfl)
theorem dX2_answer_25 : decode cX2_answer 25 = .ok (.ifCond .eq 7, 3) := dk_153 0 7 (dk_at dksX2_answer_1 3 rfl rfl)
theorem dX2_answer_28 : decode cX2_answer 28 = .ok (.iconst 2, 1) := dk_5 (dk_at dksX2_answer_1 6 rfl rfl)
theorem dX2_answer_29 : decode cX2_answer 29 = .ok (.goto 4, 3) := dk_167 0 4 (dk_at dksX2_answer_1 7 rfl rfl)
theorem dX2_answer_32 : decode cX2_answer 32 = .ok (.iconst 3, 1) := dk_6 (dk_at dksX2_answer_1 10 rfl rfl)
theorem dX2_answer_33 : decode cX2_answer 33 = .ok (.invokevirtual 75, 3) := dk_182 0 75 (dk_at dksX2_answer_1 11 rfl rfl)
theorem dX2_answer_36 : decode cX2_answer 36 = .ok (.ireturn, 1) := dk_172 (dk_at dksX2_answer_1 14 rfl rfl)
theorem dX2_answer_37 : decode cX2_answer 37 = .ok (.aload_n 1, 1) := dk_43 (dk_at dksX2_answer_1 15 rfl rfl)
theorem dX2_answer_38 : decode cX2_answer 38 = .ok (.getfield 79, 3) := dk_180 0 79 (dk_at dksX2_answer_1 16 rfl rfl)
theorem dX2_answer_41 : decode cX2_answer 41 = .ok (.iload_n 2, 1) := dk_28 (dk_at dksX2_answer_1 19 rfl rfl)
theorem dX2_answer_42 : decode cX2_answer 42 = .ok (.ishr, 1) := dk_122 (dk_at dksX2_answer_1 20 rfl rfl)
theorem dX2_answer_43 : decode cX2_answer 43 = .ok (.iconst 1, 1) := dk_4 (dk_at dksX2_answer_1 21 rfl rfl)
theorem dX2_answer_44 : decode cX2_answer 44 = .ok (.iand, 1) := dk_126 (dk_at dksX2_answer_1 22 rfl rfl)
theorem dX2_answer_45 : decode cX2_answer 45 = .ok (.iconst 1, 1) := dk_4 (dk_at dksX2_answer_1 23 rfl rfl)
theorem dX2_answer_46 : decode cX2_answer 46 = .ok (.if_icmp .ne 9, 3) := dk_160 0 9 (dk_at dksX2_answer_2 0 rfl rfl)
theorem dX2_answer_49 : decode cX2_answer 49 = .ok (.aload_n 1, 1) := dk_43 (dk_at dksX2_answer_2 3 rfl rfl)
theorem dX2_answer_50 : decode cX2_answer 50 = .ok (.iconst 1, 1) := dk_4 (dk_at dksX2_answer_2 4 rfl rfl)
theorem dX2_answer_51 : decode cX2_answer 51 = .ok (.invokevirtual 75, 3) := dk_182 0 75 (dk_at dksX2_answer_2 5 rfl rfl)
theorem dX2_answer_54 : decode cX2_answer 54 = .ok (.ireturn, 1) := dk_172 (dk_at dksX2_answer_2 8 rfl rfl)
theorem dX2_answer_55 : decode cX2_answer 55 = .ok (.aload_n 1, 1) := dk_43 (dk_at dksX2_answer_2 9 rfl rfl)
theorem dX2_answer_56 : decode cX2_answer 56 = .ok (.dup, 1) := dk_89 (dk_at dksX2_answer_2 10 rfl rfl)
theorem dX2_answer_57 : decode cX2_answer 57 = .ok (.getfield 79, 3) := dk_180 0 79 (dk_at dksX2_answer_2 11 rfl rfl)
theorem dX2_answer_60 : decode cX2_answer 60 = .ok (.iconst 1, 1) := dk_4 (dk_at dksX2_answer_2 14 rfl rfl)
theorem dX2_answer_61 : decode cX2_answer 61 = .ok (.iload_n 2, 1) := dk_28 (dk_at dksX2_answer_2 15 rfl rfl)
theorem dX2_answer_62 : decode cX2_answer 62 = .ok (.ishl, 1) := dk_120 (dk_at dksX2_answer_2 16 rfl rfl)
theorem dX2_answer_63 : decode cX2_answer 63 = .ok (.ior, 1) := dk_128 (dk_at dksX2_answer_2 17 rfl rfl)
theorem dX2_answer_64 : decode cX2_answer 64 = .ok (.putfield 79, 3) := dk_181 0 79 (dk_at dksX2_answer_2 18 rfl rfl)
theorem dX2_answer_67 : decode cX2_answer 67 = .ok (.iconst 0, 1) := dk_3 (dk_at dksX2_answer_2 21 rfl rfl)
theorem dX2_answer_68 : decode cX2_answer 68 = .ok (.ireturn, 1) := dk_172 (dk_at dksX2_answer_2 22 rfl rfl)
abbrev cX2_isKnown : ByteArray := prog_14_method_5_code
def yX2_isKnown : MethodName := ⟨RX2, "isKnown", "(I)Z"⟩
def dkwX2_isKnown_2 : List UInt8 := [192, 0, 49, 182, 0, 62, 27, 160, 0, 5, 4, 172, 132, 2, 1, 167, 255, 222, 3, 172]
abbrev dktX2_isKnown_2 : List UInt8 := dkwX2_isKnown_2 ++ []
def dkwX2_isKnown_1 : List UInt8 := [167, 255, 236, 3, 61, 28, 42, 180, 0, 18, 182, 0, 45, 162, 0, 29, 42, 180, 0, 18, 28, 182, 0, 58]
abbrev dktX2_isKnown_1 : List UInt8 := dkwX2_isKnown_1 ++ dktX2_isKnown_2
def dkwX2_isKnown_0 : List UInt8 := [3, 61, 28, 7, 162, 0, 21, 42, 180, 0, 9, 28, 46, 27, 160, 0, 5, 4, 172, 132, 2, 1]
abbrev dktX2_isKnown_0 : List UInt8 := dkwX2_isKnown_0 ++ dktX2_isKnown_1
theorem dksX2_isKnown_0 : cX2_isKnown.data.toList.drop 0 = dktX2_isKnown_0 := by decide +kernel
theorem dksX2_isKnown_1 : cX2_isKnown.data.toList.drop 22 = dktX2_isKnown_1 := dk_seg dksX2_isKnown_0 22 rfl rfl
theorem dksX2_isKnown_2 : cX2_isKnown.data.toList.drop 46 = dktX2_isKnown_2 := dk_seg dksX2_isKnown_1 24 rfl rfl
theorem dX2_isKnown_0 : decode cX2_isKnown 0 = .ok (.iconst 0, 1) := dk_3 (dk_at dksX2_isKnown_0 0 rfl rfl)
theorem dX2_isKnown_1 : decode cX2_isKnown 1 = .ok (.istore_n 2, 1) := dk_61 (dk_at dksX2_isKnown_0 1 rfl rfl)
theorem dX2_isKnown_2 : decode cX2_isKnown 2 = .ok (.iload_n 2, 1) := dk_28 (dk_at dksX2_isKnown_0 2 rfl rfl)
theorem dX2_isKnown_3 : decode cX2_isKnown 3 = .ok (.iconst 4, 1) := dk_7 (dk_at dksX2_isKnown_0 3 rfl rfl)
theorem dX2_isKnown_4 : decode cX2_isKnown 4 = .ok (.if_icmp .ge 21, 3) := dk_162 0 21 (dk_at dksX2_isKnown_0 4 rfl rfl)
theorem dX2_isKnown_7 : decode cX2_isKnown 7 = .ok (.aload_n 0, 1) := dk_42 (dk_at dksX2_isKnown_0 7 rfl rfl)
theorem dX2_isKnown_8 : decode cX2_isKnown 8 = .ok (.getfield 9, 3) := dk_180 0 9 (dk_at dksX2_isKnown_0 8 rfl rfl)
theorem dX2_isKnown_11 : decode cX2_isKnown 11 = .ok (.iload_n 2, 1) := dk_28 (dk_at dksX2_isKnown_0 11 rfl rfl)
theorem dX2_isKnown_12 : decode cX2_isKnown 12 = .ok (.iaload, 1) := dk_46 (dk_at dksX2_isKnown_0 12 rfl rfl)
theorem dX2_isKnown_13 : decode cX2_isKnown 13 = .ok (.iload_n 1, 1) := dk_27 (dk_at dksX2_isKnown_0 13 rfl rfl)
theorem dX2_isKnown_14 : decode cX2_isKnown 14 = .ok (.if_icmp .ne 5, 3) := dk_160 0 5 (dk_at dksX2_isKnown_0 14 rfl rfl)
theorem dX2_isKnown_17 : decode cX2_isKnown 17 = .ok (.iconst 1, 1) := dk_4 (dk_at dksX2_isKnown_0 17 rfl rfl)
theorem dX2_isKnown_18 : decode cX2_isKnown 18 = .ok (.ireturn, 1) := dk_172 (dk_at dksX2_isKnown_0 18 rfl rfl)
theorem dX2_isKnown_19 : decode cX2_isKnown 19 = .ok (.iinc 2 1, 3) := dk_132 2 1 (dk_at dksX2_isKnown_0 19 rfl rfl)
theorem dX2_isKnown_22 : decode cX2_isKnown 22 = .ok (.goto (-20), 3) := dk_167 255 236 (dk_at dksX2_isKnown_1 0 rfl rfl)
theorem dX2_isKnown_25 : decode cX2_isKnown 25 = .ok (.iconst 0, 1) := dk_3 (dk_at dksX2_isKnown_1 3 rfl rfl)
theorem dX2_isKnown_26 : decode cX2_isKnown 26 = .ok (.istore_n 2, 1) := dk_61 (dk_at dksX2_isKnown_1 4 rfl rfl)
theorem dX2_isKnown_27 : decode cX2_isKnown 27 = .ok (.iload_n 2, 1) := dk_28 (dk_at dksX2_isKnown_1 5 rfl rfl)
theorem dX2_isKnown_28 : decode cX2_isKnown 28 = .ok (.aload_n 0, 1) := dk_42 (dk_at dksX2_isKnown_1 6 rfl rfl)
theorem dX2_isKnown_29 : decode cX2_isKnown 29 = .ok (.getfield 18, 3) := dk_180 0 18 (dk_at dksX2_isKnown_1 7 rfl rfl)
theorem dX2_isKnown_32 : decode cX2_isKnown 32 = .ok (.invokevirtual 45, 3) := dk_182 0 45 (dk_at dksX2_isKnown_1 10 rfl rfl)
theorem dX2_isKnown_35 : decode cX2_isKnown 35 = .ok (.if_icmp .ge 29, 3) := dk_162 0 29 (dk_at dksX2_isKnown_1 13 rfl rfl)
theorem dX2_isKnown_38 : decode cX2_isKnown 38 = .ok (.aload_n 0, 1) := dk_42 (dk_at dksX2_isKnown_1 16 rfl rfl)
theorem dX2_isKnown_39 : decode cX2_isKnown 39 = .ok (.getfield 18, 3) := dk_180 0 18 (dk_at dksX2_isKnown_1 17 rfl rfl)
theorem dX2_isKnown_42 : decode cX2_isKnown 42 = .ok (.iload_n 2, 1) := dk_28 (dk_at dksX2_isKnown_1 20 rfl rfl)
theorem dX2_isKnown_43 : decode cX2_isKnown 43 = .ok (.invokevirtual 58, 3) := dk_182 0 58 (dk_at dksX2_isKnown_1 21 rfl rfl)
theorem dX2_isKnown_46 : decode cX2_isKnown 46 = .ok (.checkcast 49, 3) := dk_192 0 49 (dk_at dksX2_isKnown_2 0 rfl rfl)
theorem dX2_isKnown_49 : decode cX2_isKnown 49 = .ok (.invokevirtual 62, 3) := dk_182 0 62 (dk_at dksX2_isKnown_2 3 rfl rfl)
theorem dX2_isKnown_52 : decode cX2_isKnown 52 = .ok (.iload_n 1, 1) := dk_27 (dk_at dksX2_isKnown_2 6 rfl rfl)
theorem dX2_isKnown_53 : decode cX2_isKnown 53 = .ok (.if_icmp .ne 5, 3) := dk_160 0 5 (dk_at dksX2_isKnown_2 7 rfl rfl)
theorem dX2_isKnown_56 : decode cX2_isKnown 56 = .ok (.iconst 1, 1) := dk_4 (dk_at dksX2_isKnown_2 10 rfl rfl)
theorem dX2_isKnown_57 : decode cX2_isKnown 57 = .ok (.ireturn, 1) := dk_172 (dk_at dksX2_isKnown_2 11 rfl rfl)
theorem dX2_isKnown_58 : decode cX2_isKnown 58 = .ok (.iinc 2 1, 3) := dk_132 2 1 (dk_at dksX2_isKnown_2 12 rfl rfl)
theorem dX2_isKnown_61 : decode cX2_isKnown 61 = .ok (.goto (-34), 3) := dk_167 255 222 (dk_at dksX2_isKnown_2 15 rfl rfl)
theorem dX2_isKnown_64 : decode cX2_isKnown 64 = .ok (.iconst 0, 1) := dk_3 (dk_at dksX2_isKnown_2 18 rfl rfl)
theorem dX2_isKnown_65 : decode cX2_isKnown 65 = .ok (.ireturn, 1) := dk_172 (dk_at dksX2_isKnown_2 19 rfl rfl)
theorem q91 : (Jvm.Cond.initialized "NightwatchWall$Words") ∈ lw_all := lw_g (lw_at lw_m1 6 rfl) rfl
theorem q170 : (Jvm.Cond.instantiable "NightwatchWall$Words" (4 : Nat)) ∈ lw_all := lw_g (lw_at lw_m1 85 rfl) rfl
theorem q172 : (Jvm.Cond.instanceMethod ({ cls := "NightwatchWall$Words", name := "<init>", desc := "()V" } : Jvm.MethodName)) ∈ lw_all := lw_g (lw_at lw_m1 87 rfl) rfl
theorem q173 : (Jvm.Cond.code ({ cls := "NightwatchWall$Words", name := "<init>", desc := "()V" } : Jvm.MethodName) prog_14_method_1_code (1 : Nat) (Option.none : Option Jvm.ClassFile.FieldType)) ∈ lw_all := lw_g (lw_at lw_m1 88 rfl) rfl
theorem q174 : (Jvm.Cond.methodLink "NightwatchWall$Words" (3 : Nat) ({ cls := "java/lang/Object", name := "<init>", desc := "()V" } : Jvm.MethodName)) ∈ lw_all := lw_g (lw_at lw_m1 89 rfl) rfl
theorem q175 : (Jvm.Cond.classLink "NightwatchWall$Words" (15 : Nat) "java/util/ArrayList") ∈ lw_all := lw_g (lw_at lw_m1 90 rfl) rfl
theorem q176 : (Jvm.Cond.methodLink "NightwatchWall$Words" (17 : Nat) ({ cls := "java/util/ArrayList", name := "<init>", desc := "()V" } : Jvm.MethodName)) ∈ lw_all := lw_g (lw_at lw_m1 91 rfl) rfl
theorem q177 : (Jvm.Cond.methodLink "NightwatchWall$Words" (22 : Nat) ({ cls := "NightwatchWall$Words", name := "begin", desc := "(I)V" } : Jvm.MethodName)) ∈ lw_all := lw_g (lw_at lw_m1 92 rfl) rfl
theorem q178 : (Jvm.Cond.instanceMethod ({ cls := "NightwatchWall$Words", name := "begin", desc := "(I)V" } : Jvm.MethodName)) ∈ lw_all := lw_g (lw_at lw_m1 93 rfl) rfl
theorem q179 : (Jvm.Cond.selects "NightwatchWall$Words" ({ cls := "NightwatchWall$Words", name := "begin", desc := "(I)V" } : Jvm.MethodName) ({ cls := "NightwatchWall$Words", name := "begin", desc := "(I)V" } : Jvm.MethodName)) ∈ lw_all := lw_g (lw_at lw_m1 94 rfl) rfl
theorem q180 : (Jvm.Cond.code ({ cls := "NightwatchWall$Words", name := "begin", desc := "(I)V" } : Jvm.MethodName) prog_14_method_2_code (3 : Nat) (Option.none : Option Jvm.ClassFile.FieldType)) ∈ lw_all := lw_g (lw_at lw_m1 95 rfl) rfl
theorem q181 : (Jvm.Cond.classLink "NightwatchWall$Words" (30 : Nat) "NightwatchWall$Row") ∈ lw_all := lw_g (lw_at lw_m1 96 rfl) rfl
theorem q183 : (Jvm.Cond.methodLink "NightwatchWall$Words" (32 : Nat) ({ cls := "NightwatchWall$Row", name := "<init>", desc := "(I)V" } : Jvm.MethodName)) ∈ lw_all := lw_g (lw_at lw_m1 98 rfl) rfl
theorem q192 : (Jvm.Cond.methodLink "NightwatchWall$Words" (38 : Nat) ({ cls := "java/util/ArrayList", name := "clear", desc := "()V" } : Jvm.MethodName)) ∈ lw_all := lw_g (lw_at lw_m1 107 rfl) rfl
theorem q196 : (Jvm.Cond.methodLink "NightwatchWall$Words" (41 : Nat) ({ cls := "NightwatchWall$Row", name := "next", desc := "()I" } : Jvm.MethodName)) ∈ lw_all := lw_g (lw_at lw_m1 111 rfl) rfl
theorem q200 : (Jvm.Cond.fieldLink "NightwatchWall$Words" (26 : Nat) "NightwatchWall$Words" "seed" "I") ∈ lw_all := lw_g (lw_at lw_m1 115 rfl) rfl
theorem q202 : (Jvm.Cond.fieldLink "NightwatchWall$Words" (34 : Nat) "NightwatchWall$Words" "row" "LNightwatchWall$Row;") ∈ lw_all := lw_g (lw_at lw_m1 117 rfl) rfl
theorem q203 : (Jvm.Cond.fieldLink "NightwatchWall$Words" (9 : Nat) "NightwatchWall$Words" "now" "[I") ∈ lw_all := lw_g (lw_at lw_m1 118 rfl) rfl
theorem q205 : (Jvm.Cond.fieldLink "NightwatchWall$Words" (18 : Nat) "NightwatchWall$Words" "old" "Ljava/util/ArrayList;") ∈ lw_all := lw_g (lw_at lw_m1 120 rfl) rfl
theorem q207 : (Jvm.Cond.lays "NightwatchWall$Words" "NightwatchWall$Words" "seed" "I") ∈ lw_all := lw_g (lw_at lw_m1 122 rfl) rfl
theorem q208 : (Jvm.Cond.soleField "NightwatchWall$Words" "seed") ∈ lw_all := lw_g (lw_at lw_m1 123 rfl) rfl
theorem q209 : (Jvm.Cond.lays "NightwatchWall$Words" "NightwatchWall$Words" "row" "LNightwatchWall$Row;") ∈ lw_all := lw_g (lw_at lw_m1 124 rfl) rfl
theorem q210 : (Jvm.Cond.soleField "NightwatchWall$Words" "row") ∈ lw_all := lw_g (lw_at lw_m1 125 rfl) rfl
theorem q211 : (Jvm.Cond.laysFinal "NightwatchWall$Words" "NightwatchWall$Words" "now" "[I") ∈ lw_all := lw_g (lw_at lw_m1 126 rfl) rfl
theorem q212 : (Jvm.Cond.soleField "NightwatchWall$Words" "now") ∈ lw_all := lw_g (lw_at lw_m1 127 rfl) rfl
theorem q213 : (Jvm.Cond.laysFinal "NightwatchWall$Words" "NightwatchWall$Words" "old" "Ljava/util/ArrayList;") ∈ lw_all := lw_g (lw_at lw_m1 128 rfl) rfl
theorem q214 : (Jvm.Cond.soleField "NightwatchWall$Words" "old") ∈ lw_all := lw_g (lw_at lw_m1 129 rfl) rfl
theorem q215 : (Jvm.Cond.superclass "NightwatchWall$Words" "java/lang/Object") ∈ lw_all := lw_g (lw_at lw_m1 130 rfl) rfl
theorem q930 : (Jvm.Cond.selects "NightwatchWall$Words" ({ cls := "java/lang/Object", name := "getClass", desc := "()Ljava/lang/Class;" } : Jvm.MethodName) ({ cls := "java/lang/Object", name := "getClass", desc := "()Ljava/lang/Class;" } : Jvm.MethodName)) ∈ lw_all := lw_g (lw_at lw_m4 125 rfl) rfl
theorem q1031 : (Jvm.Cond.fieldLinkNest "NightwatchWall$Words" (79 : Nat) "NightwatchWall$Guard" "answered" "I" "NightwatchWall") ∈ lw_tbl := lw_at lw_m4 226 rfl
theorem q1129 : (Jvm.Cond.instanceMethod ({ cls := "NightwatchWall$Words", name := "isSpent", desc := "()Z" } : Jvm.MethodName)) ∈ lw_all := lw_g (lw_at lw_m5 84 rfl) rfl
theorem q1130 : (Jvm.Cond.selects "NightwatchWall$Words" ({ cls := "NightwatchWall$Words", name := "isSpent", desc := "()Z" } : Jvm.MethodName) ({ cls := "NightwatchWall$Words", name := "isSpent", desc := "()Z" } : Jvm.MethodName)) ∈ lw_all := lw_g (lw_at lw_m5 85 rfl) rfl
theorem q1131 : (Jvm.Cond.code ({ cls := "NightwatchWall$Words", name := "isSpent", desc := "()Z" } : Jvm.MethodName) prog_14_method_3_code (1 : Nat) (Option.some Jvm.ClassFile.FieldType.boolean)) ∈ lw_all := lw_g (lw_at lw_m5 86 rfl) rfl
theorem q1132 : (Jvm.Cond.methodLink "NightwatchWall$Words" (45 : Nat) ({ cls := "java/util/ArrayList", name := "size", desc := "()I" } : Jvm.MethodName)) ∈ lw_all := lw_g (lw_at lw_m5 87 rfl) rfl
theorem q1134 : (Jvm.Cond.instanceMethod ({ cls := "NightwatchWall$Words", name := "leak", desc := "(I)I" } : Jvm.MethodName)) ∈ lw_all := lw_g (lw_at lw_m5 89 rfl) rfl
theorem q1135 : (Jvm.Cond.selects "NightwatchWall$Words" ({ cls := "NightwatchWall$Words", name := "leak", desc := "(I)I" } : Jvm.MethodName) ({ cls := "NightwatchWall$Words", name := "leak", desc := "(I)I" } : Jvm.MethodName)) ∈ lw_all := lw_g (lw_at lw_m5 90 rfl) rfl
theorem q1136 : (Jvm.Cond.code ({ cls := "NightwatchWall$Words", name := "leak", desc := "(I)I" } : Jvm.MethodName) prog_14_method_4_code (2 : Nat) (Option.some Jvm.ClassFile.FieldType.int)) ∈ lw_all := lw_g (lw_at lw_m5 91 rfl) rfl
theorem q1137 : (Jvm.Cond.methodLink "NightwatchWall$Words" (48 : Nat) ({ cls := "java/lang/Integer", name := "valueOf", desc := "(I)Ljava/lang/Integer;" } : Jvm.MethodName)) ∈ lw_all := lw_g (lw_at lw_m5 92 rfl) rfl
theorem q1138 : (Jvm.Cond.methodLink "NightwatchWall$Words" (54 : Nat) ({ cls := "java/util/ArrayList", name := "add", desc := "(Ljava/lang/Object;)Z" } : Jvm.MethodName)) ∈ lw_all := lw_g (lw_at lw_m5 93 rfl) rfl
theorem q1150 : (Jvm.Cond.instanceMethod ({ cls := "NightwatchWall$Words", name := "answer", desc := "(LNightwatchWall$Guard;II)I" } : Jvm.MethodName)) ∈ lw_all := lw_g (lw_at lw_m5 105 rfl) rfl
theorem q1151 : (Jvm.Cond.selects "NightwatchWall$Words" ({ cls := "NightwatchWall$Words", name := "answer", desc := "(LNightwatchWall$Guard;II)I" } : Jvm.MethodName) ({ cls := "NightwatchWall$Words", name := "answer", desc := "(LNightwatchWall$Guard;II)I" } : Jvm.MethodName)) ∈ lw_all := lw_g (lw_at lw_m5 106 rfl) rfl
theorem q1152 : (Jvm.Cond.code ({ cls := "NightwatchWall$Words", name := "answer", desc := "(LNightwatchWall$Guard;II)I" } : Jvm.MethodName) prog_14_method_6_code (4 : Nat) (Option.some Jvm.ClassFile.FieldType.int)) ∈ lw_all := lw_g (lw_at lw_m5 107 rfl) rfl
theorem q1153 : (Jvm.Cond.methodLink "NightwatchWall$Words" (65 : Nat) ({ cls := "NightwatchWall$Guard", name := "isBarred", desc := "()Z" } : Jvm.MethodName)) ∈ lw_all := lw_g (lw_at lw_m5 108 rfl) rfl
theorem q1154 : (Jvm.Cond.methodLink "NightwatchWall$Words" (71 : Nat) ({ cls := "NightwatchWall$Words", name := "isKnown", desc := "(I)Z" } : Jvm.MethodName)) ∈ lw_all := lw_g (lw_at lw_m5 109 rfl) rfl
theorem q1155 : (Jvm.Cond.instanceMethod ({ cls := "NightwatchWall$Words", name := "isKnown", desc := "(I)Z" } : Jvm.MethodName)) ∈ lw_all := lw_g (lw_at lw_m5 110 rfl) rfl
theorem q1156 : (Jvm.Cond.selects "NightwatchWall$Words" ({ cls := "NightwatchWall$Words", name := "isKnown", desc := "(I)Z" } : Jvm.MethodName) ({ cls := "NightwatchWall$Words", name := "isKnown", desc := "(I)Z" } : Jvm.MethodName)) ∈ lw_all := lw_g (lw_at lw_m5 111 rfl) rfl
theorem q1157 : (Jvm.Cond.code ({ cls := "NightwatchWall$Words", name := "isKnown", desc := "(I)Z" } : Jvm.MethodName) prog_14_method_5_code (3 : Nat) (Option.some Jvm.ClassFile.FieldType.boolean)) ∈ lw_all := lw_g (lw_at lw_m5 112 rfl) rfl
theorem q1158 : (Jvm.Cond.methodLink "NightwatchWall$Words" (58 : Nat) ({ cls := "java/util/ArrayList", name := "get", desc := "(I)Ljava/lang/Object;" } : Jvm.MethodName)) ∈ lw_all := lw_g (lw_at lw_m5 113 rfl) rfl
theorem q1159 : (Jvm.Cond.classLink "NightwatchWall$Words" (49 : Nat) "java/lang/Integer") ∈ lw_all := lw_g (lw_at lw_m5 114 rfl) rfl
theorem q1160 : (Jvm.Cond.methodLink "NightwatchWall$Words" (62 : Nat) ({ cls := "java/lang/Integer", name := "intValue", desc := "()I" } : Jvm.MethodName)) ∈ lw_all := lw_g (lw_at lw_m5 115 rfl) rfl
theorem q1161 : (Jvm.Cond.methodLink "NightwatchWall$Words" (75 : Nat) ({ cls := "NightwatchWall$Guard", name := "strike", desc := "(I)I" } : Jvm.MethodName)) ∈ lw_all := lw_g (lw_at lw_m5 116 rfl) rfl
theorem q2123 : (Jvm.Cond.castable "NightwatchWall$Words" "java/lang/Object") ∈ lw_tbl := lw_at lw_m9 118 rfl
theorem in_X2 : ∀ w ∈ wsX20, w ∈ lw_all := lw_in wsX20 [207, 209, 211, 213] (by decide +kernel) (by decide +kernel)
/-! NightwatchWall$Row -/
set_option maxRecDepth 100000
def RX3 : String := "NightwatchWall$Row"
def TX3 : u_T := fun k => match k with
  | _ => ("NightwatchWall$Row", "last", "I", false)
def tyX3 : Nat → FieldType := fun k => match k with
  | _ => .int
abbrev wsX30 : List Cond := u_ws RX3 TX3 1
theorem nmX3 : ∀ a, a < 1 → ∀ b, b < 1 → a ≠ b → (TX3 a).2.1 ≠ (TX3 b).2.1 := by decide +kernel
theorem tyX3_ok : ∀ k, k < 1 → parseFieldDescriptor (TX3 k).2.2.1 = some (tyX3 k) := by decide +kernel
abbrev cX3_init : ByteArray := prog_12_method_1_code
def yX3_init : MethodName := ⟨RX3, "<init>", "(I)V"⟩
def dkwX3_init_0 : List UInt8 := [42, 183, 0, 1, 42, 27, 181, 0, 7, 177]
abbrev dktX3_init_0 : List UInt8 := dkwX3_init_0 ++ []
theorem dksX3_init_0 : cX3_init.data.toList.drop 0 = dktX3_init_0 := by decide +kernel
theorem dX3_init_0 : decode cX3_init 0 = .ok (.aload_n 0, 1) := dk_42 (dk_at dksX3_init_0 0 rfl rfl)
theorem dX3_init_1 : decode cX3_init 1 = .ok (.invokespecial 1, 3) := dk_183 0 1 (dk_at dksX3_init_0 1 rfl rfl)
theorem dX3_init_4 : decode cX3_init 4 = .ok (.aload_n 0, 1) := dk_42 (dk_at dksX3_init_0 4 rfl rfl)
theorem dX3_init_5 : decode cX3_init 5 = .ok (.iload_n 1, 1) := dk_27 (dk_at dksX3_init_0 5 rfl rfl)
theorem dX3_init_6 : decode cX3_init 6 = .ok (.putfield 7, 3) := dk_181 0 7 (dk_at dksX3_init_0 6 rfl rfl)
theorem dX3_init_9 : decode cX3_init 9 = .ok (.return_, 1) := dk_177 (dk_at dksX3_init_0 9 rfl rfl)
abbrev cX3_next : ByteArray := prog_12_method_2_code
def yX3_next : MethodName := ⟨RX3, "next", "()I"⟩
def dkwX3_next_0 : List UInt8 := [42, 16, 23, 42, 180, 0, 7, 104, 16, 15, 96, 16, 97, 112, 181, 0, 7, 42, 180, 0, 7, 172]
abbrev dktX3_next_0 : List UInt8 := dkwX3_next_0 ++ []
theorem dksX3_next_0 : cX3_next.data.toList.drop 0 = dktX3_next_0 := by decide +kernel
theorem dX3_next_0 : decode cX3_next 0 = .ok (.aload_n 0, 1) := dk_42 (dk_at dksX3_next_0 0 rfl rfl)
theorem dX3_next_1 : decode cX3_next 1 = .ok (.bipush 23, 2) := dk_16 23 (dk_at dksX3_next_0 1 rfl rfl)
theorem dX3_next_3 : decode cX3_next 3 = .ok (.aload_n 0, 1) := dk_42 (dk_at dksX3_next_0 3 rfl rfl)
theorem dX3_next_4 : decode cX3_next 4 = .ok (.getfield 7, 3) := dk_180 0 7 (dk_at dksX3_next_0 4 rfl rfl)
theorem dX3_next_7 : decode cX3_next 7 = .ok (.imul, 1) := dk_104 (dk_at dksX3_next_0 7 rfl rfl)
theorem dX3_next_8 : decode cX3_next 8 = .ok (.bipush 15, 2) := dk_16 15 (dk_at dksX3_next_0 8 rfl rfl)
theorem dX3_next_10 : decode cX3_next 10 = .ok (.iadd, 1) := dk_96 (dk_at dksX3_next_0 10 rfl rfl)
theorem dX3_next_11 : decode cX3_next 11 = .ok (.bipush 97, 2) := dk_16 97 (dk_at dksX3_next_0 11 rfl rfl)
theorem dX3_next_13 : decode cX3_next 13 = .ok (.irem, 1) := dk_112 (dk_at dksX3_next_0 13 rfl rfl)
theorem dX3_next_14 : decode cX3_next 14 = .ok (.putfield 7, 3) := dk_181 0 7 (dk_at dksX3_next_0 14 rfl rfl)
theorem dX3_next_17 : decode cX3_next 17 = .ok (.aload_n 0, 1) := dk_42 (dk_at dksX3_next_0 17 rfl rfl)
theorem dX3_next_18 : decode cX3_next 18 = .ok (.getfield 7, 3) := dk_180 0 7 (dk_at dksX3_next_0 18 rfl rfl)
theorem dX3_next_21 : decode cX3_next 21 = .ok (.ireturn, 1) := dk_172 (dk_at dksX3_next_0 21 rfl rfl)
theorem q92 : (Jvm.Cond.initialized "NightwatchWall$Row") ∈ lw_all := lw_g (lw_at lw_m1 7 rfl) rfl
theorem q182 : (Jvm.Cond.instantiable "NightwatchWall$Row" (1 : Nat)) ∈ lw_all := lw_g (lw_at lw_m1 97 rfl) rfl
theorem q184 : (Jvm.Cond.instanceMethod ({ cls := "NightwatchWall$Row", name := "<init>", desc := "(I)V" } : Jvm.MethodName)) ∈ lw_all := lw_g (lw_at lw_m1 99 rfl) rfl
theorem q185 : (Jvm.Cond.code ({ cls := "NightwatchWall$Row", name := "<init>", desc := "(I)V" } : Jvm.MethodName) prog_12_method_1_code (2 : Nat) (Option.none : Option Jvm.ClassFile.FieldType)) ∈ lw_all := lw_g (lw_at lw_m1 100 rfl) rfl
theorem q186 : (Jvm.Cond.methodLink "NightwatchWall$Row" (1 : Nat) ({ cls := "java/lang/Object", name := "<init>", desc := "()V" } : Jvm.MethodName)) ∈ lw_all := lw_g (lw_at lw_m1 101 rfl) rfl
theorem q187 : (Jvm.Cond.fieldLink "NightwatchWall$Row" (7 : Nat) "NightwatchWall$Row" "last" "I") ∈ lw_all := lw_g (lw_at lw_m1 102 rfl) rfl
theorem q188 : (Jvm.Cond.lays "NightwatchWall$Row" "NightwatchWall$Row" "last" "I") ∈ lw_all := lw_g (lw_at lw_m1 103 rfl) rfl
theorem q189 : (Jvm.Cond.soleField "NightwatchWall$Row" "last") ∈ lw_all := lw_g (lw_at lw_m1 104 rfl) rfl
theorem q190 : (Jvm.Cond.superclass "NightwatchWall$Row" "java/lang/Object") ∈ lw_all := lw_g (lw_at lw_m1 105 rfl) rfl
theorem q197 : (Jvm.Cond.instanceMethod ({ cls := "NightwatchWall$Row", name := "next", desc := "()I" } : Jvm.MethodName)) ∈ lw_all := lw_g (lw_at lw_m1 112 rfl) rfl
theorem q198 : (Jvm.Cond.selects "NightwatchWall$Row" ({ cls := "NightwatchWall$Row", name := "next", desc := "()I" } : Jvm.MethodName) ({ cls := "NightwatchWall$Row", name := "next", desc := "()I" } : Jvm.MethodName)) ∈ lw_all := lw_g (lw_at lw_m1 113 rfl) rfl
theorem q199 : (Jvm.Cond.code ({ cls := "NightwatchWall$Row", name := "next", desc := "()I" } : Jvm.MethodName) prog_12_method_2_code (1 : Nat) (Option.some Jvm.ClassFile.FieldType.int)) ∈ lw_all := lw_g (lw_at lw_m1 114 rfl) rfl
theorem q928 : (Jvm.Cond.selects "NightwatchWall$Row" ({ cls := "java/lang/Object", name := "getClass", desc := "()Ljava/lang/Class;" } : Jvm.MethodName) ({ cls := "java/lang/Object", name := "getClass", desc := "()Ljava/lang/Class;" } : Jvm.MethodName)) ∈ lw_all := lw_g (lw_at lw_m4 123 rfl) rfl
theorem q2124 : (Jvm.Cond.castable "NightwatchWall$Row" "java/lang/Object") ∈ lw_tbl := lw_at lw_m9 119 rfl
theorem in_X3 : ∀ w ∈ wsX30, w ∈ lw_all := lw_in wsX30 [188] (by decide +kernel) (by decide +kernel)
/-! NightwatchWallLaw$Out -/
set_option maxRecDepth 100000
def RX5 : String := "NightwatchWallLaw$Out"
def TX5 : u_T := fun k => match k with
  | 0 => ("NightwatchWallLaw$Out", "n", "J", false)
  | _ => ("NightwatchWallLaw$Out", "s", "Ljava/lang/String;", false)
def tyX5 : Nat → FieldType := fun k => match k with
  | 0 => .long
  | _ => .object "java/lang/String"
abbrev wsX50 : List Cond := u_ws RX5 TX5 2
theorem nmX5 : ∀ a, a < 2 → ∀ b, b < 2 → a ≠ b → (TX5 a).2.1 ≠ (TX5 b).2.1 := by decide +kernel
theorem tyX5_ok : ∀ k, k < 2 → parseFieldDescriptor (TX5 k).2.2.1 = some (tyX5 k) := by decide +kernel
abbrev cX5_init : ByteArray := prog_16_method_1_code
def yX5_init : MethodName := ⟨RX5, "<init>", "()V"⟩
theorem dX5_init_0 : decode cX5_init 0 = .ok (.aload_n 0, 1) := by decide +kernel
theorem dX5_init_1 : decode cX5_init 1 = .ok (.invokespecial 1, 3) := by decide +kernel
theorem dX5_init_4 : decode cX5_init 4 = .ok (.return_, 1) := by decide +kernel
theorem q96 : (Jvm.Cond.initialized "NightwatchWallLaw$Out") ∈ lw_all := lw_g (lw_at lw_m1 11 rfl) rfl
theorem q635 : (Jvm.Cond.instantiable "NightwatchWallLaw$Out" (2 : Nat)) ∈ lw_all := lw_g (lw_at lw_m3 70 rfl) rfl
theorem q637 : (Jvm.Cond.instanceMethod ({ cls := "NightwatchWallLaw$Out", name := "<init>", desc := "()V" } : Jvm.MethodName)) ∈ lw_all := lw_g (lw_at lw_m3 72 rfl) rfl
theorem q638 : (Jvm.Cond.code ({ cls := "NightwatchWallLaw$Out", name := "<init>", desc := "()V" } : Jvm.MethodName) prog_16_method_1_code (1 : Nat) (Option.none : Option Jvm.ClassFile.FieldType)) ∈ lw_all := lw_g (lw_at lw_m3 73 rfl) rfl
theorem q639 : (Jvm.Cond.methodLink "NightwatchWallLaw$Out" (1 : Nat) ({ cls := "java/lang/Object", name := "<init>", desc := "()V" } : Jvm.MethodName)) ∈ lw_all := lw_g (lw_at lw_m3 74 rfl) rfl
theorem q642 : (Jvm.Cond.lays "NightwatchWallLaw$Out" "NightwatchWallLaw$Out" "n" "J") ∈ lw_all := lw_g (lw_at lw_m3 77 rfl) rfl
theorem q643 : (Jvm.Cond.soleField "NightwatchWallLaw$Out" "n") ∈ lw_all := lw_g (lw_at lw_m3 78 rfl) rfl
theorem q644 : (Jvm.Cond.lays "NightwatchWallLaw$Out" "NightwatchWallLaw$Out" "s" "Ljava/lang/String;") ∈ lw_all := lw_g (lw_at lw_m3 79 rfl) rfl
theorem q645 : (Jvm.Cond.soleField "NightwatchWallLaw$Out" "s") ∈ lw_all := lw_g (lw_at lw_m3 80 rfl) rfl
theorem q646 : (Jvm.Cond.superclass "NightwatchWallLaw$Out" "java/lang/Object") ∈ lw_all := lw_g (lw_at lw_m3 81 rfl) rfl
theorem q931 : (Jvm.Cond.selects "NightwatchWallLaw$Out" ({ cls := "java/lang/Object", name := "getClass", desc := "()Ljava/lang/Class;" } : Jvm.MethodName) ({ cls := "java/lang/Object", name := "getClass", desc := "()Ljava/lang/Class;" } : Jvm.MethodName)) ∈ lw_all := lw_g (lw_at lw_m4 126 rfl) rfl
theorem q2126 : (Jvm.Cond.castable "NightwatchWallLaw$Out" "java/lang/Object") ∈ lw_tbl := lw_at lw_m9 121 rfl
theorem in_X5 : ∀ w ∈ wsX50, w ∈ lw_all := lw_in wsX50 [642, 644] (by decide +kernel) (by decide +kernel)
/-! NightwatchWall$Ground -/
set_option maxRecDepth 100000
def RX6 : String := "NightwatchWall$Ground"
def TX6 : u_T := fun k => match k with
  | 0 => ("NightwatchWall$Ground", "wide", "I", true)
  | 1 => ("NightwatchWall$Ground", "high", "I", true)
  | _ => ("NightwatchWall$Ground", "kinds", "[LNightwatchWall$Kind;", true)
def tyX6 : Nat → FieldType := fun k => match k with
  | 0 => .int
  | 1 => .int
  | _ => .array (.object "NightwatchWall$Kind")
abbrev wsX60 : List Cond := u_ws RX6 TX6 3
theorem nmX6 : ∀ a, a < 3 → ∀ b, b < 3 → a ≠ b → (TX6 a).2.1 ≠ (TX6 b).2.1 := by decide +kernel
theorem tyX6_ok : ∀ k, k < 3 → parseFieldDescriptor (TX6 k).2.2.1 = some (tyX6 k) := by decide +kernel
abbrev cX6_size : ByteArray := prog_2_method_2_code
def yX6_size : MethodName := ⟨RX6, "size", "()I"⟩
def dkwX6_size_0 : List UInt8 := [42, 180, 0, 20, 190, 172]
abbrev dktX6_size_0 : List UInt8 := dkwX6_size_0 ++ []
theorem dksX6_size_0 : cX6_size.data.toList.drop 0 = dktX6_size_0 := by decide +kernel
theorem dX6_size_0 : decode cX6_size 0 = .ok (.aload_n 0, 1) := dk_42 (dk_at dksX6_size_0 0 rfl rfl)
theorem dX6_size_1 : decode cX6_size 1 = .ok (.getfield 20, 3) := dk_180 0 20 (dk_at dksX6_size_0 1 rfl rfl)
theorem dX6_size_4 : decode cX6_size 4 = .ok (.arraylength, 1) := dk_190 (dk_at dksX6_size_0 4 rfl rfl)
theorem dX6_size_5 : decode cX6_size 5 = .ok (.ireturn, 1) := dk_172 (dk_at dksX6_size_0 5 rfl rfl)
abbrev cX6_isWall : ByteArray := prog_2_method_5_code
def yX6_isWall : MethodName := ⟨RX6, "isWall", "(I)Z"⟩
def dkwX6_isWall_0 : List UInt8 := [42, 180, 0, 20, 27, 50, 178, 0, 28, 166, 0, 7, 4, 167, 0, 4, 3, 172]
abbrev dktX6_isWall_0 : List UInt8 := dkwX6_isWall_0 ++ []
theorem dksX6_isWall_0 : cX6_isWall.data.toList.drop 0 = dktX6_isWall_0 := by decide +kernel
theorem dX6_isWall_0 : decode cX6_isWall 0 = .ok (.aload_n 0, 1) := dk_42 (dk_at dksX6_isWall_0 0 rfl rfl)
theorem dX6_isWall_1 : decode cX6_isWall 1 = .ok (.getfield 20, 3) := dk_180 0 20 (dk_at dksX6_isWall_0 1 rfl rfl)
theorem dX6_isWall_4 : decode cX6_isWall 4 = .ok (.iload_n 1, 1) := dk_27 (dk_at dksX6_isWall_0 4 rfl rfl)
theorem dX6_isWall_5 : decode cX6_isWall 5 = .ok (.aaload, 1) := dk_50 (dk_at dksX6_isWall_0 5 rfl rfl)
theorem dX6_isWall_6 : decode cX6_isWall 6 = .ok (.getstatic 28, 3) := dk_178 0 28 (dk_at dksX6_isWall_0 6 rfl rfl)
theorem dX6_isWall_9 : decode cX6_isWall 9 = .ok (.if_acmp .ne 7, 3) := dk_166 0 7 (dk_at dksX6_isWall_0 9 rfl rfl)
theorem dX6_isWall_12 : decode cX6_isWall 12 = .ok (.iconst 1, 1) := dk_4 (dk_at dksX6_isWall_0 12 rfl rfl)
theorem dX6_isWall_13 : decode cX6_isWall 13 = .ok (.goto 4, 3) := dk_167 0 4 (dk_at dksX6_isWall_0 13 rfl rfl)
theorem dX6_isWall_16 : decode cX6_isWall 16 = .ok (.iconst 0, 1) := dk_3 (dk_at dksX6_isWall_0 16 rfl rfl)
theorem dX6_isWall_17 : decode cX6_isWall 17 = .ok (.ireturn, 1) := dk_172 (dk_at dksX6_isWall_0 17 rfl rfl)
abbrev cX6_isClear : ByteArray := prog_2_method_9_code
def yX6_isClear : MethodName := ⟨RX6, "isClear", "(II)Z"⟩
def dkwX6_isClear_3 : List UInt8 := [182, 0, 56, 153, 0, 5, 3, 172, 21, 4, 29, 96, 54, 4, 167, 255, 224, 4, 172]
abbrev dktX6_isClear_3 : List UInt8 := dkwX6_isClear_3 ++ []
def dkwX6_isClear_2 : List UInt8 := [27, 29, 96, 54, 4, 27, 28, 159, 0, 33, 21, 4, 28, 159, 0, 27, 42, 180, 0, 20, 21, 4, 50]
abbrev dktX6_isClear_2 : List UInt8 := dkwX6_isClear_2 ++ dktX6_isClear_3
def dkwX6_isClear_1 : List UInt8 := [184, 0, 51, 42, 180, 0, 9, 104, 42, 28, 182, 0, 35, 42, 27, 182, 0, 35, 100, 184, 0, 51, 96, 62]
abbrev dktX6_isClear_1 : List UInt8 := dkwX6_isClear_1 ++ dktX6_isClear_2
def dkwX6_isClear_0 : List UInt8 := [42, 27, 28, 182, 0, 47, 154, 0, 5, 3, 172, 42, 28, 182, 0, 31, 42, 27, 182, 0, 31, 100]
abbrev dktX6_isClear_0 : List UInt8 := dkwX6_isClear_0 ++ dktX6_isClear_1
theorem dksX6_isClear_0 : cX6_isClear.data.toList.drop 0 = dktX6_isClear_0 := by decide +kernel
theorem dksX6_isClear_1 : cX6_isClear.data.toList.drop 22 = dktX6_isClear_1 := dk_seg dksX6_isClear_0 22 rfl rfl
theorem dksX6_isClear_2 : cX6_isClear.data.toList.drop 46 = dktX6_isClear_2 := dk_seg dksX6_isClear_1 24 rfl rfl
theorem dksX6_isClear_3 : cX6_isClear.data.toList.drop 69 = dktX6_isClear_3 := dk_seg dksX6_isClear_2 23 rfl rfl
theorem dX6_isClear_0 : decode cX6_isClear 0 = .ok (.aload_n 0, 1) := dk_42 (dk_at dksX6_isClear_0 0 rfl rfl)
theorem dX6_isClear_1 : decode cX6_isClear 1 = .ok (.iload_n 1, 1) := dk_27 (dk_at dksX6_isClear_0 1 rfl rfl)
theorem dX6_isClear_2 : decode cX6_isClear 2 = .ok (.iload_n 2, 1) := dk_28 (dk_at dksX6_isClear_0 2 rfl rfl)
theorem dX6_isClear_3 : decode cX6_isClear 3 = .ok (.invokevirtual 47, 3) := dk_182 0 47 (dk_at dksX6_isClear_0 3 rfl rfl)
theorem dX6_isClear_6 : decode cX6_isClear 6 = .ok (.ifCond .ne 5, 3) := dk_154 0 5 (dk_at dksX6_isClear_0 6 rfl rfl)
theorem dX6_isClear_9 : decode cX6_isClear 9 = .ok (.iconst 0, 1) := dk_3 (dk_at dksX6_isClear_0 9 rfl rfl)
theorem dX6_isClear_10 : decode cX6_isClear 10 = .ok (.ireturn, 1) := dk_172 (dk_at dksX6_isClear_0 10 rfl rfl)
theorem dX6_isClear_11 : decode cX6_isClear 11 = .ok (.aload_n 0, 1) := dk_42 (dk_at dksX6_isClear_0 11 rfl rfl)
theorem dX6_isClear_12 : decode cX6_isClear 12 = .ok (.iload_n 2, 1) := dk_28 (dk_at dksX6_isClear_0 12 rfl rfl)
theorem dX6_isClear_13 : decode cX6_isClear 13 = .ok (.invokevirtual 31, 3) := dk_182 0 31 (dk_at dksX6_isClear_0 13 rfl rfl)
theorem dX6_isClear_16 : decode cX6_isClear 16 = .ok (.aload_n 0, 1) := dk_42 (dk_at dksX6_isClear_0 16 rfl rfl)
theorem dX6_isClear_17 : decode cX6_isClear 17 = .ok (.iload_n 1, 1) := dk_27 (dk_at dksX6_isClear_0 17 rfl rfl)
theorem dX6_isClear_18 : decode cX6_isClear 18 = .ok (.invokevirtual 31, 3) := dk_182 0 31 (dk_at dksX6_isClear_0 18 rfl rfl)
theorem dX6_isClear_21 : decode cX6_isClear 21 = .ok (.isub, 1) := dk_100 (dk_at dksX6_isClear_0 21 rfl rfl)
theorem dX6_isClear_22 : decode cX6_isClear 22 = .ok (.invokestatic 51, 3) := dk_184 0 51 (dk_at dksX6_isClear_1 0 rfl rfl)
theorem dX6_isClear_25 : decode cX6_isClear 25 = .ok (.aload_n 0, 1) := dk_42 (dk_at dksX6_isClear_1 3 rfl rfl)
theorem dX6_isClear_26 : decode cX6_isClear 26 = .ok (.getfield 9, 3) := dk_180 0 9 (dk_at dksX6_isClear_1 4 rfl rfl)
theorem dX6_isClear_29 : decode cX6_isClear 29 = .ok (.imul, 1) := dk_104 (dk_at dksX6_isClear_1 7 rfl rfl)
theorem dX6_isClear_30 : decode cX6_isClear 30 = .ok (.aload_n 0, 1) := dk_42 (dk_at dksX6_isClear_1 8 rfl rfl)
theorem dX6_isClear_31 : decode cX6_isClear 31 = .ok (.iload_n 2, 1) := dk_28 (dk_at dksX6_isClear_1 9 rfl rfl)
theorem dX6_isClear_32 : decode cX6_isClear 32 = .ok (.invokevirtual 35, 3) := dk_182 0 35 (dk_at dksX6_isClear_1 10 rfl rfl)
theorem dX6_isClear_35 : decode cX6_isClear 35 = .ok (.aload_n 0, 1) := dk_42 (dk_at dksX6_isClear_1 13 rfl rfl)
theorem dX6_isClear_36 : decode cX6_isClear 36 = .ok (.iload_n 1, 1) := dk_27 (dk_at dksX6_isClear_1 14 rfl rfl)
theorem dX6_isClear_37 : decode cX6_isClear 37 = .ok (.invokevirtual 35, 3) := dk_182 0 35 (dk_at dksX6_isClear_1 15 rfl rfl)
theorem dX6_isClear_40 : decode cX6_isClear 40 = .ok (.isub, 1) := dk_100 (dk_at dksX6_isClear_1 18 rfl rfl)
theorem dX6_isClear_41 : decode cX6_isClear 41 = .ok (.invokestatic 51, 3) := dk_184 0 51 (dk_at dksX6_isClear_1 19 rfl rfl)
theorem dX6_isClear_44 : decode cX6_isClear 44 = .ok (.iadd, 1) := dk_96 (dk_at dksX6_isClear_1 22 rfl rfl)
theorem dX6_isClear_45 : decode cX6_isClear 45 = .ok (.istore_n 3, 1) := dk_62 (dk_at dksX6_isClear_1 23 rfl rfl)
theorem dX6_isClear_46 : decode cX6_isClear 46 = .ok (.iload_n 1, 1) := dk_27 (dk_at dksX6_isClear_2 0 rfl rfl)
theorem dX6_isClear_47 : decode cX6_isClear 47 = .ok (.iload_n 3, 1) := dk_29 (dk_at dksX6_isClear_2 1 rfl rfl)
theorem dX6_isClear_48 : decode cX6_isClear 48 = .ok (.iadd, 1) := dk_96 (dk_at dksX6_isClear_2 2 rfl rfl)
theorem dX6_isClear_49 : decode cX6_isClear 49 = .ok (.istore 4, 2) := dk_54 4 (dk_at dksX6_isClear_2 3 rfl rfl)
theorem dX6_isClear_51 : decode cX6_isClear 51 = .ok (.iload_n 1, 1) := dk_27 (dk_at dksX6_isClear_2 5 rfl rfl)
theorem dX6_isClear_52 : decode cX6_isClear 52 = .ok (.iload_n 2, 1) := dk_28 (dk_at dksX6_isClear_2 6 rfl rfl)
theorem dX6_isClear_53 : decode cX6_isClear 53 = .ok (.if_icmp .eq 33, 3) := dk_159 0 33 (dk_at dksX6_isClear_2 7 rfl rfl)
theorem dX6_isClear_56 : decode cX6_isClear 56 = .ok (.iload 4, 2) := dk_21 4 (dk_at dksX6_isClear_2 10 rfl rfl)
theorem dX6_isClear_58 : decode cX6_isClear 58 = .ok (.iload_n 2, 1) := dk_28 (dk_at dksX6_isClear_2 12 rfl rfl)
theorem dX6_isClear_59 : decode cX6_isClear 59 = .ok (.if_icmp .eq 27, 3) := dk_159 0 27 (dk_at dksX6_isClear_2 13 rfl rfl)
theorem dX6_isClear_62 : decode cX6_isClear 62 = .ok (.aload_n 0, 1) := dk_42 (dk_at dksX6_isClear_2 16 rfl rfl)
theorem dX6_isClear_63 : decode cX6_isClear 63 = .ok (.getfield 20, 3) := dk_180 0 20 (dk_at dksX6_isClear_2 17 rfl rfl)
theorem dX6_isClear_66 : decode cX6_isClear 66 = .ok (.iload 4, 2) := dk_21 4 (dk_at dksX6_isClear_2 20 rfl rfl)
theorem dX6_isClear_68 : decode cX6_isClear 68 = .ok (.aaload, 1) := dk_50 (dk_at dksX6_isClear_2 22 rfl rfl)
theorem dX6_isClear_69 : decode cX6_isClear 69 = .ok (.invokevirtual 56, 3) := dk_182 0 56 (dk_at dksX6_isClear_3 0 rfl rfl)
theorem dX6_isClear_72 : decode cX6_isClear 72 = .ok (.ifCond .eq 5, 3) := dk_153 0 5 (dk_at dksX6_isClear_3 3 rfl rfl)
theorem dX6_isClear_75 : decode cX6_isClear 75 = .ok (.iconst 0, 1) := dk_3 (dk_at dksX6_isClear_3 6 rfl rfl)
theorem dX6_isClear_76 : decode cX6_isClear 76 = .ok (.ireturn, 1) := dk_172 (dk_at dksX6_isClear_3 7 rfl rfl)
theorem dX6_isClear_77 : decode cX6_isClear 77 = .ok (.iload 4, 2) := dk_21 4 (dk_at dksX6_isClear_3 8 rfl rfl)
theorem dX6_isClear_79 : decode cX6_isClear 79 = .ok (.iload_n 3, 1) := dk_29 (dk_at dksX6_isClear_3 10 rfl rfl)
theorem dX6_isClear_80 : decode cX6_isClear 80 = .ok (.iadd, 1) := dk_96 (dk_at dksX6_isClear_3 11 rfl rfl)
theorem dX6_isClear_81 : decode cX6_isClear 81 = .ok (.istore 4, 2) := dk_54 4 (dk_at dksX6_isClear_3 12 rfl rfl)
theorem dX6_isClear_83 : decode cX6_isClear 83 = .ok (.goto (-32), 3) := dk_167 255 224 (dk_at dksX6_isClear_3 14 rfl rfl)
theorem dX6_isClear_86 : decode cX6_isClear 86 = .ok (.iconst 1, 1) := dk_4 (dk_at dksX6_isClear_3 17 rfl rfl)
theorem dX6_isClear_87 : decode cX6_isClear 87 = .ok (.ireturn, 1) := dk_172 (dk_at dksX6_isClear_3 18 rfl rfl)
abbrev cX6_isInLine : ByteArray := prog_2_method_8_code
def yX6_isInLine : MethodName := ⟨RX6, "isInLine", "(II)Z"⟩
def dkwX6_isInLine_2 : List UInt8 := [4, 167, 0, 4, 3, 172]
abbrev dktX6_isInLine_2 : List UInt8 := dkwX6_isInLine_2 ++ []
def dkwX6_isInLine_1 : List UInt8 := [182, 0, 35, 100, 184, 0, 38, 54, 4, 29, 153, 0, 14, 21, 4, 153, 0, 9, 29, 21, 4, 160, 0, 7]
abbrev dktX6_isInLine_1 : List UInt8 := dkwX6_isInLine_1 ++ dktX6_isInLine_2
def dkwX6_isInLine_0 : List UInt8 := [42, 27, 182, 0, 31, 42, 28, 182, 0, 31, 100, 184, 0, 38, 62, 42, 27, 182, 0, 35, 42, 28]
abbrev dktX6_isInLine_0 : List UInt8 := dkwX6_isInLine_0 ++ dktX6_isInLine_1
theorem dksX6_isInLine_0 : cX6_isInLine.data.toList.drop 0 = dktX6_isInLine_0 := by decide +kernel
theorem dksX6_isInLine_1 : cX6_isInLine.data.toList.drop 22 = dktX6_isInLine_1 := dk_seg dksX6_isInLine_0 22 rfl rfl
theorem dksX6_isInLine_2 : cX6_isInLine.data.toList.drop 46 = dktX6_isInLine_2 := dk_seg dksX6_isInLine_1 24 rfl rfl
theorem dX6_isInLine_0 : decode cX6_isInLine 0 = .ok (.aload_n 0, 1) := dk_42 (dk_at dksX6_isInLine_0 0 rfl rfl)
theorem dX6_isInLine_1 : decode cX6_isInLine 1 = .ok (.iload_n 1, 1) := dk_27 (dk_at dksX6_isInLine_0 1 rfl rfl)
theorem dX6_isInLine_2 : decode cX6_isInLine 2 = .ok (.invokevirtual 31, 3) := dk_182 0 31 (dk_at dksX6_isInLine_0 2 rfl rfl)
theorem dX6_isInLine_5 : decode cX6_isInLine 5 = .ok (.aload_n 0, 1) := dk_42 (dk_at dksX6_isInLine_0 5 rfl rfl)
theorem dX6_isInLine_6 : decode cX6_isInLine 6 = .ok (.iload_n 2, 1) := dk_28 (dk_at dksX6_isInLine_0 6 rfl rfl)
theorem dX6_isInLine_7 : decode cX6_isInLine 7 = .ok (.invokevirtual 31, 3) := dk_182 0 31 (dk_at dksX6_isInLine_0 7 rfl rfl)
theorem dX6_isInLine_10 : decode cX6_isInLine 10 = .ok (.isub, 1) := dk_100 (dk_at dksX6_isInLine_0 10 rfl rfl)
theorem dX6_isInLine_11 : decode cX6_isInLine 11 = .ok (.invokestatic 38, 3) := dk_184 0 38 (dk_at dksX6_isInLine_0 11 rfl rfl)
theorem dX6_isInLine_14 : decode cX6_isInLine 14 = .ok (.istore_n 3, 1) := dk_62 (dk_at dksX6_isInLine_0 14 rfl rfl)
theorem dX6_isInLine_15 : decode cX6_isInLine 15 = .ok (.aload_n 0, 1) := dk_42 (dk_at dksX6_isInLine_0 15 rfl rfl)
theorem dX6_isInLine_16 : decode cX6_isInLine 16 = .ok (.iload_n 1, 1) := dk_27 (dk_at dksX6_isInLine_0 16 rfl rfl)
theorem dX6_isInLine_17 : decode cX6_isInLine 17 = .ok (.invokevirtual 35, 3) := dk_182 0 35 (dk_at dksX6_isInLine_0 17 rfl rfl)
theorem dX6_isInLine_20 : decode cX6_isInLine 20 = .ok (.aload_n 0, 1) := dk_42 (dk_at dksX6_isInLine_0 20 rfl rfl)
theorem dX6_isInLine_21 : decode cX6_isInLine 21 = .ok (.iload_n 2, 1) := dk_28 (dk_at dksX6_isInLine_0 21 rfl rfl)
theorem dX6_isInLine_22 : decode cX6_isInLine 22 = .ok (.invokevirtual 35, 3) := dk_182 0 35 (dk_at dksX6_isInLine_1 0 rfl rfl)
theorem dX6_isInLine_25 : decode cX6_isInLine 25 = .ok (.isub, 1) := dk_100 (dk_at dksX6_isInLine_1 3 rfl rfl)
theorem dX6_isInLine_26 : decode cX6_isInLine 26 = .ok (.invokestatic 38, 3) := dk_184 0 38 (dk_at dksX6_isInLine_1 4 rfl rfl)
theorem dX6_isInLine_29 : decode cX6_isInLine 29 = .ok (.istore 4, 2) := dk_54 4 (dk_at dksX6_isInLine_1 7 rfl rfl)
theorem dX6_isInLine_31 : decode cX6_isInLine 31 = .ok (.iload_n 3, 1) := dk_29 (dk_at dksX6_isInLine_1 9 rfl rfl)
theorem dX6_isInLine_32 : decode cX6_isInLine 32 = .ok (.ifCond .eq 14, 3) := dk_153 0 14 (dk_at dksX6_isInLine_1 10 rfl rfl)
theorem dX6_isInLine_35 : decode cX6_isInLine 35 = .ok (.iload 4, 2) := dk_21 4 (dk_at dksX6_isInLine_1 13 rfl rfl)
theorem dX6_isInLine_37 : decode cX6_isInLine 37 = .ok (.ifCond .eq 9, 3) := dk_153 0 9 (dk_at dksX6_isInLine_1 15 rfl rfl)
theorem dX6_isInLine_40 : decode cX6_isInLine 40 = .ok (.iload_n 3, 1) := dk_29 (dk_at dksX6_isInLine_1 18 rfl rfl)
theorem dX6_isInLine_41 : decode cX6_isInLine 41 = .ok (.iload 4, 2) := dk_21 4 (dk_at dksX6_isInLine_1 19 rfl rfl)
theorem dX6_isInLine_43 : decode cX6_isInLine 43 = .ok (.if_icmp .ne 7, 3) := dk_160 0 7 (dk_at dksX6_isInLine_1 21 rfl rfl)
theorem dX6_isInLine_46 : decode cX6_isInLine 46 = .ok (.iconst 1, 1) := dk_4 (dk_at dksX6_isInLine_2 0 rfl rfl)
theorem dX6_isInLine_47 : decode cX6_isInLine 47 = .ok (.goto 4, 3) := dk_167 0 4 (dk_at dksX6_isInLine_2 1 rfl rfl)
theorem dX6_isInLine_50 : decode cX6_isInLine 50 = .ok (.iconst 0, 1) := dk_3 (dk_at dksX6_isInLine_2 4 rfl rfl)
theorem dX6_isInLine_51 : decode cX6_isInLine 51 = .ok (.ireturn, 1) := dk_172 (dk_at dksX6_isInLine_2 5 rfl rfl)
abbrev cX6_row : ByteArray := prog_2_method_3_code
def yX6_row : MethodName := ⟨RX6, "row", "(I)I"⟩
def dkwX6_row_0 : List UInt8 := [27, 42, 180, 0, 9, 108, 172]
abbrev dktX6_row_0 : List UInt8 := dkwX6_row_0 ++ []
theorem dksX6_row_0 : cX6_row.data.toList.drop 0 = dktX6_row_0 := by decide +kernel
theorem dX6_row_0 : decode cX6_row 0 = .ok (.iload_n 1, 1) := dk_27 (dk_at dksX6_row_0 0 rfl rfl)
theorem dX6_row_1 : decode cX6_row 1 = .ok (.aload_n 0, 1) := dk_42 (dk_at dksX6_row_0 1 rfl rfl)
theorem dX6_row_2 : decode cX6_row 2 = .ok (.getfield 9, 3) := dk_180 0 9 (dk_at dksX6_row_0 2 rfl rfl)
theorem dX6_row_5 : decode cX6_row 5 = .ok (.idiv, 1) := dk_108 (dk_at dksX6_row_0 5 rfl rfl)
theorem dX6_row_6 : decode cX6_row 6 = .ok (.ireturn, 1) := dk_172 (dk_at dksX6_row_0 6 rfl rfl)
abbrev cX6_column : ByteArray := prog_2_method_4_code
def yX6_column : MethodName := ⟨RX6, "column", "(I)I"⟩
def dkwX6_column_0 : List UInt8 := [27, 42, 180, 0, 9, 112, 172]
abbrev dktX6_column_0 : List UInt8 := dkwX6_column_0 ++ []
theorem dksX6_column_0 : cX6_column.data.toList.drop 0 = dktX6_column_0 := by decide +kernel
theorem dX6_column_0 : decode cX6_column 0 = .ok (.iload_n 1, 1) := dk_27 (dk_at dksX6_column_0 0 rfl rfl)
theorem dX6_column_1 : decode cX6_column 1 = .ok (.aload_n 0, 1) := dk_42 (dk_at dksX6_column_0 1 rfl rfl)
theorem dX6_column_2 : decode cX6_column 2 = .ok (.getfield 9, 3) := dk_180 0 9 (dk_at dksX6_column_0 2 rfl rfl)
theorem dX6_column_5 : decode cX6_column 5 = .ok (.irem, 1) := dk_112 (dk_at dksX6_column_0 5 rfl rfl)
theorem dX6_column_6 : decode cX6_column 6 = .ok (.ireturn, 1) := dk_172 (dk_at dksX6_column_0 6 rfl rfl)
abbrev cX6_apart : ByteArray := prog_2_method_7_code
def yX6_apart : MethodName := ⟨RX6, "apart", "(II)I"⟩
def dkwX6_apart_1 : List UInt8 := [100, 184, 0, 38, 184, 0, 43, 172]
abbrev dktX6_apart_1 : List UInt8 := dkwX6_apart_1 ++ []
def dkwX6_apart_0 : List UInt8 := [42, 27, 182, 0, 31, 42, 28, 182, 0, 31, 100, 184, 0, 38, 42, 27, 182, 0, 35, 42, 28, 182, 0, 35]
abbrev dktX6_apart_0 : List UInt8 := dkwX6_apart_0 ++ dktX6_apart_1
theorem dksX6_apart_0 : cX6_apart.data.toList.drop 0 = dktX6_apart_0 := by decide +kernel
theorem dksX6_apart_1 : cX6_apart.data.toList.drop 24 = dktX6_apart_1 := dk_seg dksX6_apart_0 24 rfl rfl
theorem dX6_apart_0 : decode cX6_apart 0 = .ok (.aload_n 0, 1) := dk_42 (dk_at dksX6_apart_0 0 rfl rfl)
theorem dX6_apart_1 : decode cX6_apart 1 = .ok (.iload_n 1, 1) := dk_27 (dk_at dksX6_apart_0 1 rfl rfl)
theorem dX6_apart_2 : decode cX6_apart 2 = .ok (.invokevirtual 31, 3) := dk_182 0 31 (dk_at dksX6_apart_0 2 rfl rfl)
theorem dX6_apart_5 : decode cX6_apart 5 = .ok (.aload_n 0, 1) := dk_42 (dk_at dksX6_apart_0 5 rfl rfl)
theorem dX6_apart_6 : decode cX6_apart 6 = .ok (.iload_n 2, 1) := dk_28 (dk_at dksX6_apart_0 6 rfl rfl)
theorem dX6_apart_7 : decode cX6_apart 7 = .ok (.invokevirtual 31, 3) := dk_182 0 31 (dk_at dksX6_apart_0 7 rfl rfl)
theorem dX6_apart_10 : decode cX6_apart 10 = .ok (.isub, 1) := dk_100 (dk_at dksX6_apart_0 10 rfl rfl)
theorem dX6_apart_11 : decode cX6_apart 11 = .ok (.invokestatic 38, 3) := dk_184 0 38 (dk_at dksX6_apart_0 11 rfl rfl)
theorem dX6_apart_14 : decode cX6_apart 14 = .ok (.aload_n 0, 1) := dk_42 (dk_at dksX6_apart_0 14 rfl rfl)
theorem dX6_apart_15 : decode cX6_apart 15 = .ok (.iload_n 1, 1) := dk_27 (dk_at dksX6_apart_0 15 rfl rfl)
theorem dX6_apart_16 : decode cX6_apart 16 = .ok (.invokevirtual 35, 3) := dk_182 0 35 (dk_at dksX6_apart_0 16 rfl rfl)
theorem dX6_apart_19 : decode cX6_apart 19 = .ok (.aload_n 0, 1) := dk_42 (dk_at dksX6_apart_0 19 rfl rfl)
theorem dX6_apart_20 : decode cX6_apart 20 = .ok (.iload_n 2, 1) := dk_28 (dk_at dksX6_apart_0 20 rfl rfl)
theorem dX6_apart_21 : decode cX6_apart 21 = .ok (.invokevirtual 35, 3) := dk_182 0 35 (dk_at dksX6_apart_0 21 rfl rfl)
theorem dX6_apart_24 : decode cX6_apart 24 = .ok (.isub, 1) := dk_100 (dk_at dksX6_apart_1 0 rfl rfl)
theorem dX6_apart_25 : decode cX6_apart 25 = .ok (.invokestatic 38, 3) := dk_184 0 38 (dk_at dksX6_apart_1 1 rfl rfl)
theorem dX6_apart_28 : decode cX6_apart 28 = .ok (.invokestatic 43, 3) := dk_184 0 43 (dk_at dksX6_apart_1 4 rfl rfl)
theorem dX6_apart_31 : decode cX6_apart 31 = .ok (.ireturn, 1) := dk_172 (dk_at dksX6_apart_1 7 rfl rfl)
abbrev cX6_moved : ByteArray := prog_2_method_6_code
def yX6_moved : MethodName := ⟨RX6, "moved", "(II)I"⟩
def dkwX6_moved_5 : List UInt8 := [27, 182, 0, 35, 158, 0, 9, 27, 4, 100, 167, 0, 4, 2, 172]
abbrev dktX6_moved_5 : List UInt8 := dkwX6_moved_5 ++ []
def dkwX6_moved_4 : List UInt8 := [182, 0, 31, 42, 180, 0, 15, 4, 100, 162, 0, 12, 27, 42, 180, 0, 9, 96, 167, 0, 4, 2, 172, 42]
abbrev dktX6_moved_4 : List UInt8 := dkwX6_moved_4 ++ dktX6_moved_5
def dkwX6_moved_3 : List UInt8 := [182, 0, 35, 42, 180, 0, 9, 4, 100, 162, 0, 9, 27, 4, 96, 167, 0, 4, 2, 172, 42, 27]
abbrev dktX6_moved_3 : List UInt8 := dkwX6_moved_3 ++ dktX6_moved_4
def dkwX6_moved_2 : List UInt8 := [27, 172, 42, 27, 182, 0, 31, 158, 0, 12, 27, 42, 180, 0, 9, 100, 167, 0, 4, 2, 172, 42, 27]
abbrev dktX6_moved_2 : List UInt8 := dkwX6_moved_2 ++ dktX6_moved_3
def dkwX6_moved_1 : List UInt8 := [170, 0, 0, 0, 0, 0, 99, 0, 0, 0, 0, 0, 0, 0, 3, 0, 0, 0, 31, 0, 0, 0, 33, 0, 0, 0, 52, 0, 0, 0, 74]
abbrev dktX6_moved_1 : List UInt8 := dkwX6_moved_1 ++ dktX6_moved_2
def dkwX6_moved_0 : List UInt8 := [28]
abbrev dktX6_moved_0 : List UInt8 := dkwX6_moved_0 ++ dktX6_moved_1
theorem dksX6_moved_0 : cX6_moved.data.toList.drop 0 = dktX6_moved_0 := by decide +kernel
theorem dksX6_moved_1 : cX6_moved.data.toList.drop 1 = dktX6_moved_1 := dk_seg dksX6_moved_0 1 rfl rfl
theorem dksX6_moved_2 : cX6_moved.data.toList.drop 32 = dktX6_moved_2 := dk_seg dksX6_moved_1 31 rfl rfl
theorem dksX6_moved_3 : cX6_moved.data.toList.drop 55 = dktX6_moved_3 := dk_seg dksX6_moved_2 23 rfl rfl
theorem dksX6_moved_4 : cX6_moved.data.toList.drop 77 = dktX6_moved_4 := dk_seg dksX6_moved_3 22 rfl rfl
theorem dksX6_moved_5 : cX6_moved.data.toList.drop 101 = dktX6_moved_5 := dk_seg dksX6_moved_4 24 rfl rfl
theorem dX6_moved_0 : decode cX6_moved 0 = .ok (.iload_n 2, 1) := dk_28 (dk_at dksX6_moved_0 0 rfl rfl)
theorem dX6_moved_1 : decode cX6_moved 1 = .ok (.tableswitch 99 0 3 #[31, 33, 52, 74], 31) := by decide +kernel
theorem dX6_moved_32 : decode cX6_moved 32 = .ok (.iload_n 1, 1) := dk_27 (dk_at dksX6_moved_2 0 rfl rfl)
theorem dX6_moved_33 : decode cX6_moved 33 = .ok (.ireturn, 1) := dk_172 (dk_at dksX6_moved_2 1 rfl rfl)
theorem dX6_moved_34 : decode cX6_moved 34 = .ok (.aload_n 0, 1) := dk_42 (dk_at dksX6_moved_2 2 rfl rfl)
theorem dX6_moved_35 : decode cX6_moved 35 = .ok (.iload_n 1, 1) := dk_27 (dk_at dksX6_moved_2 3 rfl rfl)
theorem dX6_moved_36 : decode cX6_moved 36 = .ok (.invokevirtual 31, 3) := dk_182 0 31 (dk_at dksX6_moved_2 4 rfl rfl)
theorem dX6_moved_39 : decode cX6_moved 39 = .ok (.ifCond .le 12, 3) := dk_158 0 12 (dk_at dksX6_moved_2 7 rfl rfl)
theorem dX6_moved_42 : decode cX6_moved 42 = .ok (.iload_n 1, 1) := dk_27 (dk_at dksX6_moved_2 10 rfl rfl)
theorem dX6_moved_43 : decode cX6_moved 43 = .ok (.aload_n 0, 1) := dk_42 (dk_at dksX6_moved_2 11 rfl rfl)
theorem dX6_moved_44 : decode cX6_moved 44 = .ok (.getfield 9, 3) := dk_180 0 9 (dk_at dksX6_moved_2 12 rfl rfl)
theorem dX6_moved_47 : decode cX6_moved 47 = .ok (.isub, 1) := dk_100 (dk_at dksX6_moved_2 15 rfl rfl)
theorem dX6_moved_48 : decode cX6_moved 48 = .ok (.goto 4, 3) := dk_167 0 4 (dk_at dksX6_moved_2 16 rfl rfl)
theorem dX6_moved_51 : decode cX6_moved 51 = .ok (.iconst (-1), 1) := dk_2 (dk_at dksX6_moved_2 19 rfl rfl)
theorem dX6_moved_52 : decode cX6_moved 52 = .ok (.ireturn, 1) := dk_172 (dk_at dksX6_moved_2 20 rfl rfl)
theorem dX6_moved_53 : decode cX6_moved 53 = .ok (.aload_n 0, 1) := dk_42 (dk_at dksX6_moved_2 21 rfl rfl)
theorem dX6_moved_54 : decode cX6_moved 54 = .ok (.iload_n 1, 1) := dk_27 (dk_at dksX6_moved_2 22 rfl rfl)
theorem dX6_moved_55 : decode cX6_moved 55 = .ok (.invokevirtual 35, 3) := dk_182 0 35 (dk_at dksX6_moved_3 0 rfl rfl)
theorem dX6_moved_58 : decode cX6_moved 58 = .ok (.aload_n 0, 1) := dk_42 (dk_at dksX6_moved_3 3 rfl rfl)
theorem dX6_moved_59 : decode cX6_moved 59 = .ok (.getfield 9, 3) := dk_180 0 9 (dk_at dksX6_moved_3 4 rfl rfl)
theorem dX6_moved_62 : decode cX6_moved 62 = .ok (.iconst 1, 1) := dk_4 (dk_at dksX6_moved_3 7 rfl rfl)
theorem dX6_moved_63 : decode cX6_moved 63 = .ok (.isub, 1) := dk_100 (dk_at dksX6_moved_3 8 rfl rfl)
theorem dX6_moved_64 : decode cX6_moved 64 = .ok (.if_icmp .ge 9, 3) := dk_162 0 9 (dk_at dksX6_moved_3 9 rfl rfl)
theorem dX6_moved_67 : decode cX6_moved 67 = .ok (.iload_n 1, 1) := dk_27 (dk_at dksX6_moved_3 12 rfl rfl)
theorem dX6_moved_68 : decode cX6_moved 68 = .ok (.iconst 1, 1) := dk_4 (dk_at dksX6_moved_3 13 rfl rfl)
theorem dX6_moved_69 : decode cX6_moved 69 = .ok (.iadd, 1) := dk_96 (dk_at dksX6_moved_3 14 rfl rfl)
theorem dX6_moved_70 : decode cX6_moved 70 = .ok (.goto 4, 3) := dk_167 0 4 (dk_at dksX6_moved_3 15 rfl rfl)
theorem dX6_moved_73 : decode cX6_moved 73 = .ok (.iconst (-1), 1) := dk_2 (dk_at dksX6_moved_3 18 rfl rfl)
theorem dX6_moved_74 : decode cX6_moved 74 = .ok (.ireturn, 1) := dk_172 (dk_at dksX6_moved_3 19 rfl rfl)
theorem dX6_moved_75 : decode cX6_moved 75 = .ok (.aload_n 0, 1) := dk_42 (dk_at dksX6_moved_3 20 rfl rfl)
theorem dX6_moved_76 : decode cX6_moved 76 = .ok (.iload_n 1, 1) := dk_27 (dk_at dksX6_moved_3 21 rfl rfl)
theorem dX6_moved_77 : decode cX6_moved 77 = .ok (.invokevirtual 31, 3) := dk_182 0 31 (dk_at dksX6_moved_4 0 rfl rfl)
theorem dX6_moved_80 : decode cX6_moved 80 = .ok (.aload_n 0, 1) := dk_42 (dk_at dksX6_moved_4 3 rfl rfl)
theorem dX6_moved_81 : decode cX6_moved 81 = .ok (.getfield 15, 3) := dk_180 0 15 (dk_at dksX6_moved_4 4 rfl rfl)
theorem dX6_moved_84 : decode cX6_moved 84 = .ok (.iconst 1, 1) := dk_4 (dk_at dksX6_moved_4 7 rfl rfl)
theorem dX6_moved_85 : decode cX6_moved 85 = .ok (.isub, 1) := dk_100 (dk_at dksX6_moved_4 8 rfl rfl)
theorem dX6_moved_86 : decode cX6_moved 86 = .ok (.if_icmp .ge 12, 3) := dk_162 0 12 (dk_at dksX6_moved_4 9 rfl rfl)
theorem dX6_moved_89 : decode cX6_moved 89 = .ok (.iload_n 1, 1) := dk_27 (dk_at dksX6_moved_4 12 rfl rfl)
theorem dX6_moved_90 : decode cX6_moved 90 = .ok (.aload_n 0, 1) := dk_42 (dk_at dksX6_moved_4 13 rfl rfl)
theorem dX6_moved_91 : decode cX6_moved 91 = .ok (.getfield 9, 3) := dk_180 0 9 (dk_at dksX6_moved_4 14 rfl rfl)
theorem dX6_moved_94 : decode cX6_moved 94 = .ok (.iadd, 1) := dk_96 (dk_at dksX6_moved_4 17 rfl rfl)
theorem dX6_moved_95 : decode cX6_moved 95 = .ok (.goto 4, 3) := dk_167 0 4 (dk_at dksX6_moved_4 18 rfl rfl)
theorem dX6_moved_98 : decode cX6_moved 98 = .ok (.iconst (-1), 1) := dk_2 (dk_at dksX6_moved_4 21 rfl rfl)
theorem dX6_moved_99 : decode cX6_moved 99 = .ok (.ireturn, 1) := dk_172 (dk_at dksX6_moved_4 22 rfl rfl)
theorem dX6_moved_100 : decode cX6_moved 100 = .ok (.aload_n 0, 1) := dk_42 (dk_at dksX6_moved_4 23 rfl rfl)
theorem dX6_moved_101 : decode cX6_moved 101 = .ok (.iload_n 1, 1) := dk_27 (dk_at dksX6_moved_5 0 rfl rfl)
theorem dX6_moved_102 : decode cX6_moved 102 = .ok (.invokevirtual 35, 3) := dk_182 0 35 (dk_at dksX6_moved_5 1 rfl rfl)
theorem dX6_moved_105 : decode cX6_moved 105 = .ok (.ifCond .le 9, 3) := dk_158 0 9 (dk_at dksX6_moved_5 4 rfl rfl)
theorem dX6_moved_108 : decode cX6_moved 108 = .ok (.iload_n 1, 1) := dk_27 (dk_at dksX6_moved_5 7 rfl rfl)
theorem dX6_moved_109 : decode cX6_moved 109 = .ok (.iconst 1, 1) := dk_4 (dk_at dksX6_moved_5 8 rfl rfl)
theorem dX6_moved_110 : decode cX6_moved 110 = .ok (.isub, 1) := dk_100 (dk_at dksX6_moved_5 9 rfl rfl)
theorem dX6_moved_111 : decode cX6_moved 111 = .ok (.goto 4, 3) := dk_167 0 4 (dk_at dksX6_moved_5 10 rfl rfl)
theorem dX6_moved_114 : decode cX6_moved 114 = .ok (.iconst (-1), 1) := dk_2 (dk_at dksX6_moved_5 13 rfl rfl)
theorem dX6_moved_115 : decode cX6_moved 115 = .ok (.ireturn, 1) := dk_172 (dk_at dksX6_moved_5 14 rfl rfl)
abbrev cX6_init : ByteArray := prog_2_method_1_code
def yX6_init : MethodName := ⟨RX6, "<init>", "(II)V"⟩
def dkwX6_init_2 : List UInt8 := [167, 255, 235, 177]
abbrev dktX6_init_2 : List UInt8 := dkwX6_init_2 ++ []
def dkwX6_init_1 : List UInt8 := [3, 62, 29, 42, 180, 0, 20, 190, 162, 0, 18, 42, 180, 0, 20, 29, 178, 0, 24, 83, 132, 3, 1]
abbrev dktX6_init_1 : List UInt8 := dkwX6_init_1 ++ dktX6_init_2
def dkwX6_init_0 : List UInt8 := [42, 183, 0, 3, 42, 27, 181, 0, 9, 42, 28, 181, 0, 15, 42, 27, 28, 104, 189, 0, 18, 181, 0, 20]
abbrev dktX6_init_0 : List UInt8 := dkwX6_init_0 ++ dktX6_init_1
theorem dksX6_init_0 : cX6_init.data.toList.drop 0 = dktX6_init_0 := by decide +kernel
theorem dksX6_init_1 : cX6_init.data.toList.drop 24 = dktX6_init_1 := dk_seg dksX6_init_0 24 rfl rfl
theorem dksX6_init_2 : cX6_init.data.toList.drop 47 = dktX6_init_2 := dk_seg dksX6_init_1 23 rfl rfl
theorem dX6_init_0 : decode cX6_init 0 = .ok (.aload_n 0, 1) := dk_42 (dk_at dksX6_init_0 0 rfl rfl)
theorem dX6_init_1 : decode cX6_init 1 = .ok (.invokespecial 3, 3) := dk_183 0 3 (dk_at dksX6_init_0 1 rfl rfl)
theorem dX6_init_4 : decode cX6_init 4 = .ok (.aload_n 0, 1) := dk_42 (dk_at dksX6_init_0 4 rfl rfl)
theorem dX6_init_5 : decode cX6_init 5 = .ok (.iload_n 1, 1) := dk_27 (dk_at dksX6_init_0 5 rfl rfl)
theorem dX6_init_6 : decode cX6_init 6 = .ok (.putfield 9, 3) := dk_181 0 9 (dk_at dksX6_init_0 6 rfl rfl)
theorem dX6_init_9 : decode cX6_init 9 = .ok (.aload_n 0, 1) := dk_42 (dk_at dksX6_init_0 9 rfl rfl)
theorem dX6_init_10 : decode cX6_init 10 = .ok (.iload_n 2, 1) := dk_28 (dk_at dksX6_init_0 10 rfl rfl)
theorem dX6_init_11 : decode cX6_init 11 = .ok (.putfield 15, 3) := dk_181 0 15 (dk_at dksX6_init_0 11 rfl rfl)
theorem dX6_init_14 : decode cX6_init 14 = .ok (.aload_n 0, 1) := dk_42 (dk_at dksX6_init_0 14 rfl rfl)
theorem dX6_init_15 : decode cX6_init 15 = .ok (.iload_n 1, 1) := dk_27 (dk_at dksX6_init_0 15 rfl rfl)
theorem dX6_init_16 : decode cX6_init 16 = .ok (.iload_n 2, 1) := dk_28 (dk_at dksX6_init_0 16 rfl rfl)
theorem dX6_init_17 : decode cX6_init 17 = .ok (.imul, 1) := dk_104 (dk_at dksX6_init_0 17 rfl rfl)
theorem dX6_init_18 : decode cX6_init 18 = .ok (.anewarray 18, 3) := dk_189 0 18 (dk_at dksX6_init_0 18 rfl rfl)
theorem dX6_init_21 : decode cX6_init 21 = .ok (.putfield 20, 3) := dk_181 0 20 (dk_at dksX6_init_0 21 rfl rfl)
theorem dX6_init_24 : decode cX6_init 24 = .ok (.iconst 0, 1) := dk_3 (dk_at dksX6_init_1 0 rfl rfl)
theorem dX6_init_25 : decode cX6_init 25 = .ok (.istore_n 3, 1) := dk_62 (dk_at dksX6_init_1 1 rfl rfl)
theorem dX6_init_26 : decode cX6_init 26 = .ok (.iload_n 3, 1) := dk_29 (dk_at dksX6_init_1 2 rfl rfl)
theorem dX6_init_27 : decode cX6_init 27 = .ok (.aload_n 0, 1) := dk_42 (dk_at dksX6_init_1 3 rfl rfl)
theorem dX6_init_28 : decode cX6_init 28 = .ok (.getfield 20, 3) := dk_180 0 20 (dk_at dksX6_init_1 4 rfl rfl)
theorem dX6_init_31 : decode cX6_init 31 = .ok (.arraylength, 1) := dk_190 (dk_at dksX6_init_1 7 rfl rfl)
theorem dX6_init_32 : decode cX6_init 32 = .ok (.if_icmp .ge 18, 3) := dk_162 0 18 (dk_at dksX6_init_1 8 rfl rfl)
theorem dX6_init_35 : decode cX6_init 35 = .ok (.aload_n 0, 1) := dk_42 (dk_at dksX6_init_1 11 rfl rfl)
theorem dX6_init_36 : decode cX6_init 36 = .ok (.getfield 20, 3) := dk_180 0 20 (dk_at dksX6_init_1 12 rfl rfl)
theorem dX6_init_39 : decode cX6_init 39 = .ok (.iload_n 3, 1) := dk_29 (dk_at dksX6_init_1 15 rfl rfl)
theorem dX6_init_40 : decode cX6_init 40 = .ok (.getstatic 24, 3) := dk_178 0 24 (dk_at dksX6_init_1 16 rfl rfl)
theorem dX6_init_43 : decode cX6_init 43 = .ok (.aastore, 1) := dk_83 (dk_at dksX6_init_1 19 rfl rfl)
theorem dX6_init_44 : decode cX6_init 44 = .ok (.iinc 3 1, 3) := dk_132 3 1 (dk_at dksX6_init_1 20 rfl rfl)
theorem dX6_init_47 : decode cX6_init 47 = .ok (.goto (-21), 3) := dk_167 255 235 (dk_at dksX6_init_2 0 rfl rfl)
theorem dX6_init_50 : decode cX6_init 50 = .ok (.return_, 1) := dk_177 (dk_at dksX6_init_2 3 rfl rfl)
abbrev cX6_count : ByteArray := prog_2_method_10_code
def yX6_count : MethodName := ⟨RX6, "count", "(LNightwatchWall$Kind;)I"⟩
def dkwX6_count_1 : List UInt8 := [4, 167, 0, 4, 3, 96, 61, 132, 3, 1, 167, 255, 226, 28, 172]
abbrev dktX6_count_1 : List UInt8 := dkwX6_count_1 ++ []
def dkwX6_count_0 : List UInt8 := [3, 61, 3, 62, 29, 42, 180, 0, 20, 190, 162, 0, 27, 28, 42, 180, 0, 20, 29, 50, 43, 166, 0, 7]
abbrev dktX6_count_0 : List UInt8 := dkwX6_count_0 ++ dktX6_count_1
theorem dksX6_count_0 : cX6_count.data.toList.drop 0 = dktX6_count_0 := by decide +kernel
theorem dksX6_count_1 : cX6_count.data.toList.drop 24 = dktX6_count_1 := dk_seg dksX6_count_0 24 rfl rfl
theorem dX6_count_0 : decode cX6_count 0 = .ok (.iconst 0, 1) := dk_3 (dk_at dksX6_count_0 0 rfl rfl)
theorem dX6_count_1 : decode cX6_count 1 = .ok (.istore_n 2, 1) := dk_61 (dk_at dksX6_count_0 1 rfl rfl)
theorem dX6_count_2 : decode cX6_count 2 = .ok (.iconst 0, 1) := dk_3 (dk_at dksX6_count_0 2 rfl rfl)
theorem dX6_count_3 : decode cX6_count 3 = .ok (.istore_n 3, 1) := dk_62 (dk_at dksX6_count_0 3 rfl rfl)
theorem dX6_count_4 : decode cX6_count 4 = .ok (.iload_n 3, 1) := dk_29 (dk_at dksX6_count_0 4 rfl rfl)
theorem dX6_count_5 : decode cX6_count 5 = .ok (.aload_n 0, 1) := dk_42 (dk_at dksX6_count_0 5 rfl rfl)
theorem dX6_count_6 : decode cX6_count 6 = .ok (.getfield 20, 3) := dk_180 0 20 (dk_at dksX6_count_0 6 rfl rfl)
theorem dX6_count_9 : decode cX6_count 9 = .ok (.arraylength, 1) := dk_190 (dk_at dksX6_count_0 9 rfl rfl)
theorem dX6_count_10 : decode cX6_count 10 = .ok (.if_icmp .ge 27, 3) := dk_162 0 27 (dk_at dksX6_count_0 10 rfl rfl)
theorem dX6_count_13 : decode cX6_count 13 = .ok (.iload_n 2, 1) := dk_28 (dk_at dksX6_count_0 13 rfl rfl)
theorem dX6_count_14 : decode cX6_count 14 = .ok (.aload_n 0, 1) := dk_42 (dk_at dksX6_count_0 14 rfl rfl)
theorem dX6_count_15 : decode cX6_count 15 = .ok (.getfield 20, 3) := dk_180 0 20 (dk_at dksX6_count_0 15 rfl rfl)
theorem dX6_count_18 : decode cX6_count 18 = .ok (.iload_n 3, 1) := dk_29 (dk_at dksX6_count_0 18 rfl rfl)
theorem dX6_count_19 : decode cX6_count 19 = .ok (.aaload, 1) := dk_50 (dk_at dksX6_count_0 19 rfl rfl)
theorem dX6_count_20 : decode cX6_count 20 = .ok (.aload_n 1, 1) := dk_43 (dk_at dksX6_count_0 20 rfl rfl)
theorem dX6_count_21 : decode cX6_count 21 = .ok (.if_acmp .ne 7, 3) := dk_166 0 7 (dk_at dksX6_count_0 21 rfl rfl)
theorem dX6_count_24 : decode cX6_count 24 = .ok (.iconst 1, 1) := dk_4 (dk_at dksX6_count_1 0 rfl rfl)
theorem dX6_count_25 : decode cX6_count 25 = .ok (.goto 4, 3) := dk_167 0 4 (dk_at dksX6_count_1 1 rfl rfl)
theorem dX6_count_28 : decode cX6_count 28 = .ok (.iconst 0, 1) := dk_3 (dk_at dksX6_count_1 4 rfl rfl)
theorem dX6_count_29 : decode cX6_count 29 = .ok (.iadd, 1) := dk_96 (dk_at dksX6_count_1 5 rfl rfl)
theorem dX6_count_30 : decode cX6_count 30 = .ok (.istore_n 2, 1) := dk_61 (dk_at dksX6_count_1 6 rfl rfl)
theorem dX6_count_31 : decode cX6_count 31 = .ok (.iinc 3 1, 3) := dk_132 3 1 (dk_at dksX6_count_1 7 rfl rfl)
theorem dX6_count_34 : decode cX6_count 34 = .ok (.goto (-30), 3) := dk_167 255 226 (dk_at dksX6_count_1 10 rfl rfl)
theorem dX6_count_37 : decode cX6_count 37 = .ok (.iload_n 2, 1) := dk_28 (dk_at dksX6_count_1 13 rfl rfl)
theorem dX6_count_38 : decode cX6_count 38 = .ok (.ireturn, 1) := dk_172 (dk_at dksX6_count_1 14 rfl rfl)
theorem q101 : (Jvm.Cond.initialized "NightwatchWall$Ground") ∈ lw_all := lw_g (lw_at lw_m1 16 rfl) rfl
theorem q286 : (Jvm.Cond.instanceMethod ({ cls := "NightwatchWall$Ground", name := "size", desc := "()I" } : Jvm.MethodName)) ∈ lw_all := lw_g (lw_at lw_m1 201 rfl) rfl
theorem q287 : (Jvm.Cond.selects "NightwatchWall$Ground" ({ cls := "NightwatchWall$Ground", name := "size", desc := "()I" } : Jvm.MethodName) ({ cls := "NightwatchWall$Ground", name := "size", desc := "()I" } : Jvm.MethodName)) ∈ lw_all := lw_g (lw_at lw_m1 202 rfl) rfl
theorem q288 : (Jvm.Cond.code ({ cls := "NightwatchWall$Ground", name := "size", desc := "()I" } : Jvm.MethodName) prog_2_method_2_code (1 : Nat) (Option.some Jvm.ClassFile.FieldType.int)) ∈ lw_all := lw_g (lw_at lw_m1 203 rfl) rfl
theorem q290 : (Jvm.Cond.instanceMethod ({ cls := "NightwatchWall$Ground", name := "isWall", desc := "(I)Z" } : Jvm.MethodName)) ∈ lw_all := lw_g (lw_at lw_m1 205 rfl) rfl
theorem q291 : (Jvm.Cond.selects "NightwatchWall$Ground" ({ cls := "NightwatchWall$Ground", name := "isWall", desc := "(I)Z" } : Jvm.MethodName) ({ cls := "NightwatchWall$Ground", name := "isWall", desc := "(I)Z" } : Jvm.MethodName)) ∈ lw_all := lw_g (lw_at lw_m1 206 rfl) rfl
theorem q292 : (Jvm.Cond.code ({ cls := "NightwatchWall$Ground", name := "isWall", desc := "(I)Z" } : Jvm.MethodName) prog_2_method_5_code (2 : Nat) (Option.some Jvm.ClassFile.FieldType.boolean)) ∈ lw_all := lw_g (lw_at lw_m1 207 rfl) rfl
theorem q293 : (Jvm.Cond.fieldLink "NightwatchWall$Ground" (28 : Nat) "NightwatchWall$Kind" "WALL" "LNightwatchWall$Kind;") ∈ lw_all := lw_g (lw_at lw_m1 208 rfl) rfl
theorem q441 : (Jvm.Cond.instanceMethod ({ cls := "NightwatchWall$Ground", name := "isClear", desc := "(II)Z" } : Jvm.MethodName)) ∈ lw_all := lw_g (lw_at lw_m2 116 rfl) rfl
theorem q442 : (Jvm.Cond.selects "NightwatchWall$Ground" ({ cls := "NightwatchWall$Ground", name := "isClear", desc := "(II)Z" } : Jvm.MethodName) ({ cls := "NightwatchWall$Ground", name := "isClear", desc := "(II)Z" } : Jvm.MethodName)) ∈ lw_all := lw_g (lw_at lw_m2 117 rfl) rfl
theorem q443 : (Jvm.Cond.code ({ cls := "NightwatchWall$Ground", name := "isClear", desc := "(II)Z" } : Jvm.MethodName) prog_2_method_9_code (5 : Nat) (Option.some Jvm.ClassFile.FieldType.boolean)) ∈ lw_all := lw_g (lw_at lw_m2 118 rfl) rfl
theorem q444 : (Jvm.Cond.methodLink "NightwatchWall$Ground" (47 : Nat) ({ cls := "NightwatchWall$Ground", name := "isInLine", desc := "(II)Z" } : Jvm.MethodName)) ∈ lw_all := lw_g (lw_at lw_m2 119 rfl) rfl
theorem q445 : (Jvm.Cond.privateMethod ({ cls := "NightwatchWall$Ground", name := "isInLine", desc := "(II)Z" } : Jvm.MethodName)) ∈ lw_tbl := lw_at lw_m2 120 rfl
theorem q446 : (Jvm.Cond.instanceMethod ({ cls := "NightwatchWall$Ground", name := "isInLine", desc := "(II)Z" } : Jvm.MethodName)) ∈ lw_all := lw_g (lw_at lw_m2 121 rfl) rfl
theorem q447 : (Jvm.Cond.instantiable "NightwatchWall$Ground" (3 : Nat)) ∈ lw_all := lw_g (lw_at lw_m2 122 rfl) rfl
theorem q448 : (Jvm.Cond.code ({ cls := "NightwatchWall$Ground", name := "isInLine", desc := "(II)Z" } : Jvm.MethodName) prog_2_method_8_code (5 : Nat) (Option.some Jvm.ClassFile.FieldType.boolean)) ∈ lw_all := lw_g (lw_at lw_m2 123 rfl) rfl
theorem q449 : (Jvm.Cond.methodLink "NightwatchWall$Ground" (31 : Nat) ({ cls := "NightwatchWall$Ground", name := "row", desc := "(I)I" } : Jvm.MethodName)) ∈ lw_all := lw_g (lw_at lw_m2 124 rfl) rfl
theorem q450 : (Jvm.Cond.instanceMethod ({ cls := "NightwatchWall$Ground", name := "row", desc := "(I)I" } : Jvm.MethodName)) ∈ lw_all := lw_g (lw_at lw_m2 125 rfl) rfl
theorem q451 : (Jvm.Cond.selects "NightwatchWall$Ground" ({ cls := "NightwatchWall$Ground", name := "row", desc := "(I)I" } : Jvm.MethodName) ({ cls := "NightwatchWall$Ground", name := "row", desc := "(I)I" } : Jvm.MethodName)) ∈ lw_all := lw_g (lw_at lw_m2 126 rfl) rfl
theorem q452 : (Jvm.Cond.code ({ cls := "NightwatchWall$Ground", name := "row", desc := "(I)I" } : Jvm.MethodName) prog_2_method_3_code (2 : Nat) (Option.some Jvm.ClassFile.FieldType.int)) ∈ lw_all := lw_g (lw_at lw_m2 127 rfl) rfl
theorem q453 : (Jvm.Cond.methodLink "NightwatchWall$Ground" (38 : Nat) ({ cls := "java/lang/Math", name := "abs", desc := "(I)I" } : Jvm.MethodName)) ∈ lw_all := lw_g (lw_at lw_m2 128 rfl) rfl
theorem q456 : (Jvm.Cond.methodLink "NightwatchWall$Ground" (35 : Nat) ({ cls := "NightwatchWall$Ground", name := "column", desc := "(I)I" } : Jvm.MethodName)) ∈ lw_all := lw_g (lw_at lw_m2 131 rfl) rfl
theorem q457 : (Jvm.Cond.instanceMethod ({ cls := "NightwatchWall$Ground", name := "column", desc := "(I)I" } : Jvm.MethodName)) ∈ lw_all := lw_g (lw_at lw_m2 132 rfl) rfl
theorem q458 : (Jvm.Cond.selects "NightwatchWall$Ground" ({ cls := "NightwatchWall$Ground", name := "column", desc := "(I)I" } : Jvm.MethodName) ({ cls := "NightwatchWall$Ground", name := "column", desc := "(I)I" } : Jvm.MethodName)) ∈ lw_all := lw_g (lw_at lw_m2 133 rfl) rfl
theorem q459 : (Jvm.Cond.code ({ cls := "NightwatchWall$Ground", name := "column", desc := "(I)I" } : Jvm.MethodName) prog_2_method_4_code (2 : Nat) (Option.some Jvm.ClassFile.FieldType.int)) ∈ lw_all := lw_g (lw_at lw_m2 134 rfl) rfl
theorem q460 : (Jvm.Cond.methodLink "NightwatchWall$Ground" (51 : Nat) ({ cls := "java/lang/Integer", name := "signum", desc := "(I)I" } : Jvm.MethodName)) ∈ lw_all := lw_g (lw_at lw_m2 135 rfl) rfl
theorem q463 : (Jvm.Cond.methodLink "NightwatchWall$Ground" (56 : Nat) ({ cls := "NightwatchWall$Kind", name := "isOpaque", desc := "()Z" } : Jvm.MethodName)) ∈ lw_all := lw_g (lw_at lw_m2 138 rfl) rfl
theorem q479 : (Jvm.Cond.instanceMethod ({ cls := "NightwatchWall$Ground", name := "apart", desc := "(II)I" } : Jvm.MethodName)) ∈ lw_all := lw_g (lw_at lw_m2 154 rfl) rfl
theorem q480 : (Jvm.Cond.selects "NightwatchWall$Ground" ({ cls := "NightwatchWall$Ground", name := "apart", desc := "(II)I" } : Jvm.MethodName) ({ cls := "NightwatchWall$Ground", name := "apart", desc := "(II)I" } : Jvm.MethodName)) ∈ lw_all := lw_g (lw_at lw_m2 155 rfl) rfl
theorem q481 : (Jvm.Cond.code ({ cls := "NightwatchWall$Ground", name := "apart", desc := "(II)I" } : Jvm.MethodName) prog_2_method_7_code (3 : Nat) (Option.some Jvm.ClassFile.FieldType.int)) ∈ lw_all := lw_g (lw_at lw_m2 156 rfl) rfl
theorem q482 : (Jvm.Cond.methodLink "NightwatchWall$Ground" (43 : Nat) ({ cls := "java/lang/Math", name := "max", desc := "(II)I" } : Jvm.MethodName)) ∈ lw_all := lw_g (lw_at lw_m2 157 rfl) rfl
theorem q618 : (Jvm.Cond.instanceMethod ({ cls := "NightwatchWall$Ground", name := "moved", desc := "(II)I" } : Jvm.MethodName)) ∈ lw_all := lw_g (lw_at lw_m3 53 rfl) rfl
theorem q619 : (Jvm.Cond.selects "NightwatchWall$Ground" ({ cls := "NightwatchWall$Ground", name := "moved", desc := "(II)I" } : Jvm.MethodName) ({ cls := "NightwatchWall$Ground", name := "moved", desc := "(II)I" } : Jvm.MethodName)) ∈ lw_all := lw_g (lw_at lw_m3 54 rfl) rfl
theorem q620 : (Jvm.Cond.code ({ cls := "NightwatchWall$Ground", name := "moved", desc := "(II)I" } : Jvm.MethodName) prog_2_method_6_code (3 : Nat) (Option.some Jvm.ClassFile.FieldType.int)) ∈ lw_all := lw_g (lw_at lw_m3 55 rfl) rfl
theorem q725 : (Jvm.Cond.instanceMethod ({ cls := "NightwatchWall$Ground", name := "<init>", desc := "(II)V" } : Jvm.MethodName)) ∈ lw_all := lw_g (lw_at lw_m3 160 rfl) rfl
theorem q726 : (Jvm.Cond.code ({ cls := "NightwatchWall$Ground", name := "<init>", desc := "(II)V" } : Jvm.MethodName) prog_2_method_1_code (4 : Nat) (Option.none : Option Jvm.ClassFile.FieldType)) ∈ lw_all := lw_g (lw_at lw_m3 161 rfl) rfl
theorem q727 : (Jvm.Cond.methodLink "NightwatchWall$Ground" (3 : Nat) ({ cls := "java/lang/Object", name := "<init>", desc := "()V" } : Jvm.MethodName)) ∈ lw_all := lw_g (lw_at lw_m3 162 rfl) rfl
theorem q728 : (Jvm.Cond.classLink "NightwatchWall$Ground" (18 : Nat) "NightwatchWall$Kind") ∈ lw_all := lw_g (lw_at lw_m3 163 rfl) rfl
theorem q730 : (Jvm.Cond.fieldLink "NightwatchWall$Ground" (24 : Nat) "NightwatchWall$Kind" "GROUND" "LNightwatchWall$Kind;") ∈ lw_all := lw_g (lw_at lw_m3 165 rfl) rfl
theorem q731 : (Jvm.Cond.fieldLink "NightwatchWall$Ground" (9 : Nat) "NightwatchWall$Ground" "wide" "I") ∈ lw_all := lw_g (lw_at lw_m3 166 rfl) rfl
theorem q733 : (Jvm.Cond.fieldLink "NightwatchWall$Ground" (15 : Nat) "NightwatchWall$Ground" "high" "I") ∈ lw_all := lw_g (lw_at lw_m3 168 rfl) rfl
theorem q735 : (Jvm.Cond.fieldLink "NightwatchWall$Ground" (20 : Nat) "NightwatchWall$Ground" "kinds" "[LNightwatchWall$Kind;") ∈ lw_all := lw_g (lw_at lw_m3 170 rfl) rfl
theorem q737 : (Jvm.Cond.laysFinal "NightwatchWall$Ground" "NightwatchWall$Ground" "wide" "I") ∈ lw_all := lw_g (lw_at lw_m3 172 rfl) rfl
theorem q738 : (Jvm.Cond.soleField "NightwatchWall$Ground" "wide") ∈ lw_all := lw_g (lw_at lw_m3 173 rfl) rfl
theorem q739 : (Jvm.Cond.laysFinal "NightwatchWall$Ground" "NightwatchWall$Ground" "high" "I") ∈ lw_all := lw_g (lw_at lw_m3 174 rfl) rfl
theorem q740 : (Jvm.Cond.soleField "NightwatchWall$Ground" "high") ∈ lw_all := lw_g (lw_at lw_m3 175 rfl) rfl
theorem q741 : (Jvm.Cond.laysFinal "NightwatchWall$Ground" "NightwatchWall$Ground" "kinds" "[LNightwatchWall$Kind;") ∈ lw_all := lw_g (lw_at lw_m3 176 rfl) rfl
theorem q742 : (Jvm.Cond.soleField "NightwatchWall$Ground" "kinds") ∈ lw_all := lw_g (lw_at lw_m3 177 rfl) rfl
theorem q743 : (Jvm.Cond.superclass "NightwatchWall$Ground" "java/lang/Object") ∈ lw_all := lw_g (lw_at lw_m3 178 rfl) rfl
theorem q766 : (Jvm.Cond.instanceMethod ({ cls := "NightwatchWall$Ground", name := "count", desc := "(LNightwatchWall$Kind;)I" } : Jvm.MethodName)) ∈ lw_all := lw_g (lw_at lw_m3 201 rfl) rfl
theorem q767 : (Jvm.Cond.selects "NightwatchWall$Ground" ({ cls := "NightwatchWall$Ground", name := "count", desc := "(LNightwatchWall$Kind;)I" } : Jvm.MethodName) ({ cls := "NightwatchWall$Ground", name := "count", desc := "(LNightwatchWall$Kind;)I" } : Jvm.MethodName)) ∈ lw_all := lw_g (lw_at lw_m3 202 rfl) rfl
theorem q768 : (Jvm.Cond.code ({ cls := "NightwatchWall$Ground", name := "count", desc := "(LNightwatchWall$Kind;)I" } : Jvm.MethodName) prog_2_method_10_code (4 : Nat) (Option.some Jvm.ClassFile.FieldType.int)) ∈ lw_all := lw_g (lw_at lw_m3 203 rfl) rfl
theorem q919 : (Jvm.Cond.selects "NightwatchWall$Ground" ({ cls := "java/lang/Object", name := "getClass", desc := "()Ljava/lang/Class;" } : Jvm.MethodName) ({ cls := "java/lang/Object", name := "getClass", desc := "()Ljava/lang/Class;" } : Jvm.MethodName)) ∈ lw_all := lw_g (lw_at lw_m4 114 rfl) rfl
theorem q2128 : (Jvm.Cond.castable "NightwatchWall$Ground" "java/lang/Object") ∈ lw_tbl := lw_at lw_m9 123 rfl
theorem in_X6 : ∀ w ∈ wsX60, w ∈ lw_all := lw_in wsX60 [737, 739, 741] (by decide +kernel) (by decide +kernel)
/-! NightwatchWall$Kind -/
set_option maxRecDepth 100000
def RX7 : String := "NightwatchWall$Kind"
abbrev cX7_number : ByteArray := prog_5_method_7_code
def yX7_number : MethodName := ⟨RX7, "number", "()I"⟩
def dkwX7_number_1 : List UInt8 := [178, 0, 10, 166, 0, 7, 5, 167, 0, 4, 6, 172]
abbrev dktX7_number_1 : List UInt8 := dkwX7_number_1 ++ []
def dkwX7_number_0 : List UInt8 := [42, 178, 0, 3, 166, 0, 7, 3, 167, 0, 26, 42, 178, 0, 7, 166, 0, 7, 4, 167, 0, 15, 42]
abbrev dktX7_number_0 : List UInt8 := dkwX7_number_0 ++ dktX7_number_1
theorem dksX7_number_0 : cX7_number.data.toList.drop 0 = dktX7_number_0 := by decide +kernel
theorem dksX7_number_1 : cX7_number.data.toList.drop 23 = dktX7_number_1 := dk_seg dksX7_number_0 23 rfl rfl
theorem dX7_number_0 : decode cX7_number 0 = .ok (.aload_n 0, 1) := dk_42 (dk_at dksX7_number_0 0 rfl rfl)
theorem dX7_number_1 : decode cX7_number 1 = .ok (.getstatic 3, 3) := dk_178 0 3 (dk_at dksX7_number_0 1 rfl rfl)
theorem dX7_number_4 : decode cX7_number 4 = .ok (.if_acmp .ne 7, 3) := dk_166 0 7 (dk_at dksX7_number_0 4 rfl rfl)
theorem dX7_number_7 : decode cX7_number 7 = .ok (.iconst 0, 1) := dk_3 (dk_at dksX7_number_0 7 rfl rfl)
theorem dX7_number_8 : decode cX7_number 8 = .ok (.goto 26, 3) := dk_167 0 26 (dk_at dksX7_number_0 8 rfl rfl)
theorem dX7_number_11 : decode cX7_number 11 = .ok (.aload_n 0, 1) := dk_42 (dk_at dksX7_number_0 11 rfl rfl)
theorem dX7_number_12 : decode cX7_number 12 = .ok (.getstatic 7, 3) := dk_178 0 7 (dk_at dksX7_number_0 12 rfl rfl)
theorem dX7_number_15 : decode cX7_number 15 = .ok (.if_acmp .ne 7, 3) := dk_166 0 7 (dk_at dksX7_number_0 15 rfl rfl)
theorem dX7_number_18 : decode cX7_number 18 = .ok (.iconst 1, 1) := dk_4 (dk_at dksX7_number_0 18 rfl rfl)
theorem dX7_number_19 : decode cX7_number 19 = .ok (.goto 15, 3) := dk_167 0 15 (dk_at dksX7_number_0 19 rfl rfl)
theorem dX7_number_22 : decode cX7_number 22 = .ok (.aload_n 0, 1) := dk_42 (dk_at dksX7_number_0 22 rfl rfl)
theorem dX7_number_23 : decode cX7_number 23 = .ok (.getstatic 10, 3) := dk_178 0 10 (dk_at dksX7_number_1 0 rfl rfl)
theorem dX7_number_26 : decode cX7_number 26 = .ok (.if_acmp .ne 7, 3) := dk_166 0 7 (dk_at dksX7_number_1 3 rfl rfl)
theorem dX7_number_29 : decode cX7_number 29 = .ok (.iconst 2, 1) := dk_5 (dk_at dksX7_number_1 6 rfl rfl)
theorem dX7_number_30 : decode cX7_number 30 = .ok (.goto 4, 3) := dk_167 0 4 (dk_at dksX7_number_1 7 rfl rfl)
theorem dX7_number_33 : decode cX7_number 33 = .ok (.iconst 3, 1) := dk_6 (dk_at dksX7_number_1 10 rfl rfl)
theorem dX7_number_34 : decode cX7_number 34 = .ok (.ireturn, 1) := dk_172 (dk_at dksX7_number_1 11 rfl rfl)
abbrev cX7_of : ByteArray := prog_5_method_6_code
def yX7_of : MethodName := ⟨RX7, "of", "(I)LNightwatchWall$Kind;"⟩
def dkwX7_of_1 : List UInt8 := [160, 0, 9, 178, 0, 10, 167, 0, 6, 178, 0, 13, 176]
abbrev dktX7_of_1 : List UInt8 := dkwX7_of_1 ++ []
def dkwX7_of_0 : List UInt8 := [26, 154, 0, 9, 178, 0, 3, 167, 0, 28, 26, 4, 160, 0, 9, 178, 0, 7, 167, 0, 17, 26, 5]
abbrev dktX7_of_0 : List UInt8 := dkwX7_of_0 ++ dktX7_of_1
theorem dksX7_of_0 : cX7_of.data.toList.drop 0 = dktX7_of_0 := by decide +kernel
theorem dksX7_of_1 : cX7_of.data.toList.drop 23 = dktX7_of_1 := dk_seg dksX7_of_0 23 rfl rfl
theorem dX7_of_0 : decode cX7_of 0 = .ok (.iload_n 0, 1) := dk_26 (dk_at dksX7_of_0 0 rfl rfl)
theorem dX7_of_1 : decode cX7_of 1 = .ok (.ifCond .ne 9, 3) := dk_154 0 9 (dk_at dksX7_of_0 1 rfl rfl)
theorem dX7_of_4 : decode cX7_of 4 = .ok (.getstatic 3, 3) := dk_178 0 3 (dk_at dksX7_of_0 4 rfl rfl)
theorem dX7_of_7 : decode cX7_of 7 = .ok (.goto 28, 3) := dk_167 0 28 (dk_at dksX7_of_0 7 rfl rfl)
theorem dX7_of_10 : decode cX7_of 10 = .ok (.iload_n 0, 1) := dk_26 (dk_at dksX7_of_0 10 rfl rfl)
theorem dX7_of_11 : decode cX7_of 11 = .ok (.iconst 1, 1) := dk_4 (dk_at dksX7_of_0 11 rfl rfl)
theorem dX7_of_12 : decode cX7_of 12 = .ok (.if_icmp .ne 9, 3) := dk_160 0 9 (dk_at dksX7_of_0 12 rfl rfl)
theorem dX7_of_15 : decode cX7_of 15 = .ok (.getstatic 7, 3) := dk_178 0 7 (dk_at dksX7_of_0 15 rfl rfl)
theorem dX7_of_18 : decode cX7_of 18 = .ok (.goto 17, 3) := dk_167 0 17 (dk_at dksX7_of_0 18 rfl rfl)
theorem dX7_of_21 : decode cX7_of 21 = .ok (.iload_n 0, 1) := dk_26 (dk_at dksX7_of_0 21 rfl rfl)
theorem dX7_of_22 : decode cX7_of 22 = .ok (.iconst 2, 1) := dk_5 (dk_at dksX7_of_0 22 rfl rfl)
theorem dX7_of_23 : decode cX7_of 23 = .ok (.if_icmp .ne 9, 3) := dk_160 0 9 (dk_at dksX7_of_1 0 rfl rfl)
theorem dX7_of_26 : decode cX7_of 26 = .ok (.getstatic 10, 3) := dk_178 0 10 (dk_at dksX7_of_1 3 rfl rfl)
theorem dX7_of_29 : decode cX7_of 29 = .ok (.goto 6, 3) := dk_167 0 6 (dk_at dksX7_of_1 6 rfl rfl)
theorem dX7_of_32 : decode cX7_of 32 = .ok (.getstatic 13, 3) := dk_178 0 13 (dk_at dksX7_of_1 9 rfl rfl)
theorem dX7_of_35 : decode cX7_of 35 = .ok (.areturn, 1) := dk_176 (dk_at dksX7_of_1 12 rfl rfl)
theorem q103 : (Jvm.Cond.initialized "NightwatchWall$Kind") ∈ lw_all := lw_g (lw_at lw_m1 18 rfl) rfl
theorem q294 : (Jvm.Cond.laysStatic "NightwatchWall$Kind" "WALL" "LNightwatchWall$Kind;") ∈ lw_tbl := lw_at lw_m1 209 rfl
theorem q464 : (Jvm.Cond.declares ({ cls := "NightwatchWall$Kind", name := "isOpaque", desc := "()Z" } : Jvm.MethodName)) ∈ lw_tbl := lw_at lw_m2 139 rfl
theorem q465 : (Jvm.Cond.sameMethod "NightwatchWall$Kind" "NightwatchWall$Kind" "isOpaque" "()Z") ∈ lw_all := lw_g (lw_at lw_m2 140 rfl) rfl
theorem q560 : (Jvm.Cond.instanceMethod ({ cls := "NightwatchWall$Kind", name := "number", desc := "()I" } : Jvm.MethodName)) ∈ lw_all := lw_g (lw_at lw_m2 235 rfl) rfl
theorem q561 : (Jvm.Cond.sameMethod "NightwatchWall$Kind" "NightwatchWall$Kind" "number" "()I") ∈ lw_all := lw_g (lw_at lw_m2 236 rfl) rfl
theorem q566 : (Jvm.Cond.code ({ cls := "NightwatchWall$Kind", name := "number", desc := "()I" } : Jvm.MethodName) prog_5_method_7_code (1 : Nat) (Option.some Jvm.ClassFile.FieldType.int)) ∈ lw_all := lw_g (lw_at lw_m3 1 rfl) rfl
theorem q567 : (Jvm.Cond.fieldLink "NightwatchWall$Kind" (3 : Nat) "NightwatchWall$Kind" "GROUND" "LNightwatchWall$Kind;") ∈ lw_all := lw_g (lw_at lw_m3 2 rfl) rfl
theorem q568 : (Jvm.Cond.laysStatic "NightwatchWall$Kind" "GROUND" "LNightwatchWall$Kind;") ∈ lw_tbl := lw_at lw_m3 3 rfl
theorem q569 : (Jvm.Cond.fieldLink "NightwatchWall$Kind" (7 : Nat) "NightwatchWall$Kind" "WALL" "LNightwatchWall$Kind;") ∈ lw_all := lw_g (lw_at lw_m3 4 rfl) rfl
theorem q570 : (Jvm.Cond.fieldLink "NightwatchWall$Kind" (10 : Nat) "NightwatchWall$Kind" "HEDGE" "LNightwatchWall$Kind;") ∈ lw_all := lw_g (lw_at lw_m3 5 rfl) rfl
theorem q571 : (Jvm.Cond.laysStatic "NightwatchWall$Kind" "HEDGE" "LNightwatchWall$Kind;") ∈ lw_tbl := lw_at lw_m3 6 rfl
theorem q578 : (Jvm.Cond.laysStatic "NightwatchWall$Kind" "GATE" "LNightwatchWall$Kind;") ∈ lw_tbl := lw_at lw_m3 13 rfl
theorem q851 : (Jvm.Cond.static ({ cls := "NightwatchWall$Kind", name := "of", desc := "(I)LNightwatchWall$Kind;" } : Jvm.MethodName)) ∈ lw_all := lw_g (lw_at lw_m4 46 rfl) rfl
theorem q852 : (Jvm.Cond.code ({ cls := "NightwatchWall$Kind", name := "of", desc := "(I)LNightwatchWall$Kind;" } : Jvm.MethodName) prog_5_method_6_code (1 : Nat) (Option.some (Jvm.ClassFile.FieldType.object "NightwatchWall$Kind"))) ∈ lw_all := lw_g (lw_at lw_m4 47 rfl) rfl
theorem q853 : (Jvm.Cond.fieldLink "NightwatchWall$Kind" (13 : Nat) "NightwatchWall$Kind" "GATE" "LNightwatchWall$Kind;") ∈ lw_all := lw_g (lw_at lw_m4 48 rfl) rfl
theorem q1363 : (Jvm.Cond.declares ({ cls := "NightwatchWall$Kind", name := "sign", desc := "()C" } : Jvm.MethodName)) ∈ lw_tbl := lw_at lw_m6 78 rfl
theorem q1364 : (Jvm.Cond.sameMethod "NightwatchWall$Kind" "NightwatchWall$Kind" "sign" "()C") ∈ lw_all := lw_g (lw_at lw_m6 79 rfl) rfl
theorem q2119 : (Jvm.Cond.castable "NightwatchWall$Kind" "java/lang/Object") ∈ lw_tbl := lw_at lw_m9 114 rfl
/-! NightwatchWall$Lamp -/
set_option maxRecDepth 100000
def RX8 : String := "NightwatchWall$Lamp"
def TX8 : u_T := fun k => match k with
  | 0 => ("NightwatchWall$Lamp", "cell", "I", true)
  | 1 => ("NightwatchWall$Lamp", "reach", "I", true)
  | _ => ("NightwatchWall$Lamp", "isLit", "Z", false)
def tyX8 : Nat → FieldType := fun k => match k with
  | 0 => .int
  | 1 => .int
  | _ => .boolean
abbrev wsX80 : List Cond := u_ws RX8 TX8 3
theorem nmX8 : ∀ a, a < 3 → ∀ b, b < 3 → a ≠ b → (TX8 a).2.1 ≠ (TX8 b).2.1 := by decide +kernel
theorem tyX8_ok : ∀ k, k < 3 → parseFieldDescriptor (TX8 k).2.2.1 = some (tyX8 k) := by decide +kernel
abbrev cX8_lights : ByteArray := prog_10_method_2_code
def yX8_lights : MethodName := ⟨RX8, "lights", "(LNightwatchWall$Ground;I)Z"⟩
def dkwX8_lights_1 : List UInt8 := [28, 182, 0, 26, 42, 180, 0, 17, 163, 0, 7, 4, 167, 0, 4, 3, 172]
abbrev dktX8_lights_1 : List UInt8 := dkwX8_lights_1 ++ []
def dkwX8_lights_0 : List UInt8 := [42, 180, 0, 7, 153, 0, 35, 43, 42, 180, 0, 13, 28, 182, 0, 20, 153, 0, 23, 43, 42, 180, 0, 13]
abbrev dktX8_lights_0 : List UInt8 := dkwX8_lights_0 ++ dktX8_lights_1
theorem dksX8_lights_0 : cX8_lights.data.toList.drop 0 = dktX8_lights_0 := by decide +kernel
theorem dksX8_lights_1 : cX8_lights.data.toList.drop 24 = dktX8_lights_1 := dk_seg dksX8_lights_0 24 rfl rfl
theorem dX8_lights_0 : decode cX8_lights 0 = .ok (.aload_n 0, 1) := dk_42 (dk_at dksX8_lights_0 0 rfl rfl)
theorem dX8_lights_1 : decode cX8_lights 1 = .ok (.getfield 7, 3) := dk_180 0 7 (dk_at dksX8_lights_0 1 rfl rfl)
theorem dX8_lights_4 : decode cX8_lights 4 = .ok (.ifCond .eq 35, 3) := dk_153 0 35 (dk_at dksX8_lights_0 4 rfl rfl)
theorem dX8_lights_7 : decode cX8_lights 7 = .ok (.aload_n 1, 1) := dk_43 (dk_at dksX8_lights_0 7 rfl rfl)
theorem dX8_lights_8 : decode cX8_lights 8 = .ok (.aload_n 0, 1) := dk_42 (dk_at dksX8_lights_0 8 rfl rfl)
theorem dX8_lights_9 : decode cX8_lights 9 = .ok (.getfield 13, 3) := dk_180 0 13 (dk_at dksX8_lights_0 9 rfl rfl)
theorem dX8_lights_12 : decode cX8_lights 12 = .ok (.iload_n 2, 1) := dk_28 (dk_at dksX8_lights_0 12 rfl rfl)
theorem dX8_lights_13 : decode cX8_lights 13 = .ok (.invokevirtual 20, 3) := dk_182 0 20 (dk_at dksX8_lights_0 13 rfl rfl)
theorem dX8_lights_16 : decode cX8_lights 16 = .ok (.ifCond .eq 23, 3) := dk_153 0 23 (dk_at dksX8_lights_0 16 rfl rfl)
theorem dX8_lights_19 : decode cX8_lights 19 = .ok (.aload_n 1, 1) := dk_43 (dk_at dksX8_lights_0 19 rfl rfl)
theorem dX8_lights_20 : decode cX8_lights 20 = .ok (.aload_n 0, 1) := dk_42 (dk_at dksX8_lights_0 20 rfl rfl)
theorem dX8_lights_21 : decode cX8_lights 21 = .ok (.getfield 13, 3) := dk_180 0 13 (dk_at dksX8_lights_0 21 rfl rfl)
theorem dX8_lights_24 : decode cX8_lights 24 = .ok (.iload_n 2, 1) := dk_28 (dk_at dksX8_lights_1 0 rfl rfl)
theorem dX8_lights_25 : decode cX8_lights 25 = .ok (.invokevirtual 26, 3) := dk_182 0 26 (dk_at dksX8_lights_1 1 rfl rfl)
theorem dX8_lights_28 : decode cX8_lights 28 = .ok (.aload_n 0, 1) := dk_42 (dk_at dksX8_lights_1 4 rfl rfl)
theorem dX8_lights_29 : decode cX8_lights 29 = .ok (.getfield 17, 3) := dk_180 0 17 (dk_at dksX8_lights_1 5 rfl rfl)
theorem dX8_lights_32 : decode cX8_lights 32 = .ok (.if_icmp .gt 7, 3) := dk_163 0 7 (dk_at dksX8_lights_1 8 rfl rfl)
theorem dX8_lights_35 : decode cX8_lights 35 = .ok (.iconst 1, 1) := dk_4 (dk_at dksX8_lights_1 11 rfl rfl)
theorem dX8_lights_36 : decode cX8_lights 36 = .ok (.goto 4, 3) := dk_167 0 4 (dk_at dksX8_lights_1 12 rfl rfl)
theorem dX8_lights_39 : decode cX8_lights 39 = .ok (.iconst 0, 1) := dk_3 (dk_at dksX8_lights_1 15 rfl rfl)
theorem dX8_lights_40 : decode cX8_lights 40 = .ok (.ireturn, 1) := dk_172 (dk_at dksX8_lights_1 16 rfl rfl)
abbrev cX8_init : ByteArray := prog_10_method_1_code
def yX8_init : MethodName := ⟨RX8, "<init>", "(II)V"⟩
def dkwX8_init_0 : List UInt8 := [42, 183, 0, 1, 42, 4, 181, 0, 7, 42, 27, 181, 0, 13, 42, 28, 181, 0, 17, 177]
abbrev dktX8_init_0 : List UInt8 := dkwX8_init_0 ++ []
theorem dksX8_init_0 : cX8_init.data.toList.drop 0 = dktX8_init_0 := by decide +kernel
theorem dX8_init_0 : decode cX8_init 0 = .ok (.aload_n 0, 1) := dk_42 (dk_at dksX8_init_0 0 rfl rfl)
theorem dX8_init_1 : decode cX8_init 1 = .ok (.invokespecial 1, 3) := dk_183 0 1 (dk_at dksX8_init_0 1 rfl rfl)
theorem dX8_init_4 : decode cX8_init 4 = .ok (.aload_n 0, 1) := dk_42 (dk_at dksX8_init_0 4 rfl rfl)
theorem dX8_init_5 : decode cX8_init 5 = .ok (.iconst 1, 1) := dk_4 (dk_at dksX8_init_0 5 rfl rfl)
theorem dX8_init_6 : decode cX8_init 6 = .ok (.putfield 7, 3) := dk_181 0 7 (dk_at dksX8_init_0 6 rfl rfl)
theorem dX8_init_9 : decode cX8_init 9 = .ok (.aload_n 0, 1) := dk_42 (dk_at dksX8_init_0 9 rfl rfl)
theorem dX8_init_10 : decode cX8_init 10 = .ok (.iload_n 1, 1) := dk_27 (dk_at dksX8_init_0 10 rfl rfl)
theorem dX8_init_11 : decode cX8_init 11 = .ok (.putfield 13, 3) := dk_181 0 13 (dk_at dksX8_init_0 11 rfl rfl)
theorem dX8_init_14 : decode cX8_init 14 = .ok (.aload_n 0, 1) := dk_42 (dk_at dksX8_init_0 14 rfl rfl)
theorem dX8_init_15 : decode cX8_init 15 = .ok (.iload_n 2, 1) := dk_28 (dk_at dksX8_init_0 15 rfl rfl)
theorem dX8_init_16 : decode cX8_init 16 = .ok (.putfield 17, 3) := dk_181 0 17 (dk_at dksX8_init_0 16 rfl rfl)
theorem dX8_init_19 : decode cX8_init 19 = .ok (.return_, 1) := dk_177 (dk_at dksX8_init_0 19 rfl rfl)
theorem q110 : (Jvm.Cond.initialized "NightwatchWall$Lamp") ∈ lw_all := lw_g (lw_at lw_m1 25 rfl) rfl
theorem q502 : (Jvm.Cond.instanceMethod ({ cls := "NightwatchWall$Lamp", name := "lights", desc := "(LNightwatchWall$Ground;I)Z" } : Jvm.MethodName)) ∈ lw_all := lw_g (lw_at lw_m2 177 rfl) rfl
theorem q503 : (Jvm.Cond.selects "NightwatchWall$Lamp" ({ cls := "NightwatchWall$Lamp", name := "lights", desc := "(LNightwatchWall$Ground;I)Z" } : Jvm.MethodName) ({ cls := "NightwatchWall$Lamp", name := "lights", desc := "(LNightwatchWall$Ground;I)Z" } : Jvm.MethodName)) ∈ lw_all := lw_g (lw_at lw_m2 178 rfl) rfl
theorem q504 : (Jvm.Cond.code ({ cls := "NightwatchWall$Lamp", name := "lights", desc := "(LNightwatchWall$Ground;I)Z" } : Jvm.MethodName) prog_10_method_2_code (3 : Nat) (Option.some Jvm.ClassFile.FieldType.boolean)) ∈ lw_all := lw_g (lw_at lw_m2 179 rfl) rfl
theorem q505 : (Jvm.Cond.methodLink "NightwatchWall$Lamp" (20 : Nat) ({ cls := "NightwatchWall$Ground", name := "isClear", desc := "(II)Z" } : Jvm.MethodName)) ∈ lw_all := lw_g (lw_at lw_m2 180 rfl) rfl
theorem q506 : (Jvm.Cond.methodLink "NightwatchWall$Lamp" (26 : Nat) ({ cls := "NightwatchWall$Ground", name := "apart", desc := "(II)I" } : Jvm.MethodName)) ∈ lw_all := lw_g (lw_at lw_m2 181 rfl) rfl
theorem q871 : (Jvm.Cond.instantiable "NightwatchWall$Lamp" (3 : Nat)) ∈ lw_all := lw_g (lw_at lw_m4 66 rfl) rfl
theorem q873 : (Jvm.Cond.instanceMethod ({ cls := "NightwatchWall$Lamp", name := "<init>", desc := "(II)V" } : Jvm.MethodName)) ∈ lw_all := lw_g (lw_at lw_m4 68 rfl) rfl
theorem q874 : (Jvm.Cond.code ({ cls := "NightwatchWall$Lamp", name := "<init>", desc := "(II)V" } : Jvm.MethodName) prog_10_method_1_code (3 : Nat) (Option.none : Option Jvm.ClassFile.FieldType)) ∈ lw_all := lw_g (lw_at lw_m4 69 rfl) rfl
theorem q875 : (Jvm.Cond.methodLink "NightwatchWall$Lamp" (1 : Nat) ({ cls := "java/lang/Object", name := "<init>", desc := "()V" } : Jvm.MethodName)) ∈ lw_all := lw_g (lw_at lw_m4 70 rfl) rfl
theorem q876 : (Jvm.Cond.fieldLink "NightwatchWall$Lamp" (13 : Nat) "NightwatchWall$Lamp" "cell" "I") ∈ lw_all := lw_g (lw_at lw_m4 71 rfl) rfl
theorem q878 : (Jvm.Cond.fieldLink "NightwatchWall$Lamp" (17 : Nat) "NightwatchWall$Lamp" "reach" "I") ∈ lw_all := lw_g (lw_at lw_m4 73 rfl) rfl
theorem q879 : (Jvm.Cond.fieldLink "NightwatchWall$Lamp" (7 : Nat) "NightwatchWall$Lamp" "isLit" "Z") ∈ lw_all := lw_g (lw_at lw_m4 74 rfl) rfl
theorem q881 : (Jvm.Cond.laysFinal "NightwatchWall$Lamp" "NightwatchWall$Lamp" "cell" "I") ∈ lw_all := lw_g (lw_at lw_m4 76 rfl) rfl
theorem q882 : (Jvm.Cond.soleField "NightwatchWall$Lamp" "cell") ∈ lw_all := lw_g (lw_at lw_m4 77 rfl) rfl
theorem q883 : (Jvm.Cond.laysFinal "NightwatchWall$Lamp" "NightwatchWall$Lamp" "reach" "I") ∈ lw_all := lw_g (lw_at lw_m4 78 rfl) rfl
theorem q884 : (Jvm.Cond.soleField "NightwatchWall$Lamp" "reach") ∈ lw_all := lw_g (lw_at lw_m4 79 rfl) rfl
theorem q885 : (Jvm.Cond.lays "NightwatchWall$Lamp" "NightwatchWall$Lamp" "isLit" "Z") ∈ lw_all := lw_g (lw_at lw_m4 80 rfl) rfl
theorem q886 : (Jvm.Cond.soleField "NightwatchWall$Lamp" "isLit") ∈ lw_all := lw_g (lw_at lw_m4 81 rfl) rfl
theorem q887 : (Jvm.Cond.superclass "NightwatchWall$Lamp" "java/lang/Object") ∈ lw_all := lw_g (lw_at lw_m4 82 rfl) rfl
theorem q926 : (Jvm.Cond.selects "NightwatchWall$Lamp" ({ cls := "java/lang/Object", name := "getClass", desc := "()Ljava/lang/Class;" } : Jvm.MethodName) ({ cls := "java/lang/Object", name := "getClass", desc := "()Ljava/lang/Class;" } : Jvm.MethodName)) ∈ lw_all := lw_g (lw_at lw_m4 121 rfl) rfl
theorem q2137 : (Jvm.Cond.castable "NightwatchWall$Lamp" "java/lang/Object") ∈ lw_tbl := lw_at lw_m9 132 rfl
theorem in_X8 : ∀ w ∈ wsX80, w ∈ lw_all := lw_in wsX80 [881, 883, 885] (by decide +kernel) (by decide +kernel)
/-! NightwatchWall$Report -/
set_option maxRecDepth 100000
def RX9 : String := "NightwatchWall$Report"
def TX9 : u_T := fun k => match k with
  | 0 => ("NightwatchWall$Report", "minute", "I", true)
  | _ => ("NightwatchWall$Report", "fog", "I", true)
def tyX9 : Nat → FieldType := fun k => match k with
  | 0 => .int
  | _ => .int
abbrev wsX90 : List Cond := u_ws RX9 TX9 2
theorem nmX9 : ∀ a, a < 2 → ∀ b, b < 2 → a ≠ b → (TX9 a).2.1 ≠ (TX9 b).2.1 := by decide +kernel
theorem tyX9_ok : ∀ k, k < 2 → parseFieldDescriptor (TX9 k).2.2.1 = some (tyX9 k) := by decide +kernel
abbrev cX9_init : ByteArray := prog_11_method_1_code
def yX9_init : MethodName := ⟨RX9, "<init>", "(II)V"⟩
def dkwX9_init_0 : List UInt8 := [42, 183, 0, 1, 42, 27, 181, 0, 7, 42, 28, 181, 0, 13, 177]
abbrev dktX9_init_0 : List UInt8 := dkwX9_init_0 ++ []
theorem dksX9_init_0 : cX9_init.data.toList.drop 0 = dktX9_init_0 := by decide +kernel
theorem dX9_init_0 : decode cX9_init 0 = .ok (.aload_n 0, 1) := dk_42 (dk_at dksX9_init_0 0 rfl rfl)
theorem dX9_init_1 : decode cX9_init 1 = .ok (.invokespecial 1, 3) := dk_183 0 1 (dk_at dksX9_init_0 1 rfl rfl)
theorem dX9_init_4 : decode cX9_init 4 = .ok (.aload_n 0, 1) := dk_42 (dk_at dksX9_init_0 4 rfl rfl)
theorem dX9_init_5 : decode cX9_init 5 = .ok (.iload_n 1, 1) := dk_27 (dk_at dksX9_init_0 5 rfl rfl)
theorem dX9_init_6 : decode cX9_init 6 = .ok (.putfield 7, 3) := dk_181 0 7 (dk_at dksX9_init_0 6 rfl rfl)
theorem dX9_init_9 : decode cX9_init 9 = .ok (.aload_n 0, 1) := dk_42 (dk_at dksX9_init_0 9 rfl rfl)
theorem dX9_init_10 : decode cX9_init 10 = .ok (.iload_n 2, 1) := dk_28 (dk_at dksX9_init_0 10 rfl rfl)
theorem dX9_init_11 : decode cX9_init 11 = .ok (.putfield 13, 3) := dk_181 0 13 (dk_at dksX9_init_0 11 rfl rfl)
theorem dX9_init_14 : decode cX9_init 14 = .ok (.return_, 1) := dk_177 (dk_at dksX9_init_0 14 rfl rfl)
theorem q116 : (Jvm.Cond.initialized "NightwatchWall$Report") ∈ lw_all := lw_g (lw_at lw_m1 31 rfl) rfl
theorem q927 : (Jvm.Cond.selects "NightwatchWall$Report" ({ cls := "java/lang/Object", name := "getClass", desc := "()Ljava/lang/Class;" } : Jvm.MethodName) ({ cls := "java/lang/Object", name := "getClass", desc := "()Ljava/lang/Class;" } : Jvm.MethodName)) ∈ lw_all := lw_g (lw_at lw_m4 122 rfl) rfl
theorem q972 : (Jvm.Cond.instantiable "NightwatchWall$Report" (2 : Nat)) ∈ lw_all := lw_g (lw_at lw_m4 167 rfl) rfl
theorem q974 : (Jvm.Cond.instanceMethod ({ cls := "NightwatchWall$Report", name := "<init>", desc := "(II)V" } : Jvm.MethodName)) ∈ lw_all := lw_g (lw_at lw_m4 169 rfl) rfl
theorem q975 : (Jvm.Cond.code ({ cls := "NightwatchWall$Report", name := "<init>", desc := "(II)V" } : Jvm.MethodName) prog_11_method_1_code (3 : Nat) (Option.none : Option Jvm.ClassFile.FieldType)) ∈ lw_all := lw_g (lw_at lw_m4 170 rfl) rfl
theorem q976 : (Jvm.Cond.methodLink "NightwatchWall$Report" (1 : Nat) ({ cls := "java/lang/Object", name := "<init>", desc := "()V" } : Jvm.MethodName)) ∈ lw_all := lw_g (lw_at lw_m4 171 rfl) rfl
theorem q977 : (Jvm.Cond.fieldLink "NightwatchWall$Report" (7 : Nat) "NightwatchWall$Report" "minute" "I") ∈ lw_all := lw_g (lw_at lw_m4 172 rfl) rfl
theorem q979 : (Jvm.Cond.fieldLink "NightwatchWall$Report" (13 : Nat) "NightwatchWall$Report" "fog" "I") ∈ lw_all := lw_g (lw_at lw_m4 174 rfl) rfl
theorem q981 : (Jvm.Cond.laysFinal "NightwatchWall$Report" "NightwatchWall$Report" "minute" "I") ∈ lw_all := lw_g (lw_at lw_m4 176 rfl) rfl
theorem q982 : (Jvm.Cond.soleField "NightwatchWall$Report" "minute") ∈ lw_all := lw_g (lw_at lw_m4 177 rfl) rfl
theorem q983 : (Jvm.Cond.laysFinal "NightwatchWall$Report" "NightwatchWall$Report" "fog" "I") ∈ lw_all := lw_g (lw_at lw_m4 178 rfl) rfl
theorem q984 : (Jvm.Cond.soleField "NightwatchWall$Report" "fog") ∈ lw_all := lw_g (lw_at lw_m4 179 rfl) rfl
theorem q985 : (Jvm.Cond.superclass "NightwatchWall$Report" "java/lang/Object") ∈ lw_all := lw_g (lw_at lw_m4 180 rfl) rfl
theorem q2138 : (Jvm.Cond.castable "NightwatchWall$Report" "java/lang/Object") ∈ lw_tbl := lw_at lw_m9 133 rfl
theorem in_X9 : ∀ w ∈ wsX90, w ∈ lw_all := lw_in wsX90 [981, 983] (by decide +kernel) (by decide +kernel)
/-! NightwatchWall$Guard -/
set_option maxRecDepth 100000
def RX10 : String := "NightwatchWall$Guard"
def TX10 : u_T := fun k => match k with
  | 0 => ("NightwatchWall$Guard", "from", "I", true)
  | 1 => ("NightwatchWall$Guard", "to", "I", true)
  | 2 => ("NightwatchWall$Guard", "stay", "I", true)
  | 3 => ("NightwatchWall$Guard", "cells", "Ljava/util/ArrayList;", true)
  | 4 => ("NightwatchWall$Guard", "strikes", "I", false)
  | _ => ("NightwatchWall$Guard", "answered", "I", false)
def tyX10 : Nat → FieldType := fun k => match k with
  | 0 => .int
  | 1 => .int
  | 2 => .int
  | 3 => .object "java/util/ArrayList"
  | 4 => .int
  | _ => .int
abbrev wsX100 : List Cond := u_ws RX10 TX10 6
theorem nmX10 : ∀ a, a < 6 → ∀ b, b < 6 → a ≠ b → (TX10 a).2.1 ≠ (TX10 b).2.1 := by decide +kernel
theorem tyX10_ok : ∀ k, k < 6 → parseFieldDescriptor (TX10 k).2.2.1 = some (tyX10 k) := by decide +kernel
abbrev cX10_walksOn : ByteArray := prog_3_method_8_code
def yX10_walksOn : MethodName := ⟨RX10, "walksOn", "(I)Z"⟩
def dkwX10_walksOn_1 : List UInt8 := [182, 0, 54, 27, 160, 0, 5, 4, 172, 132, 2, 1, 167, 255, 222, 3, 172]
abbrev dktX10_walksOn_1 : List UInt8 := dkwX10_walksOn_1 ++ []
def dkwX10_walksOn_0 : List UInt8 := [3, 61, 28, 42, 180, 0, 12, 182, 0, 46, 162, 0, 29, 42, 180, 0, 12, 28, 182, 0, 50, 192, 0, 29]
abbrev dktX10_walksOn_0 : List UInt8 := dkwX10_walksOn_0 ++ dktX10_walksOn_1
theorem dksX10_walksOn_0 : cX10_walksOn.data.toList.drop 0 = dktX10_walksOn_0 := by decide +kernel
theorem dksX10_walksOn_1 : cX10_walksOn.data.toList.drop 24 = dktX10_walksOn_1 := dk_seg dksX10_walksOn_0 24 rfl rfl
theorem dX10_walksOn_0 : decode cX10_walksOn 0 = .ok (.iconst 0, 1) := dk_3 (dk_at dksX10_walksOn_0 0 rfl rfl)
theorem dX10_walksOn_1 : decode cX10_walksOn 1 = .ok (.istore_n 2, 1) := dk_61 (dk_at dksX10_walksOn_0 1 rfl rfl)
theorem dX10_walksOn_2 : decode cX10_walksOn 2 = .ok (.iload_n 2, 1) := dk_28 (dk_at dksX10_walksOn_0 2 rfl rfl)
theorem dX10_walksOn_3 : decode cX10_walksOn 3 = .ok (.aload_n 0, 1) := dk_42 (dk_at dksX10_walksOn_0 3 rfl rfl)
theorem dX10_walksOn_4 : decode cX10_walksOn 4 = .ok (.getfield 12, 3) := dk_180 0 12 (dk_at dksX10_walksOn_0 4 rfl rfl)
theorem dX10_walksOn_7 : decode cX10_walksOn 7 = .ok (.invokevirtual 46, 3) := dk_182 0 46 (dk_at dksX10_walksOn_0 7 rfl rfl)
theorem dX10_walksOn_10 : decode cX10_walksOn 10 = .ok (.if_icmp .ge 29, 3) := dk_162 0 29 (dk_at dksX10_walksOn_0 10 rfl rfl)
theorem dX10_walksOn_13 : decode cX10_walksOn 13 = .ok (.aload_n 0, 1) := dk_42 (dk_at dksX10_walksOn_0 13 rfl rfl)
theorem dX10_walksOn_14 : decode cX10_walksOn 14 = .ok (.getfield 12, 3) := dk_180 0 12 (dk_at dksX10_walksOn_0 14 rfl rfl)
theorem dX10_walksOn_17 : decode cX10_walksOn 17 = .ok (.iload_n 2, 1) := dk_28 (dk_at dksX10_walksOn_0 17 rfl rfl)
theorem dX10_walksOn_18 : decode cX10_walksOn 18 = .ok (.invokevirtual 50, 3) := dk_182 0 50 (dk_at dksX10_walksOn_0 18 rfl rfl)
theorem dX10_walksOn_21 : decode cX10_walksOn 21 = .ok (.checkcast 29, 3) := dk_192 0 29 (dk_at dksX10_walksOn_0 21 rfl rfl)
theorem dX10_walksOn_24 : decode cX10_walksOn 24 = .ok (.invokevirtual 54, 3) := dk_182 0 54 (dk_at dksX10_walksOn_1 0 rfl rfl)
theorem dX10_walksOn_27 : decode cX10_walksOn 27 = .ok (.iload_n 1, 1) := dk_27 (dk_at dksX10_walksOn_1 3 rfl rfl)
theorem dX10_walksOn_28 : decode cX10_walksOn 28 = .ok (.if_icmp .ne 5, 3) := dk_160 0 5 (dk_at dksX10_walksOn_1 4 rfl rfl)
theorem dX10_walksOn_31 : decode cX10_walksOn 31 = .ok (.iconst 1, 1) := dk_4 (dk_at dksX10_walksOn_1 7 rfl rfl)
theorem dX10_walksOn_32 : decode cX10_walksOn 32 = .ok (.ireturn, 1) := dk_172 (dk_at dksX10_walksOn_1 8 rfl rfl)
theorem dX10_walksOn_33 : decode cX10_walksOn 33 = .ok (.iinc 2 1, 3) := dk_132 2 1 (dk_at dksX10_walksOn_1 9 rfl rfl)
theorem dX10_walksOn_36 : decode cX10_walksOn 36 = .ok (.goto (-34), 3) := dk_167 255 222 (dk_at dksX10_walksOn_1 12 rfl rfl)
theorem dX10_walksOn_39 : decode cX10_walksOn 39 = .ok (.iconst 0, 1) := dk_3 (dk_at dksX10_walksOn_1 15 rfl rfl)
theorem dX10_walksOn_40 : decode cX10_walksOn 40 = .ok (.ireturn, 1) := dk_172 (dk_at dksX10_walksOn_1 16 rfl rfl)
abbrev cX10_place : ByteArray := prog_3_method_3_code
def yX10_place : MethodName := ⟨RX10, "place", "(I)I"⟩
def dkwX10_place_1 : List UInt8 := [180, 0, 12, 182, 0, 46, 112, 182, 0, 50, 192, 0, 29, 182, 0, 54, 167, 0, 4, 2, 172]
abbrev dktX10_place_1 : List UInt8 := dkwX10_place_1 ++ []
def dkwX10_place_0 : List UInt8 := [42, 27, 182, 0, 42, 153, 0, 38, 42, 180, 0, 12, 27, 42, 180, 0, 18, 100, 42, 180, 0, 25, 108, 42]
abbrev dktX10_place_0 : List UInt8 := dkwX10_place_0 ++ dktX10_place_1
theorem dksX10_place_0 : cX10_place.data.toList.drop 0 = dktX10_place_0 := by decide +kernel
theorem dksX10_place_1 : cX10_place.data.toList.drop 24 = dktX10_place_1 := dk_seg dksX10_place_0 24 rfl rfl
theorem dX10_place_0 : decode cX10_place 0 = .ok (.aload_n 0, 1) := dk_42 (dk_at dksX10_place_0 0 rfl rfl)
theorem dX10_place_1 : decode cX10_place 1 = .ok (.iload_n 1, 1) := dk_27 (dk_at dksX10_place_0 1 rfl rfl)
theorem dX10_place_2 : decode cX10_place 2 = .ok (.invokevirtual 42, 3) := dk_182 0 42 (dk_at dksX10_place_0 2 rfl rfl)
theorem dX10_place_5 : decode cX10_place 5 = .ok (.ifCond .eq 38, 3) := dk_153 0 38 (dk_at dksX10_place_0 5 rfl rfl)
theorem dX10_place_8 : decode cX10_place 8 = .ok (.aload_n 0, 1) := dk_42 (dk_at dksX10_place_0 8 rfl rfl)
theorem dX10_place_9 : decode cX10_place 9 = .ok (.getfield 12, 3) := dk_180 0 12 (dk_at dksX10_place_0 9 rfl rfl)
theorem dX10_place_12 : decode cX10_place 12 = .ok (.iload_n 1, 1) := dk_27 (dk_at dksX10_place_0 12 rfl rfl)
theorem dX10_place_13 : decode cX10_place 13 = .ok (.aload_n 0, 1) := dk_42 (dk_at dksX10_place_0 13 rfl rfl)
theorem dX10_place_14 : decode cX10_place 14 = .ok (.getfield 18, 3) := dk_180 0 18 (dk_at dksX10_place_0 14 rfl rfl)
theorem dX10_place_17 : decode cX10_place 17 = .ok (.isub, 1) := dk_100 (dk_at dksX10_place_0 17 rfl rfl)
theorem dX10_place_18 : decode cX10_place 18 = .ok (.aload_n 0, 1) := dk_42 (dk_at dksX10_place_0 18 rfl rfl)
theorem dX10_place_19 : decode cX10_place 19 = .ok (.getfield 25, 3) := dk_180 0 25 (dk_at dksX10_place_0 19 rfl rfl)
theorem dX10_place_22 : decode cX10_place 22 = .ok (.idiv, 1) := dk_108 (dk_at dksX10_place_0 22 rfl rfl)
theorem dX10_place_23 : decode cX10_place 23 = .ok (.aload_n 0, 1) := dk_42 (dk_at dksX10_place_0 23 rfl rfl)
theorem dX10_place_24 : decode cX10_place 24 = .ok (.getfield 12, 3) := dk_180 0 12 (dk_at dksX10_place_1 0 rfl rfl)
theorem dX10_place_27 : decode cX10_place 27 = .ok (.invokevirtual 46, 3) := dk_182 0 46 (dk_at dksX10_place_1 3 rfl rfl)
theorem dX10_place_30 : decode cX10_place 30 = .ok (.irem, 1) := dk_112 (dk_at dksX10_place_1 6 rfl rfl)
theorem dX10_place_31 : decode cX10_place 31 = .ok (.invokevirtual 50, 3) := dk_182 0 50 (dk_at dksX10_place_1 7 rfl rfl)
theorem dX10_place_34 : decode cX10_place 34 = .ok (.checkcast 29, 3) := dk_192 0 29 (dk_at dksX10_place_1 10 rfl rfl)
theorem dX10_place_37 : decode cX10_place 37 = .ok (.invokevirtual 54, 3) := dk_182 0 54 (dk_at dksX10_place_1 13 rfl rfl)
theorem dX10_place_40 : decode cX10_place 40 = .ok (.goto 4, 3) := dk_167 0 4 (dk_at dksX10_place_1 16 rfl rfl)
theorem dX10_place_43 : decode cX10_place 43 = .ok (.iconst (-1), 1) := dk_2 (dk_at dksX10_place_1 19 rfl rfl)
theorem dX10_place_44 : decode cX10_place 44 = .ok (.ireturn, 1) := dk_172 (dk_at dksX10_place_1 20 rfl rfl)
abbrev cX10_isOn : ByteArray := prog_3_method_2_code
def yX10_isOn : MethodName := ⟨RX10, "isOn", "(I)Z"⟩
def dkwX10_isOn_0 : List UInt8 := [42, 180, 0, 18, 42, 180, 0, 22, 27, 184, 0, 38, 172]
abbrev dktX10_isOn_0 : List UInt8 := dkwX10_isOn_0 ++ []
theorem dksX10_isOn_0 : cX10_isOn.data.toList.drop 0 = dktX10_isOn_0 := by decide +kernel
theorem dX10_isOn_0 : decode cX10_isOn 0 = .ok (.aload_n 0, 1) := dk_42 (dk_at dksX10_isOn_0 0 rfl rfl)
theorem dX10_isOn_1 : decode cX10_isOn 1 = .ok (.getfield 18, 3) := dk_180 0 18 (dk_at dksX10_isOn_0 1 rfl rfl)
theorem dX10_isOn_4 : decode cX10_isOn 4 = .ok (.aload_n 0, 1) := dk_42 (dk_at dksX10_isOn_0 4 rfl rfl)
theorem dX10_isOn_5 : decode cX10_isOn 5 = .ok (.getfield 22, 3) := dk_180 0 22 (dk_at dksX10_isOn_0 5 rfl rfl)
theorem dX10_isOn_8 : decode cX10_isOn 8 = .ok (.iload_n 1, 1) := dk_27 (dk_at dksX10_isOn_0 8 rfl rfl)
theorem dX10_isOn_9 : decode cX10_isOn 9 = .ok (.invokestatic 38, 3) := dk_184 0 38 (dk_at dksX10_isOn_0 9 rfl rfl)
theorem dX10_isOn_12 : decode cX10_isOn 12 = .ok (.ireturn, 1) := dk_172 (dk_at dksX10_isOn_0 12 rfl rfl)
abbrev cX10_isTired : ByteArray := prog_3_method_4_code
def yX10_isTired : MethodName := ⟨RX10, "isTired", "(I)Z"⟩
def dkwX10_isTired_1 : List UInt8 := [172]
abbrev dktX10_isTired_1 : List UInt8 := dkwX10_isTired_1 ++ []
def dkwX10_isTired_0 : List UInt8 := [42, 27, 182, 0, 42, 153, 0, 18, 27, 42, 180, 0, 18, 100, 16, 90, 161, 0, 7, 4, 167, 0, 4, 3]
abbrev dktX10_isTired_0 : List UInt8 := dkwX10_isTired_0 ++ dktX10_isTired_1
theorem dksX10_isTired_0 : cX10_isTired.data.toList.drop 0 = dktX10_isTired_0 := by decide +kernel
theorem dksX10_isTired_1 : cX10_isTired.data.toList.drop 24 = dktX10_isTired_1 := dk_seg dksX10_isTired_0 24 rfl rfl
theorem dX10_isTired_0 : decode cX10_isTired 0 = .ok (.aload_n 0, 1) := dk_42 (dk_at dksX10_isTired_0 0 rfl rfl)
theorem dX10_isTired_1 : decode cX10_isTired 1 = .ok (.iload_n 1, 1) := dk_27 (dk_at dksX10_isTired_0 1 rfl rfl)
theorem dX10_isTired_2 : decode cX10_isTired 2 = .ok (.invokevirtual 42, 3) := dk_182 0 42 (dk_at dksX10_isTired_0 2 rfl rfl)
theorem dX10_isTired_5 : decode cX10_isTired 5 = .ok (.ifCond .eq 18, 3) := dk_153 0 18 (dk_at dksX10_isTired_0 5 rfl rfl)
theorem dX10_isTired_8 : decode cX10_isTired 8 = .ok (.iload_n 1, 1) := dk_27 (dk_at dksX10_isTired_0 8 rfl rfl)
theorem dX10_isTired_9 : decode cX10_isTired 9 = .ok (.aload_n 0, 1) := dk_42 (dk_at dksX10_isTired_0 9 rfl rfl)
theorem dX10_isTired_10 : decode cX10_isTired 10 = .ok (.getfield 18, 3) := dk_180 0 18 (dk_at dksX10_isTired_0 10 rfl rfl)
theorem dX10_isTired_13 : decode cX10_isTired 13 = .ok (.isub, 1) := dk_100 (dk_at dksX10_isTired_0 13 rfl rfl)
theorem dX10_isTired_14 : decode cX10_isTired 14 = .ok (.bipush 90, 2) := dk_16 90 (dk_at dksX10_isTired_0 14 rfl rfl)
theorem dX10_isTired_16 : decode cX10_isTired 16 = .ok (.if_icmp .lt 7, 3) := dk_161 0 7 (dk_at dksX10_isTired_0 16 rfl rfl)
theorem dX10_isTired_19 : decode cX10_isTired 19 = .ok (.iconst 1, 1) := dk_4 (dk_at dksX10_isTired_0 19 rfl rfl)
theorem dX10_isTired_20 : decode cX10_isTired 20 = .ok (.goto 4, 3) := dk_167 0 4 (dk_at dksX10_isTired_0 20 rfl rfl)
theorem dX10_isTired_23 : decode cX10_isTired 23 = .ok (.iconst 0, 1) := dk_3 (dk_at dksX10_isTired_0 23 rfl rfl)
theorem dX10_isTired_24 : decode cX10_isTired 24 = .ok (.ireturn, 1) := dk_172 (dk_at dksX10_isTired_1 0 rfl rfl)
abbrev cX10_isBarred : ByteArray := prog_3_method_6_code
def yX10_isBarred : MethodName := ⟨RX10, "isBarred", "()Z"⟩
def dkwX10_isBarred_0 : List UInt8 := [42, 180, 0, 63, 6, 160, 0, 7, 4, 167, 0, 4, 3, 172]
abbrev dktX10_isBarred_0 : List UInt8 := dkwX10_isBarred_0 ++ []
theorem dksX10_isBarred_0 : cX10_isBarred.data.toList.drop 0 = dktX10_isBarred_0 := by decide +kernel
theorem dX10_isBarred_0 : decode cX10_isBarred 0 = .ok (.aload_n 0, 1) := dk_42 (dk_at dksX10_isBarred_0 0 rfl rfl)
theorem dX10_isBarred_1 : decode cX10_isBarred 1 = .ok (.getfield 63, 3) := dk_180 0 63 (dk_at dksX10_isBarred_0 1 rfl rfl)
theorem dX10_isBarred_4 : decode cX10_isBarred 4 = .ok (.iconst 3, 1) := dk_6 (dk_at dksX10_isBarred_0 4 rfl rfl)
theorem dX10_isBarred_5 : decode cX10_isBarred 5 = .ok (.if_icmp .ne 7, 3) := dk_160 0 7 (dk_at dksX10_isBarred_0 5 rfl rfl)
theorem dX10_isBarred_8 : decode cX10_isBarred 8 = .ok (.iconst 1, 1) := dk_4 (dk_at dksX10_isBarred_0 8 rfl rfl)
theorem dX10_isBarred_9 : decode cX10_isBarred 9 = .ok (.goto 4, 3) := dk_167 0 4 (dk_at dksX10_isBarred_0 9 rfl rfl)
theorem dX10_isBarred_12 : decode cX10_isBarred 12 = .ok (.iconst 0, 1) := dk_3 (dk_at dksX10_isBarred_0 12 rfl rfl)
theorem dX10_isBarred_13 : decode cX10_isBarred 13 = .ok (.ireturn, 1) := dk_172 (dk_at dksX10_isBarred_0 13 rfl rfl)
abbrev cX10_tiredMinutes : ByteArray := prog_3_method_5_code
def yX10_tiredMinutes : MethodName := ⟨RX10, "tiredMinutes", "()I"⟩
def dkwX10_tiredMinutes_0 : List UInt8 := [3, 42, 180, 0, 22, 42, 180, 0, 18, 100, 16, 90, 100, 4, 96, 184, 0, 57, 172]
abbrev dktX10_tiredMinutes_0 : List UInt8 := dkwX10_tiredMinutes_0 ++ []
theorem dksX10_tiredMinutes_0 : cX10_tiredMinutes.data.toList.drop 0 = dktX10_tiredMinutes_0 := by decide +kernel
theorem dX10_tiredMinutes_0 : decode cX10_tiredMinutes 0 = .ok (.iconst 0, 1) := dk_3 (dk_at dksX10_tiredMinutes_0 0 rfl rfl)
theorem dX10_tiredMinutes_1 : decode cX10_tiredMinutes 1 = .ok (.aload_n 0, 1) := dk_42 (dk_at dksX10_tiredMinutes_0 1 rfl rfl)
theorem dX10_tiredMinutes_2 : decode cX10_tiredMinutes 2 = .ok (.getfield 22, 3) := dk_180 0 22 (dk_at dksX10_tiredMinutes_0 2 rfl rfl)
theorem dX10_tiredMinutes_5 : decode cX10_tiredMinutes 5 = .ok (.aload_n 0, 1) := dk_42 (dk_at dksX10_tiredMinutes_0 5 rfl rfl)
theorem dX10_tiredMinutes_6 : decode cX10_tiredMinutes 6 = .ok (.getfield 18, 3) := dk_180 0 18 (dk_at dksX10_tiredMinutes_0 6 rfl rfl)
theorem dX10_tiredMinutes_9 : decode cX10_tiredMinutes 9 = .ok (.isub, 1) := dk_100 (dk_at dksX10_tiredMinutes_0 9 rfl rfl)
theorem dX10_tiredMinutes_10 : decode cX10_tiredMinutes 10 = .ok (.bipush 90, 2) := dk_16 90 (dk_at dksX10_tiredMinutes_0 10 rfl rfl)
theorem dX10_tiredMinutes_12 : decode cX10_tiredMinutes 12 = .ok (.isub, 1) := dk_100 (dk_at dksX10_tiredMinutes_0 12 rfl rfl)
theorem dX10_tiredMinutes_13 : decode cX10_tiredMinutes 13 = .ok (.iconst 1, 1) := dk_4 (dk_at dksX10_tiredMinutes_0 13 rfl rfl)
theorem dX10_tiredMinutes_14 : decode cX10_tiredMinutes 14 = .ok (.iadd, 1) := dk_96 (dk_at dksX10_tiredMinutes_0 14 rfl rfl)
theorem dX10_tiredMinutes_15 : decode cX10_tiredMinutes 15 = .ok (.invokestatic 57, 3) := dk_184 0 57 (dk_at dksX10_tiredMinutes_0 15 rfl rfl)
theorem dX10_tiredMinutes_18 : decode cX10_tiredMinutes 18 = .ok (.ireturn, 1) := dk_172 (dk_at dksX10_tiredMinutes_0 18 rfl rfl)
abbrev cX10_init : ByteArray := prog_3_method_1_code
def yX10_init : MethodName := ⟨RX10, "<init>", "(IIII)V"⟩
def dkwX10_init_1 : List UInt8 := [181, 0, 22, 42, 21, 4, 181, 0, 25, 42, 180, 0, 12, 27, 184, 0, 28, 182, 0, 34, 87, 177]
abbrev dktX10_init_1 : List UInt8 := dkwX10_init_1 ++ []
def dkwX10_init_0 : List UInt8 := [42, 183, 0, 3, 42, 187, 0, 9, 89, 183, 0, 11, 181, 0, 12, 42, 28, 181, 0, 18, 42, 29]
abbrev dktX10_init_0 : List UInt8 := dkwX10_init_0 ++ dktX10_init_1
theorem dksX10_init_0 : cX10_init.data.toList.drop 0 = dktX10_init_0 := by decide +kernel
theorem dksX10_init_1 : cX10_init.data.toList.drop 22 = dktX10_init_1 := dk_seg dksX10_init_0 22 rfl rfl
theorem dX10_init_0 : decode cX10_init 0 = .ok (.aload_n 0, 1) := dk_42 (dk_at dksX10_init_0 0 rfl rfl)
theorem dX10_init_1 : decode cX10_init 1 = .ok (.invokespecial 3, 3) := dk_183 0 3 (dk_at dksX10_init_0 1 rfl rfl)
theorem dX10_init_4 : decode cX10_init 4 = .ok (.aload_n 0, 1) := dk_42 (dk_at dksX10_init_0 4 rfl rfl)
theorem dX10_init_5 : decode cX10_init 5 = .ok (.new 9, 3) := dk_187 0 9 (dk_at dksX10_init_0 5 rfl rfl)
theorem dX10_init_8 : decode cX10_init 8 = .ok (.dup, 1) := dk_89 (dk_at dksX10_init_0 8 rfl rfl)
theorem dX10_init_9 : decode cX10_init 9 = .ok (.invokespecial 11, 3) := dk_183 0 11 (dk_at dksX10_init_0 9 rfl rfl)
theorem dX10_init_12 : decode cX10_init 12 = .ok (.putfield 12, 3) := dk_181 0 12 (dk_at dksX10_init_0 12 rfl rfl)
theorem dX10_init_15 : decode cX10_init 15 = .ok (.aload_n 0, 1) := dk_42 (dk_at dksX10_init_0 15 rfl rfl)
theorem dX10_init_16 : decode cX10_init 16 = .ok (.iload_n 2, 1) := dk_28 (dk_at dksX10_init_0 16 rfl rfl)
theorem dX10_init_17 : decode cX10_init 17 = .ok (.putfield 18, 3) := dk_181 0 18 (dk_at dksX10_init_0 17 rfl rfl)
theorem dX10_init_20 : decode cX10_init 20 = .ok (.aload_n 0, 1) := dk_42 (dk_at dksX10_init_0 20 rfl rfl)
theorem dX10_init_21 : decode cX10_init 21 = .ok (.iload_n 3, 1) := dk_29 (dk_at dksX10_init_0 21 rfl rfl)
theorem dX10_init_22 : decode cX10_init 22 = .ok (.putfield 22, 3) := dk_181 0 22 (dk_at dksX10_init_1 0 rfl rfl)
theorem dX10_init_25 : decode cX10_init 25 = .ok (.aload_n 0, 1) := dk_42 (dk_at dksX10_init_1 3 rfl rfl)
theorem dX10_init_26 : decode cX10_init 26 = .ok (.iload 4, 2) := dk_21 4 (dk_at dksX10_init_1 4 rfl rfl)
theorem dX10_init_28 : decode cX10_init 28 = .ok (.putfield 25, 3) := dk_181 0 25 (dk_at dksX10_init_1 6 rfl rfl)
theorem dX10_init_31 : decode cX10_init 31 = .ok (.aload_n 0, 1) := dk_42 (dk_at dksX10_init_1 9 rfl rfl)
theorem dX10_init_32 : decode cX10_init 32 = .ok (.getfield 12, 3) := dk_180 0 12 (dk_at dksX10_init_1 10 rfl rfl)
theorem dX10_init_35 : decode cX10_init 35 = .ok (.iload_n 1, 1) := dk_27 (dk_at dksX10_init_1 13 rfl rfl)
theorem dX10_init_36 : decode cX10_init 36 = .ok (.invokestatic 28, 3) := dk_184 0 28 (dk_at dksX10_init_1 14 rfl rfl)
theorem dX10_init_39 : decode cX10_init 39 = .ok (.invokevirtual 34, 3) := dk_182 0 34 (dk_at dksX10_init_1 17 rfl rfl)
theorem dX10_init_42 : decode cX10_init 42 = .ok (.pop, 1) := dk_87 (dk_at dksX10_init_1 20 rfl rfl)
theorem dX10_init_43 : decode cX10_init 43 = .ok (.return_, 1) := dk_177 (dk_at dksX10_init_1 21 rfl rfl)
abbrev cX10_strike : ByteArray := prog_3_method_7_code
def yX10_strike : MethodName := ⟨RX10, "strike", "(I)I"⟩
def dkwX10_strike_0 : List UInt8 := [42, 89, 180, 0, 63, 4, 96, 181, 0, 63, 27, 172]
abbrev dktX10_strike_0 : List UInt8 := dkwX10_strike_0 ++ []
theorem dksX10_strike_0 : cX10_strike.data.toList.drop 0 = dktX10_strike_0 := by decide +kernel
theorem dX10_strike_0 : decode cX10_strike 0 = .ok (.aload_n 0, 1) := dk_42 (dk_at dksX10_strike_0 0 rfl rfl)
theorem dX10_strike_1 : decode cX10_strike 1 = .ok (.dup, 1) := dk_89 (dk_at dksX10_strike_0 1 rfl rfl)
theorem dX10_strike_2 : decode cX10_strike 2 = .ok (.getfield 63, 3) := dk_180 0 63 (dk_at dksX10_strike_0 2 rfl rfl)
theorem dX10_strike_5 : decode cX10_strike 5 = .ok (.iconst 1, 1) := dk_4 (dk_at dksX10_strike_0 5 rfl rfl)
theorem dX10_strike_6 : decode cX10_strike 6 = .ok (.iadd, 1) := dk_96 (dk_at dksX10_strike_0 6 rfl rfl)
theorem dX10_strike_7 : decode cX10_strike 7 = .ok (.putfield 63, 3) := dk_181 0 63 (dk_at dksX10_strike_0 7 rfl rfl)
theorem dX10_strike_10 : decode cX10_strike 10 = .ok (.iload_n 1, 1) := dk_27 (dk_at dksX10_strike_0 10 rfl rfl)
theorem dX10_strike_11 : decode cX10_strike 11 = .ok (.ireturn, 1) := dk_172 (dk_at dksX10_strike_0 11 rfl rfl)
theorem q117 : (Jvm.Cond.initialized "NightwatchWall$Guard") ∈ lw_all := lw_g (lw_at lw_m1 32 rfl) rfl
theorem q371 : (Jvm.Cond.instanceMethod ({ cls := "NightwatchWall$Guard", name := "walksOn", desc := "(I)Z" } : Jvm.MethodName)) ∈ lw_all := lw_g (lw_at lw_m2 46 rfl) rfl
theorem q372 : (Jvm.Cond.selects "NightwatchWall$Guard" ({ cls := "NightwatchWall$Guard", name := "walksOn", desc := "(I)Z" } : Jvm.MethodName) ({ cls := "NightwatchWall$Guard", name := "walksOn", desc := "(I)Z" } : Jvm.MethodName)) ∈ lw_all := lw_g (lw_at lw_m2 47 rfl) rfl
theorem q373 : (Jvm.Cond.code ({ cls := "NightwatchWall$Guard", name := "walksOn", desc := "(I)Z" } : Jvm.MethodName) prog_3_method_8_code (3 : Nat) (Option.some Jvm.ClassFile.FieldType.boolean)) ∈ lw_all := lw_g (lw_at lw_m2 48 rfl) rfl
theorem q374 : (Jvm.Cond.methodLink "NightwatchWall$Guard" (46 : Nat) ({ cls := "java/util/ArrayList", name := "size", desc := "()I" } : Jvm.MethodName)) ∈ lw_all := lw_g (lw_at lw_m2 49 rfl) rfl
theorem q375 : (Jvm.Cond.methodLink "NightwatchWall$Guard" (50 : Nat) ({ cls := "java/util/ArrayList", name := "get", desc := "(I)Ljava/lang/Object;" } : Jvm.MethodName)) ∈ lw_all := lw_g (lw_at lw_m2 50 rfl) rfl
theorem q376 : (Jvm.Cond.classLink "NightwatchWall$Guard" (29 : Nat) "java/lang/Integer") ∈ lw_all := lw_g (lw_at lw_m2 51 rfl) rfl
theorem q377 : (Jvm.Cond.methodLink "NightwatchWall$Guard" (54 : Nat) ({ cls := "java/lang/Integer", name := "intValue", desc := "()I" } : Jvm.MethodName)) ∈ lw_all := lw_g (lw_at lw_m2 52 rfl) rfl
theorem q430 : (Jvm.Cond.instanceMethod ({ cls := "NightwatchWall$Guard", name := "place", desc := "(I)I" } : Jvm.MethodName)) ∈ lw_all := lw_g (lw_at lw_m2 105 rfl) rfl
theorem q431 : (Jvm.Cond.selects "NightwatchWall$Guard" ({ cls := "NightwatchWall$Guard", name := "place", desc := "(I)I" } : Jvm.MethodName) ({ cls := "NightwatchWall$Guard", name := "place", desc := "(I)I" } : Jvm.MethodName)) ∈ lw_all := lw_g (lw_at lw_m2 106 rfl) rfl
theorem q432 : (Jvm.Cond.code ({ cls := "NightwatchWall$Guard", name := "place", desc := "(I)I" } : Jvm.MethodName) prog_3_method_3_code (2 : Nat) (Option.some Jvm.ClassFile.FieldType.int)) ∈ lw_all := lw_g (lw_at lw_m2 107 rfl) rfl
theorem q433 : (Jvm.Cond.methodLink "NightwatchWall$Guard" (42 : Nat) ({ cls := "NightwatchWall$Guard", name := "isOn", desc := "(I)Z" } : Jvm.MethodName)) ∈ lw_all := lw_g (lw_at lw_m2 108 rfl) rfl
theorem q434 : (Jvm.Cond.instanceMethod ({ cls := "NightwatchWall$Guard", name := "isOn", desc := "(I)Z" } : Jvm.MethodName)) ∈ lw_all := lw_g (lw_at lw_m2 109 rfl) rfl
theorem q435 : (Jvm.Cond.selects "NightwatchWall$Guard" ({ cls := "NightwatchWall$Guard", name := "isOn", desc := "(I)Z" } : Jvm.MethodName) ({ cls := "NightwatchWall$Guard", name := "isOn", desc := "(I)Z" } : Jvm.MethodName)) ∈ lw_all := lw_g (lw_at lw_m2 110 rfl) rfl
theorem q436 : (Jvm.Cond.code ({ cls := "NightwatchWall$Guard", name := "isOn", desc := "(I)Z" } : Jvm.MethodName) prog_3_method_2_code (2 : Nat) (Option.some Jvm.ClassFile.FieldType.boolean)) ∈ lw_all := lw_g (lw_at lw_m2 111 rfl) rfl
theorem q437 : (Jvm.Cond.methodLinkNest "NightwatchWall$Guard" (38 : Nat) ({ cls := "NightwatchWall", name := "isFrom", desc := "(III)Z" } : Jvm.MethodName) "NightwatchWall") ∈ lw_tbl := lw_at lw_m2 112 rfl
theorem q493 : (Jvm.Cond.instanceMethod ({ cls := "NightwatchWall$Guard", name := "isTired", desc := "(I)Z" } : Jvm.MethodName)) ∈ lw_all := lw_g (lw_at lw_m2 168 rfl) rfl
theorem q494 : (Jvm.Cond.selects "NightwatchWall$Guard" ({ cls := "NightwatchWall$Guard", name := "isTired", desc := "(I)Z" } : Jvm.MethodName) ({ cls := "NightwatchWall$Guard", name := "isTired", desc := "(I)Z" } : Jvm.MethodName)) ∈ lw_all := lw_g (lw_at lw_m2 169 rfl) rfl
theorem q495 : (Jvm.Cond.code ({ cls := "NightwatchWall$Guard", name := "isTired", desc := "(I)Z" } : Jvm.MethodName) prog_3_method_4_code (2 : Nat) (Option.some Jvm.ClassFile.FieldType.boolean)) ∈ lw_all := lw_g (lw_at lw_m2 170 rfl) rfl
theorem q585 : (Jvm.Cond.instanceMethod ({ cls := "NightwatchWall$Guard", name := "isBarred", desc := "()Z" } : Jvm.MethodName)) ∈ lw_all := lw_g (lw_at lw_m3 20 rfl) rfl
theorem q586 : (Jvm.Cond.selects "NightwatchWall$Guard" ({ cls := "NightwatchWall$Guard", name := "isBarred", desc := "()Z" } : Jvm.MethodName) ({ cls := "NightwatchWall$Guard", name := "isBarred", desc := "()Z" } : Jvm.MethodName)) ∈ lw_all := lw_g (lw_at lw_m3 21 rfl) rfl
theorem q587 : (Jvm.Cond.code ({ cls := "NightwatchWall$Guard", name := "isBarred", desc := "()Z" } : Jvm.MethodName) prog_3_method_6_code (1 : Nat) (Option.some Jvm.ClassFile.FieldType.boolean)) ∈ lw_all := lw_g (lw_at lw_m3 22 rfl) rfl
theorem q589 : (Jvm.Cond.instanceMethod ({ cls := "NightwatchWall$Guard", name := "tiredMinutes", desc := "()I" } : Jvm.MethodName)) ∈ lw_all := lw_g (lw_at lw_m3 24 rfl) rfl
theorem q590 : (Jvm.Cond.selects "NightwatchWall$Guard" ({ cls := "NightwatchWall$Guard", name := "tiredMinutes", desc := "()I" } : Jvm.MethodName) ({ cls := "NightwatchWall$Guard", name := "tiredMinutes", desc := "()I" } : Jvm.MethodName)) ∈ lw_all := lw_g (lw_at lw_m3 25 rfl) rfl
theorem q591 : (Jvm.Cond.code ({ cls := "NightwatchWall$Guard", name := "tiredMinutes", desc := "()I" } : Jvm.MethodName) prog_3_method_5_code (1 : Nat) (Option.some Jvm.ClassFile.FieldType.int)) ∈ lw_all := lw_g (lw_at lw_m3 26 rfl) rfl
theorem q592 : (Jvm.Cond.methodLink "NightwatchWall$Guard" (57 : Nat) ({ cls := "java/lang/Math", name := "max", desc := "(II)I" } : Jvm.MethodName)) ∈ lw_all := lw_g (lw_at lw_m3 27 rfl) rfl
theorem q920 : (Jvm.Cond.selects "NightwatchWall$Guard" ({ cls := "java/lang/Object", name := "getClass", desc := "()Ljava/lang/Class;" } : Jvm.MethodName) ({ cls := "java/lang/Object", name := "getClass", desc := "()Ljava/lang/Class;" } : Jvm.MethodName)) ∈ lw_all := lw_g (lw_at lw_m4 115 rfl) rfl
theorem q993 : (Jvm.Cond.instantiable "NightwatchWall$Guard" (6 : Nat)) ∈ lw_all := lw_g (lw_at lw_m4 188 rfl) rfl
theorem q995 : (Jvm.Cond.instanceMethod ({ cls := "NightwatchWall$Guard", name := "<init>", desc := "(IIII)V" } : Jvm.MethodName)) ∈ lw_all := lw_g (lw_at lw_m4 190 rfl) rfl
theorem q996 : (Jvm.Cond.code ({ cls := "NightwatchWall$Guard", name := "<init>", desc := "(IIII)V" } : Jvm.MethodName) prog_3_method_1_code (5 : Nat) (Option.none : Option Jvm.ClassFile.FieldType)) ∈ lw_all := lw_g (lw_at lw_m4 191 rfl) rfl
theorem q997 : (Jvm.Cond.methodLink "NightwatchWall$Guard" (3 : Nat) ({ cls := "java/lang/Object", name := "<init>", desc := "()V" } : Jvm.MethodName)) ∈ lw_all := lw_g (lw_at lw_m4 192 rfl) rfl
theorem q998 : (Jvm.Cond.classLink "NightwatchWall$Guard" (9 : Nat) "java/util/ArrayList") ∈ lw_all := lw_g (lw_at lw_m4 193 rfl) rfl
theorem q999 : (Jvm.Cond.methodLink "NightwatchWall$Guard" (11 : Nat) ({ cls := "java/util/ArrayList", name := "<init>", desc := "()V" } : Jvm.MethodName)) ∈ lw_all := lw_g (lw_at lw_m4 194 rfl) rfl
theorem q1000 : (Jvm.Cond.methodLink "NightwatchWall$Guard" (28 : Nat) ({ cls := "java/lang/Integer", name := "valueOf", desc := "(I)Ljava/lang/Integer;" } : Jvm.MethodName)) ∈ lw_all := lw_g (lw_at lw_m4 195 rfl) rfl
theorem q1020 : (Jvm.Cond.methodLink "NightwatchWall$Guard" (34 : Nat) ({ cls := "java/util/ArrayList", name := "add", desc := "(Ljava/lang/Object;)Z" } : Jvm.MethodName)) ∈ lw_all := lw_g (lw_at lw_m4 215 rfl) rfl
theorem q1021 : (Jvm.Cond.fieldLink "NightwatchWall$Guard" (18 : Nat) "NightwatchWall$Guard" "from" "I") ∈ lw_all := lw_g (lw_at lw_m4 216 rfl) rfl
theorem q1023 : (Jvm.Cond.fieldLink "NightwatchWall$Guard" (22 : Nat) "NightwatchWall$Guard" "to" "I") ∈ lw_all := lw_g (lw_at lw_m4 218 rfl) rfl
theorem q1025 : (Jvm.Cond.fieldLink "NightwatchWall$Guard" (25 : Nat) "NightwatchWall$Guard" "stay" "I") ∈ lw_all := lw_g (lw_at lw_m4 220 rfl) rfl
theorem q1027 : (Jvm.Cond.fieldLink "NightwatchWall$Guard" (12 : Nat) "NightwatchWall$Guard" "cells" "Ljava/util/ArrayList;") ∈ lw_all := lw_g (lw_at lw_m4 222 rfl) rfl
theorem q1029 : (Jvm.Cond.fieldLink "NightwatchWall$Guard" (63 : Nat) "NightwatchWall$Guard" "strikes" "I") ∈ lw_all := lw_g (lw_at lw_m4 224 rfl) rfl
theorem q1033 : (Jvm.Cond.laysFinal "NightwatchWall$Guard" "NightwatchWall$Guard" "from" "I") ∈ lw_all := lw_g (lw_at lw_m4 228 rfl) rfl
theorem q1034 : (Jvm.Cond.soleField "NightwatchWall$Guard" "from") ∈ lw_all := lw_g (lw_at lw_m4 229 rfl) rfl
theorem q1035 : (Jvm.Cond.laysFinal "NightwatchWall$Guard" "NightwatchWall$Guard" "to" "I") ∈ lw_all := lw_g (lw_at lw_m4 230 rfl) rfl
theorem q1036 : (Jvm.Cond.soleField "NightwatchWall$Guard" "to") ∈ lw_all := lw_g (lw_at lw_m4 231 rfl) rfl
theorem q1037 : (Jvm.Cond.laysFinal "NightwatchWall$Guard" "NightwatchWall$Guard" "stay" "I") ∈ lw_all := lw_g (lw_at lw_m4 232 rfl) rfl
theorem q1038 : (Jvm.Cond.soleField "NightwatchWall$Guard" "stay") ∈ lw_all := lw_g (lw_at lw_m4 233 rfl) rfl
theorem q1039 : (Jvm.Cond.laysFinal "NightwatchWall$Guard" "NightwatchWall$Guard" "cells" "Ljava/util/ArrayList;") ∈ lw_all := lw_g (lw_at lw_m4 234 rfl) rfl
theorem q1040 : (Jvm.Cond.soleField "NightwatchWall$Guard" "cells") ∈ lw_all := lw_g (lw_at lw_m4 235 rfl) rfl
theorem q1041 : (Jvm.Cond.lays "NightwatchWall$Guard" "NightwatchWall$Guard" "strikes" "I") ∈ lw_all := lw_g (lw_at lw_m4 236 rfl) rfl
theorem q1042 : (Jvm.Cond.soleField "NightwatchWall$Guard" "strikes") ∈ lw_all := lw_g (lw_at lw_m4 237 rfl) rfl
theorem q1043 : (Jvm.Cond.lays "NightwatchWall$Guard" "NightwatchWall$Guard" "answered" "I") ∈ lw_all := lw_g (lw_at lw_m4 238 rfl) rfl
theorem q1044 : (Jvm.Cond.soleField "NightwatchWall$Guard" "answered") ∈ lw_all := lw_g (lw_at lw_m4 239 rfl) rfl
theorem q1045 : (Jvm.Cond.superclass "NightwatchWall$Guard" "java/lang/Object") ∈ lw_all := lw_g (lw_at lw_m5 0 rfl) rfl
theorem q1162 : (Jvm.Cond.instanceMethod ({ cls := "NightwatchWall$Guard", name := "strike", desc := "(I)I" } : Jvm.MethodName)) ∈ lw_all := lw_g (lw_at lw_m5 117 rfl) rfl
theorem q1163 : (Jvm.Cond.selects "NightwatchWall$Guard" ({ cls := "NightwatchWall$Guard", name := "strike", desc := "(I)I" } : Jvm.MethodName) ({ cls := "NightwatchWall$Guard", name := "strike", desc := "(I)I" } : Jvm.MethodName)) ∈ lw_all := lw_g (lw_at lw_m5 118 rfl) rfl
theorem q1164 : (Jvm.Cond.code ({ cls := "NightwatchWall$Guard", name := "strike", desc := "(I)I" } : Jvm.MethodName) prog_3_method_7_code (2 : Nat) (Option.some Jvm.ClassFile.FieldType.int)) ∈ lw_all := lw_g (lw_at lw_m5 119 rfl) rfl
theorem q2139 : (Jvm.Cond.castable "NightwatchWall$Guard" "java/lang/Object") ∈ lw_tbl := lw_at lw_m9 134 rfl
theorem in_X10 : ∀ w ∈ wsX100, w ∈ lw_all := lw_in wsX100 [1033, 1035, 1037, 1039, 1041, 1043] (by decide +kernel) (by decide +kernel)
/-! NightwatchWallModel$Guard -/
set_option maxRecDepth 100000
def RX11 : String := "NightwatchWallModel$Guard"
def TX11 : u_T := fun k => match k with
  | 0 => ("NightwatchWallModel$Guard", "from", "I", true)
  | 1 => ("NightwatchWallModel$Guard", "to", "I", true)
  | 2 => ("NightwatchWallModel$Guard", "stay", "I", true)
  | 3 => ("NightwatchWallModel$Guard", "cells", "Ljava/util/List;", true)
  | 4 => ("NightwatchWallModel$Guard", "strikes", "I", false)
  | _ => ("NightwatchWallModel$Guard", "hours", "I", false)
def tyX11 : Nat → FieldType := fun k => match k with
  | 0 => .int
  | 1 => .int
  | 2 => .int
  | 3 => .object "java/util/List"
  | 4 => .int
  | _ => .int
abbrev wsX110 : List Cond := u_ws RX11 TX11 6
theorem nmX11 : ∀ a, a < 6 → ∀ b, b < 6 → a ≠ b → (TX11 a).2.1 ≠ (TX11 b).2.1 := by decide +kernel
theorem tyX11_ok : ∀ k, k < 6 → parseFieldDescriptor (TX11 k).2.2.1 = some (tyX11 k) := by decide +kernel
abbrev cX11_init : ByteArray := prog_18_method_1_code
def yX11_init : MethodName := ⟨RX11, "<init>", "(IIII)V"⟩
def dkwX11_init_1 : List UInt8 := [185, 0, 24, 2, 0, 87, 42, 28, 181, 0, 30, 42, 29, 181, 0, 34, 42, 21, 4, 181, 0, 37, 177]
abbrev dktX11_init_1 : List UInt8 := dkwX11_init_1 ++ []
def dkwX11_init_0 : List UInt8 := [42, 183, 0, 3, 42, 187, 0, 9, 89, 183, 0, 11, 181, 0, 12, 42, 180, 0, 12, 27, 184, 0, 18]
abbrev dktX11_init_0 : List UInt8 := dkwX11_init_0 ++ dktX11_init_1
theorem dksX11_init_0 : cX11_init.data.toList.drop 0 = dktX11_init_0 := by decide +kernel
theorem dksX11_init_1 : cX11_init.data.toList.drop 23 = dktX11_init_1 := dk_seg dksX11_init_0 23 rfl rfl
theorem dX11_init_0 : decode cX11_init 0 = .ok (.aload_n 0, 1) := dk_42 (dk_at dksX11_init_0 0 rfl rfl)
theorem dX11_init_1 : decode cX11_init 1 = .ok (.invokespecial 3, 3) := dk_183 0 3 (dk_at dksX11_init_0 1 rfl rfl)
theorem dX11_init_4 : decode cX11_init 4 = .ok (.aload_n 0, 1) := dk_42 (dk_at dksX11_init_0 4 rfl rfl)
theorem dX11_init_5 : decode cX11_init 5 = .ok (.new 9, 3) := dk_187 0 9 (dk_at dksX11_init_0 5 rfl rfl)
theorem dX11_init_8 : decode cX11_init 8 = .ok (.dup, 1) := dk_89 (dk_at dksX11_init_0 8 rfl rfl)
theorem dX11_init_9 : decode cX11_init 9 = .ok (.invokespecial 11, 3) := dk_183 0 11 (dk_at dksX11_init_0 9 rfl rfl)
theorem dX11_init_12 : decode cX11_init 12 = .ok (.putfield 12, 3) := dk_181 0 12 (dk_at dksX11_init_0 12 rfl rfl)
theorem dX11_init_15 : decode cX11_init 15 = .ok (.aload_n 0, 1) := dk_42 (dk_at dksX11_init_0 15 rfl rfl)
theorem dX11_init_16 : decode cX11_init 16 = .ok (.getfield 12, 3) := dk_180 0 12 (dk_at dksX11_init_0 16 rfl rfl)
theorem dX11_init_19 : decode cX11_init 19 = .ok (.iload_n 1, 1) := dk_27 (dk_at dksX11_init_0 19 rfl rfl)
theorem dX11_init_20 : decode cX11_init 20 = .ok (.invokestatic 18, 3) := dk_184 0 18 (dk_at dksX11_init_0 20 rfl rfl)
theorem dX11_init_23 : decode cX11_init 23 = .ok (.invokeinterface 24 2, 5) := by decide +kernel
theorem dX11_init_28 : decode cX11_init 28 = .ok (.pop, 1) := dk_87 (dk_at dksX11_init_1 5 rfl rfl)
theorem dX11_init_29 : decode cX11_init 29 = .ok (.aload_n 0, 1) := dk_42 (dk_at dksX11_init_1 6 rfl rfl)
theorem dX11_init_30 : decode cX11_init 30 = .ok (.iload_n 2, 1) := dk_28 (dk_at dksX11_init_1 7 rfl rfl)
theorem dX11_init_31 : decode cX11_init 31 = .ok (.putfield 30, 3) := dk_181 0 30 (dk_at dksX11_init_1 8 rfl rfl)
theorem dX11_init_34 : decode cX11_init 34 = .ok (.aload_n 0, 1) := dk_42 (dk_at dksX11_init_1 11 rfl rfl)
theorem dX11_init_35 : decode cX11_init 35 = .ok (.iload_n 3, 1) := dk_29 (dk_at dksX11_init_1 12 rfl rfl)
theorem dX11_init_36 : decode cX11_init 36 = .ok (.putfield 34, 3) := dk_181 0 34 (dk_at dksX11_init_1 13 rfl rfl)
theorem dX11_init_39 : decode cX11_init 39 = .ok (.aload_n 0, 1) := dk_42 (dk_at dksX11_init_1 16 rfl rfl)
theorem dX11_init_40 : decode cX11_init 40 = .ok (.iload 4, 2) := dk_21 4 (dk_at dksX11_init_1 17 rfl rfl)
theorem dX11_init_42 : decode cX11_init 42 = .ok (.putfield 37, 3) := dk_181 0 37 (dk_at dksX11_init_1 19 rfl rfl)
theorem dX11_init_45 : decode cX11_init 45 = .ok (.return_, 1) := dk_177 (dk_at dksX11_init_1 22 rfl rfl)
abbrev cX11_place : ByteArray := prog_18_method_4_code
def yX11_place : MethodName := ⟨RX11, "place", "(I)I"⟩
def dkwX11_place_2 : List UInt8 := [172]
abbrev dktX11_place_2 : List UInt8 := dkwX11_place_2 ++ []
def dkwX11_place_1 : List UInt8 := [180, 0, 12, 185, 0, 48, 1, 0, 112, 185, 0, 52, 2, 0, 192, 0, 19, 182, 0, 56, 167, 0, 4, 2]
abbrev dktX11_place_1 : List UInt8 := dkwX11_place_1 ++ dktX11_place_2
def dkwX11_place_0 : List UInt8 := [42, 27, 182, 0, 44, 153, 0, 42, 42, 180, 0, 12, 27, 42, 180, 0, 30, 100, 42, 180, 0, 37, 108, 42]
abbrev dktX11_place_0 : List UInt8 := dkwX11_place_0 ++ dktX11_place_1
theorem dksX11_place_0 : cX11_place.data.toList.drop 0 = dktX11_place_0 := by decide +kernel
theorem dksX11_place_1 : cX11_place.data.toList.drop 24 = dktX11_place_1 := dk_seg dksX11_place_0 24 rfl rfl
theorem dksX11_place_2 : cX11_place.data.toList.drop 48 = dktX11_place_2 := dk_seg dksX11_place_1 24 rfl rfl
theorem dX11_place_0 : decode cX11_place 0 = .ok (.aload_n 0, 1) := dk_42 (dk_at dksX11_place_0 0 rfl rfl)
theorem dX11_place_1 : decode cX11_place 1 = .ok (.iload_n 1, 1) := dk_27 (dk_at dksX11_place_0 1 rfl rfl)
theorem dX11_place_2 : decode cX11_place 2 = .ok (.invokevirtual 44, 3) := dk_182 0 44 (dk_at dksX11_place_0 2 rfl rfl)
theorem dX11_place_5 : decode cX11_place 5 = .ok (.ifCond .eq 42, 3) := dk_153 0 42 (dk_at dksX11_place_0 5 rfl rfl)
theorem dX11_place_8 : decode cX11_place 8 = .ok (.aload_n 0, 1) := dk_42 (dk_at dksX11_place_0 8 rfl rfl)
theorem dX11_place_9 : decode cX11_place 9 = .ok (.getfield 12, 3) := dk_180 0 12 (dk_at dksX11_place_0 9 rfl rfl)
theorem dX11_place_12 : decode cX11_place 12 = .ok (.iload_n 1, 1) := dk_27 (dk_at dksX11_place_0 12 rfl rfl)
theorem dX11_place_13 : decode cX11_place 13 = .ok (.aload_n 0, 1) := dk_42 (dk_at dksX11_place_0 13 rfl rfl)
theorem dX11_place_14 : decode cX11_place 14 = .ok (.getfield 30, 3) := dk_180 0 30 (dk_at dksX11_place_0 14 rfl rfl)
theorem dX11_place_17 : decode cX11_place 17 = .ok (.isub, 1) := dk_100 (dk_at dksX11_place_0 17 rfl rfl)
theorem dX11_place_18 : decode cX11_place 18 = .ok (.aload_n 0, 1) := dk_42 (dk_at dksX11_place_0 18 rfl rfl)
theorem dX11_place_19 : decode cX11_place 19 = .ok (.getfield 37, 3) := dk_180 0 37 (dk_at dksX11_place_0 19 rfl rfl)
theorem dX11_place_22 : decode cX11_place 22 = .ok (.idiv, 1) := dk_108 (dk_at dksX11_place_0 22 rfl rfl)
theorem dX11_place_23 : decode cX11_place 23 = .ok (.aload_n 0, 1) := dk_42 (dk_at dksX11_place_0 23 rfl rfl)
theorem dX11_place_24 : decode cX11_place 24 = .ok (.getfield 12, 3) := dk_180 0 12 (dk_at dksX11_place_1 0 rfl rfl)
theorem dX11_place_27 : decode cX11_place 27 = .ok (.invokeinterface 48 1, 5) := by decide +kernel
theorem dX11_place_32 : decode cX11_place 32 = .ok (.irem, 1) := dk_112 (dk_at dksX11_place_1 8 rfl rfl)
theorem dX11_place_33 : decode cX11_place 33 = .ok (.invokeinterface 52 2, 5) := by decide +kernel
theorem dX11_place_38 : decode cX11_place 38 = .ok (.checkcast 19, 3) := dk_192 0 19 (dk_at dksX11_place_1 14 rfl rfl)
theorem dX11_place_41 : decode cX11_place 41 = .ok (.invokevirtual 56, 3) := dk_182 0 56 (dk_at dksX11_place_1 17 rfl rfl)
theorem dX11_place_44 : decode cX11_place 44 = .ok (.goto 4, 3) := dk_167 0 4 (dk_at dksX11_place_1 20 rfl rfl)
theorem dX11_place_47 : decode cX11_place 47 = .ok (.iconst (-1), 1) := dk_2 (dk_at dksX11_place_1 23 rfl rfl)
theorem dX11_place_48 : decode cX11_place 48 = .ok (.ireturn, 1) := dk_172 (dk_at dksX11_place_2 0 rfl rfl)
abbrev cX11_isOnDuty : ByteArray := prog_18_method_2_code
def yX11_isOnDuty : MethodName := ⟨RX11, "isOnDuty", "(I)Z"⟩
def dkwX11_isOnDuty_0 : List UInt8 := [27, 42, 180, 0, 30, 42, 180, 0, 34, 184, 0, 40, 172]
abbrev dktX11_isOnDuty_0 : List UInt8 := dkwX11_isOnDuty_0 ++ []
theorem dksX11_isOnDuty_0 : cX11_isOnDuty.data.toList.drop 0 = dktX11_isOnDuty_0 := by decide +kernel
theorem dX11_isOnDuty_0 : decode cX11_isOnDuty 0 = .ok (.iload_n 1, 1) := dk_27 (dk_at dksX11_isOnDuty_0 0 rfl rfl)
theorem dX11_isOnDuty_1 : decode cX11_isOnDuty 1 = .ok (.aload_n 0, 1) := dk_42 (dk_at dksX11_isOnDuty_0 1 rfl rfl)
theorem dX11_isOnDuty_2 : decode cX11_isOnDuty 2 = .ok (.getfield 30, 3) := dk_180 0 30 (dk_at dksX11_isOnDuty_0 2 rfl rfl)
theorem dX11_isOnDuty_5 : decode cX11_isOnDuty 5 = .ok (.aload_n 0, 1) := dk_42 (dk_at dksX11_isOnDuty_0 5 rfl rfl)
theorem dX11_isOnDuty_6 : decode cX11_isOnDuty 6 = .ok (.getfield 34, 3) := dk_180 0 34 (dk_at dksX11_isOnDuty_0 6 rfl rfl)
theorem dX11_isOnDuty_9 : decode cX11_isOnDuty 9 = .ok (.invokestatic 40, 3) := dk_184 0 40 (dk_at dksX11_isOnDuty_0 9 rfl rfl)
theorem dX11_isOnDuty_12 : decode cX11_isOnDuty 12 = .ok (.ireturn, 1) := dk_172 (dk_at dksX11_isOnDuty_0 12 rfl rfl)
abbrev cX11_isTired : ByteArray := prog_18_method_3_code
def yX11_isTired : MethodName := ⟨RX11, "isTired", "(I)Z"⟩
def dkwX11_isTired_1 : List UInt8 := [172]
abbrev dktX11_isTired_1 : List UInt8 := dkwX11_isTired_1 ++ []
def dkwX11_isTired_0 : List UInt8 := [42, 27, 182, 0, 44, 153, 0, 18, 27, 42, 180, 0, 30, 100, 16, 90, 161, 0, 7, 4, 167, 0, 4, 3]
abbrev dktX11_isTired_0 : List UInt8 := dkwX11_isTired_0 ++ dktX11_isTired_1
theorem dksX11_isTired_0 : cX11_isTired.data.toList.drop 0 = dktX11_isTired_0 := by decide +kernel
theorem dksX11_isTired_1 : cX11_isTired.data.toList.drop 24 = dktX11_isTired_1 := dk_seg dksX11_isTired_0 24 rfl rfl
theorem dX11_isTired_0 : decode cX11_isTired 0 = .ok (.aload_n 0, 1) := dk_42 (dk_at dksX11_isTired_0 0 rfl rfl)
theorem dX11_isTired_1 : decode cX11_isTired 1 = .ok (.iload_n 1, 1) := dk_27 (dk_at dksX11_isTired_0 1 rfl rfl)
theorem dX11_isTired_2 : decode cX11_isTired 2 = .ok (.invokevirtual 44, 3) := dk_182 0 44 (dk_at dksX11_isTired_0 2 rfl rfl)
theorem dX11_isTired_5 : decode cX11_isTired 5 = .ok (.ifCond .eq 18, 3) := dk_153 0 18 (dk_at dksX11_isTired_0 5 rfl rfl)
theorem dX11_isTired_8 : decode cX11_isTired 8 = .ok (.iload_n 1, 1) := dk_27 (dk_at dksX11_isTired_0 8 rfl rfl)
theorem dX11_isTired_9 : decode cX11_isTired 9 = .ok (.aload_n 0, 1) := dk_42 (dk_at dksX11_isTired_0 9 rfl rfl)
theorem dX11_isTired_10 : decode cX11_isTired 10 = .ok (.getfield 30, 3) := dk_180 0 30 (dk_at dksX11_isTired_0 10 rfl rfl)
theorem dX11_isTired_13 : decode cX11_isTired 13 = .ok (.isub, 1) := dk_100 (dk_at dksX11_isTired_0 13 rfl rfl)
theorem dX11_isTired_14 : decode cX11_isTired 14 = .ok (.bipush 90, 2) := dk_16 90 (dk_at dksX11_isTired_0 14 rfl rfl)
theorem dX11_isTired_16 : decode cX11_isTired 16 = .ok (.if_icmp .lt 7, 3) := dk_161 0 7 (dk_at dksX11_isTired_0 16 rfl rfl)
theorem dX11_isTired_19 : decode cX11_isTired 19 = .ok (.iconst 1, 1) := dk_4 (dk_at dksX11_isTired_0 19 rfl rfl)
theorem dX11_isTired_20 : decode cX11_isTired 20 = .ok (.goto 4, 3) := dk_167 0 4 (dk_at dksX11_isTired_0 20 rfl rfl)
theorem dX11_isTired_23 : decode cX11_isTired 23 = .ok (.iconst 0, 1) := dk_3 (dk_at dksX11_isTired_0 23 rfl rfl)
theorem dX11_isTired_24 : decode cX11_isTired 24 = .ok (.ireturn, 1) := dk_172 (dk_at dksX11_isTired_1 0 rfl rfl)
theorem q119 : (Jvm.Cond.initialized "NightwatchWallModel$Guard") ∈ lw_all := lw_g (lw_at lw_m1 34 rfl) rfl
theorem q933 : (Jvm.Cond.selects "NightwatchWallModel$Guard" ({ cls := "java/lang/Object", name := "getClass", desc := "()Ljava/lang/Class;" } : Jvm.MethodName) ({ cls := "java/lang/Object", name := "getClass", desc := "()Ljava/lang/Class;" } : Jvm.MethodName)) ∈ lw_all := lw_g (lw_at lw_m4 128 rfl) rfl
theorem q1771 : (Jvm.Cond.instantiable "NightwatchWallModel$Guard" (6 : Nat)) ∈ lw_all := lw_g (lw_at lw_m8 6 rfl) rfl
theorem q1773 : (Jvm.Cond.instanceMethod ({ cls := "NightwatchWallModel$Guard", name := "<init>", desc := "(IIII)V" } : Jvm.MethodName)) ∈ lw_all := lw_g (lw_at lw_m8 8 rfl) rfl
theorem q1774 : (Jvm.Cond.code ({ cls := "NightwatchWallModel$Guard", name := "<init>", desc := "(IIII)V" } : Jvm.MethodName) prog_18_method_1_code (5 : Nat) (Option.none : Option Jvm.ClassFile.FieldType)) ∈ lw_all := lw_g (lw_at lw_m8 9 rfl) rfl
theorem q1775 : (Jvm.Cond.methodLink "NightwatchWallModel$Guard" (3 : Nat) ({ cls := "java/lang/Object", name := "<init>", desc := "()V" } : Jvm.MethodName)) ∈ lw_all := lw_g (lw_at lw_m8 10 rfl) rfl
theorem q1776 : (Jvm.Cond.classLink "NightwatchWallModel$Guard" (9 : Nat) "java/util/ArrayList") ∈ lw_all := lw_g (lw_at lw_m8 11 rfl) rfl
theorem q1777 : (Jvm.Cond.methodLink "NightwatchWallModel$Guard" (11 : Nat) ({ cls := "java/util/ArrayList", name := "<init>", desc := "()V" } : Jvm.MethodName)) ∈ lw_all := lw_g (lw_at lw_m8 12 rfl) rfl
theorem q1778 : (Jvm.Cond.methodLink "NightwatchWallModel$Guard" (18 : Nat) ({ cls := "java/lang/Integer", name := "valueOf", desc := "(I)Ljava/lang/Integer;" } : Jvm.MethodName)) ∈ lw_all := lw_g (lw_at lw_m8 13 rfl) rfl
theorem q1779 : (Jvm.Cond.interfaceEntry "NightwatchWallModel$Guard" (24 : Nat)) ∈ lw_tbl := lw_at lw_m8 14 rfl
theorem q1780 : (Jvm.Cond.methodLink "NightwatchWallModel$Guard" (24 : Nat) ({ cls := "java/util/List", name := "add", desc := "(Ljava/lang/Object;)Z" } : Jvm.MethodName)) ∈ lw_all := lw_g (lw_at lw_m8 15 rfl) rfl
theorem q1781 : (Jvm.Cond.fieldLink "NightwatchWallModel$Guard" (30 : Nat) "NightwatchWallModel$Guard" "from" "I") ∈ lw_all := lw_g (lw_at lw_m8 16 rfl) rfl
theorem q1783 : (Jvm.Cond.fieldLink "NightwatchWallModel$Guard" (34 : Nat) "NightwatchWallModel$Guard" "to" "I") ∈ lw_all := lw_g (lw_at lw_m8 18 rfl) rfl
theorem q1785 : (Jvm.Cond.fieldLink "NightwatchWallModel$Guard" (37 : Nat) "NightwatchWallModel$Guard" "stay" "I") ∈ lw_all := lw_g (lw_at lw_m8 20 rfl) rfl
theorem q1787 : (Jvm.Cond.fieldLink "NightwatchWallModel$Guard" (12 : Nat) "NightwatchWallModel$Guard" "cells" "Ljava/util/List;") ∈ lw_all := lw_g (lw_at lw_m8 22 rfl) rfl
theorem q1791 : (Jvm.Cond.laysFinal "NightwatchWallModel$Guard" "NightwatchWallModel$Guard" "from" "I") ∈ lw_all := lw_g (lw_at lw_m8 26 rfl) rfl
theorem q1792 : (Jvm.Cond.soleField "NightwatchWallModel$Guard" "from") ∈ lw_all := lw_g (lw_at lw_m8 27 rfl) rfl
theorem q1793 : (Jvm.Cond.laysFinal "NightwatchWallModel$Guard" "NightwatchWallModel$Guard" "to" "I") ∈ lw_all := lw_g (lw_at lw_m8 28 rfl) rfl
theorem q1794 : (Jvm.Cond.soleField "NightwatchWallModel$Guard" "to") ∈ lw_all := lw_g (lw_at lw_m8 29 rfl) rfl
theorem q1795 : (Jvm.Cond.laysFinal "NightwatchWallModel$Guard" "NightwatchWallModel$Guard" "stay" "I") ∈ lw_all := lw_g (lw_at lw_m8 30 rfl) rfl
theorem q1796 : (Jvm.Cond.soleField "NightwatchWallModel$Guard" "stay") ∈ lw_all := lw_g (lw_at lw_m8 31 rfl) rfl
theorem q1797 : (Jvm.Cond.laysFinal "NightwatchWallModel$Guard" "NightwatchWallModel$Guard" "cells" "Ljava/util/List;") ∈ lw_all := lw_g (lw_at lw_m8 32 rfl) rfl
theorem q1798 : (Jvm.Cond.soleField "NightwatchWallModel$Guard" "cells") ∈ lw_all := lw_g (lw_at lw_m8 33 rfl) rfl
theorem q1799 : (Jvm.Cond.lays "NightwatchWallModel$Guard" "NightwatchWallModel$Guard" "strikes" "I") ∈ lw_all := lw_g (lw_at lw_m8 34 rfl) rfl
theorem q1800 : (Jvm.Cond.soleField "NightwatchWallModel$Guard" "strikes") ∈ lw_all := lw_g (lw_at lw_m8 35 rfl) rfl
theorem q1801 : (Jvm.Cond.lays "NightwatchWallModel$Guard" "NightwatchWallModel$Guard" "hours" "I") ∈ lw_all := lw_g (lw_at lw_m8 36 rfl) rfl
theorem q1802 : (Jvm.Cond.soleField "NightwatchWallModel$Guard" "hours") ∈ lw_all := lw_g (lw_at lw_m8 37 rfl) rfl
theorem q1803 : (Jvm.Cond.superclass "NightwatchWallModel$Guard" "java/lang/Object") ∈ lw_all := lw_g (lw_at lw_m8 38 rfl) rfl
theorem q1822 : (Jvm.Cond.instanceMethod ({ cls := "NightwatchWallModel$Guard", name := "place", desc := "(I)I" } : Jvm.MethodName)) ∈ lw_all := lw_g (lw_at lw_m8 57 rfl) rfl
theorem q1823 : (Jvm.Cond.selects "NightwatchWallModel$Guard" ({ cls := "NightwatchWallModel$Guard", name := "place", desc := "(I)I" } : Jvm.MethodName) ({ cls := "NightwatchWallModel$Guard", name := "place", desc := "(I)I" } : Jvm.MethodName)) ∈ lw_all := lw_g (lw_at lw_m8 58 rfl) rfl
theorem q1824 : (Jvm.Cond.code ({ cls := "NightwatchWallModel$Guard", name := "place", desc := "(I)I" } : Jvm.MethodName) prog_18_method_4_code (2 : Nat) (Option.some Jvm.ClassFile.FieldType.int)) ∈ lw_all := lw_g (lw_at lw_m8 59 rfl) rfl
theorem q1825 : (Jvm.Cond.methodLink "NightwatchWallModel$Guard" (44 : Nat) ({ cls := "NightwatchWallModel$Guard", name := "isOnDuty", desc := "(I)Z" } : Jvm.MethodName)) ∈ lw_all := lw_g (lw_at lw_m8 60 rfl) rfl
theorem q1826 : (Jvm.Cond.instanceMethod ({ cls := "NightwatchWallModel$Guard", name := "isOnDuty", desc := "(I)Z" } : Jvm.MethodName)) ∈ lw_all := lw_g (lw_at lw_m8 61 rfl) rfl
theorem q1827 : (Jvm.Cond.selects "NightwatchWallModel$Guard" ({ cls := "NightwatchWallModel$Guard", name := "isOnDuty", desc := "(I)Z" } : Jvm.MethodName) ({ cls := "NightwatchWallModel$Guard", name := "isOnDuty", desc := "(I)Z" } : Jvm.MethodName)) ∈ lw_all := lw_g (lw_at lw_m8 62 rfl) rfl
theorem q1828 : (Jvm.Cond.code ({ cls := "NightwatchWallModel$Guard", name := "isOnDuty", desc := "(I)Z" } : Jvm.MethodName) prog_18_method_2_code (2 : Nat) (Option.some Jvm.ClassFile.FieldType.boolean)) ∈ lw_all := lw_g (lw_at lw_m8 63 rfl) rfl
theorem q1829 : (Jvm.Cond.methodLinkNest "NightwatchWallModel$Guard" (40 : Nat) ({ cls := "NightwatchWallModel", name := "in", desc := "(III)Z" } : Jvm.MethodName) "NightwatchWallModel") ∈ lw_tbl := lw_at lw_m8 64 rfl
theorem q1830 : (Jvm.Cond.interfaceEntry "NightwatchWallModel$Guard" (48 : Nat)) ∈ lw_tbl := lw_at lw_m8 65 rfl
theorem q1831 : (Jvm.Cond.methodLink "NightwatchWallModel$Guard" (48 : Nat) ({ cls := "java/util/List", name := "size", desc := "()I" } : Jvm.MethodName)) ∈ lw_all := lw_g (lw_at lw_m8 66 rfl) rfl
theorem q1832 : (Jvm.Cond.interfaceEntry "NightwatchWallModel$Guard" (52 : Nat)) ∈ lw_tbl := lw_at lw_m8 67 rfl
theorem q1833 : (Jvm.Cond.methodLink "NightwatchWallModel$Guard" (52 : Nat) ({ cls := "java/util/List", name := "get", desc := "(I)Ljava/lang/Object;" } : Jvm.MethodName)) ∈ lw_all := lw_g (lw_at lw_m8 68 rfl) rfl
theorem q1834 : (Jvm.Cond.classLink "NightwatchWallModel$Guard" (19 : Nat) "java/lang/Integer") ∈ lw_all := lw_g (lw_at lw_m8 69 rfl) rfl
theorem q1835 : (Jvm.Cond.methodLink "NightwatchWallModel$Guard" (56 : Nat) ({ cls := "java/lang/Integer", name := "intValue", desc := "()I" } : Jvm.MethodName)) ∈ lw_all := lw_g (lw_at lw_m8 70 rfl) rfl
theorem q1853 : (Jvm.Cond.instanceMethod ({ cls := "NightwatchWallModel$Guard", name := "isTired", desc := "(I)Z" } : Jvm.MethodName)) ∈ lw_all := lw_g (lw_at lw_m8 88 rfl) rfl
theorem q1854 : (Jvm.Cond.selects "NightwatchWallModel$Guard" ({ cls := "NightwatchWallModel$Guard", name := "isTired", desc := "(I)Z" } : Jvm.MethodName) ({ cls := "NightwatchWallModel$Guard", name := "isTired", desc := "(I)Z" } : Jvm.MethodName)) ∈ lw_all := lw_g (lw_at lw_m8 89 rfl) rfl
theorem q1855 : (Jvm.Cond.code ({ cls := "NightwatchWallModel$Guard", name := "isTired", desc := "(I)Z" } : Jvm.MethodName) prog_18_method_3_code (2 : Nat) (Option.some Jvm.ClassFile.FieldType.boolean)) ∈ lw_all := lw_g (lw_at lw_m8 90 rfl) rfl
theorem q2141 : (Jvm.Cond.castable "NightwatchWallModel$Guard" "java/lang/Object") ∈ lw_tbl := lw_at lw_m9 136 rfl
theorem in_X11 : ∀ w ∈ wsX110, w ∈ lw_all := lw_in wsX110 [1791, 1793, 1795, 1797, 1799, 1801] (by decide +kernel) (by decide +kernel)
/-! NightwatchWall$Intruder -/
set_option maxRecDepth 100000
def RX12 : String := "NightwatchWall$Intruder"
def TX12 : u_T := fun k => match k with
  | 0 => ("NightwatchWall$Intruder", "from", "I", true)
  | 1 => ("NightwatchWall$Intruder", "way", "Ljava/util/ArrayList;", true)
  | 2 => ("NightwatchWall$Intruder", "moves", "I", true)
  | 3 => ("NightwatchWall$Intruder", "steps", "I", false)
  | _ => ("NightwatchWall$Intruder", "last", "I", false)
def tyX12 : Nat → FieldType := fun k => match k with
  | 0 => .int
  | 1 => .object "java/util/ArrayList"
  | 2 => .int
  | 3 => .int
  | _ => .int
abbrev wsX120 : List Cond := u_ws RX12 TX12 5
theorem nmX12 : ∀ a, a < 5 → ∀ b, b < 5 → a ≠ b → (TX12 a).2.1 ≠ (TX12 b).2.1 := by decide +kernel
theorem tyX12_ok : ∀ k, k < 5 → parseFieldDescriptor (TX12 k).2.2.1 = some (tyX12 k) := by decide +kernel
abbrev cX12_walksOn : ByteArray := prog_4_method_4_code
def yX12_walksOn : MethodName := ⟨RX12, "walksOn", "(I)Z"⟩
def dkwX12_walksOn_1 : List UInt8 := [132, 2, 1, 167, 255, 235, 3, 172]
abbrev dktX12_walksOn_1 : List UInt8 := dkwX12_walksOn_1 ++ []
def dkwX12_walksOn_0 : List UInt8 := [42, 180, 0, 15, 61, 28, 17, 0, 240, 162, 0, 20, 42, 28, 182, 0, 46, 27, 160, 0, 5, 4, 172]
abbrev dktX12_walksOn_0 : List UInt8 := dkwX12_walksOn_0 ++ dktX12_walksOn_1
theorem dksX12_walksOn_0 : cX12_walksOn.data.toList.drop 0 = dktX12_walksOn_0 := by decide +kernel
theorem dksX12_walksOn_1 : cX12_walksOn.data.toList.drop 23 = dktX12_walksOn_1 := dk_seg dksX12_walksOn_0 23 rfl rfl
theorem dX12_walksOn_0 : decode cX12_walksOn 0 = .ok (.aload_n 0, 1) := dk_42 (dk_at dksX12_walksOn_0 0 rfl rfl)
theorem dX12_walksOn_1 : decode cX12_walksOn 1 = .ok (.getfield 15, 3) := dk_180 0 15 (dk_at dksX12_walksOn_0 1 rfl rfl)
theorem dX12_walksOn_4 : decode cX12_walksOn 4 = .ok (.istore_n 2, 1) := dk_61 (dk_at dksX12_walksOn_0 4 rfl rfl)
theorem dX12_walksOn_5 : decode cX12_walksOn 5 = .ok (.iload_n 2, 1) := dk_28 (dk_at dksX12_walksOn_0 5 rfl rfl)
theorem dX12_walksOn_6 : decode cX12_walksOn 6 = .ok (.sipush 240, 3) := dk_17 0 240 (dk_at dksX12_walksOn_0 6 rfl rfl)
theorem dX12_walksOn_9 : decode cX12_walksOn 9 = .ok (.if_icmp .ge 20, 3) := dk_162 0 20 (dk_at dksX12_walksOn_0 9 rfl rfl)
theorem dX12_walksOn_12 : decode cX12_walksOn 12 = .ok (.aload_n 0, 1) := dk_42 (dk_at dksX12_walksOn_0 12 rfl rfl)
theorem dX12_walksOn_13 : decode cX12_walksOn 13 = .ok (.iload_n 2, 1) := dk_28 (dk_at dksX12_walksOn_0 13 rfl rfl)
theorem dX12_walksOn_14 : decode cX12_walksOn 14 = .ok (.invokevirtual 46, 3) := dk_182 0 46 (dk_at dksX12_walksOn_0 14 rfl rfl)
theorem dX12_walksOn_17 : decode cX12_walksOn 17 = .ok (.iload_n 1, 1) := dk_27 (dk_at dksX12_walksOn_0 17 rfl rfl)
theorem dX12_walksOn_18 : decode cX12_walksOn 18 = .ok (.if_icmp .ne 5, 3) := dk_160 0 5 (dk_at dksX12_walksOn_0 18 rfl rfl)
theorem dX12_walksOn_21 : decode cX12_walksOn 21 = .ok (.iconst 1, 1) := dk_4 (dk_at dksX12_walksOn_0 21 rfl rfl)
theorem dX12_walksOn_22 : decode cX12_walksOn 22 = .ok (.ireturn, 1) := dk_172 (dk_at dksX12_walksOn_0 22 rfl rfl)
theorem dX12_walksOn_23 : decode cX12_walksOn 23 = .ok (.iinc 2 1, 3) := dk_132 2 1 (dk_at dksX12_walksOn_1 0 rfl rfl)
theorem dX12_walksOn_26 : decode cX12_walksOn 26 = .ok (.goto (-21), 3) := dk_167 255 235 (dk_at dksX12_walksOn_1 3 rfl rfl)
theorem dX12_walksOn_29 : decode cX12_walksOn 29 = .ok (.iconst 0, 1) := dk_3 (dk_at dksX12_walksOn_1 6 rfl rfl)
theorem dX12_walksOn_30 : decode cX12_walksOn 30 = .ok (.ireturn, 1) := dk_172 (dk_at dksX12_walksOn_1 7 rfl rfl)
abbrev cX12_place : ByteArray := prog_4_method_2_code
def yX12_place : MethodName := ⟨RX12, "place", "(I)I"⟩
def dkwX12_place_1 : List UInt8 := [180, 0, 18, 182, 0, 25, 4, 100, 184, 0, 31, 182, 0, 37, 192, 0, 41, 182, 0, 43, 172]
abbrev dktX12_place_1 : List UInt8 := dkwX12_place_1 ++ []
def dkwX12_place_0 : List UInt8 := [27, 42, 180, 0, 15, 162, 0, 7, 2, 167, 0, 34, 42, 180, 0, 18, 27, 42, 180, 0, 15, 100, 42]
abbrev dktX12_place_0 : List UInt8 := dkwX12_place_0 ++ dktX12_place_1
theorem dksX12_place_0 : cX12_place.data.toList.drop 0 = dktX12_place_0 := by decide +kernel
theorem dksX12_place_1 : cX12_place.data.toList.drop 23 = dktX12_place_1 := dk_seg dksX12_place_0 23 rfl rfl
theorem dX12_place_0 : decode cX12_place 0 = .ok (.iload_n 1, 1) := dk_27 (dk_at dksX12_place_0 0 rfl rfl)
theorem dX12_place_1 : decode cX12_place 1 = .ok (.aload_n 0, 1) := dk_42 (dk_at dksX12_place_0 1 rfl rfl)
theorem dX12_place_2 : decode cX12_place 2 = .ok (.getfield 15, 3) := dk_180 0 15 (dk_at dksX12_place_0 2 rfl rfl)
theorem dX12_place_5 : decode cX12_place 5 = .ok (.if_icmp .ge 7, 3) := dk_162 0 7 (dk_at dksX12_place_0 5 rfl rfl)
theorem dX12_place_8 : decode cX12_place 8 = .ok (.iconst (-1), 1) := dk_2 (dk_at dksX12_place_0 8 rfl rfl)
theorem dX12_place_9 : decode cX12_place 9 = .ok (.goto 34, 3) := dk_167 0 34 (dk_at dksX12_place_0 9 rfl rfl)
theorem dX12_place_12 : decode cX12_place 12 = .ok (.aload_n 0, 1) := dk_42 (dk_at dksX12_place_0 12 rfl rfl)
theorem dX12_place_13 : decode cX12_place 13 = .ok (.getfield 18, 3) := dk_180 0 18 (dk_at dksX12_place_0 13 rfl rfl)
theorem dX12_place_16 : decode cX12_place 16 = .ok (.iload_n 1, 1) := dk_27 (dk_at dksX12_place_0 16 rfl rfl)
theorem dX12_place_17 : decode cX12_place 17 = .ok (.aload_n 0, 1) := dk_42 (dk_at dksX12_place_0 17 rfl rfl)
theorem dX12_place_18 : decode cX12_place 18 = .ok (.getfield 15, 3) := dk_180 0 15 (dk_at dksX12_place_0 18 rfl rfl)
theorem dX12_place_21 : decode cX12_place 21 = .ok (.isub, 1) := dk_100 (dk_at dksX12_place_0 21 rfl rfl)
theorem dX12_place_22 : decode cX12_place 22 = .ok (.aload_n 0, 1) := dk_42 (dk_at dksX12_place_0 22 rfl rfl)
theorem dX12_place_23 : decode cX12_place 23 = .ok (.getfield 18, 3) := dk_180 0 18 (dk_at dksX12_place_1 0 rfl rfl)
theorem dX12_place_26 : decode cX12_place 26 = .ok (.invokevirtual 25, 3) := dk_182 0 25 (dk_at dksX12_place_1 3 rfl rfl)
theorem dX12_place_29 : decode cX12_place 29 = .ok (.iconst 1, 1) := dk_4 (dk_at dksX12_place_1 6 rfl rfl)
theorem dX12_place_30 : decode cX12_place 30 = .ok (.isub, 1) := dk_100 (dk_at dksX12_place_1 7 rfl rfl)
theorem dX12_place_31 : decode cX12_place 31 = .ok (.invokestatic 31, 3) := dk_184 0 31 (dk_at dksX12_place_1 8 rfl rfl)
theorem dX12_place_34 : decode cX12_place 34 = .ok (.invokevirtual 37, 3) := dk_182 0 37 (dk_at dksX12_place_1 11 rfl rfl)
theorem dX12_place_37 : decode cX12_place 37 = .ok (.checkcast 41, 3) := dk_192 0 41 (dk_at dksX12_place_1 14 rfl rfl)
theorem dX12_place_40 : decode cX12_place 40 = .ok (.invokevirtual 43, 3) := dk_182 0 43 (dk_at dksX12_place_1 17 rfl rfl)
theorem dX12_place_43 : decode cX12_place 43 = .ok (.ireturn, 1) := dk_172 (dk_at dksX12_place_1 20 rfl rfl)
abbrev cX12_end : ByteArray := prog_4_method_3_code
def yX12_end : MethodName := ⟨RX12, "end", "()I"⟩
def dkwX12_end_1 : List UInt8 := [182, 0, 37, 192, 0, 41, 182, 0, 43, 172]
abbrev dktX12_end_1 : List UInt8 := dkwX12_end_1 ++ []
def dkwX12_end_0 : List UInt8 := [42, 180, 0, 18, 17, 0, 239, 42, 180, 0, 15, 100, 42, 180, 0, 18, 182, 0, 25, 4, 100, 184, 0, 31]
abbrev dktX12_end_0 : List UInt8 := dkwX12_end_0 ++ dktX12_end_1
theorem dksX12_end_0 : cX12_end.data.toList.drop 0 = dktX12_end_0 := by decide +kernel
theorem dksX12_end_1 : cX12_end.data.toList.drop 24 = dktX12_end_1 := dk_seg dksX12_end_0 24 rfl rfl
theorem dX12_end_0 : decode cX12_end 0 = .ok (.aload_n 0, 1) := dk_42 (dk_at dksX12_end_0 0 rfl rfl)
theorem dX12_end_1 : decode cX12_end 1 = .ok (.getfield 18, 3) := dk_180 0 18 (dk_at dksX12_end_0 1 rfl rfl)
theorem dX12_end_4 : decode cX12_end 4 = .ok (.sipush 239, 3) := dk_17 0 239 (dk_at dksX12_end_0 4 rfl rfl)
theorem dX12_end_7 : decode cX12_end 7 = .ok (.aload_n 0, 1) := dk_42 (dk_at dksX12_end_0 7 rfl rfl)
theorem dX12_end_8 : decode cX12_end 8 = .ok (.getfield 15, 3) := dk_180 0 15 (dk_at dksX12_end_0 8 rfl rfl)
theorem dX12_end_11 : decode cX12_end 11 = .ok (.isub, 1) := dk_100 (dk_at dksX12_end_0 11 rfl rfl)
theorem dX12_end_12 : decode cX12_end 12 = .ok (.aload_n 0, 1) := dk_42 (dk_at dksX12_end_0 12 rfl rfl)
theorem dX12_end_13 : decode cX12_end 13 = .ok (.getfield 18, 3) := dk_180 0 18 (dk_at dksX12_end_0 13 rfl rfl)
theorem dX12_end_16 : decode cX12_end 16 = .ok (.invokevirtual 25, 3) := dk_182 0 25 (dk_at dksX12_end_0 16 rfl rfl)
theorem dX12_end_19 : decode cX12_end 19 = .ok (.iconst 1, 1) := dk_4 (dk_at dksX12_end_0 19 rfl rfl)
theorem dX12_end_20 : decode cX12_end 20 = .ok (.isub, 1) := dk_100 (dk_at dksX12_end_0 20 rfl rfl)
theorem dX12_end_21 : decode cX12_end 21 = .ok (.invokestatic 31, 3) := dk_184 0 31 (dk_at dksX12_end_0 21 rfl rfl)
theorem dX12_end_24 : decode cX12_end 24 = .ok (.invokevirtual 37, 3) := dk_182 0 37 (dk_at dksX12_end_1 0 rfl rfl)
theorem dX12_end_27 : decode cX12_end 27 = .ok (.checkcast 41, 3) := dk_192 0 41 (dk_at dksX12_end_1 3 rfl rfl)
theorem dX12_end_30 : decode cX12_end 30 = .ok (.invokevirtual 43, 3) := dk_182 0 43 (dk_at dksX12_end_1 6 rfl rfl)
theorem dX12_end_33 : decode cX12_end 33 = .ok (.ireturn, 1) := dk_172 (dk_at dksX12_end_1 9 rfl rfl)
abbrev cX12_init : ByteArray := prog_4_method_1_code
def yX12_init : MethodName := ⟨RX12, "<init>", "(ILjava/util/ArrayList;I)V"⟩
def dkwX12_init_1 : List UInt8 := [177]
abbrev dktX12_init_1 : List UInt8 := dkwX12_init_1 ++ []
def dkwX12_init_0 : List UInt8 := [42, 183, 0, 3, 42, 2, 181, 0, 9, 42, 27, 181, 0, 15, 42, 44, 181, 0, 18, 42, 29, 181, 0, 22]
abbrev dktX12_init_0 : List UInt8 := dkwX12_init_0 ++ dktX12_init_1
theorem dksX12_init_0 : cX12_init.data.toList.drop 0 = dktX12_init_0 := by decide +kernel
theorem dksX12_init_1 : cX12_init.data.toList.drop 24 = dktX12_init_1 := dk_seg dksX12_init_0 24 rfl rfl
theorem dX12_init_0 : decode cX12_init 0 = .ok (.aload_n 0, 1) := dk_42 (dk_at dksX12_init_0 0 rfl rfl)
theorem dX12_init_1 : decode cX12_init 1 = .ok (.invokespecial 3, 3) := dk_183 0 3 (dk_at dksX12_init_0 1 rfl rfl)
theorem dX12_init_4 : decode cX12_init 4 = .ok (.aload_n 0, 1) := dk_42 (dk_at dksX12_init_0 4 rfl rfl)
theorem dX12_init_5 : decode cX12_init 5 = .ok (.iconst (-1), 1) := dk_2 (dk_at dksX12_init_0 5 rfl rfl)
theorem dX12_init_6 : decode cX12_init 6 = .ok (.putfield 9, 3) := dk_181 0 9 (dk_at dksX12_init_0 6 rfl rfl)
theorem dX12_init_9 : decode cX12_init 9 = .ok (.aload_n 0, 1) := dk_42 (dk_at dksX12_init_0 9 rfl rfl)
theorem dX12_init_10 : decode cX12_init 10 = .ok (.iload_n 1, 1) := dk_27 (dk_at dksX12_init_0 10 rfl rfl)
theorem dX12_init_11 : decode cX12_init 11 = .ok (.putfield 15, 3) := dk_181 0 15 (dk_at dksX12_init_0 11 rfl rfl)
theorem dX12_init_14 : decode cX12_init 14 = .ok (.aload_n 0, 1) := dk_42 (dk_at dksX12_init_0 14 rfl rfl)
theorem dX12_init_15 : decode cX12_init 15 = .ok (.aload_n 2, 1) := dk_44 (dk_at dksX12_init_0 15 rfl rfl)
theorem dX12_init_16 : decode cX12_init 16 = .ok (.putfield 18, 3) := dk_181 0 18 (dk_at dksX12_init_0 16 rfl rfl)
theorem dX12_init_19 : decode cX12_init 19 = .ok (.aload_n 0, 1) := dk_42 (dk_at dksX12_init_0 19 rfl rfl)
theorem dX12_init_20 : decode cX12_init 20 = .ok (.iload_n 3, 1) := dk_29 (dk_at dksX12_init_0 20 rfl rfl)
theorem dX12_init_21 : decode cX12_init 21 = .ok (.putfield 22, 3) := dk_181 0 22 (dk_at dksX12_init_0 21 rfl rfl)
theorem dX12_init_24 : decode cX12_init 24 = .ok (.return_, 1) := dk_177 (dk_at dksX12_init_1 0 rfl rfl)
theorem q120 : (Jvm.Cond.initialized "NightwatchWall$Intruder") ∈ lw_all := lw_g (lw_at lw_m1 35 rfl) rfl
theorem q380 : (Jvm.Cond.instanceMethod ({ cls := "NightwatchWall$Intruder", name := "walksOn", desc := "(I)Z" } : Jvm.MethodName)) ∈ lw_all := lw_g (lw_at lw_m2 55 rfl) rfl
theorem q381 : (Jvm.Cond.selects "NightwatchWall$Intruder" ({ cls := "NightwatchWall$Intruder", name := "walksOn", desc := "(I)Z" } : Jvm.MethodName) ({ cls := "NightwatchWall$Intruder", name := "walksOn", desc := "(I)Z" } : Jvm.MethodName)) ∈ lw_all := lw_g (lw_at lw_m2 56 rfl) rfl
theorem q382 : (Jvm.Cond.code ({ cls := "NightwatchWall$Intruder", name := "walksOn", desc := "(I)Z" } : Jvm.MethodName) prog_4_method_4_code (3 : Nat) (Option.some Jvm.ClassFile.FieldType.boolean)) ∈ lw_all := lw_g (lw_at lw_m2 57 rfl) rfl
theorem q383 : (Jvm.Cond.methodLink "NightwatchWall$Intruder" (46 : Nat) ({ cls := "NightwatchWall$Intruder", name := "place", desc := "(I)I" } : Jvm.MethodName)) ∈ lw_all := lw_g (lw_at lw_m2 58 rfl) rfl
theorem q384 : (Jvm.Cond.instanceMethod ({ cls := "NightwatchWall$Intruder", name := "place", desc := "(I)I" } : Jvm.MethodName)) ∈ lw_all := lw_g (lw_at lw_m2 59 rfl) rfl
theorem q385 : (Jvm.Cond.selects "NightwatchWall$Intruder" ({ cls := "NightwatchWall$Intruder", name := "place", desc := "(I)I" } : Jvm.MethodName) ({ cls := "NightwatchWall$Intruder", name := "place", desc := "(I)I" } : Jvm.MethodName)) ∈ lw_all := lw_g (lw_at lw_m2 60 rfl) rfl
theorem q386 : (Jvm.Cond.code ({ cls := "NightwatchWall$Intruder", name := "place", desc := "(I)I" } : Jvm.MethodName) prog_4_method_2_code (2 : Nat) (Option.some Jvm.ClassFile.FieldType.int)) ∈ lw_all := lw_g (lw_at lw_m2 61 rfl) rfl
theorem q387 : (Jvm.Cond.methodLink "NightwatchWall$Intruder" (25 : Nat) ({ cls := "java/util/ArrayList", name := "size", desc := "()I" } : Jvm.MethodName)) ∈ lw_all := lw_g (lw_at lw_m2 62 rfl) rfl
theorem q388 : (Jvm.Cond.methodLink "NightwatchWall$Intruder" (31 : Nat) ({ cls := "java/lang/Math", name := "min", desc := "(II)I" } : Jvm.MethodName)) ∈ lw_all := lw_g (lw_at lw_m2 63 rfl) rfl
theorem q391 : (Jvm.Cond.methodLink "NightwatchWall$Intruder" (37 : Nat) ({ cls := "java/util/ArrayList", name := "get", desc := "(I)Ljava/lang/Object;" } : Jvm.MethodName)) ∈ lw_all := lw_g (lw_at lw_m2 66 rfl) rfl
theorem q392 : (Jvm.Cond.classLink "NightwatchWall$Intruder" (41 : Nat) "java/lang/Integer") ∈ lw_all := lw_g (lw_at lw_m2 67 rfl) rfl
theorem q393 : (Jvm.Cond.methodLink "NightwatchWall$Intruder" (43 : Nat) ({ cls := "java/lang/Integer", name := "intValue", desc := "()I" } : Jvm.MethodName)) ∈ lw_all := lw_g (lw_at lw_m2 68 rfl) rfl
theorem q602 : (Jvm.Cond.instanceMethod ({ cls := "NightwatchWall$Intruder", name := "end", desc := "()I" } : Jvm.MethodName)) ∈ lw_all := lw_g (lw_at lw_m3 37 rfl) rfl
theorem q603 : (Jvm.Cond.selects "NightwatchWall$Intruder" ({ cls := "NightwatchWall$Intruder", name := "end", desc := "()I" } : Jvm.MethodName) ({ cls := "NightwatchWall$Intruder", name := "end", desc := "()I" } : Jvm.MethodName)) ∈ lw_all := lw_g (lw_at lw_m3 38 rfl) rfl
theorem q604 : (Jvm.Cond.code ({ cls := "NightwatchWall$Intruder", name := "end", desc := "()I" } : Jvm.MethodName) prog_4_method_3_code (1 : Nat) (Option.some Jvm.ClassFile.FieldType.int)) ∈ lw_all := lw_g (lw_at lw_m3 39 rfl) rfl
theorem q921 : (Jvm.Cond.selects "NightwatchWall$Intruder" ({ cls := "java/lang/Object", name := "getClass", desc := "()Ljava/lang/Class;" } : Jvm.MethodName) ({ cls := "java/lang/Object", name := "getClass", desc := "()Ljava/lang/Class;" } : Jvm.MethodName)) ∈ lw_all := lw_g (lw_at lw_m4 116 rfl) rfl
theorem q1190 : (Jvm.Cond.instantiable "NightwatchWall$Intruder" (5 : Nat)) ∈ lw_all := lw_g (lw_at lw_m5 145 rfl) rfl
theorem q1192 : (Jvm.Cond.instanceMethod ({ cls := "NightwatchWall$Intruder", name := "<init>", desc := "(ILjava/util/ArrayList;I)V" } : Jvm.MethodName)) ∈ lw_all := lw_g (lw_at lw_m5 147 rfl) rfl
theorem q1193 : (Jvm.Cond.code ({ cls := "NightwatchWall$Intruder", name := "<init>", desc := "(ILjava/util/ArrayList;I)V" } : Jvm.MethodName) prog_4_method_1_code (4 : Nat) (Option.none : Option Jvm.ClassFile.FieldType)) ∈ lw_all := lw_g (lw_at lw_m5 148 rfl) rfl
theorem q1194 : (Jvm.Cond.methodLink "NightwatchWall$Intruder" (3 : Nat) ({ cls := "java/lang/Object", name := "<init>", desc := "()V" } : Jvm.MethodName)) ∈ lw_all := lw_g (lw_at lw_m5 149 rfl) rfl
theorem q1195 : (Jvm.Cond.fieldLink "NightwatchWall$Intruder" (15 : Nat) "NightwatchWall$Intruder" "from" "I") ∈ lw_all := lw_g (lw_at lw_m5 150 rfl) rfl
theorem q1197 : (Jvm.Cond.fieldLink "NightwatchWall$Intruder" (18 : Nat) "NightwatchWall$Intruder" "way" "Ljava/util/ArrayList;") ∈ lw_all := lw_g (lw_at lw_m5 152 rfl) rfl
theorem q1198 : (Jvm.Cond.fieldLink "NightwatchWall$Intruder" (22 : Nat) "NightwatchWall$Intruder" "moves" "I") ∈ lw_all := lw_g (lw_at lw_m5 153 rfl) rfl
theorem q1201 : (Jvm.Cond.fieldLink "NightwatchWall$Intruder" (9 : Nat) "NightwatchWall$Intruder" "last" "I") ∈ lw_all := lw_g (lw_at lw_m5 156 rfl) rfl
theorem q1203 : (Jvm.Cond.laysFinal "NightwatchWall$Intruder" "NightwatchWall$Intruder" "from" "I") ∈ lw_all := lw_g (lw_at lw_m5 158 rfl) rfl
theorem q1204 : (Jvm.Cond.soleField "NightwatchWall$Intruder" "from") ∈ lw_all := lw_g (lw_at lw_m5 159 rfl) rfl
theorem q1205 : (Jvm.Cond.laysFinal "NightwatchWall$Intruder" "NightwatchWall$Intruder" "way" "Ljava/util/ArrayList;") ∈ lw_all := lw_g (lw_at lw_m5 160 rfl) rfl
theorem q1206 : (Jvm.Cond.soleField "NightwatchWall$Intruder" "way") ∈ lw_all := lw_g (lw_at lw_m5 161 rfl) rfl
theorem q1207 : (Jvm.Cond.laysFinal "NightwatchWall$Intruder" "NightwatchWall$Intruder" "moves" "I") ∈ lw_all := lw_g (lw_at lw_m5 162 rfl) rfl
theorem q1208 : (Jvm.Cond.soleField "NightwatchWall$Intruder" "moves") ∈ lw_all := lw_g (lw_at lw_m5 163 rfl) rfl
theorem q1209 : (Jvm.Cond.lays "NightwatchWall$Intruder" "NightwatchWall$Intruder" "steps" "I") ∈ lw_all := lw_g (lw_at lw_m5 164 rfl) rfl
theorem q1210 : (Jvm.Cond.soleField "NightwatchWall$Intruder" "steps") ∈ lw_all := lw_g (lw_at lw_m5 165 rfl) rfl
theorem q1211 : (Jvm.Cond.lays "NightwatchWall$Intruder" "NightwatchWall$Intruder" "last" "I") ∈ lw_all := lw_g (lw_at lw_m5 166 rfl) rfl
theorem q1212 : (Jvm.Cond.soleField "NightwatchWall$Intruder" "last") ∈ lw_all := lw_g (lw_at lw_m5 167 rfl) rfl
theorem q1213 : (Jvm.Cond.superclass "NightwatchWall$Intruder" "java/lang/Object") ∈ lw_all := lw_g (lw_at lw_m5 168 rfl) rfl
theorem q2142 : (Jvm.Cond.castable "NightwatchWall$Intruder" "java/lang/Object") ∈ lw_tbl := lw_at lw_m9 137 rfl
theorem in_X12 : ∀ w ∈ wsX120, w ∈ lw_all := lw_in wsX120 [1203, 1205, 1207, 1209, 1211] (by decide +kernel) (by decide +kernel)
/-! NightwatchWallModel$Intruder -/
set_option maxRecDepth 100000
def RX13 : String := "NightwatchWallModel$Intruder"
def TX13 : u_T := fun k => match k with
  | 0 => ("NightwatchWallModel$Intruder", "from", "I", true)
  | 1 => ("NightwatchWallModel$Intruder", "many", "I", true)
  | 2 => ("NightwatchWallModel$Intruder", "way", "[I", true)
  | 3 => ("NightwatchWallModel$Intruder", "steps", "I", false)
  | _ => ("NightwatchWallModel$Intruder", "last", "I", false)
def tyX13 : Nat → FieldType := fun k => match k with
  | 0 => .int
  | 1 => .int
  | 2 => .array .int
  | 3 => .int
  | _ => .int
abbrev wsX130 : List Cond := u_ws RX13 TX13 5
theorem nmX13 : ∀ a, a < 5 → ∀ b, b < 5 → a ≠ b → (TX13 a).2.1 ≠ (TX13 b).2.1 := by decide +kernel
theorem tyX13_ok : ∀ k, k < 5 → parseFieldDescriptor (TX13 k).2.2.1 = some (tyX13 k) := by decide +kernel
abbrev cX13_where : ByteArray := prog_19_method_2_code
def yX13_where : MethodName := ⟨RX13, "where", "(I)I"⟩
def dkwX13_where_0 : List UInt8 := [27, 42, 180, 0, 19, 162, 0, 7, 2, 167, 0, 9, 42, 180, 0, 9, 27, 46, 172]
abbrev dktX13_where_0 : List UInt8 := dkwX13_where_0 ++ []
theorem dksX13_where_0 : cX13_where.data.toList.drop 0 = dktX13_where_0 := by decide +kernel
theorem dX13_where_0 : decode cX13_where 0 = .ok (.iload_n 1, 1) := dk_27 (dk_at dksX13_where_0 0 rfl rfl)
theorem dX13_where_1 : decode cX13_where 1 = .ok (.aload_n 0, 1) := dk_42 (dk_at dksX13_where_0 1 rfl rfl)
theorem dX13_where_2 : decode cX13_where 2 = .ok (.getfield 19, 3) := dk_180 0 19 (dk_at dksX13_where_0 2 rfl rfl)
theorem dX13_where_5 : decode cX13_where 5 = .ok (.if_icmp .ge 7, 3) := dk_162 0 7 (dk_at dksX13_where_0 5 rfl rfl)
theorem dX13_where_8 : decode cX13_where 8 = .ok (.iconst (-1), 1) := dk_2 (dk_at dksX13_where_0 8 rfl rfl)
theorem dX13_where_9 : decode cX13_where 9 = .ok (.goto 9, 3) := dk_167 0 9 (dk_at dksX13_where_0 9 rfl rfl)
theorem dX13_where_12 : decode cX13_where 12 = .ok (.aload_n 0, 1) := dk_42 (dk_at dksX13_where_0 12 rfl rfl)
theorem dX13_where_13 : decode cX13_where 13 = .ok (.getfield 9, 3) := dk_180 0 9 (dk_at dksX13_where_0 13 rfl rfl)
theorem dX13_where_16 : decode cX13_where 16 = .ok (.iload_n 1, 1) := dk_27 (dk_at dksX13_where_0 16 rfl rfl)
theorem dX13_where_17 : decode cX13_where 17 = .ok (.iaload, 1) := dk_46 (dk_at dksX13_where_0 17 rfl rfl)
theorem dX13_where_18 : decode cX13_where 18 = .ok (.ireturn, 1) := dk_172 (dk_at dksX13_where_0 18 rfl rfl)
abbrev cX13_init : ByteArray := prog_19_method_1_code
def yX13_init : MethodName := ⟨RX13, "<init>", "(II)V"⟩
def dkwX13_init_1 : List UInt8 := [28, 181, 0, 22, 177]
abbrev dktX13_init_1 : List UInt8 := dkwX13_init_1 ++ []
def dkwX13_init_0 : List UInt8 := [42, 183, 0, 3, 42, 17, 0, 240, 188, 10, 181, 0, 9, 42, 2, 181, 0, 15, 42, 27, 181, 0, 19, 42]
abbrev dktX13_init_0 : List UInt8 := dkwX13_init_0 ++ dktX13_init_1
theorem dksX13_init_0 : cX13_init.data.toList.drop 0 = dktX13_init_0 := by decide +kernel
theorem dksX13_init_1 : cX13_init.data.toList.drop 24 = dktX13_init_1 := dk_seg dksX13_init_0 24 rfl rfl
theorem dX13_init_0 : decode cX13_init 0 = .ok (.aload_n 0, 1) := dk_42 (dk_at dksX13_init_0 0 rfl rfl)
theorem dX13_init_1 : decode cX13_init 1 = .ok (.invokespecial 3, 3) := dk_183 0 3 (dk_at dksX13_init_0 1 rfl rfl)
theorem dX13_init_4 : decode cX13_init 4 = .ok (.aload_n 0, 1) := dk_42 (dk_at dksX13_init_0 4 rfl rfl)
theorem dX13_init_5 : decode cX13_init 5 = .ok (.sipush 240, 3) := dk_17 0 240 (dk_at dksX13_init_0 5 rfl rfl)
theorem dX13_init_8 : decode cX13_init 8 = .ok (.newarray .int, 2) := dk_188_10 (dk_at dksX13_init_0 8 rfl rfl)
theorem dX13_init_10 : decode cX13_init 10 = .ok (.putfield 9, 3) := dk_181 0 9 (dk_at dksX13_init_0 10 rfl rfl)
theorem dX13_init_13 : decode cX13_init 13 = .ok (.aload_n 0, 1) := dk_42 (dk_at dksX13_init_0 13 rfl rfl)
theorem dX13_init_14 : decode cX13_init 14 = .ok (.iconst (-1), 1) := dk_2 (dk_at dksX13_init_0 14 rfl rfl)
theorem dX13_init_15 : decode cX13_init 15 = .ok (.putfield 15, 3) := dk_181 0 15 (dk_at dksX13_init_0 15 rfl rfl)
theorem dX13_init_18 : decode cX13_init 18 = .ok (.aload_n 0, 1) := dk_42 (dk_at dksX13_init_0 18 rfl rfl)
theorem dX13_init_19 : decode cX13_init 19 = .ok (.iload_n 1, 1) := dk_27 (dk_at dksX13_init_0 19 rfl rfl)
theorem dX13_init_20 : decode cX13_init 20 = .ok (.putfield 19, 3) := dk_181 0 19 (dk_at dksX13_init_0 20 rfl rfl)
theorem dX13_init_23 : decode cX13_init 23 = .ok (.aload_n 0, 1) := dk_42 (dk_at dksX13_init_0 23 rfl rfl)
theorem dX13_init_24 : decode cX13_init 24 = .ok (.iload_n 2, 1) := dk_28 (dk_at dksX13_init_1 0 rfl rfl)
theorem dX13_init_25 : decode cX13_init 25 = .ok (.putfield 22, 3) := dk_181 0 22 (dk_at dksX13_init_1 1 rfl rfl)
theorem dX13_init_28 : decode cX13_init 28 = .ok (.return_, 1) := dk_177 (dk_at dksX13_init_1 4 rfl rfl)
theorem q121 : (Jvm.Cond.initialized "NightwatchWallModel$Intruder") ∈ lw_all := lw_g (lw_at lw_m1 36 rfl) rfl
theorem q934 : (Jvm.Cond.selects "NightwatchWallModel$Intruder" ({ cls := "java/lang/Object", name := "getClass", desc := "()Ljava/lang/Class;" } : Jvm.MethodName) ({ cls := "java/lang/Object", name := "getClass", desc := "()Ljava/lang/Class;" } : Jvm.MethodName)) ∈ lw_all := lw_g (lw_at lw_m4 129 rfl) rfl
theorem q1715 : (Jvm.Cond.instanceMethod ({ cls := "NightwatchWallModel$Intruder", name := "where", desc := "(I)I" } : Jvm.MethodName)) ∈ lw_all := lw_g (lw_at lw_m7 190 rfl) rfl
theorem q1716 : (Jvm.Cond.selects "NightwatchWallModel$Intruder" ({ cls := "NightwatchWallModel$Intruder", name := "where", desc := "(I)I" } : Jvm.MethodName) ({ cls := "NightwatchWallModel$Intruder", name := "where", desc := "(I)I" } : Jvm.MethodName)) ∈ lw_all := lw_g (lw_at lw_m7 191 rfl) rfl
theorem q1717 : (Jvm.Cond.code ({ cls := "NightwatchWallModel$Intruder", name := "where", desc := "(I)I" } : Jvm.MethodName) prog_19_method_2_code (2 : Nat) (Option.some Jvm.ClassFile.FieldType.int)) ∈ lw_all := lw_g (lw_at lw_m7 192 rfl) rfl
theorem q1933 : (Jvm.Cond.instantiable "NightwatchWallModel$Intruder" (5 : Nat)) ∈ lw_all := lw_g (lw_at lw_m8 168 rfl) rfl
theorem q1938 : (Jvm.Cond.instanceMethod ({ cls := "NightwatchWallModel$Intruder", name := "<init>", desc := "(II)V" } : Jvm.MethodName)) ∈ lw_all := lw_g (lw_at lw_m8 173 rfl) rfl
theorem q1939 : (Jvm.Cond.code ({ cls := "NightwatchWallModel$Intruder", name := "<init>", desc := "(II)V" } : Jvm.MethodName) prog_19_method_1_code (3 : Nat) (Option.none : Option Jvm.ClassFile.FieldType)) ∈ lw_all := lw_g (lw_at lw_m8 174 rfl) rfl
theorem q1940 : (Jvm.Cond.methodLink "NightwatchWallModel$Intruder" (3 : Nat) ({ cls := "java/lang/Object", name := "<init>", desc := "()V" } : Jvm.MethodName)) ∈ lw_all := lw_g (lw_at lw_m8 175 rfl) rfl
theorem q1941 : (Jvm.Cond.fieldLink "NightwatchWallModel$Intruder" (19 : Nat) "NightwatchWallModel$Intruder" "from" "I") ∈ lw_all := lw_g (lw_at lw_m8 176 rfl) rfl
theorem q1943 : (Jvm.Cond.fieldLink "NightwatchWallModel$Intruder" (22 : Nat) "NightwatchWallModel$Intruder" "many" "I") ∈ lw_all := lw_g (lw_at lw_m8 178 rfl) rfl
theorem q1945 : (Jvm.Cond.fieldLink "NightwatchWallModel$Intruder" (9 : Nat) "NightwatchWallModel$Intruder" "way" "[I") ∈ lw_all := lw_g (lw_at lw_m8 180 rfl) rfl
theorem q1948 : (Jvm.Cond.fieldLink "NightwatchWallModel$Intruder" (15 : Nat) "NightwatchWallModel$Intruder" "last" "I") ∈ lw_all := lw_g (lw_at lw_m8 183 rfl) rfl
theorem q1950 : (Jvm.Cond.laysFinal "NightwatchWallModel$Intruder" "NightwatchWallModel$Intruder" "from" "I") ∈ lw_all := lw_g (lw_at lw_m8 185 rfl) rfl
theorem q1951 : (Jvm.Cond.soleField "NightwatchWallModel$Intruder" "from") ∈ lw_all := lw_g (lw_at lw_m8 186 rfl) rfl
theorem q1952 : (Jvm.Cond.laysFinal "NightwatchWallModel$Intruder" "NightwatchWallModel$Intruder" "many" "I") ∈ lw_all := lw_g (lw_at lw_m8 187 rfl) rfl
theorem q1953 : (Jvm.Cond.soleField "NightwatchWallModel$Intruder" "many") ∈ lw_all := lw_g (lw_at lw_m8 188 rfl) rfl
theorem q1954 : (Jvm.Cond.laysFinal "NightwatchWallModel$Intruder" "NightwatchWallModel$Intruder" "way" "[I") ∈ lw_all := lw_g (lw_at lw_m8 189 rfl) rfl
theorem q1955 : (Jvm.Cond.soleField "NightwatchWallModel$Intruder" "way") ∈ lw_all := lw_g (lw_at lw_m8 190 rfl) rfl
theorem q1956 : (Jvm.Cond.lays "NightwatchWallModel$Intruder" "NightwatchWallModel$Intruder" "steps" "I") ∈ lw_all := lw_g (lw_at lw_m8 191 rfl) rfl
theorem q1957 : (Jvm.Cond.soleField "NightwatchWallModel$Intruder" "steps") ∈ lw_all := lw_g (lw_at lw_m8 192 rfl) rfl
theorem q1958 : (Jvm.Cond.lays "NightwatchWallModel$Intruder" "NightwatchWallModel$Intruder" "last" "I") ∈ lw_all := lw_g (lw_at lw_m8 193 rfl) rfl
theorem q1959 : (Jvm.Cond.soleField "NightwatchWallModel$Intruder" "last") ∈ lw_all := lw_g (lw_at lw_m8 194 rfl) rfl
theorem q1960 : (Jvm.Cond.superclass "NightwatchWallModel$Intruder" "java/lang/Object") ∈ lw_all := lw_g (lw_at lw_m8 195 rfl) rfl
theorem q2143 : (Jvm.Cond.castable "NightwatchWallModel$Intruder" "java/lang/Object") ∈ lw_tbl := lw_at lw_m9 138 rfl
theorem in_X13 : ∀ w ∈ wsX130, w ∈ lw_all := lw_in wsX130 [1950, 1952, 1954, 1956, 1958] (by decide +kernel) (by decide +kernel)
/-! NightwatchWall$Wire -/
set_option maxRecDepth 100000
def RX14 : String := "NightwatchWall$Wire"
def TX14 : u_T := fun k => match k with
  | 0 => ("NightwatchWall$Wire", "cell", "I", true)
  | _ => ("NightwatchWall$Wire", "bar", "I", true)
def tyX14 : Nat → FieldType := fun k => match k with
  | 0 => .int
  | _ => .int
abbrev wsX140 : List Cond := u_ws RX14 TX14 2
theorem nmX14 : ∀ a, a < 2 → ∀ b, b < 2 → a ≠ b → (TX14 a).2.1 ≠ (TX14 b).2.1 := by decide +kernel
theorem tyX14_ok : ∀ k, k < 2 → parseFieldDescriptor (TX14 k).2.2.1 = some (tyX14 k) := by decide +kernel
abbrev cX14_noise : ByteArray := prog_13_method_2_code
def yX14_noise : MethodName := ⟨RX14, "noise", "(II)I"⟩
def dkwX14_noise_0 : List UInt8 := [16, 29, 27, 104, 16, 7, 42, 180, 0, 7, 104, 96, 16, 11, 112, 8, 28, 104, 96, 172]
abbrev dktX14_noise_0 : List UInt8 := dkwX14_noise_0 ++ []
theorem dksX14_noise_0 : cX14_noise.data.toList.drop 0 = dktX14_noise_0 := by decide +kernel
theorem dX14_noise_0 : decode cX14_noise 0 = .ok (.bipush 29, 2) := dk_16 29 (dk_at dksX14_noise_0 0 rfl rfl)
theorem dX14_noise_2 : decode cX14_noise 2 = .ok (.iload_n 1, 1) := dk_27 (dk_at dksX14_noise_0 2 rfl rfl)
theorem dX14_noise_3 : decode cX14_noise 3 = .ok (.imul, 1) := dk_104 (dk_at dksX14_noise_0 3 rfl rfl)
theorem dX14_noise_4 : decode cX14_noise 4 = .ok (.bipush 7, 2) := dk_16 7 (dk_at dksX14_noise_0 4 rfl rfl)
theorem dX14_noise_6 : decode cX14_noise 6 = .ok (.aload_n 0, 1) := dk_42 (dk_at dksX14_noise_0 6 rfl rfl)
theorem dX14_noise_7 : decode cX14_noise 7 = .ok (.getfield 7, 3) := dk_180 0 7 (dk_at dksX14_noise_0 7 rfl rfl)
theorem dX14_noise_10 : decode cX14_noise 10 = .ok (.imul, 1) := dk_104 (dk_at dksX14_noise_0 10 rfl rfl)
theorem dX14_noise_11 : decode cX14_noise 11 = .ok (.iadd, 1) := dk_96 (dk_at dksX14_noise_0 11 rfl rfl)
theorem dX14_noise_12 : decode cX14_noise 12 = .ok (.bipush 11, 2) := dk_16 11 (dk_at dksX14_noise_0 12 rfl rfl)
theorem dX14_noise_14 : decode cX14_noise 14 = .ok (.irem, 1) := dk_112 (dk_at dksX14_noise_0 14 rfl rfl)
theorem dX14_noise_15 : decode cX14_noise 15 = .ok (.iconst 5, 1) := dk_8 (dk_at dksX14_noise_0 15 rfl rfl)
theorem dX14_noise_16 : decode cX14_noise 16 = .ok (.iload_n 2, 1) := dk_28 (dk_at dksX14_noise_0 16 rfl rfl)
theorem dX14_noise_17 : decode cX14_noise 17 = .ok (.imul, 1) := dk_104 (dk_at dksX14_noise_0 17 rfl rfl)
theorem dX14_noise_18 : decode cX14_noise 18 = .ok (.iadd, 1) := dk_96 (dk_at dksX14_noise_0 18 rfl rfl)
theorem dX14_noise_19 : decode cX14_noise 19 = .ok (.ireturn, 1) := dk_172 (dk_at dksX14_noise_0 19 rfl rfl)
abbrev cX14_init : ByteArray := prog_13_method_1_code
def yX14_init : MethodName := ⟨RX14, "<init>", "(II)V"⟩
def dkwX14_init_0 : List UInt8 := [42, 183, 0, 1, 42, 27, 181, 0, 7, 42, 28, 181, 0, 13, 177]
abbrev dktX14_init_0 : List UInt8 := dkwX14_init_0 ++ []
theorem dksX14_init_0 : cX14_init.data.toList.drop 0 = dktX14_init_0 := by decide +kernel
theorem dX14_init_0 : decode cX14_init 0 = .ok (.aload_n 0, 1) := dk_42 (dk_at dksX14_init_0 0 rfl rfl)
theorem dX14_init_1 : decode cX14_init 1 = .ok (.invokespecial 1, 3) := dk_183 0 1 (dk_at dksX14_init_0 1 rfl rfl)
theorem dX14_init_4 : decode cX14_init 4 = .ok (.aload_n 0, 1) := dk_42 (dk_at dksX14_init_0 4 rfl rfl)
theorem dX14_init_5 : decode cX14_init 5 = .ok (.iload_n 1, 1) := dk_27 (dk_at dksX14_init_0 5 rfl rfl)
theorem dX14_init_6 : decode cX14_init 6 = .ok (.putfield 7, 3) := dk_181 0 7 (dk_at dksX14_init_0 6 rfl rfl)
theorem dX14_init_9 : decode cX14_init 9 = .ok (.aload_n 0, 1) := dk_42 (dk_at dksX14_init_0 9 rfl rfl)
theorem dX14_init_10 : decode cX14_init 10 = .ok (.iload_n 2, 1) := dk_28 (dk_at dksX14_init_0 10 rfl rfl)
theorem dX14_init_11 : decode cX14_init 11 = .ok (.putfield 13, 3) := dk_181 0 13 (dk_at dksX14_init_0 11 rfl rfl)
theorem dX14_init_14 : decode cX14_init 14 = .ok (.return_, 1) := dk_177 (dk_at dksX14_init_0 14 rfl rfl)
theorem q122 : (Jvm.Cond.initialized "NightwatchWall$Wire") ∈ lw_all := lw_g (lw_at lw_m1 37 rfl) rfl
theorem q631 : (Jvm.Cond.instanceMethod ({ cls := "NightwatchWall$Wire", name := "noise", desc := "(II)I" } : Jvm.MethodName)) ∈ lw_all := lw_g (lw_at lw_m3 66 rfl) rfl
theorem q632 : (Jvm.Cond.selects "NightwatchWall$Wire" ({ cls := "NightwatchWall$Wire", name := "noise", desc := "(II)I" } : Jvm.MethodName) ({ cls := "NightwatchWall$Wire", name := "noise", desc := "(II)I" } : Jvm.MethodName)) ∈ lw_all := lw_g (lw_at lw_m3 67 rfl) rfl
theorem q633 : (Jvm.Cond.code ({ cls := "NightwatchWall$Wire", name := "noise", desc := "(II)I" } : Jvm.MethodName) prog_13_method_2_code (3 : Nat) (Option.some Jvm.ClassFile.FieldType.int)) ∈ lw_all := lw_g (lw_at lw_m3 68 rfl) rfl
theorem q929 : (Jvm.Cond.selects "NightwatchWall$Wire" ({ cls := "java/lang/Object", name := "getClass", desc := "()Ljava/lang/Class;" } : Jvm.MethodName) ({ cls := "java/lang/Object", name := "getClass", desc := "()Ljava/lang/Class;" } : Jvm.MethodName)) ∈ lw_all := lw_g (lw_at lw_m4 124 rfl) rfl
theorem q1221 : (Jvm.Cond.instantiable "NightwatchWall$Wire" (2 : Nat)) ∈ lw_all := lw_g (lw_at lw_m5 176 rfl) rfl
theorem q1223 : (Jvm.Cond.instanceMethod ({ cls := "NightwatchWall$Wire", name := "<init>", desc := "(II)V" } : Jvm.MethodName)) ∈ lw_all := lw_g (lw_at lw_m5 178 rfl) rfl
theorem q1224 : (Jvm.Cond.code ({ cls := "NightwatchWall$Wire", name := "<init>", desc := "(II)V" } : Jvm.MethodName) prog_13_method_1_code (3 : Nat) (Option.none : Option Jvm.ClassFile.FieldType)) ∈ lw_all := lw_g (lw_at lw_m5 179 rfl) rfl
theorem q1225 : (Jvm.Cond.methodLink "NightwatchWall$Wire" (1 : Nat) ({ cls := "java/lang/Object", name := "<init>", desc := "()V" } : Jvm.MethodName)) ∈ lw_all := lw_g (lw_at lw_m5 180 rfl) rfl
theorem q1226 : (Jvm.Cond.fieldLink "NightwatchWall$Wire" (7 : Nat) "NightwatchWall$Wire" "cell" "I") ∈ lw_all := lw_g (lw_at lw_m5 181 rfl) rfl
theorem q1228 : (Jvm.Cond.fieldLink "NightwatchWall$Wire" (13 : Nat) "NightwatchWall$Wire" "bar" "I") ∈ lw_all := lw_g (lw_at lw_m5 183 rfl) rfl
theorem q1230 : (Jvm.Cond.laysFinal "NightwatchWall$Wire" "NightwatchWall$Wire" "cell" "I") ∈ lw_all := lw_g (lw_at lw_m5 185 rfl) rfl
theorem q1231 : (Jvm.Cond.soleField "NightwatchWall$Wire" "cell") ∈ lw_all := lw_g (lw_at lw_m5 186 rfl) rfl
theorem q1232 : (Jvm.Cond.laysFinal "NightwatchWall$Wire" "NightwatchWall$Wire" "bar" "I") ∈ lw_all := lw_g (lw_at lw_m5 187 rfl) rfl
theorem q1233 : (Jvm.Cond.soleField "NightwatchWall$Wire" "bar") ∈ lw_all := lw_g (lw_at lw_m5 188 rfl) rfl
theorem q1234 : (Jvm.Cond.superclass "NightwatchWall$Wire" "java/lang/Object") ∈ lw_all := lw_g (lw_at lw_m5 189 rfl) rfl
theorem q2144 : (Jvm.Cond.castable "NightwatchWall$Wire" "java/lang/Object") ∈ lw_tbl := lw_at lw_m9 139 rfl
theorem in_X14 : ∀ w ∈ wsX140, w ∈ lw_all := lw_in wsX140 [1230, 1232] (by decide +kernel) (by decide +kernel)
/-! NightwatchWall$Kind$1 -/
set_option maxRecDepth 100000
def RX15 : String := "NightwatchWall$Kind$1"
abbrev cX15_isOpaque : ByteArray := prog_6_method_2_code
def yX15_isOpaque : MethodName := ⟨RX15, "isOpaque", "()Z"⟩
theorem dX15_isOpaque_0 : decode cX15_isOpaque 0 = .ok (.iconst 0, 1) := by decide +kernel
theorem dX15_isOpaque_1 : decode cX15_isOpaque 1 = .ok (.ireturn, 1) := by decide +kernel
abbrev cX15_sign : ByteArray := prog_6_method_3_code
def yX15_sign : MethodName := ⟨RX15, "sign", "()C"⟩
theorem dX15_sign_0 : decode cX15_sign 0 = .ok (.bipush 46, 2) := by decide +kernel
theorem dX15_sign_2 : decode cX15_sign 2 = .ok (.ireturn, 1) := by decide +kernel
theorem q466 : (Jvm.Cond.selects "NightwatchWall$Kind$1" ({ cls := "NightwatchWall$Kind", name := "isOpaque", desc := "()Z" } : Jvm.MethodName) ({ cls := "NightwatchWall$Kind$1", name := "isOpaque", desc := "()Z" } : Jvm.MethodName)) ∈ lw_all := lw_g (lw_at lw_m2 141 rfl) rfl
theorem q467 : (Jvm.Cond.instanceMethod ({ cls := "NightwatchWall$Kind$1", name := "isOpaque", desc := "()Z" } : Jvm.MethodName)) ∈ lw_all := lw_g (lw_at lw_m2 142 rfl) rfl
theorem q468 : (Jvm.Cond.code ({ cls := "NightwatchWall$Kind$1", name := "isOpaque", desc := "()Z" } : Jvm.MethodName) prog_6_method_2_code (1 : Nat) (Option.some Jvm.ClassFile.FieldType.boolean)) ∈ lw_all := lw_g (lw_at lw_m2 143 rfl) rfl
theorem q562 : (Jvm.Cond.selects "NightwatchWall$Kind$1" ({ cls := "NightwatchWall$Kind", name := "number", desc := "()I" } : Jvm.MethodName) ({ cls := "NightwatchWall$Kind", name := "number", desc := "()I" } : Jvm.MethodName)) ∈ lw_all := lw_g (lw_at lw_m2 237 rfl) rfl
theorem q922 : (Jvm.Cond.selects "NightwatchWall$Kind$1" ({ cls := "java/lang/Object", name := "getClass", desc := "()Ljava/lang/Class;" } : Jvm.MethodName) ({ cls := "java/lang/Object", name := "getClass", desc := "()Ljava/lang/Class;" } : Jvm.MethodName)) ∈ lw_all := lw_g (lw_at lw_m4 117 rfl) rfl
theorem q1365 : (Jvm.Cond.selects "NightwatchWall$Kind$1" ({ cls := "NightwatchWall$Kind", name := "sign", desc := "()C" } : Jvm.MethodName) ({ cls := "NightwatchWall$Kind$1", name := "sign", desc := "()C" } : Jvm.MethodName)) ∈ lw_all := lw_g (lw_at lw_m6 80 rfl) rfl
theorem q1366 : (Jvm.Cond.instanceMethod ({ cls := "NightwatchWall$Kind$1", name := "sign", desc := "()C" } : Jvm.MethodName)) ∈ lw_all := lw_g (lw_at lw_m6 81 rfl) rfl
theorem q1367 : (Jvm.Cond.code ({ cls := "NightwatchWall$Kind$1", name := "sign", desc := "()C" } : Jvm.MethodName) prog_6_method_3_code (1 : Nat) (Option.some Jvm.ClassFile.FieldType.char)) ∈ lw_all := lw_g (lw_at lw_m6 82 rfl) rfl
theorem q2129 : (Jvm.Cond.castable "NightwatchWall$Kind$1" "java/lang/Object") ∈ lw_tbl := lw_at lw_m9 124 rfl
theorem q2148 : (Jvm.Cond.castable "NightwatchWall$Kind$1" "NightwatchWall$Kind") ∈ lw_tbl := lw_at lw_m9 143 rfl
/-! NightwatchWall$Kind$2 -/
set_option maxRecDepth 100000
def RX16 : String := "NightwatchWall$Kind$2"
abbrev cX16_isOpaque : ByteArray := prog_7_method_2_code
def yX16_isOpaque : MethodName := ⟨RX16, "isOpaque", "()Z"⟩
theorem dX16_isOpaque_0 : decode cX16_isOpaque 0 = .ok (.iconst 1, 1) := by decide +kernel
theorem dX16_isOpaque_1 : decode cX16_isOpaque 1 = .ok (.ireturn, 1) := by decide +kernel
abbrev cX16_sign : ByteArray := prog_7_method_3_code
def yX16_sign : MethodName := ⟨RX16, "sign", "()C"⟩
theorem dX16_sign_0 : decode cX16_sign 0 = .ok (.bipush 35, 2) := by decide +kernel
theorem dX16_sign_2 : decode cX16_sign 2 = .ok (.ireturn, 1) := by decide +kernel
theorem q469 : (Jvm.Cond.selects "NightwatchWall$Kind$2" ({ cls := "NightwatchWall$Kind", name := "isOpaque", desc := "()Z" } : Jvm.MethodName) ({ cls := "NightwatchWall$Kind$2", name := "isOpaque", desc := "()Z" } : Jvm.MethodName)) ∈ lw_all := lw_g (lw_at lw_m2 144 rfl) rfl
theorem q470 : (Jvm.Cond.instanceMethod ({ cls := "NightwatchWall$Kind$2", name := "isOpaque", desc := "()Z" } : Jvm.MethodName)) ∈ lw_all := lw_g (lw_at lw_m2 145 rfl) rfl
theorem q471 : (Jvm.Cond.code ({ cls := "NightwatchWall$Kind$2", name := "isOpaque", desc := "()Z" } : Jvm.MethodName) prog_7_method_2_code (1 : Nat) (Option.some Jvm.ClassFile.FieldType.boolean)) ∈ lw_all := lw_g (lw_at lw_m2 146 rfl) rfl
theorem q563 : (Jvm.Cond.selects "NightwatchWall$Kind$2" ({ cls := "NightwatchWall$Kind", name := "number", desc := "()I" } : Jvm.MethodName) ({ cls := "NightwatchWall$Kind", name := "number", desc := "()I" } : Jvm.MethodName)) ∈ lw_all := lw_g (lw_at lw_m2 238 rfl) rfl
theorem q923 : (Jvm.Cond.selects "NightwatchWall$Kind$2" ({ cls := "java/lang/Object", name := "getClass", desc := "()Ljava/lang/Class;" } : Jvm.MethodName) ({ cls := "java/lang/Object", name := "getClass", desc := "()Ljava/lang/Class;" } : Jvm.MethodName)) ∈ lw_all := lw_g (lw_at lw_m4 118 rfl) rfl
theorem q1368 : (Jvm.Cond.selects "NightwatchWall$Kind$2" ({ cls := "NightwatchWall$Kind", name := "sign", desc := "()C" } : Jvm.MethodName) ({ cls := "NightwatchWall$Kind$2", name := "sign", desc := "()C" } : Jvm.MethodName)) ∈ lw_all := lw_g (lw_at lw_m6 83 rfl) rfl
theorem q1369 : (Jvm.Cond.instanceMethod ({ cls := "NightwatchWall$Kind$2", name := "sign", desc := "()C" } : Jvm.MethodName)) ∈ lw_all := lw_g (lw_at lw_m6 84 rfl) rfl
theorem q1370 : (Jvm.Cond.code ({ cls := "NightwatchWall$Kind$2", name := "sign", desc := "()C" } : Jvm.MethodName) prog_7_method_3_code (1 : Nat) (Option.some Jvm.ClassFile.FieldType.char)) ∈ lw_all := lw_g (lw_at lw_m6 85 rfl) rfl
theorem q2130 : (Jvm.Cond.castable "NightwatchWall$Kind$2" "java/lang/Object") ∈ lw_tbl := lw_at lw_m9 125 rfl
theorem q2149 : (Jvm.Cond.castable "NightwatchWall$Kind$2" "NightwatchWall$Kind") ∈ lw_tbl := lw_at lw_m9 144 rfl
/-! NightwatchWall$Kind$3 -/
set_option maxRecDepth 100000
def RX17 : String := "NightwatchWall$Kind$3"
abbrev cX17_isOpaque : ByteArray := prog_8_method_2_code
def yX17_isOpaque : MethodName := ⟨RX17, "isOpaque", "()Z"⟩
theorem dX17_isOpaque_0 : decode cX17_isOpaque 0 = .ok (.iconst 1, 1) := by decide +kernel
theorem dX17_isOpaque_1 : decode cX17_isOpaque 1 = .ok (.ireturn, 1) := by decide +kernel
abbrev cX17_sign : ByteArray := prog_8_method_3_code
def yX17_sign : MethodName := ⟨RX17, "sign", "()C"⟩
theorem dX17_sign_0 : decode cX17_sign 0 = .ok (.bipush 37, 2) := by decide +kernel
theorem dX17_sign_2 : decode cX17_sign 2 = .ok (.ireturn, 1) := by decide +kernel
theorem q472 : (Jvm.Cond.selects "NightwatchWall$Kind$3" ({ cls := "NightwatchWall$Kind", name := "isOpaque", desc := "()Z" } : Jvm.MethodName) ({ cls := "NightwatchWall$Kind$3", name := "isOpaque", desc := "()Z" } : Jvm.MethodName)) ∈ lw_all := lw_g (lw_at lw_m2 147 rfl) rfl
theorem q473 : (Jvm.Cond.instanceMethod ({ cls := "NightwatchWall$Kind$3", name := "isOpaque", desc := "()Z" } : Jvm.MethodName)) ∈ lw_all := lw_g (lw_at lw_m2 148 rfl) rfl
theorem q474 : (Jvm.Cond.code ({ cls := "NightwatchWall$Kind$3", name := "isOpaque", desc := "()Z" } : Jvm.MethodName) prog_8_method_2_code (1 : Nat) (Option.some Jvm.ClassFile.FieldType.boolean)) ∈ lw_all := lw_g (lw_at lw_m2 149 rfl) rfl
theorem q564 : (Jvm.Cond.selects "NightwatchWall$Kind$3" ({ cls := "NightwatchWall$Kind", name := "number", desc := "()I" } : Jvm.MethodName) ({ cls := "NightwatchWall$Kind", name := "number", desc := "()I" } : Jvm.MethodName)) ∈ lw_all := lw_g (lw_at lw_m2 239 rfl) rfl
theorem q924 : (Jvm.Cond.selects "NightwatchWall$Kind$3" ({ cls := "java/lang/Object", name := "getClass", desc := "()Ljava/lang/Class;" } : Jvm.MethodName) ({ cls := "java/lang/Object", name := "getClass", desc := "()Ljava/lang/Class;" } : Jvm.MethodName)) ∈ lw_all := lw_g (lw_at lw_m4 119 rfl) rfl
theorem q1371 : (Jvm.Cond.selects "NightwatchWall$Kind$3" ({ cls := "NightwatchWall$Kind", name := "sign", desc := "()C" } : Jvm.MethodName) ({ cls := "NightwatchWall$Kind$3", name := "sign", desc := "()C" } : Jvm.MethodName)) ∈ lw_all := lw_g (lw_at lw_m6 86 rfl) rfl
theorem q1372 : (Jvm.Cond.instanceMethod ({ cls := "NightwatchWall$Kind$3", name := "sign", desc := "()C" } : Jvm.MethodName)) ∈ lw_all := lw_g (lw_at lw_m6 87 rfl) rfl
theorem q1373 : (Jvm.Cond.code ({ cls := "NightwatchWall$Kind$3", name := "sign", desc := "()C" } : Jvm.MethodName) prog_8_method_3_code (1 : Nat) (Option.some Jvm.ClassFile.FieldType.char)) ∈ lw_all := lw_g (lw_at lw_m6 88 rfl) rfl
theorem q2131 : (Jvm.Cond.castable "NightwatchWall$Kind$3" "java/lang/Object") ∈ lw_tbl := lw_at lw_m9 126 rfl
theorem q2150 : (Jvm.Cond.castable "NightwatchWall$Kind$3" "NightwatchWall$Kind") ∈ lw_tbl := lw_at lw_m9 145 rfl
/-! NightwatchWall$Kind$4 -/
set_option maxRecDepth 100000
def RX18 : String := "NightwatchWall$Kind$4"
abbrev cX18_isOpaque : ByteArray := prog_9_method_2_code
def yX18_isOpaque : MethodName := ⟨RX18, "isOpaque", "()Z"⟩
theorem dX18_isOpaque_0 : decode cX18_isOpaque 0 = .ok (.iconst 0, 1) := by decide +kernel
theorem dX18_isOpaque_1 : decode cX18_isOpaque 1 = .ok (.ireturn, 1) := by decide +kernel
abbrev cX18_sign : ByteArray := prog_9_method_3_code
def yX18_sign : MethodName := ⟨RX18, "sign", "()C"⟩
theorem dX18_sign_0 : decode cX18_sign 0 = .ok (.bipush 43, 2) := by decide +kernel
theorem dX18_sign_2 : decode cX18_sign 2 = .ok (.ireturn, 1) := by decide +kernel
theorem q475 : (Jvm.Cond.selects "NightwatchWall$Kind$4" ({ cls := "NightwatchWall$Kind", name := "isOpaque", desc := "()Z" } : Jvm.MethodName) ({ cls := "NightwatchWall$Kind$4", name := "isOpaque", desc := "()Z" } : Jvm.MethodName)) ∈ lw_all := lw_g (lw_at lw_m2 150 rfl) rfl
theorem q476 : (Jvm.Cond.instanceMethod ({ cls := "NightwatchWall$Kind$4", name := "isOpaque", desc := "()Z" } : Jvm.MethodName)) ∈ lw_all := lw_g (lw_at lw_m2 151 rfl) rfl
theorem q477 : (Jvm.Cond.code ({ cls := "NightwatchWall$Kind$4", name := "isOpaque", desc := "()Z" } : Jvm.MethodName) prog_9_method_2_code (1 : Nat) (Option.some Jvm.ClassFile.FieldType.boolean)) ∈ lw_all := lw_g (lw_at lw_m2 152 rfl) rfl
theorem q565 : (Jvm.Cond.selects "NightwatchWall$Kind$4" ({ cls := "NightwatchWall$Kind", name := "number", desc := "()I" } : Jvm.MethodName) ({ cls := "NightwatchWall$Kind", name := "number", desc := "()I" } : Jvm.MethodName)) ∈ lw_all := lw_g (lw_at lw_m3 0 rfl) rfl
theorem q925 : (Jvm.Cond.selects "NightwatchWall$Kind$4" ({ cls := "java/lang/Object", name := "getClass", desc := "()Ljava/lang/Class;" } : Jvm.MethodName) ({ cls := "java/lang/Object", name := "getClass", desc := "()Ljava/lang/Class;" } : Jvm.MethodName)) ∈ lw_all := lw_g (lw_at lw_m4 120 rfl) rfl
theorem q1374 : (Jvm.Cond.selects "NightwatchWall$Kind$4" ({ cls := "NightwatchWall$Kind", name := "sign", desc := "()C" } : Jvm.MethodName) ({ cls := "NightwatchWall$Kind$4", name := "sign", desc := "()C" } : Jvm.MethodName)) ∈ lw_all := lw_g (lw_at lw_m6 89 rfl) rfl
theorem q1375 : (Jvm.Cond.instanceMethod ({ cls := "NightwatchWall$Kind$4", name := "sign", desc := "()C" } : Jvm.MethodName)) ∈ lw_all := lw_g (lw_at lw_m6 90 rfl) rfl
theorem q1376 : (Jvm.Cond.code ({ cls := "NightwatchWall$Kind$4", name := "sign", desc := "()C" } : Jvm.MethodName) prog_9_method_3_code (1 : Nat) (Option.some Jvm.ClassFile.FieldType.char)) ∈ lw_all := lw_g (lw_at lw_m6 91 rfl) rfl
theorem q2132 : (Jvm.Cond.castable "NightwatchWall$Kind$4" "java/lang/Object") ∈ lw_tbl := lw_at lw_m9 127 rfl
theorem q2151 : (Jvm.Cond.castable "NightwatchWall$Kind$4" "NightwatchWall$Kind") ∈ lw_tbl := lw_at lw_m9 146 rfl
