/-! ===== bits, intruders, wires, signs ===== -/
theorem sp_fst_keep {p : Nat → Bool} {m : Nat} {o : Option Nat} (ho : o = sp_fst p 0 m) (h : p m = false ∨ ¬ o = none) : o = sp_fst p 0 (m + 1) := by
  rw [sp_fst_succ, ← ho, Nat.zero_add]
  cases o with
  | none => rcases h with h | h
            · simp [h]
            · exact absurd rfl h
  | some v => rfl
theorem sp_fst_hit {p : Nat → Bool} {m : Nat} {o : Option Nat} (ho : o = sp_fst p 0 m) (h0 : o = none) (hp : p m = true) : some m = sp_fst p 0 (m + 1) := by
  rw [sp_fst_succ, ← ho, Nat.zero_add, h0]
  simp [hp]
theorem nw_narB : ∀ v, v < 256 → narrow .char (.int (nI v)) = .int (nI v) := by decide +kernel
theorem nw_i2cB : ∀ v, v < 256 → ((nI v).toUInt32 % 65536).toInt32 = nI v := by decide +kernel
theorem sp_sign_lt (k : Nat) : sp_sign k < 256 := by unfold sp_sign; (repeat' split) <;> decide
theorem kX12_place : nwPV "NightwatchWall$Intruder" yX12_place cX12_place 2 (some .int) 1 := ⟨⟨q384, q385, q120, q386⟩, rfl, by decide +kernel, by decide +kernel, by decide +kernel⟩
theorem kX1_there : nwPV "NightwatchWall" yX1_there cX1_there 5 (some .int) 2 := ⟨⟨q628, qs32, q86, q629⟩, rfl, by decide +kernel, by decide +kernel, by decide +kernel⟩
theorem kX14_noise : nwPV "NightwatchWall$Wire" yX14_noise cX14_noise 3 (some .int) 2 := ⟨⟨q631, q632, q122, q633⟩, rfl, by decide +kernel, by decide +kernel, by decide +kernel⟩
theorem kJ19_numberOfTrailingZeros : nwPS yJ19_numberOfTrailingZeros cJ19_numberOfTrailingZeros 2 (some .int) 1 := ⟨⟨q1359, q115, q1360⟩, by decide +kernel, by decide +kernel, by decide +kernel⟩
set_option maxHeartbeats 4000000 in
theorem mJ19_numberOfTrailingZeros (l : Launch) (hf : l.flags = flags0) (d : nwD) (xx : Int32) (j : Nat) (H : Heap) (hB : nd_B d ≤ H.size) (hj : j < 6) (hx : (xx ^^^ oI none) &&& (xx - nI 1) = nI (2 ^ j - 1)) : nwRd l d yJ19_numberOfTrailingZeros cJ19_numberOfTrailingZeros 2 (some .int) 1 20 [.int xx] H (some (.int (nI j))) := by
  refine nw_rd "java/lang/Integer" "numberOfTrailingZeros" hf (by decide +kernel) rfl rfl hB (Nat.le_of_ble_eq_true rfl) ?_
  intro X C
  show nwV X _ _ 2 H 0 0 0 [(0, .int xx)] []
  refine nw_iload_n C 0 dJ19_numberOfTrailingZeros_0 rfl 1 rfl ?_
  refine nw_iconst C (oI none) dJ19_numberOfTrailingZeros_1 (by decide) 2 rfl ?_
  refine nw_ixor C (xx ^^^ (oI none)) dJ19_numberOfTrailingZeros_2 rfl 3 rfl ?_
  refine nw_iload_n C 0 dJ19_numberOfTrailingZeros_3 rfl 4 rfl ?_
  refine nw_iconst C (nI 1) dJ19_numberOfTrailingZeros_4 (by decide) 5 rfl ?_
  refine nw_isub C _ dJ19_numberOfTrailingZeros_5 rfl 6 rfl ?_
  refine nw_iand C (nI (2 ^ j - 1)) dJ19_numberOfTrailingZeros_6 hx 7 rfl ?_
  rcases (show j = 0 ∨ j = 1 ∨ j = 2 ∨ j = 3 ∨ j = 4 ∨ j = 5 by omega) with rfl | rfl | rfl | rfl | rfl | rfl
  · show nwV X _ _ 2 H 0 0 7 [(0, .int xx)] [.int (nI 0)]
    refine nw_istore_n C [(0, .int (nI 0))] dJ19_numberOfTrailingZeros_7 (by decide) rfl 8 rfl ?_
    refine nw_iload_n C 0 dJ19_numberOfTrailingZeros_8 rfl 9 rfl ?_
    refine nw_ifgt C 17 dJ19_numberOfTrailingZeros_9 (by decide) 12 rfl (fun h1 => absurd h1 (by decide)) (fun _ => ?_)
    refine nw_iload_n C 0 dJ19_numberOfTrailingZeros_12 rfl 13 rfl ?_
    refine nw_bipush C (nI 32) dJ19_numberOfTrailingZeros_13 (by decide) 15 rfl ?_
    refine nw_iand C (nI 0) dJ19_numberOfTrailingZeros_15 (by decide) 16 rfl ?_
    exact nw_iret C dJ19_numberOfTrailingZeros_16 (Nat.le_refl _) (Nat.le_refl _) ⟨rfl, rfl⟩
  · show nwV X _ _ 2 H 0 0 7 [(0, .int xx)] [.int (nI 1)]
    refine nw_istore_n C [(0, .int (nI 1))] dJ19_numberOfTrailingZeros_7 (by decide) rfl 8 rfl ?_
    refine nw_iload_n C 0 dJ19_numberOfTrailingZeros_8 rfl 9 rfl ?_
    refine nw_ifgt C 17 dJ19_numberOfTrailingZeros_9 (by decide) 12 rfl (fun _ => ?_) (fun h2 => absurd (by decide) h2)
    refine nw_iconst C (nI 1) dJ19_numberOfTrailingZeros_17 (by decide) 18 rfl ?_
    refine nw_istore_n C [(1, .int (nI 1)), (0, .int (nI 1))] dJ19_numberOfTrailingZeros_18 (by decide) rfl 19 rfl ?_
    refine nw_iload_n C 1 dJ19_numberOfTrailingZeros_19 rfl 20 rfl ?_
    refine nw_ldcw C (v := nI 65536) q1361 dJ19_numberOfTrailingZeros_20 23 rfl ?_
    refine nw_icmple C 34 dJ19_numberOfTrailingZeros_23 (by decide) 26 rfl (fun _ => ?_) (fun h3 => absurd (by decide) h3)
    refine nw_iload_n C 1 dJ19_numberOfTrailingZeros_34 rfl 35 rfl ?_
    refine nw_sipush C (nI 256) dJ19_numberOfTrailingZeros_35 (by decide) 38 rfl ?_
    refine nw_icmple C 49 dJ19_numberOfTrailingZeros_38 (by decide) 41 rfl (fun _ => ?_) (fun h4 => absurd (by decide) h4)
    refine nw_iload_n C 1 dJ19_numberOfTrailingZeros_49 rfl 50 rfl ?_
    refine nw_bipush C (nI 16) dJ19_numberOfTrailingZeros_50 (by decide) 52 rfl ?_
    refine nw_icmple C 62 dJ19_numberOfTrailingZeros_52 (by decide) 55 rfl (fun _ => ?_) (fun h5 => absurd (by decide) h5)
    refine nw_iload_n C 1 dJ19_numberOfTrailingZeros_62 rfl 63 rfl ?_
    refine nw_iconst C (nI 4) dJ19_numberOfTrailingZeros_63 (by decide) 64 rfl ?_
    refine nw_icmple C 74 dJ19_numberOfTrailingZeros_64 (by decide) 67 rfl (fun _ => ?_) (fun h6 => absurd (by decide) h6)
    refine nw_iload_n C 0 dJ19_numberOfTrailingZeros_74 rfl 75 rfl ?_
    refine nw_iload_n C 1 dJ19_numberOfTrailingZeros_75 rfl 76 rfl ?_
    refine nw_iconst C (nI 1) dJ19_numberOfTrailingZeros_76 (by decide) 77 rfl ?_
    refine nw_iushr C (nI 0) dJ19_numberOfTrailingZeros_77 (by decide) 78 rfl ?_
    refine nw_iaddN C dJ19_numberOfTrailingZeros_78 79 rfl ?_
    exact nw_iret C dJ19_numberOfTrailingZeros_79 (Nat.le_refl _) (Nat.le_refl _) ⟨rfl, rfl⟩
  · show nwV X _ _ 2 H 0 0 7 [(0, .int xx)] [.int (nI 3)]
    refine nw_istore_n C [(0, .int (nI 3))] dJ19_numberOfTrailingZeros_7 (by decide) rfl 8 rfl ?_
    refine nw_iload_n C 0 dJ19_numberOfTrailingZeros_8 rfl 9 rfl ?_
    refine nw_ifgt C 17 dJ19_numberOfTrailingZeros_9 (by decide) 12 rfl (fun _ => ?_) (fun h7 => absurd (by decide) h7)
    refine nw_iconst C (nI 1) dJ19_numberOfTrailingZeros_17 (by decide) 18 rfl ?_
    refine nw_istore_n C [(1, .int (nI 1)), (0, .int (nI 3))] dJ19_numberOfTrailingZeros_18 (by decide) rfl 19 rfl ?_
    refine nw_iload_n C 1 dJ19_numberOfTrailingZeros_19 rfl 20 rfl ?_
    refine nw_ldcw C (v := nI 65536) q1361 dJ19_numberOfTrailingZeros_20 23 rfl ?_
    refine nw_icmple C 34 dJ19_numberOfTrailingZeros_23 (by decide) 26 rfl (fun _ => ?_) (fun h8 => absurd (by decide) h8)
    refine nw_iload_n C 1 dJ19_numberOfTrailingZeros_34 rfl 35 rfl ?_
    refine nw_sipush C (nI 256) dJ19_numberOfTrailingZeros_35 (by decide) 38 rfl ?_
    refine nw_icmple C 49 dJ19_numberOfTrailingZeros_38 (by decide) 41 rfl (fun _ => ?_) (fun h9 => absurd (by decide) h9)
    refine nw_iload_n C 1 dJ19_numberOfTrailingZeros_49 rfl 50 rfl ?_
    refine nw_bipush C (nI 16) dJ19_numberOfTrailingZeros_50 (by decide) 52 rfl ?_
    refine nw_icmple C 62 dJ19_numberOfTrailingZeros_52 (by decide) 55 rfl (fun _ => ?_) (fun h10 => absurd (by decide) h10)
    refine nw_iload_n C 1 dJ19_numberOfTrailingZeros_62 rfl 63 rfl ?_
    refine nw_iconst C (nI 4) dJ19_numberOfTrailingZeros_63 (by decide) 64 rfl ?_
    refine nw_icmple C 74 dJ19_numberOfTrailingZeros_64 (by decide) 67 rfl (fun _ => ?_) (fun h11 => absurd (by decide) h11)
    refine nw_iload_n C 0 dJ19_numberOfTrailingZeros_74 rfl 75 rfl ?_
    refine nw_iload_n C 1 dJ19_numberOfTrailingZeros_75 rfl 76 rfl ?_
    refine nw_iconst C (nI 1) dJ19_numberOfTrailingZeros_76 (by decide) 77 rfl ?_
    refine nw_iushr C (nI 1) dJ19_numberOfTrailingZeros_77 (by decide) 78 rfl ?_
    refine nw_iaddN C dJ19_numberOfTrailingZeros_78 79 rfl ?_
    exact nw_iret C dJ19_numberOfTrailingZeros_79 (Nat.le_refl _) (Nat.le_refl _) ⟨rfl, rfl⟩
  · show nwV X _ _ 2 H 0 0 7 [(0, .int xx)] [.int (nI 7)]
    refine nw_istore_n C [(0, .int (nI 7))] dJ19_numberOfTrailingZeros_7 (by decide) rfl 8 rfl ?_
    refine nw_iload_n C 0 dJ19_numberOfTrailingZeros_8 rfl 9 rfl ?_
    refine nw_ifgt C 17 dJ19_numberOfTrailingZeros_9 (by decide) 12 rfl (fun _ => ?_) (fun h12 => absurd (by decide) h12)
    refine nw_iconst C (nI 1) dJ19_numberOfTrailingZeros_17 (by decide) 18 rfl ?_
    refine nw_istore_n C [(1, .int (nI 1)), (0, .int (nI 7))] dJ19_numberOfTrailingZeros_18 (by decide) rfl 19 rfl ?_
    refine nw_iload_n C 1 dJ19_numberOfTrailingZeros_19 rfl 20 rfl ?_
    refine nw_ldcw C (v := nI 65536) q1361 dJ19_numberOfTrailingZeros_20 23 rfl ?_
    refine nw_icmple C 34 dJ19_numberOfTrailingZeros_23 (by decide) 26 rfl (fun _ => ?_) (fun h13 => absurd (by decide) h13)
    refine nw_iload_n C 1 dJ19_numberOfTrailingZeros_34 rfl 35 rfl ?_
    refine nw_sipush C (nI 256) dJ19_numberOfTrailingZeros_35 (by decide) 38 rfl ?_
    refine nw_icmple C 49 dJ19_numberOfTrailingZeros_38 (by decide) 41 rfl (fun _ => ?_) (fun h14 => absurd (by decide) h14)
    refine nw_iload_n C 1 dJ19_numberOfTrailingZeros_49 rfl 50 rfl ?_
    refine nw_bipush C (nI 16) dJ19_numberOfTrailingZeros_50 (by decide) 52 rfl ?_
    refine nw_icmple C 62 dJ19_numberOfTrailingZeros_52 (by decide) 55 rfl (fun _ => ?_) (fun h15 => absurd (by decide) h15)
    refine nw_iload_n C 1 dJ19_numberOfTrailingZeros_62 rfl 63 rfl ?_
    refine nw_iconst C (nI 4) dJ19_numberOfTrailingZeros_63 (by decide) 64 rfl ?_
    refine nw_icmple C 74 dJ19_numberOfTrailingZeros_64 (by decide) 67 rfl (fun h16 => absurd h16 (by decide)) (fun _ => ?_)
    refine nw_iincN C 0 (c0 := 2) [(1, .int (nI 3)), (0, .int (nI 7))] dJ19_numberOfTrailingZeros_67 rfl (by decide) rfl 70 rfl ?_
    refine nw_iload_n C 1 dJ19_numberOfTrailingZeros_70 rfl 71 rfl ?_
    refine nw_iconst C (nI 2) dJ19_numberOfTrailingZeros_71 (by decide) 72 rfl ?_
    refine nw_iushr C (nI 1) dJ19_numberOfTrailingZeros_72 (by decide) 73 rfl ?_
    refine nw_istore_n C [(0, .int (nI 1)), (1, .int (nI 3))] dJ19_numberOfTrailingZeros_73 (by decide) rfl 74 rfl ?_
    refine nw_iload_n C 1 dJ19_numberOfTrailingZeros_74 rfl 75 rfl ?_
    refine nw_iload_n C 0 dJ19_numberOfTrailingZeros_75 rfl 76 rfl ?_
    refine nw_iconst C (nI 1) dJ19_numberOfTrailingZeros_76 (by decide) 77 rfl ?_
    refine nw_iushr C (nI 0) dJ19_numberOfTrailingZeros_77 (by decide) 78 rfl ?_
    refine nw_iaddN C dJ19_numberOfTrailingZeros_78 79 rfl ?_
    exact nw_iret C dJ19_numberOfTrailingZeros_79 (Nat.le_refl _) (Nat.le_refl _) ⟨rfl, rfl⟩
  · show nwV X _ _ 2 H 0 0 7 [(0, .int xx)] [.int (nI 15)]
    refine nw_istore_n C [(0, .int (nI 15))] dJ19_numberOfTrailingZeros_7 (by decide) rfl 8 rfl ?_
    refine nw_iload_n C 0 dJ19_numberOfTrailingZeros_8 rfl 9 rfl ?_
    refine nw_ifgt C 17 dJ19_numberOfTrailingZeros_9 (by decide) 12 rfl (fun _ => ?_) (fun h17 => absurd (by decide) h17)
    refine nw_iconst C (nI 1) dJ19_numberOfTrailingZeros_17 (by decide) 18 rfl ?_
    refine nw_istore_n C [(1, .int (nI 1)), (0, .int (nI 15))] dJ19_numberOfTrailingZeros_18 (by decide) rfl 19 rfl ?_
    refine nw_iload_n C 1 dJ19_numberOfTrailingZeros_19 rfl 20 rfl ?_
    refine nw_ldcw C (v := nI 65536) q1361 dJ19_numberOfTrailingZeros_20 23 rfl ?_
    refine nw_icmple C 34 dJ19_numberOfTrailingZeros_23 (by decide) 26 rfl (fun _ => ?_) (fun h18 => absurd (by decide) h18)
    refine nw_iload_n C 1 dJ19_numberOfTrailingZeros_34 rfl 35 rfl ?_
    refine nw_sipush C (nI 256) dJ19_numberOfTrailingZeros_35 (by decide) 38 rfl ?_
    refine nw_icmple C 49 dJ19_numberOfTrailingZeros_38 (by decide) 41 rfl (fun _ => ?_) (fun h19 => absurd (by decide) h19)
    refine nw_iload_n C 1 dJ19_numberOfTrailingZeros_49 rfl 50 rfl ?_
    refine nw_bipush C (nI 16) dJ19_numberOfTrailingZeros_50 (by decide) 52 rfl ?_
    refine nw_icmple C 62 dJ19_numberOfTrailingZeros_52 (by decide) 55 rfl (fun _ => ?_) (fun h20 => absurd (by decide) h20)
    refine nw_iload_n C 1 dJ19_numberOfTrailingZeros_62 rfl 63 rfl ?_
    refine nw_iconst C (nI 4) dJ19_numberOfTrailingZeros_63 (by decide) 64 rfl ?_
    refine nw_icmple C 74 dJ19_numberOfTrailingZeros_64 (by decide) 67 rfl (fun h21 => absurd h21 (by decide)) (fun _ => ?_)
    refine nw_iincN C 0 (c0 := 2) [(1, .int (nI 3)), (0, .int (nI 15))] dJ19_numberOfTrailingZeros_67 rfl (by decide) rfl 70 rfl ?_
    refine nw_iload_n C 1 dJ19_numberOfTrailingZeros_70 rfl 71 rfl ?_
    refine nw_iconst C (nI 2) dJ19_numberOfTrailingZeros_71 (by decide) 72 rfl ?_
    refine nw_iushr C (nI 3) dJ19_numberOfTrailingZeros_72 (by decide) 73 rfl ?_
    refine nw_istore_n C [(0, .int (nI 3)), (1, .int (nI 3))] dJ19_numberOfTrailingZeros_73 (by decide) rfl 74 rfl ?_
    refine nw_iload_n C 1 dJ19_numberOfTrailingZeros_74 rfl 75 rfl ?_
    refine nw_iload_n C 0 dJ19_numberOfTrailingZeros_75 rfl 76 rfl ?_
    refine nw_iconst C (nI 1) dJ19_numberOfTrailingZeros_76 (by decide) 77 rfl ?_
    refine nw_iushr C (nI 1) dJ19_numberOfTrailingZeros_77 (by decide) 78 rfl ?_
    refine nw_iaddN C dJ19_numberOfTrailingZeros_78 79 rfl ?_
    exact nw_iret C dJ19_numberOfTrailingZeros_79 (Nat.le_refl _) (Nat.le_refl _) ⟨rfl, rfl⟩
  · show nwV X _ _ 2 H 0 0 7 [(0, .int xx)] [.int (nI 31)]
    refine nw_istore_n C [(0, .int (nI 31))] dJ19_numberOfTrailingZeros_7 (by decide) rfl 8 rfl ?_
    refine nw_iload_n C 0 dJ19_numberOfTrailingZeros_8 rfl 9 rfl ?_
    refine nw_ifgt C 17 dJ19_numberOfTrailingZeros_9 (by decide) 12 rfl (fun _ => ?_) (fun h22 => absurd (by decide) h22)
    refine nw_iconst C (nI 1) dJ19_numberOfTrailingZeros_17 (by decide) 18 rfl ?_
    refine nw_istore_n C [(1, .int (nI 1)), (0, .int (nI 31))] dJ19_numberOfTrailingZeros_18 (by decide) rfl 19 rfl ?_
    refine nw_iload_n C 1 dJ19_numberOfTrailingZeros_19 rfl 20 rfl ?_
    refine nw_ldcw C (v := nI 65536) q1361 dJ19_numberOfTrailingZeros_20 23 rfl ?_
    refine nw_icmple C 34 dJ19_numberOfTrailingZeros_23 (by decide) 26 rfl (fun _ => ?_) (fun h23 => absurd (by decide) h23)
    refine nw_iload_n C 1 dJ19_numberOfTrailingZeros_34 rfl 35 rfl ?_
    refine nw_sipush C (nI 256) dJ19_numberOfTrailingZeros_35 (by decide) 38 rfl ?_
    refine nw_icmple C 49 dJ19_numberOfTrailingZeros_38 (by decide) 41 rfl (fun _ => ?_) (fun h24 => absurd (by decide) h24)
    refine nw_iload_n C 1 dJ19_numberOfTrailingZeros_49 rfl 50 rfl ?_
    refine nw_bipush C (nI 16) dJ19_numberOfTrailingZeros_50 (by decide) 52 rfl ?_
    refine nw_icmple C 62 dJ19_numberOfTrailingZeros_52 (by decide) 55 rfl (fun h25 => absurd h25 (by decide)) (fun _ => ?_)
    refine nw_iincN C 0 (c0 := 4) [(1, .int (nI 5)), (0, .int (nI 31))] dJ19_numberOfTrailingZeros_55 rfl (by decide) rfl 58 rfl ?_
    refine nw_iload_n C 1 dJ19_numberOfTrailingZeros_58 rfl 59 rfl ?_
    refine nw_iconst C (nI 4) dJ19_numberOfTrailingZeros_59 (by decide) 60 rfl ?_
    refine nw_iushr C (nI 1) dJ19_numberOfTrailingZeros_60 (by decide) 61 rfl ?_
    refine nw_istore_n C [(0, .int (nI 1)), (1, .int (nI 5))] dJ19_numberOfTrailingZeros_61 (by decide) rfl 62 rfl ?_
    refine nw_iload_n C 0 dJ19_numberOfTrailingZeros_62 rfl 63 rfl ?_
    refine nw_iconst C (nI 4) dJ19_numberOfTrailingZeros_63 (by decide) 64 rfl ?_
    refine nw_icmple C 74 dJ19_numberOfTrailingZeros_64 (by decide) 67 rfl (fun _ => ?_) (fun h26 => absurd (by decide) h26)
    refine nw_iload_n C 1 dJ19_numberOfTrailingZeros_74 rfl 75 rfl ?_
    refine nw_iload_n C 0 dJ19_numberOfTrailingZeros_75 rfl 76 rfl ?_
    refine nw_iconst C (nI 1) dJ19_numberOfTrailingZeros_76 (by decide) 77 rfl ?_
    refine nw_iushr C (nI 0) dJ19_numberOfTrailingZeros_77 (by decide) 78 rfl ?_
    refine nw_iaddN C dJ19_numberOfTrailingZeros_78 79 rfl ?_
    exact nw_iret C dJ19_numberOfTrailingZeros_79 (Nat.le_refl _) (Nat.le_refl _) ⟨rfl, rfl⟩
set_option maxHeartbeats 4000000 in
theorem mJ19_bitCount (l : Launch) (hf : l.flags = flags0) (d : nwD) (xx : Int32) (H : Heap) (hB : nd_B d ≤ H.size)  : nwRd l d yJ19_bitCount cJ19_bitCount 1 (some .int) 1 20 [.int xx] H (some (.int (nw_bitc xx))) := by
  refine nw_rd "java/lang/Integer" "bitCount" hf (by decide +kernel) rfl rfl hB (Nat.le_of_ble_eq_true rfl) ?_
  intro X C
  show nwV X _ _ 1 H 0 0 0 [(0, .int xx)] []
  refine nw_iload_n C 0 dJ19_bitCount_0 rfl 1 rfl ?_
  refine nw_iload_n C 0 dJ19_bitCount_1 rfl 2 rfl ?_
  refine nw_iconst C (nI 1) dJ19_bitCount_2 (by decide) 3 rfl ?_
  refine nw_iushr C ((xx.toUInt32 >>> ((nI 1).toUInt32 &&& Int32.toUInt32 31)).toInt32) dJ19_bitCount_3 rfl 4 rfl ?_
  refine nw_ldcw C (v := nI 1431655765) q514 dJ19_bitCount_4 7 rfl ?_
  refine nw_iand C (((xx.toUInt32 >>> ((nI 1).toUInt32 &&& Int32.toUInt32 31)).toInt32) &&& (nI 1431655765)) dJ19_bitCount_7 rfl 8 rfl ?_
  refine nw_isub C _ dJ19_bitCount_8 rfl 9 rfl ?_
  refine nw_istore_n C [(0, .int (xx - (((xx.toUInt32 >>> ((nI 1).toUInt32 &&& Int32.toUInt32 31)).toInt32) &&& (nI 1431655765))))] dJ19_bitCount_9 (by decide) rfl 10 rfl ?_
  refine nw_iload_n C 0 dJ19_bitCount_10 rfl 11 rfl ?_
  refine nw_ldcw C (v := nI 858993459) q515 dJ19_bitCount_11 14 rfl ?_
  refine nw_iand C ((xx - (((xx.toUInt32 >>> ((nI 1).toUInt32 &&& Int32.toUInt32 31)).toInt32) &&& (nI 1431655765))) &&& (nI 858993459)) dJ19_bitCount_14 rfl 15 rfl ?_
  refine nw_iload_n C 0 dJ19_bitCount_15 rfl 16 rfl ?_
  refine nw_iconst C (nI 2) dJ19_bitCount_16 (by decide) 17 rfl ?_
  refine nw_iushr C (((xx - (((xx.toUInt32 >>> ((nI 1).toUInt32 &&& Int32.toUInt32 31)).toInt32) &&& (nI 1431655765))).toUInt32 >>> ((nI 2).toUInt32 &&& Int32.toUInt32 31)).toInt32) dJ19_bitCount_17 rfl 18 rfl ?_
  refine nw_ldcw C (v := nI 858993459) q515 dJ19_bitCount_18 21 rfl ?_
  refine nw_iand C ((((xx - (((xx.toUInt32 >>> ((nI 1).toUInt32 &&& Int32.toUInt32 31)).toInt32) &&& (nI 1431655765))).toUInt32 >>> ((nI 2).toUInt32 &&& Int32.toUInt32 31)).toInt32) &&& (nI 858993459)) dJ19_bitCount_21 rfl 22 rfl ?_
  refine nw_iadd C _ dJ19_bitCount_22 rfl 23 rfl ?_
  refine nw_istore_n C [(0, .int (((xx - (((xx.toUInt32 >>> ((nI 1).toUInt32 &&& Int32.toUInt32 31)).toInt32) &&& (nI 1431655765))) &&& (nI 858993459)) + ((((xx - (((xx.toUInt32 >>> ((nI 1).toUInt32 &&& Int32.toUInt32 31)).toInt32) &&& (nI 1431655765))).toUInt32 >>> ((nI 2).toUInt32 &&& Int32.toUInt32 31)).toInt32) &&& (nI 858993459))))] dJ19_bitCount_23 (by decide) rfl 24 rfl ?_
  refine nw_iload_n C 0 dJ19_bitCount_24 rfl 25 rfl ?_
  refine nw_iload_n C 0 dJ19_bitCount_25 rfl 26 rfl ?_
  refine nw_iconst C (nI 4) dJ19_bitCount_26 (by decide) 27 rfl ?_
  refine nw_iushr C (((((xx - (((xx.toUInt32 >>> ((nI 1).toUInt32 &&& Int32.toUInt32 31)).toInt32) &&& (nI 1431655765))) &&& (nI 858993459)) + ((((xx - (((xx.toUInt32 >>> ((nI 1).toUInt32 &&& Int32.toUInt32 31)).toInt32) &&& (nI 1431655765))).toUInt32 >>> ((nI 2).toUInt32 &&& Int32.toUInt32 31)).toInt32) &&& (nI 858993459))).toUInt32 >>> ((nI 4).toUInt32 &&& Int32.toUInt32 31)).toInt32) dJ19_bitCount_27 rfl 28 rfl ?_
  refine nw_iadd C _ dJ19_bitCount_28 rfl 29 rfl ?_
  refine nw_ldcw C (v := nI 252645135) q516 dJ19_bitCount_29 32 rfl ?_
  refine nw_iand C (((((xx - (((xx.toUInt32 >>> ((nI 1).toUInt32 &&& Int32.toUInt32 31)).toInt32) &&& (nI 1431655765))) &&& (nI 858993459)) + ((((xx - (((xx.toUInt32 >>> ((nI 1).toUInt32 &&& Int32.toUInt32 31)).toInt32) &&& (nI 1431655765))).toUInt32 >>> ((nI 2).toUInt32 &&& Int32.toUInt32 31)).toInt32) &&& (nI 858993459))) + (((((xx - (((xx.toUInt32 >>> ((nI 1).toUInt32 &&& Int32.toUInt32 31)).toInt32) &&& (nI 1431655765))) &&& (nI 858993459)) + ((((xx - (((xx.toUInt32 >>> ((nI 1).toUInt32 &&& Int32.toUInt32 31)).toInt32) &&& (nI 1431655765))).toUInt32 >>> ((nI 2).toUInt32 &&& Int32.toUInt32 31)).toInt32) &&& (nI 858993459))).toUInt32 >>> ((nI 4).toUInt32 &&& Int32.toUInt32 31)).toInt32)) &&& (nI 252645135)) dJ19_bitCount_32 rfl 33 rfl ?_
  refine nw_istore_n C [(0, .int (((((xx - (((xx.toUInt32 >>> ((nI 1).toUInt32 &&& Int32.toUInt32 31)).toInt32) &&& (nI 1431655765))) &&& (nI 858993459)) + ((((xx - (((xx.toUInt32 >>> ((nI 1).toUInt32 &&& Int32.toUInt32 31)).toInt32) &&& (nI 1431655765))).toUInt32 >>> ((nI 2).toUInt32 &&& Int32.toUInt32 31)).toInt32) &&& (nI 858993459))) + (((((xx - (((xx.toUInt32 >>> ((nI 1).toUInt32 &&& Int32.toUInt32 31)).toInt32) &&& (nI 1431655765))) &&& (nI 858993459)) + ((((xx - (((xx.toUInt32 >>> ((nI 1).toUInt32 &&& Int32.toUInt32 31)).toInt32) &&& (nI 1431655765))).toUInt32 >>> ((nI 2).toUInt32 &&& Int32.toUInt32 31)).toInt32) &&& (nI 858993459))).toUInt32 >>> ((nI 4).toUInt32 &&& Int32.toUInt32 31)).toInt32)) &&& (nI 252645135)))] dJ19_bitCount_33 (by decide) rfl 34 rfl ?_
  refine nw_iload_n C 0 dJ19_bitCount_34 rfl 35 rfl ?_
  refine nw_iload_n C 0 dJ19_bitCount_35 rfl 36 rfl ?_
  refine nw_bipush C (nI 8) dJ19_bitCount_36 (by decide) 38 rfl ?_
  refine nw_iushr C (((((((xx - (((xx.toUInt32 >>> ((nI 1).toUInt32 &&& Int32.toUInt32 31)).toInt32) &&& (nI 1431655765))) &&& (nI 858993459)) + ((((xx - (((xx.toUInt32 >>> ((nI 1).toUInt32 &&& Int32.toUInt32 31)).toInt32) &&& (nI 1431655765))).toUInt32 >>> ((nI 2).toUInt32 &&& Int32.toUInt32 31)).toInt32) &&& (nI 858993459))) + (((((xx - (((xx.toUInt32 >>> ((nI 1).toUInt32 &&& Int32.toUInt32 31)).toInt32) &&& (nI 1431655765))) &&& (nI 858993459)) + ((((xx - (((xx.toUInt32 >>> ((nI 1).toUInt32 &&& Int32.toUInt32 31)).toInt32) &&& (nI 1431655765))).toUInt32 >>> ((nI 2).toUInt32 &&& Int32.toUInt32 31)).toInt32) &&& (nI 858993459))).toUInt32 >>> ((nI 4).toUInt32 &&& Int32.toUInt32 31)).toInt32)) &&& (nI 252645135)).toUInt32 >>> ((nI 8).toUInt32 &&& Int32.toUInt32 31)).toInt32) dJ19_bitCount_38 rfl 39 rfl ?_
  refine nw_iadd C _ dJ19_bitCount_39 rfl 40 rfl ?_
  refine nw_istore_n C [(0, .int ((((((xx - (((xx.toUInt32 >>> ((nI 1).toUInt32 &&& Int32.toUInt32 31)).toInt32) &&& (nI 1431655765))) &&& (nI 858993459)) + ((((xx - (((xx.toUInt32 >>> ((nI 1).toUInt32 &&& Int32.toUInt32 31)).toInt32) &&& (nI 1431655765))).toUInt32 >>> ((nI 2).toUInt32 &&& Int32.toUInt32 31)).toInt32) &&& (nI 858993459))) + (((((xx - (((xx.toUInt32 >>> ((nI 1).toUInt32 &&& Int32.toUInt32 31)).toInt32) &&& (nI 1431655765))) &&& (nI 858993459)) + ((((xx - (((xx.toUInt32 >>> ((nI 1).toUInt32 &&& Int32.toUInt32 31)).toInt32) &&& (nI 1431655765))).toUInt32 >>> ((nI 2).toUInt32 &&& Int32.toUInt32 31)).toInt32) &&& (nI 858993459))).toUInt32 >>> ((nI 4).toUInt32 &&& Int32.toUInt32 31)).toInt32)) &&& (nI 252645135)) + (((((((xx - (((xx.toUInt32 >>> ((nI 1).toUInt32 &&& Int32.toUInt32 31)).toInt32) &&& (nI 1431655765))) &&& (nI 858993459)) + ((((xx - (((xx.toUInt32 >>> ((nI 1).toUInt32 &&& Int32.toUInt32 31)).toInt32) &&& (nI 1431655765))).toUInt32 >>> ((nI 2).toUInt32 &&& Int32.toUInt32 31)).toInt32) &&& (nI 858993459))) + (((((xx - (((xx.toUInt32 >>> ((nI 1).toUInt32 &&& Int32.toUInt32 31)).toInt32) &&& (nI 1431655765))) &&& (nI 858993459)) + ((((xx - (((xx.toUInt32 >>> ((nI 1).toUInt32 &&& Int32.toUInt32 31)).toInt32) &&& (nI 1431655765))).toUInt32 >>> ((nI 2).toUInt32 &&& Int32.toUInt32 31)).toInt32) &&& (nI 858993459))).toUInt32 >>> ((nI 4).toUInt32 &&& Int32.toUInt32 31)).toInt32)) &&& (nI 252645135)).toUInt32 >>> ((nI 8).toUInt32 &&& Int32.toUInt32 31)).toInt32)))] dJ19_bitCount_40 (by decide) rfl 41 rfl ?_
  refine nw_iload_n C 0 dJ19_bitCount_41 rfl 42 rfl ?_
  refine nw_iload_n C 0 dJ19_bitCount_42 rfl 43 rfl ?_
  refine nw_bipush C (nI 16) dJ19_bitCount_43 (by decide) 45 rfl ?_
  refine nw_iushr C ((((((((xx - (((xx.toUInt32 >>> ((nI 1).toUInt32 &&& Int32.toUInt32 31)).toInt32) &&& (nI 1431655765))) &&& (nI 858993459)) + ((((xx - (((xx.toUInt32 >>> ((nI 1).toUInt32 &&& Int32.toUInt32 31)).toInt32) &&& (nI 1431655765))).toUInt32 >>> ((nI 2).toUInt32 &&& Int32.toUInt32 31)).toInt32) &&& (nI 858993459))) + (((((xx - (((xx.toUInt32 >>> ((nI 1).toUInt32 &&& Int32.toUInt32 31)).toInt32) &&& (nI 1431655765))) &&& (nI 858993459)) + ((((xx - (((xx.toUInt32 >>> ((nI 1).toUInt32 &&& Int32.toUInt32 31)).toInt32) &&& (nI 1431655765))).toUInt32 >>> ((nI 2).toUInt32 &&& Int32.toUInt32 31)).toInt32) &&& (nI 858993459))).toUInt32 >>> ((nI 4).toUInt32 &&& Int32.toUInt32 31)).toInt32)) &&& (nI 252645135)) + (((((((xx - (((xx.toUInt32 >>> ((nI 1).toUInt32 &&& Int32.toUInt32 31)).toInt32) &&& (nI 1431655765))) &&& (nI 858993459)) + ((((xx - (((xx.toUInt32 >>> ((nI 1).toUInt32 &&& Int32.toUInt32 31)).toInt32) &&& (nI 1431655765))).toUInt32 >>> ((nI 2).toUInt32 &&& Int32.toUInt32 31)).toInt32) &&& (nI 858993459))) + (((((xx - (((xx.toUInt32 >>> ((nI 1).toUInt32 &&& Int32.toUInt32 31)).toInt32) &&& (nI 1431655765))) &&& (nI 858993459)) + ((((xx - (((xx.toUInt32 >>> ((nI 1).toUInt32 &&& Int32.toUInt32 31)).toInt32) &&& (nI 1431655765))).toUInt32 >>> ((nI 2).toUInt32 &&& Int32.toUInt32 31)).toInt32) &&& (nI 858993459))).toUInt32 >>> ((nI 4).toUInt32 &&& Int32.toUInt32 31)).toInt32)) &&& (nI 252645135)).toUInt32 >>> ((nI 8).toUInt32 &&& Int32.toUInt32 31)).toInt32)).toUInt32 >>> ((nI 16).toUInt32 &&& Int32.toUInt32 31)).toInt32) dJ19_bitCount_45 rfl 46 rfl ?_
  refine nw_iadd C _ dJ19_bitCount_46 rfl 47 rfl ?_
  refine nw_istore_n C [(0, .int (((((((xx - (((xx.toUInt32 >>> ((nI 1).toUInt32 &&& Int32.toUInt32 31)).toInt32) &&& (nI 1431655765))) &&& (nI 858993459)) + ((((xx - (((xx.toUInt32 >>> ((nI 1).toUInt32 &&& Int32.toUInt32 31)).toInt32) &&& (nI 1431655765))).toUInt32 >>> ((nI 2).toUInt32 &&& Int32.toUInt32 31)).toInt32) &&& (nI 858993459))) + (((((xx - (((xx.toUInt32 >>> ((nI 1).toUInt32 &&& Int32.toUInt32 31)).toInt32) &&& (nI 1431655765))) &&& (nI 858993459)) + ((((xx - (((xx.toUInt32 >>> ((nI 1).toUInt32 &&& Int32.toUInt32 31)).toInt32) &&& (nI 1431655765))).toUInt32 >>> ((nI 2).toUInt32 &&& Int32.toUInt32 31)).toInt32) &&& (nI 858993459))).toUInt32 >>> ((nI 4).toUInt32 &&& Int32.toUInt32 31)).toInt32)) &&& (nI 252645135)) + (((((((xx - (((xx.toUInt32 >>> ((nI 1).toUInt32 &&& Int32.toUInt32 31)).toInt32) &&& (nI 1431655765))) &&& (nI 858993459)) + ((((xx - (((xx.toUInt32 >>> ((nI 1).toUInt32 &&& Int32.toUInt32 31)).toInt32) &&& (nI 1431655765))).toUInt32 >>> ((nI 2).toUInt32 &&& Int32.toUInt32 31)).toInt32) &&& (nI 858993459))) + (((((xx - (((xx.toUInt32 >>> ((nI 1).toUInt32 &&& Int32.toUInt32 31)).toInt32) &&& (nI 1431655765))) &&& (nI 858993459)) + ((((xx - (((xx.toUInt32 >>> ((nI 1).toUInt32 &&& Int32.toUInt32 31)).toInt32) &&& (nI 1431655765))).toUInt32 >>> ((nI 2).toUInt32 &&& Int32.toUInt32 31)).toInt32) &&& (nI 858993459))).toUInt32 >>> ((nI 4).toUInt32 &&& Int32.toUInt32 31)).toInt32)) &&& (nI 252645135)).toUInt32 >>> ((nI 8).toUInt32 &&& Int32.toUInt32 31)).toInt32)) + ((((((((xx - (((xx.toUInt32 >>> ((nI 1).toUInt32 &&& Int32.toUInt32 31)).toInt32) &&& (nI 1431655765))) &&& (nI 858993459)) + ((((xx - (((xx.toUInt32 >>> ((nI 1).toUInt32 &&& Int32.toUInt32 31)).toInt32) &&& (nI 1431655765))).toUInt32 >>> ((nI 2).toUInt32 &&& Int32.toUInt32 31)).toInt32) &&& (nI 858993459))) + (((((xx - (((xx.toUInt32 >>> ((nI 1).toUInt32 &&& Int32.toUInt32 31)).toInt32) &&& (nI 1431655765))) &&& (nI 858993459)) + ((((xx - (((xx.toUInt32 >>> ((nI 1).toUInt32 &&& Int32.toUInt32 31)).toInt32) &&& (nI 1431655765))).toUInt32 >>> ((nI 2).toUInt32 &&& Int32.toUInt32 31)).toInt32) &&& (nI 858993459))).toUInt32 >>> ((nI 4).toUInt32 &&& Int32.toUInt32 31)).toInt32)) &&& (nI 252645135)) + (((((((xx - (((xx.toUInt32 >>> ((nI 1).toUInt32 &&& Int32.toUInt32 31)).toInt32) &&& (nI 1431655765))) &&& (nI 858993459)) + ((((xx - (((xx.toUInt32 >>> ((nI 1).toUInt32 &&& Int32.toUInt32 31)).toInt32) &&& (nI 1431655765))).toUInt32 >>> ((nI 2).toUInt32 &&& Int32.toUInt32 31)).toInt32) &&& (nI 858993459))) + (((((xx - (((xx.toUInt32 >>> ((nI 1).toUInt32 &&& Int32.toUInt32 31)).toInt32) &&& (nI 1431655765))) &&& (nI 858993459)) + ((((xx - (((xx.toUInt32 >>> ((nI 1).toUInt32 &&& Int32.toUInt32 31)).toInt32) &&& (nI 1431655765))).toUInt32 >>> ((nI 2).toUInt32 &&& Int32.toUInt32 31)).toInt32) &&& (nI 858993459))).toUInt32 >>> ((nI 4).toUInt32 &&& Int32.toUInt32 31)).toInt32)) &&& (nI 252645135)).toUInt32 >>> ((nI 8).toUInt32 &&& Int32.toUInt32 31)).toInt32)).toUInt32 >>> ((nI 16).toUInt32 &&& Int32.toUInt32 31)).toInt32)))] dJ19_bitCount_47 (by decide) rfl 48 rfl ?_
  refine nw_iload_n C 0 dJ19_bitCount_48 rfl 49 rfl ?_
  refine nw_bipush C (nI 63) dJ19_bitCount_49 (by decide) 51 rfl ?_
  refine nw_iand C ((((((((xx - (((xx.toUInt32 >>> ((nI 1).toUInt32 &&& Int32.toUInt32 31)).toInt32) &&& (nI 1431655765))) &&& (nI 858993459)) + ((((xx - (((xx.toUInt32 >>> ((nI 1).toUInt32 &&& Int32.toUInt32 31)).toInt32) &&& (nI 1431655765))).toUInt32 >>> ((nI 2).toUInt32 &&& Int32.toUInt32 31)).toInt32) &&& (nI 858993459))) + (((((xx - (((xx.toUInt32 >>> ((nI 1).toUInt32 &&& Int32.toUInt32 31)).toInt32) &&& (nI 1431655765))) &&& (nI 858993459)) + ((((xx - (((xx.toUInt32 >>> ((nI 1).toUInt32 &&& Int32.toUInt32 31)).toInt32) &&& (nI 1431655765))).toUInt32 >>> ((nI 2).toUInt32 &&& Int32.toUInt32 31)).toInt32) &&& (nI 858993459))).toUInt32 >>> ((nI 4).toUInt32 &&& Int32.toUInt32 31)).toInt32)) &&& (nI 252645135)) + (((((((xx - (((xx.toUInt32 >>> ((nI 1).toUInt32 &&& Int32.toUInt32 31)).toInt32) &&& (nI 1431655765))) &&& (nI 858993459)) + ((((xx - (((xx.toUInt32 >>> ((nI 1).toUInt32 &&& Int32.toUInt32 31)).toInt32) &&& (nI 1431655765))).toUInt32 >>> ((nI 2).toUInt32 &&& Int32.toUInt32 31)).toInt32) &&& (nI 858993459))) + (((((xx - (((xx.toUInt32 >>> ((nI 1).toUInt32 &&& Int32.toUInt32 31)).toInt32) &&& (nI 1431655765))) &&& (nI 858993459)) + ((((xx - (((xx.toUInt32 >>> ((nI 1).toUInt32 &&& Int32.toUInt32 31)).toInt32) &&& (nI 1431655765))).toUInt32 >>> ((nI 2).toUInt32 &&& Int32.toUInt32 31)).toInt32) &&& (nI 858993459))).toUInt32 >>> ((nI 4).toUInt32 &&& Int32.toUInt32 31)).toInt32)) &&& (nI 252645135)).toUInt32 >>> ((nI 8).toUInt32 &&& Int32.toUInt32 31)).toInt32)) + ((((((((xx - (((xx.toUInt32 >>> ((nI 1).toUInt32 &&& Int32.toUInt32 31)).toInt32) &&& (nI 1431655765))) &&& (nI 858993459)) + ((((xx - (((xx.toUInt32 >>> ((nI 1).toUInt32 &&& Int32.toUInt32 31)).toInt32) &&& (nI 1431655765))).toUInt32 >>> ((nI 2).toUInt32 &&& Int32.toUInt32 31)).toInt32) &&& (nI 858993459))) + (((((xx - (((xx.toUInt32 >>> ((nI 1).toUInt32 &&& Int32.toUInt32 31)).toInt32) &&& (nI 1431655765))) &&& (nI 858993459)) + ((((xx - (((xx.toUInt32 >>> ((nI 1).toUInt32 &&& Int32.toUInt32 31)).toInt32) &&& (nI 1431655765))).toUInt32 >>> ((nI 2).toUInt32 &&& Int32.toUInt32 31)).toInt32) &&& (nI 858993459))).toUInt32 >>> ((nI 4).toUInt32 &&& Int32.toUInt32 31)).toInt32)) &&& (nI 252645135)) + (((((((xx - (((xx.toUInt32 >>> ((nI 1).toUInt32 &&& Int32.toUInt32 31)).toInt32) &&& (nI 1431655765))) &&& (nI 858993459)) + ((((xx - (((xx.toUInt32 >>> ((nI 1).toUInt32 &&& Int32.toUInt32 31)).toInt32) &&& (nI 1431655765))).toUInt32 >>> ((nI 2).toUInt32 &&& Int32.toUInt32 31)).toInt32) &&& (nI 858993459))) + (((((xx - (((xx.toUInt32 >>> ((nI 1).toUInt32 &&& Int32.toUInt32 31)).toInt32) &&& (nI 1431655765))) &&& (nI 858993459)) + ((((xx - (((xx.toUInt32 >>> ((nI 1).toUInt32 &&& Int32.toUInt32 31)).toInt32) &&& (nI 1431655765))).toUInt32 >>> ((nI 2).toUInt32 &&& Int32.toUInt32 31)).toInt32) &&& (nI 858993459))).toUInt32 >>> ((nI 4).toUInt32 &&& Int32.toUInt32 31)).toInt32)) &&& (nI 252645135)).toUInt32 >>> ((nI 8).toUInt32 &&& Int32.toUInt32 31)).toInt32)).toUInt32 >>> ((nI 16).toUInt32 &&& Int32.toUInt32 31)).toInt32)) &&& (nI 63)) dJ19_bitCount_51 rfl 52 rfl ?_
  exact nw_iret C dJ19_bitCount_52 (Nat.le_refl _) (Nat.le_refl _) ⟨congrArg (fun z => some (Value.int z)) (show ((((((((xx - (((xx.toUInt32 >>> ((nI 1).toUInt32 &&& Int32.toUInt32 31)).toInt32) &&& (nI 1431655765))) &&& (nI 858993459)) + ((((xx - (((xx.toUInt32 >>> ((nI 1).toUInt32 &&& Int32.toUInt32 31)).toInt32) &&& (nI 1431655765))).toUInt32 >>> ((nI 2).toUInt32 &&& Int32.toUInt32 31)).toInt32) &&& (nI 858993459))) + (((((xx - (((xx.toUInt32 >>> ((nI 1).toUInt32 &&& Int32.toUInt32 31)).toInt32) &&& (nI 1431655765))) &&& (nI 858993459)) + ((((xx - (((xx.toUInt32 >>> ((nI 1).toUInt32 &&& Int32.toUInt32 31)).toInt32) &&& (nI 1431655765))).toUInt32 >>> ((nI 2).toUInt32 &&& Int32.toUInt32 31)).toInt32) &&& (nI 858993459))).toUInt32 >>> ((nI 4).toUInt32 &&& Int32.toUInt32 31)).toInt32)) &&& (nI 252645135)) + (((((((xx - (((xx.toUInt32 >>> ((nI 1).toUInt32 &&& Int32.toUInt32 31)).toInt32) &&& (nI 1431655765))) &&& (nI 858993459)) + ((((xx - (((xx.toUInt32 >>> ((nI 1).toUInt32 &&& Int32.toUInt32 31)).toInt32) &&& (nI 1431655765))).toUInt32 >>> ((nI 2).toUInt32 &&& Int32.toUInt32 31)).toInt32) &&& (nI 858993459))) + (((((xx - (((xx.toUInt32 >>> ((nI 1).toUInt32 &&& Int32.toUInt32 31)).toInt32) &&& (nI 1431655765))) &&& (nI 858993459)) + ((((xx - (((xx.toUInt32 >>> ((nI 1).toUInt32 &&& Int32.toUInt32 31)).toInt32) &&& (nI 1431655765))).toUInt32 >>> ((nI 2).toUInt32 &&& Int32.toUInt32 31)).toInt32) &&& (nI 858993459))).toUInt32 >>> ((nI 4).toUInt32 &&& Int32.toUInt32 31)).toInt32)) &&& (nI 252645135)).toUInt32 >>> ((nI 8).toUInt32 &&& Int32.toUInt32 31)).toInt32)) + ((((((((xx - (((xx.toUInt32 >>> ((nI 1).toUInt32 &&& Int32.toUInt32 31)).toInt32) &&& (nI 1431655765))) &&& (nI 858993459)) + ((((xx - (((xx.toUInt32 >>> ((nI 1).toUInt32 &&& Int32.toUInt32 31)).toInt32) &&& (nI 1431655765))).toUInt32 >>> ((nI 2).toUInt32 &&& Int32.toUInt32 31)).toInt32) &&& (nI 858993459))) + (((((xx - (((xx.toUInt32 >>> ((nI 1).toUInt32 &&& Int32.toUInt32 31)).toInt32) &&& (nI 1431655765))) &&& (nI 858993459)) + ((((xx - (((xx.toUInt32 >>> ((nI 1).toUInt32 &&& Int32.toUInt32 31)).toInt32) &&& (nI 1431655765))).toUInt32 >>> ((nI 2).toUInt32 &&& Int32.toUInt32 31)).toInt32) &&& (nI 858993459))).toUInt32 >>> ((nI 4).toUInt32 &&& Int32.toUInt32 31)).toInt32)) &&& (nI 252645135)) + (((((((xx - (((xx.toUInt32 >>> ((nI 1).toUInt32 &&& Int32.toUInt32 31)).toInt32) &&& (nI 1431655765))) &&& (nI 858993459)) + ((((xx - (((xx.toUInt32 >>> ((nI 1).toUInt32 &&& Int32.toUInt32 31)).toInt32) &&& (nI 1431655765))).toUInt32 >>> ((nI 2).toUInt32 &&& Int32.toUInt32 31)).toInt32) &&& (nI 858993459))) + (((((xx - (((xx.toUInt32 >>> ((nI 1).toUInt32 &&& Int32.toUInt32 31)).toInt32) &&& (nI 1431655765))) &&& (nI 858993459)) + ((((xx - (((xx.toUInt32 >>> ((nI 1).toUInt32 &&& Int32.toUInt32 31)).toInt32) &&& (nI 1431655765))).toUInt32 >>> ((nI 2).toUInt32 &&& Int32.toUInt32 31)).toInt32) &&& (nI 858993459))).toUInt32 >>> ((nI 4).toUInt32 &&& Int32.toUInt32 31)).toInt32)) &&& (nI 252645135)).toUInt32 >>> ((nI 8).toUInt32 &&& Int32.toUInt32 31)).toInt32)).toUInt32 >>> ((nI 16).toUInt32 &&& Int32.toUInt32 31)).toInt32)) &&& (nI 63)) = (nw_bitc xx) from rfl), rfl⟩
set_option maxHeartbeats 4000000 in
theorem mX12_place (l : Launch) (hf : l.flags = flags0) (d : nwD) (g wl : Nat) (P : Nat → Prop) (i : spI1) (gr : spGr) (t : Nat) (H : Heap) (hB : nd_B d ≤ H.size) (hg : nwIn d g wl P i H) (hk : okI1 gr i) (hn : gr_n gr ≤ 64) (ht : t < 2 ^ 31) : nwRd l d yX12_place cX12_place 2 (some .int) 4 84 [.ref g, .int (nI t)] H (some (.int (oI (sp_where i t)))) := by
  refine nw_rd "NightwatchWall$Intruder" "place" hf (by decide +kernel) rfl rfl hB (Nat.le_of_ble_eq_true rfl) ?_
  intro X C
  obtain ⟨⟨hia, him1, him2, hiv, his, hil⟩, hcs⟩ := id hk
  obtain ⟨hgo, hgl⟩ := id hg
  show nwV X _ _ 2 H 0 0 0 [(0, .ref g), (1, .int (nI t))] []
  refine nw_iload_n C 1 dX12_place_0 rfl 1 rfl ?_
  refine nw_aload_n C 0 dX12_place_1 rfl 2 rfl ?_
  refine nw_get C hgo (T := TX12) rfl in_X12 0 (by decide) q1195 (Or.inl rfl) rfl dX12_place_2 5 rfl ?_
  refine nw_icmpgeN C (by omega) 12 dX12_place_5 (by decide) 8 rfl (fun h1 => ?_) (fun h1 => ?_)
  · refine nw_aload_n C 0 dX12_place_12 rfl 13 rfl ?_
    refine nw_get C hgo (T := TX12) rfl in_X12 1 (by decide) q1197 (Or.inl rfl) rfl dX12_place_13 16 rfl ?_
    refine nw_iload_n C 1 dX12_place_16 rfl 17 rfl ?_
    refine nw_aload_n C 0 dX12_place_17 rfl 18 rfl ?_
    refine nw_get C hgo (T := TX12) rfl in_X12 0 (by decide) q1195 (Or.inl rfl) rfl dX12_place_18 21 rfl ?_
    refine nw_isubN C (by omega) dX12_place_21 22 rfl ?_
    refine nw_aload_n C 0 dX12_place_22 rfl 23 rfl ?_
    refine nw_get C hgo (T := TX12) rfl in_X12 1 (by decide) q1197 (Or.inl rfl) rfl dX12_place_23 26 rfl ?_
    refine nw_callV C (mJ3_size _ C.hfl d wl (in_m i) (fun j => nd_bx d (in_w i j)) P H hB hgl) kJ3_size q387 (hgl.is C) (As := []) (rest := [.int (nI (t - (in_a i))), .ref wl]) rfl rfl ⟨⟨Nat.le_of_ble_eq_true rfl, Nat.le_of_ble_eq_true rfl⟩, Nat.le_of_ble_eq_true rfl, Nat.le_of_ble_eq_true rfl⟩ (Nat.le_of_ble_eq_true rfl) (fun _ h8 h9 => absurd h9 (Nat.not_le.mpr h8)) dX12_place_26 29 rfl (nw_rdK ?_) nw_noX
    refine nw_iconst C (nI 1) dX12_place_29 (by decide) 30 rfl ?_
    refine nw_isubN C (by omega) dX12_place_30 31 rfl ?_
    refine nw_mmin C (nI (min (t - (in_a i)) ((in_m i) - 1))) q388 q389 q108 q390 (nw_minN (by omega)) ⟨Nat.le_of_ble_eq_true rfl, Nat.le_of_ble_eq_true rfl, Nat.le_of_ble_eq_true rfl, Nat.le_of_ble_eq_true rfl⟩ (Nat.le_of_ble_eq_true rfl) dX12_place_31 34 rfl ?_
    refine nw_callV C (mJ3_get _ C.hfl d wl (in_m i) (fun j => nd_bx d (in_w i j)) P (min (t - (in_a i)) ((in_m i) - 1)) H hB hgl (by omega)) kJ3_get q391 (hgl.is C) (As := [.int (nI (min (t - (in_a i)) ((in_m i) - 1)))]) (rest := []) rfl rfl ⟨⟨Nat.le_of_ble_eq_true rfl, Nat.le_of_ble_eq_true rfl⟩, Nat.le_of_ble_eq_true rfl, Nat.le_of_ble_eq_true rfl⟩ (Nat.le_of_ble_eq_true rfl) (fun _ h8 h9 => absurd h9 (Nat.not_le.mpr h8)) dX12_place_34 37 rfl (nw_rdK ?_) nw_noX
    have hb2 : in_w i (min (t - (in_a i)) ((in_m i) - 1)) < 128 := (by have := hcs (min (t - (in_a i)) ((in_m i) - 1)) (by omega); omega)
    refine nw_cast C (ci := 16) rfl (C.E0.boxIs hb2) q392 dX12_place_37 40 rfl ?_
    refine nw_callV C (mJ19_intValue _ C.hfl d (in_w i (min (t - (in_a i)) ((in_m i) - 1))) H hB (by omega)) kJ19_intValue q393 (C.E0.boxIs (by omega)) (As := []) (rest := []) rfl rfl ⟨⟨Nat.le_of_ble_eq_true rfl, Nat.le_of_ble_eq_true rfl⟩, Nat.le_of_ble_eq_true rfl, Nat.le_of_ble_eq_true rfl⟩ (Nat.le_of_ble_eq_true rfl) (fun _ h8 h9 => absurd h9 (Nat.not_le.mpr h8)) dX12_place_40 43 rfl (nw_rdK ?_) nw_noX
    exact nw_iret C dX12_place_43 (Nat.le_refl _) (Nat.le_refl _) ⟨congrArg (fun z => some (Value.int (oI z))) (show (some (in_w i (min (t - (in_a i)) ((in_m i) - 1)))) = (sp_where i t) from (by unfold sp_where; rw [if_neg (by omega)])), rfl⟩
  · refine nw_iconst C (oI none) dX12_place_8 (by decide) 9 rfl ?_
    refine nw_goto C 43 dX12_place_9 (by decide) ?_
    exact nw_iret C dX12_place_43 (Nat.le_refl _) (Nat.le_refl _) ⟨congrArg (fun z => some (Value.int (oI z))) (show (none) = (sp_where i t) from (by unfold sp_where; simp [h1])), rfl⟩
theorem mX12_placeN (l : Launch) (hf : l.flags = flags0) (d : nwD) (g wl : Nat) (P : Nat → Prop) (i : spI1) (gr : spGr) (t : Nat) (H : Heap) (hB : nd_B d ≤ H.size) (hg : nwIn d g wl P i H) (hk : okI1 gr i) (hn : gr_n gr ≤ 64) (ht : t < 2 ^ 31) (h0 : in_a i ≤ t) : nwRd l d yX12_place cX12_place 2 (some .int) 4 84 [.ref g, .int (nI t)] H (some (.int (nI (sp_at i t)))) := by
  have h := mX12_place l hf d g wl P i gr t H hB hg hk hn ht
  rw [sp_where_at h0] at h
  exact h
set_option maxHeartbeats 4000000 in
theorem mX12_end (l : Launch) (hf : l.flags = flags0) (d : nwD) (g wl : Nat) (P : Nat → Prop) (i : spI1) (gr : spGr)  (H : Heap) (hB : nd_B d ≤ H.size) (hg : nwIn d g wl P i H) (hk : okI1 gr i) (hn : gr_n gr ≤ 64)  : nwRd l d yX12_end cX12_end 1 (some .int) 4 84 [.ref g] H (some (.int (nI (sp_at i 239)))) := by
  refine nw_rd "NightwatchWall$Intruder" "end" hf (by decide +kernel) rfl rfl hB (Nat.le_of_ble_eq_true rfl) ?_
  intro X C
  obtain ⟨⟨hia, him1, him2, hiv, his, hil⟩, hcs⟩ := id hk
  obtain ⟨hgo, hgl⟩ := id hg
  show nwV X _ _ 1 H 0 0 0 [(0, .ref g)] []
  refine nw_aload_n C 0 dX12_end_0 rfl 1 rfl ?_
  refine nw_get C hgo (T := TX12) rfl in_X12 1 (by decide) q1197 (Or.inl rfl) rfl dX12_end_1 4 rfl ?_
  refine nw_sipush C (nI 239) dX12_end_4 (by decide) 7 rfl ?_
  refine nw_aload_n C 0 dX12_end_7 rfl 8 rfl ?_
  refine nw_get C hgo (T := TX12) rfl in_X12 0 (by decide) q1195 (Or.inl rfl) rfl dX12_end_8 11 rfl ?_
  refine nw_isubN C (by omega) dX12_end_11 12 rfl ?_
  refine nw_aload_n C 0 dX12_end_12 rfl 13 rfl ?_
  refine nw_get C hgo (T := TX12) rfl in_X12 1 (by decide) q1197 (Or.inl rfl) rfl dX12_end_13 16 rfl ?_
  refine nw_callV C (mJ3_size _ C.hfl d wl (in_m i) (fun j => nd_bx d (in_w i j)) P H hB hgl) kJ3_size q387 (hgl.is C) (As := []) (rest := [.int (nI (239 - (in_a i))), .ref wl]) rfl rfl ⟨⟨Nat.le_of_ble_eq_true rfl, Nat.le_of_ble_eq_true rfl⟩, Nat.le_of_ble_eq_true rfl, Nat.le_of_ble_eq_true rfl⟩ (Nat.le_of_ble_eq_true rfl) (fun _ h8 h9 => absurd h9 (Nat.not_le.mpr h8)) dX12_end_16 19 rfl (nw_rdK ?_) nw_noX
  refine nw_iconst C (nI 1) dX12_end_19 (by decide) 20 rfl ?_
  refine nw_isubN C (by omega) dX12_end_20 21 rfl ?_
  refine nw_mmin C (nI (min (239 - (in_a i)) ((in_m i) - 1))) q388 q389 q108 q390 (nw_minN (by omega)) ⟨Nat.le_of_ble_eq_true rfl, Nat.le_of_ble_eq_true rfl, Nat.le_of_ble_eq_true rfl, Nat.le_of_ble_eq_true rfl⟩ (Nat.le_of_ble_eq_true rfl) dX12_end_21 24 rfl ?_
  refine nw_callV C (mJ3_get _ C.hfl d wl (in_m i) (fun j => nd_bx d (in_w i j)) P (min (239 - (in_a i)) ((in_m i) - 1)) H hB hgl (by omega)) kJ3_get q391 (hgl.is C) (As := [.int (nI (min (239 - (in_a i)) ((in_m i) - 1)))]) (rest := []) rfl rfl ⟨⟨Nat.le_of_ble_eq_true rfl, Nat.le_of_ble_eq_true rfl⟩, Nat.le_of_ble_eq_true rfl, Nat.le_of_ble_eq_true rfl⟩ (Nat.le_of_ble_eq_true rfl) (fun _ h8 h9 => absurd h9 (Nat.not_le.mpr h8)) dX12_end_24 27 rfl (nw_rdK ?_) nw_noX
  have hb1 : in_w i (min (239 - (in_a i)) ((in_m i) - 1)) < 128 := (by have := hcs (min (239 - (in_a i)) ((in_m i) - 1)) (by omega); omega)
  refine nw_cast C (ci := 16) rfl (C.E0.boxIs hb1) q392 dX12_end_27 30 rfl ?_
  refine nw_callV C (mJ19_intValue _ C.hfl d (in_w i (min (239 - (in_a i)) ((in_m i) - 1))) H hB (by omega)) kJ19_intValue q393 (C.E0.boxIs (by omega)) (As := []) (rest := []) rfl rfl ⟨⟨Nat.le_of_ble_eq_true rfl, Nat.le_of_ble_eq_true rfl⟩, Nat.le_of_ble_eq_true rfl, Nat.le_of_ble_eq_true rfl⟩ (Nat.le_of_ble_eq_true rfl) (fun _ h8 h9 => absurd h9 (Nat.not_le.mpr h8)) dX12_end_30 33 rfl (nw_rdK ?_) nw_noX
  exact nw_iret C dX12_end_33 (Nat.le_refl _) (Nat.le_refl _) ⟨congrArg (fun z => some (Value.int (nI z))) (show (in_w i (min (239 - (in_a i)) ((in_m i) - 1))) = (sp_at i 239) from rfl), rfl⟩
set_option maxHeartbeats 4000000 in
theorem mX12_walksOn (l : Launch) (hf : l.flags = flags0) (d : nwD) (g wl : Nat) (P : Nat → Prop) (i : spI1) (gr : spGr) (c : Nat) (H : Heap) (hB : nd_B d ≤ H.size) (hg : nwIn d g wl P i H) (hk : okI1 gr i) (hn : gr_n gr ≤ 64) (hc : c < 2 ^ 31) : nwRd l d yX12_walksOn cX12_walksOn 3 (some .boolean) 5 105 [.ref g, .int (nI c)] H (some (.int (b2i (sp_walks i c)))) := by
  refine nw_rd "NightwatchWall$Intruder" "walksOn" hf (by decide +kernel) rfl rfl hB (Nat.le_of_ble_eq_true rfl) ?_
  intro X C
  obtain ⟨⟨hia, him1, him2, hiv, his, hil⟩, hcs⟩ := id hk
  obtain ⟨hgo, hgl⟩ := id hg
  show nwV X _ _ 3 H 0 0 0 [(0, .ref g), (1, .int (nI c))] []
  refine nw_aload_n C 0 dX12_walksOn_0 rfl 1 rfl ?_
  refine nw_get C hgo (T := TX12) rfl in_X12 0 (by decide) q1195 (Or.inl rfl) rfl dX12_walksOn_1 4 rfl ?_
  refine nw_istore_n C [(2, .int (nI (in_a i))), (0, .ref g), (1, .int (nI c))] dX12_walksOn_4 (by decide) rfl 5 rfl ?_
  have lp1 : ∀ (fu : Nat) (m : Nat), (in_a i ≤ m) → (m ≤ 240) → (∀ k, k < m → (decide (in_a i ≤ k) && (sp_at i k == c)) = false) → 240 - m < fu → nwV X (nwNew H) (nwQE X (fun v H1 => v = some (.int (b2i (sp_walks i c))) ∧ H1 = H) nwNo (nwNew H) 0 0) 3 H 0 0 5 [(0, .ref g), (1, .int (nI c)), (2, .int (nI m))] [] := by
    intro fu
    induction fu with
    | zero => intro m _ _ _ hm; exact absurd hm (Nat.not_lt_zero _)
    | succ fu ih_lp1 =>
      intro m h1 hi hno hm
      refine nw_iload_n C 2 dX12_walksOn_5 rfl 6 rfl ?_
      refine nw_sipush C (nI 240) dX12_walksOn_6 (by decide) 9 rfl ?_
      refine nw_icmpgeN C (by omega) 29 dX12_walksOn_9 (by decide) 12 rfl (fun h2 => ?_) (fun h2 => ?_)
      · refine nw_iconst C (nI 0) dX12_walksOn_29 (by decide) 30 rfl ?_
        exact nw_nret C dX12_walksOn_30 (b2i_narrow false) (Nat.le_refl _) (Nat.le_refl _) ⟨congrArg (fun z => some (Value.int (b2i z))) (show (false) = (sp_walks i c) from (sp_any_false.mpr (fun k hk => hno k (by omega))).symm), rfl⟩
      · have hat := hk.at m
        refine nw_aload_n C 0 dX12_walksOn_12 rfl 13 rfl ?_
        refine nw_iload_n C 2 dX12_walksOn_13 rfl 14 rfl ?_
        refine nw_callV C (mX12_placeN _ C.hfl d g wl P i gr m H hB hg hk hn (by omega) (by omega)) kX12_place q383 (hgo.is C (ci := 7) rfl) (As := [.int (nI m)]) (rest := []) rfl rfl ⟨⟨Nat.le_of_ble_eq_true rfl, Nat.le_of_ble_eq_true rfl⟩, Nat.le_of_ble_eq_true rfl, Nat.le_of_ble_eq_true rfl⟩ (Nat.le_of_ble_eq_true rfl) (fun _ h8 h9 => absurd h9 (Nat.not_le.mpr h8)) dX12_walksOn_14 17 rfl (nw_rdK ?_) nw_noX
        refine nw_iload_n C 1 dX12_walksOn_17 rfl 18 rfl ?_
        refine nw_icmpneN C (by omega) 23 dX12_walksOn_18 (by decide) 21 rfl (fun h3 => ?_) (fun h3 => ?_)
        · refine nw_iincN C 2 (c0 := 1) [(2, .int (nI (m + 1))), (0, .ref g), (1, .int (nI c))] dX12_walksOn_23 rfl (by decide) rfl 26 rfl ?_
          refine nw_goto C 5 dX12_walksOn_26 (by decide) ?_
          exact (nw_sub [1, 2, 0] rfl (ih_lp1 (m + 1) (by omega) (by omega) (fun k hk => (Nat.lt_or_ge k m).elim (fun g5 => hno k g5) (fun g5 => by rw [show k = m by omega]; simp [h3])) (by omega)))
        · refine nw_iconst C (nI 1) dX12_walksOn_21 (by decide) 22 rfl ?_
          exact nw_nret C dX12_walksOn_22 (b2i_narrow true) (Nat.le_refl _) (Nat.le_refl _) ⟨congrArg (fun z => some (Value.int (b2i z))) (show (true) = (sp_walks i c) from (sp_any_iff.mpr ⟨m, by omega, by simp [h3]; omega⟩).symm), rfl⟩
  exact (nw_sub [1, 2, 0] rfl (lp1 _ (in_a i) (Nat.le_refl _) (by omega) (fun k hk => by simp; omega) (Nat.lt_succ_self _)))
set_option maxHeartbeats 4000000 in
theorem mX1_found (l : Launch) (hf : l.flags = flags0) (d : nwD) (ro ad : Nat → Nat) (x : Nat) (σ : spSg) (sm : Int64) (g wl : Nat) (P : Nat → Prop) (i : spI1) (H : Heap) (hB : nd_B d ≤ H.size) (hW : nwWC d ro ad x σ sm H) (ok : spOk σ) (hg : nwIn d g wl P i H) (hk : okI1 (sg_gr σ) i) : nwRd l d yX1_found cX1_found 3 (some .int) 8 182 [.ref x, .ref g] H (some (.int (oI (sp_foundS σ i)))) := by
  refine nw_rd "NightwatchWall" "found" hf (by decide +kernel) rfl rfl hB (Nat.le_of_ble_eq_true rfl) ?_
  intro X C
  obtain ⟨hx, hcG, hcLa, hcFo, hcGu, hcPo, hcIn, hcWi, hcWo, hcKe⟩ := id hW
  obtain ⟨okg, okl, okf, oku, okp, oki, okw, okd, okk, oka⟩ := id ok
  have hn64 : gr_n (sg_gr σ) ≤ 64 := okg.n
  have hE := C.E0
  obtain ⟨⟨hia, him1, him2, hiv, his, hil⟩, hcs⟩ := id hk
  obtain ⟨hgo, hgl⟩ := id hg
  show nwV X _ _ 3 H 0 0 0 [(0, .ref x), (1, .ref g)] []
  refine nw_aload_n C 1 dX1_found_0 rfl 1 rfl ?_
  refine nw_getN C hgo (T := TX12) rfl in_X12 0 (by decide) q1196 rfl rfl dX1_found_1 4 rfl ?_
  refine nw_istore_n C [(2, .int (nI (in_a i))), (0, .ref x), (1, .ref g)] dX1_found_4 (by decide) rfl 5 rfl ?_
  have lp1 : ∀ (fu : Nat) (m : Nat), (in_a i ≤ m) → (m ≤ 240) → (∀ k, in_a i ≤ k → k < m → (fun t => sp_watched (sg_gr σ) (sg_la σ) (sg_fo σ) (sg_gu σ) (sp_at i t) t) k = false) → 240 - m < fu → nwV X (nwNew H) (nwQE X (fun v H1 => v = some (.int (oI (sp_foundS σ i))) ∧ H1 = H) nwNo (nwNew H) 0 0) 3 H 0 0 5 [(0, .ref x), (1, .ref g), (2, .int (nI m))] [] := by
    intro fu
    induction fu with
    | zero => intro m _ _ _ hm; exact absurd hm (Nat.not_lt_zero _)
    | succ fu ih_lp1 =>
      intro m h1 hi hno hm
      refine nw_iload_n C 2 dX1_found_5 rfl 6 rfl ?_
      refine nw_sipush C (nI 240) dX1_found_6 (by decide) 9 rfl ?_
      refine nw_icmpgeN C (by omega) 33 dX1_found_9 (by decide) 12 rfl (fun h2 => ?_) (fun h2 => ?_)
      · refine nw_iconst C (oI none) dX1_found_33 (by decide) 34 rfl ?_
        exact nw_iret C dX1_found_34 (Nat.le_refl _) (Nat.le_refl _) ⟨congrArg (fun z => some (Value.int (oI z))) (show (none) = (sp_foundS σ i) from (sp_fst_no (fun k h5 h6 => hno k h5 (by omega))).symm), rfl⟩
      · have hat := hk.at m
        refine nw_aload_n C 0 dX1_found_12 rfl 13 rfl ?_
        refine nw_aload_n C 1 dX1_found_13 rfl 14 rfl ?_
        refine nw_iload_n C 2 dX1_found_14 rfl 15 rfl ?_
        refine nw_callV C (mX12_placeN _ C.hfl d g wl P i (sg_gr σ) m H hB hg hk hn64 (by omega) (by omega)) kX12_place q411 (hgo.is C (ci := 7) rfl) (As := [.int (nI m)]) (rest := [.ref x]) rfl rfl ⟨⟨Nat.le_of_ble_eq_true rfl, Nat.le_of_ble_eq_true rfl⟩, Nat.le_of_ble_eq_true rfl, Nat.le_of_ble_eq_true rfl⟩ (Nat.le_of_ble_eq_true rfl) (fun _ h8 h9 => absurd h9 (Nat.not_le.mpr h8)) dX1_found_15 18 rfl (nw_rdK ?_) nw_noX
        refine nw_iload_n C 2 dX1_found_18 rfl 19 rfl ?_
        refine nw_callV C (mX1_isWatched _ C.hfl d ro ad x σ sm (sp_at i m) m H hB hW ok (by omega) (by omega)) kX1_isWatched q412 (hx.is C (ci := 0) rfl) (As := [.int (nI (sp_at i m)), .int (nI m)]) (rest := []) rfl rfl ⟨⟨Nat.le_of_ble_eq_true rfl, Nat.le_of_ble_eq_true rfl⟩, Nat.le_of_ble_eq_true rfl, Nat.le_of_ble_eq_true rfl⟩ (Nat.le_of_ble_eq_true rfl) (fun _ h8 h9 => absurd h9 (Nat.not_le.mpr h8)) dX1_found_19 22 rfl (nw_rdK ?_) nw_noX
        refine nw_ifeqB C 27 dX1_found_22 (by decide) 25 rfl (fun h3 => ?_) (fun h3 => ?_)
        · refine nw_iincN C 2 (c0 := 1) [(2, .int (nI (m + 1))), (0, .ref x), (1, .ref g)] dX1_found_27 rfl (by decide) rfl 30 rfl ?_
          refine nw_goto C 5 dX1_found_30 (by decide) ?_
          exact (nw_sub [1, 2, 0] rfl (ih_lp1 (m + 1) (by omega) (by omega) (fun k h5 h6 => (Nat.lt_or_ge k m).elim (fun g5 => hno k h5 g5) (fun g5 => by rw [show k = m by omega]; exact h3)) (by omega)))
        · refine nw_iload_n C 2 dX1_found_25 rfl 26 rfl ?_
          exact nw_iret C dX1_found_26 (Nat.le_refl _) (Nat.le_refl _) ⟨congrArg (fun z => some (Value.int (oI z))) (show (some m) = (sp_foundS σ i) from (sp_fst_at hno h1 (by omega) h3).symm), rfl⟩
  exact (nw_sub [1, 2, 0] rfl (lp1 _ (in_a i) (Nat.le_refl _) (by omega) (fun k h5 h6 => absurd h6 (Nat.not_lt.mpr h5)) (Nat.lt_succ_self _)))
set_option maxHeartbeats 4000000 in
theorem mX1_there (l : Launch) (hf : l.flags = flags0) (d : nwD) (ro ad : Nat → Nat) (x : Nat) (σ : spSg) (sm : Int64) (c t : Nat) (H : Heap) (hB : nd_B d ≤ H.size) (hW : nwWC d ro ad x σ sm H) (ok : spOk σ) (hc : c < 2 ^ 31) (ht : t < 2 ^ 31) : nwRd l d yX1_there cX1_there 5 (some .int) 5 105 [.ref x, .int (nI c), .int (nI t)] H (some (.int (nI (sp_there (sg_in σ) c t)))) := by
  refine nw_rd "NightwatchWall" "there" hf (by decide +kernel) rfl rfl hB (Nat.le_of_ble_eq_true rfl) ?_
  intro X C
  obtain ⟨hx, hcG, hcLa, hcFo, hcGu, hcPo, hcIn, hcWi, hcWo, hcKe⟩ := id hW
  obtain ⟨okg, okl, okf, oku, okp, oki, okw, okd, okk, oka⟩ := id ok
  have hn64 : gr_n (sg_gr σ) ≤ 64 := okg.n
  have hE := C.E0
  have oki1 := oki.1
  show nwV X _ _ 5 H 0 0 0 [(0, .ref x), (1, .int (nI c)), (2, .int (nI t))] []
  refine nw_iconst C (nI 0) dX1_there_0 (by decide) 1 rfl ?_
  refine nw_istore_n C [(3, .int (nI 0)), (0, .ref x), (1, .int (nI c)), (2, .int (nI t))] dX1_there_1 (by decide) rfl 2 rfl ?_
  refine nw_iconst C (nI 0) dX1_there_2 (by decide) 3 rfl ?_
  refine nw_istore C [(4, .int (nI 0)), (3, .int (nI 0)), (0, .ref x), (1, .int (nI c)), (2, .int (nI t))] dX1_there_3 (by decide) rfl 5 rfl ?_
  have lp1 : ∀ (fu : Nat) (i : Nat) (m : Nat), (i ≤ (sg_in σ).1) → (m = sp_cnt (fun k => sp_where ((sg_in σ).2 k) t == some c) i) → (sg_in σ).1 - i < fu → nwV X (nwNew H) (nwQE X (fun v H1 => v = some (.int (nI (sp_there (sg_in σ) c t))) ∧ H1 = H) nwNo (nwNew H) 0 0) 5 H 0 0 5 [(0, .ref x), (1, .int (nI c)), (2, .int (nI t)), (3, .int (nI m)), (4, .int (nI i))] [] := by
    intro fu
    induction fu with
    | zero => intro i m _ _ hm; exact absurd hm (Nat.not_lt_zero _)
    | succ fu ih_lp1 =>
      intro i m hi hmm hm
      refine nw_iload C 4 dX1_there_5 rfl 7 rfl ?_
      refine nw_aload_n C 0 dX1_there_7 rfl 8 rfl ?_
      refine nw_get C hx (T := TX1) rfl in_X1 5 (by decide) q226 (Or.inl rfl) rfl dX1_there_8 11 rfl ?_
      refine nw_callV C (mJ3_size _ C.hfl d (ad 5) ((sg_in σ).1) (fun k => ad (500 + k)) (fun q => ro q = 2006) H hB hcIn.1) kJ3_size q346 (hcIn.1.is C) (As := []) (rest := [.int (nI i)]) rfl rfl ⟨⟨Nat.le_of_ble_eq_true rfl, Nat.le_of_ble_eq_true rfl⟩, Nat.le_of_ble_eq_true rfl, Nat.le_of_ble_eq_true rfl⟩ (Nat.le_of_ble_eq_true rfl) (fun _ h8 h9 => absurd h9 (Nat.not_le.mpr h8)) dX1_there_11 14 rfl (nw_rdK ?_) nw_noX
      refine nw_icmpgeN C (by omega) 51 dX1_there_14 (by decide) 17 rfl (fun h2 => ?_) (fun h2 => ?_)
      · refine nw_iload_n C 3 dX1_there_51 rfl 52 rfl ?_
        exact nw_iret C dX1_there_52 (Nat.le_refl _) (Nat.le_refl _) ⟨congrArg (fun z => some (Value.int (nI z))) (show (m) = (sp_there (sg_in σ) c t) from (by rw [hmm, show i = (sg_in σ).1 by omega]; rfl)), rfl⟩
      · refine nw_iload_n C 3 dX1_there_17 rfl 18 rfl ?_
        refine nw_aload_n C 0 dX1_there_18 rfl 19 rfl ?_
        refine nw_get C hx (T := TX1) rfl in_X1 5 (by decide) q226 (Or.inl rfl) rfl dX1_there_19 22 rfl ?_
        refine nw_iload C 4 dX1_there_22 rfl 24 rfl ?_
        refine nw_callV C (mJ3_get _ C.hfl d (ad 5) ((sg_in σ).1) (fun k => ad (500 + k)) (fun q => ro q = 2006) i H hB hcIn.1 (by omega)) kJ3_get q350 (hcIn.1.is C) (As := [.int (nI i)]) (rest := [.int (nI m)]) rfl rfl ⟨⟨Nat.le_of_ble_eq_true rfl, Nat.le_of_ble_eq_true rfl⟩, Nat.le_of_ble_eq_true rfl, Nat.le_of_ble_eq_true rfl⟩ (Nat.le_of_ble_eq_true rfl) (fun _ h8 h9 => absurd h9 (Nat.not_le.mpr h8)) dX1_there_24 27 rfl (nw_rdK ?_) nw_noX
        have hg3 : nwIn d (ad (500 + i)) (ad (600 + i)) (fun q => ro q = 2601 + i) ((sg_in σ).2 i) H := hcIn.2 i (by omega)
        have hk4 : okI1 (sg_gr σ) ((sg_in σ).2 i) := oki.2 i (by omega)
        have hg5 : nwO d (ad (500 + i)) 7 [.int (nI (in_a ((sg_in σ).2 i))), .ref (ad (600 + i)), .int (nI (in_v ((sg_in σ).2 i))), .int (nI (in_s ((sg_in σ).2 i))), .int (oI (in_l ((sg_in σ).2 i)))] H := hg3.1
        refine nw_cast C (ci := 7) rfl (hg5.is C (ci := 7) rfl) q378 dX1_there_27 30 rfl ?_
        refine nw_iload_n C 2 dX1_there_30 rfl 31 rfl ?_
        refine nw_callV C (mX12_place _ C.hfl d (ad (500 + i)) (ad (600 + i)) (fun q => ro q = 2601 + i) ((sg_in σ).2 i) (sg_gr σ) t H hB hg3 hk4 hn64 (by omega)) kX12_place q411 (hg5.is C (ci := 7) rfl) (As := [.int (nI t)]) (rest := [.int (nI m)]) rfl rfl ⟨⟨Nat.le_of_ble_eq_true rfl, Nat.le_of_ble_eq_true rfl⟩, Nat.le_of_ble_eq_true rfl, Nat.le_of_ble_eq_true rfl⟩ (Nat.le_of_ble_eq_true rfl) (fun _ h8 h9 => absurd h9 (Nat.not_le.mpr h8)) dX1_there_31 34 rfl (nw_rdK ?_) nw_noX
        refine nw_iload_n C 1 dX1_there_34 rfl 35 rfl ?_
        refine nw_icmpneO C (sp_where ((sg_in σ).2 i) t) (some c) (fun v hv => by have := (oki.2 i (by omega)).wh hv; omega) (fun v hv => by cases hv; omega) 42 dX1_there_35 (by decide) 38 rfl (fun h6 => ?_) (fun h6 => ?_)
        · refine nw_iconst C (nI 0) dX1_there_42 (by decide) 43 rfl ?_
          refine nw_iaddN C dX1_there_43 44 rfl ?_
          refine nw_istore_n C [(3, .int (nI (m + 0))), (0, .ref x), (1, .int (nI c)), (2, .int (nI t)), (4, .int (nI i))] dX1_there_44 (by decide) rfl 45 rfl ?_
          refine nw_iincN C 4 (c0 := 1) [(4, .int (nI (i + 1))), (3, .int (nI (m + 0))), (0, .ref x), (1, .int (nI c)), (2, .int (nI t))] dX1_there_45 rfl (by decide) rfl 48 rfl ?_
          refine nw_goto C 5 dX1_there_48 (by decide) ?_
          exact (nw_sub [2, 3, 4, 1, 0] rfl (ih_lp1 (i + 1) m (by omega) (by rw [sp_cnt_f (p := fun k => sp_where ((sg_in σ).2 k) t == some c) (n := i) (by simp [h6])]; omega) (by omega)))
        · refine nw_iconst C (nI 1) dX1_there_38 (by decide) 39 rfl ?_
          refine nw_goto C 43 dX1_there_39 (by decide) ?_
          refine nw_iaddN C dX1_there_43 44 rfl ?_
          refine nw_istore_n C [(3, .int (nI (m + 1))), (0, .ref x), (1, .int (nI c)), (2, .int (nI t)), (4, .int (nI i))] dX1_there_44 (by decide) rfl 45 rfl ?_
          refine nw_iincN C 4 (c0 := 1) [(4, .int (nI (i + 1))), (3, .int (nI (m + 1))), (0, .ref x), (1, .int (nI c)), (2, .int (nI t))] dX1_there_45 rfl (by decide) rfl 48 rfl ?_
          refine nw_goto C 5 dX1_there_48 (by decide) ?_
          exact (nw_sub [2, 3, 4, 1, 0] rfl (ih_lp1 (i + 1) (m + 1) (by omega) (by rw [sp_cnt_t (p := fun k => sp_where ((sg_in σ).2 k) t == some c) (n := i) (by simp [h6])]; omega) (by omega)))
  exact (nw_sub [2, 3, 4, 1, 0] rfl (lp1 _ 0 0 (Nat.zero_le _) rfl (Nat.lt_succ_self _)))
set_option maxHeartbeats 4000000 in
theorem mX14_noise (l : Launch) (hf : l.flags = flags0) (d : nwD) (wa : Nat) (wr : Nat × Nat) (t th : Nat) (H : Heap) (hB : nd_B d ≤ H.size) (hw9 : nwO d wa 8 [.int (nI wr.1), .int (nI wr.2)] H) (hb : wr.1 < 64 ∧ t < 2 ^ 20) : nwRd l d yX14_noise cX14_noise 3 (some .int) 1 20 [.ref wa, .int (nI t), .int (nI th)] H (some (.int (nI (sp_noise wr.1 t th)))) := by
  refine nw_rd "NightwatchWall$Wire" "noise" hf (by decide +kernel) rfl rfl hB (Nat.le_of_ble_eq_true rfl) ?_
  intro X C
  show nwV X _ _ 3 H 0 0 0 [(0, .ref wa), (1, .int (nI t)), (2, .int (nI th))] []
  refine nw_bipush C (nI 29) dX14_noise_0 (by decide) 2 rfl ?_
  refine nw_iload_n C 1 dX14_noise_2 rfl 3 rfl ?_
  refine nw_imulN C dX14_noise_3 4 rfl ?_
  refine nw_bipush C (nI 7) dX14_noise_4 (by decide) 6 rfl ?_
  refine nw_aload_n C 0 dX14_noise_6 rfl 7 rfl ?_
  refine nw_get C hw9 (T := TX14) rfl in_X14 0 (by decide) q1226 (Or.inl rfl) rfl dX14_noise_7 10 rfl ?_
  refine nw_imulN C dX14_noise_10 11 rfl ?_
  refine nw_iaddN C dX14_noise_11 12 rfl ?_
  refine nw_bipush C (nI 11) dX14_noise_12 (by decide) 14 rfl ?_
  refine nw_iremN C (by omega) dX14_noise_14 15 rfl ?_
  refine nw_iconst C (nI 5) dX14_noise_15 (by decide) 16 rfl ?_
  refine nw_iload_n C 2 dX14_noise_16 rfl 17 rfl ?_
  refine nw_imulN C dX14_noise_17 18 rfl ?_
  refine nw_iaddN C dX14_noise_18 19 rfl ?_
  exact nw_iret C dX14_noise_19 (Nat.le_refl _) (Nat.le_refl _) ⟨congrArg (fun z => some (Value.int (nI z))) (show ((29 * t + (7 * wr.1)) % 11 + (5 * th)) = (sp_noise wr.1 t th) from rfl), rfl⟩
set_option maxHeartbeats 4000000 in
theorem mX1_ofWireNow (l : Launch) (hf : l.flags = flags0) (d : nwD) (ro ad : Nat → Nat) (x : Nat) (σ : spSg) (sm : Int64) (wa : Nat) (wr : Nat × Nat) (q : Nat) (H : Heap) (hB : nd_B d ≤ H.size) (hW : nwWC d ro ad x σ sm H) (ok : spOk σ) (hw9 : nwO d wa 8 [.int (nI wr.1), .int (nI wr.2)] H) (hwk : wr.1 < gr_n (sg_gr σ) ∧ wr.2 ≤ 12) (hq4 : q ≤ 4) : nwRd l d yX1_ofWireNow cX1_ofWireNow 8 (some .int) 6 129 [.ref x, .ref wa, .int (nI q)] H (some (.int (sp_wireNow (sg_in σ) wr q))) := by
  refine nw_rd "NightwatchWall" "ofWireNow" hf (by decide +kernel) rfl rfl hB (Nat.le_of_ble_eq_true rfl) ?_
  intro X C
  obtain ⟨hx, hcG, hcLa, hcFo, hcGu, hcPo, hcIn, hcWi, hcWo, hcKe⟩ := id hW
  obtain ⟨okg, okl, okf, oku, okp, oki, okw, okd, okk, oka⟩ := id ok
  have hn64 : gr_n (sg_gr σ) ≤ 64 := okg.n
  have hE := C.E0
  obtain ⟨hwc, hwb⟩ := id hwk
  show nwV X _ _ 8 H 0 0 0 [(0, .ref x), (1, .ref wa), (2, .int (nI q))] []
  refine nw_iload_n C 2 dX1_ofWireNow_0 rfl 1 rfl ?_
  refine nw_iconst C (nI 2) dX1_ofWireNow_1 (by decide) 2 rfl ?_
  refine nw_icmpgeN C (by omega) 21 dX1_ofWireNow_2 (by decide) 5 rfl (fun h2 => ?_) (fun h2 => ?_)
  · refine nw_iconst C (nI 0) dX1_ofWireNow_21 (by decide) 22 rfl ?_
    refine nw_istore_n C [(3, .int (nI 0)), (0, .ref x), (1, .ref wa), (2, .int (nI q))] dX1_ofWireNow_22 (by decide) rfl 23 rfl ?_
    refine nw_iconst C (nI 0) dX1_ofWireNow_23 (by decide) 24 rfl ?_
    refine nw_istore C [(4, .int (nI 0)), (3, .int (nI 0)), (0, .ref x), (1, .ref wa), (2, .int (nI q))] dX1_ofWireNow_24 (by decide) rfl 26 rfl ?_
    refine nw_iconst C (oI none) dX1_ofWireNow_26 (by decide) 27 rfl ?_
    refine nw_istore C [(5, .int (oI none)), (4, .int (nI 0)), (3, .int (nI 0)), (0, .ref x), (1, .ref wa), (2, .int (nI q))] dX1_ofWireNow_27 (by decide) rfl 29 rfl ?_
    refine nw_iconst C (nI 0) dX1_ofWireNow_29 (by decide) 30 rfl ?_
    refine nw_istore C [(6, .int (nI 0)), (5, .int (oI none)), (4, .int (nI 0)), (3, .int (nI 0)), (0, .ref x), (1, .ref wa), (2, .int (nI q))] dX1_ofWireNow_30 (by decide) rfl 32 rfl ?_
    have lp1 : ∀ (fu : Nat) (i : Nat) (m : Nat) (f : Nat) (o : Option Nat), (i ≤ 240) → (m = sp_cnt (sp_ring (sg_in σ) wr) i) → (f = sp_cnt (fun t => sp_ring (sg_in σ) wr t && decide (sp_there (sg_in σ) wr.1 t = 0)) i) → (o = sp_fst (fun t => sp_ring (sg_in σ) wr t && decide (0 < sp_there (sg_in σ) wr.1 t)) 0 i) → (∀ v, o = some v → v < i) → 240 - i < fu → nwV X (nwNew H) (nwQE X (fun v H1 => v = some (.int (sp_wireNow (sg_in σ) wr q)) ∧ H1 = H) nwNo (nwNew H) 0 0) 8 H 0 0 32 [(0, .ref x), (1, .ref wa), (2, .int (nI q)), (3, .int (nI m)), (4, .int (nI f)), (5, .int (oI o)), (6, .int (nI i))] [] := by
      intro fu
      induction fu with
      | zero => intro i m f o _ _ _ _ _ hm; exact absurd hm (Nat.not_lt_zero _)
      | succ fu ih_lp1 =>
        intro i m f o hi hmm hff ho hob hm
        refine nw_iload C 6 dX1_ofWireNow_32 rfl 34 rfl ?_
        refine nw_sipush C (nI 240) dX1_ofWireNow_34 (by decide) 37 rfl ?_
        refine nw_icmpgeN C (by omega) 109 dX1_ofWireNow_37 (by decide) 40 rfl (fun h3 => ?_) (fun h3 => ?_)
        · refine nw_iload_n C 2 dX1_ofWireNow_109 rfl 110 rfl ?_
          refine nw_iconst C (nI 2) dX1_ofWireNow_110 (by decide) 111 rfl ?_
          refine nw_icmpneN C (by omega) 118 dX1_ofWireNow_111 (by decide) 114 rfl (fun h4 => ?_) (fun h4 => ?_)
          · refine nw_iload_n C 2 dX1_ofWireNow_118 rfl 119 rfl ?_
            refine nw_iconst C (nI 3) dX1_ofWireNow_119 (by decide) 120 rfl ?_
            refine nw_icmpneN C (by omega) 128 dX1_ofWireNow_120 (by decide) 123 rfl (fun h5 => ?_) (fun h5 => ?_)
            · refine nw_iload C 5 dX1_ofWireNow_128 rfl 130 rfl ?_
              exact nw_iret C dX1_ofWireNow_130 (Nat.le_refl _) (Nat.le_refl _) ⟨congrArg (fun z => some (Value.int z)) (show (oI o) = (sp_wireNow (sg_in σ) wr q) from (by rw [show i = 240 by omega] at hmm hff ho; unfold sp_wireNow; rw [if_neg (by omega), if_neg (by omega), if_neg (by omega), if_neg (by omega), ho])), rfl⟩
            · refine nw_iload C 4 dX1_ofWireNow_123 rfl 125 rfl ?_
              refine nw_goto C 130 dX1_ofWireNow_125 (by decide) ?_
              exact nw_iret C dX1_ofWireNow_130 (Nat.le_refl _) (Nat.le_refl _) ⟨congrArg (fun z => some (Value.int z)) (show (nI f) = (sp_wireNow (sg_in σ) wr q) from (by rw [show i = 240 by omega] at hmm hff ho; unfold sp_wireNow; rw [if_neg (by omega), if_neg (by omega), if_neg (by omega), if_pos (by omega), hff])), rfl⟩
          · refine nw_iload_n C 3 dX1_ofWireNow_114 rfl 115 rfl ?_
            refine nw_goto C 130 dX1_ofWireNow_115 (by decide) ?_
            exact nw_iret C dX1_ofWireNow_130 (Nat.le_refl _) (Nat.le_refl _) ⟨congrArg (fun z => some (Value.int z)) (show (nI m) = (sp_wireNow (sg_in σ) wr q) from (by rw [show i = 240 by omega] at hmm hff ho; unfold sp_wireNow; rw [if_neg (by omega), if_neg (by omega), if_pos (by omega), hmm])), rfl⟩
        · have hth : sp_there (sg_in σ) wr.1 i ≤ 4 := by have := sp_cnt_le (fun k => sp_where ((sg_in σ).2 k) i == some wr.1) (sg_in σ).1; have h8 := oki.1; unfold sp_there; omega
          refine nw_aload_n C 0 dX1_ofWireNow_40 rfl 41 rfl ?_
          refine nw_aload_n C 1 dX1_ofWireNow_41 rfl 42 rfl ?_
          refine nw_getN C hw9 (T := TX14) rfl in_X14 0 (by decide) q1227 rfl rfl dX1_ofWireNow_42 45 rfl ?_
          refine nw_iload C 6 dX1_ofWireNow_45 rfl 47 rfl ?_
          refine nw_callV C (mX1_there _ C.hfl d ro ad x σ sm wr.1 i H hB hW ok (by omega) (by omega)) kX1_there q626 (hx.is C (ci := 0) rfl) (As := [.int (nI wr.1), .int (nI i)]) (rest := []) rfl rfl ⟨⟨Nat.le_of_ble_eq_true rfl, Nat.le_of_ble_eq_true rfl⟩, Nat.le_of_ble_eq_true rfl, Nat.le_of_ble_eq_true rfl⟩ (Nat.le_of_ble_eq_true rfl) (fun _ h8 h9 => absurd h9 (Nat.not_le.mpr h8)) dX1_ofWireNow_47 50 rfl (nw_rdK ?_) nw_noX
          refine nw_istore C [(7, .int (nI (sp_there (sg_in σ) wr.1 i))), (0, .ref x), (1, .ref wa), (2, .int (nI q)), (3, .int (nI m)), (4, .int (nI f)), (5, .int (oI o)), (6, .int (nI i))] dX1_ofWireNow_50 (by decide) rfl 52 rfl ?_
          refine nw_aload_n C 2 dX1_ofWireNow_52 rfl 53 rfl ?_
          refine nw_iload C 7 dX1_ofWireNow_53 rfl 55 rfl ?_
          refine nw_iload C 0 dX1_ofWireNow_55 rfl 57 rfl ?_
          refine nw_callV C (mX14_noise _ C.hfl d wa wr i (sp_there (sg_in σ) wr.1 i) H hB hw9 (by omega)) kX14_noise q630 (hw9.is C (ci := 8) rfl) (As := [.int (nI i), .int (nI (sp_there (sg_in σ) wr.1 i))]) (rest := []) rfl rfl ⟨⟨Nat.le_of_ble_eq_true rfl, Nat.le_of_ble_eq_true rfl⟩, Nat.le_of_ble_eq_true rfl, Nat.le_of_ble_eq_true rfl⟩ (Nat.le_of_ble_eq_true rfl) (fun _ h8 h9 => absurd h9 (Nat.not_le.mpr h8)) dX1_ofWireNow_57 60 rfl (nw_rdK ?_) nw_noX
          have hns : sp_noise wr.1 i (sp_there (sg_in σ) wr.1 i) < 2 ^ 20 := by unfold sp_noise; omega
          refine nw_aload_n C 2 dX1_ofWireNow_60 rfl 61 rfl ?_
          refine nw_getN C hw9 (T := TX14) rfl in_X14 1 (by decide) q1229 rfl rfl dX1_ofWireNow_61 64 rfl ?_
          refine nw_icmpgeN C (by omega) 70 dX1_ofWireNow_64 (by decide) 67 rfl (fun h6 => ?_) (fun h6 => ?_)
          · refine nw_iincN C 4 (c0 := 1) [(3, .int (nI (m + 1))), (7, .int (nI (sp_there (sg_in σ) wr.1 i))), (0, .ref x), (1, .ref wa), (2, .int (nI q)), (4, .int (nI f)), (5, .int (oI o)), (6, .int (nI i))] dX1_ofWireNow_70 rfl (by decide) rfl 73 rfl ?_
            refine nw_iload C 5 dX1_ofWireNow_73 rfl 75 rfl ?_
            refine nw_iload C 1 dX1_ofWireNow_75 rfl 77 rfl ?_
            refine nw_ifneN C (by omega) 84 dX1_ofWireNow_77 (by decide) 80 rfl (fun h7 => ?_) (fun h7 => ?_)
            · refine nw_iconst C (nI 0) dX1_ofWireNow_84 (by decide) 85 rfl ?_
              refine nw_iaddN C dX1_ofWireNow_85 86 rfl ?_
              refine nw_istore C [(4, .int (nI (f + 0))), (3, .int (nI (m + 1))), (7, .int (nI (sp_there (sg_in σ) wr.1 i))), (0, .ref x), (1, .ref wa), (2, .int (nI q)), (5, .int (oI o)), (6, .int (nI i))] dX1_ofWireNow_86 (by decide) rfl 88 rfl ?_
              refine nw_iload C 2 dX1_ofWireNow_88 rfl 90 rfl ?_
              refine nw_ifleN C (by omega) 103 dX1_ofWireNow_90 (by decide) 93 rfl (fun h8 => ?_) (fun h8 => ?_)
              · refine nw_iincN C 7 (c0 := 1) [(6, .int (nI (i + 1))), (4, .int (nI (f + 0))), (3, .int (nI (m + 1))), (7, .int (nI (sp_there (sg_in σ) wr.1 i))), (0, .ref x), (1, .ref wa), (2, .int (nI q)), (5, .int (oI o))] dX1_ofWireNow_103 rfl (by decide) rfl 106 rfl ?_
                refine nw_goto C 32 dX1_ofWireNow_106 (by decide) ?_
                have hr : sp_ring (sg_in σ) wr i = true := by unfold sp_ring; simp; omega
                exact (nw_sub [4, 5, 6, 2, 1, 7, 0] rfl (ih_lp1 (i + 1) (m + 1) f o (by omega) (by rw [sp_cnt_t (p := sp_ring (sg_in σ) wr) (n := i) hr]; omega) (by rw [sp_cnt_f (p := (fun t => sp_ring (sg_in σ) wr t && decide (sp_there (sg_in σ) wr.1 t = 0))) (n := i) (by simp [hr, h6, h7, h8]; try omega)]; omega) (sp_fst_keep ho (Or.inl (by simp [hr, h6, h7, h8]; try omega))) (fun v hv => Nat.lt_succ_of_lt (hob v hv)) (by omega)))
              · refine nw_iload C 6 dX1_ofWireNow_93 rfl 95 rfl ?_
                refine nw_iconst C (oI none) dX1_ofWireNow_95 (by decide) 96 rfl ?_
                refine nw_icmpneO C o none (fun v hv => by have := hob v hv; omega) (fun v hv => by cases hv) 103 dX1_ofWireNow_96 (by decide) 99 rfl (fun h9 => ?_) (fun h9 => ?_)
                · refine nw_iincN C 7 (c0 := 1) [(6, .int (nI (i + 1))), (4, .int (nI (f + 0))), (3, .int (nI (m + 1))), (7, .int (nI (sp_there (sg_in σ) wr.1 i))), (0, .ref x), (1, .ref wa), (2, .int (nI q)), (5, .int (oI o))] dX1_ofWireNow_103 rfl (by decide) rfl 106 rfl ?_
                  refine nw_goto C 32 dX1_ofWireNow_106 (by decide) ?_
                  have hr : sp_ring (sg_in σ) wr i = true := by unfold sp_ring; simp; omega
                  exact (nw_sub [4, 5, 6, 2, 1, 7, 0] rfl (ih_lp1 (i + 1) (m + 1) f o (by omega) (by rw [sp_cnt_t (p := sp_ring (sg_in σ) wr) (n := i) hr]; omega) (by rw [sp_cnt_f (p := (fun t => sp_ring (sg_in σ) wr t && decide (sp_there (sg_in σ) wr.1 t = 0))) (n := i) (by simp [hr, h6, h7, h8, h9]; try omega)]; omega) (sp_fst_keep ho (Or.inr h9)) (fun v hv => Nat.lt_succ_of_lt (hob v hv)) (by omega)))
                · refine nw_iload C 7 dX1_ofWireNow_99 rfl 101 rfl ?_
                  refine nw_istore C [(5, .int (nI i)), (4, .int (nI (f + 0))), (3, .int (nI (m + 1))), (7, .int (nI (sp_there (sg_in σ) wr.1 i))), (0, .ref x), (1, .ref wa), (2, .int (nI q)), (6, .int (nI i))] dX1_ofWireNow_101 (by decide) rfl 103 rfl ?_
                  refine nw_iincN C 7 (c0 := 1) [(6, .int (nI (i + 1))), (5, .int (nI i)), (4, .int (nI (f + 0))), (3, .int (nI (m + 1))), (7, .int (nI (sp_there (sg_in σ) wr.1 i))), (0, .ref x), (1, .ref wa), (2, .int (nI q))] dX1_ofWireNow_103 rfl (by decide) rfl 106 rfl ?_
                  refine nw_goto C 32 dX1_ofWireNow_106 (by decide) ?_
                  have hr : sp_ring (sg_in σ) wr i = true := by unfold sp_ring; simp; omega
                  exact (nw_sub [5, 6, 7, 3, 2, 1, 0] rfl (ih_lp1 (i + 1) (m + 1) f (some i) (by omega) (by rw [sp_cnt_t (p := sp_ring (sg_in σ) wr) (n := i) hr]; omega) (by rw [sp_cnt_f (p := (fun t => sp_ring (sg_in σ) wr t && decide (sp_there (sg_in σ) wr.1 t = 0))) (n := i) (by simp [hr, h6, h7, h8, h9]; try omega)]; omega) (sp_fst_hit ho h9 (by simp [hr, h6, h7, h8, h9]; try omega)) (fun v hv => by cases hv; omega) (by omega)))
            · refine nw_iconst C (nI 1) dX1_ofWireNow_80 (by decide) 81 rfl ?_
              refine nw_goto C 85 dX1_ofWireNow_81 (by decide) ?_
              refine nw_iaddN C dX1_ofWireNow_85 86 rfl ?_
              refine nw_istore C [(4, .int (nI (f + 1))), (3, .int (nI (m + 1))), (7, .int (nI (sp_there (sg_in σ) wr.1 i))), (0, .ref x), (1, .ref wa), (2, .int (nI q)), (5, .int (oI o)), (6, .int (nI i))] dX1_ofWireNow_86 (by decide) rfl 88 rfl ?_
              refine nw_iload C 2 dX1_ofWireNow_88 rfl 90 rfl ?_
              refine nw_ifleN C (by omega) 103 dX1_ofWireNow_90 (by decide) 93 rfl (fun h10 => ?_) (fun h10 => ?_)
              · refine nw_iincN C 7 (c0 := 1) [(6, .int (nI (i + 1))), (4, .int (nI (f + 1))), (3, .int (nI (m + 1))), (7, .int (nI (sp_there (sg_in σ) wr.1 i))), (0, .ref x), (1, .ref wa), (2, .int (nI q)), (5, .int (oI o))] dX1_ofWireNow_103 rfl (by decide) rfl 106 rfl ?_
                refine nw_goto C 32 dX1_ofWireNow_106 (by decide) ?_
                have hr : sp_ring (sg_in σ) wr i = true := by unfold sp_ring; simp; omega
                exact (nw_sub [4, 5, 6, 2, 1, 7, 0] rfl (ih_lp1 (i + 1) (m + 1) (f + 1) o (by omega) (by rw [sp_cnt_t (p := sp_ring (sg_in σ) wr) (n := i) hr]; omega) (by rw [sp_cnt_t (p := (fun t => sp_ring (sg_in σ) wr t && decide (sp_there (sg_in σ) wr.1 t = 0))) (n := i) (by simp [hr, h6, h7, h10]; try omega)]; omega) (sp_fst_keep ho (Or.inl (by simp [hr, h6, h7, h10]; try omega))) (fun v hv => Nat.lt_succ_of_lt (hob v hv)) (by omega)))
              · refine nw_iload C 6 dX1_ofWireNow_93 rfl 95 rfl ?_
                refine nw_iconst C (oI none) dX1_ofWireNow_95 (by decide) 96 rfl ?_
                refine nw_icmpneO C o none (fun v hv => by have := hob v hv; omega) (fun v hv => by cases hv) 103 dX1_ofWireNow_96 (by decide) 99 rfl (fun h11 => ?_) (fun h11 => ?_)
                · refine nw_iincN C 7 (c0 := 1) [(6, .int (nI (i + 1))), (4, .int (nI (f + 1))), (3, .int (nI (m + 1))), (7, .int (nI (sp_there (sg_in σ) wr.1 i))), (0, .ref x), (1, .ref wa), (2, .int (nI q)), (5, .int (oI o))] dX1_ofWireNow_103 rfl (by decide) rfl 106 rfl ?_
                  refine nw_goto C 32 dX1_ofWireNow_106 (by decide) ?_
                  have hr : sp_ring (sg_in σ) wr i = true := by unfold sp_ring; simp; omega
                  exact (nw_sub [4, 5, 6, 2, 1, 7, 0] rfl (ih_lp1 (i + 1) (m + 1) (f + 1) o (by omega) (by rw [sp_cnt_t (p := sp_ring (sg_in σ) wr) (n := i) hr]; omega) (by rw [sp_cnt_t (p := (fun t => sp_ring (sg_in σ) wr t && decide (sp_there (sg_in σ) wr.1 t = 0))) (n := i) (by simp [hr, h6, h7, h10, h11]; try omega)]; omega) (sp_fst_keep ho (Or.inr h11)) (fun v hv => Nat.lt_succ_of_lt (hob v hv)) (by omega)))
                · refine nw_iload C 7 dX1_ofWireNow_99 rfl 101 rfl ?_
                  refine nw_istore C [(5, .int (nI i)), (4, .int (nI (f + 1))), (3, .int (nI (m + 1))), (7, .int (nI (sp_there (sg_in σ) wr.1 i))), (0, .ref x), (1, .ref wa), (2, .int (nI q)), (6, .int (nI i))] dX1_ofWireNow_101 (by decide) rfl 103 rfl ?_
                  refine nw_iincN C 7 (c0 := 1) [(6, .int (nI (i + 1))), (5, .int (nI i)), (4, .int (nI (f + 1))), (3, .int (nI (m + 1))), (7, .int (nI (sp_there (sg_in σ) wr.1 i))), (0, .ref x), (1, .ref wa), (2, .int (nI q))] dX1_ofWireNow_103 rfl (by decide) rfl 106 rfl ?_
                  refine nw_goto C 32 dX1_ofWireNow_106 (by decide) ?_
                  have hr : sp_ring (sg_in σ) wr i = true := by unfold sp_ring; simp; omega
                  exact (nw_sub [5, 6, 7, 3, 2, 1, 0] rfl (ih_lp1 (i + 1) (m + 1) (f + 1) (some i) (by omega) (by rw [sp_cnt_t (p := sp_ring (sg_in σ) wr) (n := i) hr]; omega) (by rw [sp_cnt_t (p := (fun t => sp_ring (sg_in σ) wr t && decide (sp_there (sg_in σ) wr.1 t = 0))) (n := i) (by simp [hr, h6, h7, h10, h11]; try omega)]; omega) (sp_fst_hit ho h11 (by simp [hr, h6, h7, h10, h11]; try omega)) (fun v hv => by cases hv; omega) (by omega)))
          · refine nw_goto C 103 dX1_ofWireNow_67 (by decide) ?_
            refine nw_iincN C 7 (c0 := 1) [(6, .int (nI (i + 1))), (7, .int (nI (sp_there (sg_in σ) wr.1 i))), (0, .ref x), (1, .ref wa), (2, .int (nI q)), (3, .int (nI m)), (4, .int (nI f)), (5, .int (oI o))] dX1_ofWireNow_103 rfl (by decide) rfl 106 rfl ?_
            refine nw_goto C 32 dX1_ofWireNow_106 (by decide) ?_
            have hr : sp_ring (sg_in σ) wr i = false := by unfold sp_ring; simp; omega
            exact (nw_sub [2, 3, 4, 5, 6, 7, 0] rfl (ih_lp1 (i + 1) m f o (by omega) (by rw [sp_cnt_f (p := sp_ring (sg_in σ) wr) (n := i) hr]; omega) (by rw [sp_cnt_f (p := (fun t => sp_ring (sg_in σ) wr t && decide (sp_there (sg_in σ) wr.1 t = 0))) (n := i) (by simp [hr, h6]; try omega)]; omega) (sp_fst_keep ho (Or.inl (by simp [hr]))) (fun v hv => Nat.lt_succ_of_lt (hob v hv)) (by omega)))
    exact (nw_sub [4, 5, 6, 3, 2, 1, 0] rfl (lp1 _ 0 0 0 none (Nat.zero_le _) rfl rfl rfl (fun v hv => by cases hv) (Nat.lt_succ_self _)))
  · refine nw_iload_n C 2 dX1_ofWireNow_5 rfl 6 rfl ?_
    refine nw_ifneN C (by omega) 16 dX1_ofWireNow_6 (by decide) 9 rfl (fun h12 => ?_) (fun h12 => ?_)
    · refine nw_aload_n C 1 dX1_ofWireNow_16 rfl 17 rfl ?_
      refine nw_getN C hw9 (T := TX14) rfl in_X14 1 (by decide) q1229 rfl rfl dX1_ofWireNow_17 20 rfl ?_
      exact nw_iret C dX1_ofWireNow_20 (Nat.le_refl _) (Nat.le_refl _) ⟨congrArg (fun z => some (Value.int z)) (show (nI wr.2) = (sp_wireNow (sg_in σ) wr q) from (by unfold sp_wireNow; rw [if_neg (by omega), if_pos (by omega)])), rfl⟩
    · refine nw_aload_n C 1 dX1_ofWireNow_9 rfl 10 rfl ?_
      refine nw_getN C hw9 (T := TX14) rfl in_X14 0 (by decide) q1227 rfl rfl dX1_ofWireNow_10 13 rfl ?_
      refine nw_goto C 20 dX1_ofWireNow_13 (by decide) ?_
      exact nw_iret C dX1_ofWireNow_20 (Nat.le_refl _) (Nat.le_refl _) ⟨congrArg (fun z => some (Value.int z)) (show (nI wr.1) = (sp_wireNow (sg_in σ) wr q) from (by unfold sp_wireNow; rw [if_pos (by omega)])), rfl⟩
set_option maxHeartbeats 4000000 in
theorem mX1_isHidden (l : Launch) (hf : l.flags = flags0) (d : nwD) (ro ad : Nat → Nat) (x : Nat) (σ : spSg) (sm : Int64) (c t : Nat) (H : Heap) (hB : nd_B d ≤ H.size) (hW : nwWC d ro ad x σ sm H) (ok : spOk σ) (hc : c < gr_n (sg_gr σ)) (ht : t < 2 ^ 31) : nwRd l d yX1_isHidden cX1_isHidden 3 (some .boolean) 8 182 [.ref x, .int (nI c), .int (nI t)] H (some (.int (b2i (sp_hidden σ c t)))) := by
  refine nw_rd "NightwatchWall" "isHidden" hf (by decide +kernel) rfl rfl hB (Nat.le_of_ble_eq_true rfl) ?_
  intro X C
  obtain ⟨hx, hcG, hcLa, hcFo, hcGu, hcPo, hcIn, hcWi, hcWo, hcKe⟩ := id hW
  obtain ⟨okg, okl, okf, oku, okp, oki, okw, okd, okk, oka⟩ := id ok
  have hn64 : gr_n (sg_gr σ) ≤ 64 := okg.n
  have hE := C.E0
  show nwV X _ _ 3 H 0 0 0 [(0, .ref x), (1, .int (nI c)), (2, .int (nI t))] []
  refine nw_aload_n C 0 dX1_isHidden_0 rfl 1 rfl ?_
  refine nw_iload_n C 1 dX1_isHidden_1 rfl 2 rfl ?_
  refine nw_iload_n C 2 dX1_isHidden_2 rfl 3 rfl ?_
  refine nw_callV C (mX1_isWalkable _ C.hfl d ro ad x σ sm c t H hB hW ok (by omega) (by omega)) kX1_isWalkable q572 (hx.is C (ci := 0) rfl) (As := [.int (nI c), .int (nI t)]) (rest := []) rfl rfl ⟨⟨Nat.le_of_ble_eq_true rfl, Nat.le_of_ble_eq_true rfl⟩, Nat.le_of_ble_eq_true rfl, Nat.le_of_ble_eq_true rfl⟩ (Nat.le_of_ble_eq_true rfl) (fun _ h8 h9 => absurd h9 (Nat.not_le.mpr h8)) dX1_isHidden_3 6 rfl (nw_rdK ?_) nw_noX
  refine nw_ifeqB C 22 dX1_isHidden_6 (by decide) 9 rfl (fun h1 => ?_) (fun h1 => ?_)
  · refine nw_iconst C (nI 0) dX1_isHidden_22 (by decide) 23 rfl ?_
    exact nw_nret C dX1_isHidden_23 (b2i_narrow false) (Nat.le_refl _) (Nat.le_refl _) ⟨congrArg (fun z => some (Value.int (b2i z))) (show (false) = (sp_hidden σ c t) from (by unfold sp_hidden; simp [h1])), rfl⟩
  · refine nw_aload_n C 0 dX1_isHidden_9 rfl 10 rfl ?_
    refine nw_iload_n C 1 dX1_isHidden_10 rfl 11 rfl ?_
    refine nw_iload_n C 2 dX1_isHidden_11 rfl 12 rfl ?_
    refine nw_callV C (mX1_isWatched _ C.hfl d ro ad x σ sm c t H hB hW ok (by omega) (by omega)) kX1_isWatched q412 (hx.is C (ci := 0) rfl) (As := [.int (nI c), .int (nI t)]) (rest := []) rfl rfl ⟨⟨Nat.le_of_ble_eq_true rfl, Nat.le_of_ble_eq_true rfl⟩, Nat.le_of_ble_eq_true rfl, Nat.le_of_ble_eq_true rfl⟩ (Nat.le_of_ble_eq_true rfl) (fun _ h8 h9 => absurd h9 (Nat.not_le.mpr h8)) dX1_isHidden_12 15 rfl (nw_rdK ?_) nw_noX
    refine nw_ifneB C 22 dX1_isHidden_15 (by decide) 18 rfl (fun h2 => ?_) (fun h2 => ?_)
    · refine nw_iconst C (nI 0) dX1_isHidden_22 (by decide) 23 rfl ?_
      exact nw_nret C dX1_isHidden_23 (b2i_narrow false) (Nat.le_refl _) (Nat.le_refl _) ⟨congrArg (fun z => some (Value.int (b2i z))) (show (false) = (sp_hidden σ c t) from (by unfold sp_hidden; simp [h1, h2])), rfl⟩
    · refine nw_iconst C (nI 1) dX1_isHidden_18 (by decide) 19 rfl ?_
      refine nw_goto C 23 dX1_isHidden_19 (by decide) ?_
      exact nw_nret C dX1_isHidden_23 (b2i_narrow true) (Nat.le_refl _) (Nat.le_refl _) ⟨congrArg (fun z => some (Value.int (b2i z))) (show (true) = (sp_hidden σ c t) from (by unfold sp_hidden; simp [h1, h2])), rfl⟩
set_option maxHeartbeats 4000000 in
theorem mX1_emptyMinutes (l : Launch) (hf : l.flags = flags0) (d : nwD) (ro ad : Nat → Nat) (x : Nat) (σ : spSg) (sm : Int64)  (H : Heap) (hB : nd_B d ≤ H.size) (hW : nwWC d ro ad x σ sm H) (ok : spOk σ)  : nwRd l d yX1_emptyMinutes cX1_emptyMinutes 3 (some .int) 7 152 [.ref x] H (some (.int (nI (sp_emptyMinutes (sg_gu σ) (sg_po σ))))) := by
  refine nw_rd "NightwatchWall" "emptyMinutes" hf (by decide +kernel) rfl rfl hB (Nat.le_of_ble_eq_true rfl) ?_
  intro X C
  obtain ⟨hx, hcG, hcLa, hcFo, hcGu, hcPo, hcIn, hcWi, hcWo, hcKe⟩ := id hW
  obtain ⟨okg, okl, okf, oku, okp, oki, okw, okd, okk, oka⟩ := id ok
  have hn64 : gr_n (sg_gr σ) ≤ 64 := okg.n
  have hE := C.E0
  show nwV X _ _ 3 H 0 0 0 [(0, .ref x)] []
  refine nw_iconst C (nI 0) dX1_emptyMinutes_0 (by decide) 1 rfl ?_
  refine nw_istore_n C [(1, .int (nI 0)), (0, .ref x)] dX1_emptyMinutes_1 (by decide) rfl 2 rfl ?_
  refine nw_iconst C (nI 0) dX1_emptyMinutes_2 (by decide) 3 rfl ?_
  refine nw_istore_n C [(2, .int (nI 0)), (1, .int (nI 0)), (0, .ref x)] dX1_emptyMinutes_3 (by decide) rfl 4 rfl ?_
  have lp1 : ∀ (fu : Nat) (i : Nat) (m : Nat), (i ≤ 240) → (m = sp_cnt (fun t => decide (0 < sp_emptyPosts (sg_gu σ) (sg_po σ) t)) i) → 240 - i < fu → nwV X (nwNew H) (nwQE X (fun v H1 => v = some (.int (nI (sp_emptyMinutes (sg_gu σ) (sg_po σ)))) ∧ H1 = H) nwNo (nwNew H) 0 0) 3 H 0 0 4 [(0, .ref x), (1, .int (nI m)), (2, .int (nI i))] [] := by
    intro fu
    induction fu with
    | zero => intro i m _ _ hm; exact absurd hm (Nat.not_lt_zero _)
    | succ fu ih_lp1 =>
      intro i m hi hmm hm
      refine nw_iload_n C 2 dX1_emptyMinutes_4 rfl 5 rfl ?_
      refine nw_sipush C (nI 240) dX1_emptyMinutes_5 (by decide) 8 rfl ?_
      refine nw_icmpgeN C (by omega) 33 dX1_emptyMinutes_8 (by decide) 11 rfl (fun h2 => ?_) (fun h2 => ?_)
      · refine nw_iload_n C 1 dX1_emptyMinutes_33 rfl 34 rfl ?_
        exact nw_iret C dX1_emptyMinutes_34 (Nat.le_refl _) (Nat.le_refl _) ⟨congrArg (fun z => some (Value.int (nI z))) (show (m) = (sp_emptyMinutes (sg_gu σ) (sg_po σ)) from (by rw [hmm, show i = 240 by omega]; rfl)), rfl⟩
      · refine nw_iload_n C 1 dX1_emptyMinutes_11 rfl 12 rfl ?_
        refine nw_aload_n C 0 dX1_emptyMinutes_12 rfl 13 rfl ?_
        refine nw_iload_n C 2 dX1_emptyMinutes_13 rfl 14 rfl ?_
        refine nw_callV C (mX1_emptyPosts _ C.hfl d ro ad x σ sm i H hB hW ok (by omega)) kX1_emptyPosts q521 (hx.is C (ci := 0) rfl) (As := [.int (nI i)]) (rest := [.int (nI m)]) rfl rfl ⟨⟨Nat.le_of_ble_eq_true rfl, Nat.le_of_ble_eq_true rfl⟩, Nat.le_of_ble_eq_true rfl, Nat.le_of_ble_eq_true rfl⟩ (Nat.le_of_ble_eq_true rfl) (fun _ h8 h9 => absurd h9 (Nat.not_le.mpr h8)) dX1_emptyMinutes_14 17 rfl (nw_rdK ?_) nw_noX
        have hep : sp_emptyPosts (sg_gu σ) (sg_po σ) i ≤ 4 := by have := sp_cnt_le (fun k => sp_empty (sg_gu σ) ((sg_po σ).2 k) i) (sg_po σ).1; have h8 := okp.1; unfold sp_emptyPosts; omega
        refine nw_ifleN C (by omega) 24 dX1_emptyMinutes_17 (by decide) 20 rfl (fun h3 => ?_) (fun h3 => ?_)
        · refine nw_iconst C (nI 0) dX1_emptyMinutes_24 (by decide) 25 rfl ?_
          refine nw_iaddN C dX1_emptyMinutes_25 26 rfl ?_
          refine nw_istore_n C [(1, .int (nI (m + 0))), (0, .ref x), (2, .int (nI i))] dX1_emptyMinutes_26 (by decide) rfl 27 rfl ?_
          refine nw_iincN C 2 (c0 := 1) [(2, .int (nI (i + 1))), (1, .int (nI (m + 0))), (0, .ref x)] dX1_emptyMinutes_27 rfl (by decide) rfl 30 rfl ?_
          refine nw_goto C 4 dX1_emptyMinutes_30 (by decide) ?_
          exact (nw_sub [2, 1, 0] rfl (ih_lp1 (i + 1) m (by omega) (by rw [sp_cnt_f (p := fun t => decide (0 < sp_emptyPosts (sg_gu σ) (sg_po σ) t)) (n := i) (by simp; omega)]; omega) (by omega)))
        · refine nw_iconst C (nI 1) dX1_emptyMinutes_20 (by decide) 21 rfl ?_
          refine nw_goto C 25 dX1_emptyMinutes_21 (by decide) ?_
          refine nw_iaddN C dX1_emptyMinutes_25 26 rfl ?_
          refine nw_istore_n C [(1, .int (nI (m + 1))), (0, .ref x), (2, .int (nI i))] dX1_emptyMinutes_26 (by decide) rfl 27 rfl ?_
          refine nw_iincN C 2 (c0 := 1) [(2, .int (nI (i + 1))), (1, .int (nI (m + 1))), (0, .ref x)] dX1_emptyMinutes_27 rfl (by decide) rfl 30 rfl ?_
          refine nw_goto C 4 dX1_emptyMinutes_30 (by decide) ?_
          exact (nw_sub [2, 1, 0] rfl (ih_lp1 (i + 1) (m + 1) (by omega) (by rw [sp_cnt_t (p := fun t => decide (0 < sp_emptyPosts (sg_gu σ) (sg_po σ) t)) (n := i) (by simp; omega)]; omega) (by omega)))
  exact (nw_sub [2, 1, 0] rfl (lp1 _ 0 0 (Nat.zero_le _) rfl (Nat.lt_succ_self _)))
set_option maxHeartbeats 4000000 in
theorem mX1_sign (l : Launch) (hf : l.flags = flags0) (d : nwD) (ro ad : Nat → Nat) (x : Nat) (σ : spSg) (sm : Int64) (c t : Nat) (H : Heap) (hB : nd_B d ≤ H.size) (hW : nwWC d ro ad x σ sm H) (ok : spOk σ) (hc : c < gr_n (sg_gr σ)) (ht : t < 2 ^ 31) : nwRd l d yX1_sign cX1_sign 5 (some .char) 8 182 [.ref x, .int (nI c), .int (nI t)] H (some (.int (nI (sp_signC σ c t)))) := by
  refine nw_rd "NightwatchWall" "sign" hf (by decide +kernel) rfl rfl hB (Nat.le_of_ble_eq_true rfl) ?_
  intro X C
  obtain ⟨hx, hcG, hcLa, hcFo, hcGu, hcPo, hcIn, hcWi, hcWo, hcKe⟩ := id hW
  obtain ⟨okg, okl, okf, oku, okp, oki, okw, okd, okk, oka⟩ := id ok
  have hn64 : gr_n (sg_gr σ) ≤ 64 := okg.n
  have hE := C.E0
  obtain ⟨hgro, hgrl, hgrg⟩ := hcG.here hc
  have hk4 : gr_k (sg_gr σ) c < 4 := hgro.2 c hc
  show nwV X _ _ 5 H 0 0 0 [(0, .ref x), (1, .int (nI c)), (2, .int (nI t))] []
  refine nw_aload_n C 0 dX1_sign_0 rfl 1 rfl ?_
  refine nw_iload_n C 1 dX1_sign_1 rfl 2 rfl ?_
  refine nw_iload_n C 2 dX1_sign_2 rfl 3 rfl ?_
  refine nw_callV C (mX1_guardsOn _ C.hfl d ro ad x σ sm c t H hB hW ok (by omega) (by omega)) kX1_guardsOn q525 (hx.is C (ci := 0) rfl) (As := [.int (nI c), .int (nI t)]) (rest := []) rfl rfl ⟨⟨Nat.le_of_ble_eq_true rfl, Nat.le_of_ble_eq_true rfl⟩, Nat.le_of_ble_eq_true rfl, Nat.le_of_ble_eq_true rfl⟩ (Nat.le_of_ble_eq_true rfl) (fun _ h8 h9 => absurd h9 (Nat.not_le.mpr h8)) dX1_sign_3 6 rfl (nw_rdK ?_) nw_noX
  refine nw_istore_n C [(3, .int (sp_guardsOn (sg_gu σ) c t)), (0, .ref x), (1, .int (nI c)), (2, .int (nI t))] dX1_sign_6 (by decide) rfl 7 rfl ?_
  refine nw_iload_n C 0 dX1_sign_7 rfl 8 rfl ?_
  refine nw_ifeq C 20 dX1_sign_8 (by decide) 11 rfl (fun h1 => ?_) (fun h1 => ?_)
  · have hf9 : sp_fst (sp_onc (sg_gu σ) c t) 0 (sg_gu σ).1 = none := by
      rcases hf8 : sp_fst (sp_onc (sg_gu σ) c t) 0 (sg_gu σ).1 with _ | j
      · rfl
      · exact absurd h1 (nw_ntz_some oku.1 hf8).1
    refine nw_aload_n C 1 dX1_sign_20 rfl 21 rfl ?_
    refine nw_get C hx (T := TX1) rfl in_X1 0 (by decide) q221 (Or.inl rfl) rfl dX1_sign_21 24 rfl ?_
    refine nw_callV C (mJ0_get _ C.hfl d (ad 0) (ad 9) H hB hgrl) kJ0_get q280 (hgrl.is C (ci := 15) rfl) (As := []) (rest := []) rfl rfl ⟨⟨Nat.le_of_ble_eq_true rfl, Nat.le_of_ble_eq_true rfl⟩, Nat.le_of_ble_eq_true rfl, Nat.le_of_ble_eq_true rfl⟩ (Nat.le_of_ble_eq_true rfl) (fun _ h8 h9 => absurd h9 (Nat.not_le.mpr h8)) dX1_sign_24 27 rfl (nw_rdK ?_) nw_noX
    refine nw_cast C (ci := 1) rfl (hgrg.1.is C (ci := 1) rfl) q284 dX1_sign_27 30 rfl ?_
    refine nw_getN C hgrg.1 (T := TX6) rfl in_X6 2 (by decide) q736 rfl rfl dX1_sign_30 33 rfl ?_
    refine nw_iload_n C 2 dX1_sign_33 rfl 34 rfl ?_
    refine nw_aaldKN C (nd_st d (gr_k (sg_gr σ) c)) hgrg.2 (by omega) rfl dX1_sign_34 35 rfl ?_
    refine nw_astore C [(4, .ref (nd_st d (gr_k (sg_gr σ) c))), (3, .int (sp_guardsOn (sg_gu σ) c t)), (0, .ref x), (1, .int (nI c)), (2, .int (nI t))] dX1_sign_35 (by decide) rfl 37 rfl ?_
    refine nw_aload C 0 dX1_sign_37 rfl 39 rfl ?_
    refine nw_gets C (v := .ref (nd_st d 0)) (fun _ _ h9 => h9.2.2.1.1) q748 dX1_sign_39 42 rfl ?_
    refine nw_acmpne C 59 dX1_sign_42 (by decide) 45 rfl (fun h2 => ?_) (fun h2 => ?_)
    · refine nw_aload C 0 dX1_sign_59 rfl 61 rfl ?_
      refine nw_sign C hB hk4 q1362 ⟨⟨Nat.le_of_ble_eq_true rfl, Nat.le_of_ble_eq_true rfl⟩, Nat.le_of_ble_eq_true rfl, Nat.le_of_ble_eq_true rfl⟩ (Nat.le_of_ble_eq_true rfl) dX1_sign_61 64 rfl ?_
      exact nw_nret C dX1_sign_64 (nw_narB _ (by first | omega | exact sp_sign_lt _)) (Nat.le_refl _) (Nat.le_refl _) ⟨congrArg (fun z => some (Value.int (nI z))) (show (sp_sign (gr_k (sg_gr σ) c)) = (sp_signC σ c t) from (by have z0 := (nw_kF h2).symm; unfold sp_signC; rw [hf9]; dsimp only; rw [z0]; rfl)), rfl⟩
    · refine nw_aload_n C 2 dX1_sign_45 rfl 46 rfl ?_
      refine nw_iload_n C 3 dX1_sign_46 rfl 47 rfl ?_
      refine nw_iload_n C 4 dX1_sign_47 rfl 48 rfl ?_
      refine nw_callV C (mX1_isWatched _ C.hfl d ro ad x σ sm c t H hB hW ok (by omega) (by omega)) kX1_isWatched q412 (hx.is C (ci := 0) rfl) (As := [.int (nI c), .int (nI t)]) (rest := []) rfl rfl ⟨⟨Nat.le_of_ble_eq_true rfl, Nat.le_of_ble_eq_true rfl⟩, Nat.le_of_ble_eq_true rfl, Nat.le_of_ble_eq_true rfl⟩ (Nat.le_of_ble_eq_true rfl) (fun _ h8 h9 => absurd h9 (Nat.not_le.mpr h8)) dX1_sign_48 51 rfl (nw_rdK ?_) nw_noX
      refine nw_ifeqB C 59 dX1_sign_51 (by decide) 54 rfl (fun h3 => ?_) (fun h3 => ?_)
      · refine nw_aload C 0 dX1_sign_59 rfl 61 rfl ?_
        refine nw_sign C hB hk4 q1362 ⟨⟨Nat.le_of_ble_eq_true rfl, Nat.le_of_ble_eq_true rfl⟩, Nat.le_of_ble_eq_true rfl, Nat.le_of_ble_eq_true rfl⟩ (Nat.le_of_ble_eq_true rfl) dX1_sign_61 64 rfl ?_
        exact nw_nret C dX1_sign_64 (nw_narB _ (by first | omega | exact sp_sign_lt _)) (Nat.le_refl _) (Nat.le_refl _) ⟨congrArg (fun z => some (Value.int (nI z))) (show (sp_sign (gr_k (sg_gr σ) c)) = (sp_signC σ c t) from (by have z0 := (nw_kT C hk4 (by decide) h2).symm; unfold sp_signC; rw [hf9]; dsimp only; rw [z0]; simp [h3]; rfl)), rfl⟩
      · refine nw_bipush C (nI 58) dX1_sign_54 (by decide) 56 rfl ?_
        refine nw_goto C 64 dX1_sign_56 (by decide) ?_
        exact nw_nret C dX1_sign_64 (nw_narB _ (by first | omega | exact sp_sign_lt _)) (Nat.le_refl _) (Nat.le_refl _) ⟨congrArg (fun z => some (Value.int (nI z))) (show (58) = (sp_signC σ c t) from (by have z0 := (nw_kT C hk4 (by decide) h2).symm; unfold sp_signC; rw [hf9]; dsimp only; rw [z0]; simp [h3])), rfl⟩
  · refine nw_bipush C (nI 48) dX1_sign_11 (by decide) 13 rfl ?_
    refine nw_iload_n C 0 dX1_sign_13 rfl 14 rfl ?_
    rcases hf9 : sp_fst (sp_onc (sg_gu σ) c t) 0 (sg_gu σ).1 with _ | j
    · exact absurd (nw_ntz_none oku.1 hf9) h1
    have hj9 := (sp_fst_some hf9).2.1
    have hj6 : j < 6 := by have := oku.1; omega
    have hx9 := (nw_ntz_some oku.1 hf9).2
    refine nw_callS C (mJ19_numberOfTrailingZeros _ C.hfl d (sp_guardsOn (sg_gu σ) c t) j H hB hj6 hx9) kJ19_numberOfTrailingZeros q1358 (As := [.int (sp_guardsOn (sg_gu σ) c t)]) (rest := [.int (nI 48)]) rfl rfl ⟨⟨Nat.le_of_ble_eq_true rfl, Nat.le_of_ble_eq_true rfl⟩, Nat.le_of_ble_eq_true rfl, Nat.le_of_ble_eq_true rfl⟩ (Nat.le_of_ble_eq_true rfl) (fun _ h8 h9 => absurd h9 (Nat.not_le.mpr h8)) dX1_sign_14 17 rfl (nw_rdK ?_) nw_noX
    refine nw_iaddN C dX1_sign_17 18 rfl ?_
    refine nw_i2c C (nI (48 + j)) dX1_sign_18 (nw_i2cB _ (by omega)) 19 rfl ?_
    exact nw_nret C dX1_sign_19 (nw_narB _ (by first | omega | exact sp_sign_lt _)) (Nat.le_refl _) (Nat.le_refl _) ⟨congrArg (fun z => some (Value.int (nI z))) (show (48 + j) = (sp_signC σ c t) from (by unfold sp_signC; rw [hf9])), rfl⟩
