/-! ===== the JDK's small methods; the ground ===== -/
theorem kX6_row : nwPV "NightwatchWall$Ground" yX6_row cX6_row 2 (some .int) 1 := ⟨⟨q450, q451, q101, q452⟩, rfl, by decide +kernel, by decide +kernel, by decide +kernel⟩
theorem kX6_column : nwPV "NightwatchWall$Ground" yX6_column cX6_column 2 (some .int) 1 := ⟨⟨q457, q458, q101, q459⟩, rfl, by decide +kernel, by decide +kernel, by decide +kernel⟩
set_option maxHeartbeats 4000000 in
theorem mJ19_signum (l : Launch) (hf : l.flags = flags0) (d : nwD) (x : Int32) (H : Heap) (hB : nd_B d ≤ H.size)  : nwRd l d yJ19_signum cJ19_signum 1 (some .int) 1 20 [.int x] H (some (.int (nw_sig x))) := by
  refine nw_rd "java/lang/Integer" "signum" hf (by decide +kernel) rfl rfl hB (Nat.le_of_ble_eq_true rfl) ?_
  intro X C
  show nwV X _ _ 1 H 0 0 0 [(0, .int x)] []
  refine nw_iload_n C 0 dJ19_signum_0 rfl 1 rfl ?_
  refine nw_bipush C (nI 31) dJ19_signum_1 (by decide) 3 rfl ?_
  refine nw_ishr C (x >>> ((nI 31) &&& 31)) dJ19_signum_3 rfl 4 rfl ?_
  refine nw_iload_n C 0 dJ19_signum_4 rfl 5 rfl ?_
  refine nw_ineg C (-x) dJ19_signum_5 rfl 6 rfl ?_
  refine nw_bipush C (nI 31) dJ19_signum_6 (by decide) 8 rfl ?_
  refine nw_iushr C (((-x).toUInt32 >>> ((nI 31).toUInt32 &&& Int32.toUInt32 31)).toInt32) dJ19_signum_8 rfl 9 rfl ?_
  refine nw_ior C ((x >>> ((nI 31) &&& 31)) ||| (((-x).toUInt32 >>> ((nI 31).toUInt32 &&& Int32.toUInt32 31)).toInt32)) dJ19_signum_9 rfl 10 rfl ?_
  exact nw_iret C dJ19_signum_10 (Nat.le_refl _) (Nat.le_refl _) ⟨congrArg (fun z => some (Value.int z)) (show ((x >>> ((nI 31) &&& 31)) ||| (((-x).toUInt32 >>> ((nI 31).toUInt32 &&& Int32.toUInt32 31)).toInt32)) = (nw_sig x) from rfl), rfl⟩
set_option maxHeartbeats 4000000 in
theorem mX6_size (l : Launch) (hf : l.flags = flags0) (d : nwD) (g ka : Nat) (gr : spGr)  (H : Heap) (hB : nd_B d ≤ H.size) (hG : nwGr d g ka gr H) (ho : spGrOk gr)  : nwRd l d yX6_size cX6_size 1 (some .int) 1 20 [.ref g] H (some (.int (nI (gr_n gr)))) := by
  refine nw_rd "NightwatchWall$Ground" "size" hf (by decide +kernel) rfl rfl hB (Nat.le_of_ble_eq_true rfl) ?_
  intro X C
  obtain ⟨⟨hw1, hw2, hh1, hh2⟩, hk4⟩ := id ho
  have hn64 := ho.n
  show nwV X _ _ 1 H 0 0 0 [(0, .ref g)] []
  refine nw_aload_n C 0 dX6_size_0 rfl 1 rfl ?_
  refine nw_get C hG.1 (T := TX6) rfl in_X6 2 (by decide) q735 (Or.inl rfl) rfl dX6_size_1 4 rfl ?_
  refine nw_alenR C hG.2 (by decide) dX6_size_4 5 rfl ?_
  exact nw_iret C dX6_size_5 (Nat.le_refl _) (Nat.le_refl _) ⟨rfl, rfl⟩
set_option maxHeartbeats 4000000 in
theorem mX6_row (l : Launch) (hf : l.flags = flags0) (d : nwD) (g ka : Nat) (gr : spGr) (c : Nat) (H : Heap) (hB : nd_B d ≤ H.size) (hG : nwGr d g ka gr H) (ho : spGrOk gr) (hc : c < 2 ^ 31) : nwRd l d yX6_row cX6_row 2 (some .int) 1 20 [.ref g, .int (nI c)] H (some (.int (nI (c / gr_w gr)))) := by
  refine nw_rd "NightwatchWall$Ground" "row" hf (by decide +kernel) rfl rfl hB (Nat.le_of_ble_eq_true rfl) ?_
  intro X C
  obtain ⟨⟨hw1, hw2, hh1, hh2⟩, hk4⟩ := id ho
  have hn64 := ho.n
  show nwV X _ _ 2 H 0 0 0 [(0, .ref g), (1, .int (nI c))] []
  refine nw_iload_n C 1 dX6_row_0 rfl 1 rfl ?_
  refine nw_aload_n C 0 dX6_row_1 rfl 2 rfl ?_
  refine nw_get C hG.1 (T := TX6) rfl in_X6 0 (by decide) q731 (Or.inl rfl) rfl dX6_row_2 5 rfl ?_
  refine nw_idivN C (by omega) dX6_row_5 6 rfl ?_
  exact nw_iret C dX6_row_6 (Nat.le_refl _) (Nat.le_refl _) ⟨congrArg (fun z => some (Value.int (nI z))) (show (c / (gr_w gr)) = (c / gr_w gr) from rfl), rfl⟩
set_option maxHeartbeats 4000000 in
theorem mX6_column (l : Launch) (hf : l.flags = flags0) (d : nwD) (g ka : Nat) (gr : spGr) (c : Nat) (H : Heap) (hB : nd_B d ≤ H.size) (hG : nwGr d g ka gr H) (ho : spGrOk gr) (hc : c < 2 ^ 31) : nwRd l d yX6_column cX6_column 2 (some .int) 1 20 [.ref g, .int (nI c)] H (some (.int (nI (c % gr_w gr)))) := by
  refine nw_rd "NightwatchWall$Ground" "column" hf (by decide +kernel) rfl rfl hB (Nat.le_of_ble_eq_true rfl) ?_
  intro X C
  obtain ⟨⟨hw1, hw2, hh1, hh2⟩, hk4⟩ := id ho
  have hn64 := ho.n
  show nwV X _ _ 2 H 0 0 0 [(0, .ref g), (1, .int (nI c))] []
  refine nw_iload_n C 1 dX6_column_0 rfl 1 rfl ?_
  refine nw_aload_n C 0 dX6_column_1 rfl 2 rfl ?_
  refine nw_get C hG.1 (T := TX6) rfl in_X6 0 (by decide) q731 (Or.inl rfl) rfl dX6_column_2 5 rfl ?_
  refine nw_iremN C (by omega) dX6_column_5 6 rfl ?_
  exact nw_iret C dX6_column_6 (Nat.le_refl _) (Nat.le_refl _) ⟨congrArg (fun z => some (Value.int (nI z))) (show (c % (gr_w gr)) = (c % gr_w gr) from rfl), rfl⟩
set_option maxHeartbeats 4000000 in
theorem mX6_isWall (l : Launch) (hf : l.flags = flags0) (d : nwD) (g ka : Nat) (gr : spGr) (c : Nat) (H : Heap) (hB : nd_B d ≤ H.size) (hG : nwGr d g ka gr H) (ho : spGrOk gr) (hc : c < gr_n gr) : nwRd l d yX6_isWall cX6_isWall 2 (some .boolean) 1 20 [.ref g, .int (nI c)] H (some (.int (b2i (gr_k gr c == 1)))) := by
  refine nw_rd "NightwatchWall$Ground" "isWall" hf (by decide +kernel) rfl rfl hB (Nat.le_of_ble_eq_true rfl) ?_
  intro X C
  obtain ⟨⟨hw1, hw2, hh1, hh2⟩, hk4⟩ := id ho
  have hn64 := ho.n
  show nwV X _ _ 2 H 0 0 0 [(0, .ref g), (1, .int (nI c))] []
  refine nw_aload_n C 0 dX6_isWall_0 rfl 1 rfl ?_
  refine nw_get C hG.1 (T := TX6) rfl in_X6 2 (by decide) q735 (Or.inl rfl) rfl dX6_isWall_1 4 rfl ?_
  refine nw_iload_n C 1 dX6_isWall_4 rfl 5 rfl ?_
  refine nw_aaldKN C (nd_st d (gr_k gr c)) hG.2 (by omega) rfl dX6_isWall_5 6 rfl ?_
  refine nw_gets C (v := .ref (nd_st d 1)) (fun _ _ h9 => h9.2.2.1.2.1) q293 dX6_isWall_6 9 rfl ?_
  refine nw_acmpne C 16 dX6_isWall_9 (by decide) 12 rfl (fun h1 => ?_) (fun h1 => ?_)
  · refine nw_iconst C (nI 0) dX6_isWall_16 (by decide) 17 rfl ?_
    exact nw_nret C dX6_isWall_17 (b2i_narrow false) (Nat.le_refl _) (Nat.le_refl _) ⟨congrArg (fun z => some (Value.int (b2i z))) (show (false) = (gr_k gr c == 1) from nw_kF h1), rfl⟩
  · refine nw_iconst C (nI 1) dX6_isWall_12 (by decide) 13 rfl ?_
    refine nw_goto C 17 dX6_isWall_13 (by decide) ?_
    exact nw_nret C dX6_isWall_17 (b2i_narrow true) (Nat.le_refl _) (Nat.le_refl _) ⟨congrArg (fun z => some (Value.int (b2i z))) (show (true) = (gr_k gr c == 1) from nw_kT C (hk4 c hc) (by decide) h1), rfl⟩
set_option maxHeartbeats 4000000 in
theorem mX6_moved (l : Launch) (hf : l.flags = flags0) (d : nwD) (g ka : Nat) (gr : spGr) (c m : Nat) (H : Heap) (hB : nd_B d ≤ H.size) (hG : nwGr d g ka gr H) (ho : spGrOk gr) (hc : c < gr_n gr) (hm : m < 2 ^ 31) : nwRd l d yX6_moved cX6_moved 3 (some .int) 2 41 [.ref g, .int (nI c), .int (nI m)] H (some (.int (oI (sp_moved gr c m)))) := by
  refine nw_rd "NightwatchWall$Ground" "moved" hf (by decide +kernel) rfl rfl hB (Nat.le_of_ble_eq_true rfl) ?_
  intro X C
  obtain ⟨⟨hw1, hw2, hh1, hh2⟩, hk4⟩ := id ho
  have hn64 := ho.n
  have hr1 := ho.row hc
  have hc1 := ho.col c
  have hd1 : gr_w gr * (c / gr_w gr) + c % gr_w gr = c := Nat.div_add_mod _ _
  have hcw : 0 < c / gr_w gr → gr_w gr ≤ c := fun h => by have h5 : gr_w gr * 1 ≤ gr_w gr * (c / gr_w gr) := Nat.mul_le_mul_left _ h
                                                          omega
  show nwV X _ _ 3 H 0 0 0 [(0, .ref g), (1, .int (nI c)), (2, .int (nI m))] []
  refine nw_iload_n C 2 dX6_moved_0 rfl 1 rfl ?_
  rcases Nat.decEq m 0 with h1 | h1
  rotate_left
  · have h1s := h1
    refine nw_tabInN C (off := 31) h1 (by decide) 32 dX6_moved_1 (by decide) (by decide) rfl (by decide) ?_
    refine nw_iload_n C 1 dX6_moved_32 rfl 33 rfl ?_
    exact nw_iret C dX6_moved_33 (Nat.le_refl _) (Nat.le_refl _) ⟨congrArg (fun z => some (Value.int (oI z))) (show (some c) = (sp_moved gr c m) from by
          simp only [sp_moved]
          (repeat' split) <;> first | rfl | omega | (exfalso; omega)), rfl⟩
  rcases Nat.decEq m 1 with h2 | h2
  rotate_left
  · have h2s := h2
    refine nw_tabInN C (off := 33) h2 (by decide) 34 dX6_moved_1 (by decide) (by decide) rfl (by decide) ?_
    refine nw_aload_n C 0 dX6_moved_34 rfl 35 rfl ?_
    refine nw_iload_n C 1 dX6_moved_35 rfl 36 rfl ?_
    refine nw_callV C (mX6_row _ C.hfl d g ka gr c H hB hG ho (by omega)) kX6_row q449 (hG.1.is C (ci := 1) rfl) (As := [.int (nI c)]) (rest := []) rfl rfl ⟨⟨Nat.le_of_ble_eq_true rfl, Nat.le_of_ble_eq_true rfl⟩, Nat.le_of_ble_eq_true rfl, Nat.le_of_ble_eq_true rfl⟩ (Nat.le_of_ble_eq_true rfl) (fun _ h8 h9 => absurd h9 (Nat.not_le.mpr h8)) dX6_moved_36 39 rfl (nw_rdK ?_) nw_noX
    refine nw_ifleN C (by omega) 51 dX6_moved_39 (by decide) 42 rfl (fun h3 => ?_) (fun h3 => ?_)
    · refine nw_iconst C (oI none) dX6_moved_51 (by decide) 52 rfl ?_
      exact nw_iret C dX6_moved_52 (Nat.le_refl _) (Nat.le_refl _) ⟨congrArg (fun z => some (Value.int (oI z))) (show (none) = (sp_moved gr c m) from by
            simp only [sp_moved]
            (repeat' split) <;> first | rfl | omega | (exfalso; omega)), rfl⟩
    · refine nw_iload_n C 1 dX6_moved_42 rfl 43 rfl ?_
      refine nw_aload_n C 0 dX6_moved_43 rfl 44 rfl ?_
      refine nw_get C hG.1 (T := TX6) rfl in_X6 0 (by decide) q731 (Or.inl rfl) rfl dX6_moved_44 47 rfl ?_
      refine nw_isubN C (by omega) dX6_moved_47 48 rfl ?_
      refine nw_goto C 52 dX6_moved_48 (by decide) ?_
      exact nw_iret C dX6_moved_52 (Nat.le_refl _) (Nat.le_refl _) ⟨congrArg (fun z => some (Value.int (oI z))) (show (some (c - (gr_w gr))) = (sp_moved gr c m) from by
            simp only [sp_moved]
            (repeat' split) <;> first | rfl | omega | (exfalso; omega)), rfl⟩
  rcases Nat.decEq m 2 with h4 | h4
  rotate_left
  · have h4s := h4
    refine nw_tabInN C (off := 52) h4 (by decide) 53 dX6_moved_1 (by decide) (by decide) rfl (by decide) ?_
    refine nw_aload_n C 0 dX6_moved_53 rfl 54 rfl ?_
    refine nw_iload_n C 1 dX6_moved_54 rfl 55 rfl ?_
    refine nw_callV C (mX6_column _ C.hfl d g ka gr c H hB hG ho (by omega)) kX6_column q456 (hG.1.is C (ci := 1) rfl) (As := [.int (nI c)]) (rest := []) rfl rfl ⟨⟨Nat.le_of_ble_eq_true rfl, Nat.le_of_ble_eq_true rfl⟩, Nat.le_of_ble_eq_true rfl, Nat.le_of_ble_eq_true rfl⟩ (Nat.le_of_ble_eq_true rfl) (fun _ h8 h9 => absurd h9 (Nat.not_le.mpr h8)) dX6_moved_55 58 rfl (nw_rdK ?_) nw_noX
    refine nw_aload_n C 0 dX6_moved_58 rfl 59 rfl ?_
    refine nw_get C hG.1 (T := TX6) rfl in_X6 0 (by decide) q731 (Or.inl rfl) rfl dX6_moved_59 62 rfl ?_
    refine nw_iconst C (nI 1) dX6_moved_62 (by decide) 63 rfl ?_
    refine nw_isubN C (by omega) dX6_moved_63 64 rfl ?_
    refine nw_icmpgeN C (by omega) 73 dX6_moved_64 (by decide) 67 rfl (fun h5 => ?_) (fun h5 => ?_)
    · refine nw_iconst C (oI none) dX6_moved_73 (by decide) 74 rfl ?_
      exact nw_iret C dX6_moved_74 (Nat.le_refl _) (Nat.le_refl _) ⟨congrArg (fun z => some (Value.int (oI z))) (show (none) = (sp_moved gr c m) from by
            simp only [sp_moved]
            (repeat' split) <;> first | rfl | omega | (exfalso; omega)), rfl⟩
    · refine nw_iload_n C 1 dX6_moved_67 rfl 68 rfl ?_
      refine nw_iconst C (nI 1) dX6_moved_68 (by decide) 69 rfl ?_
      refine nw_iaddN C dX6_moved_69 70 rfl ?_
      refine nw_goto C 74 dX6_moved_70 (by decide) ?_
      exact nw_iret C dX6_moved_74 (Nat.le_refl _) (Nat.le_refl _) ⟨congrArg (fun z => some (Value.int (oI z))) (show (some (c + 1)) = (sp_moved gr c m) from by
            simp only [sp_moved]
            (repeat' split) <;> first | rfl | omega | (exfalso; omega)), rfl⟩
  rcases Nat.decEq m 3 with h6 | h6
  rotate_left
  · have h6s := h6
    refine nw_tabInN C (off := 74) h6 (by decide) 75 dX6_moved_1 (by decide) (by decide) rfl (by decide) ?_
    refine nw_aload_n C 0 dX6_moved_75 rfl 76 rfl ?_
    refine nw_iload_n C 1 dX6_moved_76 rfl 77 rfl ?_
    refine nw_callV C (mX6_row _ C.hfl d g ka gr c H hB hG ho (by omega)) kX6_row q449 (hG.1.is C (ci := 1) rfl) (As := [.int (nI c)]) (rest := []) rfl rfl ⟨⟨Nat.le_of_ble_eq_true rfl, Nat.le_of_ble_eq_true rfl⟩, Nat.le_of_ble_eq_true rfl, Nat.le_of_ble_eq_true rfl⟩ (Nat.le_of_ble_eq_true rfl) (fun _ h8 h9 => absurd h9 (Nat.not_le.mpr h8)) dX6_moved_77 80 rfl (nw_rdK ?_) nw_noX
    refine nw_aload_n C 0 dX6_moved_80 rfl 81 rfl ?_
    refine nw_get C hG.1 (T := TX6) rfl in_X6 1 (by decide) q733 (Or.inl rfl) rfl dX6_moved_81 84 rfl ?_
    refine nw_iconst C (nI 1) dX6_moved_84 (by decide) 85 rfl ?_
    refine nw_isubN C (by omega) dX6_moved_85 86 rfl ?_
    refine nw_icmpgeN C (by omega) 98 dX6_moved_86 (by decide) 89 rfl (fun h7 => ?_) (fun h7 => ?_)
    · refine nw_iconst C (oI none) dX6_moved_98 (by decide) 99 rfl ?_
      exact nw_iret C dX6_moved_99 (Nat.le_refl _) (Nat.le_refl _) ⟨congrArg (fun z => some (Value.int (oI z))) (show (none) = (sp_moved gr c m) from by
            simp only [sp_moved]
            (repeat' split) <;> first | rfl | omega | (exfalso; omega)), rfl⟩
    · refine nw_iload_n C 1 dX6_moved_89 rfl 90 rfl ?_
      refine nw_aload_n C 0 dX6_moved_90 rfl 91 rfl ?_
      refine nw_get C hG.1 (T := TX6) rfl in_X6 0 (by decide) q731 (Or.inl rfl) rfl dX6_moved_91 94 rfl ?_
      refine nw_iaddN C dX6_moved_94 95 rfl ?_
      refine nw_goto C 99 dX6_moved_95 (by decide) ?_
      exact nw_iret C dX6_moved_99 (Nat.le_refl _) (Nat.le_refl _) ⟨congrArg (fun z => some (Value.int (oI z))) (show (some (c + (gr_w gr))) = (sp_moved gr c m) from by
            simp only [sp_moved]
            (repeat' split) <;> first | rfl | omega | (exfalso; omega)), rfl⟩
  refine nw_tabOutN C (lo := 0) (hi := 3) (by omega) (by omega) 100 dX6_moved_1 (by decide) ?_
  refine nw_aload_n C 0 dX6_moved_100 rfl 101 rfl ?_
  refine nw_iload_n C 1 dX6_moved_101 rfl 102 rfl ?_
  refine nw_callV C (mX6_column _ C.hfl d g ka gr c H hB hG ho (by omega)) kX6_column q456 (hG.1.is C (ci := 1) rfl) (As := [.int (nI c)]) (rest := []) rfl rfl ⟨⟨Nat.le_of_ble_eq_true rfl, Nat.le_of_ble_eq_true rfl⟩, Nat.le_of_ble_eq_true rfl, Nat.le_of_ble_eq_true rfl⟩ (Nat.le_of_ble_eq_true rfl) (fun _ h8 h9 => absurd h9 (Nat.not_le.mpr h8)) dX6_moved_102 105 rfl (nw_rdK ?_) nw_noX
  refine nw_ifleN C (by omega) 114 dX6_moved_105 (by decide) 108 rfl (fun h8 => ?_) (fun h8 => ?_)
  · refine nw_iconst C (oI none) dX6_moved_114 (by decide) 115 rfl ?_
    exact nw_iret C dX6_moved_115 (Nat.le_refl _) (Nat.le_refl _) ⟨congrArg (fun z => some (Value.int (oI z))) (show (none) = (sp_moved gr c m) from by
          simp only [sp_moved]
          (repeat' split) <;> first | rfl | omega | (exfalso; omega)), rfl⟩
  · refine nw_iload_n C 1 dX6_moved_108 rfl 109 rfl ?_
    refine nw_iconst C (nI 1) dX6_moved_109 (by decide) 110 rfl ?_
    refine nw_isubN C (by omega) dX6_moved_110 111 rfl ?_
    refine nw_goto C 115 dX6_moved_111 (by decide) ?_
    exact nw_iret C dX6_moved_115 (Nat.le_refl _) (Nat.le_refl _) ⟨congrArg (fun z => some (Value.int (oI z))) (show (some (c - 1)) = (sp_moved gr c m) from by
          simp only [sp_moved]
          (repeat' split) <;> first | rfl | omega | (exfalso; omega)), rfl⟩
set_option maxHeartbeats 4000000 in
theorem mX6_apart (l : Launch) (hf : l.flags = flags0) (d : nwD) (g ka : Nat) (gr : spGr) (a b : Nat) (H : Heap) (hB : nd_B d ≤ H.size) (hG : nwGr d g ka gr H) (ho : spGrOk gr) (hp : a < gr_n gr) (hq : b < gr_n gr) : nwRd l d yX6_apart cX6_apart 3 (some .int) 2 41 [.ref g, .int (nI a), .int (nI b)] H (some (.int (nI (sp_apart (gr_w gr) a b)))) := by
  refine nw_rd "NightwatchWall$Ground" "apart" hf (by decide +kernel) rfl rfl hB (Nat.le_of_ble_eq_true rfl) ?_
  intro X C
  obtain ⟨⟨hw1, hw2, hh1, hh2⟩, hk4⟩ := id ho
  have hn64 := ho.n
  have hr1 := ho.row hp
  have hc1 := ho.col a
  have hr2 := ho.row hq
  have hc2 := ho.col b
  have hd1 : sp_dist (a / gr_w gr) (b / gr_w gr) < 8 := sp_dist_lt (by omega) (by omega)
  have hd2 : sp_dist (a % gr_w gr) (b % gr_w gr) < 8 := sp_dist_lt (by omega) (by omega)
  show nwV X _ _ 3 H 0 0 0 [(0, .ref g), (1, .int (nI a)), (2, .int (nI b))] []
  refine nw_aload_n C 0 dX6_apart_0 rfl 1 rfl ?_
  refine nw_iload_n C 1 dX6_apart_1 rfl 2 rfl ?_
  refine nw_callV C (mX6_row _ C.hfl d g ka gr a H hB hG ho (by omega)) kX6_row q449 (hG.1.is C (ci := 1) rfl) (As := [.int (nI a)]) (rest := []) rfl rfl ⟨⟨Nat.le_of_ble_eq_true rfl, Nat.le_of_ble_eq_true rfl⟩, Nat.le_of_ble_eq_true rfl, Nat.le_of_ble_eq_true rfl⟩ (Nat.le_of_ble_eq_true rfl) (fun _ h8 h9 => absurd h9 (Nat.not_le.mpr h8)) dX6_apart_2 5 rfl (nw_rdK ?_) nw_noX
  refine nw_aload_n C 0 dX6_apart_5 rfl 6 rfl ?_
  refine nw_iload_n C 2 dX6_apart_6 rfl 7 rfl ?_
  refine nw_callV C (mX6_row _ C.hfl d g ka gr b H hB hG ho (by omega)) kX6_row q449 (hG.1.is C (ci := 1) rfl) (As := [.int (nI b)]) (rest := [.int (nI (a / gr_w gr))]) rfl rfl ⟨⟨Nat.le_of_ble_eq_true rfl, Nat.le_of_ble_eq_true rfl⟩, Nat.le_of_ble_eq_true rfl, Nat.le_of_ble_eq_true rfl⟩ (Nat.le_of_ble_eq_true rfl) (fun _ h8 h9 => absurd h9 (Nat.not_le.mpr h8)) dX6_apart_7 10 rfl (nw_rdK ?_) nw_noX
  refine nw_isub C _ dX6_apart_10 rfl 11 rfl ?_
  refine nw_mabs C (nI (sp_dist (a / gr_w gr) (b / gr_w gr))) q453 q454 q108 q455 (nw_dist2 (by omega) (by omega)) ⟨Nat.le_of_ble_eq_true rfl, Nat.le_of_ble_eq_true rfl, Nat.le_of_ble_eq_true rfl, Nat.le_of_ble_eq_true rfl⟩ (Nat.le_of_ble_eq_true rfl) dX6_apart_11 14 rfl ?_
  refine nw_aload_n C 0 dX6_apart_14 rfl 15 rfl ?_
  refine nw_iload_n C 1 dX6_apart_15 rfl 16 rfl ?_
  refine nw_callV C (mX6_column _ C.hfl d g ka gr a H hB hG ho (by omega)) kX6_column q456 (hG.1.is C (ci := 1) rfl) (As := [.int (nI a)]) (rest := [.int (nI (sp_dist (a / gr_w gr) (b / gr_w gr)))]) rfl rfl ⟨⟨Nat.le_of_ble_eq_true rfl, Nat.le_of_ble_eq_true rfl⟩, Nat.le_of_ble_eq_true rfl, Nat.le_of_ble_eq_true rfl⟩ (Nat.le_of_ble_eq_true rfl) (fun _ h8 h9 => absurd h9 (Nat.not_le.mpr h8)) dX6_apart_16 19 rfl (nw_rdK ?_) nw_noX
  refine nw_aload_n C 0 dX6_apart_19 rfl 20 rfl ?_
  refine nw_iload_n C 2 dX6_apart_20 rfl 21 rfl ?_
  refine nw_callV C (mX6_column _ C.hfl d g ka gr b H hB hG ho (by omega)) kX6_column q456 (hG.1.is C (ci := 1) rfl) (As := [.int (nI b)]) (rest := [.int (nI (a % gr_w gr)), .int (nI (sp_dist (a / gr_w gr) (b / gr_w gr)))]) rfl rfl ⟨⟨Nat.le_of_ble_eq_true rfl, Nat.le_of_ble_eq_true rfl⟩, Nat.le_of_ble_eq_true rfl, Nat.le_of_ble_eq_true rfl⟩ (Nat.le_of_ble_eq_true rfl) (fun _ h8 h9 => absurd h9 (Nat.not_le.mpr h8)) dX6_apart_21 24 rfl (nw_rdK ?_) nw_noX
  refine nw_isub C _ dX6_apart_24 rfl 25 rfl ?_
  refine nw_mabs C (nI (sp_dist (a % gr_w gr) (b % gr_w gr))) q453 q454 q108 q455 (nw_dist2 (by omega) (by omega)) ⟨Nat.le_of_ble_eq_true rfl, Nat.le_of_ble_eq_true rfl, Nat.le_of_ble_eq_true rfl, Nat.le_of_ble_eq_true rfl⟩ (Nat.le_of_ble_eq_true rfl) dX6_apart_25 28 rfl ?_
  refine nw_mmax C (nI (max (sp_dist (a / gr_w gr) (b / gr_w gr)) (sp_dist (a % gr_w gr) (b % gr_w gr)))) q482 q483 q108 q484 (nw_maxN (by omega)) ⟨Nat.le_of_ble_eq_true rfl, Nat.le_of_ble_eq_true rfl, Nat.le_of_ble_eq_true rfl, Nat.le_of_ble_eq_true rfl⟩ (Nat.le_of_ble_eq_true rfl) dX6_apart_28 31 rfl ?_
  exact nw_iret C dX6_apart_31 (Nat.le_refl _) (Nat.le_refl _) ⟨congrArg (fun z => some (Value.int (nI z))) (show (max (sp_dist (a / gr_w gr) (b / gr_w gr)) (sp_dist (a % gr_w gr) (b % gr_w gr))) = (sp_apart (gr_w gr) a b) from rfl), rfl⟩
set_option maxHeartbeats 4000000 in
theorem mX6_isInLine (l : Launch) (hf : l.flags = flags0) (d : nwD) (g ka : Nat) (gr : spGr) (a b : Nat) (H : Heap) (hB : nd_B d ≤ H.size) (hG : nwGr d g ka gr H) (ho : spGrOk gr) (hp : a < gr_n gr) (hq : b < gr_n gr) : nwRd l d yX6_isInLine cX6_isInLine 5 (some .boolean) 2 41 [.ref g, .int (nI a), .int (nI b)] H (some (.int (b2i (sp_line (gr_w gr) a b)))) := by
  refine nw_rd "NightwatchWall$Ground" "isInLine" hf (by decide +kernel) rfl rfl hB (Nat.le_of_ble_eq_true rfl) ?_
  intro X C
  obtain ⟨⟨hw1, hw2, hh1, hh2⟩, hk4⟩ := id ho
  have hn64 := ho.n
  have hr1 := ho.row hp
  have hc1 := ho.col a
  have hr2 := ho.row hq
  have hc2 := ho.col b
  have hd1 : sp_dist (a / gr_w gr) (b / gr_w gr) < 8 := sp_dist_lt (by omega) (by omega)
  have hd2 : sp_dist (a % gr_w gr) (b % gr_w gr) < 8 := sp_dist_lt (by omega) (by omega)
  show nwV X _ _ 5 H 0 0 0 [(0, .ref g), (1, .int (nI a)), (2, .int (nI b))] []
  refine nw_aload_n C 0 dX6_isInLine_0 rfl 1 rfl ?_
  refine nw_iload_n C 1 dX6_isInLine_1 rfl 2 rfl ?_
  refine nw_callV C (mX6_row _ C.hfl d g ka gr a H hB hG ho (by omega)) kX6_row q449 (hG.1.is C (ci := 1) rfl) (As := [.int (nI a)]) (rest := []) rfl rfl ⟨⟨Nat.le_of_ble_eq_true rfl, Nat.le_of_ble_eq_true rfl⟩, Nat.le_of_ble_eq_true rfl, Nat.le_of_ble_eq_true rfl⟩ (Nat.le_of_ble_eq_true rfl) (fun _ h8 h9 => absurd h9 (Nat.not_le.mpr h8)) dX6_isInLine_2 5 rfl (nw_rdK ?_) nw_noX
  refine nw_aload_n C 0 dX6_isInLine_5 rfl 6 rfl ?_
  refine nw_iload_n C 2 dX6_isInLine_6 rfl 7 rfl ?_
  refine nw_callV C (mX6_row _ C.hfl d g ka gr b H hB hG ho (by omega)) kX6_row q449 (hG.1.is C (ci := 1) rfl) (As := [.int (nI b)]) (rest := [.int (nI (a / gr_w gr))]) rfl rfl ⟨⟨Nat.le_of_ble_eq_true rfl, Nat.le_of_ble_eq_true rfl⟩, Nat.le_of_ble_eq_true rfl, Nat.le_of_ble_eq_true rfl⟩ (Nat.le_of_ble_eq_true rfl) (fun _ h8 h9 => absurd h9 (Nat.not_le.mpr h8)) dX6_isInLine_7 10 rfl (nw_rdK ?_) nw_noX
  refine nw_isub C _ dX6_isInLine_10 rfl 11 rfl ?_
  refine nw_mabs C (nI (sp_dist (a / gr_w gr) (b / gr_w gr))) q453 q454 q108 q455 (nw_dist2 (by omega) (by omega)) ⟨Nat.le_of_ble_eq_true rfl, Nat.le_of_ble_eq_true rfl, Nat.le_of_ble_eq_true rfl, Nat.le_of_ble_eq_true rfl⟩ (Nat.le_of_ble_eq_true rfl) dX6_isInLine_11 14 rfl ?_
  refine nw_istore_n C [(3, .int (nI (sp_dist (a / gr_w gr) (b / gr_w gr)))), (0, .ref g), (1, .int (nI a)), (2, .int (nI b))] dX6_isInLine_14 (by decide) rfl 15 rfl ?_
  refine nw_aload_n C 1 dX6_isInLine_15 rfl 16 rfl ?_
  refine nw_iload_n C 2 dX6_isInLine_16 rfl 17 rfl ?_
  refine nw_callV C (mX6_column _ C.hfl d g ka gr a H hB hG ho (by omega)) kX6_column q456 (hG.1.is C (ci := 1) rfl) (As := [.int (nI a)]) (rest := []) rfl rfl ⟨⟨Nat.le_of_ble_eq_true rfl, Nat.le_of_ble_eq_true rfl⟩, Nat.le_of_ble_eq_true rfl, Nat.le_of_ble_eq_true rfl⟩ (Nat.le_of_ble_eq_true rfl) (fun _ h8 h9 => absurd h9 (Nat.not_le.mpr h8)) dX6_isInLine_17 20 rfl (nw_rdK ?_) nw_noX
  refine nw_aload_n C 1 dX6_isInLine_20 rfl 21 rfl ?_
  refine nw_iload_n C 3 dX6_isInLine_21 rfl 22 rfl ?_
  refine nw_callV C (mX6_column _ C.hfl d g ka gr b H hB hG ho (by omega)) kX6_column q456 (hG.1.is C (ci := 1) rfl) (As := [.int (nI b)]) (rest := [.int (nI (a % gr_w gr))]) rfl rfl ⟨⟨Nat.le_of_ble_eq_true rfl, Nat.le_of_ble_eq_true rfl⟩, Nat.le_of_ble_eq_true rfl, Nat.le_of_ble_eq_true rfl⟩ (Nat.le_of_ble_eq_true rfl) (fun _ h8 h9 => absurd h9 (Nat.not_le.mpr h8)) dX6_isInLine_22 25 rfl (nw_rdK ?_) nw_noX
  refine nw_isub C _ dX6_isInLine_25 rfl 26 rfl ?_
  refine nw_mabs C (nI (sp_dist (a % gr_w gr) (b % gr_w gr))) q453 q454 q108 q455 (nw_dist2 (by omega) (by omega)) ⟨Nat.le_of_ble_eq_true rfl, Nat.le_of_ble_eq_true rfl, Nat.le_of_ble_eq_true rfl, Nat.le_of_ble_eq_true rfl⟩ (Nat.le_of_ble_eq_true rfl) dX6_isInLine_26 29 rfl ?_
  refine nw_istore C [(4, .int (nI (sp_dist (a % gr_w gr) (b % gr_w gr)))), (3, .int (nI (sp_dist (a / gr_w gr) (b / gr_w gr)))), (0, .ref g), (1, .int (nI a)), (2, .int (nI b))] dX6_isInLine_29 (by decide) rfl 31 rfl ?_
  refine nw_iload_n C 1 dX6_isInLine_31 rfl 32 rfl ?_
  refine nw_ifeqN C (by omega) 46 dX6_isInLine_32 (by decide) 35 rfl (fun h1 => ?_) (fun h1 => ?_)
  · refine nw_iconst C (nI 1) dX6_isInLine_46 (by decide) 47 rfl ?_
    refine nw_goto C 51 dX6_isInLine_47 (by decide) ?_
    exact nw_nret C dX6_isInLine_51 (b2i_narrow true) (Nat.le_refl _) (Nat.le_refl _) ⟨congrArg (fun z => some (Value.int (b2i z))) (show (true) = (sp_line (gr_w gr) a b) from by simp only [sp_line]; simp; omega), rfl⟩
  · refine nw_iload C 0 dX6_isInLine_35 rfl 37 rfl ?_
    refine nw_ifeqN C (by omega) 46 dX6_isInLine_37 (by decide) 40 rfl (fun h2 => ?_) (fun h2 => ?_)
    · refine nw_iconst C (nI 1) dX6_isInLine_46 (by decide) 47 rfl ?_
      refine nw_goto C 51 dX6_isInLine_47 (by decide) ?_
      exact nw_nret C dX6_isInLine_51 (b2i_narrow true) (Nat.le_refl _) (Nat.le_refl _) ⟨congrArg (fun z => some (Value.int (b2i z))) (show (true) = (sp_line (gr_w gr) a b) from by simp only [sp_line]; simp; omega), rfl⟩
    · refine nw_iload_n C 1 dX6_isInLine_40 rfl 41 rfl ?_
      refine nw_iload C 0 dX6_isInLine_41 rfl 43 rfl ?_
      refine nw_icmpneN C (by omega) 50 dX6_isInLine_43 (by decide) 46 rfl (fun h3 => ?_) (fun h3 => ?_)
      · refine nw_iconst C (nI 0) dX6_isInLine_50 (by decide) 51 rfl ?_
        exact nw_nret C dX6_isInLine_51 (b2i_narrow false) (Nat.le_refl _) (Nat.le_refl _) ⟨congrArg (fun z => some (Value.int (b2i z))) (show (false) = (sp_line (gr_w gr) a b) from by simp only [sp_line]; simp; omega), rfl⟩
      · refine nw_iconst C (nI 1) dX6_isInLine_46 (by decide) 47 rfl ?_
        refine nw_goto C 51 dX6_isInLine_47 (by decide) ?_
        exact nw_nret C dX6_isInLine_51 (b2i_narrow true) (Nat.le_refl _) (Nat.le_refl _) ⟨congrArg (fun z => some (Value.int (b2i z))) (show (true) = (sp_line (gr_w gr) a b) from by simp only [sp_line]; simp; omega), rfl⟩
