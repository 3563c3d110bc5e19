/-! ===== guards: where, whom they see ===== -/
theorem sp_on_iff {u : spGd} {t : Nat} : sp_on u t = true ↔ gd_a u ≤ t ∧ t ≤ gd_b u := by unfold sp_on; simp
theorem nw_max0 {a b : Nat} (ha : a < 2 ^ 30) (hb : b < 2 ^ 30) : (if nI 0 < nI a - nI b then nI a - nI b else nI 0) = nI (a - b) := by
  rcases Nat.lt_or_ge b a with h | h
  · rw [pk_sub (Nat.le_of_lt h), if_pos ((nI_ltI (by decide) (by omega)).mpr (by omega))]
  · have e : nI a - nI b = -(nI (b - a)) := by rw [← pk_sub h]; grind
    rw [show a - b = 0 by omega, e]
    split
    · rename_i h1
      exfalso
      have h2 := Int32.lt_iff_toInt_lt.mp h1
      rw [Int32.toInt_neg, nI_toInt (by omega : b - a < 2 ^ 31), nI_toInt (by decide : 0 < 2 ^ 31)] at h2
      rw [Int.bmod_eq_of_le] at h2 <;> omega
    · rfl
theorem sp_apart_lt {g : spGr} (ho : spGrOk g) {a b : Nat} (ha : a < gr_n g) (hb : b < gr_n g) : sp_apart (gr_w g) a b < 8 := by
  have h1 := ho.row ha
  have h2 := ho.row hb
  have h3 := ho.col a
  have h4 := ho.col b
  have h5 := ho.1
  have h6 := sp_dist_lt h1 h2
  have h7 := sp_dist_lt h3 h4
  unfold sp_apart
  omega
theorem nw_wt0 {p : Nat → Bool} {n : Nat} (hn : n ≤ 6) (h : sp_bits p n = 0) : false = sp_any p n := ((sp_bits_0 p n hn).mp h).symm
theorem nw_wt1 {p : Nat → Bool} {n : Nat} (hn : n ≤ 6) (h : ¬ sp_bits p n = 0) : true = sp_any p n := by
  cases e : sp_any p n with
  | true => rfl
  | false => exact absurd ((sp_bits_0 p n hn).mpr e) h
theorem sp_view_lt {g : spGr} (ho : spGrOk g) {u : spGd} (hk : okGd g u) {c t : Nat} (hc : c < gr_n g) : ∀ v, sp_view g u c t = some v → v < 2 ^ 31 := by
  intro v h
  unfold sp_view at h
  split at h
  · cases h
  · rename_i p hp
    split at h
    · cases h
      have := sp_apart_lt ho (hk.cell hp) hc
      omega
    · cases h
theorem kX1_isFrom : nwPS yX1_isFrom cX1_isFrom 3 (some .boolean) 3 := ⟨⟨q438, q86, q439⟩, by decide +kernel, by decide +kernel, by decide +kernel⟩
theorem kX10_isOn : nwPV "NightwatchWall$Guard" yX10_isOn cX10_isOn 2 (some .boolean) 1 := ⟨⟨q434, q435, q117, q436⟩, rfl, by decide +kernel, by decide +kernel, by decide +kernel⟩
theorem kJ19_intValue : nwPV "java/lang/Integer" yJ19_intValue cJ19_intValue 1 (some .int) 0 := ⟨⟨q366, q367, q115, q368⟩, rfl, by decide +kernel, by decide +kernel, by decide +kernel⟩
theorem kX10_isTired : nwPV "NightwatchWall$Guard" yX10_isTired cX10_isTired 2 (some .boolean) 1 := ⟨⟨q493, q494, q117, q495⟩, rfl, by decide +kernel, by decide +kernel, by decide +kernel⟩
theorem kX10_place : nwPV "NightwatchWall$Guard" yX10_place cX10_place 2 (some .int) 1 := ⟨⟨q430, q431, q117, q432⟩, rfl, by decide +kernel, by decide +kernel, by decide +kernel⟩
theorem kX1_range : nwPS yX1_range cX1_range 5 (some .int) 4 := ⟨⟨q490, q86, q491⟩, by decide +kernel, by decide +kernel, by decide +kernel⟩
theorem kX1_fogAt : nwPV "NightwatchWall" yX1_fogAt cX1_fogAt 5 (some .int) 1 := ⟨⟨q422, qs8, q86, q423⟩, rfl, by decide +kernel, by decide +kernel, by decide +kernel⟩
theorem kX1_view : nwPV "NightwatchWall" yX1_view cX1_view 5 (some .int) 3 := ⟨⟨q427, qs9, q86, q428⟩, rfl, by decide +kernel, by decide +kernel, by decide +kernel⟩
theorem kX1_sees : nwPV "NightwatchWall" yX1_sees cX1_sees 6 (some .boolean) 5 := ⟨⟨q487, qs11, q86, q488⟩, rfl, by decide +kernel, by decide +kernel, by decide +kernel⟩
theorem kX1_watchers : nwPV "NightwatchWall" yX1_watchers cX1_watchers 8 (some .int) 2 := ⟨⟨q418, qs7, q86, q419⟩, rfl, by decide +kernel, by decide +kernel, by decide +kernel⟩
set_option maxHeartbeats 4000000 in
theorem mX10_isOn (l : Launch) (hf : l.flags = flags0) (d : nwD) (g cl : Nat) (P : Nat → Prop) (u : spGd) (gr : spGr) (t : Nat) (H : Heap) (hB : nd_B d ≤ H.size) (hg : nwGd d g cl P u H) (hk : okGd gr u) (ht : t < 2 ^ 31) : nwRd l d yX10_isOn cX10_isOn 2 (some .boolean) 2 42 [.ref g, .int (nI t)] H (some (.int (b2i (sp_on u t)))) := by
  refine nw_rd "NightwatchWall$Guard" "isOn" hf (by decide +kernel) rfl rfl hB (Nat.le_of_ble_eq_true rfl) ?_
  intro X C
  obtain ⟨⟨hab, hb2, hs1, hs2, hm1, hm2, hk3⟩, hcs⟩ := id hk
  obtain ⟨hgo, hgl⟩ := id hg
  show nwV X _ _ 2 H 0 0 0 [(0, .ref g), (1, .int (nI t))] []
  refine nw_aload_n C 0 dX10_isOn_0 rfl 1 rfl ?_
  refine nw_get C hgo (T := TX10) rfl in_X10 0 (by decide) q1021 (Or.inl rfl) rfl dX10_isOn_1 4 rfl ?_
  refine nw_aload_n C 0 dX10_isOn_4 rfl 5 rfl ?_
  refine nw_get C hgo (T := TX10) rfl in_X10 1 (by decide) q1023 (Or.inl rfl) rfl dX10_isOn_5 8 rfl ?_
  refine nw_iload_n C 1 dX10_isOn_8 rfl 9 rfl ?_
  refine nw_callSN C (mX1_isFrom _ C.hfl d (gd_a u) (gd_b u) t H hB (by omega)) kX1_isFrom q437 (As := [.int (nI (gd_a u)), .int (nI (gd_b u)), .int (nI t)]) (rest := []) rfl rfl ⟨⟨Nat.le_of_ble_eq_true rfl, Nat.le_of_ble_eq_true rfl⟩, Nat.le_of_ble_eq_true rfl, Nat.le_of_ble_eq_true rfl⟩ (Nat.le_of_ble_eq_true rfl) (fun _ h8 h9 => absurd h9 (Nat.not_le.mpr h8)) dX10_isOn_9 12 rfl (nw_rdK ?_) nw_noX
  exact nw_nret C dX10_isOn_12 (b2i_narrow _) (Nat.le_refl _) (Nat.le_refl _) ⟨congrArg (fun z => some (Value.int (b2i z))) (show (decide ((gd_a u) ≤ t) && decide (t ≤ (gd_b u))) = (sp_on u t) from rfl), rfl⟩
set_option maxHeartbeats 4000000 in
theorem mX10_place (l : Launch) (hf : l.flags = flags0) (d : nwD) (g cl : Nat) (P : Nat → Prop) (u : spGd) (gr : spGr) (t : Nat) (H : Heap) (hB : nd_B d ≤ H.size) (hg : nwGd d g cl P u H) (hk : okGd gr u) (hn : gr_n gr ≤ 64) (ht : t < 2 ^ 31) : nwRd l d yX10_place cX10_place 2 (some .int) 4 84 [.ref g, .int (nI t)] H (some (.int (oI (sp_place u t)))) := by
  refine nw_rd "NightwatchWall$Guard" "place" hf (by decide +kernel) rfl rfl hB (Nat.le_of_ble_eq_true rfl) ?_
  intro X C
  obtain ⟨⟨hab, hb2, hs1, hs2, hm1, hm2, hk3⟩, hcs⟩ := id hk
  obtain ⟨hgo, hgl⟩ := id hg
  show nwV X _ _ 2 H 0 0 0 [(0, .ref g), (1, .int (nI t))] []
  refine nw_aload_n C 0 dX10_place_0 rfl 1 rfl ?_
  refine nw_iload_n C 1 dX10_place_1 rfl 2 rfl ?_
  refine nw_callV C (mX10_isOn _ C.hfl d g cl P u gr t H hB hg hk (by omega)) kX10_isOn q433 (hgo.is C (ci := 4) rfl) (As := [.int (nI t)]) (rest := []) rfl rfl ⟨⟨Nat.le_of_ble_eq_true rfl, Nat.le_of_ble_eq_true rfl⟩, Nat.le_of_ble_eq_true rfl, Nat.le_of_ble_eq_true rfl⟩ (Nat.le_of_ble_eq_true rfl) (fun _ h8 h9 => absurd h9 (Nat.not_le.mpr h8)) dX10_place_2 5 rfl (nw_rdK ?_) nw_noX
  refine nw_ifeqB C 43 dX10_place_5 (by decide) 8 rfl (fun h1 => ?_) (fun h1 => ?_)
  · refine nw_iconst C (oI none) dX10_place_43 (by decide) 44 rfl ?_
    exact nw_iret C dX10_place_44 (Nat.le_refl _) (Nat.le_refl _) ⟨congrArg (fun z => some (Value.int (oI z))) (show (none) = (sp_place u t) from (by unfold sp_place; simp [h1])), rfl⟩
  · obtain ⟨ha1, ha2⟩ := sp_on_iff.mp h1
    refine nw_aload_n C 0 dX10_place_8 rfl 9 rfl ?_
    refine nw_get C hgo (T := TX10) rfl in_X10 3 (by decide) q1027 (Or.inl rfl) rfl dX10_place_9 12 rfl ?_
    refine nw_iload_n C 1 dX10_place_12 rfl 13 rfl ?_
    refine nw_aload_n C 0 dX10_place_13 rfl 14 rfl ?_
    refine nw_get C hgo (T := TX10) rfl in_X10 0 (by decide) q1021 (Or.inl rfl) rfl dX10_place_14 17 rfl ?_
    refine nw_isubN C (by omega) dX10_place_17 18 rfl ?_
    refine nw_aload_n C 0 dX10_place_18 rfl 19 rfl ?_
    refine nw_get C hgo (T := TX10) rfl in_X10 2 (by decide) q1025 (Or.inl rfl) rfl dX10_place_19 22 rfl ?_
    refine nw_idivN C (by omega) dX10_place_22 23 rfl ?_
    refine nw_aload_n C 0 dX10_place_23 rfl 24 rfl ?_
    have hd1 : (t - gd_a u) / gd_s u < 2 ^ 31 := Nat.lt_of_le_of_lt (Nat.div_le_self _ _) (by omega)
    refine nw_get C hgo (T := TX10) rfl in_X10 3 (by decide) q1027 (Or.inl rfl) rfl dX10_place_24 27 rfl ?_
    refine nw_callV C (mJ3_size _ C.hfl d cl (gd_m u) (fun j => nd_bx d (gd_c u j)) P H hB hgl) kJ3_size q374 (hgl.is C) (As := []) (rest := [.int (nI ((t - (gd_a u)) / (gd_s u))), .ref cl]) rfl rfl ⟨⟨Nat.le_of_ble_eq_true rfl, Nat.le_of_ble_eq_true rfl⟩, Nat.le_of_ble_eq_true rfl, Nat.le_of_ble_eq_true rfl⟩ (Nat.le_of_ble_eq_true rfl) (fun _ h8 h9 => absurd h9 (Nat.not_le.mpr h8)) dX10_place_27 30 rfl (nw_rdK ?_) nw_noX
    refine nw_iremN C (by omega) dX10_place_30 31 rfl ?_
    have hd2 : (t - gd_a u) / gd_s u % gd_m u < gd_m u := Nat.mod_lt _ (by omega)
    refine nw_callV C (mJ3_get _ C.hfl d cl (gd_m u) (fun j => nd_bx d (gd_c u j)) P (((t - (gd_a u)) / (gd_s u)) % (gd_m u)) H hB hgl (by omega)) kJ3_get q375 (hgl.is C) (As := [.int (nI (((t - (gd_a u)) / (gd_s u)) % (gd_m u)))]) (rest := []) rfl rfl ⟨⟨Nat.le_of_ble_eq_true rfl, Nat.le_of_ble_eq_true rfl⟩, Nat.le_of_ble_eq_true rfl, Nat.le_of_ble_eq_true rfl⟩ (Nat.le_of_ble_eq_true rfl) (fun _ h8 h9 => absurd h9 (Nat.not_le.mpr h8)) dX10_place_31 34 rfl (nw_rdK ?_) nw_noX
    have hb2 : gd_c u (((t - (gd_a u)) / (gd_s u)) % (gd_m u)) < 128 := (by have := hcs (((t - (gd_a u)) / (gd_s u)) % (gd_m u)) (Nat.mod_lt _ (by omega)); omega)
    refine nw_cast C (ci := 16) rfl (C.E0.boxIs hb2) q376 dX10_place_34 37 rfl ?_
    refine nw_callV C (mJ19_intValue _ C.hfl d (gd_c u (((t - (gd_a u)) / (gd_s u)) % (gd_m u))) H hB (by omega)) kJ19_intValue q377 (C.E0.boxIs (by omega)) (As := []) (rest := []) rfl rfl ⟨⟨Nat.le_of_ble_eq_true rfl, Nat.le_of_ble_eq_true rfl⟩, Nat.le_of_ble_eq_true rfl, Nat.le_of_ble_eq_true rfl⟩ (Nat.le_of_ble_eq_true rfl) (fun _ h8 h9 => absurd h9 (Nat.not_le.mpr h8)) dX10_place_37 40 rfl (nw_rdK ?_) nw_noX
    refine nw_goto C 44 dX10_place_40 (by decide) ?_
    exact nw_iret C dX10_place_44 (Nat.le_refl _) (Nat.le_refl _) ⟨congrArg (fun z => some (Value.int (oI z))) (show (some (gd_c u (((t - (gd_a u)) / (gd_s u)) % (gd_m u)))) = (sp_place u t) from (by unfold sp_place; simp [h1])), rfl⟩
set_option maxHeartbeats 4000000 in
theorem mX10_isTired (l : Launch) (hf : l.flags = flags0) (d : nwD) (g cl : Nat) (P : Nat → Prop) (u : spGd) (gr : spGr) (t : Nat) (H : Heap) (hB : nd_B d ≤ H.size) (hg : nwGd d g cl P u H) (hk : okGd gr u) (ht : t < 2 ^ 31) : nwRd l d yX10_isTired cX10_isTired 2 (some .boolean) 3 63 [.ref g, .int (nI t)] H (some (.int (b2i (sp_tired u t)))) := by
  refine nw_rd "NightwatchWall$Guard" "isTired" hf (by decide +kernel) rfl rfl hB (Nat.le_of_ble_eq_true rfl) ?_
  intro X C
  obtain ⟨⟨hab, hb2, hs1, hs2, hm1, hm2, hk3⟩, hcs⟩ := id hk
  obtain ⟨hgo, hgl⟩ := id hg
  show nwV X _ _ 2 H 0 0 0 [(0, .ref g), (1, .int (nI t))] []
  refine nw_aload_n C 0 dX10_isTired_0 rfl 1 rfl ?_
  refine nw_iload_n C 1 dX10_isTired_1 rfl 2 rfl ?_
  refine nw_callV C (mX10_isOn _ C.hfl d g cl P u gr t H hB hg hk (by omega)) kX10_isOn q433 (hgo.is C (ci := 4) rfl) (As := [.int (nI t)]) (rest := []) rfl rfl ⟨⟨Nat.le_of_ble_eq_true rfl, Nat.le_of_ble_eq_true rfl⟩, Nat.le_of_ble_eq_true rfl, Nat.le_of_ble_eq_true rfl⟩ (Nat.le_of_ble_eq_true rfl) (fun _ h8 h9 => absurd h9 (Nat.not_le.mpr h8)) dX10_isTired_2 5 rfl (nw_rdK ?_) nw_noX
  refine nw_ifeqB C 23 dX10_isTired_5 (by decide) 8 rfl (fun h1 => ?_) (fun h1 => ?_)
  · refine nw_iconst C (nI 0) dX10_isTired_23 (by decide) 24 rfl ?_
    exact nw_nret C dX10_isTired_24 (b2i_narrow false) (Nat.le_refl _) (Nat.le_refl _) ⟨congrArg (fun z => some (Value.int (b2i z))) (show (false) = (sp_tired u t) from (by unfold sp_tired; simp [h1])), rfl⟩
  · obtain ⟨ha1, ha2⟩ := sp_on_iff.mp h1
    refine nw_iload_n C 1 dX10_isTired_8 rfl 9 rfl ?_
    refine nw_aload_n C 0 dX10_isTired_9 rfl 10 rfl ?_
    refine nw_get C hgo (T := TX10) rfl in_X10 0 (by decide) q1021 (Or.inl rfl) rfl dX10_isTired_10 13 rfl ?_
    refine nw_isubN C (by omega) dX10_isTired_13 14 rfl ?_
    refine nw_bipush C (nI 90) dX10_isTired_14 (by decide) 16 rfl ?_
    refine nw_icmpltN C (by omega) 23 dX10_isTired_16 (by decide) 19 rfl (fun h2 => ?_) (fun h2 => ?_)
    · refine nw_iconst C (nI 0) dX10_isTired_23 (by decide) 24 rfl ?_
      exact nw_nret C dX10_isTired_24 (b2i_narrow false) (Nat.le_refl _) (Nat.le_refl _) ⟨congrArg (fun z => some (Value.int (b2i z))) (show (false) = (sp_tired u t) from (by unfold sp_tired; simp [h1]; omega)), rfl⟩
    · refine nw_iconst C (nI 1) dX10_isTired_19 (by decide) 20 rfl ?_
      refine nw_goto C 24 dX10_isTired_20 (by decide) ?_
      exact nw_nret C dX10_isTired_24 (b2i_narrow true) (Nat.le_refl _) (Nat.le_refl _) ⟨congrArg (fun z => some (Value.int (b2i z))) (show (true) = (sp_tired u t) from (by unfold sp_tired; simp [h1]; omega)), rfl⟩
set_option maxHeartbeats 4000000 in
theorem mX10_tiredMinutes (l : Launch) (hf : l.flags = flags0) (d : nwD) (g cl : Nat) (P : Nat → Prop) (u : spGd) (gr : spGr)  (H : Heap) (hB : nd_B d ≤ H.size) (hg : nwGd d g cl P u H) (hk : okGd gr u)  : nwRd l d yX10_tiredMinutes cX10_tiredMinutes 1 (some .int) 1 21 [.ref g] H (some (.int (nI (gd_b u - gd_a u - 89)))) := by
  refine nw_rd "NightwatchWall$Guard" "tiredMinutes" hf (by decide +kernel) rfl rfl hB (Nat.le_of_ble_eq_true rfl) ?_
  intro X C
  obtain ⟨⟨hab, hb2, hs1, hs2, hm1, hm2, hk3⟩, hcs⟩ := id hk
  obtain ⟨hgo, hgl⟩ := id hg
  show nwV X _ _ 1 H 0 0 0 [(0, .ref g)] []
  refine nw_iconst C (nI 0) dX10_tiredMinutes_0 (by decide) 1 rfl ?_
  refine nw_aload_n C 0 dX10_tiredMinutes_1 rfl 2 rfl ?_
  refine nw_get C hgo (T := TX10) rfl in_X10 1 (by decide) q1023 (Or.inl rfl) rfl dX10_tiredMinutes_2 5 rfl ?_
  refine nw_aload_n C 0 dX10_tiredMinutes_5 rfl 6 rfl ?_
  refine nw_get C hgo (T := TX10) rfl in_X10 0 (by decide) q1021 (Or.inl rfl) rfl dX10_tiredMinutes_6 9 rfl ?_
  refine nw_isubN C (by omega) dX10_tiredMinutes_9 10 rfl ?_
  refine nw_bipush C (nI 90) dX10_tiredMinutes_10 (by decide) 12 rfl ?_
  refine nw_isub C (nI (gd_b u - gd_a u) - nI 90) dX10_tiredMinutes_12 rfl 13 rfl ?_
  refine nw_iconst C (nI 1) dX10_tiredMinutes_13 (by decide) 14 rfl ?_
  refine nw_iadd C (nI (gd_b u - gd_a u) - nI 89) dX10_tiredMinutes_14 (by rw [show nI 90 = nI 89 + nI 1 from rfl]; grind) 15 rfl ?_
  refine nw_mmax C (nI (gd_b u - gd_a u - 89)) q592 q483 q108 q484 (nw_max0 (by omega) (by decide)) ⟨Nat.le_of_ble_eq_true rfl, Nat.le_of_ble_eq_true rfl, Nat.le_of_ble_eq_true rfl, Nat.le_of_ble_eq_true rfl⟩ (Nat.le_of_ble_eq_true rfl) dX10_tiredMinutes_15 18 rfl ?_
  exact nw_iret C dX10_tiredMinutes_18 (Nat.le_refl _) (Nat.le_refl _) ⟨congrArg (fun z => some (Value.int (nI z))) (show (gd_b u - gd_a u - 89) = (gd_b u - gd_a u - 89) from rfl), rfl⟩
set_option maxHeartbeats 4000000 in
theorem mX10_isBarred (l : Launch) (hf : l.flags = flags0) (d : nwD) (g cl : Nat) (P : Nat → Prop) (u : spGd) (gr : spGr)  (H : Heap) (hB : nd_B d ≤ H.size) (hg : nwGd d g cl P u H) (hk : okGd gr u)  : nwRd l d yX10_isBarred cX10_isBarred 1 (some .boolean) 1 20 [.ref g] H (some (.int (b2i (decide (gd_k u = 3))))) := by
  refine nw_rd "NightwatchWall$Guard" "isBarred" hf (by decide +kernel) rfl rfl hB (Nat.le_of_ble_eq_true rfl) ?_
  intro X C
  obtain ⟨⟨hab, hb2, hs1, hs2, hm1, hm2, hk3⟩, hcs⟩ := id hk
  obtain ⟨hgo, hgl⟩ := id hg
  show nwV X _ _ 1 H 0 0 0 [(0, .ref g)] []
  refine nw_aload_n C 0 dX10_isBarred_0 rfl 1 rfl ?_
  refine nw_get C hgo (T := TX10) rfl in_X10 4 (by decide) q1029 (Or.inl rfl) rfl dX10_isBarred_1 4 rfl ?_
  refine nw_iconst C (nI 3) dX10_isBarred_4 (by decide) 5 rfl ?_
  refine nw_icmpneN C (by omega) 12 dX10_isBarred_5 (by decide) 8 rfl (fun h1 => ?_) (fun h1 => ?_)
  · refine nw_iconst C (nI 0) dX10_isBarred_12 (by decide) 13 rfl ?_
    exact nw_nret C dX10_isBarred_13 (b2i_narrow false) (Nat.le_refl _) (Nat.le_refl _) ⟨congrArg (fun z => some (Value.int (b2i z))) (show (false) = (decide (gd_k u = 3)) from (by simp [h1])), rfl⟩
  · refine nw_iconst C (nI 1) dX10_isBarred_8 (by decide) 9 rfl ?_
    refine nw_goto C 13 dX10_isBarred_9 (by decide) ?_
    exact nw_nret C dX10_isBarred_13 (b2i_narrow true) (Nat.le_refl _) (Nat.le_refl _) ⟨congrArg (fun z => some (Value.int (b2i z))) (show (true) = (decide (gd_k u = 3)) from (by simp [h1])), rfl⟩
set_option maxHeartbeats 4000000 in
theorem mX10_walksOn (l : Launch) (hf : l.flags = flags0) (d : nwD) (g cl : Nat) (P : Nat → Prop) (u : spGd) (gr : spGr) (c : Nat) (H : Heap) (hB : nd_B d ≤ H.size) (hg : nwGd d g cl P u H) (hk : okGd gr u) (hn : gr_n gr ≤ 64) (hc : c < 2 ^ 31) : nwRd l d yX10_walksOn cX10_walksOn 3 (some .boolean) 4 84 [.ref g, .int (nI c)] H (some (.int (b2i (sp_any (fun j => gd_c u j == c) (gd_m u))))) := by
  refine nw_rd "NightwatchWall$Guard" "walksOn" hf (by decide +kernel) rfl rfl hB (Nat.le_of_ble_eq_true rfl) ?_
  intro X C
  obtain ⟨⟨hab, hb2, hs1, hs2, hm1, hm2, hk3⟩, hcs⟩ := id hk
  obtain ⟨hgo, hgl⟩ := id hg
  show nwV X _ _ 3 H 0 0 0 [(0, .ref g), (1, .int (nI c))] []
  refine nw_iconst C (nI 0) dX10_walksOn_0 (by decide) 1 rfl ?_
  refine nw_istore_n C [(2, .int (nI 0)), (0, .ref g), (1, .int (nI c))] dX10_walksOn_1 (by decide) rfl 2 rfl ?_
  have lp1 : ∀ (fu : Nat) (i : Nat), (i ≤ gd_m u) → (∀ k, k < i → (gd_c u k == c) = false) → gd_m u - i < fu → nwV X (nwNew H) (nwQE X (fun v H1 => v = some (.int (b2i (sp_any (fun j => gd_c u j == c) (gd_m u)))) ∧ H1 = H) nwNo (nwNew H) 0 0) 3 H 0 0 2 [(0, .ref g), (1, .int (nI c)), (2, .int (nI i))] [] := by
    intro fu
    induction fu with
    | zero => intro i _ _ hm; exact absurd hm (Nat.not_lt_zero _)
    | succ fu ih_lp1 =>
      intro i hi hno hm
      refine nw_iload_n C 2 dX10_walksOn_2 rfl 3 rfl ?_
      refine nw_aload_n C 0 dX10_walksOn_3 rfl 4 rfl ?_
      refine nw_get C hgo (T := TX10) rfl in_X10 3 (by decide) q1027 (Or.inl rfl) rfl dX10_walksOn_4 7 rfl ?_
      refine nw_callV C (mJ3_size _ C.hfl d cl (gd_m u) (fun j => nd_bx d (gd_c u j)) P H hB hgl) kJ3_size q374 (hgl.is C) (As := []) (rest := [.int (nI i)]) rfl rfl ⟨⟨Nat.le_of_ble_eq_true rfl, Nat.le_of_ble_eq_true rfl⟩, Nat.le_of_ble_eq_true rfl, Nat.le_of_ble_eq_true rfl⟩ (Nat.le_of_ble_eq_true rfl) (fun _ h8 h9 => absurd h9 (Nat.not_le.mpr h8)) dX10_walksOn_7 10 rfl (nw_rdK ?_) nw_noX
      refine nw_icmpgeN C (by omega) 39 dX10_walksOn_10 (by decide) 13 rfl (fun h2 => ?_) (fun h2 => ?_)
      · refine nw_iconst C (nI 0) dX10_walksOn_39 (by decide) 40 rfl ?_
        exact nw_nret C dX10_walksOn_40 (b2i_narrow false) (Nat.le_refl _) (Nat.le_refl _) ⟨congrArg (fun z => some (Value.int (b2i z))) (show (false) = (sp_any (fun j => gd_c u j == c) (gd_m u)) from (sp_any_false.mpr (fun k hk => hno k (by omega))).symm), rfl⟩
      · refine nw_aload_n C 0 dX10_walksOn_13 rfl 14 rfl ?_
        refine nw_get C hgo (T := TX10) rfl in_X10 3 (by decide) q1027 (Or.inl rfl) rfl dX10_walksOn_14 17 rfl ?_
        refine nw_iload_n C 2 dX10_walksOn_17 rfl 18 rfl ?_
        refine nw_callV C (mJ3_get _ C.hfl d cl (gd_m u) (fun j => nd_bx d (gd_c u j)) P i H hB hgl (by omega)) kJ3_get q375 (hgl.is C) (As := [.int (nI i)]) (rest := []) rfl rfl ⟨⟨Nat.le_of_ble_eq_true rfl, Nat.le_of_ble_eq_true rfl⟩, Nat.le_of_ble_eq_true rfl, Nat.le_of_ble_eq_true rfl⟩ (Nat.le_of_ble_eq_true rfl) (fun _ h8 h9 => absurd h9 (Nat.not_le.mpr h8)) dX10_walksOn_18 21 rfl (nw_rdK ?_) nw_noX
        have hb3 : gd_c u i < 128 := (by have := hcs i (by omega); omega)
        refine nw_cast C (ci := 16) rfl (C.E0.boxIs hb3) q376 dX10_walksOn_21 24 rfl ?_
        refine nw_callV C (mJ19_intValue _ C.hfl d (gd_c u i) H hB (by omega)) kJ19_intValue q377 (C.E0.boxIs (by omega)) (As := []) (rest := []) rfl rfl ⟨⟨Nat.le_of_ble_eq_true rfl, Nat.le_of_ble_eq_true rfl⟩, Nat.le_of_ble_eq_true rfl, Nat.le_of_ble_eq_true rfl⟩ (Nat.le_of_ble_eq_true rfl) (fun _ h8 h9 => absurd h9 (Nat.not_le.mpr h8)) dX10_walksOn_24 27 rfl (nw_rdK ?_) nw_noX
        refine nw_iload_n C 1 dX10_walksOn_27 rfl 28 rfl ?_
        refine nw_icmpneN C (by omega) 33 dX10_walksOn_28 (by decide) 31 rfl (fun h4 => ?_) (fun h4 => ?_)
        · refine nw_iincN C 2 (c0 := 1) [(2, .int (nI (i + 1))), (0, .ref g), (1, .int (nI c))] dX10_walksOn_33 rfl (by decide) rfl 36 rfl ?_
          refine nw_goto C 2 dX10_walksOn_36 (by decide) ?_
          exact (nw_sub [1, 2, 0] rfl (ih_lp1 (i + 1) (by omega) (fun k hk => (Nat.lt_or_ge k i).elim (fun g5 => hno k g5) (fun g5 => by rw [show k = i by omega]; simp [h4])) (by omega)))
        · refine nw_iconst C (nI 1) dX10_walksOn_31 (by decide) 32 rfl ?_
          exact nw_nret C dX10_walksOn_32 (b2i_narrow true) (Nat.le_refl _) (Nat.le_refl _) ⟨congrArg (fun z => some (Value.int (b2i z))) (show (true) = (sp_any (fun j => gd_c u j == c) (gd_m u)) from (sp_any_iff.mpr ⟨i, by omega, by simp [h4]⟩).symm), rfl⟩
  exact (nw_sub [1, 2, 0] rfl (lp1 _ 0 (Nat.zero_le _) (fun k hk => absurd hk (Nat.not_lt_zero k)) (Nat.lt_succ_self _)))
set_option maxHeartbeats 4000000 in
theorem mX1_range (l : Launch) (hf : l.flags = flags0) (d : nwD) (g cl : Nat) (P : Nat → Prop) (u : spGd) (gr : spGr) (br : Bool) (t fog : Nat) (H : Heap) (hB : nd_B d ≤ H.size) (hg : nwGd d g cl P u H) (hk : okGd gr u) (ht : t < 2 ^ 31) (hf5 : fog ≤ 5) : nwRd l d yX1_range cX1_range 5 (some .int) 4 84 [.ref g, .int (b2i br), .int (nI t), .int (nI fog)] H (some (.int (nI (sp_range br (sp_tired u t) fog)))) := by
  refine nw_rd "NightwatchWall" "range" hf (by decide +kernel) rfl rfl hB (Nat.le_of_ble_eq_true rfl) ?_
  intro X C
  show nwV X _ _ 5 H 0 0 0 [(0, .ref g), (1, .int (b2i br)), (2, .int (nI t)), (3, .int (nI fog))] []
  refine nw_iload_n C 1 dX1_range_0 rfl 1 rfl ?_
  refine nw_ifeqB C 11 dX1_range_1 (by decide) 4 rfl (fun h1 => ?_) (fun h1 => ?_)
  · refine nw_iconst C (nI 2) dX1_range_11 (by decide) 12 rfl ?_
    refine nw_iload_n C 3 dX1_range_12 rfl 13 rfl ?_
    refine nw_iconst C (nI 2) dX1_range_13 (by decide) 14 rfl ?_
    refine nw_idivN C (by omega) dX1_range_14 15 rfl ?_
    refine nw_isubN C (by omega) dX1_range_15 16 rfl ?_
    refine nw_aload_n C 0 dX1_range_16 rfl 17 rfl ?_
    refine nw_iload_n C 2 dX1_range_17 rfl 18 rfl ?_
    refine nw_callV C (mX10_isTired _ C.hfl d g cl P u gr t H hB hg hk (by omega)) kX10_isTired q492 (hg.1.is C (ci := 4) rfl) (As := [.int (nI t)]) (rest := [.int (nI (2 - (fog / 2)))]) rfl rfl ⟨⟨Nat.le_of_ble_eq_true rfl, Nat.le_of_ble_eq_true rfl⟩, Nat.le_of_ble_eq_true rfl, Nat.le_of_ble_eq_true rfl⟩ (Nat.le_of_ble_eq_true rfl) (fun _ h8 h9 => absurd h9 (Nat.not_le.mpr h8)) dX1_range_18 21 rfl (nw_rdK ?_) nw_noX
    refine nw_ifeqB C 28 dX1_range_21 (by decide) 24 rfl (fun h2 => ?_) (fun h2 => ?_)
    · refine nw_iconst C (nI 0) dX1_range_28 (by decide) 29 rfl ?_
      refine nw_isub C (nI (2 - (fog / 2)) - nI 0) dX1_range_29 rfl 30 rfl ?_
      refine nw_istore C [(4, .int (nI (2 - (fog / 2)) - nI 0)), (0, .ref g), (1, .int (b2i br)), (2, .int (nI t)), (3, .int (nI fog))] dX1_range_30 (by decide) rfl 32 rfl ?_
      refine nw_iconst C (nI 0) dX1_range_32 (by decide) 33 rfl ?_
      refine nw_iload C 0 dX1_range_33 rfl 35 rfl ?_
      refine nw_mmax C (nI ((2 - (fog / 2)) - 0)) q496 q483 q108 q484 (nw_max0 (by omega) (by omega)) ⟨Nat.le_of_ble_eq_true rfl, Nat.le_of_ble_eq_true rfl, Nat.le_of_ble_eq_true rfl, Nat.le_of_ble_eq_true rfl⟩ (Nat.le_of_ble_eq_true rfl) dX1_range_35 38 rfl ?_
      exact nw_iret C dX1_range_38 (Nat.le_refl _) (Nat.le_refl _) ⟨congrArg (fun z => some (Value.int (nI z))) (show ((2 - (fog / 2)) - 0) = (sp_range br (sp_tired u t) fog) from (by unfold sp_range; simp [h1, h2])), rfl⟩
    · refine nw_iconst C (nI 1) dX1_range_24 (by decide) 25 rfl ?_
      refine nw_goto C 29 dX1_range_25 (by decide) ?_
      refine nw_isub C (nI (2 - (fog / 2)) - nI 1) dX1_range_29 rfl 30 rfl ?_
      refine nw_istore C [(4, .int (nI (2 - (fog / 2)) - nI 1)), (0, .ref g), (1, .int (b2i br)), (2, .int (nI t)), (3, .int (nI fog))] dX1_range_30 (by decide) rfl 32 rfl ?_
      refine nw_iconst C (nI 0) dX1_range_32 (by decide) 33 rfl ?_
      refine nw_iload C 0 dX1_range_33 rfl 35 rfl ?_
      refine nw_mmax C (nI ((2 - (fog / 2)) - 1)) q496 q483 q108 q484 (nw_max0 (by omega) (by omega)) ⟨Nat.le_of_ble_eq_true rfl, Nat.le_of_ble_eq_true rfl, Nat.le_of_ble_eq_true rfl, Nat.le_of_ble_eq_true rfl⟩ (Nat.le_of_ble_eq_true rfl) dX1_range_35 38 rfl ?_
      exact nw_iret C dX1_range_38 (Nat.le_refl _) (Nat.le_refl _) ⟨congrArg (fun z => some (Value.int (nI z))) (show ((2 - (fog / 2)) - 1) = (sp_range br (sp_tired u t) fog) from (by unfold sp_range; simp [h1, h2])), rfl⟩
  · refine nw_bipush C (nI 7) dX1_range_4 (by decide) 6 rfl ?_
    refine nw_iload_n C 3 dX1_range_6 rfl 7 rfl ?_
    refine nw_isubN C (by omega) dX1_range_7 8 rfl ?_
    refine nw_goto C 16 dX1_range_8 (by decide) ?_
    refine nw_aload_n C 0 dX1_range_16 rfl 17 rfl ?_
    refine nw_iload_n C 2 dX1_range_17 rfl 18 rfl ?_
    refine nw_callV C (mX10_isTired _ C.hfl d g cl P u gr t H hB hg hk (by omega)) kX10_isTired q492 (hg.1.is C (ci := 4) rfl) (As := [.int (nI t)]) (rest := [.int (nI (7 - fog))]) rfl rfl ⟨⟨Nat.le_of_ble_eq_true rfl, Nat.le_of_ble_eq_true rfl⟩, Nat.le_of_ble_eq_true rfl, Nat.le_of_ble_eq_true rfl⟩ (Nat.le_of_ble_eq_true rfl) (fun _ h8 h9 => absurd h9 (Nat.not_le.mpr h8)) dX1_range_18 21 rfl (nw_rdK ?_) nw_noX
    refine nw_ifeqB C 28 dX1_range_21 (by decide) 24 rfl (fun h3 => ?_) (fun h3 => ?_)
    · refine nw_iconst C (nI 0) dX1_range_28 (by decide) 29 rfl ?_
      refine nw_isub C (nI (7 - fog) - nI 0) dX1_range_29 rfl 30 rfl ?_
      refine nw_istore C [(4, .int (nI (7 - fog) - nI 0)), (0, .ref g), (1, .int (b2i br)), (2, .int (nI t)), (3, .int (nI fog))] dX1_range_30 (by decide) rfl 32 rfl ?_
      refine nw_iconst C (nI 0) dX1_range_32 (by decide) 33 rfl ?_
      refine nw_iload C 0 dX1_range_33 rfl 35 rfl ?_
      refine nw_mmax C (nI ((7 - fog) - 0)) q496 q483 q108 q484 (nw_max0 (by omega) (by omega)) ⟨Nat.le_of_ble_eq_true rfl, Nat.le_of_ble_eq_true rfl, Nat.le_of_ble_eq_true rfl, Nat.le_of_ble_eq_true rfl⟩ (Nat.le_of_ble_eq_true rfl) dX1_range_35 38 rfl ?_
      exact nw_iret C dX1_range_38 (Nat.le_refl _) (Nat.le_refl _) ⟨congrArg (fun z => some (Value.int (nI z))) (show ((7 - fog) - 0) = (sp_range br (sp_tired u t) fog) from (by unfold sp_range; simp [h1, h3])), rfl⟩
    · refine nw_iconst C (nI 1) dX1_range_24 (by decide) 25 rfl ?_
      refine nw_goto C 29 dX1_range_25 (by decide) ?_
      refine nw_isub C (nI (7 - fog) - nI 1) dX1_range_29 rfl 30 rfl ?_
      refine nw_istore C [(4, .int (nI (7 - fog) - nI 1)), (0, .ref g), (1, .int (b2i br)), (2, .int (nI t)), (3, .int (nI fog))] dX1_range_30 (by decide) rfl 32 rfl ?_
      refine nw_iconst C (nI 0) dX1_range_32 (by decide) 33 rfl ?_
      refine nw_iload C 0 dX1_range_33 rfl 35 rfl ?_
      refine nw_mmax C (nI ((7 - fog) - 1)) q496 q483 q108 q484 (nw_max0 (by omega) (by omega)) ⟨Nat.le_of_ble_eq_true rfl, Nat.le_of_ble_eq_true rfl, Nat.le_of_ble_eq_true rfl, Nat.le_of_ble_eq_true rfl⟩ (Nat.le_of_ble_eq_true rfl) dX1_range_35 38 rfl ?_
      exact nw_iret C dX1_range_38 (Nat.le_refl _) (Nat.le_refl _) ⟨congrArg (fun z => some (Value.int (nI z))) (show ((7 - fog) - 1) = (sp_range br (sp_tired u t) fog) from (by unfold sp_range; simp [h1, h3])), rfl⟩
set_option maxHeartbeats 4000000 in
theorem mX1_view (l : Launch) (hf : l.flags = flags0) (d : nwD) (ro ad : Nat → Nat) (x : Nat) (σ : spSg) (sm : Int64) (g cl : Nat) (P : Nat → Prop) (u : spGd) (c t : Nat) (H : Heap) (hB : nd_B d ≤ H.size) (hW : nwWC d ro ad x σ sm H) (ok : spOk σ) (hg : nwGd d g cl P u H) (hk : okGd (sg_gr σ) u) (hc : c < gr_n (sg_gr σ)) (ht : t < 2 ^ 31) : nwRd l d yX1_view cX1_view 5 (some .int) 5 105 [.ref x, .ref g, .int (nI c), .int (nI t)] H (some (.int (oI (sp_view (sg_gr σ) u c t)))) := by
  refine nw_rd "NightwatchWall" "view" hf (by decide +kernel) rfl rfl hB (Nat.le_of_ble_eq_true rfl) ?_
  intro X C
  obtain ⟨hx, hcG, hcLa, hcFo, hcGu, hcPo, hcIn, hcWi, hcWo, hcKe⟩ := id hW
  obtain ⟨okg, okl, okf, oku, okp, oki, okw, okd, okk, oka⟩ := id ok
  have hn64 : gr_n (sg_gr σ) ≤ 64 := okg.n
  have hE := C.E0
  obtain ⟨hgro, hgrl, hgrg⟩ := hcG.here hc
  show nwV X _ _ 5 H 0 0 0 [(0, .ref x), (1, .ref g), (2, .int (nI c)), (3, .int (nI t))] []
  refine nw_aload_n C 1 dX1_view_0 rfl 1 rfl ?_
  refine nw_iload_n C 3 dX1_view_1 rfl 2 rfl ?_
  refine nw_callV C (mX10_place _ C.hfl d g cl P u (sg_gr σ) t H hB hg hk (by omega) (by omega)) kX10_place q429 (hg.1.is C (ci := 4) rfl) (As := [.int (nI t)]) (rest := []) rfl rfl ⟨⟨Nat.le_of_ble_eq_true rfl, Nat.le_of_ble_eq_true rfl⟩, Nat.le_of_ble_eq_true rfl, Nat.le_of_ble_eq_true rfl⟩ (Nat.le_of_ble_eq_true rfl) (fun _ h8 h9 => absurd h9 (Nat.not_le.mpr h8)) dX1_view_2 5 rfl (nw_rdK ?_) nw_noX
  generalize hpl : sp_place u t = o
  refine nw_istore C [(4, .int (oI o)), (0, .ref x), (1, .ref g), (2, .int (nI c)), (3, .int (nI t))] dX1_view_5 (by decide) rfl 7 rfl ?_
  refine nw_iload C 0 dX1_view_7 rfl 9 rfl ?_
  rcases o with _ | p
  · show nwV X _ _ 5 H 0 0 9 [(4, .int (oI none)), (0, .ref x), (1, .ref g), (2, .int (nI c)), (3, .int (nI t))] [.int (oI none)]
    refine nw_iconst C (oI none) dX1_view_9 (by decide) 10 rfl ?_
    refine nw_icmpeqT C rfl 51 dX1_view_10 (by decide) ?_
    refine nw_iconst C (oI none) dX1_view_51 (by decide) 52 rfl ?_
    exact nw_iret C dX1_view_52 (Nat.le_refl _) (Nat.le_refl _) ⟨congrArg (fun z => some (Value.int (oI z))) (show (none) = (sp_view (sg_gr σ) u c t) from (by unfold sp_view; rw [hpl])), rfl⟩
  · show nwV X _ _ 5 H 0 0 9 [(4, .int (nI p)), (0, .ref x), (1, .ref g), (2, .int (nI c)), (3, .int (nI t))] [.int (nI p)]
    have hpn := hk.cell hpl
    refine nw_iconst C (oI none) dX1_view_9 (by decide) 10 rfl ?_
    refine nw_icmpeqF C (nI_m1 (by omega)) 51 dX1_view_10 (by decide) 13 rfl ?_
    refine nw_aload_n C 1 dX1_view_13 rfl 14 rfl ?_
    refine nw_get C hx (T := TX1) rfl in_X1 0 (by decide) q221 (Or.inl rfl) rfl dX1_view_14 17 rfl ?_
    refine nw_callV C (mJ0_get _ C.hfl d (ad 0) (ad 9) H hB hgrl) kJ0_get q280 (hgrl.is C (ci := 15) rfl) (As := []) (rest := []) rfl rfl ⟨⟨Nat.le_of_ble_eq_true rfl, Nat.le_of_ble_eq_true rfl⟩, Nat.le_of_ble_eq_true rfl, Nat.le_of_ble_eq_true rfl⟩ (Nat.le_of_ble_eq_true rfl) (fun _ h8 h9 => absurd h9 (Nat.not_le.mpr h8)) dX1_view_17 20 rfl (nw_rdK ?_) nw_noX
    refine nw_cast C (ci := 1) rfl (hgrg.1.is C (ci := 1) rfl) q284 dX1_view_20 23 rfl ?_
    refine nw_iload C 0 dX1_view_23 rfl 25 rfl ?_
    refine nw_iload_n C 3 dX1_view_25 rfl 26 rfl ?_
    refine nw_callV C (mX6_isClear _ C.hfl d (ad 9) (ad 10) (sg_gr σ) p c H hB hgrg hgro (by omega) (by omega)) kX6_isClear q440 (hgrg.1.is C (ci := 1) rfl) (As := [.int (nI p), .int (nI c)]) (rest := []) rfl rfl ⟨⟨Nat.le_of_ble_eq_true rfl, Nat.le_of_ble_eq_true rfl⟩, Nat.le_of_ble_eq_true rfl, Nat.le_of_ble_eq_true rfl⟩ (Nat.le_of_ble_eq_true rfl) (fun _ h8 h9 => absurd h9 (Nat.not_le.mpr h8)) dX1_view_26 29 rfl (nw_rdK ?_) nw_noX
    refine nw_ifeqB C 51 dX1_view_29 (by decide) 32 rfl (fun h3 => ?_) (fun h3 => ?_)
    · refine nw_iconst C (oI none) dX1_view_51 (by decide) 52 rfl ?_
      exact nw_iret C dX1_view_52 (Nat.le_refl _) (Nat.le_refl _) ⟨congrArg (fun z => some (Value.int (oI z))) (show (none) = (sp_view (sg_gr σ) u c t) from (by unfold sp_view; rw [hpl]; simp [h3])), rfl⟩
    · refine nw_aload_n C 1 dX1_view_32 rfl 33 rfl ?_
      refine nw_get C hx (T := TX1) rfl in_X1 0 (by decide) q221 (Or.inl rfl) rfl dX1_view_33 36 rfl ?_
      refine nw_callV C (mJ0_get _ C.hfl d (ad 0) (ad 9) H hB hgrl) kJ0_get q280 (hgrl.is C (ci := 15) rfl) (As := []) (rest := []) rfl rfl ⟨⟨Nat.le_of_ble_eq_true rfl, Nat.le_of_ble_eq_true rfl⟩, Nat.le_of_ble_eq_true rfl, Nat.le_of_ble_eq_true rfl⟩ (Nat.le_of_ble_eq_true rfl) (fun _ h8 h9 => absurd h9 (Nat.not_le.mpr h8)) dX1_view_36 39 rfl (nw_rdK ?_) nw_noX
      refine nw_cast C (ci := 1) rfl (hgrg.1.is C (ci := 1) rfl) q284 dX1_view_39 42 rfl ?_
      refine nw_iload C 0 dX1_view_42 rfl 44 rfl ?_
      refine nw_iload_n C 3 dX1_view_44 rfl 45 rfl ?_
      refine nw_callV C (mX6_apart _ C.hfl d (ad 9) (ad 10) (sg_gr σ) p c H hB hgrg hgro (by omega) (by omega)) kX6_apart q478 (hgrg.1.is C (ci := 1) rfl) (As := [.int (nI p), .int (nI c)]) (rest := []) rfl rfl ⟨⟨Nat.le_of_ble_eq_true rfl, Nat.le_of_ble_eq_true rfl⟩, Nat.le_of_ble_eq_true rfl, Nat.le_of_ble_eq_true rfl⟩ (Nat.le_of_ble_eq_true rfl) (fun _ h8 h9 => absurd h9 (Nat.not_le.mpr h8)) dX1_view_45 48 rfl (nw_rdK ?_) nw_noX
      refine nw_goto C 52 dX1_view_48 (by decide) ?_
      exact nw_iret C dX1_view_52 (Nat.le_refl _) (Nat.le_refl _) ⟨congrArg (fun z => some (Value.int (oI z))) (show (some (sp_apart (gr_w (sg_gr σ)) p c)) = (sp_view (sg_gr σ) u c t) from (by unfold sp_view; rw [hpl]; simp [h3])), rfl⟩
set_option maxHeartbeats 4000000 in
theorem mX1_sees (l : Launch) (hf : l.flags = flags0) (d : nwD) (ro ad : Nat → Nat) (x : Nat) (σ : spSg) (sm : Int64) (g cl : Nat) (P : Nat → Prop) (u : spGd) (far : Option Nat) (t : Nat) (br : Bool) (fog : Nat) (H : Heap) (hB : nd_B d ≤ H.size) (hW : nwWC d ro ad x σ sm H) (ok : spOk σ) (hg : nwGd d g cl P u H) (hk : okGd (sg_gr σ) u) (hfar : ∀ v, far = some v → v < 2 ^ 31) (ht : t < 2 ^ 31) (hf5 : fog ≤ 5) : nwRd l d yX1_sees cX1_sees 6 (some .boolean) 5 108 [.ref x, .ref g, .int (oI far), .int (nI t), .int (b2i br), .int (nI fog)] H (some (.int (b2i (sp_near far u t br fog)))) := by
  refine nw_rd "NightwatchWall" "sees" hf (by decide +kernel) rfl rfl hB (Nat.le_of_ble_eq_true rfl) ?_
  intro X C
  obtain ⟨hx, hcG, hcLa, hcFo, hcGu, hcPo, hcIn, hcWi, hcWo, hcKe⟩ := id hW
  obtain ⟨okg, okl, okf, oku, okp, oki, okw, okd, okk, oka⟩ := id ok
  have hn64 : gr_n (sg_gr σ) ≤ 64 := okg.n
  have hE := C.E0
  have hr7 : sp_range br (sp_tired u t) fog ≤ 7 := by unfold sp_range; split <;> omega
  show nwV X _ _ 6 H 0 0 0 [(0, .ref x), (1, .ref g), (2, .int (oI far)), (3, .int (nI t)), (4, .int (b2i br)), (5, .int (nI fog))] []
  rcases far with _ | f
  · show nwV X _ _ 6 H 0 0 0 [(0, .ref x), (1, .ref g), (2, .int (oI none)), (3, .int (nI t)), (4, .int (b2i br)), (5, .int (nI fog))] []
    refine nw_iload_n C 2 dX1_sees_0 rfl 1 rfl ?_
    refine nw_iconst C (oI none) dX1_sees_1 (by decide) 2 rfl ?_
    refine nw_icmpeqT C rfl 22 dX1_sees_2 (by decide) ?_
    refine nw_iconst C (nI 0) dX1_sees_22 (by decide) 23 rfl ?_
    exact nw_nret C dX1_sees_23 (b2i_narrow false) (Nat.le_refl _) (Nat.le_refl _) ⟨congrArg (fun z => some (Value.int (b2i z))) (show (false) = (sp_near none u t br fog) from rfl), rfl⟩
  · show nwV X _ _ 6 H 0 0 0 [(0, .ref x), (1, .ref g), (2, .int (nI f)), (3, .int (nI t)), (4, .int (b2i br)), (5, .int (nI fog))] []
    have hf2 := hfar f rfl
    refine nw_iload_n C 2 dX1_sees_0 rfl 1 rfl ?_
    refine nw_iconst C (oI none) dX1_sees_1 (by decide) 2 rfl ?_
    refine nw_icmpeqF C (nI_m1 (by omega)) 22 dX1_sees_2 (by decide) 5 rfl ?_
    refine nw_iload_n C 2 dX1_sees_5 rfl 6 rfl ?_
    refine nw_aload_n C 1 dX1_sees_6 rfl 7 rfl ?_
    refine nw_iload C 4 dX1_sees_7 rfl 9 rfl ?_
    refine nw_iload_n C 3 dX1_sees_9 rfl 10 rfl ?_
    refine nw_iload C 5 dX1_sees_10 rfl 12 rfl ?_
    refine nw_callS C (mX1_range _ C.hfl d g cl P u (sg_gr σ) br t fog H hB hg hk (by omega) (by omega)) kX1_range q489 (As := [.ref g, .int (b2i br), .int (nI t), .int (nI fog)]) (rest := [.int (nI f)]) rfl rfl ⟨⟨Nat.le_of_ble_eq_true rfl, Nat.le_of_ble_eq_true rfl⟩, Nat.le_of_ble_eq_true rfl, Nat.le_of_ble_eq_true rfl⟩ (Nat.le_of_ble_eq_true rfl) (fun _ h8 h9 => absurd h9 (Nat.not_le.mpr h8)) dX1_sees_12 15 rfl (nw_rdK ?_) nw_noX
    refine nw_icmpgtN C (by omega) 22 dX1_sees_15 (by decide) 18 rfl (fun h3 => ?_) (fun h3 => ?_)
    · refine nw_iconst C (nI 0) dX1_sees_22 (by decide) 23 rfl ?_
      exact nw_nret C dX1_sees_23 (b2i_narrow false) (Nat.le_refl _) (Nat.le_refl _) ⟨congrArg (fun z => some (Value.int (b2i z))) (show (false) = (sp_near (some f) u t br fog) from (by unfold sp_near; simp; omega)), rfl⟩
    · refine nw_iconst C (nI 1) dX1_sees_18 (by decide) 19 rfl ?_
      refine nw_goto C 23 dX1_sees_19 (by decide) ?_
      exact nw_nret C dX1_sees_23 (b2i_narrow true) (Nat.le_refl _) (Nat.le_refl _) ⟨congrArg (fun z => some (Value.int (b2i z))) (show (true) = (sp_near (some f) u t br fog) from (by unfold sp_near; simp; omega)), rfl⟩
set_option maxHeartbeats 4000000 in
theorem mX1_watchers (l : Launch) (hf : l.flags = flags0) (d : nwD) (ro ad : Nat → Nat) (x : Nat) (σ : spSg) (sm : Int64) (c t : Nat) (H : Heap) (hB : nd_B d ≤ H.size) (hW : nwWC d ro ad x σ sm H) (ok : spOk σ) (hc : c < gr_n (sg_gr σ)) (ht : t < 2 ^ 31) : nwRd l d yX1_watchers cX1_watchers 8 (some .int) 6 133 [.ref x, .int (nI c), .int (nI t)] H (some (.int (sp_watchers (sg_gr σ) (sg_la σ) (sg_fo σ) (sg_gu σ) c t))) := by
  refine nw_rd "NightwatchWall" "watchers" hf (by decide +kernel) rfl rfl hB (Nat.le_of_ble_eq_true rfl) ?_
  intro X C
  obtain ⟨hx, hcG, hcLa, hcFo, hcGu, hcPo, hcIn, hcWi, hcWo, hcKe⟩ := id hW
  obtain ⟨okg, okl, okf, oku, okp, oki, okw, okd, okk, oka⟩ := id ok
  have hn64 : gr_n (sg_gr σ) ≤ 64 := okg.n
  have hE := C.E0
  obtain ⟨hgro, hgrl, hgrg⟩ := hcG.here hc
  have oku1 := oku.1
  have hf5 := sp_fog_le okf t
  show nwV X _ _ 8 H 0 0 0 [(0, .ref x), (1, .int (nI c)), (2, .int (nI t))] []
  refine nw_aload_n C 0 dX1_watchers_0 rfl 1 rfl ?_
  refine nw_iload_n C 2 dX1_watchers_1 rfl 2 rfl ?_
  refine nw_callV C (mX1_fogAt _ C.hfl d ro ad x σ sm t H hB hW ok (by omega)) kX1_fogAt q420 (hx.is C (ci := 0) rfl) (As := [.int (nI t)]) (rest := []) rfl rfl ⟨⟨Nat.le_of_ble_eq_true rfl, Nat.le_of_ble_eq_true rfl⟩, Nat.le_of_ble_eq_true rfl, Nat.le_of_ble_eq_true rfl⟩ (Nat.le_of_ble_eq_true rfl) (fun _ h8 h9 => absurd h9 (Nat.not_le.mpr h8)) dX1_watchers_2 5 rfl (nw_rdK ?_) nw_noX
  refine nw_istore_n C [(3, .int (nI (sp_fog (sg_fo σ) t))), (0, .ref x), (1, .int (nI c)), (2, .int (nI t))] dX1_watchers_5 (by decide) rfl 6 rfl ?_
  refine nw_iconst C (nI 0) dX1_watchers_6 (by decide) 7 rfl ?_
  refine nw_istore C [(4, .int (nI 0)), (3, .int (nI (sp_fog (sg_fo σ) t))), (0, .ref x), (1, .int (nI c)), (2, .int (nI t))] dX1_watchers_7 (by decide) rfl 9 rfl ?_
  refine nw_iconst C (nI 0) dX1_watchers_9 (by decide) 10 rfl ?_
  refine nw_istore C [(5, .int (nI 0)), (4, .int (nI 0)), (3, .int (nI (sp_fog (sg_fo σ) t))), (0, .ref x), (1, .int (nI c)), (2, .int (nI t))] dX1_watchers_10 (by decide) rfl 12 rfl ?_
  have lp1 : ∀ (fu : Nat) (i : Nat) (mm : Int32), (i ≤ (sg_gu σ).1) → (mm = sp_bits (sp_eye (sg_gr σ) (sg_la σ) (sg_fo σ) (sg_gu σ) c t) i) → (sg_gu σ).1 - i < fu → nwV X (nwNew H) (nwQE X (fun v H1 => v = some (.int (sp_watchers (sg_gr σ) (sg_la σ) (sg_fo σ) (sg_gu σ) c t)) ∧ H1 = H) nwNo (nwNew H) 0 0) 8 H 0 0 12 [(0, .ref x), (1, .int (nI c)), (2, .int (nI t)), (3, .int (nI (sp_fog (sg_fo σ) t))), (4, .int mm), (5, .int (nI i))] [] := by
    intro fu
    induction fu with
    | zero => intro i mm _ _ hm; exact absurd hm (Nat.not_lt_zero _)
    | succ fu ih_lp1 =>
      intro i mm hi hmm hm
      refine nw_iload C 5 dX1_watchers_12 rfl 14 rfl ?_
      refine nw_aload_n C 0 dX1_watchers_14 rfl 15 rfl ?_
      refine nw_get C hx (T := TX1) rfl in_X1 3 (by decide) q224 (Or.inl rfl) rfl dX1_watchers_15 18 rfl ?_
      refine nw_callV C (mJ3_size _ C.hfl d (ad 3) ((sg_gu σ).1) (fun k => ad (300 + k)) (fun q => ro q = 2004) H hB hcGu.1) kJ3_size q346 (hcGu.1.is C) (As := []) (rest := [.int (nI i)]) rfl rfl ⟨⟨Nat.le_of_ble_eq_true rfl, Nat.le_of_ble_eq_true rfl⟩, Nat.le_of_ble_eq_true rfl, Nat.le_of_ble_eq_true rfl⟩ (Nat.le_of_ble_eq_true rfl) (fun _ h8 h9 => absurd h9 (Nat.not_le.mpr h8)) dX1_watchers_18 21 rfl (nw_rdK ?_) nw_noX
      refine nw_icmpgeN C (by omega) 99 dX1_watchers_21 (by decide) 24 rfl (fun h2 => ?_) (fun h2 => ?_)
      · refine nw_iload C 4 dX1_watchers_99 rfl 101 rfl ?_
        exact nw_iret C dX1_watchers_101 (Nat.le_refl _) (Nat.le_refl _) ⟨congrArg (fun z => some (Value.int z)) (show (mm) = (sp_watchers (sg_gr σ) (sg_la σ) (sg_fo σ) (sg_gu σ) c t) from (by rw [hmm, show i = (sg_gu σ).1 by omega]; rfl)), rfl⟩
      · refine nw_aload_n C 0 dX1_watchers_24 rfl 25 rfl ?_
        refine nw_get C hx (T := TX1) rfl in_X1 3 (by decide) q224 (Or.inl rfl) rfl dX1_watchers_25 28 rfl ?_
        refine nw_iload C 5 dX1_watchers_28 rfl 30 rfl ?_
        refine nw_callV C (mJ3_get _ C.hfl d (ad 3) ((sg_gu σ).1) (fun k => ad (300 + k)) (fun q => ro q = 2004) i H hB hcGu.1 (by omega)) kJ3_get q350 (hcGu.1.is C) (As := [.int (nI i)]) (rest := []) rfl rfl ⟨⟨Nat.le_of_ble_eq_true rfl, Nat.le_of_ble_eq_true rfl⟩, Nat.le_of_ble_eq_true rfl, Nat.le_of_ble_eq_true rfl⟩ (Nat.le_of_ble_eq_true rfl) (fun _ h8 h9 => absurd h9 (Nat.not_le.mpr h8)) dX1_watchers_30 33 rfl (nw_rdK ?_) nw_noX
        have hg3 : nwGd d (ad (300 + i)) (ad (400 + i)) (fun q => ro q = 2401 + i) ((sg_gu σ).2 i) H := hcGu.2 i (by omega)
        have hk4 : okGd (sg_gr σ) ((sg_gu σ).2 i) := oku.2 i (by omega)
        have hg5 : nwO d (ad (300 + i)) 4 [.int (nI (gd_a ((sg_gu σ).2 i))), .int (nI (gd_b ((sg_gu σ).2 i))), .int (nI (gd_s ((sg_gu σ).2 i))), .ref (ad (400 + i)), .int (nI (gd_k ((sg_gu σ).2 i))), .int (gd_h ((sg_gu σ).2 i))] H := hg3.1
        refine nw_cast C (ci := 4) rfl (hg5.is C (ci := 4) rfl) q369 dX1_watchers_33 36 rfl ?_
        refine nw_astore C [(6, .ref (ad (300 + i))), (0, .ref x), (1, .int (nI c)), (2, .int (nI t)), (3, .int (nI (sp_fog (sg_fo σ) t))), (4, .int mm), (5, .int (nI i))] dX1_watchers_36 (by decide) rfl 38 rfl ?_
        refine nw_aload_n C 1 dX1_watchers_38 rfl 39 rfl ?_
        refine nw_aload C 0 dX1_watchers_39 rfl 41 rfl ?_
        refine nw_iload_n C 2 dX1_watchers_41 rfl 42 rfl ?_
        refine nw_iload_n C 3 dX1_watchers_42 rfl 43 rfl ?_
        refine nw_callV C (mX1_view _ C.hfl d ro ad x σ sm (ad (300 + i)) (ad (400 + i)) (fun q => ro q = 2401 + i) ((sg_gu σ).2 i) c t H hB hW ok hg3 hk4 (by omega) (by omega)) kX1_view q425 (hx.is C (ci := 0) rfl) (As := [.ref (ad (300 + i)), .int (nI c), .int (nI t)]) (rest := []) rfl rfl ⟨⟨Nat.le_of_ble_eq_true rfl, Nat.le_of_ble_eq_true rfl⟩, Nat.le_of_ble_eq_true rfl, Nat.le_of_ble_eq_true rfl⟩ (Nat.le_of_ble_eq_true rfl) (fun _ h8 h9 => absurd h9 (Nat.not_le.mpr h8)) dX1_watchers_43 46 rfl (nw_rdK ?_) nw_noX
        refine nw_istore C [(7, .int (oI (sp_view (sg_gr σ) ((sg_gu σ).2 i) c t))), (6, .ref (ad (300 + i))), (0, .ref x), (1, .int (nI c)), (2, .int (nI t)), (3, .int (nI (sp_fog (sg_fo σ) t))), (4, .int mm), (5, .int (nI i))] dX1_watchers_46 (by decide) rfl 48 rfl ?_
        refine nw_aload_n C 2 dX1_watchers_48 rfl 49 rfl ?_
        refine nw_aload C 1 dX1_watchers_49 rfl 51 rfl ?_
        refine nw_iload C 0 dX1_watchers_51 rfl 53 rfl ?_
        refine nw_iload_n C 4 dX1_watchers_53 rfl 54 rfl ?_
        refine nw_iconst C (nI 0) dX1_watchers_54 (by decide) 55 rfl ?_
        refine nw_iload_n C 5 dX1_watchers_55 rfl 56 rfl ?_
        refine nw_callV C (mX1_sees _ C.hfl d ro ad x σ sm (ad (300 + i)) (ad (400 + i)) (fun q => ro q = 2401 + i) ((sg_gu σ).2 i) (sp_view (sg_gr σ) ((sg_gu σ).2 i) c t) t false (sp_fog (sg_fo σ) t) H hB hW ok hg3 hk4 (sp_view_lt hgro hk4 hc) (by omega) (by omega)) kX1_sees q485 (hx.is C (ci := 0) rfl) (As := [.ref (ad (300 + i)), .int (oI (sp_view (sg_gr σ) ((sg_gu σ).2 i) c t)), .int (nI t), .int (b2i false), .int (nI (sp_fog (sg_fo σ) t))]) (rest := []) rfl rfl ⟨⟨Nat.le_of_ble_eq_true rfl, Nat.le_of_ble_eq_true rfl⟩, Nat.le_of_ble_eq_true rfl, Nat.le_of_ble_eq_true rfl⟩ (Nat.le_of_ble_eq_true rfl) (fun _ h8 h9 => absurd h9 (Nat.not_le.mpr h8)) dX1_watchers_56 59 rfl (nw_rdK ?_) nw_noX
        refine nw_ifneB C 84 dX1_watchers_59 (by decide) 62 rfl (fun h6 => ?_) (fun h6 => ?_)
        · refine nw_iload C 6 dX1_watchers_84 rfl 86 rfl ?_
          refine nw_iconst C (nI 1) dX1_watchers_86 (by decide) 87 rfl ?_
          refine nw_iload C 7 dX1_watchers_87 rfl 89 rfl ?_
          refine nw_ishl C ((nI 1) <<< ((nI i) &&& 31)) dX1_watchers_89 rfl 90 rfl ?_
          refine nw_ior C (mm ||| ((nI 1) <<< ((nI i) &&& 31))) dX1_watchers_90 rfl 91 rfl ?_
          refine nw_istore C [(4, .int (mm ||| ((nI 1) <<< ((nI i) &&& 31)))), (7, .int (oI (sp_view (sg_gr σ) ((sg_gu σ).2 i) c t))), (6, .ref (ad (300 + i))), (0, .ref x), (1, .int (nI c)), (2, .int (nI t)), (3, .int (nI (sp_fog (sg_fo σ) t))), (5, .int (nI i))] dX1_watchers_91 (by decide) rfl 93 rfl ?_
          refine nw_iincN C 7 (c0 := 1) [(5, .int (nI (i + 1))), (4, .int (mm ||| ((nI 1) <<< ((nI i) &&& 31)))), (7, .int (oI (sp_view (sg_gr σ) ((sg_gu σ).2 i) c t))), (6, .ref (ad (300 + i))), (0, .ref x), (1, .int (nI c)), (2, .int (nI t)), (3, .int (nI (sp_fog (sg_fo σ) t)))] dX1_watchers_93 rfl (by decide) rfl 96 rfl ?_
          refine nw_goto C 12 dX1_watchers_96 (by decide) ?_
          exact (nw_sub [4, 5, 6, 7, 1, 0] rfl (ih_lp1 (i + 1) (mm ||| ((nI 1) <<< ((nI i) &&& 31))) (by omega) (by rw [sp_bits_t (p := sp_eye (sg_gr σ) (sg_la σ) (sg_fo σ) (sg_gu σ) c t) (n := i) (by unfold sp_eye sp_sees; rw [← sp_near_br hf5]; simp [h6]), ← hmm]) (by omega)))
        · refine nw_aload_n C 2 dX1_watchers_62 rfl 63 rfl ?_
          refine nw_aload C 1 dX1_watchers_63 rfl 65 rfl ?_
          refine nw_iload C 0 dX1_watchers_65 rfl 67 rfl ?_
          refine nw_iload_n C 4 dX1_watchers_67 rfl 68 rfl ?_
          refine nw_iconst C (nI 1) dX1_watchers_68 (by decide) 69 rfl ?_
          refine nw_iload_n C 5 dX1_watchers_69 rfl 70 rfl ?_
          refine nw_callV C (mX1_sees _ C.hfl d ro ad x σ sm (ad (300 + i)) (ad (400 + i)) (fun q => ro q = 2401 + i) ((sg_gu σ).2 i) (sp_view (sg_gr σ) ((sg_gu σ).2 i) c t) t true (sp_fog (sg_fo σ) t) H hB hW ok hg3 hk4 (sp_view_lt hgro hk4 hc) (by omega) (by omega)) kX1_sees q485 (hx.is C (ci := 0) rfl) (As := [.ref (ad (300 + i)), .int (oI (sp_view (sg_gr σ) ((sg_gu σ).2 i) c t)), .int (nI t), .int (b2i true), .int (nI (sp_fog (sg_fo σ) t))]) (rest := []) rfl rfl ⟨⟨Nat.le_of_ble_eq_true rfl, Nat.le_of_ble_eq_true rfl⟩, Nat.le_of_ble_eq_true rfl, Nat.le_of_ble_eq_true rfl⟩ (Nat.le_of_ble_eq_true rfl) (fun _ h8 h9 => absurd h9 (Nat.not_le.mpr h8)) dX1_watchers_70 73 rfl (nw_rdK ?_) nw_noX
          refine nw_ifeqB C 93 dX1_watchers_73 (by decide) 76 rfl (fun h7 => ?_) (fun h7 => ?_)
          · refine nw_iincN C 7 (c0 := 1) [(5, .int (nI (i + 1))), (7, .int (oI (sp_view (sg_gr σ) ((sg_gu σ).2 i) c t))), (6, .ref (ad (300 + i))), (0, .ref x), (1, .int (nI c)), (2, .int (nI t)), (3, .int (nI (sp_fog (sg_fo σ) t))), (4, .int mm)] dX1_watchers_93 rfl (by decide) rfl 96 rfl ?_
            refine nw_goto C 12 dX1_watchers_96 (by decide) ?_
            exact (nw_sub [3, 4, 5, 6, 7, 0] rfl (ih_lp1 (i + 1) mm (by omega) (by rw [sp_bits_f (p := sp_eye (sg_gr σ) (sg_la σ) (sg_fo σ) (sg_gu σ) c t) (n := i) (by unfold sp_eye sp_sees; rw [← sp_near_br hf5]; simp [h6, h7]), ← hmm]) (by omega)))
          · refine nw_aload_n C 2 dX1_watchers_76 rfl 77 rfl ?_
            refine nw_iload_n C 3 dX1_watchers_77 rfl 78 rfl ?_
            refine nw_callV C (mX1_isBright _ C.hfl d ro ad x σ sm c H hB hW ok (by omega)) kX1_isBright q497 (hx.is C (ci := 0) rfl) (As := [.int (nI c)]) (rest := []) rfl rfl ⟨⟨Nat.le_of_ble_eq_true rfl, Nat.le_of_ble_eq_true rfl⟩, Nat.le_of_ble_eq_true rfl, Nat.le_of_ble_eq_true rfl⟩ (Nat.le_of_ble_eq_true rfl) (fun _ h8 h9 => absurd h9 (Nat.not_le.mpr h8)) dX1_watchers_78 81 rfl (nw_rdK ?_) nw_noX
            refine nw_ifeqB C 93 dX1_watchers_81 (by decide) 84 rfl (fun h8 => ?_) (fun h8 => ?_)
            · refine nw_iincN C 7 (c0 := 1) [(5, .int (nI (i + 1))), (7, .int (oI (sp_view (sg_gr σ) ((sg_gu σ).2 i) c t))), (6, .ref (ad (300 + i))), (0, .ref x), (1, .int (nI c)), (2, .int (nI t)), (3, .int (nI (sp_fog (sg_fo σ) t))), (4, .int mm)] dX1_watchers_93 rfl (by decide) rfl 96 rfl ?_
              refine nw_goto C 12 dX1_watchers_96 (by decide) ?_
              exact (nw_sub [3, 4, 5, 6, 7, 0] rfl (ih_lp1 (i + 1) mm (by omega) (by rw [sp_bits_f (p := sp_eye (sg_gr σ) (sg_la σ) (sg_fo σ) (sg_gu σ) c t) (n := i) (by unfold sp_eye sp_sees; rw [← sp_near_br hf5]; simp [h6, h7, h8]), ← hmm]) (by omega)))
            · refine nw_iload C 6 dX1_watchers_84 rfl 86 rfl ?_
              refine nw_iconst C (nI 1) dX1_watchers_86 (by decide) 87 rfl ?_
              refine nw_iload C 7 dX1_watchers_87 rfl 89 rfl ?_
              refine nw_ishl C ((nI 1) <<< ((nI i) &&& 31)) dX1_watchers_89 rfl 90 rfl ?_
              refine nw_ior C (mm ||| ((nI 1) <<< ((nI i) &&& 31))) dX1_watchers_90 rfl 91 rfl ?_
              refine nw_istore C [(4, .int (mm ||| ((nI 1) <<< ((nI i) &&& 31)))), (7, .int (oI (sp_view (sg_gr σ) ((sg_gu σ).2 i) c t))), (6, .ref (ad (300 + i))), (0, .ref x), (1, .int (nI c)), (2, .int (nI t)), (3, .int (nI (sp_fog (sg_fo σ) t))), (5, .int (nI i))] dX1_watchers_91 (by decide) rfl 93 rfl ?_
              refine nw_iincN C 7 (c0 := 1) [(5, .int (nI (i + 1))), (4, .int (mm ||| ((nI 1) <<< ((nI i) &&& 31)))), (7, .int (oI (sp_view (sg_gr σ) ((sg_gu σ).2 i) c t))), (6, .ref (ad (300 + i))), (0, .ref x), (1, .int (nI c)), (2, .int (nI t)), (3, .int (nI (sp_fog (sg_fo σ) t)))] dX1_watchers_93 rfl (by decide) rfl 96 rfl ?_
              refine nw_goto C 12 dX1_watchers_96 (by decide) ?_
              exact (nw_sub [4, 5, 6, 7, 1, 0] rfl (ih_lp1 (i + 1) (mm ||| ((nI 1) <<< ((nI i) &&& 31))) (by omega) (by rw [sp_bits_t (p := sp_eye (sg_gr σ) (sg_la σ) (sg_fo σ) (sg_gu σ) c t) (n := i) (by unfold sp_eye sp_sees; rw [← sp_near_br hf5]; simp [h6, h7, h8]), ← hmm]) (by omega)))
  exact (nw_sub [3, 4, 5, 2, 1, 0] rfl (lp1 _ 0 (nI 0) (Nat.zero_le _) rfl (Nat.lt_succ_self _)))
set_option maxHeartbeats 4000000 in
theorem mX1_isWatched (l : Launch) (hf : l.flags = flags0) (d : nwD) (ro ad : Nat → Nat) (x : Nat) (σ : spSg) (sm : Int64) (c t : Nat) (H : Heap) (hB : nd_B d ≤ H.size) (hW : nwWC d ro ad x σ sm H) (ok : spOk σ) (hc : c < gr_n (sg_gr σ)) (ht : t < 2 ^ 31) : nwRd l d yX1_isWatched cX1_isWatched 3 (some .boolean) 7 160 [.ref x, .int (nI c), .int (nI t)] H (some (.int (b2i (sp_watched (sg_gr σ) (sg_la σ) (sg_fo σ) (sg_gu σ) c t)))) := by
  refine nw_rd "NightwatchWall" "isWatched" hf (by decide +kernel) rfl rfl hB (Nat.le_of_ble_eq_true rfl) ?_
  intro X C
  obtain ⟨hx, hcG, hcLa, hcFo, hcGu, hcPo, hcIn, hcWi, hcWo, hcKe⟩ := id hW
  obtain ⟨okg, okl, okf, oku, okp, oki, okw, okd, okk, oka⟩ := id ok
  have hn64 : gr_n (sg_gr σ) ≤ 64 := okg.n
  have hE := C.E0
  obtain ⟨hgro, hgrl, hgrg⟩ := hcG.here hc
  show nwV X _ _ 3 H 0 0 0 [(0, .ref x), (1, .int (nI c)), (2, .int (nI t))] []
  refine nw_aload_n C 0 dX1_isWatched_0 rfl 1 rfl ?_
  refine nw_iload_n C 1 dX1_isWatched_1 rfl 2 rfl ?_
  refine nw_iload_n C 2 dX1_isWatched_2 rfl 3 rfl ?_
  refine nw_callV C (mX1_watchers _ C.hfl d ro ad x σ sm c t H hB hW ok (by omega) (by omega)) kX1_watchers q416 (hx.is C (ci := 0) rfl) (As := [.int (nI c), .int (nI t)]) (rest := []) rfl rfl ⟨⟨Nat.le_of_ble_eq_true rfl, Nat.le_of_ble_eq_true rfl⟩, Nat.le_of_ble_eq_true rfl, Nat.le_of_ble_eq_true rfl⟩ (Nat.le_of_ble_eq_true rfl) (fun _ h8 h9 => absurd h9 (Nat.not_le.mpr h8)) dX1_isWatched_3 6 rfl (nw_rdK ?_) nw_noX
  refine nw_ifeq C 13 dX1_isWatched_6 (by decide) 9 rfl (fun h1 => ?_) (fun h1 => ?_)
  · refine nw_iconst C (nI 0) dX1_isWatched_13 (by decide) 14 rfl ?_
    exact nw_nret C dX1_isWatched_14 (b2i_narrow false) (Nat.le_refl _) (Nat.le_refl _) ⟨congrArg (fun z => some (Value.int (b2i z))) (show (false) = (sp_watched (sg_gr σ) (sg_la σ) (sg_fo σ) (sg_gu σ) c t) from (nw_wt0 oku.1 h1)), rfl⟩
  · refine nw_iconst C (nI 1) dX1_isWatched_9 (by decide) 10 rfl ?_
    refine nw_goto C 14 dX1_isWatched_10 (by decide) ?_
    exact nw_nret C dX1_isWatched_14 (b2i_narrow true) (Nat.le_refl _) (Nat.le_refl _) ⟨congrArg (fun z => some (Value.int (b2i z))) (show (true) = (sp_watched (sg_gr σ) (sg_la σ) (sg_fo σ) (sg_gu σ) c t) from (nw_wt1 oku.1 h1)), rfl⟩
