theorem kX1_guardAt : nwPV "NightwatchWall" yX1_guardAt cX1_guardAt 2 (some (.object "NightwatchWall$Guard")) 1 := ⟨⟨q1055, qs38, q86, q1056⟩, rfl, by decide +kernel, by decide +kernel, by decide +kernel⟩
theorem kX1_requireMinute : nwPS yX1_requireMinute cX1_requireMinute 1 none 1 := ⟨⟨q1073, q86, q1074⟩, by decide +kernel, by decide +kernel, by decide +kernel⟩
theorem kX1_groundAt : nwPV "NightwatchWall" yX1_groundAt cX1_groundAt 2 (some (.object "NightwatchWall$Ground")) 1 := ⟨⟨q812, qs34, q86, q813⟩, rfl, by decide +kernel, by decide +kernel, by decide +kernel⟩
theorem kX1_ofCellNow : nwPV "NightwatchWall" yX1_ofCellNow cX1_ofCellNow 4 (some .int) 3 := ⟨⟨q557, qs23, q86, q558⟩, rfl, by decide +kernel, by decide +kernel, by decide +kernel⟩
theorem kX1_ofMinuteNow : nwPV "NightwatchWall" yX1_ofMinuteNow cX1_ofMinuteNow 3 (some .int) 2 := ⟨⟨q536, qs18, q86, q537⟩, rfl, by decide +kernel, by decide +kernel, by decide +kernel⟩
theorem kX1_emptyNow : nwPV "NightwatchWall" yX1_emptyNow cX1_emptyNow 5 (some .int) 2 := ⟨⟨q595, qs26, q86, q596⟩, rfl, by decide +kernel, by decide +kernel, by decide +kernel⟩
theorem kX1_ofGuardNow : nwPV "NightwatchWall" yX1_ofGuardNow cX1_ofGuardNow 4 (some .int) 2 := ⟨⟨q582, qs25, q86, q583⟩, rfl, by decide +kernel, by decide +kernel, by decide +kernel⟩
theorem kX1_intruderAt : nwPV "NightwatchWall" yX1_intruderAt cX1_intruderAt 2 (some (.object "NightwatchWall$Intruder")) 1 := ⟨⟨q1244, qs41, q86, q1245⟩, rfl, by decide +kernel, by decide +kernel, by decide +kernel⟩
theorem kX1_ofWireNow : nwPV "NightwatchWall" yX1_ofWireNow cX1_ofWireNow 8 (some .int) 2 := ⟨⟨q624, qs31, q86, q625⟩, rfl, by decide +kernel, by decide +kernel, by decide +kernel⟩
set_option maxHeartbeats 4000000 in
theorem mX1_place (l : Launch) (hf : l.flags = flags0) (d : nwD) (ro ad : Nat → Nat) (x : Nat) (σ : spSg) (sm : Int64) (g : Int32) (t : Int32) (H : Heap) (hB : nd_B d ≤ H.size) (hW : nwWC d ro ad x σ sm H) (ok : spOk σ)  : nwMt l d yX1_place cX1_place 4 (some .int) 8 142 2 12 [.ref x, .int g, .int t] H (nwRv (op_place σ g t) H) (nwRx (op_place σ g t) [cIO, cIA] H) (nwNew H) := by
  refine nw_start "NightwatchWall" "place" hf (by decide +kernel) rfl rfl (fun _ h => h) (fun q h => Nat.le_trans hB h) (Nat.le_of_ble_eq_true rfl) ?_
  intro X C
  have hW0 := hW
  have hB0 := hB
  have hE := C.E0
  have hext : nwExt H H := nwExt.rfl
  obtain ⟨hx, hcG, hcLa, hcFo, hcGu, hcPo, hcIn, hcWi, hcWo, hcKe⟩ := id hW
  obtain ⟨okg, okl, okf, oku, okp, oki, okw, okd, okk, oka⟩ := id ok
  have hn64 : gr_n (sg_gr σ) ≤ 64 := okg.n
  have oku1 := oku.1
  have oki1 := oki.1
  have okp1 := okp.1
  have okw1 := okw.1
  have okl1 := okl.1
  have okf1 := okf.1
  show nwV X _ _ 4 H 0 0 0 [(0, .ref x), (1, .int g), (2, .int t)] []
  refine nw_aload_n C 0 dX1_place_0 rfl 1 rfl ?_
  refine nw_iload_n C 1 dX1_place_1 rfl 2 rfl ?_
  refine nw_callV C (mX1_guardAt _ C.hfl d ro ad x σ sm g H hB hW ok) kX1_guardAt q1053 (hx.is C (ci := 0) rfl) (As := [.int g]) (rest := []) rfl rfl ⟨⟨Nat.le_of_ble_eq_true rfl, Nat.le_of_ble_eq_true rfl⟩, (show 0 + 1 ≤ 2 by omega), (show 0 + 6 ≤ 12 by omega)⟩ (Nat.le_of_ble_eq_true rfl) (fun _ h8 h9 => absurd h9 (Nat.not_le.mpr h8)) dX1_place_2 5 rfl ?_ ?_
  rotate_left
  · intro E9 w9 H1 hR2 hz3 hq4
    obtain ⟨rfl, hb5, hx6⟩ := hR2
    exact nw_out C (show (0 + 1) ≤ 2 by omega) (show (0 + 6) ≤ 12 by omega) ⟨⟨0, by simp [op_place, hb5], rfl⟩, hext.trans hx6⟩
  intro v9 H1 hR2 hz3 hq4
  obtain ⟨rfl, hb7, rfl⟩ := hR2
  obtain ⟨gn, hk8, rfl⟩ := nw_ix_nat (by omega) hb7
  have en_gn : nw_nn (nI gn) = gn := nw_nn_nI (by omega)
  rw [en_gn]
  have hg9 : nwGd d (ad (300 + gn)) (ad (400 + gn)) (fun q => ro q = 2401 + gn) ((sg_gu σ).2 gn) H := hcGu.2 gn (by omega)
  have hk10 : okGd (sg_gr σ) ((sg_gu σ).2 gn) := oku.2 gn (by omega)
  have hg11 : nwO d (ad (300 + gn)) 4 [.int (nI (gd_a ((sg_gu σ).2 gn))), .int (nI (gd_b ((sg_gu σ).2 gn))), .int (nI (gd_s ((sg_gu σ).2 gn))), .ref (ad (400 + gn)), .int (nI (gd_k ((sg_gu σ).2 gn))), .int (gd_h ((sg_gu σ).2 gn))] H := hg9.1
  show nwV X _ _ 4 H (0 + 1) (0 + 6) 5 [(0, .ref x), (1, .int (nI gn)), (2, .int t)] [.ref (ad (300 + gn))]
  refine nw_wide (k' := 1) (n' := 6) (by omega) (by omega) ?_
  refine nw_astore_n C [(3, .ref (ad (300 + gn))), (0, .ref x), (1, .int (nI gn)), (2, .int t)] dX1_place_5 (by decide) rfl 6 rfl ?_
  refine nw_iload_n C 3 dX1_place_6 rfl 7 rfl ?_
  refine nw_callS C (mX1_requireMinute _ C.hfl d t H hB) kX1_requireMinute q1072 (As := [.int t]) (rest := []) rfl rfl ⟨⟨Nat.le_of_ble_eq_true rfl, Nat.le_of_ble_eq_true rfl⟩, (show 1 + 1 ≤ 2 by omega), (show 6 + 6 ≤ 12 by omega)⟩ (Nat.le_of_ble_eq_true rfl) (fun _ h8 h9 => absurd h9 (Nat.not_le.mpr h8)) dX1_place_7 10 rfl ?_ ?_
  rotate_left
  · intro E9 w9 H12 hR13 hz14 hq15
    obtain ⟨rfl, hb16, hx17⟩ := hR13
    exact nw_out C (show (1 + 1) ≤ 2 by omega) (show (6 + 6) ≤ 12 by omega) ⟨⟨1, by simp [op_place, en_gn, hb7, hb16], rfl⟩, hext.trans hx17⟩
  intro v9 H12 hR13 hz14 hq15
  obtain ⟨rfl, hb18, rfl⟩ := hR13
  obtain ⟨tn, hk19, rfl⟩ := nw_rg_nat (by decide) (by decide) hb18
  have en_tn : nw_nn (nI tn) = tn := nw_nn_nI (by omega)
  show nwV X _ _ 4 H (1 + 1) (6 + 6) 10 [(3, .ref (ad (300 + gn))), (0, .ref x), (1, .int (nI gn)), (2, .int (nI tn))] []
  refine nw_wide (k' := 2) (n' := 12) (by omega) (by omega) ?_
  refine nw_aload_n C 0 dX1_place_10 rfl 11 rfl ?_
  refine nw_iload_n C 3 dX1_place_11 rfl 12 rfl ?_
  refine nw_callV C (mX10_place _ C.hfl d (ad (300 + gn)) (ad (400 + gn)) (fun q => ro q = 2401 + gn) ((sg_gu σ).2 gn) (sg_gr σ) tn H hB hg9 hk10 (by omega) (by omega)) kX10_place q429 (hg11.is C (ci := 4) rfl) (As := [.int (nI tn)]) (rest := []) rfl rfl ⟨⟨Nat.le_of_ble_eq_true rfl, Nat.le_of_ble_eq_true rfl⟩, Nat.le_of_ble_eq_true rfl, Nat.le_of_ble_eq_true rfl⟩ (Nat.le_of_ble_eq_true rfl) (fun _ h8 h9 => absurd h9 (Nat.not_le.mpr h8)) dX1_place_12 15 rfl (nw_rdK ?_) nw_noX
  exact nw_iret C dX1_place_15 (by omega) (by omega) ⟨⟨by simp [op_place, en_gn, en_tn, hb7, hb18], by simp [op_place, en_gn, en_tn, hb7, hb18]⟩, hext⟩
set_option maxHeartbeats 4000000 in
theorem mX1_ofCell (l : Launch) (hf : l.flags = flags0) (d : nwD) (ro ad : Nat → Nat) (x : Nat) (σ : spSg) (sm : Int64) (c : Int32) (t : Int32) (q : Int32) (H : Heap) (hB : nd_B d ≤ H.size) (hW : nwWC d ro ad x σ sm H) (ok : spOk σ)  : nwMt l d yX1_ofCell cX1_ofCell 4 (some .int) 8 183 2 12 [.ref x, .int c, .int t, .int q] H (nwRv (op_ofCell σ c t q) H) (nwRx (op_ofCell σ c t q) [cIO, cIA] H) (nwNew H) := by
  refine nw_start "NightwatchWall" "ofCell" hf (by decide +kernel) rfl rfl (fun _ h => h) (fun q h => Nat.le_trans hB h) (Nat.le_of_ble_eq_true rfl) ?_
  intro X C
  have hW0 := hW
  have hB0 := hB
  have hE := C.E0
  have hext : nwExt H H := nwExt.rfl
  obtain ⟨hx, hcG, hcLa, hcFo, hcGu, hcPo, hcIn, hcWi, hcWo, hcKe⟩ := id hW
  obtain ⟨okg, okl, okf, oku, okp, oki, okw, okd, okk, oka⟩ := id ok
  have hn64 : gr_n (sg_gr σ) ≤ 64 := okg.n
  have oku1 := oku.1
  have oki1 := oki.1
  have okp1 := okp.1
  have okw1 := okw.1
  have okl1 := okl.1
  have okf1 := okf.1
  show nwV X _ _ 4 H 0 0 0 [(0, .ref x), (1, .int c), (2, .int t), (3, .int q)] []
  refine nw_aload_n C 0 dX1_ofCell_0 rfl 1 rfl ?_
  refine nw_iload_n C 1 dX1_ofCell_1 rfl 2 rfl ?_
  refine nw_callV C (mX1_groundAt _ C.hfl d ro ad x σ sm c H hB hW ok) kX1_groundAt q810 (hx.is C (ci := 0) rfl) (As := [.int c]) (rest := []) rfl rfl ⟨⟨Nat.le_of_ble_eq_true rfl, Nat.le_of_ble_eq_true rfl⟩, (show 0 + 1 ≤ 2 by omega), (show 0 + 6 ≤ 12 by omega)⟩ (Nat.le_of_ble_eq_true rfl) (fun _ h8 h9 => absurd h9 (Nat.not_le.mpr h8)) dX1_ofCell_2 5 rfl ?_ ?_
  rotate_left
  · intro E9 w9 H1 hR2 hz3 hq4
    obtain ⟨rfl, hb5, hx6⟩ := hR2
    exact nw_out C (show (0 + 1) ≤ 2 by omega) (show (0 + 6) ≤ 12 by omega) ⟨⟨0, by simp [op_ofCell, hb5], rfl⟩, hext.trans hx6⟩
  intro v9 H1 hR2 hz3 hq4
  obtain ⟨rfl, hb7, rfl⟩ := hR2
  obtain ⟨cn, hk8, rfl⟩ := nw_ix_nat (by omega) hb7
  have en_cn : nw_nn (nI cn) = cn := nw_nn_nI (by omega)
  obtain ⟨hgro, hgrl, hgrg⟩ := hcG.here (by assumption)
  show nwV X _ _ 4 H (0 + 1) (0 + 6) 5 [(0, .ref x), (1, .int (nI cn)), (2, .int t), (3, .int q)] [.ref (ad 9)]
  refine nw_wide (k' := 1) (n' := 6) (by omega) (by omega) ?_
  refine nw_pop C dX1_ofCell_5 rfl 6 rfl ?_
  refine nw_iload_n C 2 dX1_ofCell_6 rfl 7 rfl ?_
  refine nw_callS C (mX1_isMinute _ C.hfl d t H hB) kX1_isMinute q861 (As := [.int t]) (rest := []) rfl rfl ⟨⟨Nat.le_of_ble_eq_true rfl, Nat.le_of_ble_eq_true rfl⟩, Nat.le_of_ble_eq_true rfl, Nat.le_of_ble_eq_true rfl⟩ (Nat.le_of_ble_eq_true rfl) (fun _ h8 h9 => absurd h9 (Nat.not_le.mpr h8)) dX1_ofCell_7 10 rfl (nw_rdK ?_) nw_noX
  refine nw_ifeqB C 26 dX1_ofCell_10 (by decide) 13 rfl (fun h9 => ?_) (fun h9 => ?_)
  · refine nw_iconst C (nI 0) dX1_ofCell_26 (by decide) 27 rfl ?_
    refine nw_callS C (mX1_require _ C.hfl d false H hB) kX1_require q655 (As := [.int (b2i false)]) (rest := []) rfl rfl ⟨⟨Nat.le_of_ble_eq_true rfl, Nat.le_of_ble_eq_true rfl⟩, (show 1 + 1 ≤ 2 by omega), (show 6 + 6 ≤ 12 by omega)⟩ (Nat.le_of_ble_eq_true rfl) (fun _ h8 h9 => absurd h9 (Nat.not_le.mpr h8)) dX1_ofCell_27 30 rfl ?_ ?_
    rotate_left
    · intro E9 w9 H10 hR11 hz12 hq13
      obtain ⟨rfl, hb14, hx15⟩ := hR11
      exact nw_out C (show (1 + 1) ≤ 2 by omega) (show (6 + 6) ≤ 12 by omega) ⟨⟨1, by simp [op_ofCell, h9, en_cn, hb7, hb14], rfl⟩, hext.trans hx15⟩
    intro v9 H10 hR11 hz12 hq13
    obtain ⟨rfl, hb16, rfl⟩ := hR11
    cases hb16
  · obtain ⟨tn, hk17, rfl⟩ := nw_rg_nat (by decide) (by decide) h9
    have en_tn : nw_nn (nI tn) = tn := nw_nn_nI (by omega)
    refine nw_iconst C (nI 0) dX1_ofCell_13 (by decide) 14 rfl ?_
    refine nw_iconst C (nI 4) dX1_ofCell_14 (by decide) 15 rfl ?_
    refine nw_iload_n C 3 dX1_ofCell_15 rfl 16 rfl ?_
    refine nw_callS C (mX1_isFromR _ C.hfl d (nI 0) (nI 4) q H hB) kX1_isFrom q579 (As := [.int (nI 0), .int (nI 4), .int q]) (rest := []) rfl rfl ⟨⟨Nat.le_of_ble_eq_true rfl, Nat.le_of_ble_eq_true rfl⟩, Nat.le_of_ble_eq_true rfl, Nat.le_of_ble_eq_true rfl⟩ (Nat.le_of_ble_eq_true rfl) (fun _ h8 h9 => absurd h9 (Nat.not_le.mpr h8)) dX1_ofCell_16 19 rfl (nw_rdK ?_) nw_noX
    show nwV X _ _ 4 H 1 6 19 [(0, .ref x), (1, .int (nI cn)), (2, .int (nI tn)), (3, .int q)] [.int (b2i (nw_rg 0 4 q))]
    refine nw_ifeqB C 26 dX1_ofCell_19 (by decide) 22 rfl (fun h18 => ?_) (fun h18 => ?_)
    · refine nw_iconst C (nI 0) dX1_ofCell_26 (by decide) 27 rfl ?_
      refine nw_callS C (mX1_require _ C.hfl d false H hB) kX1_require q655 (As := [.int (b2i false)]) (rest := []) rfl rfl ⟨⟨Nat.le_of_ble_eq_true rfl, Nat.le_of_ble_eq_true rfl⟩, (show 1 + 1 ≤ 2 by omega), (show 6 + 6 ≤ 12 by omega)⟩ (Nat.le_of_ble_eq_true rfl) (fun _ h8 h9 => absurd h9 (Nat.not_le.mpr h8)) dX1_ofCell_27 30 rfl ?_ ?_
      rotate_left
      · intro E9 w9 H19 hR20 hz21 hq22
        obtain ⟨rfl, hb23, hx24⟩ := hR20
        exact nw_out C (show (1 + 1) ≤ 2 by omega) (show (6 + 6) ≤ 12 by omega) ⟨⟨1, by simp [op_ofCell, h9, h18, en_cn, en_tn, hb7, hb23], rfl⟩, hext.trans hx24⟩
      intro v9 H19 hR20 hz21 hq22
      obtain ⟨rfl, hb25, rfl⟩ := hR20
      cases hb25
    · obtain ⟨qn, hk26, rfl⟩ := nw_rg_nat (by decide) (by decide) h18
      have en_qn : nw_nn (nI qn) = qn := nw_nn_nI (by omega)
      refine nw_iconst C (nI 1) dX1_ofCell_22 (by decide) 23 rfl ?_
      refine nw_goto C 27 dX1_ofCell_23 (by decide) ?_
      refine nw_callS C (mX1_requireT _ C.hfl d H hB) kX1_require q655 (As := [.int (b2i true)]) (rest := []) rfl rfl ⟨⟨Nat.le_of_ble_eq_true rfl, Nat.le_of_ble_eq_true rfl⟩, Nat.le_of_ble_eq_true rfl, Nat.le_of_ble_eq_true rfl⟩ (Nat.le_of_ble_eq_true rfl) (fun _ h8 h9 => absurd h9 (Nat.not_le.mpr h8)) dX1_ofCell_27 30 rfl (nw_rdK ?_) nw_noX
      refine nw_aload_n C 0 dX1_ofCell_30 rfl 31 rfl ?_
      refine nw_iload_n C 1 dX1_ofCell_31 rfl 32 rfl ?_
      refine nw_iload_n C 2 dX1_ofCell_32 rfl 33 rfl ?_
      refine nw_iload_n C 3 dX1_ofCell_33 rfl 34 rfl ?_
      refine nw_callV C (mX1_ofCellNow _ C.hfl d ro ad x σ sm cn tn qn H hB hW ok (by omega) (by omega) (by omega)) kX1_ofCellNow q555 (hx.is C (ci := 0) rfl) (As := [.int (nI cn), .int (nI tn), .int (nI qn)]) (rest := []) rfl rfl ⟨⟨Nat.le_of_ble_eq_true rfl, Nat.le_of_ble_eq_true rfl⟩, Nat.le_of_ble_eq_true rfl, Nat.le_of_ble_eq_true rfl⟩ (Nat.le_of_ble_eq_true rfl) (fun _ h8 h9 => absurd h9 (Nat.not_le.mpr h8)) dX1_ofCell_34 37 rfl (nw_rdK ?_) nw_noX
      exact nw_iret C dX1_ofCell_37 (by omega) (by omega) ⟨⟨by simp [op_ofCell, h9, h18, en_cn, en_tn, en_qn, hb7], by simp [op_ofCell, h9, h18, en_cn, en_tn, en_qn, hb7]⟩, hext⟩
set_option maxHeartbeats 4000000 in
theorem mX1_ofMinute (l : Launch) (hf : l.flags = flags0) (d : nwD) (ro ad : Nat → Nat) (x : Nat) (σ : spSg) (sm : Int64) (t : Int32) (q : Int32) (H : Heap) (hB : nd_B d ≤ H.size) (hW : nwWC d ro ad x σ sm H) (ok : spOk σ)  : nwMt l d yX1_ofMinute cX1_ofMinute 3 (some .int) 10 227 1 6 [.ref x, .int t, .int q] H (nwRv (op_ofMinute σ t q) H) (nwRx (op_ofMinute σ t q) [cIA] H) (nwNew H) := by
  refine nw_start "NightwatchWall" "ofMinute" hf (by decide +kernel) rfl rfl (fun _ h => h) (fun q h => Nat.le_trans hB h) (Nat.le_of_ble_eq_true rfl) ?_
  intro X C
  have hW0 := hW
  have hB0 := hB
  have hE := C.E0
  have hext : nwExt H H := nwExt.rfl
  obtain ⟨hx, hcG, hcLa, hcFo, hcGu, hcPo, hcIn, hcWi, hcWo, hcKe⟩ := id hW
  obtain ⟨okg, okl, okf, oku, okp, oki, okw, okd, okk, oka⟩ := id ok
  have hn64 : gr_n (sg_gr σ) ≤ 64 := okg.n
  have oku1 := oku.1
  have oki1 := oki.1
  have okp1 := okp.1
  have okw1 := okw.1
  have okl1 := okl.1
  have okf1 := okf.1
  show nwV X _ _ 3 H 0 0 0 [(0, .ref x), (1, .int t), (2, .int q)] []
  refine nw_iload_n C 1 dX1_ofMinute_0 rfl 1 rfl ?_
  refine nw_callS C (mX1_isMinute _ C.hfl d t H hB) kX1_isMinute q861 (As := [.int t]) (rest := []) rfl rfl ⟨⟨Nat.le_of_ble_eq_true rfl, Nat.le_of_ble_eq_true rfl⟩, Nat.le_of_ble_eq_true rfl, Nat.le_of_ble_eq_true rfl⟩ (Nat.le_of_ble_eq_true rfl) (fun _ h8 h9 => absurd h9 (Nat.not_le.mpr h8)) dX1_ofMinute_1 4 rfl (nw_rdK ?_) nw_noX
  refine nw_ifeqB C 21 dX1_ofMinute_4 (by decide) 7 rfl (fun h1 => ?_) (fun h1 => ?_)
  · refine nw_iconst C (nI 0) dX1_ofMinute_21 (by decide) 22 rfl ?_
    refine nw_callS C (mX1_require _ C.hfl d false H hB) kX1_require q655 (As := [.int (b2i false)]) (rest := []) rfl rfl ⟨⟨Nat.le_of_ble_eq_true rfl, Nat.le_of_ble_eq_true rfl⟩, (show 0 + 1 ≤ 1 by omega), (show 0 + 6 ≤ 6 by omega)⟩ (Nat.le_of_ble_eq_true rfl) (fun _ h8 h9 => absurd h9 (Nat.not_le.mpr h8)) dX1_ofMinute_22 25 rfl ?_ ?_
    rotate_left
    · intro E9 w9 H2 hR3 hz4 hq5
      obtain ⟨rfl, hb6, hx7⟩ := hR3
      exact nw_out C (show (0 + 1) ≤ 1 by omega) (show (0 + 6) ≤ 6 by omega) ⟨⟨0, by simp [op_ofMinute, h1, hb6], rfl⟩, hext.trans hx7⟩
    intro v9 H2 hR3 hz4 hq5
    obtain ⟨rfl, hb8, rfl⟩ := hR3
    cases hb8
  · obtain ⟨tn, hk9, rfl⟩ := nw_rg_nat (by decide) (by decide) h1
    have en_tn : nw_nn (nI tn) = tn := nw_nn_nI (by omega)
    refine nw_iconst C (nI 0) dX1_ofMinute_7 (by decide) 8 rfl ?_
    refine nw_bipush C (nI 6) dX1_ofMinute_8 (by decide) 10 rfl ?_
    refine nw_iload_n C 2 dX1_ofMinute_10 rfl 11 rfl ?_
    refine nw_callS C (mX1_isFromR _ C.hfl d (nI 0) (nI 6) q H hB) kX1_isFrom q579 (As := [.int (nI 0), .int (nI 6), .int q]) (rest := []) rfl rfl ⟨⟨Nat.le_of_ble_eq_true rfl, Nat.le_of_ble_eq_true rfl⟩, Nat.le_of_ble_eq_true rfl, Nat.le_of_ble_eq_true rfl⟩ (Nat.le_of_ble_eq_true rfl) (fun _ h8 h9 => absurd h9 (Nat.not_le.mpr h8)) dX1_ofMinute_11 14 rfl (nw_rdK ?_) nw_noX
    show nwV X _ _ 3 H 0 0 14 [(0, .ref x), (1, .int (nI tn)), (2, .int q)] [.int (b2i (nw_rg 0 6 q))]
    refine nw_ifeqB C 21 dX1_ofMinute_14 (by decide) 17 rfl (fun h10 => ?_) (fun h10 => ?_)
    · refine nw_iconst C (nI 0) dX1_ofMinute_21 (by decide) 22 rfl ?_
      refine nw_callS C (mX1_require _ C.hfl d false H hB) kX1_require q655 (As := [.int (b2i false)]) (rest := []) rfl rfl ⟨⟨Nat.le_of_ble_eq_true rfl, Nat.le_of_ble_eq_true rfl⟩, (show 0 + 1 ≤ 1 by omega), (show 0 + 6 ≤ 6 by omega)⟩ (Nat.le_of_ble_eq_true rfl) (fun _ h8 h9 => absurd h9 (Nat.not_le.mpr h8)) dX1_ofMinute_22 25 rfl ?_ ?_
      rotate_left
      · intro E9 w9 H11 hR12 hz13 hq14
        obtain ⟨rfl, hb15, hx16⟩ := hR12
        exact nw_out C (show (0 + 1) ≤ 1 by omega) (show (0 + 6) ≤ 6 by omega) ⟨⟨0, by simp [op_ofMinute, h1, h10, en_tn, hb15], rfl⟩, hext.trans hx16⟩
      intro v9 H11 hR12 hz13 hq14
      obtain ⟨rfl, hb17, rfl⟩ := hR12
      cases hb17
    · obtain ⟨qn, hk18, rfl⟩ := nw_rg_nat (by decide) (by decide) h10
      have en_qn : nw_nn (nI qn) = qn := nw_nn_nI (by omega)
      refine nw_iconst C (nI 1) dX1_ofMinute_17 (by decide) 18 rfl ?_
      refine nw_goto C 22 dX1_ofMinute_18 (by decide) ?_
      refine nw_callS C (mX1_requireT _ C.hfl d H hB) kX1_require q655 (As := [.int (b2i true)]) (rest := []) rfl rfl ⟨⟨Nat.le_of_ble_eq_true rfl, Nat.le_of_ble_eq_true rfl⟩, Nat.le_of_ble_eq_true rfl, Nat.le_of_ble_eq_true rfl⟩ (Nat.le_of_ble_eq_true rfl) (fun _ h8 h9 => absurd h9 (Nat.not_le.mpr h8)) dX1_ofMinute_22 25 rfl (nw_rdK ?_) nw_noX
      refine nw_aload_n C 0 dX1_ofMinute_25 rfl 26 rfl ?_
      refine nw_iload_n C 1 dX1_ofMinute_26 rfl 27 rfl ?_
      refine nw_iload_n C 2 dX1_ofMinute_27 rfl 28 rfl ?_
      refine nw_callV C (mX1_ofMinuteNow _ C.hfl d ro ad x σ sm tn qn H hB hW ok (by omega) (by omega)) kX1_ofMinuteNow q534 (hx.is C (ci := 0) rfl) (As := [.int (nI tn), .int (nI qn)]) (rest := []) rfl rfl ⟨⟨Nat.le_of_ble_eq_true rfl, Nat.le_of_ble_eq_true rfl⟩, Nat.le_of_ble_eq_true rfl, Nat.le_of_ble_eq_true rfl⟩ (Nat.le_of_ble_eq_true rfl) (fun _ h8 h9 => absurd h9 (Nat.not_le.mpr h8)) dX1_ofMinute_28 31 rfl (nw_rdK ?_) nw_noX
      exact nw_iret C dX1_ofMinute_31 (by omega) (by omega) ⟨⟨by simp [op_ofMinute, h1, h10, en_tn, en_qn], by simp [op_ofMinute, h1, h10, en_tn, en_qn]⟩, hext⟩
set_option maxHeartbeats 4000000 in
theorem mX1_empty (l : Launch) (hf : l.flags = flags0) (d : nwD) (ro ad : Nat → Nat) (x : Nat) (σ : spSg) (sm : Int64) (p : Int32) (b : Bool) (H : Heap) (hB : nd_B d ≤ H.size) (hW : nwWC d ro ad x σ sm H) (ok : spOk σ)  : nwMt l d yX1_empty cX1_empty 3 (some .int) 7 153 1 6 [.ref x, .int p, .int (b2i b)] H (nwRv (op_empty σ p b) H) (nwRx (op_empty σ p b) [cIO] H) (nwNew H) := by
  refine nw_start "NightwatchWall" "empty" hf (by decide +kernel) rfl rfl (fun _ h => h) (fun q h => Nat.le_trans hB h) (Nat.le_of_ble_eq_true rfl) ?_
  intro X C
  have hW0 := hW
  have hB0 := hB
  have hE := C.E0
  have hext : nwExt H H := nwExt.rfl
  obtain ⟨hx, hcG, hcLa, hcFo, hcGu, hcPo, hcIn, hcWi, hcWo, hcKe⟩ := id hW
  obtain ⟨okg, okl, okf, oku, okp, oki, okw, okd, okk, oka⟩ := id ok
  have hn64 : gr_n (sg_gr σ) ≤ 64 := okg.n
  have oku1 := oku.1
  have oki1 := oki.1
  have okp1 := okp.1
  have okw1 := okw.1
  have okl1 := okl.1
  have okf1 := okf.1
  show nwV X _ _ 3 H 0 0 0 [(0, .ref x), (1, .int p), (2, .int (b2i b))] []
  refine nw_iload_n C 1 dX1_empty_0 rfl 1 rfl ?_
  refine nw_aload_n C 0 dX1_empty_1 rfl 2 rfl ?_
  refine nw_get C hx (T := TX1) rfl in_X1 4 (by decide) q225 (Or.inl rfl) rfl dX1_empty_2 5 rfl ?_
  refine nw_callV C (mJ3_size _ C.hfl d (ad 4) ((sg_po σ).1) (fun k => nd_bx d ((sg_po σ).2 k)) (fun q => ro q = 2005) H hB hcPo) kJ3_size q346 (hcPo.is C) (As := []) (rest := [.int p]) rfl rfl ⟨⟨Nat.le_of_ble_eq_true rfl, Nat.le_of_ble_eq_true rfl⟩, Nat.le_of_ble_eq_true rfl, Nat.le_of_ble_eq_true rfl⟩ (Nat.le_of_ble_eq_true rfl) (fun _ h8 h9 => absurd h9 (Nat.not_le.mpr h8)) dX1_empty_5 8 rfl (nw_rdK ?_) nw_noX
  refine nw_callS C (mX1_requireIndex _ C.hfl d p ((sg_po σ).1) H hB) kX1_requireIndex q814 (As := [.int p, .int (nI ((sg_po σ).1))]) (rest := []) rfl rfl ⟨⟨Nat.le_of_ble_eq_true rfl, Nat.le_of_ble_eq_true rfl⟩, (show 0 + 1 ≤ 1 by omega), (show 0 + 6 ≤ 6 by omega)⟩ (Nat.le_of_ble_eq_true rfl) (fun _ h8 h9 => absurd h9 (Nat.not_le.mpr h8)) dX1_empty_8 11 rfl ?_ ?_
  rotate_left
  · intro E9 w9 H1 hR2 hz3 hq4
    obtain ⟨rfl, hb5, hx6⟩ := hR2
    exact nw_out C (show (0 + 1) ≤ 1 by omega) (show (0 + 6) ≤ 6 by omega) ⟨⟨0, by simp [op_empty, hb5], rfl⟩, hext.trans hx6⟩
  intro v9 H1 hR2 hz3 hq4
  obtain ⟨rfl, hb7, rfl⟩ := hR2
  obtain ⟨pn, hk8, rfl⟩ := nw_ix_nat (by omega) hb7
  have en_pn : nw_nn (nI pn) = pn := nw_nn_nI (by omega)
  show nwV X _ _ 3 H (0 + 1) (0 + 6) 11 [(0, .ref x), (1, .int (nI pn)), (2, .int (b2i b))] []
  refine nw_wide (k' := 1) (n' := 6) (by omega) (by omega) ?_
  refine nw_aload_n C 0 dX1_empty_11 rfl 12 rfl ?_
  refine nw_aload_n C 0 dX1_empty_12 rfl 13 rfl ?_
  refine nw_get C hx (T := TX1) rfl in_X1 4 (by decide) q225 (Or.inl rfl) rfl dX1_empty_13 16 rfl ?_
  refine nw_iload_n C 1 dX1_empty_16 rfl 17 rfl ?_
  refine nw_callV C (mJ3_get _ C.hfl d (ad 4) ((sg_po σ).1) (fun k => nd_bx d ((sg_po σ).2 k)) (fun q => ro q = 2005) pn H hB hcPo (by omega)) kJ3_get q350 (hcPo.is C) (As := [.int (nI pn)]) (rest := [.ref x]) rfl rfl ⟨⟨Nat.le_of_ble_eq_true rfl, Nat.le_of_ble_eq_true rfl⟩, Nat.le_of_ble_eq_true rfl, Nat.le_of_ble_eq_true rfl⟩ (Nat.le_of_ble_eq_true rfl) (fun _ h8 h9 => absurd h9 (Nat.not_le.mpr h8)) dX1_empty_17 20 rfl (nw_rdK ?_) nw_noX
  have hb9 : (sg_po σ).2 pn < 128 := (by have := okp.2 pn (by omega); omega)
  refine nw_cast C (ci := 16) rfl (hE.boxIs hb9) q364 dX1_empty_20 23 rfl ?_
  refine nw_callV C (mJ19_intValue _ C.hfl d ((sg_po σ).2 pn) H hB (by omega)) kJ19_intValue q365 (hE.boxIs (by omega)) (As := []) (rest := [.ref x]) rfl rfl ⟨⟨Nat.le_of_ble_eq_true rfl, Nat.le_of_ble_eq_true rfl⟩, Nat.le_of_ble_eq_true rfl, Nat.le_of_ble_eq_true rfl⟩ (Nat.le_of_ble_eq_true rfl) (fun _ h8 h9 => absurd h9 (Nat.not_le.mpr h8)) dX1_empty_23 26 rfl (nw_rdK ?_) nw_noX
  refine nw_iload_n C 2 dX1_empty_26 rfl 27 rfl ?_
  refine nw_callV C (mX1_emptyNow _ C.hfl d ro ad x σ sm ((sg_po σ).2 pn) b H hB hW ok (by omega)) kX1_emptyNow q593 (hx.is C (ci := 0) rfl) (As := [.int (nI ((sg_po σ).2 pn)), .int (b2i b)]) (rest := []) rfl rfl ⟨⟨Nat.le_of_ble_eq_true rfl, Nat.le_of_ble_eq_true rfl⟩, Nat.le_of_ble_eq_true rfl, Nat.le_of_ble_eq_true rfl⟩ (Nat.le_of_ble_eq_true rfl) (fun _ h8 h9 => absurd h9 (Nat.not_le.mpr h8)) dX1_empty_27 30 rfl (nw_rdK ?_) nw_noX
  exact nw_iret C dX1_empty_30 (by omega) (by omega) ⟨⟨by simp [op_empty, en_pn, hb7], by simp [op_empty, en_pn, hb7]⟩, hext⟩
set_option maxHeartbeats 4000000 in
theorem mX1_ofGuard (l : Launch) (hf : l.flags = flags0) (d : nwD) (ro ad : Nat → Nat) (x : Nat) (σ : spSg) (sm : Int64) (g : Int32) (q : Int32) (H : Heap) (hB : nd_B d ≤ H.size) (hW : nwWC d ro ad x σ sm H) (ok : spOk σ)  : nwMt l d yX1_ofGuard cX1_ofGuard 3 (some .int) 8 142 2 12 [.ref x, .int g, .int q] H (nwRv (op_ofGuard σ g q) H) (nwRx (op_ofGuard σ g q) [cIO, cIA] H) (nwNew H) := by
  refine nw_start "NightwatchWall" "ofGuard" hf (by decide +kernel) rfl rfl (fun _ h => h) (fun q h => Nat.le_trans hB h) (Nat.le_of_ble_eq_true rfl) ?_
  intro X C
  have hW0 := hW
  have hB0 := hB
  have hE := C.E0
  have hext : nwExt H H := nwExt.rfl
  obtain ⟨hx, hcG, hcLa, hcFo, hcGu, hcPo, hcIn, hcWi, hcWo, hcKe⟩ := id hW
  obtain ⟨okg, okl, okf, oku, okp, oki, okw, okd, okk, oka⟩ := id ok
  have hn64 : gr_n (sg_gr σ) ≤ 64 := okg.n
  have oku1 := oku.1
  have oki1 := oki.1
  have okp1 := okp.1
  have okw1 := okw.1
  have okl1 := okl.1
  have okf1 := okf.1
  show nwV X _ _ 3 H 0 0 0 [(0, .ref x), (1, .int g), (2, .int q)] []
  refine nw_aload_n C 0 dX1_ofGuard_0 rfl 1 rfl ?_
  refine nw_iload_n C 1 dX1_ofGuard_1 rfl 2 rfl ?_
  refine nw_callV C (mX1_guardAt _ C.hfl d ro ad x σ sm g H hB hW ok) kX1_guardAt q1053 (hx.is C (ci := 0) rfl) (As := [.int g]) (rest := []) rfl rfl ⟨⟨Nat.le_of_ble_eq_true rfl, Nat.le_of_ble_eq_true rfl⟩, (show 0 + 1 ≤ 2 by omega), (show 0 + 6 ≤ 12 by omega)⟩ (Nat.le_of_ble_eq_true rfl) (fun _ h8 h9 => absurd h9 (Nat.not_le.mpr h8)) dX1_ofGuard_2 5 rfl ?_ ?_
  rotate_left
  · intro E9 w9 H1 hR2 hz3 hq4
    obtain ⟨rfl, hb5, hx6⟩ := hR2
    exact nw_out C (show (0 + 1) ≤ 2 by omega) (show (0 + 6) ≤ 12 by omega) ⟨⟨0, by simp [op_ofGuard, hb5], rfl⟩, hext.trans hx6⟩
  intro v9 H1 hR2 hz3 hq4
  obtain ⟨rfl, hb7, rfl⟩ := hR2
  obtain ⟨gn, hk8, rfl⟩ := nw_ix_nat (by omega) hb7
  have en_gn : nw_nn (nI gn) = gn := nw_nn_nI (by omega)
  rw [en_gn]
  have hg9 : nwGd d (ad (300 + gn)) (ad (400 + gn)) (fun q => ro q = 2401 + gn) ((sg_gu σ).2 gn) H := hcGu.2 gn (by omega)
  have hk10 : okGd (sg_gr σ) ((sg_gu σ).2 gn) := oku.2 gn (by omega)
  have hg11 : nwO d (ad (300 + gn)) 4 [.int (nI (gd_a ((sg_gu σ).2 gn))), .int (nI (gd_b ((sg_gu σ).2 gn))), .int (nI (gd_s ((sg_gu σ).2 gn))), .ref (ad (400 + gn)), .int (nI (gd_k ((sg_gu σ).2 gn))), .int (gd_h ((sg_gu σ).2 gn))] H := hg9.1
  show nwV X _ _ 3 H (0 + 1) (0 + 6) 5 [(0, .ref x), (1, .int (nI gn)), (2, .int q)] [.ref (ad (300 + gn))]
  refine nw_wide (k' := 1) (n' := 6) (by omega) (by omega) ?_
  refine nw_pop C dX1_ofGuard_5 rfl 6 rfl ?_
  refine nw_iconst C (nI 0) dX1_ofGuard_6 (by decide) 7 rfl ?_
  refine nw_bipush C (nI 8) dX1_ofGuard_7 (by decide) 9 rfl ?_
  refine nw_iload_n C 2 dX1_ofGuard_9 rfl 10 rfl ?_
  refine nw_callS C (mX1_isFromR _ C.hfl d (nI 0) (nI 8) q H hB) kX1_isFrom q579 (As := [.int (nI 0), .int (nI 8), .int q]) (rest := []) rfl rfl ⟨⟨Nat.le_of_ble_eq_true rfl, Nat.le_of_ble_eq_true rfl⟩, Nat.le_of_ble_eq_true rfl, Nat.le_of_ble_eq_true rfl⟩ (Nat.le_of_ble_eq_true rfl) (fun _ h8 h9 => absurd h9 (Nat.not_le.mpr h8)) dX1_ofGuard_10 13 rfl (nw_rdK ?_) nw_noX
  show nwV X _ _ 3 H 1 6 13 [(0, .ref x), (1, .int (nI gn)), (2, .int q)] [.int (b2i (nw_rg 0 8 q))]
  refine nw_callS C (mX1_require _ C.hfl d (nw_rg 0 8 q) H hB) kX1_require q655 (As := [.int (b2i (nw_rg 0 8 q))]) (rest := []) rfl rfl ⟨⟨Nat.le_of_ble_eq_true rfl, Nat.le_of_ble_eq_true rfl⟩, (show 1 + 1 ≤ 2 by omega), (show 6 + 6 ≤ 12 by omega)⟩ (Nat.le_of_ble_eq_true rfl) (fun _ h8 h9 => absurd h9 (Nat.not_le.mpr h8)) dX1_ofGuard_13 16 rfl ?_ ?_
  rotate_left
  · intro E9 w9 H12 hR13 hz14 hq15
    obtain ⟨rfl, hb16, hx17⟩ := hR13
    exact nw_out C (show (1 + 1) ≤ 2 by omega) (show (6 + 6) ≤ 12 by omega) ⟨⟨1, by simp [op_ofGuard, en_gn, hb7, hb16], rfl⟩, hext.trans hx17⟩
  intro v9 H12 hR13 hz14 hq15
  obtain ⟨rfl, hb18, rfl⟩ := hR13
  obtain ⟨qn, hk19, rfl⟩ := nw_rg_nat (by decide) (by decide) hb18
  have en_qn : nw_nn (nI qn) = qn := nw_nn_nI (by omega)
  show nwV X _ _ 3 H (1 + 1) (6 + 6) 16 [(0, .ref x), (1, .int (nI gn)), (2, .int (nI qn))] []
  refine nw_wide (k' := 2) (n' := 12) (by omega) (by omega) ?_
  refine nw_aload_n C 0 dX1_ofGuard_16 rfl 17 rfl ?_
  refine nw_iload_n C 1 dX1_ofGuard_17 rfl 18 rfl ?_
  refine nw_iload_n C 2 dX1_ofGuard_18 rfl 19 rfl ?_
  refine nw_callV C (mX1_ofGuardNow _ C.hfl d ro ad x σ sm gn qn H hB hW ok (by omega) (by omega)) kX1_ofGuardNow q580 (hx.is C (ci := 0) rfl) (As := [.int (nI gn), .int (nI qn)]) (rest := []) rfl rfl ⟨⟨Nat.le_of_ble_eq_true rfl, Nat.le_of_ble_eq_true rfl⟩, Nat.le_of_ble_eq_true rfl, Nat.le_of_ble_eq_true rfl⟩ (Nat.le_of_ble_eq_true rfl) (fun _ h8 h9 => absurd h9 (Nat.not_le.mpr h8)) dX1_ofGuard_19 22 rfl (nw_rdK ?_) nw_noX
  exact nw_iret C dX1_ofGuard_22 (by omega) (by omega) ⟨⟨by simp [op_ofGuard, en_gn, en_qn, hb7, hb18], by simp [op_ofGuard, en_gn, en_qn, hb7, hb18]⟩, hext⟩
set_option maxHeartbeats 4000000 in
theorem mX1_where (l : Launch) (hf : l.flags = flags0) (d : nwD) (ro ad : Nat → Nat) (x : Nat) (σ : spSg) (sm : Int64) (j : Int32) (t : Int32) (H : Heap) (hB : nd_B d ≤ H.size) (hW : nwWC d ro ad x σ sm H) (ok : spOk σ)  : nwMt l d yX1_where cX1_where 4 (some .int) 8 142 2 12 [.ref x, .int j, .int t] H (nwRv (op_where σ j t) H) (nwRx (op_where σ j t) [cIO, cIA] H) (nwNew H) := by
  refine nw_start "NightwatchWall" "where" hf (by decide +kernel) rfl rfl (fun _ h => h) (fun q h => Nat.le_trans hB h) (Nat.le_of_ble_eq_true rfl) ?_
  intro X C
  have hW0 := hW
  have hB0 := hB
  have hE := C.E0
  have hext : nwExt H H := nwExt.rfl
  obtain ⟨hx, hcG, hcLa, hcFo, hcGu, hcPo, hcIn, hcWi, hcWo, hcKe⟩ := id hW
  obtain ⟨okg, okl, okf, oku, okp, oki, okw, okd, okk, oka⟩ := id ok
  have hn64 : gr_n (sg_gr σ) ≤ 64 := okg.n
  have oku1 := oku.1
  have oki1 := oki.1
  have okp1 := okp.1
  have okw1 := okw.1
  have okl1 := okl.1
  have okf1 := okf.1
  show nwV X _ _ 4 H 0 0 0 [(0, .ref x), (1, .int j), (2, .int t)] []
  refine nw_aload_n C 0 dX1_where_0 rfl 1 rfl ?_
  refine nw_iload_n C 1 dX1_where_1 rfl 2 rfl ?_
  refine nw_callV C (mX1_intruderAt _ C.hfl d ro ad x σ sm j H hB hW ok) kX1_intruderAt q1242 (hx.is C (ci := 0) rfl) (As := [.int j]) (rest := []) rfl rfl ⟨⟨Nat.le_of_ble_eq_true rfl, Nat.le_of_ble_eq_true rfl⟩, (show 0 + 1 ≤ 2 by omega), (show 0 + 6 ≤ 12 by omega)⟩ (Nat.le_of_ble_eq_true rfl) (fun _ h8 h9 => absurd h9 (Nat.not_le.mpr h8)) dX1_where_2 5 rfl ?_ ?_
  rotate_left
  · intro E9 w9 H1 hR2 hz3 hq4
    obtain ⟨rfl, hb5, hx6⟩ := hR2
    exact nw_out C (show (0 + 1) ≤ 2 by omega) (show (0 + 6) ≤ 12 by omega) ⟨⟨0, by simp [op_where, hb5], rfl⟩, hext.trans hx6⟩
  intro v9 H1 hR2 hz3 hq4
  obtain ⟨rfl, hb7, rfl⟩ := hR2
  obtain ⟨jn, hk8, rfl⟩ := nw_ix_nat (by omega) hb7
  have en_jn : nw_nn (nI jn) = jn := nw_nn_nI (by omega)
  rw [en_jn]
  have hg9 : nwIn d (ad (500 + jn)) (ad (600 + jn)) (fun q => ro q = 2601 + jn) ((sg_in σ).2 jn) H := hcIn.2 jn (by omega)
  have hk10 : okI1 (sg_gr σ) ((sg_in σ).2 jn) := oki.2 jn (by omega)
  have hg11 : nwO d (ad (500 + jn)) 7 [.int (nI (in_a ((sg_in σ).2 jn))), .ref (ad (600 + jn)), .int (nI (in_v ((sg_in σ).2 jn))), .int (nI (in_s ((sg_in σ).2 jn))), .int (oI (in_l ((sg_in σ).2 jn)))] H := hg9.1
  show nwV X _ _ 4 H (0 + 1) (0 + 6) 5 [(0, .ref x), (1, .int (nI jn)), (2, .int t)] [.ref (ad (500 + jn))]
  refine nw_wide (k' := 1) (n' := 6) (by omega) (by omega) ?_
  refine nw_astore_n C [(3, .ref (ad (500 + jn))), (0, .ref x), (1, .int (nI jn)), (2, .int t)] dX1_where_5 (by decide) rfl 6 rfl ?_
  refine nw_iload_n C 3 dX1_where_6 rfl 7 rfl ?_
  refine nw_callS C (mX1_requireMinute _ C.hfl d t H hB) kX1_requireMinute q1072 (As := [.int t]) (rest := []) rfl rfl ⟨⟨Nat.le_of_ble_eq_true rfl, Nat.le_of_ble_eq_true rfl⟩, (show 1 + 1 ≤ 2 by omega), (show 6 + 6 ≤ 12 by omega)⟩ (Nat.le_of_ble_eq_true rfl) (fun _ h8 h9 => absurd h9 (Nat.not_le.mpr h8)) dX1_where_7 10 rfl ?_ ?_
  rotate_left
  · intro E9 w9 H12 hR13 hz14 hq15
    obtain ⟨rfl, hb16, hx17⟩ := hR13
    exact nw_out C (show (1 + 1) ≤ 2 by omega) (show (6 + 6) ≤ 12 by omega) ⟨⟨1, by simp [op_where, en_jn, hb7, hb16], rfl⟩, hext.trans hx17⟩
  intro v9 H12 hR13 hz14 hq15
  obtain ⟨rfl, hb18, rfl⟩ := hR13
  obtain ⟨tn, hk19, rfl⟩ := nw_rg_nat (by decide) (by decide) hb18
  have en_tn : nw_nn (nI tn) = tn := nw_nn_nI (by omega)
  show nwV X _ _ 4 H (1 + 1) (6 + 6) 10 [(3, .ref (ad (500 + jn))), (0, .ref x), (1, .int (nI jn)), (2, .int (nI tn))] []
  refine nw_wide (k' := 2) (n' := 12) (by omega) (by omega) ?_
  refine nw_aload_n C 0 dX1_where_10 rfl 11 rfl ?_
  refine nw_iload_n C 3 dX1_where_11 rfl 12 rfl ?_
  refine nw_callV C (mX12_place _ C.hfl d (ad (500 + jn)) (ad (600 + jn)) (fun q => ro q = 2601 + jn) ((sg_in σ).2 jn) (sg_gr σ) tn H hB hg9 hk10 hn64 (by omega)) kX12_place q411 (hg11.is C (ci := 7) rfl) (As := [.int (nI tn)]) (rest := []) rfl rfl ⟨⟨Nat.le_of_ble_eq_true rfl, Nat.le_of_ble_eq_true rfl⟩, Nat.le_of_ble_eq_true rfl, Nat.le_of_ble_eq_true rfl⟩ (Nat.le_of_ble_eq_true rfl) (fun _ h8 h9 => absurd h9 (Nat.not_le.mpr h8)) dX1_where_12 15 rfl (nw_rdK ?_) nw_noX
  exact nw_iret C dX1_where_15 (by omega) (by omega) ⟨⟨by simp [op_where, en_jn, en_tn, hb7, hb18], by simp [op_where, en_jn, en_tn, hb7, hb18]⟩, hext⟩
set_option maxHeartbeats 4000000 in
theorem mX1_ofWire (l : Launch) (hf : l.flags = flags0) (d : nwD) (ro ad : Nat → Nat) (x : Nat) (σ : spSg) (sm : Int64) (k : Int32) (q : Int32) (H : Heap) (hB : nd_B d ≤ H.size) (hW : nwWC d ro ad x σ sm H) (ok : spOk σ)  : nwMt l d yX1_ofWire cX1_ofWire 3 (some .int) 7 156 2 12 [.ref x, .int k, .int q] H (nwRv (op_ofWire σ k q) H) (nwRx (op_ofWire σ k q) [cIO, cIA] H) (nwNew H) := by
  refine nw_start "NightwatchWall" "ofWire" hf (by decide +kernel) rfl rfl (fun _ h => h) (fun q h => Nat.le_trans hB h) (Nat.le_of_ble_eq_true rfl) ?_
  intro X C
  have hW0 := hW
  have hB0 := hB
  have hE := C.E0
  have hext : nwExt H H := nwExt.rfl
  obtain ⟨hx, hcG, hcLa, hcFo, hcGu, hcPo, hcIn, hcWi, hcWo, hcKe⟩ := id hW
  obtain ⟨okg, okl, okf, oku, okp, oki, okw, okd, okk, oka⟩ := id ok
  have hn64 : gr_n (sg_gr σ) ≤ 64 := okg.n
  have oku1 := oku.1
  have oki1 := oki.1
  have okp1 := okp.1
  have okw1 := okw.1
  have okl1 := okl.1
  have okf1 := okf.1
  show nwV X _ _ 3 H 0 0 0 [(0, .ref x), (1, .int k), (2, .int q)] []
  refine nw_iload_n C 1 dX1_ofWire_0 rfl 1 rfl ?_
  refine nw_aload_n C 0 dX1_ofWire_1 rfl 2 rfl ?_
  refine nw_get C hx (T := TX1) rfl in_X1 6 (by decide) q227 (Or.inl rfl) rfl dX1_ofWire_2 5 rfl ?_
  refine nw_callV C (mJ3_size _ C.hfl d (ad 6) ((sg_wi σ).1) (fun k => ad (700 + k)) (fun q => ro q = 2007) H hB hcWi.1) kJ3_size q346 (hcWi.1.is C) (As := []) (rest := [.int k]) rfl rfl ⟨⟨Nat.le_of_ble_eq_true rfl, Nat.le_of_ble_eq_true rfl⟩, Nat.le_of_ble_eq_true rfl, Nat.le_of_ble_eq_true rfl⟩ (Nat.le_of_ble_eq_true rfl) (fun _ h8 h9 => absurd h9 (Nat.not_le.mpr h8)) dX1_ofWire_5 8 rfl (nw_rdK ?_) nw_noX
  refine nw_callS C (mX1_requireIndex _ C.hfl d k ((sg_wi σ).1) H hB) kX1_requireIndex q814 (As := [.int k, .int (nI ((sg_wi σ).1))]) (rest := []) rfl rfl ⟨⟨Nat.le_of_ble_eq_true rfl, Nat.le_of_ble_eq_true rfl⟩, (show 0 + 1 ≤ 2 by omega), (show 0 + 6 ≤ 12 by omega)⟩ (Nat.le_of_ble_eq_true rfl) (fun _ h8 h9 => absurd h9 (Nat.not_le.mpr h8)) dX1_ofWire_8 11 rfl ?_ ?_
  rotate_left
  · intro E9 w9 H1 hR2 hz3 hq4
    obtain ⟨rfl, hb5, hx6⟩ := hR2
    exact nw_out C (show (0 + 1) ≤ 2 by omega) (show (0 + 6) ≤ 12 by omega) ⟨⟨0, by simp [op_ofWire, hb5], rfl⟩, hext.trans hx6⟩
  intro v9 H1 hR2 hz3 hq4
  obtain ⟨rfl, hb7, rfl⟩ := hR2
  obtain ⟨kn, hk8, rfl⟩ := nw_ix_nat (by omega) hb7
  have en_kn : nw_nn (nI kn) = kn := nw_nn_nI (by omega)
  show nwV X _ _ 3 H (0 + 1) (0 + 6) 11 [(0, .ref x), (1, .int (nI kn)), (2, .int q)] []
  refine nw_wide (k' := 1) (n' := 6) (by omega) (by omega) ?_
  refine nw_iconst C (nI 0) dX1_ofWire_11 (by decide) 12 rfl ?_
  refine nw_iconst C (nI 4) dX1_ofWire_12 (by decide) 13 rfl ?_
  refine nw_iload_n C 2 dX1_ofWire_13 rfl 14 rfl ?_
  refine nw_callS C (mX1_isFromR _ C.hfl d (nI 0) (nI 4) q H hB) kX1_isFrom q579 (As := [.int (nI 0), .int (nI 4), .int q]) (rest := []) rfl rfl ⟨⟨Nat.le_of_ble_eq_true rfl, Nat.le_of_ble_eq_true rfl⟩, Nat.le_of_ble_eq_true rfl, Nat.le_of_ble_eq_true rfl⟩ (Nat.le_of_ble_eq_true rfl) (fun _ h8 h9 => absurd h9 (Nat.not_le.mpr h8)) dX1_ofWire_14 17 rfl (nw_rdK ?_) nw_noX
  show nwV X _ _ 3 H 1 6 17 [(0, .ref x), (1, .int (nI kn)), (2, .int q)] [.int (b2i (nw_rg 0 4 q))]
  refine nw_callS C (mX1_require _ C.hfl d (nw_rg 0 4 q) H hB) kX1_require q655 (As := [.int (b2i (nw_rg 0 4 q))]) (rest := []) rfl rfl ⟨⟨Nat.le_of_ble_eq_true rfl, Nat.le_of_ble_eq_true rfl⟩, (show 1 + 1 ≤ 2 by omega), (show 6 + 6 ≤ 12 by omega)⟩ (Nat.le_of_ble_eq_true rfl) (fun _ h8 h9 => absurd h9 (Nat.not_le.mpr h8)) dX1_ofWire_17 20 rfl ?_ ?_
  rotate_left
  · intro E9 w9 H9 hR10 hz11 hq12
    obtain ⟨rfl, hb13, hx14⟩ := hR10
    exact nw_out C (show (1 + 1) ≤ 2 by omega) (show (6 + 6) ≤ 12 by omega) ⟨⟨1, by simp [op_ofWire, en_kn, hb7, hb13], rfl⟩, hext.trans hx14⟩
  intro v9 H9 hR10 hz11 hq12
  obtain ⟨rfl, hb15, rfl⟩ := hR10
  obtain ⟨qn, hk16, rfl⟩ := nw_rg_nat (by decide) (by decide) hb15
  have en_qn : nw_nn (nI qn) = qn := nw_nn_nI (by omega)
  show nwV X _ _ 3 H (1 + 1) (6 + 6) 20 [(0, .ref x), (1, .int (nI kn)), (2, .int (nI qn))] []
  refine nw_wide (k' := 2) (n' := 12) (by omega) (by omega) ?_
  refine nw_aload_n C 0 dX1_ofWire_20 rfl 21 rfl ?_
  refine nw_aload_n C 0 dX1_ofWire_21 rfl 22 rfl ?_
  refine nw_get C hx (T := TX1) rfl in_X1 6 (by decide) q227 (Or.inl rfl) rfl dX1_ofWire_22 25 rfl ?_
  refine nw_iload_n C 1 dX1_ofWire_25 rfl 26 rfl ?_
  refine nw_callV C (mJ3_get _ C.hfl d (ad 6) ((sg_wi σ).1) (fun k => ad (700 + k)) (fun q => ro q = 2007) kn H hB hcWi.1 (by omega)) kJ3_get q350 (hcWi.1.is C) (As := [.int (nI kn)]) (rest := [.ref x]) rfl rfl ⟨⟨Nat.le_of_ble_eq_true rfl, Nat.le_of_ble_eq_true rfl⟩, Nat.le_of_ble_eq_true rfl, Nat.le_of_ble_eq_true rfl⟩ (Nat.le_of_ble_eq_true rfl) (fun _ h8 h9 => absurd h9 (Nat.not_le.mpr h8)) dX1_ofWire_26 29 rfl (nw_rdK ?_) nw_noX
  have hg17 : nwO d (ad (700 + kn)) 8 [.int (nI (((sg_wi σ).2 kn).1)), .int (nI (((sg_wi σ).2 kn).2))] H := (hcWi.2 kn (by omega))
  refine nw_cast C (ci := 8) rfl (hg17.is C (ci := 8) rfl) q621 dX1_ofWire_29 32 rfl ?_
  refine nw_iload_n C 2 dX1_ofWire_32 rfl 33 rfl ?_
  refine nw_callV C (mX1_ofWireNow _ C.hfl d ro ad x σ sm (ad (700 + kn)) ((sg_wi σ).2 kn) qn H hB hW ok hg17 (okw.2 kn (by omega)) (by omega)) kX1_ofWireNow q622 (hx.is C (ci := 0) rfl) (As := [.ref (ad (700 + kn)), .int (nI qn)]) (rest := []) rfl rfl ⟨⟨Nat.le_of_ble_eq_true rfl, Nat.le_of_ble_eq_true rfl⟩, Nat.le_of_ble_eq_true rfl, Nat.le_of_ble_eq_true rfl⟩ (Nat.le_of_ble_eq_true rfl) (fun _ h8 h9 => absurd h9 (Nat.not_le.mpr h8)) dX1_ofWire_33 36 rfl (nw_rdK ?_) nw_noX
  exact nw_iret C dX1_ofWire_36 (by omega) (by omega) ⟨⟨by simp [op_ofWire, en_kn, en_qn, hb7, hb15], by simp [op_ofWire, en_kn, en_qn, hb7, hb15]⟩, hext⟩
set_option maxHeartbeats 4000000 in
theorem mX1_sees_2 (l : Launch) (hf : l.flags = flags0) (d : nwD) (ro ad : Nat → Nat) (x : Nat) (σ : spSg) (sm : Int64) (g : Int32) (c : Int32) (t : Int32) (H : Heap) (hB : nd_B d ≤ H.size) (hW : nwWC d ro ad x σ sm H) (ok : spOk σ)  : nwMt l d yX1_sees_2 cX1_sees_2 5 (some .boolean) 8 160 3 18 [.ref x, .int g, .int c, .int t] H (nwRv (op_sees σ g c t) H) (nwRx (op_sees σ g c t) [cIO, cIA] H) (nwNew H) := by
  refine nw_start "NightwatchWall" "sees" hf (by decide +kernel) rfl rfl (fun _ h => h) (fun q h => Nat.le_trans hB h) (Nat.le_of_ble_eq_true rfl) ?_
  intro X C
  have hW0 := hW
  have hB0 := hB
  have hE := C.E0
  have hext : nwExt H H := nwExt.rfl
  obtain ⟨hx, hcG, hcLa, hcFo, hcGu, hcPo, hcIn, hcWi, hcWo, hcKe⟩ := id hW
  obtain ⟨okg, okl, okf, oku, okp, oki, okw, okd, okk, oka⟩ := id ok
  have hn64 : gr_n (sg_gr σ) ≤ 64 := okg.n
  have oku1 := oku.1
  have oki1 := oki.1
  have okp1 := okp.1
  have okw1 := okw.1
  have okl1 := okl.1
  have okf1 := okf.1
  show nwV X _ _ 5 H 0 0 0 [(0, .ref x), (1, .int g), (2, .int c), (3, .int t)] []
  refine nw_iload_n C 1 dX1_sees_2_0 rfl 1 rfl ?_
  refine nw_iconst C (nI 1) dX1_sees_2_1 (by decide) 2 rfl ?_
  refine nw_iadd C _ dX1_sees_2_2 rfl 3 rfl ?_
  refine nw_aload_n C 0 dX1_sees_2_3 rfl 4 rfl ?_
  refine nw_get C hx (T := TX1) rfl in_X1 3 (by decide) q224 (Or.inl rfl) rfl dX1_sees_2_4 7 rfl ?_
  refine nw_callV C (mJ3_size _ C.hfl d (ad 3) ((sg_gu σ).1) (fun k => ad (300 + k)) (fun q => ro q = 2004) H hB hcGu.1) kJ3_size q346 (hcGu.1.is C) (As := []) (rest := [.int (g + (nI 1))]) rfl rfl ⟨⟨Nat.le_of_ble_eq_true rfl, Nat.le_of_ble_eq_true rfl⟩, Nat.le_of_ble_eq_true rfl, Nat.le_of_ble_eq_true rfl⟩ (Nat.le_of_ble_eq_true rfl) (fun _ h8 h9 => absurd h9 (Nat.not_le.mpr h8)) dX1_sees_2_7 10 rfl (nw_rdK ?_) nw_noX
  refine nw_iconst C (nI 1) dX1_sees_2_10 (by decide) 11 rfl ?_
  refine nw_iaddN C dX1_sees_2_11 12 rfl ?_
  refine nw_callS C (mX1_requireIndex _ C.hfl d (g + (nI 1)) ((sg_gu σ).1 + 1) H hB) kX1_requireIndex q814 (As := [.int (g + (nI 1)), .int (nI ((sg_gu σ).1 + 1))]) (rest := []) rfl rfl ⟨⟨Nat.le_of_ble_eq_true rfl, Nat.le_of_ble_eq_true rfl⟩, (show 0 + 1 ≤ 3 by omega), (show 0 + 6 ≤ 18 by omega)⟩ (Nat.le_of_ble_eq_true rfl) (fun _ h8 h9 => absurd h9 (Nat.not_le.mpr h8)) dX1_sees_2_12 15 rfl ?_ ?_
  rotate_left
  · intro E9 w9 H1 hR2 hz3 hq4
    obtain ⟨rfl, hb5, hx6⟩ := hR2
    exact nw_out C (show (0 + 1) ≤ 3 by omega) (show (0 + 6) ≤ 18 by omega) ⟨⟨0, by simp [op_sees, hb5, nw_ixO], rfl⟩, hext.trans hx6⟩
  intro v9 H1 hR2 hz3 hq4
  obtain ⟨rfl, hb7, rfl⟩ := hR2
  have hbO : nw_ixO g (sg_gu σ).1 = true := hb7
  obtain ⟨o, hob, rfl⟩ := nw_ixO_nat (by omega) hbO
  show nwV X _ _ 5 H (0 + 1) (0 + 6) 15 [(0, .ref x), (1, .int (oI o)), (2, .int c), (3, .int t)] []
  refine nw_wide (k' := 1) (n' := 6) (by omega) (by omega) ?_
  rcases o with _ | gn
  · show nwV X _ _ 5 H 1 6 15 [(0, .ref x), (1, .int (oI none)), (2, .int c), (3, .int t)] []
    refine nw_aload_n C 0 dX1_sees_2_15 rfl 16 rfl ?_
    refine nw_iload_n C 2 dX1_sees_2_16 rfl 17 rfl ?_
    refine nw_callV C (mX1_groundAt _ C.hfl d ro ad x σ sm c H hB hW ok) kX1_groundAt q810 (hx.is C (ci := 0) rfl) (As := [.int c]) (rest := []) rfl rfl ⟨⟨Nat.le_of_ble_eq_true rfl, Nat.le_of_ble_eq_true rfl⟩, (show 1 + 1 ≤ 3 by omega), (show 6 + 6 ≤ 18 by omega)⟩ (Nat.le_of_ble_eq_true rfl) (fun _ h8 h9 => absurd h9 (Nat.not_le.mpr h8)) dX1_sees_2_17 20 rfl ?_ ?_
    rotate_left
    · intro E9 w9 H8 hR9 hz10 hq11
      obtain ⟨rfl, hb12, hx13⟩ := hR9
      exact nw_out C (show (1 + 1) ≤ 3 by omega) (show (6 + 6) ≤ 18 by omega) ⟨⟨0, by simp [op_sees, hb7, hbO, hb12], rfl⟩, hext.trans hx13⟩
    intro v9 H8 hR9 hz10 hq11
    obtain ⟨rfl, hb14, rfl⟩ := hR9
    obtain ⟨cn, hk15, rfl⟩ := nw_ix_nat (by omega) hb14
    have en_cn : nw_nn (nI cn) = cn := nw_nn_nI (by omega)
    obtain ⟨hgro, hgrl, hgrg⟩ := hcG.here (by assumption)
    show nwV X _ _ 5 H (1 + 1) (6 + 6) 20 [(0, .ref x), (1, .int (oI none)), (2, .int (nI cn)), (3, .int t)] [.ref (ad 9)]
    refine nw_wide (k' := 2) (n' := 12) (by omega) (by omega) ?_
    refine nw_pop C dX1_sees_2_20 rfl 21 rfl ?_
    refine nw_iload_n C 3 dX1_sees_2_21 rfl 22 rfl ?_
    refine nw_callS C (mX1_requireMinute _ C.hfl d t H hB) kX1_requireMinute q1072 (As := [.int t]) (rest := []) rfl rfl ⟨⟨Nat.le_of_ble_eq_true rfl, Nat.le_of_ble_eq_true rfl⟩, (show 2 + 1 ≤ 3 by omega), (show 12 + 6 ≤ 18 by omega)⟩ (Nat.le_of_ble_eq_true rfl) (fun _ h8 h9 => absurd h9 (Nat.not_le.mpr h8)) dX1_sees_2_22 25 rfl ?_ ?_
    rotate_left
    · intro E9 w9 H16 hR17 hz18 hq19
      obtain ⟨rfl, hb20, hx21⟩ := hR17
      exact nw_out C (show (2 + 1) ≤ 3 by omega) (show (12 + 6) ≤ 18 by omega) ⟨⟨1, by simp [op_sees, en_cn, hb7, hbO, hb14, hb20], rfl⟩, hext.trans hx21⟩
    intro v9 H16 hR17 hz18 hq19
    obtain ⟨rfl, hb22, rfl⟩ := hR17
    obtain ⟨tn, hk23, rfl⟩ := nw_rg_nat (by decide) (by decide) hb22
    have en_tn : nw_nn (nI tn) = tn := nw_nn_nI (by omega)
    show nwV X _ _ 5 H (2 + 1) (12 + 6) 25 [(0, .ref x), (1, .int (oI none)), (2, .int (nI cn)), (3, .int (nI tn))] []
    refine nw_wide (k' := 3) (n' := 18) (by omega) (by omega) ?_
    refine nw_aload_n C 0 dX1_sees_2_25 rfl 26 rfl ?_
    refine nw_iload_n C 2 dX1_sees_2_26 rfl 27 rfl ?_
    refine nw_iload_n C 3 dX1_sees_2_27 rfl 28 rfl ?_
    refine nw_callV C (mX1_watchers _ C.hfl d ro ad x σ sm cn tn H hB hW ok (by omega) (by omega)) kX1_watchers q416 (hx.is C (ci := 0) rfl) (As := [.int (nI cn), .int (nI tn)]) (rest := []) rfl rfl ⟨⟨Nat.le_of_ble_eq_true rfl, Nat.le_of_ble_eq_true rfl⟩, Nat.le_of_ble_eq_true rfl, Nat.le_of_ble_eq_true rfl⟩ (Nat.le_of_ble_eq_true rfl) (fun _ h8 h9 => absurd h9 (Nat.not_le.mpr h8)) dX1_sees_2_28 31 rfl (nw_rdK ?_) nw_noX
    refine nw_istore C [(4, .int (sp_watchers (sg_gr σ) (sg_la σ) (sg_fo σ) (sg_gu σ) cn tn)), (0, .ref x), (1, .int (oI none)), (2, .int (nI cn)), (3, .int (nI tn))] dX1_sees_2_31 (by decide) rfl 33 rfl ?_
    refine nw_iload_n C 2 dX1_sees_2_33 rfl 34 rfl ?_
    refine nw_iconst C (oI none) dX1_sees_2_34 (by decide) 35 rfl ?_
    refine nw_icmpneF C rfl 51 dX1_sees_2_35 (by decide) 38 rfl ?_
    refine nw_iload C 0 dX1_sees_2_38 rfl 40 rfl ?_
    refine nw_ifeq C 47 dX1_sees_2_40 (by decide) 43 rfl (fun h25 => ?_) (fun h25 => ?_)
    · refine nw_iconst C (nI 0) dX1_sees_2_47 (by decide) 48 rfl ?_
      refine nw_goto C 66 dX1_sees_2_48 (by decide) ?_
      have hz0 : sp_watched (sg_gr σ) (sg_la σ) (sg_fo σ) (sg_gu σ) cn tn = false := by exact (sp_bits_0 _ _ oku1).mp h25
      exact nw_nret C dX1_sees_2_66 (b2i_narrow false) (by omega) (by omega) ⟨⟨by simp [op_sees, hz0, en_cn, en_tn, hb7, hbO, hb14, hb22], by simp [op_sees, b2i, hz0, en_cn, en_tn, hb7, hbO, hb14, hb22]⟩, hext⟩
    · refine nw_iconst C (nI 1) dX1_sees_2_43 (by decide) 44 rfl ?_
      refine nw_goto C 66 dX1_sees_2_44 (by decide) ?_
      have hz0 : sp_watched (sg_gr σ) (sg_la σ) (sg_fo σ) (sg_gu σ) cn tn = true := by rcases hww : sp_watched (sg_gr σ) (sg_la σ) (sg_fo σ) (sg_gu σ) cn tn with _ | _; exact absurd ((sp_bits_0 _ _ oku1).mpr hww) h25; rfl
      exact nw_nret C dX1_sees_2_66 (b2i_narrow true) (by omega) (by omega) ⟨⟨by simp [op_sees, hz0, en_cn, en_tn, hb7, hbO, hb14, hb22], by simp [op_sees, b2i, hz0, en_cn, en_tn, hb7, hbO, hb14, hb22]⟩, hext⟩
  · show nwV X _ _ 5 H 1 6 15 [(0, .ref x), (1, .int (nI gn)), (2, .int c), (3, .int t)] []
    have hgn := hob gn rfl
    have en_gn : nw_nn (nI gn) = gn := nw_nn_nI (by omega)
    have ne_gn : ¬ nI gn = oI none := nI_m1 (by omega)
    have os_gn : oI (some gn) = nI gn := rfl
    have hbO2 : nw_ixO (nI gn) (sg_gu σ).1 = true := hbO
    refine nw_aload_n C 0 dX1_sees_2_15 rfl 16 rfl ?_
    refine nw_iload_n C 2 dX1_sees_2_16 rfl 17 rfl ?_
    refine nw_callV C (mX1_groundAt _ C.hfl d ro ad x σ sm c H hB hW ok) kX1_groundAt q810 (hx.is C (ci := 0) rfl) (As := [.int c]) (rest := []) rfl rfl ⟨⟨Nat.le_of_ble_eq_true rfl, Nat.le_of_ble_eq_true rfl⟩, (show 1 + 1 ≤ 3 by omega), (show 6 + 6 ≤ 18 by omega)⟩ (Nat.le_of_ble_eq_true rfl) (fun _ h8 h9 => absurd h9 (Nat.not_le.mpr h8)) dX1_sees_2_17 20 rfl ?_ ?_
    rotate_left
    · intro E9 w9 H26 hR27 hz28 hq29
      obtain ⟨rfl, hb30, hx31⟩ := hR27
      exact nw_out C (show (1 + 1) ≤ 3 by omega) (show (6 + 6) ≤ 18 by omega) ⟨⟨0, by simp [op_sees, en_gn, ne_gn, os_gn, hbO2, hb7, hbO, hb30], rfl⟩, hext.trans hx31⟩
    intro v9 H26 hR27 hz28 hq29
    obtain ⟨rfl, hb32, rfl⟩ := hR27
    obtain ⟨cn, hk33, rfl⟩ := nw_ix_nat (by omega) hb32
    have en_cn : nw_nn (nI cn) = cn := nw_nn_nI (by omega)
    obtain ⟨hgro, hgrl, hgrg⟩ := hcG.here (by assumption)
    show nwV X _ _ 5 H (1 + 1) (6 + 6) 20 [(0, .ref x), (1, .int (nI gn)), (2, .int (nI cn)), (3, .int t)] [.ref (ad 9)]
    refine nw_wide (k' := 2) (n' := 12) (by omega) (by omega) ?_
    refine nw_pop C dX1_sees_2_20 rfl 21 rfl ?_
    refine nw_iload_n C 3 dX1_sees_2_21 rfl 22 rfl ?_
    refine nw_callS C (mX1_requireMinute _ C.hfl d t H hB) kX1_requireMinute q1072 (As := [.int t]) (rest := []) rfl rfl ⟨⟨Nat.le_of_ble_eq_true rfl, Nat.le_of_ble_eq_true rfl⟩, (show 2 + 1 ≤ 3 by omega), (show 12 + 6 ≤ 18 by omega)⟩ (Nat.le_of_ble_eq_true rfl) (fun _ h8 h9 => absurd h9 (Nat.not_le.mpr h8)) dX1_sees_2_22 25 rfl ?_ ?_
    rotate_left
    · intro E9 w9 H34 hR35 hz36 hq37
      obtain ⟨rfl, hb38, hx39⟩ := hR35
      exact nw_out C (show (2 + 1) ≤ 3 by omega) (show (12 + 6) ≤ 18 by omega) ⟨⟨1, by simp [op_sees, en_gn, ne_gn, os_gn, hbO2, en_cn, hb7, hbO, hb32, hb38], rfl⟩, hext.trans hx39⟩
    intro v9 H34 hR35 hz36 hq37
    obtain ⟨rfl, hb40, rfl⟩ := hR35
    obtain ⟨tn, hk41, rfl⟩ := nw_rg_nat (by decide) (by decide) hb40
    have en_tn : nw_nn (nI tn) = tn := nw_nn_nI (by omega)
    show nwV X _ _ 5 H (2 + 1) (12 + 6) 25 [(0, .ref x), (1, .int (nI gn)), (2, .int (nI cn)), (3, .int (nI tn))] []
    refine nw_wide (k' := 3) (n' := 18) (by omega) (by omega) ?_
    refine nw_aload_n C 0 dX1_sees_2_25 rfl 26 rfl ?_
    refine nw_iload_n C 2 dX1_sees_2_26 rfl 27 rfl ?_
    refine nw_iload_n C 3 dX1_sees_2_27 rfl 28 rfl ?_
    refine nw_callV C (mX1_watchers _ C.hfl d ro ad x σ sm cn tn H hB hW ok (by omega) (by omega)) kX1_watchers q416 (hx.is C (ci := 0) rfl) (As := [.int (nI cn), .int (nI tn)]) (rest := []) rfl rfl ⟨⟨Nat.le_of_ble_eq_true rfl, Nat.le_of_ble_eq_true rfl⟩, Nat.le_of_ble_eq_true rfl, Nat.le_of_ble_eq_true rfl⟩ (Nat.le_of_ble_eq_true rfl) (fun _ h8 h9 => absurd h9 (Nat.not_le.mpr h8)) dX1_sees_2_28 31 rfl (nw_rdK ?_) nw_noX
    refine nw_istore C [(4, .int (sp_watchers (sg_gr σ) (sg_la σ) (sg_fo σ) (sg_gu σ) cn tn)), (0, .ref x), (1, .int (nI gn)), (2, .int (nI cn)), (3, .int (nI tn))] dX1_sees_2_31 (by decide) rfl 33 rfl ?_
    refine nw_iload_n C 2 dX1_sees_2_33 rfl 34 rfl ?_
    refine nw_iconst C (oI none) dX1_sees_2_34 (by decide) 35 rfl ?_
    refine nw_icmpneT C (nI_m1 (by omega)) 51 dX1_sees_2_35 (by decide) ?_
    refine nw_iload C 0 dX1_sees_2_51 rfl 53 rfl ?_
    refine nw_iload_n C 2 dX1_sees_2_53 rfl 54 rfl ?_
    refine nw_ishr C ((sp_watchers (sg_gr σ) (sg_la σ) (sg_fo σ) (sg_gu σ) cn tn) >>> ((nI gn) &&& 31)) dX1_sees_2_54 rfl 55 rfl ?_
    refine nw_iconst C (nI 1) dX1_sees_2_55 (by decide) 56 rfl ?_
    refine nw_iand C (((sp_watchers (sg_gr σ) (sg_la σ) (sg_fo σ) (sg_gu σ) cn tn) >>> ((nI gn) &&& 31)) &&& (nI 1)) dX1_sees_2_56 rfl 57 rfl ?_
    refine nw_iconst C (nI 1) dX1_sees_2_57 (by decide) 58 rfl ?_
    refine nw_icmpne C 65 dX1_sees_2_58 (by decide) 61 rfl (fun h43 => ?_) (fun h43 => ?_)
    · refine nw_iconst C (nI 0) dX1_sees_2_65 (by decide) 66 rfl ?_
      have hz1 := sp_bits_at (sp_eye (sg_gr σ) (sg_la σ) (sg_fo σ) (sg_gu σ) cn tn) (sg_gu σ).1 oku1 gn hgn
      have hz0 : sp_eye (sg_gr σ) (sg_la σ) (sg_fo σ) (sg_gu σ) cn tn gn = false := by rw [← hz1]; exact beq_eq_false_iff_ne.mpr h43
      exact nw_nret C dX1_sees_2_66 (b2i_narrow false) (by omega) (by omega) ⟨⟨by simp [op_sees, hz0, en_gn, ne_gn, os_gn, hbO2, en_cn, en_tn, hb7, hbO, hb32, hb40], by simp [op_sees, b2i, hz0, en_gn, ne_gn, os_gn, hbO2, en_cn, en_tn, hb7, hbO, hb32, hb40]⟩, hext⟩
    · refine nw_iconst C (nI 1) dX1_sees_2_61 (by decide) 62 rfl ?_
      refine nw_goto C 66 dX1_sees_2_62 (by decide) ?_
      have hz1 := sp_bits_at (sp_eye (sg_gr σ) (sg_la σ) (sg_fo σ) (sg_gu σ) cn tn) (sg_gu σ).1 oku1 gn hgn
      have hz0 : sp_eye (sg_gr σ) (sg_la σ) (sg_fo σ) (sg_gu σ) cn tn gn = true := by rw [← hz1]; exact beq_iff_eq.mpr h43
      exact nw_nret C dX1_sees_2_66 (b2i_narrow true) (by omega) (by omega) ⟨⟨by simp [op_sees, hz0, en_gn, ne_gn, os_gn, hbO2, en_cn, en_tn, hb7, hbO, hb32, hb40], by simp [op_sees, b2i, hz0, en_gn, ne_gn, os_gn, hbO2, en_cn, en_tn, hb7, hbO, hb32, hb40]⟩, hext⟩
set_option maxHeartbeats 4000000 in
theorem mX1_lapse (l : Launch) (hf : l.flags = flags0) (d : nwD) (ro ad : Nat → Nat) (x : Nat) (σ : spSg) (sm : Int64) (c : Int32) (a : Int32) (b : Int32) (H : Heap) (hB : nd_B d ≤ H.size) (hW : nwWC d ro ad x σ sm H) (ok : spOk σ)  : nwMt l d yX1_lapse cX1_lapse 5 (some .int) 8 182 2 12 [.ref x, .int c, .int a, .int b] H (nwRv (op_lapse σ c a b) H) (nwRx (op_lapse σ c a b) [cIO, cIA] H) (nwNew H) := by
  refine nw_start "NightwatchWall" "lapse" hf (by decide +kernel) rfl rfl (fun _ h => h) (fun q h => Nat.le_trans hB h) (Nat.le_of_ble_eq_true rfl) ?_
  intro X C
  have hW0 := hW
  have hB0 := hB
  have hE := C.E0
  have hext : nwExt H H := nwExt.rfl
  obtain ⟨hx, hcG, hcLa, hcFo, hcGu, hcPo, hcIn, hcWi, hcWo, hcKe⟩ := id hW
  obtain ⟨okg, okl, okf, oku, okp, oki, okw, okd, okk, oka⟩ := id ok
  have hn64 : gr_n (sg_gr σ) ≤ 64 := okg.n
  have oku1 := oku.1
  have oki1 := oki.1
  have okp1 := okp.1
  have okw1 := okw.1
  have okl1 := okl.1
  have okf1 := okf.1
  show nwV X _ _ 5 H 0 0 0 [(0, .ref x), (1, .int c), (2, .int a), (3, .int b)] []
  refine nw_aload_n C 0 dX1_lapse_0 rfl 1 rfl ?_
  refine nw_iload_n C 1 dX1_lapse_1 rfl 2 rfl ?_
  refine nw_callV C (mX1_groundAt _ C.hfl d ro ad x σ sm c H hB hW ok) kX1_groundAt q810 (hx.is C (ci := 0) rfl) (As := [.int c]) (rest := []) rfl rfl ⟨⟨Nat.le_of_ble_eq_true rfl, Nat.le_of_ble_eq_true rfl⟩, (show 0 + 1 ≤ 2 by omega), (show 0 + 6 ≤ 12 by omega)⟩ (Nat.le_of_ble_eq_true rfl) (fun _ h8 h9 => absurd h9 (Nat.not_le.mpr h8)) dX1_lapse_2 5 rfl ?_ ?_
  rotate_left
  · intro E9 w9 H2 hR3 hz4 hq5
    obtain ⟨rfl, hb6, hx7⟩ := hR3
    exact nw_out C (show (0 + 1) ≤ 2 by omega) (show (0 + 6) ≤ 12 by omega) ⟨⟨0, by simp [op_lapse, hb6], rfl⟩, hext.trans hx7⟩
  intro v9 H2 hR3 hz4 hq5
  obtain ⟨rfl, hb8, rfl⟩ := hR3
  obtain ⟨cn, hk9, rfl⟩ := nw_ix_nat (by omega) hb8
  have en_cn : nw_nn (nI cn) = cn := nw_nn_nI (by omega)
  obtain ⟨hgro, hgrl, hgrg⟩ := hcG.here (by assumption)
  show nwV X _ _ 5 H (0 + 1) (0 + 6) 5 [(0, .ref x), (1, .int (nI cn)), (2, .int a), (3, .int b)] [.ref (ad 9)]
  refine nw_wide (k' := 1) (n' := 6) (by omega) (by omega) ?_
  refine nw_pop C dX1_lapse_5 rfl 6 rfl ?_
  refine nw_iload_n C 2 dX1_lapse_6 rfl 7 rfl ?_
  refine nw_callS C (mX1_isMinute _ C.hfl d a H hB) kX1_isMinute q861 (As := [.int a]) (rest := []) rfl rfl ⟨⟨Nat.le_of_ble_eq_true rfl, Nat.le_of_ble_eq_true rfl⟩, Nat.le_of_ble_eq_true rfl, Nat.le_of_ble_eq_true rfl⟩ (Nat.le_of_ble_eq_true rfl) (fun _ h8 h9 => absurd h9 (Nat.not_le.mpr h8)) dX1_lapse_7 10 rfl (nw_rdK ?_) nw_noX
  refine nw_ifeqB C 29 dX1_lapse_10 (by decide) 13 rfl (fun h10 => ?_) (fun h10 => ?_)
  · refine nw_iconst C (nI 0) dX1_lapse_29 (by decide) 30 rfl ?_
    refine nw_callS C (mX1_require _ C.hfl d false H hB) kX1_require q655 (As := [.int (b2i false)]) (rest := []) rfl rfl ⟨⟨Nat.le_of_ble_eq_true rfl, Nat.le_of_ble_eq_true rfl⟩, (show 1 + 1 ≤ 2 by omega), (show 6 + 6 ≤ 12 by omega)⟩ (Nat.le_of_ble_eq_true rfl) (fun _ h8 h9 => absurd h9 (Nat.not_le.mpr h8)) dX1_lapse_30 33 rfl ?_ ?_
    rotate_left
    · intro E9 w9 H11 hR12 hz13 hq14
      obtain ⟨rfl, hb15, hx16⟩ := hR12
      exact nw_out C (show (1 + 1) ≤ 2 by omega) (show (6 + 6) ≤ 12 by omega) ⟨⟨1, by simp [op_lapse, h10, en_cn, hb8, hb15], rfl⟩, hext.trans hx16⟩
    intro v9 H11 hR12 hz13 hq14
    obtain ⟨rfl, hb17, rfl⟩ := hR12
    cases hb17
  · obtain ⟨an, hk18, rfl⟩ := nw_rg_nat (by decide) (by decide) h10
    have en_an : nw_nn (nI an) = an := nw_nn_nI (by omega)
    refine nw_iload_n C 3 dX1_lapse_13 rfl 14 rfl ?_
    refine nw_callS C (mX1_isMinute _ C.hfl d b H hB) kX1_isMinute q861 (As := [.int b]) (rest := []) rfl rfl ⟨⟨Nat.le_of_ble_eq_true rfl, Nat.le_of_ble_eq_true rfl⟩, Nat.le_of_ble_eq_true rfl, Nat.le_of_ble_eq_true rfl⟩ (Nat.le_of_ble_eq_true rfl) (fun _ h8 h9 => absurd h9 (Nat.not_le.mpr h8)) dX1_lapse_14 17 rfl (nw_rdK ?_) nw_noX
    refine nw_ifeqB C 29 dX1_lapse_17 (by decide) 20 rfl (fun h19 => ?_) (fun h19 => ?_)
    · refine nw_iconst C (nI 0) dX1_lapse_29 (by decide) 30 rfl ?_
      refine nw_callS C (mX1_require _ C.hfl d false H hB) kX1_require q655 (As := [.int (b2i false)]) (rest := []) rfl rfl ⟨⟨Nat.le_of_ble_eq_true rfl, Nat.le_of_ble_eq_true rfl⟩, (show 1 + 1 ≤ 2 by omega), (show 6 + 6 ≤ 12 by omega)⟩ (Nat.le_of_ble_eq_true rfl) (fun _ h8 h9 => absurd h9 (Nat.not_le.mpr h8)) dX1_lapse_30 33 rfl ?_ ?_
      rotate_left
      · intro E9 w9 H20 hR21 hz22 hq23
        obtain ⟨rfl, hb24, hx25⟩ := hR21
        exact nw_out C (show (1 + 1) ≤ 2 by omega) (show (6 + 6) ≤ 12 by omega) ⟨⟨1, by simp [op_lapse, h10, h19, en_cn, en_an, hb8, hb24], rfl⟩, hext.trans hx25⟩
      intro v9 H20 hR21 hz22 hq23
      obtain ⟨rfl, hb26, rfl⟩ := hR21
      cases hb26
    · obtain ⟨bn, hk27, rfl⟩ := nw_rg_nat (by decide) (by decide) h19
      have en_bn : nw_nn (nI bn) = bn := nw_nn_nI (by omega)
      refine nw_iload_n C 2 dX1_lapse_20 rfl 21 rfl ?_
      refine nw_iload_n C 3 dX1_lapse_21 rfl 22 rfl ?_
      refine nw_icmpgtN C (by omega) 29 dX1_lapse_22 (by decide) 25 rfl (fun h28 => ?_) (fun h28 => ?_)
      · have hab9 : nI bn < nI an := (nI_ltI (by omega) (by omega)).mpr (by omega)
        refine nw_iconst C (nI 0) dX1_lapse_29 (by decide) 30 rfl ?_
        refine nw_callS C (mX1_require _ C.hfl d false H hB) kX1_require q655 (As := [.int (b2i false)]) (rest := []) rfl rfl ⟨⟨Nat.le_of_ble_eq_true rfl, Nat.le_of_ble_eq_true rfl⟩, (show 1 + 1 ≤ 2 by omega), (show 6 + 6 ≤ 12 by omega)⟩ (Nat.le_of_ble_eq_true rfl) (fun _ h8 h9 => absurd h9 (Nat.not_le.mpr h8)) dX1_lapse_30 33 rfl ?_ ?_
        rotate_left
        · intro E9 w9 H29 hR30 hz31 hq32
          obtain ⟨rfl, hb33, hx34⟩ := hR30
          exact nw_out C (show (1 + 1) ≤ 2 by omega) (show (6 + 6) ≤ 12 by omega) ⟨⟨1, by simp [op_lapse, h10, h19, h28, en_cn, en_an, en_bn, hb8, hab9, hb33], rfl⟩, hext.trans hx34⟩
        intro v9 H29 hR30 hz31 hq32
        obtain ⟨rfl, hb35, rfl⟩ := hR30
        cases hb35
      · have hab9 : ¬ nI bn < nI an := fun e9 => absurd ((nI_ltI (by omega) (by omega)).mp e9) (by omega)
        refine nw_iconst C (nI 1) dX1_lapse_25 (by decide) 26 rfl ?_
        refine nw_goto C 30 dX1_lapse_26 (by decide) ?_
        refine nw_callS C (mX1_requireT _ C.hfl d H hB) kX1_require q655 (As := [.int (b2i true)]) (rest := []) rfl rfl ⟨⟨Nat.le_of_ble_eq_true rfl, Nat.le_of_ble_eq_true rfl⟩, Nat.le_of_ble_eq_true rfl, Nat.le_of_ble_eq_true rfl⟩ (Nat.le_of_ble_eq_true rfl) (fun _ h8 h9 => absurd h9 (Nat.not_le.mpr h8)) dX1_lapse_30 33 rfl (nw_rdK ?_) nw_noX
        refine nw_iload_n C 2 dX1_lapse_33 rfl 34 rfl ?_
        refine nw_istore C [(4, .int (nI an)), (0, .ref x), (1, .int (nI cn)), (2, .int (nI an)), (3, .int (nI bn))] dX1_lapse_34 (by decide) rfl 36 rfl ?_
        have lp1 : ∀ (fu : Nat) (m : Nat), (an ≤ m) → (m ≤ bn + 1) → (∀ k, an ≤ k → k < m → (fun t => !sp_watched (sg_gr σ) (sg_la σ) (sg_fo σ) (sg_gu σ) cn t) k = false) → bn + 1 - m < fu → nwV X (nwNew H) (nwQE X (nwRv (op_lapse σ (nI cn) (nI an) (nI bn)) H) (nwRx (op_lapse σ (nI cn) (nI an) (nI bn)) [cIO, cIA] H) (nwNew H) 2 12) 5 H (1 + 1) (6 + 6) 36 [(0, .ref x), (1, .int (nI cn)), (2, .int (nI an)), (3, .int (nI bn)), (4, .int (nI m))] [] := by
          intro fu
          induction fu with
          | zero => intro m _ _ _ hm; exact absurd hm (Nat.not_lt_zero _)
          | succ fu ih_lp1 =>
            intro m h1 hi hno hm
            refine nw_iload C 4 dX1_lapse_36 rfl 38 rfl ?_
            refine nw_iload_n C 3 dX1_lapse_38 rfl 39 rfl ?_
            refine nw_icmpgtN C (by omega) 61 dX1_lapse_39 (by decide) 42 rfl (fun h36 => ?_) (fun h36 => ?_)
            · refine nw_iconst C (oI none) dX1_lapse_61 (by decide) 62 rfl ?_
              have hz0 : sp_fst (fun t => !sp_watched (sg_gr σ) (sg_la σ) (sg_fo σ) (sg_gu σ) cn t) an (bn + 1 - an) = none := sp_fst_no (fun k h5 h6 => hno k h5 (by omega))
              exact nw_iret C dX1_lapse_62 (by omega) (by omega) ⟨⟨by simp [op_lapse, en_cn, en_an, en_bn, hb8, hab9, h10, h19, hab9], by simp [op_lapse, hz0, en_cn, en_an, en_bn, hb8, hab9, h10, h19, hab9]; try rfl⟩, hext⟩
            · refine nw_aload_n C 0 dX1_lapse_42 rfl 43 rfl ?_
              refine nw_iload_n C 1 dX1_lapse_43 rfl 44 rfl ?_
              refine nw_iload C 4 dX1_lapse_44 rfl 46 rfl ?_
              refine nw_callV C (mX1_isWatched _ C.hfl d ro ad x σ sm cn m H hB hW ok (by omega) (by omega)) kX1_isWatched q412 (hx.is C (ci := 0) rfl) (As := [.int (nI cn), .int (nI m)]) (rest := []) rfl rfl ⟨⟨Nat.le_of_ble_eq_true rfl, Nat.le_of_ble_eq_true rfl⟩, Nat.le_of_ble_eq_true rfl, Nat.le_of_ble_eq_true rfl⟩ (Nat.le_of_ble_eq_true rfl) (fun _ h8 h9 => absurd h9 (Nat.not_le.mpr h8)) dX1_lapse_46 49 rfl (nw_rdK ?_) nw_noX
              refine nw_ifneB C 55 dX1_lapse_49 (by decide) 52 rfl (fun h37 => ?_) (fun h37 => ?_)
              · refine nw_iincN C 4 (c0 := 1) [(4, .int (nI (m + 1))), (0, .ref x), (1, .int (nI cn)), (2, .int (nI an)), (3, .int (nI bn))] dX1_lapse_55 rfl (by decide) rfl 58 rfl ?_
                refine nw_goto C 36 dX1_lapse_58 (by decide) ?_
                exact nw_wide (by omega) (by omega) (nw_sub [1, 2, 3, 4, 0] rfl (ih_lp1 (m + 1) (by omega) (by omega) (fun k h5 h6 => (Nat.lt_or_ge k m).elim (fun g5 => hno k h5 g5) (fun g5 => by rw [show k = m by omega]; simp [h37])) (by omega)))
              · refine nw_iload C 4 dX1_lapse_52 rfl 54 rfl ?_
                have hz0 : sp_fst (fun t => !sp_watched (sg_gr σ) (sg_la σ) (sg_fo σ) (sg_gu σ) cn t) an (bn + 1 - an) = some m := sp_fst_at hno h1 (by omega) (by simp [h37])
                exact nw_iret C dX1_lapse_54 (by omega) (by omega) ⟨⟨by simp [op_lapse, en_cn, en_an, en_bn, hb8, hab9, h10, h19, hab9], by simp [op_lapse, hz0, en_cn, en_an, en_bn, hb8, hab9, h10, h19, hab9]; try rfl⟩, hext⟩
        exact nw_wide (by omega) (by omega) (nw_sub [1, 2, 3, 4, 0] rfl (lp1 _ an (Nat.le_refl _) (by omega) (fun k h5 h6 => absurd h6 (Nat.not_lt.mpr h5)) (Nat.lt_succ_self _)))
