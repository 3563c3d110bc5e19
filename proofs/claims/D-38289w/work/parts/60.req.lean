theorem kX1_isMinute : nwPS yX1_isMinute cX1_isMinute 1 (some .boolean) 1 := ⟨⟨q862, q86, q863⟩, by decide +kernel, by decide +kernel, by decide +kernel⟩
theorem kX1_require : nwPS yX1_require cX1_require 1 none 1 := ⟨⟨q656, q86, q657⟩, by decide +kernel, by decide +kernel, by decide +kernel⟩
theorem kX1_requireIndex : nwPS yX1_requireIndex cX1_requireIndex 2 none 2 := ⟨⟨q815, q86, q816⟩, by decide +kernel, by decide +kernel, by decide +kernel⟩
set_option maxHeartbeats 4000000 in
theorem mX1_require (l : Launch) (hf : l.flags = flags0) (d : nwD) (b : Bool) (H : Heap) (hB : nd_B d ≤ H.size)  : nwMt l d yX1_require cX1_require 1 none 6 100 1 6 [.int (b2i b)] H (fun v H1 => v = none ∧ b = true ∧ H = H1) (fun E H1 => E = cIA ∧ b = false ∧ nwExt H H1) (nwNew H) := by
  refine nw_start "NightwatchWall" "require" hf (by decide +kernel) rfl rfl (fun _ h => h) (fun q h => Nat.le_trans hB h) (Nat.le_of_ble_eq_true rfl) ?_
  intro X C
  have hB0 := hB
  have hE := C.E0
  have hext : nwExt H H := nwExt.rfl
  show nwV X _ _ 1 H 0 0 0 [(0, .int (b2i b))] []
  refine nw_iload_n C 0 dX1_require_0 rfl 1 rfl ?_
  refine nw_ifneB C 12 dX1_require_1 (by decide) 4 rfl (fun h1 => ?_) (fun h1 => ?_)
  · exact nw_vret C dX1_require_12 (by omega) (by omega) ⟨rfl, h1, rfl⟩
  · exact nw_throw0 C (names := ["java/lang/RuntimeException", "java/lang/Exception"]) (by decide +kernel) (by decide +kernel) q658 q100 nw_atIAE nw_otIAE dX1_require_4 dX1_require_7 dX1_require_8 dX1_require_11 ⟨Nat.le_of_ble_eq_true rfl, Nat.le_of_ble_eq_true rfl, (show 0 + 1 ≤ 1 by omega), (show 0 + 6 ≤ 6 by omega)⟩ (Nat.le_of_ble_eq_true rfl) (by omega) (by omega) (fun H9 hz9 hq9 => ⟨rfl, h1, hext.trans ⟨hz9, hq9⟩⟩)
set_option maxHeartbeats 4000000 in
theorem mX1_requireT (l : Launch) (hf : l.flags = flags0) (d : nwD)  (H : Heap) (hB : nd_B d ≤ H.size)  : nwRd l d yX1_require cX1_require 1 none 1 20 [.int (b2i true)] H (none) := by
  refine nw_rd "NightwatchWall" "require" hf (by decide +kernel) rfl rfl hB (Nat.le_of_ble_eq_true rfl) ?_
  intro X C
  show nwV X _ _ 1 H 0 0 0 [(0, .int (b2i true))] []
  refine nw_iload_n C 0 dX1_require_0 rfl 1 rfl ?_
  refine nw_ifne C 12 dX1_require_1 (by decide) 4 rfl (fun _ => ?_) (fun h1 => absurd h1 (by decide))
  exact nw_vret C dX1_require_12 (Nat.le_refl _) (Nat.le_refl _) ⟨rfl, rfl⟩
set_option maxHeartbeats 4000000 in
theorem mX1_requireState (l : Launch) (hf : l.flags = flags0) (d : nwD) (b : Bool) (H : Heap) (hB : nd_B d ≤ H.size)  : nwMt l d yX1_requireState cX1_requireState 1 none 6 100 1 6 [.int (b2i b)] H (fun v H1 => v = none ∧ b = true ∧ H = H1) (fun E H1 => E = cIS ∧ b = false ∧ nwExt H H1) (nwNew H) := by
  refine nw_start "NightwatchWall" "requireState" hf (by decide +kernel) rfl rfl (fun _ h => h) (fun q h => Nat.le_trans hB h) (Nat.le_of_ble_eq_true rfl) ?_
  intro X C
  have hB0 := hB
  have hE := C.E0
  have hext : nwExt H H := nwExt.rfl
  show nwV X _ _ 1 H 0 0 0 [(0, .int (b2i b))] []
  refine nw_iload_n C 0 dX1_requireState_0 rfl 1 rfl ?_
  refine nw_ifneB C 12 dX1_requireState_1 (by decide) 4 rfl (fun h1 => ?_) (fun h1 => ?_)
  · exact nw_vret C dX1_requireState_12 (by omega) (by omega) ⟨rfl, h1, rfl⟩
  · exact nw_throw0 C (names := ["java/lang/RuntimeException", "java/lang/Exception"]) (by decide +kernel) (by decide +kernel) q835 q109 nw_atISE nw_otISE dX1_requireState_4 dX1_requireState_7 dX1_requireState_8 dX1_requireState_11 ⟨Nat.le_of_ble_eq_true rfl, Nat.le_of_ble_eq_true rfl, (show 0 + 1 ≤ 1 by omega), (show 0 + 6 ≤ 6 by omega)⟩ (Nat.le_of_ble_eq_true rfl) (by omega) (by omega) (fun H9 hz9 hq9 => ⟨rfl, h1, hext.trans ⟨hz9, hq9⟩⟩)
set_option maxHeartbeats 4000000 in
theorem mX1_requireStateT (l : Launch) (hf : l.flags = flags0) (d : nwD)  (H : Heap) (hB : nd_B d ≤ H.size)  : nwRd l d yX1_requireState cX1_requireState 1 none 1 20 [.int (b2i true)] H (none) := by
  refine nw_rd "NightwatchWall" "requireState" hf (by decide +kernel) rfl rfl hB (Nat.le_of_ble_eq_true rfl) ?_
  intro X C
  show nwV X _ _ 1 H 0 0 0 [(0, .int (b2i true))] []
  refine nw_iload_n C 0 dX1_requireState_0 rfl 1 rfl ?_
  refine nw_ifne C 12 dX1_requireState_1 (by decide) 4 rfl (fun _ => ?_) (fun h1 => absurd h1 (by decide))
  exact nw_vret C dX1_requireState_12 (Nat.le_refl _) (Nat.le_refl _) ⟨rfl, rfl⟩
set_option maxHeartbeats 4000000 in
theorem mX1_requireIndex (l : Launch) (hf : l.flags = flags0) (d : nwD) (i : Int32) (n : Nat) (H : Heap) (hB : nd_B d ≤ H.size)  : nwMt l d yX1_requireIndex cX1_requireIndex 2 none 6 100 1 6 [.int i, .int (nI n)] H (fun v H1 => v = none ∧ nw_ix i n = true ∧ H = H1) (fun E H1 => E = cIO ∧ nw_ix i n = false ∧ nwExt H H1) (nwNew H) := by
  refine nw_start "NightwatchWall" "requireIndex" hf (by decide +kernel) rfl rfl (fun _ h => h) (fun q h => Nat.le_trans hB h) (Nat.le_of_ble_eq_true rfl) ?_
  intro X C
  have hB0 := hB
  have hE := C.E0
  have hext : nwExt H H := nwExt.rfl
  show nwV X _ _ 2 H 0 0 0 [(0, .int i), (1, .int (nI n))] []
  refine nw_iload_n C 0 dX1_requireIndex_0 rfl 1 rfl ?_
  refine nw_iflt C 9 dX1_requireIndex_1 (by decide) 4 rfl (fun h1 => ?_) (fun h1 => ?_)
  · exact nw_throw0 C (names := ["java/lang/RuntimeException", "java/lang/Exception"]) (by decide +kernel) (by decide +kernel) q817 q104 nw_atIOOBE nw_otIOOBE dX1_requireIndex_9 dX1_requireIndex_12 dX1_requireIndex_13 dX1_requireIndex_16 ⟨Nat.le_of_ble_eq_true rfl, Nat.le_of_ble_eq_true rfl, (show 0 + 1 ≤ 1 by omega), (show 0 + 6 ≤ 6 by omega)⟩ (Nat.le_of_ble_eq_true rfl) (by omega) (by omega) (fun H9 hz9 hq9 => ⟨rfl, nw_ix0 h1, hext.trans ⟨hz9, hq9⟩⟩)
  · refine nw_iload_n C 0 dX1_requireIndex_4 rfl 5 rfl ?_
    refine nw_iload_n C 1 dX1_requireIndex_5 rfl 6 rfl ?_
    refine nw_icmplt C 17 dX1_requireIndex_6 (by decide) 9 rfl (fun h2 => ?_) (fun h2 => ?_)
    · exact nw_vret C dX1_requireIndex_17 (by omega) (by omega) ⟨rfl, nw_ix1 h1 h2, rfl⟩
    · exact nw_throw0 C (names := ["java/lang/RuntimeException", "java/lang/Exception"]) (by decide +kernel) (by decide +kernel) q817 q104 nw_atIOOBE nw_otIOOBE dX1_requireIndex_9 dX1_requireIndex_12 dX1_requireIndex_13 dX1_requireIndex_16 ⟨Nat.le_of_ble_eq_true rfl, Nat.le_of_ble_eq_true rfl, (show 0 + 1 ≤ 1 by omega), (show 0 + 6 ≤ 6 by omega)⟩ (Nat.le_of_ble_eq_true rfl) (by omega) (by omega) (fun H9 hz9 hq9 => ⟨rfl, nw_ix2 h2, hext.trans ⟨hz9, hq9⟩⟩)
set_option maxHeartbeats 4000000 in
theorem mX1_isMinute (l : Launch) (hf : l.flags = flags0) (d : nwD) (t : Int32) (H : Heap) (hB : nd_B d ≤ H.size)  : nwRd l d yX1_isMinute cX1_isMinute 1 (some .boolean) 2 42 [.int t] H (some (.int (b2i (nw_rg 0 239 t)))) := by
  refine nw_rd "NightwatchWall" "isMinute" hf (by decide +kernel) rfl rfl hB (Nat.le_of_ble_eq_true rfl) ?_
  intro X C
  show nwV X _ _ 1 H 0 0 0 [(0, .int t)] []
  refine nw_iconst C (nI 0) dX1_isMinute_0 (by decide) 1 rfl ?_
  refine nw_sipush C (nI 239) dX1_isMinute_1 (by decide) 4 rfl ?_
  refine nw_iload_n C 0 dX1_isMinute_4 rfl 5 rfl ?_
  refine nw_callS C (mX1_isFromR _ C.hfl d (nI 0) (nI 239) t H hB) kX1_isFrom q579 (As := [.int (nI 0), .int (nI 239), .int t]) (rest := []) rfl rfl ⟨⟨Nat.le_of_ble_eq_true rfl, Nat.le_of_ble_eq_true rfl⟩, Nat.le_of_ble_eq_true rfl, Nat.le_of_ble_eq_true rfl⟩ (Nat.le_of_ble_eq_true rfl) (fun _ h8 h9 => absurd h9 (Nat.not_le.mpr h8)) dX1_isMinute_5 8 rfl (nw_rdK ?_) nw_noX
  exact nw_nret C dX1_isMinute_8 (b2i_narrow _) (Nat.le_refl _) (Nat.le_refl _) ⟨congrArg (fun z => some (Value.int (b2i z))) (show (decide ((nI 0) ≤ t) && decide (t ≤ (nI 239))) = (nw_rg 0 239 t) from rfl), rfl⟩
set_option maxHeartbeats 4000000 in
theorem mX1_requireMinute (l : Launch) (hf : l.flags = flags0) (d : nwD) (t : Int32) (H : Heap) (hB : nd_B d ≤ H.size)  : nwMt l d yX1_requireMinute cX1_requireMinute 1 none 7 120 1 6 [.int t] H (fun v H1 => v = none ∧ nw_rg 0 239 t = true ∧ H = H1) (fun E H1 => E = cIA ∧ nw_rg 0 239 t = false ∧ nwExt H H1) (nwNew H) := by
  refine nw_start "NightwatchWall" "requireMinute" hf (by decide +kernel) rfl rfl (fun _ h => h) (fun q h => Nat.le_trans hB h) (Nat.le_of_ble_eq_true rfl) ?_
  intro X C
  have hB0 := hB
  have hE := C.E0
  have hext : nwExt H H := nwExt.rfl
  show nwV X _ _ 1 H 0 0 0 [(0, .int t)] []
  refine nw_iload_n C 0 dX1_requireMinute_0 rfl 1 rfl ?_
  refine nw_callS C (mX1_isMinute _ C.hfl d t H hB) kX1_isMinute q861 (As := [.int t]) (rest := []) rfl rfl ⟨⟨Nat.le_of_ble_eq_true rfl, Nat.le_of_ble_eq_true rfl⟩, Nat.le_of_ble_eq_true rfl, Nat.le_of_ble_eq_true rfl⟩ (Nat.le_of_ble_eq_true rfl) (fun _ h8 h9 => absurd h9 (Nat.not_le.mpr h8)) dX1_requireMinute_1 4 rfl (nw_rdK ?_) nw_noX
  refine nw_callS C (mX1_require _ C.hfl d (nw_rg 0 239 t) H hB) kX1_require q655 (As := [.int (b2i (nw_rg 0 239 t))]) (rest := []) rfl rfl ⟨⟨Nat.le_of_ble_eq_true rfl, Nat.le_of_ble_eq_true rfl⟩, (show 0 + 1 ≤ 1 by omega), (show 0 + 6 ≤ 6 by omega)⟩ (Nat.le_of_ble_eq_true rfl) (fun _ h8 h9 => absurd h9 (Nat.not_le.mpr h8)) dX1_requireMinute_4 7 rfl ?_ ?_
  rotate_left
  · intro E9 w9 H1 hR2 hz3 hq4
    exact nw_out C (show (0 + 1) ≤ 1 by omega) (show (0 + 6) ≤ 6 by omega) ⟨hR2.1, hR2.2.1, hext.trans hR2.2.2⟩
  intro v9 H1 hR2 hz3 hq4
  obtain ⟨rfl, hb5, rfl⟩ := hR2
  show nwV X _ _ 1 H (0 + 1) (0 + 6) 7 [(0, .int t)] []
  refine nw_wide (k' := 1) (n' := 6) (by omega) (by omega) ?_
  exact nw_vret C dX1_requireMinute_7 (by omega) (by omega) ⟨rfl, hb5, rfl⟩
set_option maxHeartbeats 4000000 in
theorem mX1_groundAt (l : Launch) (hf : l.flags = flags0) (d : nwD) (ro ad : Nat → Nat) (x : Nat) (σ : spSg) (sm : Int64) (c : Int32) (H : Heap) (hB : nd_B d ≤ H.size) (hW : nwWC d ro ad x σ sm H) (ok : spOk σ)  : nwMt l d yX1_groundAt cX1_groundAt 2 (some (.object "NightwatchWall$Ground")) 7 121 1 6 [.ref x, .int c] H (fun v H1 => v = some (.ref (ad 9)) ∧ nw_ix c (gr_n (sg_gr σ)) = true ∧ H = H1) (fun E H1 => E = cIO ∧ nw_ix c (gr_n (sg_gr σ)) = false ∧ nwExt H H1) (nwNew H) := by
  refine nw_start "NightwatchWall" "groundAt" hf (by decide +kernel) rfl rfl (fun _ h => h) (fun q h => Nat.le_trans hB h) (Nat.le_of_ble_eq_true rfl) ?_
  intro X C
  have hW0 := hW
  have hB0 := hB
  have hE := C.E0
  have hext : nwExt H H := nwExt.rfl
  obtain ⟨hx, hcG, hcLa, hcFo, hcGu, hcPo, hcIn, hcWi, hcWo, hcKe⟩ := id hW
  obtain ⟨okg, okl, okf, oku, okp, oki, okw, okd, okk, oka⟩ := id ok
  have hn64 : gr_n (sg_gr σ) ≤ 64 := okg.n
  show nwV X _ _ 2 H 0 0 0 [(0, .ref x), (1, .int c)] []
  refine nw_iload_n C 1 dX1_groundAt_0 rfl 1 rfl ?_
  refine nw_aload_n C 0 dX1_groundAt_1 rfl 2 rfl ?_
  refine nw_callV C (mX1_size _ C.hfl d ro ad x σ sm  H hB hW ok ) kX1_size q272 (hx.is C (ci := 0) rfl) (As := []) (rest := [.int c]) rfl rfl ⟨⟨Nat.le_of_ble_eq_true rfl, Nat.le_of_ble_eq_true rfl⟩, Nat.le_of_ble_eq_true rfl, Nat.le_of_ble_eq_true rfl⟩ (Nat.le_of_ble_eq_true rfl) (fun _ h8 h9 => absurd h9 (Nat.not_le.mpr h8)) dX1_groundAt_2 5 rfl (nw_rdK ?_) nw_noX
  refine nw_callS C (mX1_requireIndex _ C.hfl d c (gr_n (sg_gr σ)) H hB) kX1_requireIndex q814 (As := [.int c, .int (nI (gr_n (sg_gr σ)))]) (rest := []) rfl rfl ⟨⟨Nat.le_of_ble_eq_true rfl, Nat.le_of_ble_eq_true rfl⟩, (show 0 + 1 ≤ 1 by omega), (show 0 + 6 ≤ 6 by omega)⟩ (Nat.le_of_ble_eq_true rfl) (fun _ h8 h9 => absurd h9 (Nat.not_le.mpr h8)) dX1_groundAt_5 8 rfl ?_ ?_
  rotate_left
  · intro E9 w9 H1 hR2 hz3 hq4
    exact nw_out C (show (0 + 1) ≤ 1 by omega) (show (0 + 6) ≤ 6 by omega) ⟨hR2.1, hR2.2.1, hext.trans hR2.2.2⟩
  intro v9 H1 hR2 hz3 hq4
  obtain ⟨rfl, hb5, rfl⟩ := hR2
  obtain ⟨cn, hk6, rfl⟩ := nw_ix_nat (by omega) hb5
  have en_cn : nw_nn (nI cn) = cn := nw_nn_nI (by omega)
  obtain ⟨hgro, hgrl, hgrg⟩ := hcG.here (by assumption)
  show nwV X _ _ 2 H (0 + 1) (0 + 6) 8 [(0, .ref x), (1, .int (nI cn))] []
  refine nw_wide (k' := 1) (n' := 6) (by omega) (by omega) ?_
  refine nw_aload_n C 0 dX1_groundAt_8 rfl 9 rfl ?_
  refine nw_get C hx (T := TX1) rfl in_X1 0 (by decide) q221 (Or.inl rfl) rfl dX1_groundAt_9 12 rfl ?_
  refine nw_callV C (mJ0_get _ C.hfl d (ad 0) (ad 9) H hB hgrl) kJ0_get q280 (hgrl.is C (ci := 15) rfl) (As := []) (rest := []) rfl rfl ⟨⟨Nat.le_of_ble_eq_true rfl, Nat.le_of_ble_eq_true rfl⟩, Nat.le_of_ble_eq_true rfl, Nat.le_of_ble_eq_true rfl⟩ (Nat.le_of_ble_eq_true rfl) (fun _ h8 h9 => absurd h9 (Nat.not_le.mpr h8)) dX1_groundAt_12 15 rfl (nw_rdK ?_) nw_noX
  refine nw_cast C (ci := 1) rfl (hgrg.1.is C (ci := 1) rfl) q284 dX1_groundAt_15 18 rfl ?_
  exact nw_aret C (Or.inl ⟨_, rfl⟩) dX1_groundAt_18 (by omega) (by omega) ⟨rfl, hb5, rfl⟩
set_option maxHeartbeats 4000000 in
theorem mX1_guardAt (l : Launch) (hf : l.flags = flags0) (d : nwD) (ro ad : Nat → Nat) (x : Nat) (σ : spSg) (sm : Int64) (g : Int32) (H : Heap) (hB : nd_B d ≤ H.size) (hW : nwWC d ro ad x σ sm H) (ok : spOk σ)  : nwMt l d yX1_guardAt cX1_guardAt 2 (some (.object "NightwatchWall$Guard")) 7 121 1 6 [.ref x, .int g] H (fun v H1 => v = some (.ref (ad (300 + nw_nn g))) ∧ nw_ix g (sg_gu σ).1 = true ∧ H = H1) (fun E H1 => E = cIO ∧ nw_ix g (sg_gu σ).1 = false ∧ nwExt H H1) (nwNew H) := by
  refine nw_start "NightwatchWall" "guardAt" hf (by decide +kernel) rfl rfl (fun _ h => h) (fun q h => Nat.le_trans hB h) (Nat.le_of_ble_eq_true rfl) ?_
  intro X C
  have hW0 := hW
  have hB0 := hB
  have hE := C.E0
  have hext : nwExt H H := nwExt.rfl
  obtain ⟨hx, hcG, hcLa, hcFo, hcGu, hcPo, hcIn, hcWi, hcWo, hcKe⟩ := id hW
  obtain ⟨okg, okl, okf, oku, okp, oki, okw, okd, okk, oka⟩ := id ok
  have hn64 : gr_n (sg_gr σ) ≤ 64 := okg.n
  have oku1 := oku.1
  have oki1 := oki.1
  show nwV X _ _ 2 H 0 0 0 [(0, .ref x), (1, .int g)] []
  refine nw_iload_n C 1 dX1_guardAt_0 rfl 1 rfl ?_
  refine nw_aload_n C 0 dX1_guardAt_1 rfl 2 rfl ?_
  refine nw_get C hx (T := TX1) rfl in_X1 3 (by decide) q224 (Or.inl rfl) rfl dX1_guardAt_2 5 rfl ?_
  refine nw_callV C (mJ3_size _ C.hfl d (ad 3) ((sg_gu σ).1) (fun k => ad (300 + k)) (fun q => ro q = 2004) H hB hcGu.1) kJ3_size q346 (hcGu.1.is C) (As := []) (rest := [.int g]) rfl rfl ⟨⟨Nat.le_of_ble_eq_true rfl, Nat.le_of_ble_eq_true rfl⟩, Nat.le_of_ble_eq_true rfl, Nat.le_of_ble_eq_true rfl⟩ (Nat.le_of_ble_eq_true rfl) (fun _ h8 h9 => absurd h9 (Nat.not_le.mpr h8)) dX1_guardAt_5 8 rfl (nw_rdK ?_) nw_noX
  refine nw_callS C (mX1_requireIndex _ C.hfl d g ((sg_gu σ).1) H hB) kX1_requireIndex q814 (As := [.int g, .int (nI ((sg_gu σ).1))]) (rest := []) rfl rfl ⟨⟨Nat.le_of_ble_eq_true rfl, Nat.le_of_ble_eq_true rfl⟩, (show 0 + 1 ≤ 1 by omega), (show 0 + 6 ≤ 6 by omega)⟩ (Nat.le_of_ble_eq_true rfl) (fun _ h8 h9 => absurd h9 (Nat.not_le.mpr h8)) dX1_guardAt_8 11 rfl ?_ ?_
  rotate_left
  · intro E9 w9 H1 hR2 hz3 hq4
    exact nw_out C (show (0 + 1) ≤ 1 by omega) (show (0 + 6) ≤ 6 by omega) ⟨hR2.1, hR2.2.1, hext.trans hR2.2.2⟩
  intro v9 H1 hR2 hz3 hq4
  obtain ⟨rfl, hb5, rfl⟩ := hR2
  obtain ⟨gn, hk6, rfl⟩ := nw_ix_nat (by omega) hb5
  have en_gn : nw_nn (nI gn) = gn := nw_nn_nI (by omega)
  show nwV X _ _ 2 H (0 + 1) (0 + 6) 11 [(0, .ref x), (1, .int (nI gn))] []
  refine nw_wide (k' := 1) (n' := 6) (by omega) (by omega) ?_
  refine nw_aload_n C 0 dX1_guardAt_11 rfl 12 rfl ?_
  refine nw_get C hx (T := TX1) rfl in_X1 3 (by decide) q224 (Or.inl rfl) rfl dX1_guardAt_12 15 rfl ?_
  refine nw_iload_n C 1 dX1_guardAt_15 rfl 16 rfl ?_
  refine nw_callV C (mJ3_get _ C.hfl d (ad 3) ((sg_gu σ).1) (fun k => ad (300 + k)) (fun q => ro q = 2004) gn H hB hcGu.1 (by omega)) kJ3_get q350 (hcGu.1.is C) (As := [.int (nI gn)]) (rest := []) rfl rfl ⟨⟨Nat.le_of_ble_eq_true rfl, Nat.le_of_ble_eq_true rfl⟩, Nat.le_of_ble_eq_true rfl, Nat.le_of_ble_eq_true rfl⟩ (Nat.le_of_ble_eq_true rfl) (fun _ h8 h9 => absurd h9 (Nat.not_le.mpr h8)) dX1_guardAt_16 19 rfl (nw_rdK ?_) nw_noX
  have hg7 : nwGd d (ad (300 + gn)) (ad (400 + gn)) (fun q => ro q = 2401 + gn) ((sg_gu σ).2 gn) H := hcGu.2 gn (by omega)
  have hk8 : okGd (sg_gr σ) ((sg_gu σ).2 gn) := oku.2 gn (by omega)
  have hg9 : nwO d (ad (300 + gn)) 4 [.int (nI (gd_a ((sg_gu σ).2 gn))), .int (nI (gd_b ((sg_gu σ).2 gn))), .int (nI (gd_s ((sg_gu σ).2 gn))), .ref (ad (400 + gn)), .int (nI (gd_k ((sg_gu σ).2 gn))), .int (gd_h ((sg_gu σ).2 gn))] H := hg7.1
  refine nw_cast C (ci := 4) rfl (hg9.is C (ci := 4) rfl) q369 dX1_guardAt_19 22 rfl ?_
  exact nw_aret C (Or.inl ⟨_, rfl⟩) dX1_guardAt_22 (by omega) (by omega) ⟨by rw [en_gn], hb5, rfl⟩
set_option maxHeartbeats 4000000 in
theorem mX1_intruderAt (l : Launch) (hf : l.flags = flags0) (d : nwD) (ro ad : Nat → Nat) (x : Nat) (σ : spSg) (sm : Int64) (g : Int32) (H : Heap) (hB : nd_B d ≤ H.size) (hW : nwWC d ro ad x σ sm H) (ok : spOk σ)  : nwMt l d yX1_intruderAt cX1_intruderAt 2 (some (.object "NightwatchWall$Intruder")) 7 121 1 6 [.ref x, .int g] H (fun v H1 => v = some (.ref (ad (500 + nw_nn g))) ∧ nw_ix g (sg_in σ).1 = true ∧ H = H1) (fun E H1 => E = cIO ∧ nw_ix g (sg_in σ).1 = false ∧ nwExt H H1) (nwNew H) := by
  refine nw_start "NightwatchWall" "intruderAt" hf (by decide +kernel) rfl rfl (fun _ h => h) (fun q h => Nat.le_trans hB h) (Nat.le_of_ble_eq_true rfl) ?_
  intro X C
  have hW0 := hW
  have hB0 := hB
  have hE := C.E0
  have hext : nwExt H H := nwExt.rfl
  obtain ⟨hx, hcG, hcLa, hcFo, hcGu, hcPo, hcIn, hcWi, hcWo, hcKe⟩ := id hW
  obtain ⟨okg, okl, okf, oku, okp, oki, okw, okd, okk, oka⟩ := id ok
  have hn64 : gr_n (sg_gr σ) ≤ 64 := okg.n
  have oku1 := oku.1
  have oki1 := oki.1
  show nwV X _ _ 2 H 0 0 0 [(0, .ref x), (1, .int g)] []
  refine nw_iload_n C 1 dX1_intruderAt_0 rfl 1 rfl ?_
  refine nw_aload_n C 0 dX1_intruderAt_1 rfl 2 rfl ?_
  refine nw_get C hx (T := TX1) rfl in_X1 5 (by decide) q226 (Or.inl rfl) rfl dX1_intruderAt_2 5 rfl ?_
  refine nw_callV C (mJ3_size _ C.hfl d (ad 5) ((sg_in σ).1) (fun k => ad (500 + k)) (fun q => ro q = 2006) H hB hcIn.1) kJ3_size q346 (hcIn.1.is C) (As := []) (rest := [.int g]) rfl rfl ⟨⟨Nat.le_of_ble_eq_true rfl, Nat.le_of_ble_eq_true rfl⟩, Nat.le_of_ble_eq_true rfl, Nat.le_of_ble_eq_true rfl⟩ (Nat.le_of_ble_eq_true rfl) (fun _ h8 h9 => absurd h9 (Nat.not_le.mpr h8)) dX1_intruderAt_5 8 rfl (nw_rdK ?_) nw_noX
  refine nw_callS C (mX1_requireIndex _ C.hfl d g ((sg_in σ).1) H hB) kX1_requireIndex q814 (As := [.int g, .int (nI ((sg_in σ).1))]) (rest := []) rfl rfl ⟨⟨Nat.le_of_ble_eq_true rfl, Nat.le_of_ble_eq_true rfl⟩, (show 0 + 1 ≤ 1 by omega), (show 0 + 6 ≤ 6 by omega)⟩ (Nat.le_of_ble_eq_true rfl) (fun _ h8 h9 => absurd h9 (Nat.not_le.mpr h8)) dX1_intruderAt_8 11 rfl ?_ ?_
  rotate_left
  · intro E9 w9 H1 hR2 hz3 hq4
    exact nw_out C (show (0 + 1) ≤ 1 by omega) (show (0 + 6) ≤ 6 by omega) ⟨hR2.1, hR2.2.1, hext.trans hR2.2.2⟩
  intro v9 H1 hR2 hz3 hq4
  obtain ⟨rfl, hb5, rfl⟩ := hR2
  obtain ⟨gn, hk6, rfl⟩ := nw_ix_nat (by omega) hb5
  have en_gn : nw_nn (nI gn) = gn := nw_nn_nI (by omega)
  show nwV X _ _ 2 H (0 + 1) (0 + 6) 11 [(0, .ref x), (1, .int (nI gn))] []
  refine nw_wide (k' := 1) (n' := 6) (by omega) (by omega) ?_
  refine nw_aload_n C 0 dX1_intruderAt_11 rfl 12 rfl ?_
  refine nw_get C hx (T := TX1) rfl in_X1 5 (by decide) q226 (Or.inl rfl) rfl dX1_intruderAt_12 15 rfl ?_
  refine nw_iload_n C 1 dX1_intruderAt_15 rfl 16 rfl ?_
  refine nw_callV C (mJ3_get _ C.hfl d (ad 5) ((sg_in σ).1) (fun k => ad (500 + k)) (fun q => ro q = 2006) gn H hB hcIn.1 (by omega)) kJ3_get q350 (hcIn.1.is C) (As := [.int (nI gn)]) (rest := []) rfl rfl ⟨⟨Nat.le_of_ble_eq_true rfl, Nat.le_of_ble_eq_true rfl⟩, Nat.le_of_ble_eq_true rfl, Nat.le_of_ble_eq_true rfl⟩ (Nat.le_of_ble_eq_true rfl) (fun _ h8 h9 => absurd h9 (Nat.not_le.mpr h8)) dX1_intruderAt_16 19 rfl (nw_rdK ?_) nw_noX
  have hg7 : nwIn d (ad (500 + gn)) (ad (600 + gn)) (fun q => ro q = 2601 + gn) ((sg_in σ).2 gn) H := hcIn.2 gn (by omega)
  have hk8 : okI1 (sg_gr σ) ((sg_in σ).2 gn) := oki.2 gn (by omega)
  have hg9 : nwO d (ad (500 + gn)) 7 [.int (nI (in_a ((sg_in σ).2 gn))), .ref (ad (600 + gn)), .int (nI (in_v ((sg_in σ).2 gn))), .int (nI (in_s ((sg_in σ).2 gn))), .int (oI (in_l ((sg_in σ).2 gn)))] H := hg7.1
  refine nw_cast C (ci := 7) rfl (hg9.is C (ci := 7) rfl) q378 dX1_intruderAt_19 22 rfl ?_
  exact nw_aret C (Or.inl ⟨_, rfl⟩) dX1_intruderAt_22 (by omega) (by omega) ⟨by rw [en_gn], hb5, rfl⟩
