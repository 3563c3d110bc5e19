/-! ===== intruders ===== -/
theorem kX1_wayOf : nwPV "NightwatchWall" yX1_wayOf cX1_wayOf 11 (some (.object "java/util/Optional")) 4 := ⟨⟨q1188, qs40, q86, q1189⟩, rfl, by decide +kernel, by decide +kernel, by decide +kernel⟩
theorem kX12_init : nwPI yX12_init cX12_init 4 3 := ⟨⟨q120, q1192, q1193⟩, rfl, by decide +kernel, by decide +kernel, by decide +kernel⟩
set_option maxHeartbeats 4000000 in
theorem mX1_intruder (l : Launch) (hf : l.flags = flags0) (d : nwD) (ro ad : Nat → Nat) (x : Nat) (σ : spSg) (sm : Int64) (c : Int32) (t : Int32) (mv : Int32) (H : Heap) (hB : nd_B d ≤ H.size) (hR : nwWR d ro ad x σ sm H) (ok : spOk σ) : nwMt l d yX1_intruder cX1_intruder 8 (some .int) 9 221 60 700 [.ref x, .int c, .int t, .int mv] H (nwCv d ro x sm (op_intr σ c t mv) H) (nwRx ((op_intr σ c t mv).1, 0) [cIO, cIA, cIS] H) (nwAC ro H) := by
  refine nw_start "NightwatchWall" "intruder" hf (by decide +kernel) rfl rfl (fun _ h => Or.inr h) (nwAC_B hR hB) (Nat.le_of_ble_eq_true rfl) ?_
  intro X C
  have hW := hR.wc
  have hrx0 := hR.2.1.2
  have hW0 := hW
  have hB0 := hB
  have hE := C.E0
  have hext : nwExt H H := nwExt.rfl
  obtain ⟨hx, hcG, hcLa, hcFo, hcGu, hcPo, hcIn, hcWi, hcWo, hcKe⟩ := id hW
  obtain ⟨okg, okl, okf, oku, okp, oki, okw, okd, okk, oka⟩ := id ok
  have hn64 : gr_n (sg_gr σ) ≤ 64 := okg.n
  have oku1 := oku.1
  have oki1 := oki.1
  have okp1 := okp.1
  have okw1 := okw.1
  have okl1 := okl.1
  have okf1 := okf.1
  show nwV X _ _ 8 H 0 0 0 [(0, .ref x), (1, .int c), (2, .int t), (3, .int mv)] []
  refine nw_aload_n C 0 dX1_intruder_0 rfl 1 rfl ?_
  refine nw_iload_n C 1 dX1_intruder_1 rfl 2 rfl ?_
  refine nw_callV C (mX1_groundAt _ C.hfl d ro ad x σ sm c H hB hW ok) kX1_groundAt q810 (hx.is C (ci := 0) rfl) (As := [.int c]) (rest := []) rfl rfl ⟨⟨Nat.le_of_ble_eq_true rfl, Nat.le_of_ble_eq_true rfl⟩, (show 0 + 1 ≤ 60 by omega), (show 0 + 6 ≤ 700 by omega)⟩ (Nat.le_of_ble_eq_true rfl) (fun _ h8 h9 => absurd h9 (Nat.not_le.mpr h8)) dX1_intruder_2 5 rfl ?_ ?_
  rotate_left
  · intro E9 w9 H1 hR2 hz3 hq4
    obtain ⟨rfl, hb5, hx6⟩ := hR2
    exact nw_out C (show (0 + 1) ≤ 60 by omega) (show (0 + 6) ≤ 700 by omega) ⟨⟨0, by simp [op_intr, hb5], rfl⟩, hext.trans hx6⟩
  intro v9 H1 hR2 hz3 hq4
  obtain ⟨rfl, hb7, rfl⟩ := hR2
  obtain ⟨cn, hk8, rfl⟩ := nw_ix_nat (by omega) hb7
  have en_cn : nw_nn (nI cn) = cn := nw_nn_nI (by omega)
  obtain ⟨hgro, hgrl, hgrg⟩ := hcG.here (by assumption)
  show nwV X _ _ 8 H (0 + 1) (0 + 6) 5 [(0, .ref x), (1, .int (nI cn)), (2, .int t), (3, .int mv)] [.ref (ad 9)]
  refine nw_wide (k' := 1) (n' := 6) (by omega) (by omega) ?_
  refine nw_astore C [(4, .ref (ad 9)), (0, .ref x), (1, .int (nI cn)), (2, .int t), (3, .int mv)] dX1_intruder_5 (by decide) rfl 7 rfl ?_
  refine nw_iload_n C 3 dX1_intruder_7 rfl 8 rfl ?_
  refine nw_callS C (mX1_isMinute _ C.hfl d t H hB) kX1_isMinute q861 (As := [.int t]) (rest := []) rfl rfl ⟨⟨Nat.le_of_ble_eq_true rfl, Nat.le_of_ble_eq_true rfl⟩, Nat.le_of_ble_eq_true rfl, Nat.le_of_ble_eq_true rfl⟩ (Nat.le_of_ble_eq_true rfl) (fun _ h8 h9 => absurd h9 (Nat.not_le.mpr h8)) dX1_intruder_8 11 rfl (nw_rdK ?_) nw_noX
  refine nw_ifeqB C 22 dX1_intruder_11 (by decide) 14 rfl (fun h9 => ?_) (fun h9 => ?_)
  · refine nw_iconst C (nI 0) dX1_intruder_22 (by decide) 23 rfl ?_
    refine nw_callS C (mX1_require _ C.hfl d false H hB) kX1_require q655 (As := [.int (b2i false)]) (rest := []) rfl rfl ⟨⟨Nat.le_of_ble_eq_true rfl, Nat.le_of_ble_eq_true rfl⟩, (show 1 + 1 ≤ 60 by omega), (show 6 + 6 ≤ 700 by omega)⟩ (Nat.le_of_ble_eq_true rfl) (fun _ h8 h9 => absurd h9 (Nat.not_le.mpr h8)) dX1_intruder_23 26 rfl ?_ ?_
    rotate_left
    · intro E9 w9 H10 hR11 hz12 hq13
      obtain ⟨rfl, hb14, hx15⟩ := hR11
      exact nw_out C (show (1 + 1) ≤ 60 by omega) (show (6 + 6) ≤ 700 by omega) ⟨⟨1, by simp [op_intr, h9, en_cn, hb7, hb14], rfl⟩, hext.trans hx15⟩
    intro v9 H10 hR11 hz12 hq13
    obtain ⟨rfl, hb16, rfl⟩ := hR11
    cases hb16
  · obtain ⟨tn, hk17, rfl⟩ := nw_rg_nat (by decide) (by decide) h9
    have en_tn : nw_nn (nI tn) = tn := nw_nn_nI (by omega)
    refine nw_iload_n C 4 dX1_intruder_14 rfl 15 rfl ?_
    refine nw_iflt C 22 dX1_intruder_15 (by decide) 18 rfl (fun h18 => ?_) (fun h18 => ?_)
    · refine nw_iconst C (nI 0) dX1_intruder_22 (by decide) 23 rfl ?_
      refine nw_callS C (mX1_require _ C.hfl d false H hB) kX1_require q655 (As := [.int (b2i false)]) (rest := []) rfl rfl ⟨⟨Nat.le_of_ble_eq_true rfl, Nat.le_of_ble_eq_true rfl⟩, (show 1 + 1 ≤ 60 by omega), (show 6 + 6 ≤ 700 by omega)⟩ (Nat.le_of_ble_eq_true rfl) (fun _ h8 h9 => absurd h9 (Nat.not_le.mpr h8)) dX1_intruder_23 26 rfl ?_ ?_
      rotate_left
      · intro E9 w9 H19 hR20 hz21 hq22
        obtain ⟨rfl, hb23, hx24⟩ := hR20
        exact nw_out C (show (1 + 1) ≤ 60 by omega) (show (6 + 6) ≤ 700 by omega) ⟨⟨1, by simp [op_intr, h9, h18, en_cn, en_tn, hb7, hb23], rfl⟩, hext.trans hx24⟩
      intro v9 H19 hR20 hz21 hq22
      obtain ⟨rfl, hb25, rfl⟩ := hR20
      cases hb25
    · obtain ⟨mn, hk26, rfl⟩ := nw_nat (Int32.not_lt.mp h18)
      have en_mn : nw_nn (nI mn) = mn := nw_nn_nI (by omega)
      refine nw_iconst C (nI 1) dX1_intruder_18 (by decide) 19 rfl ?_
      refine nw_goto C 23 dX1_intruder_19 (by decide) ?_
      refine nw_callS C (mX1_requireT _ C.hfl d H hB) kX1_require q655 (As := [.int (b2i true)]) (rest := []) rfl rfl ⟨⟨Nat.le_of_ble_eq_true rfl, Nat.le_of_ble_eq_true rfl⟩, Nat.le_of_ble_eq_true rfl, Nat.le_of_ble_eq_true rfl⟩ (Nat.le_of_ble_eq_true rfl) (fun _ h8 h9 => absurd h9 (Nat.not_le.mpr h8)) dX1_intruder_23 26 rfl (nw_rdK ?_) nw_noX
      refine nw_aload_n C 1 dX1_intruder_26 rfl 27 rfl ?_
      refine nw_aload C 0 dX1_intruder_27 rfl 29 rfl ?_
      refine nw_iload_n C 2 dX1_intruder_29 rfl 30 rfl ?_
      refine nw_iload_n C 3 dX1_intruder_30 rfl 31 rfl ?_
      refine nw_iload_n C 4 dX1_intruder_31 rfl 32 rfl ?_
      have hcn9 : cn < gr_n (sg_gr σ) := by assumption
      refine nw_callV C (mX1_wayOf _ C.hfl d x (ad 9) (ad 10) (sg_gr σ) cn tn mn H hB hgrg hgro hcn9 (by omega) (by omega)) kX1_wayOf q1186 (hx.is C (ci := 0) rfl) (As := [.ref (ad 9), .int (nI cn), .int (nI tn), .int (nI mn)]) (rest := []) rfl rfl ⟨⟨Nat.le_of_ble_eq_true rfl, Nat.le_of_ble_eq_true rfl⟩, (show 1 + 40 ≤ 60 by omega), (show 6 + 600 ≤ 700 by omega)⟩ (Nat.le_of_ble_eq_true rfl) (fun _ h8 h9 => absurd h9 (Nat.not_le.mpr h8)) dX1_intruder_32 35 rfl (fun v9 H27 hR28 hz29 hq30 => ?_) nw_noX
      obtain ⟨hx9, o9, rfl, hwy⟩ := hR28
      have hext := hext.call hz29 hq30
      have hW := hW0.ext hext.2
      have hE := C.E0.ext hext.2
      have hB := Nat.le_trans hB0 hext.1
      obtain ⟨hx, hcG, hcLa, hcFo, hcGu, hcPo, hcIn, hcWi, hcWo, hcKe⟩ := id hW
      obtain ⟨okg, okl, okf, oku, okp, oki, okw, okd, okk, oka⟩ := id ok
      have hn64 : gr_n (sg_gr σ) ≤ 64 := okg.n
      have oku1 := oku.1
      have oki1 := oki.1
      have okp1 := okp.1
      have okw1 := okw.1
      have okl1 := okl.1
      have okf1 := okf.1
      obtain ⟨hgro, hgrl, hgrg⟩ := hcG.here (by assumption)
      generalize hwo : sp_wayOf (sg_gr σ) cn tn mn = ow at hwy
      show nwV X _ _ 8 H27 (1 + 40) (6 + 600) 35 [(4, .ref (ad 9)), (0, .ref x), (1, .int (nI cn)), (2, .int (nI tn)), (3, .int (nI mn))] [.ref o9]
      refine nw_wide (k' := 41) (n' := 606) (by omega) (by omega) ?_
      rcases ow with _ | wy
      · have ho4 : o9 = nd_st d 4 := hwy
        subst ho4
        refine nw_astore C [(5, .ref (nd_st d 4)), (4, .ref (ad 9)), (0, .ref x), (1, .int (nI cn)), (2, .int (nI tn)), (3, .int (nI mn))] dX1_intruder_35 (by decide) rfl 37 rfl ?_
        refine nw_aload_n C 2 dX1_intruder_37 rfl 38 rfl ?_
        refine nw_get C hx (T := TX1) rfl in_X1 5 (by decide) q226 (Or.inl rfl) rfl dX1_intruder_38 41 rfl ?_
        refine nw_callV C (mJ3_size _ C.hfl d (ad 5) ((sg_in σ).1) (fun k => ad (500 + k)) (fun q => ro q = 2006) H27 hB hcIn.1) kJ3_size q346 (hcIn.1.is C) (As := []) (rest := []) rfl rfl ⟨⟨Nat.le_of_ble_eq_true rfl, Nat.le_of_ble_eq_true rfl⟩, Nat.le_of_ble_eq_true rfl, Nat.le_of_ble_eq_true rfl⟩ (Nat.le_of_ble_eq_true rfl) (fun _ h8 h9 => absurd h9 (Nat.not_le.mpr h8)) dX1_intruder_41 44 rfl (nw_rdK ?_) nw_noX
        refine nw_iconst C (nI 4) dX1_intruder_44 (by decide) 45 rfl ?_
        refine nw_icmpgeN C (by omega) 60 dX1_intruder_45 (by decide) 48 rfl (fun h31 => ?_) (fun h31 => ?_)
        · refine nw_iconst C (nI 0) dX1_intruder_60 (by decide) 61 rfl ?_
          refine nw_callS C (mX1_requireState _ C.hfl d false H27 hB) kX1_requireState q832 (As := [.int (b2i false)]) (rest := []) rfl rfl ⟨⟨Nat.le_of_ble_eq_true rfl, Nat.le_of_ble_eq_true rfl⟩, (show 41 + 1 ≤ 60 by omega), (show 606 + 6 ≤ 700 by omega)⟩ (Nat.le_of_ble_eq_true rfl) (fun _ h8 h9 => absurd h9 (Nat.not_le.mpr h8)) dX1_intruder_61 64 rfl ?_ ?_
          rotate_left
          · intro E9 w9 H32 hR33 hz34 hq35
            obtain ⟨rfl, hb36, hx37⟩ := hR33
            exact nw_out C (show (41 + 1) ≤ 60 by omega) (show (606 + 6) ≤ 700 by omega) ⟨⟨2, by simp [op_intr, h9, h18, h31, en_cn, en_tn, en_mn, hb7, hwo, hb36], rfl⟩, hext.trans hx37⟩
          intro v9 H32 hR33 hz34 hq35
          obtain ⟨rfl, hb38, rfl⟩ := hR33
          cases hb38
        · have hfull : ¬ 4 ≤ (sg_in σ).1 := by omega
          refine nw_aload C 0 dX1_intruder_48 rfl 50 rfl ?_
          refine nw_callV C (mJ0_isPresentE _ C.hfl d H27 hB) kJ0_isPresent q276 (va_O.is hE.2.2.2.2.1.2.1) (As := []) (rest := []) rfl rfl ⟨⟨Nat.le_of_ble_eq_true rfl, Nat.le_of_ble_eq_true rfl⟩, Nat.le_of_ble_eq_true rfl, Nat.le_of_ble_eq_true rfl⟩ (Nat.le_of_ble_eq_true rfl) (fun _ h8 h9 => absurd h9 (Nat.not_le.mpr h8)) dX1_intruder_50 53 rfl (nw_rdK ?_) nw_noX
          refine nw_ifeq C 60 dX1_intruder_53 (by decide) 56 rfl (fun _ => ?_) (fun h39 => absurd (by decide) h39)
          refine nw_iconst C (nI 0) dX1_intruder_60 (by decide) 61 rfl ?_
          refine nw_callS C (mX1_requireState _ C.hfl d false H27 hB) kX1_requireState q832 (As := [.int (b2i false)]) (rest := []) rfl rfl ⟨⟨Nat.le_of_ble_eq_true rfl, Nat.le_of_ble_eq_true rfl⟩, (show 41 + 1 ≤ 60 by omega), (show 606 + 6 ≤ 700 by omega)⟩ (Nat.le_of_ble_eq_true rfl) (fun _ h8 h9 => absurd h9 (Nat.not_le.mpr h8)) dX1_intruder_61 64 rfl ?_ ?_
          rotate_left
          · intro E9 w9 H40 hR41 hz42 hq43
            obtain ⟨rfl, hb44, hx45⟩ := hR41
            exact nw_out C (show (41 + 1) ≤ 60 by omega) (show (606 + 6) ≤ 700 by omega) ⟨⟨2, by simp [op_intr, h9, h18, h31, en_cn, en_tn, en_mn, hb7, hwo, hfull, hb44], rfl⟩, hext.trans hx45⟩
          intro v9 H40 hR41 hz42 hq43
          obtain ⟨rfl, hb46, rfl⟩ := hR41
          cases hb46
      · obtain ⟨hoN, wl, war, wcap, wmo, wf, hwlN, hoo, hLw⟩ := hwy
        obtain ⟨hw1, hw15, hwc⟩ := sp_wayOf_ok hgro hcn9 (by omega) hwo
        obtain ⟨K9, hK9⟩ : ∃ K, K = H27.size := ⟨_, rfl⟩
        have hoK : o9 < K9 := by rw [hK9]; exact hoo.lt
        have hwlK : wl < K9 := by rw [hK9]; exact hLw.lt'
        have hoN : H.size ≤ o9 := Nat.le_trans (Nat.le_refl _) hoN
        have hLw := hLw.toP (P' := fun q => H.size ≤ q ∧ q ≠ wl ∧ q < K9) (fun e9 => ⟨e9.1, e9.2, by rw [hK9]; exact hLw.art (Nat.lt_of_lt_of_le (by omega) hLw.1.2.1)⟩) (fun _ _ => rfl)
        refine nw_astore C [(5, .ref o9), (4, .ref (ad 9)), (0, .ref x), (1, .int (nI cn)), (2, .int (nI tn)), (3, .int (nI mn))] dX1_intruder_35 (by decide) rfl 37 rfl ?_
        refine nw_aload_n C 2 dX1_intruder_37 rfl 38 rfl ?_
        refine nw_get C hx (T := TX1) rfl in_X1 5 (by decide) q226 (Or.inl rfl) rfl dX1_intruder_38 41 rfl ?_
        refine nw_callV C (mJ3_size _ C.hfl d (ad 5) ((sg_in σ).1) (fun k => ad (500 + k)) (fun q => ro q = 2006) H27 hB hcIn.1) kJ3_size q346 (hcIn.1.is C) (As := []) (rest := []) rfl rfl ⟨⟨Nat.le_of_ble_eq_true rfl, Nat.le_of_ble_eq_true rfl⟩, Nat.le_of_ble_eq_true rfl, Nat.le_of_ble_eq_true rfl⟩ (Nat.le_of_ble_eq_true rfl) (fun _ h8 h9 => absurd h9 (Nat.not_le.mpr h8)) dX1_intruder_41 44 rfl (nw_rdK ?_) nw_noX
        refine nw_iconst C (nI 4) dX1_intruder_44 (by decide) 45 rfl ?_
        refine nw_icmpgeN C (by omega) 60 dX1_intruder_45 (by decide) 48 rfl (fun h47 => ?_) (fun h47 => ?_)
        · refine nw_iconst C (nI 0) dX1_intruder_60 (by decide) 61 rfl ?_
          refine nw_callS C (mX1_requireState _ C.hfl d false H27 hB) kX1_requireState q832 (As := [.int (b2i false)]) (rest := []) rfl rfl ⟨⟨Nat.le_of_ble_eq_true rfl, Nat.le_of_ble_eq_true rfl⟩, (show 41 + 1 ≤ 60 by omega), (show 606 + 6 ≤ 700 by omega)⟩ (Nat.le_of_ble_eq_true rfl) (fun _ h8 h9 => absurd h9 (Nat.not_le.mpr h8)) dX1_intruder_61 64 rfl ?_ ?_
          rotate_left
          · intro E9 w9 H48 hR49 hz50 hq51
            obtain ⟨rfl, hb52, hx53⟩ := hR49
            exact nw_out C (show (41 + 1) ≤ 60 by omega) (show (606 + 6) ≤ 700 by omega) ⟨⟨2, by simp [op_intr, h9, h18, h47, en_cn, en_tn, en_mn, hb7, hwo, hb52], rfl⟩, hext.trans hx53⟩
          intro v9 H48 hR49 hz50 hq51
          obtain ⟨rfl, hb54, rfl⟩ := hR49
          cases hb54
        · have hfull : ¬ 4 ≤ (sg_in σ).1 := by omega
          refine nw_aload C 0 dX1_intruder_48 rfl 50 rfl ?_
          refine nw_callV C (mJ0_isPresent _ C.hfl d o9 wl H27 hB hoo) kJ0_isPresent q276 (hoo.is C (ci := 15) rfl) (As := []) (rest := []) rfl rfl ⟨⟨Nat.le_of_ble_eq_true rfl, Nat.le_of_ble_eq_true rfl⟩, Nat.le_of_ble_eq_true rfl, Nat.le_of_ble_eq_true rfl⟩ (Nat.le_of_ble_eq_true rfl) (fun _ h8 h9 => absurd h9 (Nat.not_le.mpr h8)) dX1_intruder_50 53 rfl (nw_rdK ?_) nw_noX
          refine nw_ifeq C 60 dX1_intruder_53 (by decide) 56 rfl (fun h55 => absurd h55 (by decide)) (fun _ => ?_)
          refine nw_iconst C (nI 1) dX1_intruder_56 (by decide) 57 rfl ?_
          refine nw_goto C 61 dX1_intruder_57 (by decide) ?_
          refine nw_callS C (mX1_requireStateT _ C.hfl d H27 hB) kX1_requireState q832 (As := [.int (b2i true)]) (rest := []) rfl rfl ⟨⟨Nat.le_of_ble_eq_true rfl, Nat.le_of_ble_eq_true rfl⟩, Nat.le_of_ble_eq_true rfl, Nat.le_of_ble_eq_true rfl⟩ (Nat.le_of_ble_eq_true rfl) (fun _ h8 h9 => absurd h9 (Nat.not_le.mpr h8)) dX1_intruder_61 64 rfl (nw_rdK ?_) nw_noX
          refine nw_iconst C (nI 0) dX1_intruder_64 (by decide) 65 rfl ?_
          refine nw_istore C [(6, .int (nI 0)), (5, .ref o9), (4, .ref (ad 9)), (0, .ref x), (1, .int (nI cn)), (2, .int (nI tn)), (3, .int (nI mn))] dX1_intruder_65 (by decide) rfl 67 rfl ?_
          refine nw_iload_n C 6 dX1_intruder_67 rfl 68 rfl ?_
          refine nw_istore C [(7, .int (nI mn)), (6, .int (nI 0)), (5, .ref o9), (4, .ref (ad 9)), (0, .ref x), (1, .int (nI cn)), (2, .int (nI tn)), (3, .int (nI mn))] dX1_intruder_68 (by decide) rfl 70 rfl ?_
          have lp56 : ∀ (fu : Nat) (i : Nat) (lf : Nat), (i ≤ 14) → (lf = mn / 5 ^ i) → (sp_digs 32 mn = i + sp_digs (32 - i) lf) → 15 - i < fu → nwV X (nwAC ro H) (nwQE X (nwCv d ro x sm (op_intr σ (nI cn) (nI tn) (nI mn)) H) (nwRx ((op_intr σ (nI cn) (nI tn) (nI mn)).1, 0) [cIO, cIA, cIS] H) (nwAC ro H) 60 700) 8 H27 41 606 70 [(0, .ref x), (2, .int (nI tn)), (5, .ref o9), (6, .int (nI i)), (7, .int (nI lf))] [] := by
            intro fu
            induction fu with
            | zero => intro i lf _ _ _ hm; exact absurd hm (Nat.not_lt_zero _)
            | succ fu ih_lp56 =>
              intro i lf hi hlf hdg hm
              have hi14 : 0 < lf → i < 14 := fun h9 => Nat.lt_of_not_le (fun h8 => by
                rw [hlf] at h9
                have h7 : mn / 5 ^ i = 0 := Nat.div_eq_of_lt (Nat.lt_of_lt_of_le (show mn < 5 ^ 14 by omega) (Nat.pow_le_pow_right (by decide) h8))
                omega)
              have hlm : lf < 2 ^ 31 := by rw [hlf]; exact Nat.lt_of_le_of_lt (Nat.div_le_self _ _) (by omega)
              refine nw_iload C 4 dX1_intruder_70 rfl 72 rfl ?_
              refine nw_ifleN C (by omega) 87 dX1_intruder_72 (by decide) 75 rfl (fun h57 => ?_) (fun h57 => ?_)
              · have hD : i = sp_digs 32 mn := by rw [hdg, show lf = 0 by omega, sp_digs_z]; rfl
                have hD14 : sp_digs 32 mn ≤ 14 := by omega
                refine nw_aload_n C 0 dX1_intruder_87 rfl 88 rfl ?_
                refine nw_get C hx (T := TX1) rfl in_X1 5 (by decide) q226 (Or.inl rfl) rfl dX1_intruder_88 91 rfl ?_
                refine nw_new C (ci := 7) (T := TX12) (ty0 := tyX12) [.int (nI 0), .null, .int (nI 0), .int (nI 0), .int (nI 0)] rfl in_X12 tyX12_ok q378 q1190 q120 (fun j hj => by rcases (show j = 0 ∨ j = 1 ∨ j = 2 ∨ j = 3 ∨ j = 4 by omega) with rfl | rfl | rfl | rfl | rfl <;> rfl) 42 611 (by omega) (by omega) ⟨(show 42 ≤ 60 by omega), (show 611 ≤ 700 by omega)⟩ dX1_intruder_91 94 rfl (fun a58 H59 hx60 ho61 hz62 hq63 => ?_)
                have hn65 : H.size ≤ a58 := (by rw [hx60]; exact hext.1)
                have hne66 : o9 ≠ a58 := (Nat.ne_of_lt (by rw [hx60]; exact hoo.lt))
                have hne67 : wl ≠ a58 := (Nat.ne_of_lt (by rw [hx60]; exact hLw.li.lt))
                have hLw := hLw.ext hq63
                have ho68 := hoo.kept (hq63 _ hoo.lt)
                have hext := hext.made hz62 hq63
                have hW := hW0.ext hext.2
                have hE := C.E0.ext hext.2
                have hB := Nat.le_trans hB0 hext.1
                obtain ⟨hx, hcG, hcLa, hcFo, hcGu, hcPo, hcIn, hcWi, hcWo, hcKe⟩ := id hW
                obtain ⟨okg, okl, okf, oku, okp, oki, okw, okd, okk, oka⟩ := id ok
                have hn64 : gr_n (sg_gr σ) ≤ 64 := okg.n
                have oku1 := oku.1
                have oki1 := oki.1
                have okp1 := okp.1
                have okw1 := okw.1
                have okl1 := okl.1
                have okf1 := okf.1
                obtain ⟨hgro, hgrl, hgrg⟩ := hcG.here (by assumption)
                refine nw_dup C dX1_intruder_94 rfl 95 rfl ?_
                refine nw_iload_n C 1 dX1_intruder_95 rfl 96 rfl ?_
                refine nw_aload C 2 dX1_intruder_96 rfl 98 rfl ?_
                refine nw_callV C (mJ0_get _ C.hfl d o9 wl H59 hB ho68) kJ0_get q280 (ho68.is C (ci := 15) rfl) (As := []) (rest := [.int (nI tn), .ref a58, .ref a58, .ref (ad 5)]) rfl rfl ⟨⟨Nat.le_of_ble_eq_true rfl, Nat.le_of_ble_eq_true rfl⟩, Nat.le_of_ble_eq_true rfl, Nat.le_of_ble_eq_true rfl⟩ (Nat.le_of_ble_eq_true rfl) (fun _ h8 h9 => absurd h9 (Nat.not_le.mpr h8)) dX1_intruder_98 101 rfl (nw_rdK ?_) nw_noX
                refine nw_cast C (ci := 13) rfl (hLw.li.is C) q140 dX1_intruder_101 104 rfl ?_
                refine nw_iload C 3 dX1_intruder_104 rfl 106 rfl ?_
                refine nw_callI C (mX12_init _ C.hfl d a58 tn wl i H59 hB (Nat.le_trans hB0 hn65) ho61 ) kX12_init q1191 (As := [.int (nI tn), .ref wl, .int (nI i)]) (rest := [.ref a58, .ref (ad 5)]) rfl rfl ⟨⟨Nat.le_of_ble_eq_true rfl, Nat.le_of_ble_eq_true rfl⟩, (show 42 + 0 ≤ 60 by omega), (show 611 + 0 ≤ 700 by omega)⟩ (Nat.le_of_ble_eq_true rfl) (fun q8 h8 h9 => h9.elim (fun e9 => by rw [e9]; exact (Or.inr hn65)) (fun e9 => absurd h8 (Nat.not_lt.mpr e9))) dX1_intruder_106 109 rfl (fun v9 H69 hR70 hz71 hq72 => ?_) nw_noX
                obtain ⟨rfl, ho73⟩ := hR70
                have hKx : K9 ≤ a58 := by rw [hx60, hK9]; exact Nat.le_refl _
                have hLw := hLw.kp (hq72 _ hLw.lt' (fun e9 => e9.elim (fun e9 => by omega) (Nat.not_le.mpr hLw.lt'))) (fun q9 p9 g9 => hq72 q9 g9 (fun e9 => e9.elim (fun e9 => by have p8 := p9.2.2; omega) (Nat.not_le.mpr g9)))
                have ho74 := ho68.kept (hq72 _ ho68.lt (fun e9 => e9.elim hne66 (Nat.not_le.mpr ho68.lt)))
                have hext := hext.step hz71 hq72 (fun q9 e9 => e9.elim (fun e9 => by rw [e9]; exact hn65) (fun e9 => Nat.le_trans hext.1 e9))
                have hW := hW0.ext hext.2
                have hE := C.E0.ext hext.2
                have hB := Nat.le_trans hB0 hext.1
                obtain ⟨hx, hcG, hcLa, hcFo, hcGu, hcPo, hcIn, hcWi, hcWo, hcKe⟩ := id hW
                obtain ⟨okg, okl, okf, oku, okp, oki, okw, okd, okk, oka⟩ := id ok
                have hn64 : gr_n (sg_gr σ) ≤ 64 := okg.n
                have oku1 := oku.1
                have oki1 := oki.1
                have okp1 := okp.1
                have okw1 := okw.1
                have okl1 := okl.1
                have okf1 := okf.1
                obtain ⟨hgro, hgrl, hgrg⟩ := hcG.here (by assumption)
                show nwV X _ _ 8 H69 (42 + 0) (611 + 0) 109 [(0, .ref x), (2, .int (nI tn)), (5, .ref o9), (6, .int (nI i)), (7, .int (nI lf))] [.ref a58, .ref (ad 5)]
                refine nw_wide (k' := 42) (n' := 611) (by omega) (by omega) ?_
                have hcc9 : 0 < wcap := Nat.lt_of_lt_of_le (by omega) hLw.1.2.1
                have hcar9 := hLw.2.1 hcc9
                have hRc := hR.ext hext
                obtain ⟨mo9, ar9, cap9, f9, hL9⟩ := nwLi_m hcIn.1
                have hr9 : ro (ad 5) = 6 := hR.2.2.2.2.2.2.2.1.2.2.1
                have hai9 := hR.ok0 (show ro (ad 5) ≠ 0 by rw [hr9]; decide)
                have hAq : ∀ q8, q8 < H69.size → (q8 = ad 5 ∨ ro q8 = 2006 ∨ H69.size ≤ q8) → nwAC ro H q8 := by
                  intro q8 h8 h9
                  rcases h9 with e9 | e9 | e9
                  · exact Or.inl (by rw [e9, hr9]; decide +kernel)
                  · exact Or.inl (by rw [e9]; decide +kernel)
                  · exact absurd h8 (Nat.not_lt.mpr e9)
                refine nw_callV C (mJ3_add _ C.hfl d (ad 5) (sg_in σ).1 (fun k => ad (500 + k)) (fun q => ro q = 2006) mo9 ar9 cap9 f9 a58 "NightwatchWall$Intruder" H69 hB hai9.1 hL9 (fun q9 e9 => (hR.ok0 (show ro q9 ≠ 0 by rw [show ro q9 = 2006 from e9]; decide)).1) (show ¬ ro (ad 5) = 2006 by rw [hr9]; decide) (Or.inl ⟨7, _, _, _, ho73, rfl⟩) q2142 (fun e9 => absurd hai9.2 (Nat.not_lt.mpr (by rw [← e9]; exact hn65))) ho73.lt (by omega)) kJ3_add q888 (nwLi.is hcIn.1 C) (As := [.ref a58]) (rest := []) rfl rfl ⟨⟨Nat.le_of_ble_eq_true rfl, Nat.le_of_ble_eq_true rfl⟩, (show 42 + 1 ≤ 60 by omega), (show 611 + 10 ≤ 700 by omega)⟩ (Nat.le_of_ble_eq_true rfl) hAq dX1_intruder_109 112 rfl (fun v9 H75 hR76 hz77 hq78 => ?_) nw_noX
                obtain ⟨rfl, mo8, ar8, cap8, f8, hL8⟩ := hR76
                obtain ⟨ro1, ad1, hR1, hk1⟩ := tr_in hRc (v := (tn, wy, i, 0, none)) (by omega) ⟨(nwWR.new0 hR hn65), (Nat.le_trans hB0 hn65)⟩ ⟨nwWR.new0 hR hwlN, Nat.le_trans hB0 hwlN⟩ ⟨nwWR.new0 hR hcar9.1, Nat.le_trans hB0 hcar9.1⟩ ⟨(by omega), (by have := hcar9.2.2; omega), Ne.symm hcar9.2.1⟩ hcc9 ho73 hLw hz77 hq78 hL8
                obtain ⟨σ1, hσ1⟩ : ∃ t9 : spSg, t9 = st_in σ ((sg_in σ).1 + 1, sp_up (sg_in σ).2 (sg_in σ).1 (tn, wy, i, 0, none)) := ⟨_, rfl⟩
                rw [← hσ1] at hR1
                have hlen : (sg_in σ1).1 = (sg_in σ).1 + 1 := by rw [hσ1]; rfl
                have hE := hE.kept (fun q9 g9 hb9 => hq78 q9 g9 (fun h9 => hb9 (C.hB q9 (hAq q9 g9 h9))))
                have hsz : H.size ≤ H75.size := Nat.le_trans hext.1 hz77
                have hB := Nat.le_trans hB0 hsz
                have ok : spOk σ1 := by rw [hσ1]; exact ⟨okg, okl, okf, oku, okp, oki.add (by omega) ⟨⟨by show tn < 240; omega, hw1, hw15, by show i ≤ 14; omega, by show 0 ≤ 4; omega, fun v e => by cases e⟩, hwc⟩, okw, okd, okk, oka⟩
                have hR := hR1
                have hW := hR.wc
                obtain ⟨hx, hcG, hcLa, hcFo, hcGu, hcPo, hcIn, hcWi, hcWo, hcKe⟩ := id hW
                obtain ⟨okg, okl, okf, oku, okp, oki, okw, okd, okk, oka⟩ := id ok
                have hn64 : gr_n (sg_gr σ1) ≤ 64 := okg.n
                have oku1 := oku.1
                have oki1 := oki.1
                have okp1 := okp.1
                have okw1 := okw.1
                have okl1 := okl.1
                have okf1 := okf.1
                show nwV X _ _ 8 H75 (42 + 1) (611 + 10) 112 [(0, .ref x), (2, .int (nI tn)), (5, .ref o9), (6, .int (nI i)), (7, .int (nI lf))] [.int (b2i true)]
                refine nw_wide (k' := 43) (n' := 621) (by omega) (by omega) ?_
                refine nw_pop C dX1_intruder_112 rfl 113 rfl ?_
                refine nw_aload_n C 0 dX1_intruder_113 rfl 114 rfl ?_
                refine nw_get C hx (T := TX1) rfl in_X1 5 (by decide) q226 (Or.inl rfl) rfl dX1_intruder_114 117 rfl ?_
                refine nw_callV C (mJ3_size _ C.hfl d (ad1 5) ((sg_in σ1).1) (fun k => ad1 (500 + k)) (fun q => ro1 q = 2006) H75 hB hcIn.1) kJ3_size q346 (hcIn.1.is C) (As := []) (rest := []) rfl rfl ⟨⟨Nat.le_of_ble_eq_true rfl, Nat.le_of_ble_eq_true rfl⟩, Nat.le_of_ble_eq_true rfl, Nat.le_of_ble_eq_true rfl⟩ (Nat.le_of_ble_eq_true rfl) (fun _ h8 h9 => absurd h9 (Nat.not_le.mpr h8)) dX1_intruder_117 120 rfl (nw_rdK ?_) nw_noX
                refine nw_iconst C (nI 1) dX1_intruder_120 (by decide) 121 rfl ?_
                refine nw_isubN C (by omega) dX1_intruder_121 122 rfl ?_
                have hop : op_intr σ (nI cn) (nI tn) (nI mn) = (0, nI (sg_in σ).1, σ1) := by rw [hσ1]; unfold op_intr; simp only [en_cn, en_tn, en_mn]; rw [hwo, ← hD]; simp [h9, h18, en_cn, en_tn, en_mn, hb7, hfull]
                exact nw_iret C dX1_intruder_122 (by omega) (by omega) (by rw [hop]; exact ⟨⟨rfl, congrArg (fun z => some (Value.int z)) (show nI ((sg_in σ1).1 - 1) = nI (sg_in σ).1 by rw [hlen]; rfl)⟩, ok, hsz, ro1, ad1, hR, hk1⟩)
              · have hi15 : i + 1 ≤ 14 := hi14 (by assumption)
                refine nw_iincN C 3 (c0 := 1) [(6, .int (nI (i + 1))), (0, .ref x), (2, .int (nI tn)), (5, .ref o9), (7, .int (nI lf))] dX1_intruder_75 rfl (by decide) rfl 78 rfl ?_
                refine nw_iload C 4 dX1_intruder_78 rfl 80 rfl ?_
                refine nw_iconst C (nI 5) dX1_intruder_80 (by decide) 81 rfl ?_
                refine nw_idivN C (by omega) dX1_intruder_81 82 rfl ?_
                refine nw_istore C [(7, .int (nI (lf / 5))), (6, .int (nI (i + 1))), (0, .ref x), (2, .int (nI tn)), (5, .ref o9)] dX1_intruder_82 (by decide) rfl 84 rfl ?_
                refine nw_goto C 70 dX1_intruder_84 (by decide) ?_
                exact nw_wide (by omega) (by omega) (nw_sub [2, 3, 4, 1, 0] rfl (ih_lp56 (i + 1) (lf / 5) hi15 (by rw [hlf, Nat.div_div_eq_div_mul]; rfl) (by rw [hdg, show 32 - i = (31 - i) + 1 by omega, sp_digs_s _ (by assumption), show 32 - (i + 1) = 31 - i by omega]; omega) (by omega)))
          exact nw_wide (by omega) (by omega) (nw_sub [4, 6, 2, 1, 0] rfl (lp56 _ 0 mn (Nat.zero_le _) (by simp) (by simp) (Nat.lt_succ_self _)))
