/-! ===== the reference's public methods that answer only ===== -/
theorem mX4_inX (l : Launch) (hf : l.flags = flags0) (d : nwD) (v : Int32) (n : Nat) (H : Heap) (hB : nd_B d ≤ H.size) (hn : n < 2 ^ 31) : nwRd l d yX4_in cX4_in 3 (some .boolean) 1 20 [.int v, .int (nI 0), .int (nI n - nI 1)] H (some (.int (b2i (nw_ix v n)))) := by
  have h := mX4_inR l hf d v (nI 0) (nI n - nI 1) H hB
  rw [nw_ixD hn] at h
  exact h
theorem nw_rgF {a b : Nat} {v : Int32} (ha : a < 2 ^ 31) (h : nw_rg a b v = false) : nw_rg 0 b v = false ∨ (nw_rg 0 b v = true ∧ v < nI a) := by
  cases h0 : nw_rg 0 b v with
  | false => exact Or.inl rfl
  | true =>
    refine Or.inr ⟨rfl, ?_⟩
    unfold nw_rg at h h0
    rw [Bool.and_eq_true, decide_eq_true_eq, decide_eq_true_eq] at h0
    rw [decide_eq_true h0.2, Bool.and_true, decide_eq_false_iff_not] at h
    rw [Int32.lt_iff_toInt_lt]
    rw [Int32.le_iff_toInt_le] at h
    omega
theorem nw_rgT {a b n : Nat} (h : a ≤ n ∧ n ≤ b) (hb : b < 2 ^ 31) : nw_rg a b (nI n) = true := by
  unfold nw_rg
  rw [decide_eq_true ((nI_leI' (by omega) (by omega)).mpr h.1), decide_eq_true ((nI_leI' (by omega) (by omega)).mpr h.2)]
  rfl
theorem nw_ixOF {g : Int32} {n : Nat} (hn : n < 2 ^ 30) (h : nw_ix g n = false) (h2 : ¬ g = oI none) : nw_ixO g n = false := by
  cases h3 : nw_ixO g n with
  | false => rfl
  | true =>
    obtain ⟨o, ho, e⟩ := nw_ixO_nat hn h3
    subst e
    cases o with
    | none => exact absurd rfl h2
    | some v =>
      have hv := ho v rfl
      rw [show nw_ix (oI (some v)) n = true by
        unfold nw_ix
        have h0 : (0 : Int32) ≤ nI v := by rw [← nI_0, nI_leI' (by omega) (by omega)]; omega
        have h1 : nI v < nI n := (nI_ltI (by omega) (by omega)).mpr hv
        show (decide (0 ≤ nI v) && decide (nI v < nI n)) = true
        simp [h0, h1]] at h
      cases h
theorem nw_ixO_none {n : Nat} (hn : n < 2 ^ 30) : nw_ixO (oI none) n = true := by
  unfold nw_ixO nw_ix
  rw [show oI none + nI 1 = 0 by decide]
  have h1 : (0 : Int32) < nI (n + 1) := by rw [← nI_0]; exact (nI_ltI (by decide) (by omega)).mpr (by omega)
  simp [h1]
theorem nw_ixO_some {v n : Nat} (hn : n < 2 ^ 30) (h : v < n) : nw_ixO (nI v) n = true := by
  unfold nw_ixO nw_ix
  rw [nI_add]
  have h0 : (0 : Int32) ≤ nI (v + 1) := by rw [← nI_0, nI_leI' (by decide) (by omega)]; omega
  have h1 : nI (v + 1) < nI (n + 1) := (nI_ltI (by omega) (by omega)).mpr (by omega)
  simp [h0, h1]
theorem kX4_isMinute : nwPS yX4_isMinute cX4_isMinute 1 (some .boolean) 1 := ⟨⟨q1723, q93, q1724⟩, by decide +kernel, by decide +kernel, by decide +kernel⟩
theorem kX4_no : nwPV "NightwatchWallModel" yX4_no cX4_no 2 (some .int) 1 := ⟨⟨q1696, qs49, q93, q1697⟩, rfl, by decide +kernel, by decide +kernel, by decide +kernel⟩
theorem kX4_isCell : nwPV "NightwatchWallModel" yX4_isCell cX4_isCell 2 (some .boolean) 1 := ⟨⟨q1704, qs50, q93, q1705⟩, rfl, by decide +kernel, by decide +kernel, by decide +kernel⟩
theorem kX4_cellNow : nwPV "NightwatchWallModel" yX4_cellNow cX4_cellNow 4 (some .int) 3 := ⟨⟨q1866, qs62, q93, q1867⟩, rfl, by decide +kernel, by decide +kernel, by decide +kernel⟩
theorem kX4_emptyNow : nwPV "NightwatchWallModel" yX4_emptyNow cX4_emptyNow 5 (some .int) 2 := ⟨⟨q1895, qs67, q93, q1896⟩, rfl, by decide +kernel, by decide +kernel, by decide +kernel⟩
theorem kX4_guardNow : nwPV "NightwatchWallModel" yX4_guardNow cX4_guardNow 6 (some .int) 2 := ⟨⟨q1927, qs69, q93, q1928⟩, rfl, by decide +kernel, by decide +kernel, by decide +kernel⟩
theorem kX4_isIntruder : nwPV "NightwatchWallModel" yX4_isIntruder cX4_isIntruder 2 (some .boolean) 1 := ⟨⟨q1978, qs71, q93, q1979⟩, rfl, by decide +kernel, by decide +kernel, by decide +kernel⟩
theorem kX4_intruderNow : nwPV "NightwatchWallModel" yX4_intruderNow cX4_intruderNow 5 (some .int) 2 := ⟨⟨q1986, qs72, q93, q1987⟩, rfl, by decide +kernel, by decide +kernel, by decide +kernel⟩
theorem kX4_wireNow : nwPV "NightwatchWallModel" yX4_wireNow cX4_wireNow 9 (some .int) 2 := ⟨⟨q2014, qs77, q93, q2015⟩, rfl, by decide +kernel, by decide +kernel, by decide +kernel⟩
theorem kX4_manyNow : nwPV "NightwatchWallModel" yX4_manyNow cX4_manyNow 10 (some .int) 1 := ⟨⟨q2064, qs83, q93, q2065⟩, rfl, by decide +kernel, by decide +kernel, by decide +kernel⟩
theorem kX4_isSoundNow : nwPV "NightwatchWallModel" yX4_isSoundNow cX4_isSoundNow 5 (some .boolean) 0 := ⟨⟨q2087, qs84, q93, q2088⟩, rfl, by decide +kernel, by decide +kernel, by decide +kernel⟩
set_option maxHeartbeats 4000000 in
theorem mX4_no (l : Launch) (hf : l.flags = flags0) (d : nwD) (g : Nat) (v0 v1 v2 v3 v4 v5 v6 v7 v8 v9 v10 v11 v12 v13 v14 v15 v16 v17 v18 v19 : Value) (k : Int32) (H : Heap) (hB : nd_B d ≤ H.size) (hgB : nd_B d ≤ g) (hg : nwO d g 9 [v0, v1, v2, v3, v4, v5, v6, v7, v8, v9, v10, v11, v12, v13, v14, v15, v16, v17, v18, v19] H)  : nwMt l d yX4_no cX4_no 2 (some .int) 1 20 0 0 [.ref g, .int k] H (fun v H1 => v = some (.int (nI 0)) ∧ nwO d g 9 [.int k, v1, v2, v3, v4, v5, v6, v7, v8, v9, v10, v11, v12, v13, v14, v15, v16, v17, v18, v19] H1) nwNo (fun q => q = g ∨ H.size ≤ q) := by
  refine nw_start "NightwatchWallModel" "no" hf (by decide +kernel) rfl rfl (fun _ h => Or.inr h) (fun q h => h.elim (fun e => by rw [e]; exact hgB) (fun h => Nat.le_trans hB h)) (Nat.le_of_ble_eq_true rfl) ?_
  intro X C
  have hE := C.E0
  have hB0 := hB
  have hsz : H.size ≤ H.size := Nat.le_refl _
  show nwV X _ _ 2 H 0 0 0 [(0, .ref g), (1, .int k)] []
  refine nw_aload_n C 0 dX4_no_0 rfl 1 rfl ?_
  refine nw_iload_n C 1 dX4_no_1 rfl 2 rfl ?_
  refine nw_put C hg (Or.inl rfl) (T := TX4) (ty0 := tyX4) rfl in_X4 tyX4_ok nmX4 0 (by decide) q1622 (Or.inl rfl) rfl rfl rfl (Nat.le_of_ble_eq_true rfl) dX4_no_2 5 rfl (fun H1 ho2 hz3 hq4 => ?_)
  have ho2 : nwO d g 9 [.int k, v1, v2, v3, v4, v5, v6, v7, v8, v9, v10, v11, v12, v13, v14, v15, v16, v17, v18, v19] H1 := ho2
  have hsz := Nat.le_trans hsz (Nat.le_of_eq hz3.symm)
  have hB := Nat.le_trans hB0 hsz
  refine nw_iconst C (nI 0) dX4_no_5 (by decide) 6 rfl ?_
  exact nw_iret C dX4_no_6 (Nat.le_refl _) (Nat.le_refl _) ⟨rfl, ho2⟩
set_option maxHeartbeats 4000000 in
theorem mX4_place (l : Launch) (hf : l.flags = flags0) (d : nwD) (ro am : Nat → Nat) (y : Nat) (σ : spSg) (th : Int32) (g : Int32) (t : Int32) (H : Heap) (hB : nd_B d ≤ H.size) (hR : nwMW d ro am y σ th H) (ok : spOk σ) : nwMt l d yX4_place cX4_place 3 (some .int) 5 105 0 0 [.ref y, .int g, .int t] H (nwMv d ro y ((op_place σ g t).1, (op_place σ g t).2, σ) H) nwNo (nwAM ro H) := by
  refine nw_start "NightwatchWallModel" "place" hf (by decide +kernel) rfl rfl (fun _ h => Or.inr h) (nwAM_B hR hB) (Nat.le_of_ble_eq_true rfl) ?_
  intro X C
  have hW := hR.wc
  have okM := ok.m
  have hyB := (hR.ok0 (show ro y ≠ 0 by rw [hR.2.1.2]; decide)).1
  have hAy : nwAM ro H y := Or.inl (by rw [hR.2.1.2]; decide +kernel)
  have hW0 := hW
  have hB0 := hB
  have hE := C.E0
  have hext : nwExt H H := nwExt.rfl
  obtain ⟨hmX, hmKi, hmLa, hmFo, hmGu, hmPo, hmIn, hmWi, hmWo, hmKe⟩ := id hW
  obtain ⟨okg, okl, okf, oku, okp, oki, okw, okd, okk, oka⟩ := id ok
  have hn64 : gr_n (sg_gr σ) ≤ 64 := okg.n
  have oku1 := oku.1
  have oki1 := oki.1
  have okp1 := okp.1
  have okw1 := okw.1
  have okl1 := okl.1
  have okf1 := okf.1
  show nwV X _ _ 3 H 0 0 0 [(0, .ref y), (1, .int g), (2, .int t)] []
  refine nw_aload_n C 0 dX4_place_0 rfl 1 rfl ?_
  refine nw_iconst C (nI 0) dX4_place_1 (by decide) 2 rfl ?_
  refine nw_put C hmX hAy (T := TX4) (ty0 := tyX4) rfl in_X4 tyX4_ok nmX4 0 (by decide) q1622 (Or.inl rfl) rfl rfl rfl (Nat.le_of_ble_eq_true rfl) dX4_place_2 5 rfl (fun H1 ho2 hz3 hq4 => ?_)
  have ho2 : nwO d y 9 [.int (nI 0), .int (nI (gr_w (sg_gr σ))), .int (nI (gr_h (sg_gr σ))), .ref (am 9), .int (nI (gaM_f (sg_ga σ))), .int (oI (gaM_t (sg_ga σ))), .ref (am 1), .ref (am 2), .ref (am 3), .ref (am 4), .int (nI (wo_s (sg_wo σ))), .int (nI (wo_m (sg_wo σ))), .int (nI (sp_after (wo_x (sg_wo σ)))), .ref (am 11), .ref (am 12), .int (nI (sg_ri σ)), .ref (am 8), .ref (am 5), .ref (am 6), .int (nI (sg_rf σ))] H1 := ho2
  replace hR := hR.th hz3 hq4 ho2
  have hzb : H1.size = H.size := hz3
  replace hB0 : nd_B d ≤ H1.size := by rw [hz3]; exact hB0
  replace hB := hB0
  replace hE := hE.kept (fun q9 _ hb9 => hq4 q9 (fun e9 => hb9 (by rw [e9]; exact hyB)))
  have hE0 := hE
  replace hW0 := hR.wc
  replace hW := hW0
  replace hext : nwExt H1 H1 := nwExt.rfl
  clear hmX hmKi hmLa hmFo hmGu hmPo hmIn hmWi hmWo hmKe
  obtain ⟨hmX, hmKi, hmLa, hmFo, hmGu, hmPo, hmIn, hmWi, hmWo, hmKe⟩ := id hW
  refine nw_aload_n C 0 dX4_place_5 rfl 6 rfl ?_
  refine nw_iload_n C 1 dX4_place_6 rfl 7 rfl ?_
  refine nw_callV C (mX4_isGuard _ C.hfl d ro am y σ (nI 0) g H1 hB hW okM ) kX4_isGuard q1808 (hmX.is C (ci := 9) rfl) (As := [.int g]) (rest := []) rfl rfl ⟨⟨Nat.le_of_ble_eq_true rfl, Nat.le_of_ble_eq_true rfl⟩, Nat.le_of_ble_eq_true rfl, Nat.le_of_ble_eq_true rfl⟩ (Nat.le_of_ble_eq_true rfl) (fun _ h8 h9 => absurd h9 (Nat.not_le.mpr h8)) dX4_place_7 10 rfl (nw_rdK ?_) nw_noX
  refine nw_ifneB C 19 dX4_place_10 (by decide) 13 rfl (fun h5 => ?_) (fun h5 => ?_)
  · obtain ⟨gn, hk6, rfl⟩ := nw_ix_nat (by omega) h5
    have en_gn : nw_nn (nI gn) = gn := nw_nn_nI (by omega)
    refine nw_iload_n C 2 dX4_place_19 rfl 20 rfl ?_
    refine nw_callS C (mX4_isMinute _ C.hfl d t H1 hB) kX4_isMinute q1722 (As := [.int t]) (rest := []) rfl rfl ⟨⟨Nat.le_of_ble_eq_true rfl, Nat.le_of_ble_eq_true rfl⟩, Nat.le_of_ble_eq_true rfl, Nat.le_of_ble_eq_true rfl⟩ (Nat.le_of_ble_eq_true rfl) (fun _ h8 h9 => absurd h9 (Nat.not_le.mpr h8)) dX4_place_20 23 rfl (nw_rdK ?_) nw_noX
    refine nw_ifneB C 32 dX4_place_23 (by decide) 26 rfl (fun h7 => ?_) (fun h7 => ?_)
    · obtain ⟨tn, hk8, rfl⟩ := nw_rg_nat (by omega) (by omega) h7
      have en_tn : nw_nn (nI tn) = tn := nw_nn_nI (by omega)
      refine nw_aload_n C 0 dX4_place_32 rfl 33 rfl ?_
      refine nw_get C hmX (T := TX4) rfl in_X4 8 (by decide) q1630 (Or.inl rfl) rfl dX4_place_33 36 rfl ?_
      refine nw_iload_n C 1 dX4_place_36 rfl 37 rfl ?_
      refine nw_callF C (mJ3_get _ C.hfl d (am 3) ((sg_gu σ).1) (fun k => am (300 + k)) (fun q => ro q = 7004) gn H1 hB hmGu.1 (by omega)) kJ3_get (ci := 13) rfl q1615 q1618 (by decide +kernel) fc_List_get (hmGu.1.is C) (As := [.int (nI gn)]) (rest := []) rfl rfl ⟨⟨Nat.le_of_ble_eq_true rfl, Nat.le_of_ble_eq_true rfl⟩, Nat.le_of_ble_eq_true rfl, Nat.le_of_ble_eq_true rfl⟩ (Nat.le_of_ble_eq_true rfl) (fun _ h8 h9 => absurd h9 (Nat.not_le.mpr h8)) dX4_place_37 42 rfl (nw_rdK ?_) nw_noX
      have hg9 : nwMGd d (am (300 + gn)) (am (400 + gn)) (fun q => ro q = 7401 + gn) ((sg_gu σ).2 gn) H1 := hmGu.2 gn (by omega)
      have hk10 : okGd (sg_gr σ) ((sg_gu σ).2 gn) := oku.2 gn (by omega)
      have hg11 : nwO d (am (300 + gn)) 10 [.int (nI (gd_a ((sg_gu σ).2 gn))), .int (nI (gd_b ((sg_gu σ).2 gn))), .int (nI (gd_s ((sg_gu σ).2 gn))), .ref (am (400 + gn)), .int (nI (gd_k ((sg_gu σ).2 gn))), .int (gd_h ((sg_gu σ).2 gn))] H1 := hg9.1
      refine nw_cast C (ci := 10) rfl (hg11.is C (ci := 10) rfl) q1621 dX4_place_42 45 rfl ?_
      refine nw_iload_n C 2 dX4_place_45 rfl 46 rfl ?_
      refine nw_callV C (mX11_place _ C.hfl d (am (300 + gn)) (am (400 + gn)) (fun q => ro q = 7401 + gn) ((sg_gu σ).2 gn) (sg_gr σ) tn H1 hB hg9 hk10 (by omega) (by omega)) kX11_place q1821 (hg11.is C (ci := 10) rfl) (As := [.int (nI tn)]) (rest := []) rfl rfl ⟨⟨Nat.le_of_ble_eq_true rfl, Nat.le_of_ble_eq_true rfl⟩, Nat.le_of_ble_eq_true rfl, Nat.le_of_ble_eq_true rfl⟩ (Nat.le_of_ble_eq_true rfl) (fun _ h8 h9 => absurd h9 (Nat.not_le.mpr h8)) dX4_place_46 49 rfl (nw_rdK ?_) nw_noX
      have hop : op_place σ (nI gn) (nI tn) = (0, oI (sp_place ((sg_gu σ).2 gn) tn)) := by simp [op_place, h5, h7, en_gn, en_tn]
      exact nw_iret C dX4_place_49 (Nat.le_refl _) (Nat.le_refl _) (by rw [hop]; exact ⟨rfl, ok, Nat.le_trans (Nat.le_of_eq hzb.symm) hext.1, ro, am, hR.ext hext, fun _ _ => rfl⟩)
    · refine nw_aload_n C 0 dX4_place_26 rfl 27 rfl ?_
      refine nw_iconst C (nI 2) dX4_place_27 (by decide) 28 rfl ?_
      refine nw_callV C (mX4_no _ C.hfl d y (.int (nI 0)) (.int (nI (gr_w (sg_gr σ)))) (.int (nI (gr_h (sg_gr σ)))) (.ref (am 9)) (.int (nI (gaM_f (sg_ga σ)))) (.int (oI (gaM_t (sg_ga σ)))) (.ref (am 1)) (.ref (am 2)) (.ref (am 3)) (.ref (am 4)) (.int (nI (wo_s (sg_wo σ)))) (.int (nI (wo_m (sg_wo σ)))) (.int (nI (sp_after (wo_x (sg_wo σ))))) (.ref (am 11)) (.ref (am 12)) (.int (nI (sg_ri σ))) (.ref (am 8)) (.ref (am 5)) (.ref (am 6)) (.int (nI (sg_rf σ))) (nI 2) H1 hB hyB hmX) kX4_no q1694 (hmX.is C (ci := 9) rfl) (As := [.int (nI 2)]) (rest := []) rfl rfl ⟨⟨Nat.le_of_ble_eq_true rfl, Nat.le_of_ble_eq_true rfl⟩, (show 0 + 0 ≤ 0 by omega), (show 0 + 0 ≤ 0 by omega)⟩ (Nat.le_of_ble_eq_true rfl) (fun q8 h8 h9 => h9.elim (fun e9 => by rw [e9]; exact hAy) (fun e9 => absurd h8 (Nat.not_lt.mpr e9))) dX4_place_28 31 rfl (fun v9 H12 hR13 hz14 hq15 => ?_) nw_noX
      obtain ⟨rfl, ho16⟩ := hR13
      have hR8 := hR.ext hext
      have hR9 : nwMW d ro am y σ (nI 2) H12 := hR8.obj hz14 (fun q9 g9 n9 _ => hq15 q9 g9 (fun e9 => e9.elim n9 (Nat.not_le.mpr g9))) mSame.rfl ho16
      have hle9 : H.size ≤ H12.size := Nat.le_trans (Nat.le_of_eq hzb.symm) (Nat.le_trans hext.1 hz14)
      show nwV X _ _ 3 H12 (0 + 0) (0 + 0) 31 [(0, .ref y), (1, .int (nI gn)), (2, .int t)] [.int (nI 0)]
      refine nw_wide (k' := 0) (n' := 0) (by omega) (by omega) ?_
      have hop : op_place σ (nI gn) t = (2, 0) := by simp [op_place, h5, h7, en_gn]
      exact nw_iret C dX4_place_31 (Nat.le_refl _) (Nat.le_refl _) (by rw [hop]; exact ⟨rfl, ok, hle9, ro, am, hR9, fun _ _ => rfl⟩)
  · refine nw_aload_n C 0 dX4_place_13 rfl 14 rfl ?_
    refine nw_iconst C (nI 1) dX4_place_14 (by decide) 15 rfl ?_
    refine nw_callV C (mX4_no _ C.hfl d y (.int (nI 0)) (.int (nI (gr_w (sg_gr σ)))) (.int (nI (gr_h (sg_gr σ)))) (.ref (am 9)) (.int (nI (gaM_f (sg_ga σ)))) (.int (oI (gaM_t (sg_ga σ)))) (.ref (am 1)) (.ref (am 2)) (.ref (am 3)) (.ref (am 4)) (.int (nI (wo_s (sg_wo σ)))) (.int (nI (wo_m (sg_wo σ)))) (.int (nI (sp_after (wo_x (sg_wo σ))))) (.ref (am 11)) (.ref (am 12)) (.int (nI (sg_ri σ))) (.ref (am 8)) (.ref (am 5)) (.ref (am 6)) (.int (nI (sg_rf σ))) (nI 1) H1 hB hyB hmX) kX4_no q1694 (hmX.is C (ci := 9) rfl) (As := [.int (nI 1)]) (rest := []) rfl rfl ⟨⟨Nat.le_of_ble_eq_true rfl, Nat.le_of_ble_eq_true rfl⟩, (show 0 + 0 ≤ 0 by omega), (show 0 + 0 ≤ 0 by omega)⟩ (Nat.le_of_ble_eq_true rfl) (fun q8 h8 h9 => h9.elim (fun e9 => by rw [e9]; exact hAy) (fun e9 => absurd h8 (Nat.not_lt.mpr e9))) dX4_place_15 18 rfl (fun v9 H17 hR18 hz19 hq20 => ?_) nw_noX
    obtain ⟨rfl, ho21⟩ := hR18
    have hR8 := hR.ext hext
    have hR9 : nwMW d ro am y σ (nI 1) H17 := hR8.obj hz19 (fun q9 g9 n9 _ => hq20 q9 g9 (fun e9 => e9.elim n9 (Nat.not_le.mpr g9))) mSame.rfl ho21
    have hle9 : H.size ≤ H17.size := Nat.le_trans (Nat.le_of_eq hzb.symm) (Nat.le_trans hext.1 hz19)
    show nwV X _ _ 3 H17 (0 + 0) (0 + 0) 18 [(0, .ref y), (1, .int g), (2, .int t)] [.int (nI 0)]
    refine nw_wide (k' := 0) (n' := 0) (by omega) (by omega) ?_
    have hop : op_place σ g t = (1, 0) := by simp [op_place, h5]
    exact nw_iret C dX4_place_18 (Nat.le_refl _) (Nat.le_refl _) (by rw [hop]; exact ⟨rfl, ok, hle9, ro, am, hR9, fun _ _ => rfl⟩)
set_option maxHeartbeats 4000000 in
theorem mX4_ofCell (l : Launch) (hf : l.flags = flags0) (d : nwD) (ro am : Nat → Nat) (y : Nat) (σ : spSg) (th : Int32) (c : Int32) (t : Int32) (q : Int32) (H : Heap) (hB : nd_B d ≤ H.size) (hR : nwMW d ro am y σ th H) (ok : spOk σ) : nwMt l d yX4_ofCell cX4_ofCell 4 (some .int) 8 181 0 0 [.ref y, .int c, .int t, .int q] H (nwMv d ro y ((op_ofCell σ c t q).1, (op_ofCell σ c t q).2, σ) H) nwNo (nwAM ro H) := by
  refine nw_start "NightwatchWallModel" "ofCell" hf (by decide +kernel) rfl rfl (fun _ h => Or.inr h) (nwAM_B hR hB) (Nat.le_of_ble_eq_true rfl) ?_
  intro X C
  have hW := hR.wc
  have okM := ok.m
  have hyB := (hR.ok0 (show ro y ≠ 0 by rw [hR.2.1.2]; decide)).1
  have hAy : nwAM ro H y := Or.inl (by rw [hR.2.1.2]; decide +kernel)
  have hW0 := hW
  have hB0 := hB
  have hE := C.E0
  have hext : nwExt H H := nwExt.rfl
  obtain ⟨hmX, hmKi, hmLa, hmFo, hmGu, hmPo, hmIn, hmWi, hmWo, hmKe⟩ := id hW
  obtain ⟨okg, okl, okf, oku, okp, oki, okw, okd, okk, oka⟩ := id ok
  have hn64 : gr_n (sg_gr σ) ≤ 64 := okg.n
  have oku1 := oku.1
  have oki1 := oki.1
  have okp1 := okp.1
  have okw1 := okw.1
  have okl1 := okl.1
  have okf1 := okf.1
  show nwV X _ _ 4 H 0 0 0 [(0, .ref y), (1, .int c), (2, .int t), (3, .int q)] []
  refine nw_aload_n C 0 dX4_ofCell_0 rfl 1 rfl ?_
  refine nw_iconst C (nI 0) dX4_ofCell_1 (by decide) 2 rfl ?_
  refine nw_put C hmX hAy (T := TX4) (ty0 := tyX4) rfl in_X4 tyX4_ok nmX4 0 (by decide) q1622 (Or.inl rfl) rfl rfl rfl (Nat.le_of_ble_eq_true rfl) dX4_ofCell_2 5 rfl (fun H1 ho2 hz3 hq4 => ?_)
  have ho2 : nwO d y 9 [.int (nI 0), .int (nI (gr_w (sg_gr σ))), .int (nI (gr_h (sg_gr σ))), .ref (am 9), .int (nI (gaM_f (sg_ga σ))), .int (oI (gaM_t (sg_ga σ))), .ref (am 1), .ref (am 2), .ref (am 3), .ref (am 4), .int (nI (wo_s (sg_wo σ))), .int (nI (wo_m (sg_wo σ))), .int (nI (sp_after (wo_x (sg_wo σ)))), .ref (am 11), .ref (am 12), .int (nI (sg_ri σ)), .ref (am 8), .ref (am 5), .ref (am 6), .int (nI (sg_rf σ))] H1 := ho2
  replace hR := hR.th hz3 hq4 ho2
  have hzb : H1.size = H.size := hz3
  replace hB0 : nd_B d ≤ H1.size := by rw [hz3]; exact hB0
  replace hB := hB0
  replace hE := hE.kept (fun q9 _ hb9 => hq4 q9 (fun e9 => hb9 (by rw [e9]; exact hyB)))
  have hE0 := hE
  replace hW0 := hR.wc
  replace hW := hW0
  replace hext : nwExt H1 H1 := nwExt.rfl
  clear hmX hmKi hmLa hmFo hmGu hmPo hmIn hmWi hmWo hmKe
  obtain ⟨hmX, hmKi, hmLa, hmFo, hmGu, hmPo, hmIn, hmWi, hmWo, hmKe⟩ := id hW
  refine nw_aload_n C 0 dX4_ofCell_5 rfl 6 rfl ?_
  refine nw_iload_n C 1 dX4_ofCell_6 rfl 7 rfl ?_
  refine nw_callV C (mX4_isCell _ C.hfl d ro am y σ (nI 0) c H1 hB hW okM ) kX4_isCell q1702 (hmX.is C (ci := 9) rfl) (As := [.int c]) (rest := []) rfl rfl ⟨⟨Nat.le_of_ble_eq_true rfl, Nat.le_of_ble_eq_true rfl⟩, Nat.le_of_ble_eq_true rfl, Nat.le_of_ble_eq_true rfl⟩ (Nat.le_of_ble_eq_true rfl) (fun _ h8 h9 => absurd h9 (Nat.not_le.mpr h8)) dX4_ofCell_7 10 rfl (nw_rdK ?_) nw_noX
  refine nw_ifneB C 19 dX4_ofCell_10 (by decide) 13 rfl (fun h5 => ?_) (fun h5 => ?_)
  · obtain ⟨cn, hk6, rfl⟩ := nw_ix_nat (by omega) h5
    have en_cn : nw_nn (nI cn) = cn := nw_nn_nI (by omega)
    refine nw_iload_n C 2 dX4_ofCell_19 rfl 20 rfl ?_
    refine nw_callS C (mX4_isMinute _ C.hfl d t H1 hB) kX4_isMinute q1722 (As := [.int t]) (rest := []) rfl rfl ⟨⟨Nat.le_of_ble_eq_true rfl, Nat.le_of_ble_eq_true rfl⟩, Nat.le_of_ble_eq_true rfl, Nat.le_of_ble_eq_true rfl⟩ (Nat.le_of_ble_eq_true rfl) (fun _ h8 h9 => absurd h9 (Nat.not_le.mpr h8)) dX4_ofCell_20 23 rfl (nw_rdK ?_) nw_noX
    refine nw_ifeqB C 35 dX4_ofCell_23 (by decide) 26 rfl (fun h7 => ?_) (fun h7 => ?_)
    · refine nw_aload_n C 0 dX4_ofCell_35 rfl 36 rfl ?_
      refine nw_iconst C (nI 2) dX4_ofCell_36 (by decide) 37 rfl ?_
      refine nw_callV C (mX4_no _ C.hfl d y (.int (nI 0)) (.int (nI (gr_w (sg_gr σ)))) (.int (nI (gr_h (sg_gr σ)))) (.ref (am 9)) (.int (nI (gaM_f (sg_ga σ)))) (.int (oI (gaM_t (sg_ga σ)))) (.ref (am 1)) (.ref (am 2)) (.ref (am 3)) (.ref (am 4)) (.int (nI (wo_s (sg_wo σ)))) (.int (nI (wo_m (sg_wo σ)))) (.int (nI (sp_after (wo_x (sg_wo σ))))) (.ref (am 11)) (.ref (am 12)) (.int (nI (sg_ri σ))) (.ref (am 8)) (.ref (am 5)) (.ref (am 6)) (.int (nI (sg_rf σ))) (nI 2) H1 hB hyB hmX) kX4_no q1694 (hmX.is C (ci := 9) rfl) (As := [.int (nI 2)]) (rest := []) rfl rfl ⟨⟨Nat.le_of_ble_eq_true rfl, Nat.le_of_ble_eq_true rfl⟩, (show 0 + 0 ≤ 0 by omega), (show 0 + 0 ≤ 0 by omega)⟩ (Nat.le_of_ble_eq_true rfl) (fun q8 h8 h9 => h9.elim (fun e9 => by rw [e9]; exact hAy) (fun e9 => absurd h8 (Nat.not_lt.mpr e9))) dX4_ofCell_37 40 rfl (fun v9 H8 hR9 hz10 hq11 => ?_) nw_noX
      obtain ⟨rfl, ho12⟩ := hR9
      have hR8 := hR.ext hext
      have hR9 : nwMW d ro am y σ (nI 2) H8 := hR8.obj hz10 (fun q9 g9 n9 _ => hq11 q9 g9 (fun e9 => e9.elim n9 (Nat.not_le.mpr g9))) mSame.rfl ho12
      have hle9 : H.size ≤ H8.size := Nat.le_trans (Nat.le_of_eq hzb.symm) (Nat.le_trans hext.1 hz10)
      show nwV X _ _ 4 H8 (0 + 0) (0 + 0) 40 [(0, .ref y), (1, .int (nI cn)), (2, .int t), (3, .int q)] [.int (nI 0)]
      refine nw_wide (k' := 0) (n' := 0) (by omega) (by omega) ?_
      have hop : op_ofCell σ (nI cn) t q = (2, 0) := by simp [op_ofCell, h5, h7, en_cn]
      exact nw_iret C dX4_ofCell_40 (Nat.le_refl _) (Nat.le_refl _) (by rw [hop]; exact ⟨rfl, ok, hle9, ro, am, hR9, fun _ _ => rfl⟩)
    · obtain ⟨tn, hk13, rfl⟩ := nw_rg_nat (by omega) (by omega) h7
      have en_tn : nw_nn (nI tn) = tn := nw_nn_nI (by omega)
      refine nw_iload_n C 3 dX4_ofCell_26 rfl 27 rfl ?_
      refine nw_iconst C (nI 0) dX4_ofCell_27 (by decide) 28 rfl ?_
      refine nw_iconst C (nI 4) dX4_ofCell_28 (by decide) 29 rfl ?_
      refine nw_callS C (mX4_inR _ C.hfl d q (nI 0) (nI 4) H1 hB) kX4_in q1691 (As := [.int q, .int (nI 0), .int (nI 4)]) (rest := []) rfl rfl ⟨⟨Nat.le_of_ble_eq_true rfl, Nat.le_of_ble_eq_true rfl⟩, Nat.le_of_ble_eq_true rfl, Nat.le_of_ble_eq_true rfl⟩ (Nat.le_of_ble_eq_true rfl) (fun _ h8 h9 => absurd h9 (Nat.not_le.mpr h8)) dX4_ofCell_29 32 rfl (nw_rdK ?_) nw_noX
      show nwV X _ _ 4 H1 0 0 32 [(0, .ref y), (1, .int (nI cn)), (2, .int (nI tn)), (3, .int q)] [.int (b2i (nw_rg 0 4 q))]
      refine nw_ifneB C 41 dX4_ofCell_32 (by decide) 35 rfl (fun h14 => ?_) (fun h14 => ?_)
      · obtain ⟨qn, hk15, rfl⟩ := nw_rg_nat (by omega) (by omega) h14
        have en_qn : nw_nn (nI qn) = qn := nw_nn_nI (by omega)
        refine nw_aload_n C 0 dX4_ofCell_41 rfl 42 rfl ?_
        refine nw_iload_n C 1 dX4_ofCell_42 rfl 43 rfl ?_
        refine nw_iload_n C 2 dX4_ofCell_43 rfl 44 rfl ?_
        refine nw_iload_n C 3 dX4_ofCell_44 rfl 45 rfl ?_
        refine nw_callV C (mX4_cellNow _ C.hfl d ro am y σ (nI 0) cn tn qn H1 hB hW okM (by omega) (by omega) (by omega)) kX4_cellNow q1864 (hmX.is C (ci := 9) rfl) (As := [.int (nI cn), .int (nI tn), .int (nI qn)]) (rest := []) rfl rfl ⟨⟨Nat.le_of_ble_eq_true rfl, Nat.le_of_ble_eq_true rfl⟩, Nat.le_of_ble_eq_true rfl, Nat.le_of_ble_eq_true rfl⟩ (Nat.le_of_ble_eq_true rfl) (fun _ h8 h9 => absurd h9 (Nat.not_le.mpr h8)) dX4_ofCell_45 48 rfl (nw_rdK ?_) nw_noX
        have hop : op_ofCell σ (nI cn) (nI tn) (nI qn) = (0, sp_cellNow σ cn tn qn) := by simp [op_ofCell, h5, h7, h14, en_cn, en_tn, en_qn]
        exact nw_iret C dX4_ofCell_48 (Nat.le_refl _) (Nat.le_refl _) (by rw [hop]; exact ⟨rfl, ok, Nat.le_trans (Nat.le_of_eq hzb.symm) hext.1, ro, am, hR.ext hext, fun _ _ => rfl⟩)
      · refine nw_aload_n C 0 dX4_ofCell_35 rfl 36 rfl ?_
        refine nw_iconst C (nI 2) dX4_ofCell_36 (by decide) 37 rfl ?_
        refine nw_callV C (mX4_no _ C.hfl d y (.int (nI 0)) (.int (nI (gr_w (sg_gr σ)))) (.int (nI (gr_h (sg_gr σ)))) (.ref (am 9)) (.int (nI (gaM_f (sg_ga σ)))) (.int (oI (gaM_t (sg_ga σ)))) (.ref (am 1)) (.ref (am 2)) (.ref (am 3)) (.ref (am 4)) (.int (nI (wo_s (sg_wo σ)))) (.int (nI (wo_m (sg_wo σ)))) (.int (nI (sp_after (wo_x (sg_wo σ))))) (.ref (am 11)) (.ref (am 12)) (.int (nI (sg_ri σ))) (.ref (am 8)) (.ref (am 5)) (.ref (am 6)) (.int (nI (sg_rf σ))) (nI 2) H1 hB hyB hmX) kX4_no q1694 (hmX.is C (ci := 9) rfl) (As := [.int (nI 2)]) (rest := []) rfl rfl ⟨⟨Nat.le_of_ble_eq_true rfl, Nat.le_of_ble_eq_true rfl⟩, (show 0 + 0 ≤ 0 by omega), (show 0 + 0 ≤ 0 by omega)⟩ (Nat.le_of_ble_eq_true rfl) (fun q8 h8 h9 => h9.elim (fun e9 => by rw [e9]; exact hAy) (fun e9 => absurd h8 (Nat.not_lt.mpr e9))) dX4_ofCell_37 40 rfl (fun v9 H16 hR17 hz18 hq19 => ?_) nw_noX
        obtain ⟨rfl, ho20⟩ := hR17
        have hR8 := hR.ext hext
        have hR9 : nwMW d ro am y σ (nI 2) H16 := hR8.obj hz18 (fun q9 g9 n9 _ => hq19 q9 g9 (fun e9 => e9.elim n9 (Nat.not_le.mpr g9))) mSame.rfl ho20
        have hle9 : H.size ≤ H16.size := Nat.le_trans (Nat.le_of_eq hzb.symm) (Nat.le_trans hext.1 hz18)
        show nwV X _ _ 4 H16 (0 + 0) (0 + 0) 40 [(0, .ref y), (1, .int (nI cn)), (2, .int (nI tn)), (3, .int q)] [.int (nI 0)]
        refine nw_wide (k' := 0) (n' := 0) (by omega) (by omega) ?_
        have hop : op_ofCell σ (nI cn) (nI tn) q = (2, 0) := by simp [op_ofCell, h5, h7, h14, en_cn, en_tn]
        exact nw_iret C dX4_ofCell_40 (Nat.le_refl _) (Nat.le_refl _) (by rw [hop]; exact ⟨rfl, ok, hle9, ro, am, hR9, fun _ _ => rfl⟩)
  · refine nw_aload_n C 0 dX4_ofCell_13 rfl 14 rfl ?_
    refine nw_iconst C (nI 1) dX4_ofCell_14 (by decide) 15 rfl ?_
    refine nw_callV C (mX4_no _ C.hfl d y (.int (nI 0)) (.int (nI (gr_w (sg_gr σ)))) (.int (nI (gr_h (sg_gr σ)))) (.ref (am 9)) (.int (nI (gaM_f (sg_ga σ)))) (.int (oI (gaM_t (sg_ga σ)))) (.ref (am 1)) (.ref (am 2)) (.ref (am 3)) (.ref (am 4)) (.int (nI (wo_s (sg_wo σ)))) (.int (nI (wo_m (sg_wo σ)))) (.int (nI (sp_after (wo_x (sg_wo σ))))) (.ref (am 11)) (.ref (am 12)) (.int (nI (sg_ri σ))) (.ref (am 8)) (.ref (am 5)) (.ref (am 6)) (.int (nI (sg_rf σ))) (nI 1) H1 hB hyB hmX) kX4_no q1694 (hmX.is C (ci := 9) rfl) (As := [.int (nI 1)]) (rest := []) rfl rfl ⟨⟨Nat.le_of_ble_eq_true rfl, Nat.le_of_ble_eq_true rfl⟩, (show 0 + 0 ≤ 0 by omega), (show 0 + 0 ≤ 0 by omega)⟩ (Nat.le_of_ble_eq_true rfl) (fun q8 h8 h9 => h9.elim (fun e9 => by rw [e9]; exact hAy) (fun e9 => absurd h8 (Nat.not_lt.mpr e9))) dX4_ofCell_15 18 rfl (fun v9 H21 hR22 hz23 hq24 => ?_) nw_noX
    obtain ⟨rfl, ho25⟩ := hR22
    have hR8 := hR.ext hext
    have hR9 : nwMW d ro am y σ (nI 1) H21 := hR8.obj hz23 (fun q9 g9 n9 _ => hq24 q9 g9 (fun e9 => e9.elim n9 (Nat.not_le.mpr g9))) mSame.rfl ho25
    have hle9 : H.size ≤ H21.size := Nat.le_trans (Nat.le_of_eq hzb.symm) (Nat.le_trans hext.1 hz23)
    show nwV X _ _ 4 H21 (0 + 0) (0 + 0) 18 [(0, .ref y), (1, .int c), (2, .int t), (3, .int q)] [.int (nI 0)]
    refine nw_wide (k' := 0) (n' := 0) (by omega) (by omega) ?_
    have hop : op_ofCell σ c t q = (1, 0) := by simp [op_ofCell, h5]
    exact nw_iret C dX4_ofCell_18 (Nat.le_refl _) (Nat.le_refl _) (by rw [hop]; exact ⟨rfl, ok, hle9, ro, am, hR9, fun _ _ => rfl⟩)
set_option maxHeartbeats 4000000 in
theorem mX4_ofMinute (l : Launch) (hf : l.flags = flags0) (d : nwD) (ro am : Nat → Nat) (y : Nat) (σ : spSg) (th : Int32) (t : Int32) (q : Int32) (H : Heap) (hB : nd_B d ≤ H.size) (hR : nwMW d ro am y σ th H) (ok : spOk σ) : nwMt l d yX4_ofMinute cX4_ofMinute 3 (some .int) 8 184 0 0 [.ref y, .int t, .int q] H (nwMv d ro y ((op_ofMinute σ t q).1, (op_ofMinute σ t q).2, σ) H) nwNo (nwAM ro H) := by
  refine nw_start "NightwatchWallModel" "ofMinute" hf (by decide +kernel) rfl rfl (fun _ h => Or.inr h) (nwAM_B hR hB) (Nat.le_of_ble_eq_true rfl) ?_
  intro X C
  have hW := hR.wc
  have okM := ok.m
  have hyB := (hR.ok0 (show ro y ≠ 0 by rw [hR.2.1.2]; decide)).1
  have hAy : nwAM ro H y := Or.inl (by rw [hR.2.1.2]; decide +kernel)
  have hW0 := hW
  have hB0 := hB
  have hE := C.E0
  have hext : nwExt H H := nwExt.rfl
  obtain ⟨hmX, hmKi, hmLa, hmFo, hmGu, hmPo, hmIn, hmWi, hmWo, hmKe⟩ := id hW
  obtain ⟨okg, okl, okf, oku, okp, oki, okw, okd, okk, oka⟩ := id ok
  have hn64 : gr_n (sg_gr σ) ≤ 64 := okg.n
  have oku1 := oku.1
  have oki1 := oki.1
  have okp1 := okp.1
  have okw1 := okw.1
  have okl1 := okl.1
  have okf1 := okf.1
  show nwV X _ _ 3 H 0 0 0 [(0, .ref y), (1, .int t), (2, .int q)] []
  refine nw_aload_n C 0 dX4_ofMinute_0 rfl 1 rfl ?_
  refine nw_iconst C (nI 0) dX4_ofMinute_1 (by decide) 2 rfl ?_
  refine nw_put C hmX hAy (T := TX4) (ty0 := tyX4) rfl in_X4 tyX4_ok nmX4 0 (by decide) q1622 (Or.inl rfl) rfl rfl rfl (Nat.le_of_ble_eq_true rfl) dX4_ofMinute_2 5 rfl (fun H1 ho2 hz3 hq4 => ?_)
  have ho2 : nwO d y 9 [.int (nI 0), .int (nI (gr_w (sg_gr σ))), .int (nI (gr_h (sg_gr σ))), .ref (am 9), .int (nI (gaM_f (sg_ga σ))), .int (oI (gaM_t (sg_ga σ))), .ref (am 1), .ref (am 2), .ref (am 3), .ref (am 4), .int (nI (wo_s (sg_wo σ))), .int (nI (wo_m (sg_wo σ))), .int (nI (sp_after (wo_x (sg_wo σ)))), .ref (am 11), .ref (am 12), .int (nI (sg_ri σ)), .ref (am 8), .ref (am 5), .ref (am 6), .int (nI (sg_rf σ))] H1 := ho2
  replace hR := hR.th hz3 hq4 ho2
  have hzb : H1.size = H.size := hz3
  replace hB0 : nd_B d ≤ H1.size := by rw [hz3]; exact hB0
  replace hB := hB0
  replace hE := hE.kept (fun q9 _ hb9 => hq4 q9 (fun e9 => hb9 (by rw [e9]; exact hyB)))
  have hE0 := hE
  replace hW0 := hR.wc
  replace hW := hW0
  replace hext : nwExt H1 H1 := nwExt.rfl
  clear hmX hmKi hmLa hmFo hmGu hmPo hmIn hmWi hmWo hmKe
  obtain ⟨hmX, hmKi, hmLa, hmFo, hmGu, hmPo, hmIn, hmWi, hmWo, hmKe⟩ := id hW
  refine nw_iload_n C 1 dX4_ofMinute_5 rfl 6 rfl ?_
  refine nw_callS C (mX4_isMinute _ C.hfl d t H1 hB) kX4_isMinute q1722 (As := [.int t]) (rest := []) rfl rfl ⟨⟨Nat.le_of_ble_eq_true rfl, Nat.le_of_ble_eq_true rfl⟩, Nat.le_of_ble_eq_true rfl, Nat.le_of_ble_eq_true rfl⟩ (Nat.le_of_ble_eq_true rfl) (fun _ h8 h9 => absurd h9 (Nat.not_le.mpr h8)) dX4_ofMinute_6 9 rfl (nw_rdK ?_) nw_noX
  refine nw_ifeqB C 22 dX4_ofMinute_9 (by decide) 12 rfl (fun h5 => ?_) (fun h5 => ?_)
  · refine nw_aload_n C 0 dX4_ofMinute_22 rfl 23 rfl ?_
    refine nw_iconst C (nI 1) dX4_ofMinute_23 (by decide) 24 rfl ?_
    refine nw_callV C (mX4_no _ C.hfl d y (.int (nI 0)) (.int (nI (gr_w (sg_gr σ)))) (.int (nI (gr_h (sg_gr σ)))) (.ref (am 9)) (.int (nI (gaM_f (sg_ga σ)))) (.int (oI (gaM_t (sg_ga σ)))) (.ref (am 1)) (.ref (am 2)) (.ref (am 3)) (.ref (am 4)) (.int (nI (wo_s (sg_wo σ)))) (.int (nI (wo_m (sg_wo σ)))) (.int (nI (sp_after (wo_x (sg_wo σ))))) (.ref (am 11)) (.ref (am 12)) (.int (nI (sg_ri σ))) (.ref (am 8)) (.ref (am 5)) (.ref (am 6)) (.int (nI (sg_rf σ))) (nI 1) H1 hB hyB hmX) kX4_no q1694 (hmX.is C (ci := 9) rfl) (As := [.int (nI 1)]) (rest := []) rfl rfl ⟨⟨Nat.le_of_ble_eq_true rfl, Nat.le_of_ble_eq_true rfl⟩, (show 0 + 0 ≤ 0 by omega), (show 0 + 0 ≤ 0 by omega)⟩ (Nat.le_of_ble_eq_true rfl) (fun q8 h8 h9 => h9.elim (fun e9 => by rw [e9]; exact hAy) (fun e9 => absurd h8 (Nat.not_lt.mpr e9))) dX4_ofMinute_24 27 rfl (fun v9 H6 hR7 hz8 hq9 => ?_) nw_noX
    obtain ⟨rfl, ho10⟩ := hR7
    have hR8 := hR.ext hext
    have hR9 : nwMW d ro am y σ (nI 1) H6 := hR8.obj hz8 (fun q9 g9 n9 _ => hq9 q9 g9 (fun e9 => e9.elim n9 (Nat.not_le.mpr g9))) mSame.rfl ho10
    have hle9 : H.size ≤ H6.size := Nat.le_trans (Nat.le_of_eq hzb.symm) (Nat.le_trans hext.1 hz8)
    show nwV X _ _ 3 H6 (0 + 0) (0 + 0) 27 [(0, .ref y), (1, .int t), (2, .int q)] [.int (nI 0)]
    refine nw_wide (k' := 0) (n' := 0) (by omega) (by omega) ?_
    have hop : op_ofMinute σ t q = (1, 0) := by simp [op_ofMinute, h5]
    exact nw_iret C dX4_ofMinute_27 (Nat.le_refl _) (Nat.le_refl _) (by rw [hop]; exact ⟨rfl, ok, hle9, ro, am, hR9, fun _ _ => rfl⟩)
  · obtain ⟨tn, hk11, rfl⟩ := nw_rg_nat (by omega) (by omega) h5
    have en_tn : nw_nn (nI tn) = tn := nw_nn_nI (by omega)
    refine nw_iload_n C 2 dX4_ofMinute_12 rfl 13 rfl ?_
    refine nw_iconst C (nI 0) dX4_ofMinute_13 (by decide) 14 rfl ?_
    refine nw_bipush C (nI 6) dX4_ofMinute_14 (by decide) 16 rfl ?_
    refine nw_callS C (mX4_inR _ C.hfl d q (nI 0) (nI 6) H1 hB) kX4_in q1691 (As := [.int q, .int (nI 0), .int (nI 6)]) (rest := []) rfl rfl ⟨⟨Nat.le_of_ble_eq_true rfl, Nat.le_of_ble_eq_true rfl⟩, Nat.le_of_ble_eq_true rfl, Nat.le_of_ble_eq_true rfl⟩ (Nat.le_of_ble_eq_true rfl) (fun _ h8 h9 => absurd h9 (Nat.not_le.mpr h8)) dX4_ofMinute_16 19 rfl (nw_rdK ?_) nw_noX
    show nwV X _ _ 3 H1 0 0 19 [(0, .ref y), (1, .int (nI tn)), (2, .int q)] [.int (b2i (nw_rg 0 6 q))]
    refine nw_ifneB C 28 dX4_ofMinute_19 (by decide) 22 rfl (fun h12 => ?_) (fun h12 => ?_)
    · obtain ⟨qn, hk13, rfl⟩ := nw_rg_nat (by omega) (by omega) h12
      have en_qn : nw_nn (nI qn) = qn := nw_nn_nI (by omega)
      refine nw_aload_n C 0 dX4_ofMinute_28 rfl 29 rfl ?_
      refine nw_iload_n C 1 dX4_ofMinute_29 rfl 30 rfl ?_
      refine nw_iload_n C 2 dX4_ofMinute_30 rfl 31 rfl ?_
      refine nw_callV C (mX4_minuteNow _ C.hfl d ro am y σ (nI 0) tn qn H1 hB hW okM (by omega) (by omega)) kX4_minuteNow q1880 (hmX.is C (ci := 9) rfl) (As := [.int (nI tn), .int (nI qn)]) (rest := []) rfl rfl ⟨⟨Nat.le_of_ble_eq_true rfl, Nat.le_of_ble_eq_true rfl⟩, Nat.le_of_ble_eq_true rfl, Nat.le_of_ble_eq_true rfl⟩ (Nat.le_of_ble_eq_true rfl) (fun _ h8 h9 => absurd h9 (Nat.not_le.mpr h8)) dX4_ofMinute_31 34 rfl (nw_rdK ?_) nw_noX
      have hop : op_ofMinute σ (nI tn) (nI qn) = (0, nI (sp_minuteNow σ tn qn)) := by simp [op_ofMinute, h5, h12, en_tn, en_qn]
      exact nw_iret C dX4_ofMinute_34 (Nat.le_refl _) (Nat.le_refl _) (by rw [hop]; exact ⟨rfl, ok, Nat.le_trans (Nat.le_of_eq hzb.symm) hext.1, ro, am, hR.ext hext, fun _ _ => rfl⟩)
    · refine nw_aload_n C 0 dX4_ofMinute_22 rfl 23 rfl ?_
      refine nw_iconst C (nI 1) dX4_ofMinute_23 (by decide) 24 rfl ?_
      refine nw_callV C (mX4_no _ C.hfl d y (.int (nI 0)) (.int (nI (gr_w (sg_gr σ)))) (.int (nI (gr_h (sg_gr σ)))) (.ref (am 9)) (.int (nI (gaM_f (sg_ga σ)))) (.int (oI (gaM_t (sg_ga σ)))) (.ref (am 1)) (.ref (am 2)) (.ref (am 3)) (.ref (am 4)) (.int (nI (wo_s (sg_wo σ)))) (.int (nI (wo_m (sg_wo σ)))) (.int (nI (sp_after (wo_x (sg_wo σ))))) (.ref (am 11)) (.ref (am 12)) (.int (nI (sg_ri σ))) (.ref (am 8)) (.ref (am 5)) (.ref (am 6)) (.int (nI (sg_rf σ))) (nI 1) H1 hB hyB hmX) kX4_no q1694 (hmX.is C (ci := 9) rfl) (As := [.int (nI 1)]) (rest := []) rfl rfl ⟨⟨Nat.le_of_ble_eq_true rfl, Nat.le_of_ble_eq_true rfl⟩, (show 0 + 0 ≤ 0 by omega), (show 0 + 0 ≤ 0 by omega)⟩ (Nat.le_of_ble_eq_true rfl) (fun q8 h8 h9 => h9.elim (fun e9 => by rw [e9]; exact hAy) (fun e9 => absurd h8 (Nat.not_lt.mpr e9))) dX4_ofMinute_24 27 rfl (fun v9 H14 hR15 hz16 hq17 => ?_) nw_noX
      obtain ⟨rfl, ho18⟩ := hR15
      have hR8 := hR.ext hext
      have hR9 : nwMW d ro am y σ (nI 1) H14 := hR8.obj hz16 (fun q9 g9 n9 _ => hq17 q9 g9 (fun e9 => e9.elim n9 (Nat.not_le.mpr g9))) mSame.rfl ho18
      have hle9 : H.size ≤ H14.size := Nat.le_trans (Nat.le_of_eq hzb.symm) (Nat.le_trans hext.1 hz16)
      show nwV X _ _ 3 H14 (0 + 0) (0 + 0) 27 [(0, .ref y), (1, .int (nI tn)), (2, .int q)] [.int (nI 0)]
      refine nw_wide (k' := 0) (n' := 0) (by omega) (by omega) ?_
      have hop : op_ofMinute σ (nI tn) q = (1, 0) := by simp [op_ofMinute, h5, h12, en_tn]
      exact nw_iret C dX4_ofMinute_27 (Nat.le_refl _) (Nat.le_refl _) (by rw [hop]; exact ⟨rfl, ok, hle9, ro, am, hR9, fun _ _ => rfl⟩)
set_option maxHeartbeats 4000000 in
theorem mX4_empty (l : Launch) (hf : l.flags = flags0) (d : nwD) (ro am : Nat → Nat) (y : Nat) (σ : spSg) (th : Int32) (p : Int32) (b : Bool) (H : Heap) (hB : nd_B d ≤ H.size) (hR : nwMW d ro am y σ th H) (ok : spOk σ) : nwMt l d yX4_empty cX4_empty 3 (some .int) 8 175 0 0 [.ref y, .int p, .int (b2i b)] H (nwMv d ro y ((op_empty σ p b).1, (op_empty σ p b).2, σ) H) nwNo (nwAM ro H) := by
  refine nw_start "NightwatchWallModel" "empty" hf (by decide +kernel) rfl rfl (fun _ h => Or.inr h) (nwAM_B hR hB) (Nat.le_of_ble_eq_true rfl) ?_
  intro X C
  have hW := hR.wc
  have okM := ok.m
  have hyB := (hR.ok0 (show ro y ≠ 0 by rw [hR.2.1.2]; decide)).1
  have hAy : nwAM ro H y := Or.inl (by rw [hR.2.1.2]; decide +kernel)
  have hW0 := hW
  have hB0 := hB
  have hE := C.E0
  have hext : nwExt H H := nwExt.rfl
  obtain ⟨hmX, hmKi, hmLa, hmFo, hmGu, hmPo, hmIn, hmWi, hmWo, hmKe⟩ := id hW
  obtain ⟨okg, okl, okf, oku, okp, oki, okw, okd, okk, oka⟩ := id ok
  have hn64 : gr_n (sg_gr σ) ≤ 64 := okg.n
  have oku1 := oku.1
  have oki1 := oki.1
  have okp1 := okp.1
  have okw1 := okw.1
  have okl1 := okl.1
  have okf1 := okf.1
  show nwV X _ _ 3 H 0 0 0 [(0, .ref y), (1, .int p), (2, .int (b2i b))] []
  refine nw_aload_n C 0 dX4_empty_0 rfl 1 rfl ?_
  refine nw_iconst C (nI 0) dX4_empty_1 (by decide) 2 rfl ?_
  refine nw_put C hmX hAy (T := TX4) (ty0 := tyX4) rfl in_X4 tyX4_ok nmX4 0 (by decide) q1622 (Or.inl rfl) rfl rfl rfl (Nat.le_of_ble_eq_true rfl) dX4_empty_2 5 rfl (fun H1 ho2 hz3 hq4 => ?_)
  have ho2 : nwO d y 9 [.int (nI 0), .int (nI (gr_w (sg_gr σ))), .int (nI (gr_h (sg_gr σ))), .ref (am 9), .int (nI (gaM_f (sg_ga σ))), .int (oI (gaM_t (sg_ga σ))), .ref (am 1), .ref (am 2), .ref (am 3), .ref (am 4), .int (nI (wo_s (sg_wo σ))), .int (nI (wo_m (sg_wo σ))), .int (nI (sp_after (wo_x (sg_wo σ)))), .ref (am 11), .ref (am 12), .int (nI (sg_ri σ)), .ref (am 8), .ref (am 5), .ref (am 6), .int (nI (sg_rf σ))] H1 := ho2
  replace hR := hR.th hz3 hq4 ho2
  have hzb : H1.size = H.size := hz3
  replace hB0 : nd_B d ≤ H1.size := by rw [hz3]; exact hB0
  replace hB := hB0
  replace hE := hE.kept (fun q9 _ hb9 => hq4 q9 (fun e9 => hb9 (by rw [e9]; exact hyB)))
  have hE0 := hE
  replace hW0 := hR.wc
  replace hW := hW0
  replace hext : nwExt H1 H1 := nwExt.rfl
  clear hmX hmKi hmLa hmFo hmGu hmPo hmIn hmWi hmWo hmKe
  obtain ⟨hmX, hmKi, hmLa, hmFo, hmGu, hmPo, hmIn, hmWi, hmWo, hmKe⟩ := id hW
  refine nw_iload_n C 1 dX4_empty_5 rfl 6 rfl ?_
  refine nw_iconst C (nI 0) dX4_empty_6 (by decide) 7 rfl ?_
  refine nw_aload_n C 0 dX4_empty_7 rfl 8 rfl ?_
  refine nw_get C hmX (T := TX4) rfl in_X4 9 (by decide) q1631 (Or.inl rfl) rfl dX4_empty_8 11 rfl ?_
  refine nw_callF C (mJ3_size _ C.hfl d (am 4) ((sg_po σ).1) (fun k => nd_bx d ((sg_po σ).2 k)) (fun q => ro q = 7005) H1 hB hmPo) kJ3_size (ci := 13) rfl q1607 q1611 (by decide +kernel) fc_List_size (hmPo.is C) (As := []) (rest := [.int (nI 0), .int p]) rfl rfl ⟨⟨Nat.le_of_ble_eq_true rfl, Nat.le_of_ble_eq_true rfl⟩, Nat.le_of_ble_eq_true rfl, Nat.le_of_ble_eq_true rfl⟩ (Nat.le_of_ble_eq_true rfl) (fun _ h8 h9 => absurd h9 (Nat.not_le.mpr h8)) dX4_empty_11 16 rfl (nw_rdK ?_) nw_noX
  refine nw_iconst C (nI 1) dX4_empty_16 (by decide) 17 rfl ?_
  refine nw_isub C (nI ((sg_po σ).1) - nI 1) dX4_empty_17 rfl 18 rfl ?_
  refine nw_callS C (mX4_inX _ C.hfl d p ((sg_po σ).1) H1 hB (by omega)) kX4_in q1691 (As := [.int p, .int (nI 0), .int (nI ((sg_po σ).1) - nI 1)]) (rest := []) rfl rfl ⟨⟨Nat.le_of_ble_eq_true rfl, Nat.le_of_ble_eq_true rfl⟩, Nat.le_of_ble_eq_true rfl, Nat.le_of_ble_eq_true rfl⟩ (Nat.le_of_ble_eq_true rfl) (fun _ h8 h9 => absurd h9 (Nat.not_le.mpr h8)) dX4_empty_18 21 rfl (nw_rdK ?_) nw_noX
  refine nw_ifneB C 30 dX4_empty_21 (by decide) 24 rfl (fun h5 => ?_) (fun h5 => ?_)
  · obtain ⟨pn, hk6, rfl⟩ := nw_ix_nat (by omega) h5
    have en_pn : nw_nn (nI pn) = pn := nw_nn_nI (by omega)
    refine nw_aload_n C 0 dX4_empty_30 rfl 31 rfl ?_
    refine nw_iload_n C 1 dX4_empty_31 rfl 32 rfl ?_
    refine nw_iload_n C 2 dX4_empty_32 rfl 33 rfl ?_
    refine nw_callV C (mX4_emptyNow _ C.hfl d ro am y σ (nI 0) pn b H1 hB hW okM (by omega)) kX4_emptyNow q1893 (hmX.is C (ci := 9) rfl) (As := [.int (nI pn), .int (b2i b)]) (rest := []) rfl rfl ⟨⟨Nat.le_of_ble_eq_true rfl, Nat.le_of_ble_eq_true rfl⟩, Nat.le_of_ble_eq_true rfl, Nat.le_of_ble_eq_true rfl⟩ (Nat.le_of_ble_eq_true rfl) (fun _ h8 h9 => absurd h9 (Nat.not_le.mpr h8)) dX4_empty_33 36 rfl (nw_rdK ?_) nw_noX
    have hop : op_empty σ (nI pn) b = (0, sp_emptyNow (sg_gu σ) ((sg_po σ).2 pn) b) := by simp [op_empty, h5, en_pn]
    exact nw_iret C dX4_empty_36 (Nat.le_refl _) (Nat.le_refl _) (by rw [hop]; exact ⟨rfl, ok, Nat.le_trans (Nat.le_of_eq hzb.symm) hext.1, ro, am, hR.ext hext, fun _ _ => rfl⟩)
  · refine nw_aload_n C 0 dX4_empty_24 rfl 25 rfl ?_
    refine nw_iconst C (nI 1) dX4_empty_25 (by decide) 26 rfl ?_
    refine nw_callV C (mX4_no _ C.hfl d y (.int (nI 0)) (.int (nI (gr_w (sg_gr σ)))) (.int (nI (gr_h (sg_gr σ)))) (.ref (am 9)) (.int (nI (gaM_f (sg_ga σ)))) (.int (oI (gaM_t (sg_ga σ)))) (.ref (am 1)) (.ref (am 2)) (.ref (am 3)) (.ref (am 4)) (.int (nI (wo_s (sg_wo σ)))) (.int (nI (wo_m (sg_wo σ)))) (.int (nI (sp_after (wo_x (sg_wo σ))))) (.ref (am 11)) (.ref (am 12)) (.int (nI (sg_ri σ))) (.ref (am 8)) (.ref (am 5)) (.ref (am 6)) (.int (nI (sg_rf σ))) (nI 1) H1 hB hyB hmX) kX4_no q1694 (hmX.is C (ci := 9) rfl) (As := [.int (nI 1)]) (rest := []) rfl rfl ⟨⟨Nat.le_of_ble_eq_true rfl, Nat.le_of_ble_eq_true rfl⟩, (show 0 + 0 ≤ 0 by omega), (show 0 + 0 ≤ 0 by omega)⟩ (Nat.le_of_ble_eq_true rfl) (fun q8 h8 h9 => h9.elim (fun e9 => by rw [e9]; exact hAy) (fun e9 => absurd h8 (Nat.not_lt.mpr e9))) dX4_empty_26 29 rfl (fun v9 H7 hR8 hz9 hq10 => ?_) nw_noX
    obtain ⟨rfl, ho11⟩ := hR8
    have hR8 := hR.ext hext
    have hR9 : nwMW d ro am y σ (nI 1) H7 := hR8.obj hz9 (fun q9 g9 n9 _ => hq10 q9 g9 (fun e9 => e9.elim n9 (Nat.not_le.mpr g9))) mSame.rfl ho11
    have hle9 : H.size ≤ H7.size := Nat.le_trans (Nat.le_of_eq hzb.symm) (Nat.le_trans hext.1 hz9)
    show nwV X _ _ 3 H7 (0 + 0) (0 + 0) 29 [(0, .ref y), (1, .int p), (2, .int (b2i b))] [.int (nI 0)]
    refine nw_wide (k' := 0) (n' := 0) (by omega) (by omega) ?_
    have hop : op_empty σ p b = (1, 0) := by simp [op_empty, h5]
    exact nw_iret C dX4_empty_29 (Nat.le_refl _) (Nat.le_refl _) (by rw [hop]; exact ⟨rfl, ok, hle9, ro, am, hR9, fun _ _ => rfl⟩)
set_option maxHeartbeats 4000000 in
theorem mX4_ofGuard (l : Launch) (hf : l.flags = flags0) (d : nwD) (ro am : Nat → Nat) (y : Nat) (σ : spSg) (th : Int32) (g : Int32) (q : Int32) (H : Heap) (hB : nd_B d ≤ H.size) (hR : nwMW d ro am y σ th H) (ok : spOk σ) : nwMt l d yX4_ofGuard cX4_ofGuard 3 (some .int) 5 109 1 9 [.ref y, .int g, .int q] H (nwMv d ro y ((op_ofGuard σ g q).1, (op_ofGuard σ g q).2, σ) H) nwNo (nwAM ro H) := by
  refine nw_start "NightwatchWallModel" "ofGuard" hf (by decide +kernel) rfl rfl (fun _ h => Or.inr h) (nwAM_B hR hB) (Nat.le_of_ble_eq_true rfl) ?_
  intro X C
  have hW := hR.wc
  have okM := ok.m
  have hyB := (hR.ok0 (show ro y ≠ 0 by rw [hR.2.1.2]; decide)).1
  have hAy : nwAM ro H y := Or.inl (by rw [hR.2.1.2]; decide +kernel)
  have hW0 := hW
  have hB0 := hB
  have hE := C.E0
  have hext : nwExt H H := nwExt.rfl
  obtain ⟨hmX, hmKi, hmLa, hmFo, hmGu, hmPo, hmIn, hmWi, hmWo, hmKe⟩ := id hW
  obtain ⟨okg, okl, okf, oku, okp, oki, okw, okd, okk, oka⟩ := id ok
  have hn64 : gr_n (sg_gr σ) ≤ 64 := okg.n
  have oku1 := oku.1
  have oki1 := oki.1
  have okp1 := okp.1
  have okw1 := okw.1
  have okl1 := okl.1
  have okf1 := okf.1
  show nwV X _ _ 3 H 0 0 0 [(0, .ref y), (1, .int g), (2, .int q)] []
  refine nw_aload_n C 0 dX4_ofGuard_0 rfl 1 rfl ?_
  refine nw_iconst C (nI 0) dX4_ofGuard_1 (by decide) 2 rfl ?_
  refine nw_put C hmX hAy (T := TX4) (ty0 := tyX4) rfl in_X4 tyX4_ok nmX4 0 (by decide) q1622 (Or.inl rfl) rfl rfl rfl (Nat.le_of_ble_eq_true rfl) dX4_ofGuard_2 5 rfl (fun H1 ho2 hz3 hq4 => ?_)
  have ho2 : nwO d y 9 [.int (nI 0), .int (nI (gr_w (sg_gr σ))), .int (nI (gr_h (sg_gr σ))), .ref (am 9), .int (nI (gaM_f (sg_ga σ))), .int (oI (gaM_t (sg_ga σ))), .ref (am 1), .ref (am 2), .ref (am 3), .ref (am 4), .int (nI (wo_s (sg_wo σ))), .int (nI (wo_m (sg_wo σ))), .int (nI (sp_after (wo_x (sg_wo σ)))), .ref (am 11), .ref (am 12), .int (nI (sg_ri σ)), .ref (am 8), .ref (am 5), .ref (am 6), .int (nI (sg_rf σ))] H1 := ho2
  replace hR := hR.th hz3 hq4 ho2
  have hzb : H1.size = H.size := hz3
  replace hB0 : nd_B d ≤ H1.size := by rw [hz3]; exact hB0
  replace hB := hB0
  replace hE := hE.kept (fun q9 _ hb9 => hq4 q9 (fun e9 => hb9 (by rw [e9]; exact hyB)))
  have hE0 := hE
  replace hW0 := hR.wc
  replace hW := hW0
  replace hext : nwExt H1 H1 := nwExt.rfl
  clear hmX hmKi hmLa hmFo hmGu hmPo hmIn hmWi hmWo hmKe
  obtain ⟨hmX, hmKi, hmLa, hmFo, hmGu, hmPo, hmIn, hmWi, hmWo, hmKe⟩ := id hW
  refine nw_aload_n C 0 dX4_ofGuard_5 rfl 6 rfl ?_
  refine nw_iload_n C 1 dX4_ofGuard_6 rfl 7 rfl ?_
  refine nw_callV C (mX4_isGuard _ C.hfl d ro am y σ (nI 0) g H1 hB hW okM ) kX4_isGuard q1808 (hmX.is C (ci := 9) rfl) (As := [.int g]) (rest := []) rfl rfl ⟨⟨Nat.le_of_ble_eq_true rfl, Nat.le_of_ble_eq_true rfl⟩, Nat.le_of_ble_eq_true rfl, Nat.le_of_ble_eq_true rfl⟩ (Nat.le_of_ble_eq_true rfl) (fun _ h8 h9 => absurd h9 (Nat.not_le.mpr h8)) dX4_ofGuard_7 10 rfl (nw_rdK ?_) nw_noX
  refine nw_ifneB C 19 dX4_ofGuard_10 (by decide) 13 rfl (fun h5 => ?_) (fun h5 => ?_)
  · obtain ⟨gn, hk6, rfl⟩ := nw_ix_nat (by omega) h5
    have en_gn : nw_nn (nI gn) = gn := nw_nn_nI (by omega)
    refine nw_iload_n C 2 dX4_ofGuard_19 rfl 20 rfl ?_
    refine nw_iconst C (nI 0) dX4_ofGuard_20 (by decide) 21 rfl ?_
    refine nw_bipush C (nI 8) dX4_ofGuard_21 (by decide) 23 rfl ?_
    refine nw_callS C (mX4_inR _ C.hfl d q (nI 0) (nI 8) H1 hB) kX4_in q1691 (As := [.int q, .int (nI 0), .int (nI 8)]) (rest := []) rfl rfl ⟨⟨Nat.le_of_ble_eq_true rfl, Nat.le_of_ble_eq_true rfl⟩, Nat.le_of_ble_eq_true rfl, Nat.le_of_ble_eq_true rfl⟩ (Nat.le_of_ble_eq_true rfl) (fun _ h8 h9 => absurd h9 (Nat.not_le.mpr h8)) dX4_ofGuard_23 26 rfl (nw_rdK ?_) nw_noX
    show nwV X _ _ 3 H1 0 0 26 [(0, .ref y), (1, .int (nI gn)), (2, .int q)] [.int (b2i (nw_rg 0 8 q))]
    refine nw_ifneB C 35 dX4_ofGuard_26 (by decide) 29 rfl (fun h7 => ?_) (fun h7 => ?_)
    · obtain ⟨qn, hk8, rfl⟩ := nw_rg_nat (by omega) (by omega) h7
      have en_qn : nw_nn (nI qn) = qn := nw_nn_nI (by omega)
      refine nw_aload_n C 0 dX4_ofGuard_35 rfl 36 rfl ?_
      refine nw_iload_n C 1 dX4_ofGuard_36 rfl 37 rfl ?_
      refine nw_iload_n C 2 dX4_ofGuard_37 rfl 38 rfl ?_
      refine nw_callV C (mX4_guardNow _ C.hfl d ro am y σ (nI 0) gn qn H1 hB hW okM (by omega) (by omega)) kX4_guardNow q1925 (hmX.is C (ci := 9) rfl) (As := [.int (nI gn), .int (nI qn)]) (rest := []) rfl rfl ⟨⟨Nat.le_of_ble_eq_true rfl, Nat.le_of_ble_eq_true rfl⟩, (show 0 + 1 ≤ 1 by omega), (show 0 + 9 ≤ 9 by omega)⟩ (Nat.le_of_ble_eq_true rfl) (fun _ h8 h9 => absurd h9 (Nat.not_le.mpr h8)) dX4_ofGuard_38 41 rfl (fun v9 H9 hR10 hz11 hq12 => ?_) nw_noX
      obtain ⟨rfl, -⟩ := hR10
      replace hext := hext.call hz11 hq12
      replace hW := hW0.ext hext.2
      replace hE := hE0.ext hext.2
      replace hB := Nat.le_trans hB0 hext.1
      clear hmX hmKi hmLa hmFo hmGu hmPo hmIn hmWi hmWo hmKe
      obtain ⟨hmX, hmKi, hmLa, hmFo, hmGu, hmPo, hmIn, hmWi, hmWo, hmKe⟩ := id hW
      show nwV X _ _ 3 H9 (0 + 1) (0 + 9) 41 [(0, .ref y), (1, .int (nI gn)), (2, .int (nI qn))] [.int (sp_guardNow σ gn qn)]
      refine nw_wide (k' := 1) (n' := 9) (by omega) (by omega) ?_
      have hop : op_ofGuard σ (nI gn) (nI qn) = (0, sp_guardNow σ gn qn) := by simp [op_ofGuard, h5, h7, en_gn, en_qn]
      exact nw_iret C dX4_ofGuard_41 (by omega) (by omega) (by rw [hop]; exact ⟨rfl, ok, Nat.le_trans (Nat.le_of_eq hzb.symm) hext.1, ro, am, hR.ext hext, fun _ _ => rfl⟩)
    · refine nw_aload_n C 0 dX4_ofGuard_29 rfl 30 rfl ?_
      refine nw_iconst C (nI 2) dX4_ofGuard_30 (by decide) 31 rfl ?_
      refine nw_callV C (mX4_no _ C.hfl d y (.int (nI 0)) (.int (nI (gr_w (sg_gr σ)))) (.int (nI (gr_h (sg_gr σ)))) (.ref (am 9)) (.int (nI (gaM_f (sg_ga σ)))) (.int (oI (gaM_t (sg_ga σ)))) (.ref (am 1)) (.ref (am 2)) (.ref (am 3)) (.ref (am 4)) (.int (nI (wo_s (sg_wo σ)))) (.int (nI (wo_m (sg_wo σ)))) (.int (nI (sp_after (wo_x (sg_wo σ))))) (.ref (am 11)) (.ref (am 12)) (.int (nI (sg_ri σ))) (.ref (am 8)) (.ref (am 5)) (.ref (am 6)) (.int (nI (sg_rf σ))) (nI 2) H1 hB hyB hmX) kX4_no q1694 (hmX.is C (ci := 9) rfl) (As := [.int (nI 2)]) (rest := []) rfl rfl ⟨⟨Nat.le_of_ble_eq_true rfl, Nat.le_of_ble_eq_true rfl⟩, (show 0 + 0 ≤ 1 by omega), (show 0 + 0 ≤ 9 by omega)⟩ (Nat.le_of_ble_eq_true rfl) (fun q8 h8 h9 => h9.elim (fun e9 => by rw [e9]; exact hAy) (fun e9 => absurd h8 (Nat.not_lt.mpr e9))) dX4_ofGuard_31 34 rfl (fun v9 H13 hR14 hz15 hq16 => ?_) nw_noX
      obtain ⟨rfl, ho17⟩ := hR14
      have hR8 := hR.ext hext
      have hR9 : nwMW d ro am y σ (nI 2) H13 := hR8.obj hz15 (fun q9 g9 n9 _ => hq16 q9 g9 (fun e9 => e9.elim n9 (Nat.not_le.mpr g9))) mSame.rfl ho17
      have hle9 : H.size ≤ H13.size := Nat.le_trans (Nat.le_of_eq hzb.symm) (Nat.le_trans hext.1 hz15)
      show nwV X _ _ 3 H13 (0 + 0) (0 + 0) 34 [(0, .ref y), (1, .int (nI gn)), (2, .int q)] [.int (nI 0)]
      refine nw_wide (k' := 0) (n' := 0) (by omega) (by omega) ?_
      have hop : op_ofGuard σ (nI gn) q = (2, 0) := by simp [op_ofGuard, h5, h7, en_gn]
      exact nw_iret C dX4_ofGuard_34 (by omega) (by omega) (by rw [hop]; exact ⟨rfl, ok, hle9, ro, am, hR9, fun _ _ => rfl⟩)
  · refine nw_aload_n C 0 dX4_ofGuard_13 rfl 14 rfl ?_
    refine nw_iconst C (nI 1) dX4_ofGuard_14 (by decide) 15 rfl ?_
    refine nw_callV C (mX4_no _ C.hfl d y (.int (nI 0)) (.int (nI (gr_w (sg_gr σ)))) (.int (nI (gr_h (sg_gr σ)))) (.ref (am 9)) (.int (nI (gaM_f (sg_ga σ)))) (.int (oI (gaM_t (sg_ga σ)))) (.ref (am 1)) (.ref (am 2)) (.ref (am 3)) (.ref (am 4)) (.int (nI (wo_s (sg_wo σ)))) (.int (nI (wo_m (sg_wo σ)))) (.int (nI (sp_after (wo_x (sg_wo σ))))) (.ref (am 11)) (.ref (am 12)) (.int (nI (sg_ri σ))) (.ref (am 8)) (.ref (am 5)) (.ref (am 6)) (.int (nI (sg_rf σ))) (nI 1) H1 hB hyB hmX) kX4_no q1694 (hmX.is C (ci := 9) rfl) (As := [.int (nI 1)]) (rest := []) rfl rfl ⟨⟨Nat.le_of_ble_eq_true rfl, Nat.le_of_ble_eq_true rfl⟩, (show 0 + 0 ≤ 1 by omega), (show 0 + 0 ≤ 9 by omega)⟩ (Nat.le_of_ble_eq_true rfl) (fun q8 h8 h9 => h9.elim (fun e9 => by rw [e9]; exact hAy) (fun e9 => absurd h8 (Nat.not_lt.mpr e9))) dX4_ofGuard_15 18 rfl (fun v9 H18 hR19 hz20 hq21 => ?_) nw_noX
    obtain ⟨rfl, ho22⟩ := hR19
    have hR8 := hR.ext hext
    have hR9 : nwMW d ro am y σ (nI 1) H18 := hR8.obj hz20 (fun q9 g9 n9 _ => hq21 q9 g9 (fun e9 => e9.elim n9 (Nat.not_le.mpr g9))) mSame.rfl ho22
    have hle9 : H.size ≤ H18.size := Nat.le_trans (Nat.le_of_eq hzb.symm) (Nat.le_trans hext.1 hz20)
    show nwV X _ _ 3 H18 (0 + 0) (0 + 0) 18 [(0, .ref y), (1, .int g), (2, .int q)] [.int (nI 0)]
    refine nw_wide (k' := 0) (n' := 0) (by omega) (by omega) ?_
    have hop : op_ofGuard σ g q = (1, 0) := by simp [op_ofGuard, h5]
    exact nw_iret C dX4_ofGuard_18 (by omega) (by omega) (by rw [hop]; exact ⟨rfl, ok, hle9, ro, am, hR9, fun _ _ => rfl⟩)
set_option maxHeartbeats 4000000 in
theorem mX4_where (l : Launch) (hf : l.flags = flags0) (d : nwD) (ro am : Nat → Nat) (y : Nat) (σ : spSg) (th : Int32) (iv : Int32) (t : Int32) (H : Heap) (hB : nd_B d ≤ H.size) (hR : nwMW d ro am y σ th H) (ok : spOk σ) : nwMt l d yX4_where cX4_where 3 (some .int) 4 84 0 0 [.ref y, .int iv, .int t] H (nwMv d ro y ((op_where σ iv t).1, (op_where σ iv t).2, σ) H) nwNo (nwAM ro H) := by
  refine nw_start "NightwatchWallModel" "where" hf (by decide +kernel) rfl rfl (fun _ h => Or.inr h) (nwAM_B hR hB) (Nat.le_of_ble_eq_true rfl) ?_
  intro X C
  have hW := hR.wc
  have okM := ok.m
  have hyB := (hR.ok0 (show ro y ≠ 0 by rw [hR.2.1.2]; decide)).1
  have hAy : nwAM ro H y := Or.inl (by rw [hR.2.1.2]; decide +kernel)
  have hW0 := hW
  have hB0 := hB
  have hE := C.E0
  have hext : nwExt H H := nwExt.rfl
  obtain ⟨hmX, hmKi, hmLa, hmFo, hmGu, hmPo, hmIn, hmWi, hmWo, hmKe⟩ := id hW
  obtain ⟨okg, okl, okf, oku, okp, oki, okw, okd, okk, oka⟩ := id ok
  have hn64 : gr_n (sg_gr σ) ≤ 64 := okg.n
  have oku1 := oku.1
  have oki1 := oki.1
  have okp1 := okp.1
  have okw1 := okw.1
  have okl1 := okl.1
  have okf1 := okf.1
  show nwV X _ _ 3 H 0 0 0 [(0, .ref y), (1, .int iv), (2, .int t)] []
  refine nw_aload_n C 0 dX4_where_0 rfl 1 rfl ?_
  refine nw_iconst C (nI 0) dX4_where_1 (by decide) 2 rfl ?_
  refine nw_put C hmX hAy (T := TX4) (ty0 := tyX4) rfl in_X4 tyX4_ok nmX4 0 (by decide) q1622 (Or.inl rfl) rfl rfl rfl (Nat.le_of_ble_eq_true rfl) dX4_where_2 5 rfl (fun H1 ho2 hz3 hq4 => ?_)
  have ho2 : nwO d y 9 [.int (nI 0), .int (nI (gr_w (sg_gr σ))), .int (nI (gr_h (sg_gr σ))), .ref (am 9), .int (nI (gaM_f (sg_ga σ))), .int (oI (gaM_t (sg_ga σ))), .ref (am 1), .ref (am 2), .ref (am 3), .ref (am 4), .int (nI (wo_s (sg_wo σ))), .int (nI (wo_m (sg_wo σ))), .int (nI (sp_after (wo_x (sg_wo σ)))), .ref (am 11), .ref (am 12), .int (nI (sg_ri σ)), .ref (am 8), .ref (am 5), .ref (am 6), .int (nI (sg_rf σ))] H1 := ho2
  replace hR := hR.th hz3 hq4 ho2
  have hzb : H1.size = H.size := hz3
  replace hB0 : nd_B d ≤ H1.size := by rw [hz3]; exact hB0
  replace hB := hB0
  replace hE := hE.kept (fun q9 _ hb9 => hq4 q9 (fun e9 => hb9 (by rw [e9]; exact hyB)))
  have hE0 := hE
  replace hW0 := hR.wc
  replace hW := hW0
  replace hext : nwExt H1 H1 := nwExt.rfl
  clear hmX hmKi hmLa hmFo hmGu hmPo hmIn hmWi hmWo hmKe
  obtain ⟨hmX, hmKi, hmLa, hmFo, hmGu, hmPo, hmIn, hmWi, hmWo, hmKe⟩ := id hW
  refine nw_aload_n C 0 dX4_where_5 rfl 6 rfl ?_
  refine nw_iload_n C 1 dX4_where_6 rfl 7 rfl ?_
  refine nw_callV C (mX4_isIntruder _ C.hfl d ro am y σ (nI 0) iv H1 hB hW okM ) kX4_isIntruder q1976 (hmX.is C (ci := 9) rfl) (As := [.int iv]) (rest := []) rfl rfl ⟨⟨Nat.le_of_ble_eq_true rfl, Nat.le_of_ble_eq_true rfl⟩, Nat.le_of_ble_eq_true rfl, Nat.le_of_ble_eq_true rfl⟩ (Nat.le_of_ble_eq_true rfl) (fun _ h8 h9 => absurd h9 (Nat.not_le.mpr h8)) dX4_where_7 10 rfl (nw_rdK ?_) nw_noX
  refine nw_ifneB C 19 dX4_where_10 (by decide) 13 rfl (fun h5 => ?_) (fun h5 => ?_)
  · obtain ⟨ivn, hk6, rfl⟩ := nw_ix_nat (by omega) h5
    have en_ivn : nw_nn (nI ivn) = ivn := nw_nn_nI (by omega)
    refine nw_iload_n C 2 dX4_where_19 rfl 20 rfl ?_
    refine nw_callS C (mX4_isMinute _ C.hfl d t H1 hB) kX4_isMinute q1722 (As := [.int t]) (rest := []) rfl rfl ⟨⟨Nat.le_of_ble_eq_true rfl, Nat.le_of_ble_eq_true rfl⟩, Nat.le_of_ble_eq_true rfl, Nat.le_of_ble_eq_true rfl⟩ (Nat.le_of_ble_eq_true rfl) (fun _ h8 h9 => absurd h9 (Nat.not_le.mpr h8)) dX4_where_20 23 rfl (nw_rdK ?_) nw_noX
    refine nw_ifneB C 32 dX4_where_23 (by decide) 26 rfl (fun h7 => ?_) (fun h7 => ?_)
    · obtain ⟨tn, hk8, rfl⟩ := nw_rg_nat (by omega) (by omega) h7
      have en_tn : nw_nn (nI tn) = tn := nw_nn_nI (by omega)
      refine nw_aload_n C 0 dX4_where_32 rfl 33 rfl ?_
      refine nw_get C hmX (T := TX4) rfl in_X4 17 (by decide) q1639 (Or.inl rfl) rfl dX4_where_33 36 rfl ?_
      refine nw_iload_n C 1 dX4_where_36 rfl 37 rfl ?_
      refine nw_callF C (mJ3_get _ C.hfl d (am 5) ((sg_in σ).1) (fun k => am (500 + k)) (fun q => ro q = 7006) ivn H1 hB hmIn.1 (by omega)) kJ3_get (ci := 13) rfl q1615 q1618 (by decide +kernel) fc_List_get (hmIn.1.is C) (As := [.int (nI ivn)]) (rest := []) rfl rfl ⟨⟨Nat.le_of_ble_eq_true rfl, Nat.le_of_ble_eq_true rfl⟩, Nat.le_of_ble_eq_true rfl, Nat.le_of_ble_eq_true rfl⟩ (Nat.le_of_ble_eq_true rfl) (fun _ h8 h9 => absurd h9 (Nat.not_le.mpr h8)) dX4_where_37 42 rfl (nw_rdK ?_) nw_noX
      have hg9 : nwMIn d (am (500 + ivn)) (am (600 + ivn)) ((sg_in σ).2 ivn) H1 := hmIn.2 ivn (by omega)
      have hk10 : okI1 (sg_gr σ) ((sg_in σ).2 ivn) := oki.2 ivn (by omega)
      have hg11 : nwO d (am (500 + ivn)) 11 [.int (nI (in_a ((sg_in σ).2 ivn))), .int (nI (in_v ((sg_in σ).2 ivn))), .ref (am (600 + ivn)), .int (nI (in_s ((sg_in σ).2 ivn))), .int (oI (in_l ((sg_in σ).2 ivn)))] H1 := hg9.1
      refine nw_cast C (ci := 11) rfl (hg11.is C (ci := 11) rfl) q1713 dX4_where_42 45 rfl ?_
      refine nw_iload_n C 2 dX4_where_45 rfl 46 rfl ?_
      refine nw_callV C (mX13_where _ C.hfl d (am (500 + ivn)) (am (600 + ivn)) ((sg_in σ).2 ivn) (sg_gr σ) tn H1 hB hg9 hk10 hn64 (by omega)) kX13_where q1714 (hg11.is C (ci := 11) rfl) (As := [.int (nI tn)]) (rest := []) rfl rfl ⟨⟨Nat.le_of_ble_eq_true rfl, Nat.le_of_ble_eq_true rfl⟩, Nat.le_of_ble_eq_true rfl, Nat.le_of_ble_eq_true rfl⟩ (Nat.le_of_ble_eq_true rfl) (fun _ h8 h9 => absurd h9 (Nat.not_le.mpr h8)) dX4_where_46 49 rfl (nw_rdK ?_) nw_noX
      have hop : op_where σ (nI ivn) (nI tn) = (0, oI (sp_where ((sg_in σ).2 ivn) tn)) := by simp [op_where, h5, h7, en_ivn, en_tn]
      exact nw_iret C dX4_where_49 (Nat.le_refl _) (Nat.le_refl _) (by rw [hop]; exact ⟨rfl, ok, Nat.le_trans (Nat.le_of_eq hzb.symm) hext.1, ro, am, hR.ext hext, fun _ _ => rfl⟩)
    · refine nw_aload_n C 0 dX4_where_26 rfl 27 rfl ?_
      refine nw_iconst C (nI 2) dX4_where_27 (by decide) 28 rfl ?_
      refine nw_callV C (mX4_no _ C.hfl d y (.int (nI 0)) (.int (nI (gr_w (sg_gr σ)))) (.int (nI (gr_h (sg_gr σ)))) (.ref (am 9)) (.int (nI (gaM_f (sg_ga σ)))) (.int (oI (gaM_t (sg_ga σ)))) (.ref (am 1)) (.ref (am 2)) (.ref (am 3)) (.ref (am 4)) (.int (nI (wo_s (sg_wo σ)))) (.int (nI (wo_m (sg_wo σ)))) (.int (nI (sp_after (wo_x (sg_wo σ))))) (.ref (am 11)) (.ref (am 12)) (.int (nI (sg_ri σ))) (.ref (am 8)) (.ref (am 5)) (.ref (am 6)) (.int (nI (sg_rf σ))) (nI 2) H1 hB hyB hmX) kX4_no q1694 (hmX.is C (ci := 9) rfl) (As := [.int (nI 2)]) (rest := []) rfl rfl ⟨⟨Nat.le_of_ble_eq_true rfl, Nat.le_of_ble_eq_true rfl⟩, (show 0 + 0 ≤ 0 by omega), (show 0 + 0 ≤ 0 by omega)⟩ (Nat.le_of_ble_eq_true rfl) (fun q8 h8 h9 => h9.elim (fun e9 => by rw [e9]; exact hAy) (fun e9 => absurd h8 (Nat.not_lt.mpr e9))) dX4_where_28 31 rfl (fun v9 H12 hR13 hz14 hq15 => ?_) nw_noX
      obtain ⟨rfl, ho16⟩ := hR13
      have hR8 := hR.ext hext
      have hR9 : nwMW d ro am y σ (nI 2) H12 := hR8.obj hz14 (fun q9 g9 n9 _ => hq15 q9 g9 (fun e9 => e9.elim n9 (Nat.not_le.mpr g9))) mSame.rfl ho16
      have hle9 : H.size ≤ H12.size := Nat.le_trans (Nat.le_of_eq hzb.symm) (Nat.le_trans hext.1 hz14)
      show nwV X _ _ 3 H12 (0 + 0) (0 + 0) 31 [(0, .ref y), (1, .int (nI ivn)), (2, .int t)] [.int (nI 0)]
      refine nw_wide (k' := 0) (n' := 0) (by omega) (by omega) ?_
      have hop : op_where σ (nI ivn) t = (2, 0) := by simp [op_where, h5, h7, en_ivn]
      exact nw_iret C dX4_where_31 (Nat.le_refl _) (Nat.le_refl _) (by rw [hop]; exact ⟨rfl, ok, hle9, ro, am, hR9, fun _ _ => rfl⟩)
  · refine nw_aload_n C 0 dX4_where_13 rfl 14 rfl ?_
    refine nw_iconst C (nI 1) dX4_where_14 (by decide) 15 rfl ?_
    refine nw_callV C (mX4_no _ C.hfl d y (.int (nI 0)) (.int (nI (gr_w (sg_gr σ)))) (.int (nI (gr_h (sg_gr σ)))) (.ref (am 9)) (.int (nI (gaM_f (sg_ga σ)))) (.int (oI (gaM_t (sg_ga σ)))) (.ref (am 1)) (.ref (am 2)) (.ref (am 3)) (.ref (am 4)) (.int (nI (wo_s (sg_wo σ)))) (.int (nI (wo_m (sg_wo σ)))) (.int (nI (sp_after (wo_x (sg_wo σ))))) (.ref (am 11)) (.ref (am 12)) (.int (nI (sg_ri σ))) (.ref (am 8)) (.ref (am 5)) (.ref (am 6)) (.int (nI (sg_rf σ))) (nI 1) H1 hB hyB hmX) kX4_no q1694 (hmX.is C (ci := 9) rfl) (As := [.int (nI 1)]) (rest := []) rfl rfl ⟨⟨Nat.le_of_ble_eq_true rfl, Nat.le_of_ble_eq_true rfl⟩, (show 0 + 0 ≤ 0 by omega), (show 0 + 0 ≤ 0 by omega)⟩ (Nat.le_of_ble_eq_true rfl) (fun q8 h8 h9 => h9.elim (fun e9 => by rw [e9]; exact hAy) (fun e9 => absurd h8 (Nat.not_lt.mpr e9))) dX4_where_15 18 rfl (fun v9 H17 hR18 hz19 hq20 => ?_) nw_noX
    obtain ⟨rfl, ho21⟩ := hR18
    have hR8 := hR.ext hext
    have hR9 : nwMW d ro am y σ (nI 1) H17 := hR8.obj hz19 (fun q9 g9 n9 _ => hq20 q9 g9 (fun e9 => e9.elim n9 (Nat.not_le.mpr g9))) mSame.rfl ho21
    have hle9 : H.size ≤ H17.size := Nat.le_trans (Nat.le_of_eq hzb.symm) (Nat.le_trans hext.1 hz19)
    show nwV X _ _ 3 H17 (0 + 0) (0 + 0) 18 [(0, .ref y), (1, .int iv), (2, .int t)] [.int (nI 0)]
    refine nw_wide (k' := 0) (n' := 0) (by omega) (by omega) ?_
    have hop : op_where σ iv t = (1, 0) := by simp [op_where, h5]
    exact nw_iret C dX4_where_18 (Nat.le_refl _) (Nat.le_refl _) (by rw [hop]; exact ⟨rfl, ok, hle9, ro, am, hR9, fun _ _ => rfl⟩)
set_option maxHeartbeats 4000000 in
theorem mX4_ofIntruder (l : Launch) (hf : l.flags = flags0) (d : nwD) (ro am : Nat → Nat) (y : Nat) (σ : spSg) (th : Int32) (iv : Int32) (q : Int32) (H : Heap) (hB : nd_B d ≤ H.size) (hR : nwMW d ro am y σ th H) (ok : spOk σ) : nwMt l d yX4_ofIntruder cX4_ofIntruder 3 (some .int) 10 230 12 768 [.ref y, .int iv, .int q] H (nwMv d ro y ((op_ofIntr σ iv q).1, (op_ofIntr σ iv q).2, σ) H) nwNo (nwAM ro H) := by
  refine nw_start "NightwatchWallModel" "ofIntruder" hf (by decide +kernel) rfl rfl (fun _ h => Or.inr h) (nwAM_B hR hB) (Nat.le_of_ble_eq_true rfl) ?_
  intro X C
  have hW := hR.wc
  have okM := ok.m
  have hyB := (hR.ok0 (show ro y ≠ 0 by rw [hR.2.1.2]; decide)).1
  have hAy : nwAM ro H y := Or.inl (by rw [hR.2.1.2]; decide +kernel)
  have hW0 := hW
  have hB0 := hB
  have hE := C.E0
  have hext : nwExt H H := nwExt.rfl
  obtain ⟨hmX, hmKi, hmLa, hmFo, hmGu, hmPo, hmIn, hmWi, hmWo, hmKe⟩ := id hW
  obtain ⟨okg, okl, okf, oku, okp, oki, okw, okd, okk, oka⟩ := id ok
  have hn64 : gr_n (sg_gr σ) ≤ 64 := okg.n
  have oku1 := oku.1
  have oki1 := oki.1
  have okp1 := okp.1
  have okw1 := okw.1
  have okl1 := okl.1
  have okf1 := okf.1
  show nwV X _ _ 3 H 0 0 0 [(0, .ref y), (1, .int iv), (2, .int q)] []
  refine nw_aload_n C 0 dX4_ofIntruder_0 rfl 1 rfl ?_
  refine nw_iconst C (nI 0) dX4_ofIntruder_1 (by decide) 2 rfl ?_
  refine nw_put C hmX hAy (T := TX4) (ty0 := tyX4) rfl in_X4 tyX4_ok nmX4 0 (by decide) q1622 (Or.inl rfl) rfl rfl rfl (Nat.le_of_ble_eq_true rfl) dX4_ofIntruder_2 5 rfl (fun H1 ho2 hz3 hq4 => ?_)
  have ho2 : nwO d y 9 [.int (nI 0), .int (nI (gr_w (sg_gr σ))), .int (nI (gr_h (sg_gr σ))), .ref (am 9), .int (nI (gaM_f (sg_ga σ))), .int (oI (gaM_t (sg_ga σ))), .ref (am 1), .ref (am 2), .ref (am 3), .ref (am 4), .int (nI (wo_s (sg_wo σ))), .int (nI (wo_m (sg_wo σ))), .int (nI (sp_after (wo_x (sg_wo σ)))), .ref (am 11), .ref (am 12), .int (nI (sg_ri σ)), .ref (am 8), .ref (am 5), .ref (am 6), .int (nI (sg_rf σ))] H1 := ho2
  replace hR := hR.th hz3 hq4 ho2
  have hzb : H1.size = H.size := hz3
  replace hB0 : nd_B d ≤ H1.size := by rw [hz3]; exact hB0
  replace hB := hB0
  replace hE := hE.kept (fun q9 _ hb9 => hq4 q9 (fun e9 => hb9 (by rw [e9]; exact hyB)))
  have hE0 := hE
  replace hW0 := hR.wc
  replace hW := hW0
  replace hext : nwExt H1 H1 := nwExt.rfl
  clear hmX hmKi hmLa hmFo hmGu hmPo hmIn hmWi hmWo hmKe
  obtain ⟨hmX, hmKi, hmLa, hmFo, hmGu, hmPo, hmIn, hmWi, hmWo, hmKe⟩ := id hW
  refine nw_aload_n C 0 dX4_ofIntruder_5 rfl 6 rfl ?_
  refine nw_iload_n C 1 dX4_ofIntruder_6 rfl 7 rfl ?_
  refine nw_callV C (mX4_isIntruder _ C.hfl d ro am y σ (nI 0) iv H1 hB hW okM ) kX4_isIntruder q1976 (hmX.is C (ci := 9) rfl) (As := [.int iv]) (rest := []) rfl rfl ⟨⟨Nat.le_of_ble_eq_true rfl, Nat.le_of_ble_eq_true rfl⟩, Nat.le_of_ble_eq_true rfl, Nat.le_of_ble_eq_true rfl⟩ (Nat.le_of_ble_eq_true rfl) (fun _ h8 h9 => absurd h9 (Nat.not_le.mpr h8)) dX4_ofIntruder_7 10 rfl (nw_rdK ?_) nw_noX
  refine nw_ifneB C 19 dX4_ofIntruder_10 (by decide) 13 rfl (fun h5 => ?_) (fun h5 => ?_)
  · obtain ⟨ivn, hk6, rfl⟩ := nw_ix_nat (by omega) h5
    have en_ivn : nw_nn (nI ivn) = ivn := nw_nn_nI (by omega)
    refine nw_iload_n C 2 dX4_ofIntruder_19 rfl 20 rfl ?_
    refine nw_iconst C (nI 0) dX4_ofIntruder_20 (by decide) 21 rfl ?_
    refine nw_bipush C (nI 8) dX4_ofIntruder_21 (by decide) 23 rfl ?_
    refine nw_callS C (mX4_inR _ C.hfl d q (nI 0) (nI 8) H1 hB) kX4_in q1691 (As := [.int q, .int (nI 0), .int (nI 8)]) (rest := []) rfl rfl ⟨⟨Nat.le_of_ble_eq_true rfl, Nat.le_of_ble_eq_true rfl⟩, Nat.le_of_ble_eq_true rfl, Nat.le_of_ble_eq_true rfl⟩ (Nat.le_of_ble_eq_true rfl) (fun _ h8 h9 => absurd h9 (Nat.not_le.mpr h8)) dX4_ofIntruder_23 26 rfl (nw_rdK ?_) nw_noX
    show nwV X _ _ 3 H1 0 0 26 [(0, .ref y), (1, .int (nI ivn)), (2, .int q)] [.int (b2i (nw_rg 0 8 q))]
    refine nw_ifneB C 35 dX4_ofIntruder_26 (by decide) 29 rfl (fun h7 => ?_) (fun h7 => ?_)
    · obtain ⟨qn, hk8, rfl⟩ := nw_rg_nat (by omega) (by omega) h7
      have en_qn : nw_nn (nI qn) = qn := nw_nn_nI (by omega)
      refine nw_aload_n C 0 dX4_ofIntruder_35 rfl 36 rfl ?_
      refine nw_iload_n C 1 dX4_ofIntruder_36 rfl 37 rfl ?_
      refine nw_iload_n C 2 dX4_ofIntruder_37 rfl 38 rfl ?_
      refine nw_callV C (mX4_intruderNow _ C.hfl d ro am y σ (nI 0) ivn qn H1 hB hW okM (by omega) (by omega)) kX4_intruderNow q1984 (hmX.is C (ci := 9) rfl) (As := [.int (nI ivn), .int (nI qn)]) (rest := []) rfl rfl ⟨⟨Nat.le_of_ble_eq_true rfl, Nat.le_of_ble_eq_true rfl⟩, (show 0 + 12 ≤ 12 by omega), (show 0 + 768 ≤ 768 by omega)⟩ (Nat.le_of_ble_eq_true rfl) (fun _ h8 h9 => absurd h9 (Nat.not_le.mpr h8)) dX4_ofIntruder_38 41 rfl (fun v9 H9 hR10 hz11 hq12 => ?_) nw_noX
      obtain ⟨rfl, -⟩ := hR10
      replace hext := hext.call hz11 hq12
      replace hW := hW0.ext hext.2
      replace hE := hE0.ext hext.2
      replace hB := Nat.le_trans hB0 hext.1
      clear hmX hmKi hmLa hmFo hmGu hmPo hmIn hmWi hmWo hmKe
      obtain ⟨hmX, hmKi, hmLa, hmFo, hmGu, hmPo, hmIn, hmWi, hmWo, hmKe⟩ := id hW
      show nwV X _ _ 3 H9 (0 + 12) (0 + 768) 41 [(0, .ref y), (1, .int (nI ivn)), (2, .int (nI qn))] [.int (sp_intrNow σ ((sg_in σ).2 ivn) qn)]
      refine nw_wide (k' := 12) (n' := 768) (by omega) (by omega) ?_
      have hop : op_ofIntr σ (nI ivn) (nI qn) = (0, sp_intrNow σ ((sg_in σ).2 ivn) qn) := by simp [op_ofIntr, h5, h7, en_ivn, en_qn]
      exact nw_iret C dX4_ofIntruder_41 (by omega) (by omega) (by rw [hop]; exact ⟨rfl, ok, Nat.le_trans (Nat.le_of_eq hzb.symm) hext.1, ro, am, hR.ext hext, fun _ _ => rfl⟩)
    · refine nw_aload_n C 0 dX4_ofIntruder_29 rfl 30 rfl ?_
      refine nw_iconst C (nI 2) dX4_ofIntruder_30 (by decide) 31 rfl ?_
      refine nw_callV C (mX4_no _ C.hfl d y (.int (nI 0)) (.int (nI (gr_w (sg_gr σ)))) (.int (nI (gr_h (sg_gr σ)))) (.ref (am 9)) (.int (nI (gaM_f (sg_ga σ)))) (.int (oI (gaM_t (sg_ga σ)))) (.ref (am 1)) (.ref (am 2)) (.ref (am 3)) (.ref (am 4)) (.int (nI (wo_s (sg_wo σ)))) (.int (nI (wo_m (sg_wo σ)))) (.int (nI (sp_after (wo_x (sg_wo σ))))) (.ref (am 11)) (.ref (am 12)) (.int (nI (sg_ri σ))) (.ref (am 8)) (.ref (am 5)) (.ref (am 6)) (.int (nI (sg_rf σ))) (nI 2) H1 hB hyB hmX) kX4_no q1694 (hmX.is C (ci := 9) rfl) (As := [.int (nI 2)]) (rest := []) rfl rfl ⟨⟨Nat.le_of_ble_eq_true rfl, Nat.le_of_ble_eq_true rfl⟩, (show 0 + 0 ≤ 12 by omega), (show 0 + 0 ≤ 768 by omega)⟩ (Nat.le_of_ble_eq_true rfl) (fun q8 h8 h9 => h9.elim (fun e9 => by rw [e9]; exact hAy) (fun e9 => absurd h8 (Nat.not_lt.mpr e9))) dX4_ofIntruder_31 34 rfl (fun v9 H13 hR14 hz15 hq16 => ?_) nw_noX
      obtain ⟨rfl, ho17⟩ := hR14
      have hR8 := hR.ext hext
      have hR9 : nwMW d ro am y σ (nI 2) H13 := hR8.obj hz15 (fun q9 g9 n9 _ => hq16 q9 g9 (fun e9 => e9.elim n9 (Nat.not_le.mpr g9))) mSame.rfl ho17
      have hle9 : H.size ≤ H13.size := Nat.le_trans (Nat.le_of_eq hzb.symm) (Nat.le_trans hext.1 hz15)
      show nwV X _ _ 3 H13 (0 + 0) (0 + 0) 34 [(0, .ref y), (1, .int (nI ivn)), (2, .int q)] [.int (nI 0)]
      refine nw_wide (k' := 0) (n' := 0) (by omega) (by omega) ?_
      have hop : op_ofIntr σ (nI ivn) q = (2, 0) := by simp [op_ofIntr, h5, h7, en_ivn]
      exact nw_iret C dX4_ofIntruder_34 (by omega) (by omega) (by rw [hop]; exact ⟨rfl, ok, hle9, ro, am, hR9, fun _ _ => rfl⟩)
  · refine nw_aload_n C 0 dX4_ofIntruder_13 rfl 14 rfl ?_
    refine nw_iconst C (nI 1) dX4_ofIntruder_14 (by decide) 15 rfl ?_
    refine nw_callV C (mX4_no _ C.hfl d y (.int (nI 0)) (.int (nI (gr_w (sg_gr σ)))) (.int (nI (gr_h (sg_gr σ)))) (.ref (am 9)) (.int (nI (gaM_f (sg_ga σ)))) (.int (oI (gaM_t (sg_ga σ)))) (.ref (am 1)) (.ref (am 2)) (.ref (am 3)) (.ref (am 4)) (.int (nI (wo_s (sg_wo σ)))) (.int (nI (wo_m (sg_wo σ)))) (.int (nI (sp_after (wo_x (sg_wo σ))))) (.ref (am 11)) (.ref (am 12)) (.int (nI (sg_ri σ))) (.ref (am 8)) (.ref (am 5)) (.ref (am 6)) (.int (nI (sg_rf σ))) (nI 1) H1 hB hyB hmX) kX4_no q1694 (hmX.is C (ci := 9) rfl) (As := [.int (nI 1)]) (rest := []) rfl rfl ⟨⟨Nat.le_of_ble_eq_true rfl, Nat.le_of_ble_eq_true rfl⟩, (show 0 + 0 ≤ 12 by omega), (show 0 + 0 ≤ 768 by omega)⟩ (Nat.le_of_ble_eq_true rfl) (fun q8 h8 h9 => h9.elim (fun e9 => by rw [e9]; exact hAy) (fun e9 => absurd h8 (Nat.not_lt.mpr e9))) dX4_ofIntruder_15 18 rfl (fun v9 H18 hR19 hz20 hq21 => ?_) nw_noX
    obtain ⟨rfl, ho22⟩ := hR19
    have hR8 := hR.ext hext
    have hR9 : nwMW d ro am y σ (nI 1) H18 := hR8.obj hz20 (fun q9 g9 n9 _ => hq21 q9 g9 (fun e9 => e9.elim n9 (Nat.not_le.mpr g9))) mSame.rfl ho22
    have hle9 : H.size ≤ H18.size := Nat.le_trans (Nat.le_of_eq hzb.symm) (Nat.le_trans hext.1 hz20)
    show nwV X _ _ 3 H18 (0 + 0) (0 + 0) 18 [(0, .ref y), (1, .int iv), (2, .int q)] [.int (nI 0)]
    refine nw_wide (k' := 0) (n' := 0) (by omega) (by omega) ?_
    have hop : op_ofIntr σ iv q = (1, 0) := by simp [op_ofIntr, h5]
    exact nw_iret C dX4_ofIntruder_18 (by omega) (by omega) (by rw [hop]; exact ⟨rfl, ok, hle9, ro, am, hR9, fun _ _ => rfl⟩)
set_option maxHeartbeats 4000000 in
theorem mX4_ofWire (l : Launch) (hf : l.flags = flags0) (d : nwD) (ro am : Nat → Nat) (y : Nat) (σ : spSg) (th : Int32) (k : Int32) (q : Int32) (H : Heap) (hB : nd_B d ≤ H.size) (hR : nwMW d ro am y σ th H) (ok : spOk σ) : nwMt l d yX4_ofWire cX4_ofWire 3 (some .int) 6 136 0 0 [.ref y, .int k, .int q] H (nwMv d ro y ((op_ofWire σ k q).1, (op_ofWire σ k q).2, σ) H) nwNo (nwAM ro H) := by
  refine nw_start "NightwatchWallModel" "ofWire" hf (by decide +kernel) rfl rfl (fun _ h => Or.inr h) (nwAM_B hR hB) (Nat.le_of_ble_eq_true rfl) ?_
  intro X C
  have hW := hR.wc
  have okM := ok.m
  have hyB := (hR.ok0 (show ro y ≠ 0 by rw [hR.2.1.2]; decide)).1
  have hAy : nwAM ro H y := Or.inl (by rw [hR.2.1.2]; decide +kernel)
  have hW0 := hW
  have hB0 := hB
  have hE := C.E0
  have hext : nwExt H H := nwExt.rfl
  obtain ⟨hmX, hmKi, hmLa, hmFo, hmGu, hmPo, hmIn, hmWi, hmWo, hmKe⟩ := id hW
  obtain ⟨okg, okl, okf, oku, okp, oki, okw, okd, okk, oka⟩ := id ok
  have hn64 : gr_n (sg_gr σ) ≤ 64 := okg.n
  have oku1 := oku.1
  have oki1 := oki.1
  have okp1 := okp.1
  have okw1 := okw.1
  have okl1 := okl.1
  have okf1 := okf.1
  show nwV X _ _ 3 H 0 0 0 [(0, .ref y), (1, .int k), (2, .int q)] []
  refine nw_aload_n C 0 dX4_ofWire_0 rfl 1 rfl ?_
  refine nw_iconst C (nI 0) dX4_ofWire_1 (by decide) 2 rfl ?_
  refine nw_put C hmX hAy (T := TX4) (ty0 := tyX4) rfl in_X4 tyX4_ok nmX4 0 (by decide) q1622 (Or.inl rfl) rfl rfl rfl (Nat.le_of_ble_eq_true rfl) dX4_ofWire_2 5 rfl (fun H1 ho2 hz3 hq4 => ?_)
  have ho2 : nwO d y 9 [.int (nI 0), .int (nI (gr_w (sg_gr σ))), .int (nI (gr_h (sg_gr σ))), .ref (am 9), .int (nI (gaM_f (sg_ga σ))), .int (oI (gaM_t (sg_ga σ))), .ref (am 1), .ref (am 2), .ref (am 3), .ref (am 4), .int (nI (wo_s (sg_wo σ))), .int (nI (wo_m (sg_wo σ))), .int (nI (sp_after (wo_x (sg_wo σ)))), .ref (am 11), .ref (am 12), .int (nI (sg_ri σ)), .ref (am 8), .ref (am 5), .ref (am 6), .int (nI (sg_rf σ))] H1 := ho2
  replace hR := hR.th hz3 hq4 ho2
  have hzb : H1.size = H.size := hz3
  replace hB0 : nd_B d ≤ H1.size := by rw [hz3]; exact hB0
  replace hB := hB0
  replace hE := hE.kept (fun q9 _ hb9 => hq4 q9 (fun e9 => hb9 (by rw [e9]; exact hyB)))
  have hE0 := hE
  replace hW0 := hR.wc
  replace hW := hW0
  replace hext : nwExt H1 H1 := nwExt.rfl
  clear hmX hmKi hmLa hmFo hmGu hmPo hmIn hmWi hmWo hmKe
  obtain ⟨hmX, hmKi, hmLa, hmFo, hmGu, hmPo, hmIn, hmWi, hmWo, hmKe⟩ := id hW
  refine nw_iload_n C 1 dX4_ofWire_5 rfl 6 rfl ?_
  refine nw_iconst C (nI 0) dX4_ofWire_6 (by decide) 7 rfl ?_
  refine nw_aload_n C 0 dX4_ofWire_7 rfl 8 rfl ?_
  refine nw_get C hmX (T := TX4) rfl in_X4 18 (by decide) q1640 (Or.inl rfl) rfl dX4_ofWire_8 11 rfl ?_
  refine nw_callF C (mJ3_size _ C.hfl d (am 6) ((sg_wi σ).1) (fun k => am (700 + k)) (fun q => ro q = 7007) H1 hB hmWi.1) kJ3_size (ci := 13) rfl q1607 q1611 (by decide +kernel) fc_List_size (hmWi.1.is C) (As := []) (rest := [.int (nI 0), .int k]) rfl rfl ⟨⟨Nat.le_of_ble_eq_true rfl, Nat.le_of_ble_eq_true rfl⟩, Nat.le_of_ble_eq_true rfl, Nat.le_of_ble_eq_true rfl⟩ (Nat.le_of_ble_eq_true rfl) (fun _ h8 h9 => absurd h9 (Nat.not_le.mpr h8)) dX4_ofWire_11 16 rfl (nw_rdK ?_) nw_noX
  refine nw_iconst C (nI 1) dX4_ofWire_16 (by decide) 17 rfl ?_
  refine nw_isub C (nI ((sg_wi σ).1) - nI 1) dX4_ofWire_17 rfl 18 rfl ?_
  refine nw_callS C (mX4_inX _ C.hfl d k ((sg_wi σ).1) H1 hB (by omega)) kX4_in q1691 (As := [.int k, .int (nI 0), .int (nI ((sg_wi σ).1) - nI 1)]) (rest := []) rfl rfl ⟨⟨Nat.le_of_ble_eq_true rfl, Nat.le_of_ble_eq_true rfl⟩, Nat.le_of_ble_eq_true rfl, Nat.le_of_ble_eq_true rfl⟩ (Nat.le_of_ble_eq_true rfl) (fun _ h8 h9 => absurd h9 (Nat.not_le.mpr h8)) dX4_ofWire_18 21 rfl (nw_rdK ?_) nw_noX
  refine nw_ifneB C 30 dX4_ofWire_21 (by decide) 24 rfl (fun h5 => ?_) (fun h5 => ?_)
  · obtain ⟨kn, hk6, rfl⟩ := nw_ix_nat (by omega) h5
    have en_kn : nw_nn (nI kn) = kn := nw_nn_nI (by omega)
    refine nw_iload_n C 2 dX4_ofWire_30 rfl 31 rfl ?_
    refine nw_iconst C (nI 0) dX4_ofWire_31 (by decide) 32 rfl ?_
    refine nw_iconst C (nI 4) dX4_ofWire_32 (by decide) 33 rfl ?_
    refine nw_callS C (mX4_inR _ C.hfl d q (nI 0) (nI 4) H1 hB) kX4_in q1691 (As := [.int q, .int (nI 0), .int (nI 4)]) (rest := []) rfl rfl ⟨⟨Nat.le_of_ble_eq_true rfl, Nat.le_of_ble_eq_true rfl⟩, Nat.le_of_ble_eq_true rfl, Nat.le_of_ble_eq_true rfl⟩ (Nat.le_of_ble_eq_true rfl) (fun _ h8 h9 => absurd h9 (Nat.not_le.mpr h8)) dX4_ofWire_33 36 rfl (nw_rdK ?_) nw_noX
    show nwV X _ _ 3 H1 0 0 36 [(0, .ref y), (1, .int (nI kn)), (2, .int q)] [.int (b2i (nw_rg 0 4 q))]
    refine nw_ifneB C 45 dX4_ofWire_36 (by decide) 39 rfl (fun h7 => ?_) (fun h7 => ?_)
    · obtain ⟨qn, hk8, rfl⟩ := nw_rg_nat (by omega) (by omega) h7
      have en_qn : nw_nn (nI qn) = qn := nw_nn_nI (by omega)
      refine nw_aload_n C 0 dX4_ofWire_45 rfl 46 rfl ?_
      refine nw_iload_n C 1 dX4_ofWire_46 rfl 47 rfl ?_
      refine nw_iload_n C 2 dX4_ofWire_47 rfl 48 rfl ?_
      refine nw_callV C (mX4_wireNow _ C.hfl d ro am y σ (nI 0) kn qn H1 hB hW okM (by omega) (by omega)) kX4_wireNow q2012 (hmX.is C (ci := 9) rfl) (As := [.int (nI kn), .int (nI qn)]) (rest := []) rfl rfl ⟨⟨Nat.le_of_ble_eq_true rfl, Nat.le_of_ble_eq_true rfl⟩, Nat.le_of_ble_eq_true rfl, Nat.le_of_ble_eq_true rfl⟩ (Nat.le_of_ble_eq_true rfl) (fun _ h8 h9 => absurd h9 (Nat.not_le.mpr h8)) dX4_ofWire_48 51 rfl (nw_rdK ?_) nw_noX
      have hop : op_ofWire σ (nI kn) (nI qn) = (0, sp_wireNow (sg_in σ) ((sg_wi σ).2 kn) qn) := by simp [op_ofWire, h5, h7, en_kn, en_qn]
      exact nw_iret C dX4_ofWire_51 (Nat.le_refl _) (Nat.le_refl _) (by rw [hop]; exact ⟨rfl, ok, Nat.le_trans (Nat.le_of_eq hzb.symm) hext.1, ro, am, hR.ext hext, fun _ _ => rfl⟩)
    · refine nw_aload_n C 0 dX4_ofWire_39 rfl 40 rfl ?_
      refine nw_iconst C (nI 2) dX4_ofWire_40 (by decide) 41 rfl ?_
      refine nw_callV C (mX4_no _ C.hfl d y (.int (nI 0)) (.int (nI (gr_w (sg_gr σ)))) (.int (nI (gr_h (sg_gr σ)))) (.ref (am 9)) (.int (nI (gaM_f (sg_ga σ)))) (.int (oI (gaM_t (sg_ga σ)))) (.ref (am 1)) (.ref (am 2)) (.ref (am 3)) (.ref (am 4)) (.int (nI (wo_s (sg_wo σ)))) (.int (nI (wo_m (sg_wo σ)))) (.int (nI (sp_after (wo_x (sg_wo σ))))) (.ref (am 11)) (.ref (am 12)) (.int (nI (sg_ri σ))) (.ref (am 8)) (.ref (am 5)) (.ref (am 6)) (.int (nI (sg_rf σ))) (nI 2) H1 hB hyB hmX) kX4_no q1694 (hmX.is C (ci := 9) rfl) (As := [.int (nI 2)]) (rest := []) rfl rfl ⟨⟨Nat.le_of_ble_eq_true rfl, Nat.le_of_ble_eq_true rfl⟩, (show 0 + 0 ≤ 0 by omega), (show 0 + 0 ≤ 0 by omega)⟩ (Nat.le_of_ble_eq_true rfl) (fun q8 h8 h9 => h9.elim (fun e9 => by rw [e9]; exact hAy) (fun e9 => absurd h8 (Nat.not_lt.mpr e9))) dX4_ofWire_41 44 rfl (fun v9 H9 hR10 hz11 hq12 => ?_) nw_noX
      obtain ⟨rfl, ho13⟩ := hR10
      have hR8 := hR.ext hext
      have hR9 : nwMW d ro am y σ (nI 2) H9 := hR8.obj hz11 (fun q9 g9 n9 _ => hq12 q9 g9 (fun e9 => e9.elim n9 (Nat.not_le.mpr g9))) mSame.rfl ho13
      have hle9 : H.size ≤ H9.size := Nat.le_trans (Nat.le_of_eq hzb.symm) (Nat.le_trans hext.1 hz11)
      show nwV X _ _ 3 H9 (0 + 0) (0 + 0) 44 [(0, .ref y), (1, .int (nI kn)), (2, .int q)] [.int (nI 0)]
      refine nw_wide (k' := 0) (n' := 0) (by omega) (by omega) ?_
      have hop : op_ofWire σ (nI kn) q = (2, 0) := by simp [op_ofWire, h5, h7, en_kn]
      exact nw_iret C dX4_ofWire_44 (Nat.le_refl _) (Nat.le_refl _) (by rw [hop]; exact ⟨rfl, ok, hle9, ro, am, hR9, fun _ _ => rfl⟩)
  · refine nw_aload_n C 0 dX4_ofWire_24 rfl 25 rfl ?_
    refine nw_iconst C (nI 1) dX4_ofWire_25 (by decide) 26 rfl ?_
    refine nw_callV C (mX4_no _ C.hfl d y (.int (nI 0)) (.int (nI (gr_w (sg_gr σ)))) (.int (nI (gr_h (sg_gr σ)))) (.ref (am 9)) (.int (nI (gaM_f (sg_ga σ)))) (.int (oI (gaM_t (sg_ga σ)))) (.ref (am 1)) (.ref (am 2)) (.ref (am 3)) (.ref (am 4)) (.int (nI (wo_s (sg_wo σ)))) (.int (nI (wo_m (sg_wo σ)))) (.int (nI (sp_after (wo_x (sg_wo σ))))) (.ref (am 11)) (.ref (am 12)) (.int (nI (sg_ri σ))) (.ref (am 8)) (.ref (am 5)) (.ref (am 6)) (.int (nI (sg_rf σ))) (nI 1) H1 hB hyB hmX) kX4_no q1694 (hmX.is C (ci := 9) rfl) (As := [.int (nI 1)]) (rest := []) rfl rfl ⟨⟨Nat.le_of_ble_eq_true rfl, Nat.le_of_ble_eq_true rfl⟩, (show 0 + 0 ≤ 0 by omega), (show 0 + 0 ≤ 0 by omega)⟩ (Nat.le_of_ble_eq_true rfl) (fun q8 h8 h9 => h9.elim (fun e9 => by rw [e9]; exact hAy) (fun e9 => absurd h8 (Nat.not_lt.mpr e9))) dX4_ofWire_26 29 rfl (fun v9 H14 hR15 hz16 hq17 => ?_) nw_noX
    obtain ⟨rfl, ho18⟩ := hR15
    have hR8 := hR.ext hext
    have hR9 : nwMW d ro am y σ (nI 1) H14 := hR8.obj hz16 (fun q9 g9 n9 _ => hq17 q9 g9 (fun e9 => e9.elim n9 (Nat.not_le.mpr g9))) mSame.rfl ho18
    have hle9 : H.size ≤ H14.size := Nat.le_trans (Nat.le_of_eq hzb.symm) (Nat.le_trans hext.1 hz16)
    show nwV X _ _ 3 H14 (0 + 0) (0 + 0) 29 [(0, .ref y), (1, .int k), (2, .int q)] [.int (nI 0)]
    refine nw_wide (k' := 0) (n' := 0) (by omega) (by omega) ?_
    have hop : op_ofWire σ k q = (1, 0) := by simp [op_ofWire, h5]
    exact nw_iret C dX4_ofWire_29 (Nat.le_refl _) (Nat.le_refl _) (by rw [hop]; exact ⟨rfl, ok, hle9, ro, am, hR9, fun _ _ => rfl⟩)
set_option maxHeartbeats 4000000 in
theorem mX4_many (l : Launch) (hf : l.flags = flags0) (d : nwD) (ro am : Nat → Nat) (y : Nat) (σ : spSg) (th : Int32) (q : Int32) (H : Heap) (hB : nd_B d ≤ H.size) (hR : nwMW d ro am y σ th H) (ok : spOk σ) : nwMt l d yX4_many cX4_many 2 (some .int) 9 213 1 13 [.ref y, .int q] H (nwMv d ro y ((op_many σ q).1, (op_many σ q).2, σ) H) nwNo (nwAM ro H) := by
  refine nw_start "NightwatchWallModel" "many" hf (by decide +kernel) rfl rfl (fun _ h => Or.inr h) (nwAM_B hR hB) (Nat.le_of_ble_eq_true rfl) ?_
  intro X C
  have hW := hR.wc
  have okM := ok.m
  have hyB := (hR.ok0 (show ro y ≠ 0 by rw [hR.2.1.2]; decide)).1
  have hAy : nwAM ro H y := Or.inl (by rw [hR.2.1.2]; decide +kernel)
  have hW0 := hW
  have hB0 := hB
  have hE := C.E0
  have hext : nwExt H H := nwExt.rfl
  obtain ⟨hmX, hmKi, hmLa, hmFo, hmGu, hmPo, hmIn, hmWi, hmWo, hmKe⟩ := id hW
  obtain ⟨okg, okl, okf, oku, okp, oki, okw, okd, okk, oka⟩ := id ok
  have hn64 : gr_n (sg_gr σ) ≤ 64 := okg.n
  have oku1 := oku.1
  have oki1 := oki.1
  have okp1 := okp.1
  have okw1 := okw.1
  have okl1 := okl.1
  have okf1 := okf.1
  show nwV X _ _ 2 H 0 0 0 [(0, .ref y), (1, .int q)] []
  refine nw_aload_n C 0 dX4_many_0 rfl 1 rfl ?_
  refine nw_iconst C (nI 0) dX4_many_1 (by decide) 2 rfl ?_
  refine nw_put C hmX hAy (T := TX4) (ty0 := tyX4) rfl in_X4 tyX4_ok nmX4 0 (by decide) q1622 (Or.inl rfl) rfl rfl rfl (Nat.le_of_ble_eq_true rfl) dX4_many_2 5 rfl (fun H1 ho2 hz3 hq4 => ?_)
  have ho2 : nwO d y 9 [.int (nI 0), .int (nI (gr_w (sg_gr σ))), .int (nI (gr_h (sg_gr σ))), .ref (am 9), .int (nI (gaM_f (sg_ga σ))), .int (oI (gaM_t (sg_ga σ))), .ref (am 1), .ref (am 2), .ref (am 3), .ref (am 4), .int (nI (wo_s (sg_wo σ))), .int (nI (wo_m (sg_wo σ))), .int (nI (sp_after (wo_x (sg_wo σ)))), .ref (am 11), .ref (am 12), .int (nI (sg_ri σ)), .ref (am 8), .ref (am 5), .ref (am 6), .int (nI (sg_rf σ))] H1 := ho2
  replace hR := hR.th hz3 hq4 ho2
  have hzb : H1.size = H.size := hz3
  replace hB0 : nd_B d ≤ H1.size := by rw [hz3]; exact hB0
  replace hB := hB0
  replace hE := hE.kept (fun q9 _ hb9 => hq4 q9 (fun e9 => hb9 (by rw [e9]; exact hyB)))
  have hE0 := hE
  replace hW0 := hR.wc
  replace hW := hW0
  replace hext : nwExt H1 H1 := nwExt.rfl
  clear hmX hmKi hmLa hmFo hmGu hmPo hmIn hmWi hmWo hmKe
  obtain ⟨hmX, hmKi, hmLa, hmFo, hmGu, hmPo, hmIn, hmWi, hmWo, hmKe⟩ := id hW
  refine nw_iload_n C 1 dX4_many_5 rfl 6 rfl ?_
  refine nw_iconst C (nI 0) dX4_many_6 (by decide) 7 rfl ?_
  refine nw_bipush C (nI 12) dX4_many_7 (by decide) 9 rfl ?_
  refine nw_callS C (mX4_inR _ C.hfl d q (nI 0) (nI 12) H1 hB) kX4_in q1691 (As := [.int q, .int (nI 0), .int (nI 12)]) (rest := []) rfl rfl ⟨⟨Nat.le_of_ble_eq_true rfl, Nat.le_of_ble_eq_true rfl⟩, Nat.le_of_ble_eq_true rfl, Nat.le_of_ble_eq_true rfl⟩ (Nat.le_of_ble_eq_true rfl) (fun _ h8 h9 => absurd h9 (Nat.not_le.mpr h8)) dX4_many_9 12 rfl (nw_rdK ?_) nw_noX
  show nwV X _ _ 2 H1 0 0 12 [(0, .ref y), (1, .int q)] [.int (b2i (nw_rg 0 12 q))]
  refine nw_ifneB C 21 dX4_many_12 (by decide) 15 rfl (fun h5 => ?_) (fun h5 => ?_)
  · obtain ⟨qn, hk6, rfl⟩ := nw_rg_nat (by omega) (by omega) h5
    have en_qn : nw_nn (nI qn) = qn := nw_nn_nI (by omega)
    refine nw_aload_n C 0 dX4_many_21 rfl 22 rfl ?_
    refine nw_iload_n C 1 dX4_many_22 rfl 23 rfl ?_
    refine nw_callV C (mX4_manyNow _ C.hfl d ro am y σ (nI 0) qn H1 hB hW okM (by omega)) kX4_manyNow q2062 (hmX.is C (ci := 9) rfl) (As := [.int (nI qn)]) (rest := []) rfl rfl ⟨⟨Nat.le_of_ble_eq_true rfl, Nat.le_of_ble_eq_true rfl⟩, (show 0 + 1 ≤ 1 by omega), (show 0 + 13 ≤ 13 by omega)⟩ (Nat.le_of_ble_eq_true rfl) (fun _ h8 h9 => absurd h9 (Nat.not_le.mpr h8)) dX4_many_23 26 rfl (fun v9 H7 hR8 hz9 hq10 => ?_) nw_noX
    obtain ⟨rfl, -⟩ := hR8
    replace hext := hext.call hz9 hq10
    replace hW := hW0.ext hext.2
    replace hE := hE0.ext hext.2
    replace hB := Nat.le_trans hB0 hext.1
    clear hmX hmKi hmLa hmFo hmGu hmPo hmIn hmWi hmWo hmKe
    obtain ⟨hmX, hmKi, hmLa, hmFo, hmGu, hmPo, hmIn, hmWi, hmWo, hmKe⟩ := id hW
    show nwV X _ _ 2 H7 (0 + 1) (0 + 13) 26 [(0, .ref y), (1, .int (nI qn))] [.int (nI (sp_manyNow σ qn))]
    refine nw_wide (k' := 1) (n' := 13) (by omega) (by omega) ?_
    have hop : op_many σ (nI qn) = (0, nI (sp_manyNow σ qn)) := by simp [op_many, h5, en_qn]
    exact nw_iret C dX4_many_26 (by omega) (by omega) (by rw [hop]; exact ⟨rfl, ok, Nat.le_trans (Nat.le_of_eq hzb.symm) hext.1, ro, am, hR.ext hext, fun _ _ => rfl⟩)
  · refine nw_aload_n C 0 dX4_many_15 rfl 16 rfl ?_
    refine nw_iconst C (nI 1) dX4_many_16 (by decide) 17 rfl ?_
    refine nw_callV C (mX4_no _ C.hfl d y (.int (nI 0)) (.int (nI (gr_w (sg_gr σ)))) (.int (nI (gr_h (sg_gr σ)))) (.ref (am 9)) (.int (nI (gaM_f (sg_ga σ)))) (.int (oI (gaM_t (sg_ga σ)))) (.ref (am 1)) (.ref (am 2)) (.ref (am 3)) (.ref (am 4)) (.int (nI (wo_s (sg_wo σ)))) (.int (nI (wo_m (sg_wo σ)))) (.int (nI (sp_after (wo_x (sg_wo σ))))) (.ref (am 11)) (.ref (am 12)) (.int (nI (sg_ri σ))) (.ref (am 8)) (.ref (am 5)) (.ref (am 6)) (.int (nI (sg_rf σ))) (nI 1) H1 hB hyB hmX) kX4_no q1694 (hmX.is C (ci := 9) rfl) (As := [.int (nI 1)]) (rest := []) rfl rfl ⟨⟨Nat.le_of_ble_eq_true rfl, Nat.le_of_ble_eq_true rfl⟩, (show 0 + 0 ≤ 1 by omega), (show 0 + 0 ≤ 13 by omega)⟩ (Nat.le_of_ble_eq_true rfl) (fun q8 h8 h9 => h9.elim (fun e9 => by rw [e9]; exact hAy) (fun e9 => absurd h8 (Nat.not_lt.mpr e9))) dX4_many_17 20 rfl (fun v9 H11 hR12 hz13 hq14 => ?_) nw_noX
    obtain ⟨rfl, ho15⟩ := hR12
    have hR8 := hR.ext hext
    have hR9 : nwMW d ro am y σ (nI 1) H11 := hR8.obj hz13 (fun q9 g9 n9 _ => hq14 q9 g9 (fun e9 => e9.elim n9 (Nat.not_le.mpr g9))) mSame.rfl ho15
    have hle9 : H.size ≤ H11.size := Nat.le_trans (Nat.le_of_eq hzb.symm) (Nat.le_trans hext.1 hz13)
    show nwV X _ _ 2 H11 (0 + 0) (0 + 0) 20 [(0, .ref y), (1, .int q)] [.int (nI 0)]
    refine nw_wide (k' := 0) (n' := 0) (by omega) (by omega) ?_
    have hop : op_many σ q = (1, 0) := by simp [op_many, h5]
    exact nw_iret C dX4_many_20 (by omega) (by omega) (by rw [hop]; exact ⟨rfl, ok, hle9, ro, am, hR9, fun _ _ => rfl⟩)
set_option maxHeartbeats 4000000 in
theorem mX4_isSound (l : Launch) (hf : l.flags = flags0) (d : nwD) (ro am : Nat → Nat) (y : Nat) (σ : spSg) (th : Int32)  (H : Heap) (hB : nd_B d ≤ H.size) (hR : nwMW d ro am y σ th H) (ok : spOk σ) : nwMt l d yX4_isSound cX4_isSound 1 (some .boolean) 6 131 0 0 [.ref y] H (nwMv d ro y (((0, b2i (sp_sound σ))).1, ((0, b2i (sp_sound σ))).2, σ) H) nwNo (nwAM ro H) := by
  refine nw_start "NightwatchWallModel" "isSound" hf (by decide +kernel) rfl rfl (fun _ h => Or.inr h) (nwAM_B hR hB) (Nat.le_of_ble_eq_true rfl) ?_
  intro X C
  have hW := hR.wc
  have okM := ok.m
  have hyB := (hR.ok0 (show ro y ≠ 0 by rw [hR.2.1.2]; decide)).1
  have hAy : nwAM ro H y := Or.inl (by rw [hR.2.1.2]; decide +kernel)
  have hW0 := hW
  have hB0 := hB
  have hE := C.E0
  have hext : nwExt H H := nwExt.rfl
  obtain ⟨hmX, hmKi, hmLa, hmFo, hmGu, hmPo, hmIn, hmWi, hmWo, hmKe⟩ := id hW
  obtain ⟨okg, okl, okf, oku, okp, oki, okw, okd, okk, oka⟩ := id ok
  have hn64 : gr_n (sg_gr σ) ≤ 64 := okg.n
  have oku1 := oku.1
  have oki1 := oki.1
  have okp1 := okp.1
  have okw1 := okw.1
  have okl1 := okl.1
  have okf1 := okf.1
  show nwV X _ _ 1 H 0 0 0 [(0, .ref y)] []
  refine nw_aload_n C 0 dX4_isSound_0 rfl 1 rfl ?_
  refine nw_iconst C (nI 0) dX4_isSound_1 (by decide) 2 rfl ?_
  refine nw_put C hmX hAy (T := TX4) (ty0 := tyX4) rfl in_X4 tyX4_ok nmX4 0 (by decide) q1622 (Or.inl rfl) rfl rfl rfl (Nat.le_of_ble_eq_true rfl) dX4_isSound_2 5 rfl (fun H1 ho2 hz3 hq4 => ?_)
  have ho2 : nwO d y 9 [.int (nI 0), .int (nI (gr_w (sg_gr σ))), .int (nI (gr_h (sg_gr σ))), .ref (am 9), .int (nI (gaM_f (sg_ga σ))), .int (oI (gaM_t (sg_ga σ))), .ref (am 1), .ref (am 2), .ref (am 3), .ref (am 4), .int (nI (wo_s (sg_wo σ))), .int (nI (wo_m (sg_wo σ))), .int (nI (sp_after (wo_x (sg_wo σ)))), .ref (am 11), .ref (am 12), .int (nI (sg_ri σ)), .ref (am 8), .ref (am 5), .ref (am 6), .int (nI (sg_rf σ))] H1 := ho2
  replace hR := hR.th hz3 hq4 ho2
  have hzb : H1.size = H.size := hz3
  replace hB0 : nd_B d ≤ H1.size := by rw [hz3]; exact hB0
  replace hB := hB0
  replace hE := hE.kept (fun q9 _ hb9 => hq4 q9 (fun e9 => hb9 (by rw [e9]; exact hyB)))
  have hE0 := hE
  replace hW0 := hR.wc
  replace hW := hW0
  replace hext : nwExt H1 H1 := nwExt.rfl
  clear hmX hmKi hmLa hmFo hmGu hmPo hmIn hmWi hmWo hmKe
  obtain ⟨hmX, hmKi, hmLa, hmFo, hmGu, hmPo, hmIn, hmWi, hmWo, hmKe⟩ := id hW
  refine nw_aload_n C 0 dX4_isSound_5 rfl 6 rfl ?_
  refine nw_callV C (mX4_isSoundNow _ C.hfl d ro am y σ (nI 0)  H1 hB hW okM ) kX4_isSoundNow q2085 (hmX.is C (ci := 9) rfl) (As := []) (rest := []) rfl rfl ⟨⟨Nat.le_of_ble_eq_true rfl, Nat.le_of_ble_eq_true rfl⟩, Nat.le_of_ble_eq_true rfl, Nat.le_of_ble_eq_true rfl⟩ (Nat.le_of_ble_eq_true rfl) (fun _ h8 h9 => absurd h9 (Nat.not_le.mpr h8)) dX4_isSound_6 9 rfl (nw_rdK ?_) nw_noX
  have hop : (0, b2i (sp_sound σ)) = (0, b2i (sp_sound σ)) := rfl
  exact nw_nret C dX4_isSound_9 (b2i_narrow _) (Nat.le_refl _) (Nat.le_refl _) (by rw [hop]; exact ⟨rfl, ok, Nat.le_trans (Nat.le_of_eq hzb.symm) hext.1, ro, am, hR.ext hext, fun _ _ => rfl⟩)
set_option maxHeartbeats 4000000 in
theorem mX4_lapse (l : Launch) (hf : l.flags = flags0) (d : nwD) (ro am : Nat → Nat) (y : Nat) (σ : spSg) (th : Int32) (c : Int32) (a : Int32) (b : Int32) (H : Heap) (hB : nd_B d ≤ H.size) (hR : nwMW d ro am y σ th H) (ok : spOk σ) : nwMt l d yX4_lapse cX4_lapse 5 (some .int) 7 157 0 0 [.ref y, .int c, .int a, .int b] H (nwMv d ro y ((op_lapse σ c a b).1, (op_lapse σ c a b).2, σ) H) nwNo (nwAM ro H) := by
  refine nw_start "NightwatchWallModel" "lapse" hf (by decide +kernel) rfl rfl (fun _ h => Or.inr h) (nwAM_B hR hB) (Nat.le_of_ble_eq_true rfl) ?_
  intro X C
  have hW := hR.wc
  have okM := ok.m
  have hyB := (hR.ok0 (show ro y ≠ 0 by rw [hR.2.1.2]; decide)).1
  have hAy : nwAM ro H y := Or.inl (by rw [hR.2.1.2]; decide +kernel)
  have hW0 := hW
  have hB0 := hB
  have hE := C.E0
  have hext : nwExt H H := nwExt.rfl
  obtain ⟨hmX, hmKi, hmLa, hmFo, hmGu, hmPo, hmIn, hmWi, hmWo, hmKe⟩ := id hW
  obtain ⟨okg, okl, okf, oku, okp, oki, okw, okd, okk, oka⟩ := id ok
  have hn64 : gr_n (sg_gr σ) ≤ 64 := okg.n
  have oku1 := oku.1
  have oki1 := oki.1
  have okp1 := okp.1
  have okw1 := okw.1
  have okl1 := okl.1
  have okf1 := okf.1
  show nwV X _ _ 5 H 0 0 0 [(0, .ref y), (1, .int c), (2, .int a), (3, .int b)] []
  refine nw_aload_n C 0 dX4_lapse_0 rfl 1 rfl ?_
  refine nw_iconst C (nI 0) dX4_lapse_1 (by decide) 2 rfl ?_
  refine nw_put C hmX hAy (T := TX4) (ty0 := tyX4) rfl in_X4 tyX4_ok nmX4 0 (by decide) q1622 (Or.inl rfl) rfl rfl rfl (Nat.le_of_ble_eq_true rfl) dX4_lapse_2 5 rfl (fun H2 ho3 hz4 hq5 => ?_)
  have ho3 : nwO d y 9 [.int (nI 0), .int (nI (gr_w (sg_gr σ))), .int (nI (gr_h (sg_gr σ))), .ref (am 9), .int (nI (gaM_f (sg_ga σ))), .int (oI (gaM_t (sg_ga σ))), .ref (am 1), .ref (am 2), .ref (am 3), .ref (am 4), .int (nI (wo_s (sg_wo σ))), .int (nI (wo_m (sg_wo σ))), .int (nI (sp_after (wo_x (sg_wo σ)))), .ref (am 11), .ref (am 12), .int (nI (sg_ri σ)), .ref (am 8), .ref (am 5), .ref (am 6), .int (nI (sg_rf σ))] H2 := ho3
  replace hR := hR.th hz4 hq5 ho3
  have hzb : H2.size = H.size := hz4
  replace hB0 : nd_B d ≤ H2.size := by rw [hz4]; exact hB0
  replace hB := hB0
  replace hE := hE.kept (fun q9 _ hb9 => hq5 q9 (fun e9 => hb9 (by rw [e9]; exact hyB)))
  have hE0 := hE
  replace hW0 := hR.wc
  replace hW := hW0
  replace hext : nwExt H2 H2 := nwExt.rfl
  clear hmX hmKi hmLa hmFo hmGu hmPo hmIn hmWi hmWo hmKe
  obtain ⟨hmX, hmKi, hmLa, hmFo, hmGu, hmPo, hmIn, hmWi, hmWo, hmKe⟩ := id hW
  refine nw_aload_n C 0 dX4_lapse_5 rfl 6 rfl ?_
  refine nw_iload_n C 1 dX4_lapse_6 rfl 7 rfl ?_
  refine nw_callV C (mX4_isCell _ C.hfl d ro am y σ (nI 0) c H2 hB hW okM ) kX4_isCell q1702 (hmX.is C (ci := 9) rfl) (As := [.int c]) (rest := []) rfl rfl ⟨⟨Nat.le_of_ble_eq_true rfl, Nat.le_of_ble_eq_true rfl⟩, Nat.le_of_ble_eq_true rfl, Nat.le_of_ble_eq_true rfl⟩ (Nat.le_of_ble_eq_true rfl) (fun _ h8 h9 => absurd h9 (Nat.not_le.mpr h8)) dX4_lapse_7 10 rfl (nw_rdK ?_) nw_noX
  refine nw_ifneB C 19 dX4_lapse_10 (by decide) 13 rfl (fun h6 => ?_) (fun h6 => ?_)
  · obtain ⟨cn, hk7, rfl⟩ := nw_ix_nat (by omega) h6
    have en_cn : nw_nn (nI cn) = cn := nw_nn_nI (by omega)
    refine nw_iload_n C 2 dX4_lapse_19 rfl 20 rfl ?_
    refine nw_callS C (mX4_isMinute _ C.hfl d a H2 hB) kX4_isMinute q1722 (As := [.int a]) (rest := []) rfl rfl ⟨⟨Nat.le_of_ble_eq_true rfl, Nat.le_of_ble_eq_true rfl⟩, Nat.le_of_ble_eq_true rfl, Nat.le_of_ble_eq_true rfl⟩ (Nat.le_of_ble_eq_true rfl) (fun _ h8 h9 => absurd h9 (Nat.not_le.mpr h8)) dX4_lapse_20 23 rfl (nw_rdK ?_) nw_noX
    refine nw_ifeqB C 37 dX4_lapse_23 (by decide) 26 rfl (fun h8 => ?_) (fun h8 => ?_)
    · refine nw_aload_n C 0 dX4_lapse_37 rfl 38 rfl ?_
      refine nw_iconst C (nI 2) dX4_lapse_38 (by decide) 39 rfl ?_
      refine nw_callV C (mX4_no _ C.hfl d y (.int (nI 0)) (.int (nI (gr_w (sg_gr σ)))) (.int (nI (gr_h (sg_gr σ)))) (.ref (am 9)) (.int (nI (gaM_f (sg_ga σ)))) (.int (oI (gaM_t (sg_ga σ)))) (.ref (am 1)) (.ref (am 2)) (.ref (am 3)) (.ref (am 4)) (.int (nI (wo_s (sg_wo σ)))) (.int (nI (wo_m (sg_wo σ)))) (.int (nI (sp_after (wo_x (sg_wo σ))))) (.ref (am 11)) (.ref (am 12)) (.int (nI (sg_ri σ))) (.ref (am 8)) (.ref (am 5)) (.ref (am 6)) (.int (nI (sg_rf σ))) (nI 2) H2 hB hyB hmX) kX4_no q1694 (hmX.is C (ci := 9) rfl) (As := [.int (nI 2)]) (rest := []) rfl rfl ⟨⟨Nat.le_of_ble_eq_true rfl, Nat.le_of_ble_eq_true rfl⟩, (show 0 + 0 ≤ 0 by omega), (show 0 + 0 ≤ 0 by omega)⟩ (Nat.le_of_ble_eq_true rfl) (fun q8 h8 h9 => h9.elim (fun e9 => by rw [e9]; exact hAy) (fun e9 => absurd h8 (Nat.not_lt.mpr e9))) dX4_lapse_39 42 rfl (fun v9 H9 hR10 hz11 hq12 => ?_) nw_noX
      obtain ⟨rfl, ho13⟩ := hR10
      have hR8 := hR.ext hext
      have hR9 : nwMW d ro am y σ (nI 2) H9 := hR8.obj hz11 (fun q9 g9 n9 _ => hq12 q9 g9 (fun e9 => e9.elim n9 (Nat.not_le.mpr g9))) mSame.rfl ho13
      have hle9 : H.size ≤ H9.size := Nat.le_trans (Nat.le_of_eq hzb.symm) (Nat.le_trans hext.1 hz11)
      show nwV X _ _ 5 H9 (0 + 0) (0 + 0) 42 [(0, .ref y), (1, .int (nI cn)), (2, .int a), (3, .int b)] [.int (nI 0)]
      refine nw_wide (k' := 0) (n' := 0) (by omega) (by omega) ?_
      have hop : op_lapse σ (nI cn) a b = (2, 0) := by simp [op_lapse, h6, h8, en_cn]
      exact nw_iret C dX4_lapse_42 (Nat.le_refl _) (Nat.le_refl _) (by rw [hop]; exact ⟨rfl, ok, hle9, ro, am, hR9, fun _ _ => rfl⟩)
    · obtain ⟨an, hk14, rfl⟩ := nw_rg_nat (by omega) (by omega) h8
      have en_an : nw_nn (nI an) = an := nw_nn_nI (by omega)
      refine nw_iload_n C 3 dX4_lapse_26 rfl 27 rfl ?_
      refine nw_iload_n C 2 dX4_lapse_27 rfl 28 rfl ?_
      refine nw_sipush C (nI 239) dX4_lapse_28 (by decide) 31 rfl ?_
      refine nw_callS C (mX4_inR _ C.hfl d b (nI an) (nI 239) H2 hB) kX4_in q1691 (As := [.int b, .int (nI an), .int (nI 239)]) (rest := []) rfl rfl ⟨⟨Nat.le_of_ble_eq_true rfl, Nat.le_of_ble_eq_true rfl⟩, Nat.le_of_ble_eq_true rfl, Nat.le_of_ble_eq_true rfl⟩ (Nat.le_of_ble_eq_true rfl) (fun _ h8 h9 => absurd h9 (Nat.not_le.mpr h8)) dX4_lapse_31 34 rfl (nw_rdK ?_) nw_noX
      show nwV X _ _ 5 H2 0 0 34 [(0, .ref y), (1, .int (nI cn)), (2, .int (nI an)), (3, .int b)] [.int (b2i (nw_rg an 239 b))]
      refine nw_ifneB C 43 dX4_lapse_34 (by decide) 37 rfl (fun h15 => ?_) (fun h15 => ?_)
      · obtain ⟨bn, hk16, rfl⟩ := nw_rg_nat (by omega) (by omega) h15
        have en_bn : nw_nn (nI bn) = bn := nw_nn_nI (by omega)
        refine nw_iload_n C 2 dX4_lapse_43 rfl 44 rfl ?_
        refine nw_istore C [(4, .int (nI an)), (0, .ref y), (1, .int (nI cn)), (2, .int (nI an)), (3, .int (nI bn))] dX4_lapse_44 (by decide) rfl 46 rfl ?_
        have lp1 : ∀ (fu : Nat) (m : Nat), (an ≤ m) → (m ≤ bn + 1) → (∀ k, an ≤ k → k < m → (fun t => !sp_watched (sg_gr σ) (sg_la σ) (sg_fo σ) (sg_gu σ) cn t) k = false) → bn + 1 - m < fu → nwV X (nwAM ro H) (nwQE X (nwMv d ro y ((op_lapse σ (nI cn) (nI an) (nI bn)).1, (op_lapse σ (nI cn) (nI an) (nI bn)).2, σ) H) nwNo (nwAM ro H) 0 0) 5 H2 0 0 46 [(0, .ref y), (1, .int (nI cn)), (3, .int (nI bn)), (4, .int (nI m))] [] := by
          intro fu
          induction fu with
          | zero => intro m _ _ _ hm; exact absurd hm (Nat.not_lt_zero _)
          | succ fu ih_lp1 =>
            intro m h1 hi hno hm
            refine nw_iload C 3 dX4_lapse_46 rfl 48 rfl ?_
            refine nw_iload_n C 2 dX4_lapse_48 rfl 49 rfl ?_
            refine nw_icmpgtN C (by omega) 71 dX4_lapse_49 (by decide) 52 rfl (fun h17 => ?_) (fun h17 => ?_)
            · refine nw_iconst C (oI none) dX4_lapse_71 (by decide) 72 rfl ?_
              have hz0 : sp_fst (fun t => !sp_watched (sg_gr σ) (sg_la σ) (sg_fo σ) (sg_gu σ) cn t) an (bn + 1 - an) = none := sp_fst_no (fun k h5 h6 => hno k h5 (by omega))
              have hq1 : nw_rg 0 239 (nI bn) = true := nw_rgT (by omega) (by decide)
              have hq2 : ¬ nI bn < nI an := fun e9 => absurd ((nI_ltI (by omega) (by omega)).mp e9) (by omega)
              have hop : op_lapse σ (nI cn) (nI an) (nI bn) = (0, oI none) := by simp [op_lapse, hq1, hq2, hz0, h6, h8, en_cn, en_an, en_bn]; try rfl
              exact nw_iret C dX4_lapse_72 (Nat.le_refl _) (Nat.le_refl _) (by rw [hop]; exact ⟨rfl, ok, Nat.le_trans (Nat.le_of_eq hzb.symm) hext.1, ro, am, hR.ext hext, fun _ _ => rfl⟩)
            · refine nw_aload_n C 0 dX4_lapse_52 rfl 53 rfl ?_
              refine nw_iload_n C 1 dX4_lapse_53 rfl 54 rfl ?_
              refine nw_iload C 3 dX4_lapse_54 rfl 56 rfl ?_
              refine nw_callV C (mX4_isWatched _ C.hfl d ro am y σ (nI 0) cn m H2 hB hW okM (by omega) (by omega)) kX4_isWatched q1840 (hmX.is C (ci := 9) rfl) (As := [.int (nI cn), .int (nI m)]) (rest := []) rfl rfl ⟨⟨Nat.le_of_ble_eq_true rfl, Nat.le_of_ble_eq_true rfl⟩, Nat.le_of_ble_eq_true rfl, Nat.le_of_ble_eq_true rfl⟩ (Nat.le_of_ble_eq_true rfl) (fun _ h8 h9 => absurd h9 (Nat.not_le.mpr h8)) dX4_lapse_56 59 rfl (nw_rdK ?_) nw_noX
              refine nw_ifneB C 65 dX4_lapse_59 (by decide) 62 rfl (fun h18 => ?_) (fun h18 => ?_)
              · refine nw_iincN C 3 (c0 := 1) [(4, .int (nI (m + 1))), (0, .ref y), (1, .int (nI cn)), (3, .int (nI bn))] dX4_lapse_65 rfl (by decide) rfl 68 rfl ?_
                refine nw_goto C 46 dX4_lapse_68 (by decide) ?_
                exact (nw_sub [1, 2, 3, 0] rfl (ih_lp1 (m + 1) (by omega) (by omega) (fun k h5 h6 => (Nat.lt_or_ge k m).elim (fun g5 => hno k h5 g5) (fun g5 => by rw [show k = m by omega]; simp [h18])) (by omega)))
              · refine nw_iload C 3 dX4_lapse_62 rfl 64 rfl ?_
                have hz0 : sp_fst (fun t => !sp_watched (sg_gr σ) (sg_la σ) (sg_fo σ) (sg_gu σ) cn t) an (bn + 1 - an) = some m := sp_fst_at hno h1 (by omega) (by simp [h18])
                have hq1 : nw_rg 0 239 (nI bn) = true := nw_rgT (by omega) (by decide)
                have hq2 : ¬ nI bn < nI an := fun e9 => absurd ((nI_ltI (by omega) (by omega)).mp e9) (by omega)
                have hop : op_lapse σ (nI cn) (nI an) (nI bn) = (0, nI m) := by simp [op_lapse, hq1, hq2, hz0, h6, h8, en_cn, en_an, en_bn]; try rfl
                exact nw_iret C dX4_lapse_64 (Nat.le_refl _) (Nat.le_refl _) (by rw [hop]; exact ⟨rfl, ok, Nat.le_trans (Nat.le_of_eq hzb.symm) hext.1, ro, am, hR.ext hext, fun _ _ => rfl⟩)
        exact (nw_sub [1, 2, 4, 0] rfl (lp1 _ an (Nat.le_refl _) (by omega) (fun k h5 h6 => absurd h6 (Nat.not_lt.mpr h5)) (Nat.lt_succ_self _)))
      · refine nw_aload_n C 0 dX4_lapse_37 rfl 38 rfl ?_
        refine nw_iconst C (nI 2) dX4_lapse_38 (by decide) 39 rfl ?_
        refine nw_callV C (mX4_no _ C.hfl d y (.int (nI 0)) (.int (nI (gr_w (sg_gr σ)))) (.int (nI (gr_h (sg_gr σ)))) (.ref (am 9)) (.int (nI (gaM_f (sg_ga σ)))) (.int (oI (gaM_t (sg_ga σ)))) (.ref (am 1)) (.ref (am 2)) (.ref (am 3)) (.ref (am 4)) (.int (nI (wo_s (sg_wo σ)))) (.int (nI (wo_m (sg_wo σ)))) (.int (nI (sp_after (wo_x (sg_wo σ))))) (.ref (am 11)) (.ref (am 12)) (.int (nI (sg_ri σ))) (.ref (am 8)) (.ref (am 5)) (.ref (am 6)) (.int (nI (sg_rf σ))) (nI 2) H2 hB hyB hmX) kX4_no q1694 (hmX.is C (ci := 9) rfl) (As := [.int (nI 2)]) (rest := []) rfl rfl ⟨⟨Nat.le_of_ble_eq_true rfl, Nat.le_of_ble_eq_true rfl⟩, (show 0 + 0 ≤ 0 by omega), (show 0 + 0 ≤ 0 by omega)⟩ (Nat.le_of_ble_eq_true rfl) (fun q8 h8 h9 => h9.elim (fun e9 => by rw [e9]; exact hAy) (fun e9 => absurd h8 (Nat.not_lt.mpr e9))) dX4_lapse_39 42 rfl (fun v9 H19 hR20 hz21 hq22 => ?_) nw_noX
        obtain ⟨rfl, ho23⟩ := hR20
        have hR8 := hR.ext hext
        have hR9 : nwMW d ro am y σ (nI 2) H19 := hR8.obj hz21 (fun q9 g9 n9 _ => hq22 q9 g9 (fun e9 => e9.elim n9 (Nat.not_le.mpr g9))) mSame.rfl ho23
        have hle9 : H.size ≤ H19.size := Nat.le_trans (Nat.le_of_eq hzb.symm) (Nat.le_trans hext.1 hz21)
        show nwV X _ _ 5 H19 (0 + 0) (0 + 0) 42 [(0, .ref y), (1, .int (nI cn)), (2, .int (nI an)), (3, .int b)] [.int (nI 0)]
        refine nw_wide (k' := 0) (n' := 0) (by omega) (by omega) ?_
        have hop : op_lapse σ (nI cn) (nI an) b = (2, 0) := by
          rcases nw_rgF (by omega) h15 with hq1 | ⟨hq1, hq2⟩
          · simp [op_lapse, hq1, h6, h8, h15, en_cn, en_an]
          · simp [op_lapse, hq1, hq2, h6, h8, h15, en_cn, en_an]
        exact nw_iret C dX4_lapse_42 (Nat.le_refl _) (Nat.le_refl _) (by rw [hop]; exact ⟨rfl, ok, hle9, ro, am, hR9, fun _ _ => rfl⟩)
  · refine nw_aload_n C 0 dX4_lapse_13 rfl 14 rfl ?_
    refine nw_iconst C (nI 1) dX4_lapse_14 (by decide) 15 rfl ?_
    refine nw_callV C (mX4_no _ C.hfl d y (.int (nI 0)) (.int (nI (gr_w (sg_gr σ)))) (.int (nI (gr_h (sg_gr σ)))) (.ref (am 9)) (.int (nI (gaM_f (sg_ga σ)))) (.int (oI (gaM_t (sg_ga σ)))) (.ref (am 1)) (.ref (am 2)) (.ref (am 3)) (.ref (am 4)) (.int (nI (wo_s (sg_wo σ)))) (.int (nI (wo_m (sg_wo σ)))) (.int (nI (sp_after (wo_x (sg_wo σ))))) (.ref (am 11)) (.ref (am 12)) (.int (nI (sg_ri σ))) (.ref (am 8)) (.ref (am 5)) (.ref (am 6)) (.int (nI (sg_rf σ))) (nI 1) H2 hB hyB hmX) kX4_no q1694 (hmX.is C (ci := 9) rfl) (As := [.int (nI 1)]) (rest := []) rfl rfl ⟨⟨Nat.le_of_ble_eq_true rfl, Nat.le_of_ble_eq_true rfl⟩, (show 0 + 0 ≤ 0 by omega), (show 0 + 0 ≤ 0 by omega)⟩ (Nat.le_of_ble_eq_true rfl) (fun q8 h8 h9 => h9.elim (fun e9 => by rw [e9]; exact hAy) (fun e9 => absurd h8 (Nat.not_lt.mpr e9))) dX4_lapse_15 18 rfl (fun v9 H24 hR25 hz26 hq27 => ?_) nw_noX
    obtain ⟨rfl, ho28⟩ := hR25
    have hR8 := hR.ext hext
    have hR9 : nwMW d ro am y σ (nI 1) H24 := hR8.obj hz26 (fun q9 g9 n9 _ => hq27 q9 g9 (fun e9 => e9.elim n9 (Nat.not_le.mpr g9))) mSame.rfl ho28
    have hle9 : H.size ≤ H24.size := Nat.le_trans (Nat.le_of_eq hzb.symm) (Nat.le_trans hext.1 hz26)
    show nwV X _ _ 5 H24 (0 + 0) (0 + 0) 18 [(0, .ref y), (1, .int c), (2, .int a), (3, .int b)] [.int (nI 0)]
    refine nw_wide (k' := 0) (n' := 0) (by omega) (by omega) ?_
    have hop : op_lapse σ c a b = (1, 0) := by simp [op_lapse, h6]
    exact nw_iret C dX4_lapse_18 (Nat.le_refl _) (Nat.le_refl _) (by rw [hop]; exact ⟨rfl, ok, hle9, ro, am, hR9, fun _ _ => rfl⟩)
set_option maxHeartbeats 4000000 in
theorem mX4_sees (l : Launch) (hf : l.flags = flags0) (d : nwD) (ro am : Nat → Nat) (y : Nat) (σ : spSg) (th : Int32) (g : Int32) (c : Int32) (t : Int32) (H : Heap) (hB : nd_B d ≤ H.size) (hR : nwMW d ro am y σ th H) (ok : spOk σ) : nwMt l d yX4_sees cX4_sees 4 (some .boolean) 7 158 0 0 [.ref y, .int g, .int c, .int t] H (nwMv d ro y ((op_sees σ g c t).1, (op_sees σ g c t).2, σ) H) nwNo (nwAM ro H) := by
  refine nw_start "NightwatchWallModel" "sees" hf (by decide +kernel) rfl rfl (fun _ h => Or.inr h) (nwAM_B hR hB) (Nat.le_of_ble_eq_true rfl) ?_
  intro X C
  have hW := hR.wc
  have okM := ok.m
  have hyB := (hR.ok0 (show ro y ≠ 0 by rw [hR.2.1.2]; decide)).1
  have hAy : nwAM ro H y := Or.inl (by rw [hR.2.1.2]; decide +kernel)
  have hW0 := hW
  have hB0 := hB
  have hE := C.E0
  have hext : nwExt H H := nwExt.rfl
  obtain ⟨hmX, hmKi, hmLa, hmFo, hmGu, hmPo, hmIn, hmWi, hmWo, hmKe⟩ := id hW
  obtain ⟨okg, okl, okf, oku, okp, oki, okw, okd, okk, oka⟩ := id ok
  have hn64 : gr_n (sg_gr σ) ≤ 64 := okg.n
  have oku1 := oku.1
  have oki1 := oki.1
  have okp1 := okp.1
  have okw1 := okw.1
  have okl1 := okl.1
  have okf1 := okf.1
  show nwV X _ _ 4 H 0 0 0 [(0, .ref y), (1, .int g), (2, .int c), (3, .int t)] []
  refine nw_aload_n C 0 dX4_sees_0 rfl 1 rfl ?_
  refine nw_iconst C (nI 0) dX4_sees_1 (by decide) 2 rfl ?_
  refine nw_put C hmX hAy (T := TX4) (ty0 := tyX4) rfl in_X4 tyX4_ok nmX4 0 (by decide) q1622 (Or.inl rfl) rfl rfl rfl (Nat.le_of_ble_eq_true rfl) dX4_sees_2 5 rfl (fun H1 ho2 hz3 hq4 => ?_)
  have ho2 : nwO d y 9 [.int (nI 0), .int (nI (gr_w (sg_gr σ))), .int (nI (gr_h (sg_gr σ))), .ref (am 9), .int (nI (gaM_f (sg_ga σ))), .int (oI (gaM_t (sg_ga σ))), .ref (am 1), .ref (am 2), .ref (am 3), .ref (am 4), .int (nI (wo_s (sg_wo σ))), .int (nI (wo_m (sg_wo σ))), .int (nI (sp_after (wo_x (sg_wo σ)))), .ref (am 11), .ref (am 12), .int (nI (sg_ri σ)), .ref (am 8), .ref (am 5), .ref (am 6), .int (nI (sg_rf σ))] H1 := ho2
  replace hR := hR.th hz3 hq4 ho2
  have hzb : H1.size = H.size := hz3
  replace hB0 : nd_B d ≤ H1.size := by rw [hz3]; exact hB0
  replace hB := hB0
  replace hE := hE.kept (fun q9 _ hb9 => hq4 q9 (fun e9 => hb9 (by rw [e9]; exact hyB)))
  have hE0 := hE
  replace hW0 := hR.wc
  replace hW := hW0
  replace hext : nwExt H1 H1 := nwExt.rfl
  clear hmX hmKi hmLa hmFo hmGu hmPo hmIn hmWi hmWo hmKe
  obtain ⟨hmX, hmKi, hmLa, hmFo, hmGu, hmPo, hmIn, hmWi, hmWo, hmKe⟩ := id hW
  refine nw_iload_n C 1 dX4_sees_5 rfl 6 rfl ?_
  refine nw_iconst C (oI none) dX4_sees_6 (by decide) 7 rfl ?_
  refine nw_icmpeq C 18 dX4_sees_7 (by decide) 10 rfl (fun h5 => ?_) (fun h5 => ?_)
  · subst h5
    have hbO := nw_ixO_none (n := (sg_gu σ).1) (by omega)
    refine nw_aload_n C 0 dX4_sees_18 rfl 19 rfl ?_
    refine nw_iload_n C 2 dX4_sees_19 rfl 20 rfl ?_
    refine nw_callV C (mX4_isCell _ C.hfl d ro am y σ (nI 0) c H1 hB hW okM ) kX4_isCell q1702 (hmX.is C (ci := 9) rfl) (As := [.int c]) (rest := []) rfl rfl ⟨⟨Nat.le_of_ble_eq_true rfl, Nat.le_of_ble_eq_true rfl⟩, Nat.le_of_ble_eq_true rfl, Nat.le_of_ble_eq_true rfl⟩ (Nat.le_of_ble_eq_true rfl) (fun _ h8 h9 => absurd h9 (Nat.not_le.mpr h8)) dX4_sees_20 23 rfl (nw_rdK ?_) nw_noX
    refine nw_ifneB C 40 dX4_sees_23 (by decide) 26 rfl (fun h6 => ?_) (fun h6 => ?_)
    · obtain ⟨cn, hk7, rfl⟩ := nw_ix_nat (by omega) h6
      have en_cn : nw_nn (nI cn) = cn := nw_nn_nI (by omega)
      refine nw_iload_n C 3 dX4_sees_40 rfl 41 rfl ?_
      refine nw_callS C (mX4_isMinute _ C.hfl d t H1 hB) kX4_isMinute q1722 (As := [.int t]) (rest := []) rfl rfl ⟨⟨Nat.le_of_ble_eq_true rfl, Nat.le_of_ble_eq_true rfl⟩, Nat.le_of_ble_eq_true rfl, Nat.le_of_ble_eq_true rfl⟩ (Nat.le_of_ble_eq_true rfl) (fun _ h8 h9 => absurd h9 (Nat.not_le.mpr h8)) dX4_sees_41 44 rfl (nw_rdK ?_) nw_noX
      refine nw_ifneB C 61 dX4_sees_44 (by decide) 47 rfl (fun h8 => ?_) (fun h8 => ?_)
      · obtain ⟨tn, hk9, rfl⟩ := nw_rg_nat (by omega) (by omega) h8
        have en_tn : nw_nn (nI tn) = tn := nw_nn_nI (by omega)
        refine nw_iload_n C 1 dX4_sees_61 rfl 62 rfl ?_
        refine nw_iconst C (oI none) dX4_sees_62 (by decide) 63 rfl ?_
        refine nw_icmpneF C rfl 75 dX4_sees_63 (by decide) 66 rfl ?_
        refine nw_aload_n C 0 dX4_sees_66 rfl 67 rfl ?_
        refine nw_iload_n C 2 dX4_sees_67 rfl 68 rfl ?_
        refine nw_iload_n C 3 dX4_sees_68 rfl 69 rfl ?_
        refine nw_callV C (mX4_isWatched _ C.hfl d ro am y σ (nI 0) cn tn H1 hB hW okM (by omega) (by omega)) kX4_isWatched q1840 (hmX.is C (ci := 9) rfl) (As := [.int (nI cn), .int (nI tn)]) (rest := []) rfl rfl ⟨⟨Nat.le_of_ble_eq_true rfl, Nat.le_of_ble_eq_true rfl⟩, Nat.le_of_ble_eq_true rfl, Nat.le_of_ble_eq_true rfl⟩ (Nat.le_of_ble_eq_true rfl) (fun _ h8 h9 => absurd h9 (Nat.not_le.mpr h8)) dX4_sees_69 72 rfl (nw_rdK ?_) nw_noX
        refine nw_goto C 94 dX4_sees_72 (by decide) ?_
        have hop : op_sees σ (oI none) (nI cn) (nI tn) = (0, b2i (sp_watched (sg_gr σ) (sg_la σ) (sg_fo σ) (sg_gu σ) cn tn)) := by simp [op_sees, h6, h8, en_cn, en_tn, hbO]
        exact nw_nret C dX4_sees_94 (b2i_narrow _) (Nat.le_refl _) (Nat.le_refl _) (by rw [hop]; exact ⟨rfl, ok, Nat.le_trans (Nat.le_of_eq hzb.symm) hext.1, ro, am, hR.ext hext, fun _ _ => rfl⟩)
      · refine nw_aload_n C 0 dX4_sees_47 rfl 48 rfl ?_
        refine nw_iconst C (nI 2) dX4_sees_48 (by decide) 49 rfl ?_
        refine nw_callV C (mX4_no _ C.hfl d y (.int (nI 0)) (.int (nI (gr_w (sg_gr σ)))) (.int (nI (gr_h (sg_gr σ)))) (.ref (am 9)) (.int (nI (gaM_f (sg_ga σ)))) (.int (oI (gaM_t (sg_ga σ)))) (.ref (am 1)) (.ref (am 2)) (.ref (am 3)) (.ref (am 4)) (.int (nI (wo_s (sg_wo σ)))) (.int (nI (wo_m (sg_wo σ)))) (.int (nI (sp_after (wo_x (sg_wo σ))))) (.ref (am 11)) (.ref (am 12)) (.int (nI (sg_ri σ))) (.ref (am 8)) (.ref (am 5)) (.ref (am 6)) (.int (nI (sg_rf σ))) (nI 2) H1 hB hyB hmX) kX4_no q1694 (hmX.is C (ci := 9) rfl) (As := [.int (nI 2)]) (rest := []) rfl rfl ⟨⟨Nat.le_of_ble_eq_true rfl, Nat.le_of_ble_eq_true rfl⟩, (show 0 + 0 ≤ 0 by omega), (show 0 + 0 ≤ 0 by omega)⟩ (Nat.le_of_ble_eq_true rfl) (fun q8 h8 h9 => h9.elim (fun e9 => by rw [e9]; exact hAy) (fun e9 => absurd h8 (Nat.not_lt.mpr e9))) dX4_sees_49 52 rfl (fun v9 H11 hR12 hz13 hq14 => ?_) nw_noX
        obtain ⟨rfl, ho15⟩ := hR12
        have hR8 := hR.ext hext
        have hR9 : nwMW d ro am y σ (nI 2) H11 := hR8.obj hz13 (fun q9 g9 n9 _ => hq14 q9 g9 (fun e9 => e9.elim n9 (Nat.not_le.mpr g9))) mSame.rfl ho15
        have hle9 : H.size ≤ H11.size := Nat.le_trans (Nat.le_of_eq hzb.symm) (Nat.le_trans hext.1 hz13)
        show nwV X _ _ 4 H11 (0 + 0) (0 + 0) 52 [(0, .ref y), (1, .int (oI none)), (2, .int (nI cn)), (3, .int t)] [.int (nI 0)]
        refine nw_wide (k' := 0) (n' := 0) (by omega) (by omega) ?_
        refine nw_ifle C 59 dX4_sees_52 (by decide) 55 rfl (fun _ => ?_) (fun h16 => absurd (by decide) h16)
        refine nw_iconst C (nI 0) dX4_sees_59 (by decide) 60 rfl ?_
        have hop : op_sees σ (oI none) (nI cn) t = (2, 0) := by simp [op_sees, h6, h8, en_cn, hbO]
        exact nw_nret C dX4_sees_60 (b2i_narrow false) (Nat.le_refl _) (Nat.le_refl _) (by rw [hop]; exact ⟨rfl, ok, hle9, ro, am, hR9, fun _ _ => rfl⟩)
    · refine nw_aload_n C 0 dX4_sees_26 rfl 27 rfl ?_
      refine nw_iconst C (nI 1) dX4_sees_27 (by decide) 28 rfl ?_
      refine nw_callV C (mX4_no _ C.hfl d y (.int (nI 0)) (.int (nI (gr_w (sg_gr σ)))) (.int (nI (gr_h (sg_gr σ)))) (.ref (am 9)) (.int (nI (gaM_f (sg_ga σ)))) (.int (oI (gaM_t (sg_ga σ)))) (.ref (am 1)) (.ref (am 2)) (.ref (am 3)) (.ref (am 4)) (.int (nI (wo_s (sg_wo σ)))) (.int (nI (wo_m (sg_wo σ)))) (.int (nI (sp_after (wo_x (sg_wo σ))))) (.ref (am 11)) (.ref (am 12)) (.int (nI (sg_ri σ))) (.ref (am 8)) (.ref (am 5)) (.ref (am 6)) (.int (nI (sg_rf σ))) (nI 1) H1 hB hyB hmX) kX4_no q1694 (hmX.is C (ci := 9) rfl) (As := [.int (nI 1)]) (rest := []) rfl rfl ⟨⟨Nat.le_of_ble_eq_true rfl, Nat.le_of_ble_eq_true rfl⟩, (show 0 + 0 ≤ 0 by omega), (show 0 + 0 ≤ 0 by omega)⟩ (Nat.le_of_ble_eq_true rfl) (fun q8 h8 h9 => h9.elim (fun e9 => by rw [e9]; exact hAy) (fun e9 => absurd h8 (Nat.not_lt.mpr e9))) dX4_sees_28 31 rfl (fun v9 H17 hR18 hz19 hq20 => ?_) nw_noX
      obtain ⟨rfl, ho21⟩ := hR18
      have hR8 := hR.ext hext
      have hR9 : nwMW d ro am y σ (nI 1) H17 := hR8.obj hz19 (fun q9 g9 n9 _ => hq20 q9 g9 (fun e9 => e9.elim n9 (Nat.not_le.mpr g9))) mSame.rfl ho21
      have hle9 : H.size ≤ H17.size := Nat.le_trans (Nat.le_of_eq hzb.symm) (Nat.le_trans hext.1 hz19)
      show nwV X _ _ 4 H17 (0 + 0) (0 + 0) 31 [(0, .ref y), (1, .int (oI none)), (2, .int c), (3, .int t)] [.int (nI 0)]
      refine nw_wide (k' := 0) (n' := 0) (by omega) (by omega) ?_
      refine nw_ifle C 38 dX4_sees_31 (by decide) 34 rfl (fun _ => ?_) (fun h22 => absurd (by decide) h22)
      refine nw_iconst C (nI 0) dX4_sees_38 (by decide) 39 rfl ?_
      have hop : op_sees σ (oI none) c t = (1, 0) := by simp [op_sees, h6, hbO]
      exact nw_nret C dX4_sees_39 (b2i_narrow false) (Nat.le_refl _) (Nat.le_refl _) (by rw [hop]; exact ⟨rfl, ok, hle9, ro, am, hR9, fun _ _ => rfl⟩)
  · refine nw_aload_n C 0 dX4_sees_10 rfl 11 rfl ?_
    refine nw_iload_n C 1 dX4_sees_11 rfl 12 rfl ?_
    refine nw_callV C (mX4_isGuard _ C.hfl d ro am y σ (nI 0) g H1 hB hW okM ) kX4_isGuard q1808 (hmX.is C (ci := 9) rfl) (As := [.int g]) (rest := []) rfl rfl ⟨⟨Nat.le_of_ble_eq_true rfl, Nat.le_of_ble_eq_true rfl⟩, Nat.le_of_ble_eq_true rfl, Nat.le_of_ble_eq_true rfl⟩ (Nat.le_of_ble_eq_true rfl) (fun _ h8 h9 => absurd h9 (Nat.not_le.mpr h8)) dX4_sees_12 15 rfl (nw_rdK ?_) nw_noX
    refine nw_ifeqB C 26 dX4_sees_15 (by decide) 18 rfl (fun h23 => ?_) (fun h23 => ?_)
    · have hbO := nw_ixOF (n := (sg_gu σ).1) (by omega) h23 h5
      refine nw_aload_n C 0 dX4_sees_26 rfl 27 rfl ?_
      refine nw_iconst C (nI 1) dX4_sees_27 (by decide) 28 rfl ?_
      refine nw_callV C (mX4_no _ C.hfl d y (.int (nI 0)) (.int (nI (gr_w (sg_gr σ)))) (.int (nI (gr_h (sg_gr σ)))) (.ref (am 9)) (.int (nI (gaM_f (sg_ga σ)))) (.int (oI (gaM_t (sg_ga σ)))) (.ref (am 1)) (.ref (am 2)) (.ref (am 3)) (.ref (am 4)) (.int (nI (wo_s (sg_wo σ)))) (.int (nI (wo_m (sg_wo σ)))) (.int (nI (sp_after (wo_x (sg_wo σ))))) (.ref (am 11)) (.ref (am 12)) (.int (nI (sg_ri σ))) (.ref (am 8)) (.ref (am 5)) (.ref (am 6)) (.int (nI (sg_rf σ))) (nI 1) H1 hB hyB hmX) kX4_no q1694 (hmX.is C (ci := 9) rfl) (As := [.int (nI 1)]) (rest := []) rfl rfl ⟨⟨Nat.le_of_ble_eq_true rfl, Nat.le_of_ble_eq_true rfl⟩, (show 0 + 0 ≤ 0 by omega), (show 0 + 0 ≤ 0 by omega)⟩ (Nat.le_of_ble_eq_true rfl) (fun q8 h8 h9 => h9.elim (fun e9 => by rw [e9]; exact hAy) (fun e9 => absurd h8 (Nat.not_lt.mpr e9))) dX4_sees_28 31 rfl (fun v9 H24 hR25 hz26 hq27 => ?_) nw_noX
      obtain ⟨rfl, ho28⟩ := hR25
      have hR8 := hR.ext hext
      have hR9 : nwMW d ro am y σ (nI 1) H24 := hR8.obj hz26 (fun q9 g9 n9 _ => hq27 q9 g9 (fun e9 => e9.elim n9 (Nat.not_le.mpr g9))) mSame.rfl ho28
      have hle9 : H.size ≤ H24.size := Nat.le_trans (Nat.le_of_eq hzb.symm) (Nat.le_trans hext.1 hz26)
      show nwV X _ _ 4 H24 (0 + 0) (0 + 0) 31 [(0, .ref y), (1, .int g), (2, .int c), (3, .int t)] [.int (nI 0)]
      refine nw_wide (k' := 0) (n' := 0) (by omega) (by omega) ?_
      refine nw_ifle C 38 dX4_sees_31 (by decide) 34 rfl (fun _ => ?_) (fun h29 => absurd (by decide) h29)
      refine nw_iconst C (nI 0) dX4_sees_38 (by decide) 39 rfl ?_
      have hop : op_sees σ g c t = (1, 0) := by simp [op_sees, h5, h23, hbO]
      exact nw_nret C dX4_sees_39 (b2i_narrow false) (Nat.le_refl _) (Nat.le_refl _) (by rw [hop]; exact ⟨rfl, ok, hle9, ro, am, hR9, fun _ _ => rfl⟩)
    · obtain ⟨gn, hk30, rfl⟩ := nw_ix_nat (by omega) h23
      have en_gn : nw_nn (nI gn) = gn := nw_nn_nI (by omega)
      have hbO := nw_ixO_some (v := gn) (n := (sg_gu σ).1) (by omega) (by assumption)
      have ne_gn : ¬ nI gn = oI none := nI_m1 (by omega)
      refine nw_aload_n C 0 dX4_sees_18 rfl 19 rfl ?_
      refine nw_iload_n C 2 dX4_sees_19 rfl 20 rfl ?_
      refine nw_callV C (mX4_isCell _ C.hfl d ro am y σ (nI 0) c H1 hB hW okM ) kX4_isCell q1702 (hmX.is C (ci := 9) rfl) (As := [.int c]) (rest := []) rfl rfl ⟨⟨Nat.le_of_ble_eq_true rfl, Nat.le_of_ble_eq_true rfl⟩, Nat.le_of_ble_eq_true rfl, Nat.le_of_ble_eq_true rfl⟩ (Nat.le_of_ble_eq_true rfl) (fun _ h8 h9 => absurd h9 (Nat.not_le.mpr h8)) dX4_sees_20 23 rfl (nw_rdK ?_) nw_noX
      refine nw_ifneB C 40 dX4_sees_23 (by decide) 26 rfl (fun h31 => ?_) (fun h31 => ?_)
      · obtain ⟨cn, hk32, rfl⟩ := nw_ix_nat (by omega) h31
        have en_cn : nw_nn (nI cn) = cn := nw_nn_nI (by omega)
        refine nw_iload_n C 3 dX4_sees_40 rfl 41 rfl ?_
        refine nw_callS C (mX4_isMinute _ C.hfl d t H1 hB) kX4_isMinute q1722 (As := [.int t]) (rest := []) rfl rfl ⟨⟨Nat.le_of_ble_eq_true rfl, Nat.le_of_ble_eq_true rfl⟩, Nat.le_of_ble_eq_true rfl, Nat.le_of_ble_eq_true rfl⟩ (Nat.le_of_ble_eq_true rfl) (fun _ h8 h9 => absurd h9 (Nat.not_le.mpr h8)) dX4_sees_41 44 rfl (nw_rdK ?_) nw_noX
        refine nw_ifneB C 61 dX4_sees_44 (by decide) 47 rfl (fun h33 => ?_) (fun h33 => ?_)
        · obtain ⟨tn, hk34, rfl⟩ := nw_rg_nat (by omega) (by omega) h33
          have en_tn : nw_nn (nI tn) = tn := nw_nn_nI (by omega)
          refine nw_iload_n C 1 dX4_sees_61 rfl 62 rfl ?_
          refine nw_iconst C (oI none) dX4_sees_62 (by decide) 63 rfl ?_
          refine nw_icmpneT C (nI_m1 (by omega)) 75 dX4_sees_63 (by decide) ?_
          refine nw_aload_n C 0 dX4_sees_75 rfl 76 rfl ?_
          refine nw_iload_n C 2 dX4_sees_76 rfl 77 rfl ?_
          refine nw_iload_n C 3 dX4_sees_77 rfl 78 rfl ?_
          refine nw_callV C (mX4_seers _ C.hfl d ro am y σ (nI 0) cn tn H1 hB hW okM (by omega) (by omega)) kX4_seers q1856 (hmX.is C (ci := 9) rfl) (As := [.int (nI cn), .int (nI tn)]) (rest := []) rfl rfl ⟨⟨Nat.le_of_ble_eq_true rfl, Nat.le_of_ble_eq_true rfl⟩, Nat.le_of_ble_eq_true rfl, Nat.le_of_ble_eq_true rfl⟩ (Nat.le_of_ble_eq_true rfl) (fun _ h8 h9 => absurd h9 (Nat.not_le.mpr h8)) dX4_sees_78 81 rfl (nw_rdK ?_) nw_noX
          refine nw_iload_n C 1 dX4_sees_81 rfl 82 rfl ?_
          refine nw_ishr C ((sp_watchers (sg_gr σ) (sg_la σ) (sg_fo σ) (sg_gu σ) cn tn) >>> ((nI gn) &&& 31)) dX4_sees_82 rfl 83 rfl ?_
          refine nw_iconst C (nI 1) dX4_sees_83 (by decide) 84 rfl ?_
          refine nw_iand C (((sp_watchers (sg_gr σ) (sg_la σ) (sg_fo σ) (sg_gu σ) cn tn) >>> ((nI gn) &&& 31)) &&& (nI 1)) dX4_sees_84 rfl 85 rfl ?_
          refine nw_iconst C (nI 1) dX4_sees_85 (by decide) 86 rfl ?_
          refine nw_icmpne C 93 dX4_sees_86 (by decide) 89 rfl (fun h36 => ?_) (fun h36 => ?_)
          · refine nw_iconst C (nI 0) dX4_sees_93 (by decide) 94 rfl ?_
            have hz1 := sp_bits_at (sp_eye (sg_gr σ) (sg_la σ) (sg_fo σ) (sg_gu σ) cn tn) (sg_gu σ).1 oku1 gn (by assumption)
            have hz0 : sp_eye (sg_gr σ) (sg_la σ) (sg_fo σ) (sg_gu σ) cn tn gn = false := by rw [← hz1]; exact beq_eq_false_iff_ne.mpr h36
            have hop : op_sees σ (nI gn) (nI cn) (nI tn) = (0, nI 0) := by simp [op_sees, b2i, hz0, h5, h23, h31, h33, hbO, ne_gn, en_gn, en_cn, en_tn]
            exact nw_nret C dX4_sees_94 (b2i_narrow false) (Nat.le_refl _) (Nat.le_refl _) (by rw [hop]; exact ⟨rfl, ok, Nat.le_trans (Nat.le_of_eq hzb.symm) hext.1, ro, am, hR.ext hext, fun _ _ => rfl⟩)
          · refine nw_iconst C (nI 1) dX4_sees_89 (by decide) 90 rfl ?_
            refine nw_goto C 94 dX4_sees_90 (by decide) ?_
            have hz1 := sp_bits_at (sp_eye (sg_gr σ) (sg_la σ) (sg_fo σ) (sg_gu σ) cn tn) (sg_gu σ).1 oku1 gn (by assumption)
            have hz0 : sp_eye (sg_gr σ) (sg_la σ) (sg_fo σ) (sg_gu σ) cn tn gn = true := by rw [← hz1]; exact beq_iff_eq.mpr h36
            have hop : op_sees σ (nI gn) (nI cn) (nI tn) = (0, nI 1) := by simp [op_sees, b2i, hz0, h5, h23, h31, h33, hbO, ne_gn, en_gn, en_cn, en_tn]
            exact nw_nret C dX4_sees_94 (b2i_narrow true) (Nat.le_refl _) (Nat.le_refl _) (by rw [hop]; exact ⟨rfl, ok, Nat.le_trans (Nat.le_of_eq hzb.symm) hext.1, ro, am, hR.ext hext, fun _ _ => rfl⟩)
        · refine nw_aload_n C 0 dX4_sees_47 rfl 48 rfl ?_
          refine nw_iconst C (nI 2) dX4_sees_48 (by decide) 49 rfl ?_
          refine nw_callV C (mX4_no _ C.hfl d y (.int (nI 0)) (.int (nI (gr_w (sg_gr σ)))) (.int (nI (gr_h (sg_gr σ)))) (.ref (am 9)) (.int (nI (gaM_f (sg_ga σ)))) (.int (oI (gaM_t (sg_ga σ)))) (.ref (am 1)) (.ref (am 2)) (.ref (am 3)) (.ref (am 4)) (.int (nI (wo_s (sg_wo σ)))) (.int (nI (wo_m (sg_wo σ)))) (.int (nI (sp_after (wo_x (sg_wo σ))))) (.ref (am 11)) (.ref (am 12)) (.int (nI (sg_ri σ))) (.ref (am 8)) (.ref (am 5)) (.ref (am 6)) (.int (nI (sg_rf σ))) (nI 2) H1 hB hyB hmX) kX4_no q1694 (hmX.is C (ci := 9) rfl) (As := [.int (nI 2)]) (rest := []) rfl rfl ⟨⟨Nat.le_of_ble_eq_true rfl, Nat.le_of_ble_eq_true rfl⟩, (show 0 + 0 ≤ 0 by omega), (show 0 + 0 ≤ 0 by omega)⟩ (Nat.le_of_ble_eq_true rfl) (fun q8 h8 h9 => h9.elim (fun e9 => by rw [e9]; exact hAy) (fun e9 => absurd h8 (Nat.not_lt.mpr e9))) dX4_sees_49 52 rfl (fun v9 H37 hR38 hz39 hq40 => ?_) nw_noX
          obtain ⟨rfl, ho41⟩ := hR38
          have hR8 := hR.ext hext
          have hR9 : nwMW d ro am y σ (nI 2) H37 := hR8.obj hz39 (fun q9 g9 n9 _ => hq40 q9 g9 (fun e9 => e9.elim n9 (Nat.not_le.mpr g9))) mSame.rfl ho41
          have hle9 : H.size ≤ H37.size := Nat.le_trans (Nat.le_of_eq hzb.symm) (Nat.le_trans hext.1 hz39)
          show nwV X _ _ 4 H37 (0 + 0) (0 + 0) 52 [(0, .ref y), (1, .int (nI gn)), (2, .int (nI cn)), (3, .int t)] [.int (nI 0)]
          refine nw_wide (k' := 0) (n' := 0) (by omega) (by omega) ?_
          refine nw_ifle C 59 dX4_sees_52 (by decide) 55 rfl (fun _ => ?_) (fun h42 => absurd (by decide) h42)
          refine nw_iconst C (nI 0) dX4_sees_59 (by decide) 60 rfl ?_
          have hop : op_sees σ (nI gn) (nI cn) t = (2, 0) := by simp [op_sees, h5, h23, h31, h33, en_gn, en_cn, hbO, ne_gn]
          exact nw_nret C dX4_sees_60 (b2i_narrow false) (Nat.le_refl _) (Nat.le_refl _) (by rw [hop]; exact ⟨rfl, ok, hle9, ro, am, hR9, fun _ _ => rfl⟩)
      · refine nw_aload_n C 0 dX4_sees_26 rfl 27 rfl ?_
        refine nw_iconst C (nI 1) dX4_sees_27 (by decide) 28 rfl ?_
        refine nw_callV C (mX4_no _ C.hfl d y (.int (nI 0)) (.int (nI (gr_w (sg_gr σ)))) (.int (nI (gr_h (sg_gr σ)))) (.ref (am 9)) (.int (nI (gaM_f (sg_ga σ)))) (.int (oI (gaM_t (sg_ga σ)))) (.ref (am 1)) (.ref (am 2)) (.ref (am 3)) (.ref (am 4)) (.int (nI (wo_s (sg_wo σ)))) (.int (nI (wo_m (sg_wo σ)))) (.int (nI (sp_after (wo_x (sg_wo σ))))) (.ref (am 11)) (.ref (am 12)) (.int (nI (sg_ri σ))) (.ref (am 8)) (.ref (am 5)) (.ref (am 6)) (.int (nI (sg_rf σ))) (nI 1) H1 hB hyB hmX) kX4_no q1694 (hmX.is C (ci := 9) rfl) (As := [.int (nI 1)]) (rest := []) rfl rfl ⟨⟨Nat.le_of_ble_eq_true rfl, Nat.le_of_ble_eq_true rfl⟩, (show 0 + 0 ≤ 0 by omega), (show 0 + 0 ≤ 0 by omega)⟩ (Nat.le_of_ble_eq_true rfl) (fun q8 h8 h9 => h9.elim (fun e9 => by rw [e9]; exact hAy) (fun e9 => absurd h8 (Nat.not_lt.mpr e9))) dX4_sees_28 31 rfl (fun v9 H43 hR44 hz45 hq46 => ?_) nw_noX
        obtain ⟨rfl, ho47⟩ := hR44
        have hR8 := hR.ext hext
        have hR9 : nwMW d ro am y σ (nI 1) H43 := hR8.obj hz45 (fun q9 g9 n9 _ => hq46 q9 g9 (fun e9 => e9.elim n9 (Nat.not_le.mpr g9))) mSame.rfl ho47
        have hle9 : H.size ≤ H43.size := Nat.le_trans (Nat.le_of_eq hzb.symm) (Nat.le_trans hext.1 hz45)
        show nwV X _ _ 4 H43 (0 + 0) (0 + 0) 31 [(0, .ref y), (1, .int (nI gn)), (2, .int c), (3, .int t)] [.int (nI 0)]
        refine nw_wide (k' := 0) (n' := 0) (by omega) (by omega) ?_
        refine nw_ifle C 38 dX4_sees_31 (by decide) 34 rfl (fun _ => ?_) (fun h48 => absurd (by decide) h48)
        refine nw_iconst C (nI 0) dX4_sees_38 (by decide) 39 rfl ?_
        have hop : op_sees σ (nI gn) c t = (1, 0) := by simp [op_sees, h5, h23, h31, en_gn, hbO, ne_gn]
        exact nw_nret C dX4_sees_39 (b2i_narrow false) (Nat.le_refl _) (Nat.le_refl _) (by rw [hop]; exact ⟨rfl, ok, hle9, ro, am, hR9, fun _ _ => rfl⟩)
