/-! ===== drawn: a row of the base as text ===== -/
def op_drawn (s : spSg) (r t : Int32) : Nat × Int32 := if nw_ix r (gr_h (sg_gr s)) = false then (1, 0) else if nw_rg 0 239 t = false then (2, 0) else (0, 0)
/-- what is drawn: a String at q of the row's signs -/
def nwDr (d : nwD) (s : spSg) (r t : Nat) (q : Nat) (H H1 : Heap) : Prop := ∃ (v9 : Nat) (f : Nat → Int32), (H.size ≤ q ∧ H.size ≤ v9) ∧ nwSo d q v9 (gr_w (sg_gr s)) f H1 ∧ ∀ j, j < gr_w (sg_gr s) → f j = nI (sp_signC s (r * gr_w (sg_gr s) + j) t)
theorem dr_cell {w h r i : Nat} (hr : r < h) (hi : i < w) : r * w + i < w * h := by
  have h1 := Nat.mul_le_mul_left w (show r + 1 ≤ h from hr)
  rw [Nat.mul_succ] at h1
  rw [Nat.mul_comm r w]
  omega
theorem sp_signC_lt {s : spSg} (h : (sg_gu s).1 ≤ 6) (c t : Nat) : sp_signC s c t < 128 := by
  unfold sp_signC
  split
  · rename_i k hk
    have h1 := (sp_fst_some hk).2.1
    omega
  · repeat' split
    all_goals omega
theorem kJ21_init : nwPI yJ21_init cJ21_init 1 0 := ⟨⟨q124, q1326, q1327⟩, rfl, by decide +kernel, by decide +kernel, by decide +kernel⟩
theorem kJ21_toString : nwPV "java/lang/StringBuilder" yJ21_toString cJ21_toString 1 (some (.object "java/lang/String")) 0 := ⟨⟨q1456, q1457, q124, q1458⟩, rfl, by decide +kernel, by decide +kernel, by decide +kernel⟩
theorem kX1_sign : nwPV "NightwatchWall" yX1_sign cX1_sign 5 (some .char) 2 := ⟨⟨q1356, qs47, q86, q1357⟩, rfl, by decide +kernel, by decide +kernel, by decide +kernel⟩
theorem kJ21_append : nwPV "java/lang/StringBuilder" yJ21_append cJ21_append 2 (some (.object "java/lang/StringBuilder")) 1 := ⟨⟨q1378, q1379, q124, q1380⟩, rfl, by decide +kernel, by decide +kernel, by decide +kernel⟩
set_option maxHeartbeats 4000000 in
theorem mX1_drawn (l : Launch) (hf : l.flags = flags0) (d : nwD) (ro ad : Nat → Nat) (x : Nat) (σ : spSg) (sm : Int64) (r : Int32) (t : Int32) (H : Heap) (hB : nd_B d ≤ H.size) (hW : nwWC d ro ad x σ sm H) (ok : spOk σ)  : nwMt l d yX1_drawn cX1_drawn 6 (some (.object "java/lang/String")) 9 206 8 80 [.ref x, .int r, .int t] H (fun v H1 => ((op_drawn σ r t).1 = 0 ∧ ∃ q : Nat, v = some (.ref q) ∧ nwDr d σ (nw_nn r) (nw_nn t) q H H1) ∧ nwExt H H1) (nwRx (op_drawn σ r t) [cIO, cIA] H) (nwNew H) := by
  refine nw_start "NightwatchWall" "drawn" hf (by decide +kernel) rfl rfl (fun _ h => h) (fun q h => Nat.le_trans hB h) (Nat.le_of_ble_eq_true rfl) ?_
  intro X C
  have hW0 := hW
  have hB0 := hB
  have hE := C.E0
  have hext : nwExt H H := nwExt.rfl
  obtain ⟨hx, hcG, hcLa, hcFo, hcGu, hcPo, hcIn, hcWi, hcWo, hcKe⟩ := id hW
  obtain ⟨okg, okl, okf, oku, okp, oki, okw, okd, okk, oka⟩ := id ok
  have hn64 : gr_n (sg_gr σ) ≤ 64 := okg.n
  have oku1 := oku.1
  have oki1 := oki.1
  have okp1 := okp.1
  have okw1 := okw.1
  have okl1 := okl.1
  have okf1 := okf.1
  show nwV X _ _ 6 H 0 0 0 [(0, .ref x), (1, .int r), (2, .int t)] []
  rcases id hcG with ⟨hg0, hg1, hg2⟩ | ⟨hgro, hgrl, hgrg⟩
  · rw [hg2] at hx
    have hgh : gr_h (sg_gr σ) = 0 := hg1
    refine nw_iload_n C 1 dX1_drawn_0 rfl 1 rfl ?_
    refine nw_aload_n C 0 dX1_drawn_1 rfl 2 rfl ?_
    refine nw_get C hx (T := TX1) rfl in_X1 0 (by decide) q221 (Or.inl rfl) rfl dX1_drawn_2 5 rfl ?_
    refine nw_callV C (mJ0_isPresentE _ C.hfl d H hB) kJ0_isPresent q276 (va_O.is hE.2.2.2.2.1.2.1) (As := []) (rest := [.int r]) rfl rfl ⟨⟨Nat.le_of_ble_eq_true rfl, Nat.le_of_ble_eq_true rfl⟩, Nat.le_of_ble_eq_true rfl, Nat.le_of_ble_eq_true rfl⟩ (Nat.le_of_ble_eq_true rfl) (fun _ h8 h9 => absurd h9 (Nat.not_le.mpr h8)) dX1_drawn_5 8 rfl (nw_rdK ?_) nw_noX
    refine nw_ifeq C 27 dX1_drawn_8 (by decide) 11 rfl (fun _ => ?_) (fun h1 => absurd (by decide) h1)
    refine nw_iconst C (nI 0) dX1_drawn_27 (by decide) 28 rfl ?_
    refine nw_callS C (mX1_requireIndex _ C.hfl d r 0 H hB) kX1_requireIndex q814 (As := [.int r, .int (nI 0)]) (rest := []) rfl rfl ⟨⟨Nat.le_of_ble_eq_true rfl, Nat.le_of_ble_eq_true rfl⟩, (show 0 + 1 ≤ 8 by omega), (show 0 + 6 ≤ 80 by omega)⟩ (Nat.le_of_ble_eq_true rfl) (fun _ h8 h9 => absurd h9 (Nat.not_le.mpr h8)) dX1_drawn_28 31 rfl ?_ ?_
    rotate_left
    · intro E9 w9 H2 hR3 hz4 hq5
      obtain ⟨rfl, hb6, hx7⟩ := hR3
      exact nw_out C (show (0 + 1) ≤ 8 by omega) (show (0 + 6) ≤ 80 by omega) ⟨⟨0, by simp [op_drawn, hgh, hb6], rfl⟩, hext.trans hx7⟩
    intro v9 H2 hR3 hz4 hq5
    obtain ⟨rfl, hb8, rfl⟩ := hR3
    obtain ⟨rn, hk9, rfl⟩ := nw_ix_nat (by omega) hb8
    have en_rn : nw_nn (nI rn) = rn := nw_nn_nI (by omega)
    show nwV X _ _ 6 H (0 + 1) (0 + 6) 31 [(0, .ref x), (1, .int (nI rn)), (2, .int t)] []
    refine nw_wide (k' := 1) (n' := 6) (by omega) (by omega) ?_
    exfalso; omega
  · have hw8 := hgro.1
    refine nw_iload_n C 1 dX1_drawn_0 rfl 1 rfl ?_
    refine nw_aload_n C 0 dX1_drawn_1 rfl 2 rfl ?_
    refine nw_get C hx (T := TX1) rfl in_X1 0 (by decide) q221 (Or.inl rfl) rfl dX1_drawn_2 5 rfl ?_
    refine nw_callV C (mJ0_isPresent _ C.hfl d (ad 0) (ad 9) H hB hgrl) kJ0_isPresent q276 (hgrl.is C (ci := 15) rfl) (As := []) (rest := [.int r]) rfl rfl ⟨⟨Nat.le_of_ble_eq_true rfl, Nat.le_of_ble_eq_true rfl⟩, Nat.le_of_ble_eq_true rfl, Nat.le_of_ble_eq_true rfl⟩ (Nat.le_of_ble_eq_true rfl) (fun _ h8 h9 => absurd h9 (Nat.not_le.mpr h8)) dX1_drawn_5 8 rfl (nw_rdK ?_) nw_noX
    refine nw_ifeq C 27 dX1_drawn_8 (by decide) 11 rfl (fun h10 => absurd h10 (by decide)) (fun _ => ?_)
    refine nw_aload_n C 0 dX1_drawn_11 rfl 12 rfl ?_
    refine nw_get C hx (T := TX1) rfl in_X1 0 (by decide) q221 (Or.inl rfl) rfl dX1_drawn_12 15 rfl ?_
    refine nw_callV C (mJ0_get _ C.hfl d (ad 0) (ad 9) H hB hgrl) kJ0_get q280 (hgrl.is C (ci := 15) rfl) (As := []) (rest := [.int r]) rfl rfl ⟨⟨Nat.le_of_ble_eq_true rfl, Nat.le_of_ble_eq_true rfl⟩, Nat.le_of_ble_eq_true rfl, Nat.le_of_ble_eq_true rfl⟩ (Nat.le_of_ble_eq_true rfl) (fun _ h8 h9 => absurd h9 (Nat.not_le.mpr h8)) dX1_drawn_15 18 rfl (nw_rdK ?_) nw_noX
    refine nw_cast C (ci := 1) rfl (hgrg.1.is C (ci := 1) rfl) q284 dX1_drawn_18 21 rfl ?_
    refine nw_getN C hgrg.1 (T := TX6) rfl in_X6 1 (by decide) q734 rfl rfl dX1_drawn_21 24 rfl ?_
    refine nw_goto C 28 dX1_drawn_24 (by decide) ?_
    refine nw_callS C (mX1_requireIndex _ C.hfl d r (gr_h (sg_gr σ)) H hB) kX1_requireIndex q814 (As := [.int r, .int (nI (gr_h (sg_gr σ)))]) (rest := []) rfl rfl ⟨⟨Nat.le_of_ble_eq_true rfl, Nat.le_of_ble_eq_true rfl⟩, (show 0 + 1 ≤ 8 by omega), (show 0 + 6 ≤ 80 by omega)⟩ (Nat.le_of_ble_eq_true rfl) (fun _ h8 h9 => absurd h9 (Nat.not_le.mpr h8)) dX1_drawn_28 31 rfl ?_ ?_
    rotate_left
    · intro E9 w9 H11 hR12 hz13 hq14
      obtain ⟨rfl, hb15, hx16⟩ := hR12
      exact nw_out C (show (0 + 1) ≤ 8 by omega) (show (0 + 6) ≤ 80 by omega) ⟨⟨0, by simp [op_drawn, hb15], rfl⟩, hext.trans hx16⟩
    intro v9 H11 hR12 hz13 hq14
    obtain ⟨rfl, hb17, rfl⟩ := hR12
    obtain ⟨rn, hk18, rfl⟩ := nw_ix_nat (by omega) hb17
    have en_rn : nw_nn (nI rn) = rn := nw_nn_nI (by omega)
    show nwV X _ _ 6 H (0 + 1) (0 + 6) 31 [(0, .ref x), (1, .int (nI rn)), (2, .int t)] []
    refine nw_wide (k' := 1) (n' := 6) (by omega) (by omega) ?_
    refine nw_iload_n C 2 dX1_drawn_31 rfl 32 rfl ?_
    refine nw_callS C (mX1_requireMinute _ C.hfl d t H hB) kX1_requireMinute q1072 (As := [.int t]) (rest := []) rfl rfl ⟨⟨Nat.le_of_ble_eq_true rfl, Nat.le_of_ble_eq_true rfl⟩, (show 1 + 1 ≤ 8 by omega), (show 6 + 6 ≤ 80 by omega)⟩ (Nat.le_of_ble_eq_true rfl) (fun _ h8 h9 => absurd h9 (Nat.not_le.mpr h8)) dX1_drawn_32 35 rfl ?_ ?_
    rotate_left
    · intro E9 w9 H19 hR20 hz21 hq22
      obtain ⟨rfl, hb23, hx24⟩ := hR20
      exact nw_out C (show (1 + 1) ≤ 8 by omega) (show (6 + 6) ≤ 80 by omega) ⟨⟨1, by simp [op_drawn, en_rn, hb17, hb23], rfl⟩, hext.trans hx24⟩
    intro v9 H19 hR20 hz21 hq22
    obtain ⟨rfl, hb25, rfl⟩ := hR20
    obtain ⟨tn, hk26, rfl⟩ := nw_rg_nat (by decide) (by decide) hb25
    have en_tn : nw_nn (nI tn) = tn := nw_nn_nI (by omega)
    show nwV X _ _ 6 H (1 + 1) (6 + 6) 35 [(0, .ref x), (1, .int (nI rn)), (2, .int (nI tn))] []
    refine nw_wide (k' := 2) (n' := 12) (by omega) (by omega) ?_
    refine nw_aload_n C 0 dX1_drawn_35 rfl 36 rfl ?_
    refine nw_get C hx (T := TX1) rfl in_X1 0 (by decide) q221 (Or.inl rfl) rfl dX1_drawn_36 39 rfl ?_
    refine nw_callV C (mJ0_get _ C.hfl d (ad 0) (ad 9) H hB hgrl) kJ0_get q280 (hgrl.is C (ci := 15) rfl) (As := []) (rest := []) rfl rfl ⟨⟨Nat.le_of_ble_eq_true rfl, Nat.le_of_ble_eq_true rfl⟩, Nat.le_of_ble_eq_true rfl, Nat.le_of_ble_eq_true rfl⟩ (Nat.le_of_ble_eq_true rfl) (fun _ h8 h9 => absurd h9 (Nat.not_le.mpr h8)) dX1_drawn_39 42 rfl (nw_rdK ?_) nw_noX
    refine nw_cast C (ci := 1) rfl (hgrg.1.is C (ci := 1) rfl) q284 dX1_drawn_42 45 rfl ?_
    refine nw_getN C hgrg.1 (T := TX6) rfl in_X6 0 (by decide) q732 rfl rfl dX1_drawn_45 48 rfl ?_
    refine nw_istore_n C [(3, .int (nI (gr_w (sg_gr σ)))), (0, .ref x), (1, .int (nI rn)), (2, .int (nI tn))] dX1_drawn_48 (by decide) rfl 49 rfl ?_
    have hc0 : 0 < gr_n (sg_gr σ) := Nat.mul_pos (show 0 < gr_w (sg_gr σ) by omega) (show 0 < gr_h (sg_gr σ) by omega)
    refine nw_new C (ci := 17) (T := TJ21) (ty0 := tyJ21) [.null, .int (nI 0), .int (b2i false), .int (nI 0)] rfl in_J21 tyJ21_ok q1323 q1324 q124 (fun j hj => by rcases (show j = 0 ∨ j = 1 ∨ j = 2 ∨ j = 3 by omega) with rfl | rfl | rfl | rfl <;> rfl) 3 16 (by omega) (by omega) ⟨(show 3 ≤ 8 by omega), (show 16 ≤ 80 by omega)⟩ dX1_drawn_49 52 rfl (fun a27 H28 hx29 ho30 hz31 hq32 => ?_)
    have hn33 : H.size ≤ a27 := (by rw [hx29]; exact hext.1)
    have hext := hext.made hz31 hq32
    have hW := hW0.ext hext.2
    have hE := C.E0.ext hext.2
    have hB := Nat.le_trans hB0 hext.1
    obtain ⟨hx, hcG, hcLa, hcFo, hcGu, hcPo, hcIn, hcWi, hcWo, hcKe⟩ := id hW
    obtain ⟨okg, okl, okf, oku, okp, oki, okw, okd, okk, oka⟩ := id ok
    have hn64 : gr_n (sg_gr σ) ≤ 64 := okg.n
    have oku1 := oku.1
    have oki1 := oki.1
    have okp1 := okp.1
    have okw1 := okw.1
    have okl1 := okl.1
    have okf1 := okf.1
    obtain ⟨hgro, hgrl, hgrg⟩ := hcG.here hc0
    refine nw_dup C dX1_drawn_52 rfl 53 rfl ?_
    refine nw_callI C (mJ21_init _ C.hfl d a27 H28 hB (Nat.le_trans hB0 hn33) ho30) kJ21_init q1325 (As := []) (rest := [.ref a27]) rfl rfl ⟨⟨Nat.le_of_ble_eq_true rfl, Nat.le_of_ble_eq_true rfl⟩, (show 3 + 1 ≤ 8 by omega), (show 16 + 16 ≤ 80 by omega)⟩ (Nat.le_of_ble_eq_true rfl) (fun q8 h8 h9 => h9.elim (fun e9 => by rw [e9]; exact hn33) (fun e9 => absurd h8 (Nat.not_lt.mpr e9))) dX1_drawn_53 56 rfl (fun v9 H34 hR35 hz36 hq37 => ?_) nw_noX
    obtain ⟨rfl, ar38, hn39, ho40, hi41⟩ := hR35
    have hne42 : a27 ≠ ar38 := Nat.ne_of_lt (Nat.lt_of_lt_of_le ho30.lt hn39)
    have hn43 : H.size ≤ ar38 := Nat.le_trans hext.1 hn39
    have hext := hext.step hz36 hq37 (fun q9 e9 => e9.elim (fun e9 => by rw [e9]; exact hn33) (fun e9 => Nat.le_trans hext.1 e9))
    have hW := hW0.ext hext.2
    have hE := C.E0.ext hext.2
    have hB := Nat.le_trans hB0 hext.1
    obtain ⟨hx, hcG, hcLa, hcFo, hcGu, hcPo, hcIn, hcWi, hcWo, hcKe⟩ := id hW
    obtain ⟨okg, okl, okf, oku, okp, oki, okw, okd, okk, oka⟩ := id ok
    have hn64 : gr_n (sg_gr σ) ≤ 64 := okg.n
    have oku1 := oku.1
    have oki1 := oki.1
    have okp1 := okp.1
    have okw1 := okw.1
    have okl1 := okl.1
    have okf1 := okf.1
    obtain ⟨hgro, hgrl, hgrg⟩ := hcG.here hc0
    show nwV X _ _ 6 H34 (3 + 1) (16 + 16) 56 [(3, .int (nI (gr_w (sg_gr σ)))), (0, .ref x), (1, .int (nI rn)), (2, .int (nI tn))] [.ref a27]
    refine nw_wide (k' := 4) (n' := 32) (by omega) (by omega) ?_
    refine nw_astore C [(4, .ref a27), (3, .int (nI (gr_w (sg_gr σ)))), (0, .ref x), (1, .int (nI rn)), (2, .int (nI tn))] dX1_drawn_56 (by decide) rfl 58 rfl ?_
    refine nw_iconst C (nI 0) dX1_drawn_58 (by decide) 59 rfl ?_
    refine nw_istore C [(5, .int (nI 0)), (4, .ref a27), (3, .int (nI (gr_w (sg_gr σ)))), (0, .ref x), (1, .int (nI rn)), (2, .int (nI tn))] dX1_drawn_59 (by decide) rfl 61 rfl ?_
    have lp44 : ∀ (fu : Nat) (H2 : Heap) (i : Nat) (fz : Nat → Int32), (nwExt H H2) → (nwO d a27 17 [.ref ar38, .int (nI 0), .int (b2i false), .int (nI i)] H2) → (nwI d ar38 2 16 fz H2) → (i ≤ gr_w (sg_gr σ)) → (nwBy i fz) → (∀ j, j < i → fz j = nI (sp_signC σ (rn * gr_w (sg_gr σ) + j) tn)) → gr_w (sg_gr σ) - i < fu → nwV X (nwNew H) (nwQE X (fun v H1 => ((op_drawn σ (nI rn) (nI tn)).1 = 0 ∧ ∃ q : Nat, v = some (.ref q) ∧ nwDr d σ (nw_nn (nI rn)) (nw_nn (nI tn)) q H H1) ∧ nwExt H H1) (nwRx (op_drawn σ (nI rn) (nI tn)) [cIO, cIA] H) (nwNew H) 8 80) 6 H2 4 32 61 [(0, .ref x), (1, .int (nI rn)), (2, .int (nI tn)), (3, .int (nI (gr_w (sg_gr σ)))), (4, .ref a27), (5, .int (nI i))] [] := by
      intro fu
      induction fu with
      | zero => intro H2 i fz _ _ _ _ _ _ hm; exact absurd hm (Nat.not_lt_zero _)
      | succ fu ih_lp44 =>
        intro H2 i fz hext hbx hba hi hby hsg hm
        have hW := hW0.ext hext.2
        have hE := C.E0.ext hext.2
        have hB := Nat.le_trans hB0 hext.1
        obtain ⟨hx, hcG, hcLa, hcFo, hcGu, hcPo, hcIn, hcWi, hcWo, hcKe⟩ := id hW
        obtain ⟨okg, okl, okf, oku, okp, oki, okw, okd, okk, oka⟩ := id ok
        have hn64 : gr_n (sg_gr σ) ≤ 64 := okg.n
        have oku1 := oku.1
        have oki1 := oki.1
        have okp1 := okp.1
        have okw1 := okw.1
        have okl1 := okl.1
        have okf1 := okf.1
        obtain ⟨hgro, hgrl, hgrg⟩ := hcG.here hc0
        refine nw_iload C 5 dX1_drawn_61 rfl 63 rfl ?_
        refine nw_iload_n C 3 dX1_drawn_63 rfl 64 rfl ?_
        refine nw_icmpgeN C (by omega) 90 dX1_drawn_64 (by decide) 67 rfl (fun h45 => ?_) (fun h45 => ?_)
        · refine nw_aload C 4 dX1_drawn_90 rfl 92 rfl ?_
          refine nw_callV C (mJ21_toString _ C.hfl d a27 ar38 i fz H2 hB ⟨hbx, hba, hby⟩ (by omega)) kJ21_toString q1455 (hbx.is C (ci := 17) rfl) (As := []) (rest := []) rfl rfl ⟨⟨Nat.le_of_ble_eq_true rfl, Nat.le_of_ble_eq_true rfl⟩, (show 4 + 2 ≤ 8 by omega), (show 32 + 20 ≤ 80 by omega)⟩ (Nat.le_of_ble_eq_true rfl) (fun _ h8 h9 => absurd h9 (Nat.not_le.mpr h8)) dX1_drawn_92 95 rfl (fun v9 H46 hR47 hz48 hq49 => ?_) nw_noX
          obtain ⟨⟨st50, sv51, rfl, hsn52, hvn53, hso54⟩, hx55⟩ := hR47
          replace hsn52 := Nat.le_trans hext.1 hsn52
          replace hvn53 := Nat.le_trans hext.1 hvn53
          have ho56 := hbx.kept (hq49 _ hbx.lt (Nat.not_le.mpr hbx.lt))
          have ho57 := hba.kept (hq49 _ hba.lt (Nat.not_le.mpr hba.lt))
          have hext := hext.call hz48 hq49
          have hW := hW0.ext hext.2
          have hE := C.E0.ext hext.2
          have hB := Nat.le_trans hB0 hext.1
          obtain ⟨hx, hcG, hcLa, hcFo, hcGu, hcPo, hcIn, hcWi, hcWo, hcKe⟩ := id hW
          obtain ⟨okg, okl, okf, oku, okp, oki, okw, okd, okk, oka⟩ := id ok
          have hn64 : gr_n (sg_gr σ) ≤ 64 := okg.n
          have oku1 := oku.1
          have oki1 := oki.1
          have okp1 := okp.1
          have okw1 := okw.1
          have okl1 := okl.1
          have okf1 := okf.1
          obtain ⟨hgro, hgrl, hgrg⟩ := hcG.here hc0
          show nwV X _ _ 6 H46 (4 + 2) (32 + 20) 95 [(0, .ref x), (1, .int (nI rn)), (2, .int (nI tn)), (3, .int (nI (gr_w (sg_gr σ)))), (4, .ref a27), (5, .int (nI i))] [.ref st50]
          refine nw_wide (k' := 6) (n' := 52) (by omega) (by omega) ?_
          have hiw : i = gr_w (sg_gr σ) := by omega
          have hso9 : nwSo d st50 sv51 (gr_w (sg_gr σ)) fz H46 := by rw [← hiw]; exact hso54
          exact nw_aret C (Or.inl ⟨_, rfl⟩) dX1_drawn_95 (by omega) (by omega) ⟨⟨by simp [op_drawn, h45, en_rn, en_tn, hb17, hb25], st50, rfl, sv51, fz, ⟨hsn52, hvn53⟩, hso9, fun j hj => by rw [en_rn, en_tn]; exact hsg j (by rw [hiw]; exact hj)⟩, hext⟩
        · have hcl : rn * gr_w (sg_gr σ) + i < gr_n (sg_gr σ) := dr_cell (by omega) (by omega)
          have hsc : sp_signC σ (rn * gr_w (sg_gr σ) + i) tn < 128 := sp_signC_lt oku1 _ _
          refine nw_aload C 4 dX1_drawn_67 rfl 69 rfl ?_
          refine nw_aload_n C 0 dX1_drawn_69 rfl 70 rfl ?_
          refine nw_iload_n C 1 dX1_drawn_70 rfl 71 rfl ?_
          refine nw_iload_n C 3 dX1_drawn_71 rfl 72 rfl ?_
          refine nw_imulN C dX1_drawn_72 73 rfl ?_
          refine nw_iload C 5 dX1_drawn_73 rfl 75 rfl ?_
          refine nw_iaddN C dX1_drawn_75 76 rfl ?_
          refine nw_iload_n C 2 dX1_drawn_76 rfl 77 rfl ?_
          refine nw_callV C (mX1_sign _ C.hfl d ro ad x σ sm (rn * (gr_w (sg_gr σ)) + i) tn H2 hB hW ok (by omega) (by omega)) kX1_sign q1354 (hx.is C (ci := 0) rfl) (As := [.int (nI (rn * (gr_w (sg_gr σ)) + i)), .int (nI tn)]) (rest := [.ref a27]) rfl rfl ⟨⟨Nat.le_of_ble_eq_true rfl, Nat.le_of_ble_eq_true rfl⟩, Nat.le_of_ble_eq_true rfl, Nat.le_of_ble_eq_true rfl⟩ (Nat.le_of_ble_eq_true rfl) (fun _ h8 h9 => absurd h9 (Nat.not_le.mpr h8)) dX1_drawn_77 80 rfl (nw_rdK ?_) nw_noX
          refine nw_callV C (mJ21_appendC _ C.hfl d a27 ar38 i fz (sp_signC σ (rn * (gr_w (sg_gr σ)) + i) tn) H2 hB (Nat.le_trans hB0 hn33) (Nat.le_trans hB0 hn43) hne42 ⟨hbx, hba, hby⟩ hsc (by omega)) kJ21_append q1377 (hbx.is C (ci := 17) rfl) (As := [.int (nI (sp_signC σ (rn * (gr_w (sg_gr σ)) + i) tn))]) (rest := []) rfl rfl ⟨⟨Nat.le_of_ble_eq_true rfl, Nat.le_of_ble_eq_true rfl⟩, (show 4 + 0 ≤ 8 by omega), (show 32 + 0 ≤ 80 by omega)⟩ (Nat.le_of_ble_eq_true rfl) (fun q8 h8 h9 => h9.elim (fun e9 => by rw [e9]; exact hn33) (fun h9 => h9.elim (fun e9 => by rw [e9]; exact hn43) (fun e9 => absurd h8 (Nat.not_lt.mpr e9)))) dX1_drawn_80 83 rfl (fun v9 H58 hR59 hz60 hq61 => ?_) nw_noX
          obtain ⟨rfl, fb62, hb63, hk64, he65⟩ := hR59
          have hext := hext.step hz60 hq61 (fun q9 e9 => e9.elim (fun e9 => by rw [e9]; exact hn33) (fun e9 => e9.elim (fun e9 => by rw [e9]; exact hn43) (fun e9 => Nat.le_trans hext.1 e9)))
          have hW := hW0.ext hext.2
          have hE := C.E0.ext hext.2
          have hB := Nat.le_trans hB0 hext.1
          obtain ⟨hx, hcG, hcLa, hcFo, hcGu, hcPo, hcIn, hcWi, hcWo, hcKe⟩ := id hW
          obtain ⟨okg, okl, okf, oku, okp, oki, okw, okd, okk, oka⟩ := id ok
          have hn64 : gr_n (sg_gr σ) ≤ 64 := okg.n
          have oku1 := oku.1
          have oki1 := oki.1
          have okp1 := okp.1
          have okw1 := okw.1
          have okl1 := okl.1
          have okf1 := okf.1
          obtain ⟨hgro, hgrl, hgrg⟩ := hcG.here hc0
          show nwV X _ _ 6 H58 (4 + 0) (32 + 0) 83 [(0, .ref x), (1, .int (nI rn)), (2, .int (nI tn)), (3, .int (nI (gr_w (sg_gr σ)))), (4, .ref a27), (5, .int (nI i))] [.ref a27]
          refine nw_wide (k' := 4) (n' := 32) (by omega) (by omega) ?_
          refine nw_pop C dX1_drawn_83 rfl 84 rfl ?_
          refine nw_iincN C 5 (c0 := 1) [(5, .int (nI (i + 1))), (0, .ref x), (1, .int (nI rn)), (2, .int (nI tn)), (3, .int (nI (gr_w (sg_gr σ)))), (4, .ref a27)] dX1_drawn_84 rfl (by decide) rfl 87 rfl ?_
          refine nw_goto C 61 dX1_drawn_87 (by decide) ?_
          exact nw_wide (by omega) (by omega) (nw_sub [1, 2, 3, 4, 5, 0] rfl (ih_lp44 H58 (i + 1) fb62 hext hb63.1 hb63.2.1 (by omega) hb63.2.2 (fun j hj => by
                  rcases Nat.lt_or_ge j i with e9 | e9
                  · rw [hk64 j e9]; exact hsg j e9
                  · rw [show j = i by omega]; exact he65) (by omega)))
    exact nw_wide (by omega) (by omega) (nw_sub [3, 4, 5, 2, 1, 0] rfl (lp44 _ H34 0 (fun _ => 0) hext ho40 hi41 (Nat.zero_le _) (fun j hj => absurd hj (Nat.not_lt_zero j)) (fun j hj => absurd hj (Nat.not_lt_zero j)) (Nat.lt_succ_self _)))
