/-! ===== taken cells, how many, lamps to come ===== -/
theorem sp_no {p : Nat → Bool} {j : Nat} (h : ∀ k, k < j → p k = false) (hp : p j = false) : ∀ k, k < j + 1 → p k = false := fun k hk => (Nat.lt_or_ge k j).elim (fun g5 => h k g5) (fun g5 => by rw [show k = j by omega]; exact hp)
theorem nw_m1n {g : Nat} (h : g < 2 ^ 31) : ¬ nI g < oI none := by
  intro h1
  have h2 := Int32.lt_iff_toInt_lt.mp h1
  rw [nI_toInt h] at h2
  have h3 : (oI none).toInt = -1 := by decide
  omega
theorem nw_m1l {n : Nat} (h : n < 2 ^ 31) : oI none < nI n := by
  apply Int32.lt_iff_toInt_lt.mpr
  rw [nI_toInt h]
  have h3 : (oI none).toInt = -1 := by decide
  omega
theorem sp_cnt_not (p : Nat → Bool) : ∀ n, sp_cnt (fun k => !p k) n + sp_cnt p n = n
  | 0 => rfl
  | n + 1 => by
    have h := sp_cnt_not p n
    unfold sp_cnt
    cases p n <;> simp <;> omega
theorem nw_keysIn (ke : Nat → Option Nat) : nI 6 - nw_bitc (sp_keysOf ke none) = nI (sp_keysIn ke) := by
  have e : (fun k => ke k == none) = (fun k => !(ke k).isSome) := by funext k; cases ke k <;> rfl
  unfold sp_keysOf sp_keysIn
  rw [nw_bitc6, e]
  have h := sp_cnt_not (fun k => (ke k).isSome) 6
  have h2 : sp_cnt (fun k => (ke k).isSome) 6 = 6 - sp_cnt (fun k => !(ke k).isSome) 6 := by omega
  rw [h2, pk_sub (by omega)]
theorem nw_orB (a b : Bool) : b2i a ||| b2i b = b2i (a || b) := by cases a <;> cases b <;> decide
theorem sp_hope_wall {s : spSg} {t c : Nat} (h : (gr_k (sg_gr s) c == 1) = true) : sp_hope s t c = false := by unfold sp_hope; rw [h]; rfl
theorem sp_hope_seen {s : spSg} {t c : Nat} (h : sp_watched (sg_gr s) (sg_la s) (sg_fo s) (sg_gu s) c t = true) : sp_hope s t c = false := by unfold sp_hope; rw [h]; simp
theorem sp_hope_no {s : spSg} {t c : Nat} (h1 : (gr_k (sg_gr s) c == 1) = false) (h2 : sp_watched (sg_gr s) (sg_la s) (sg_fo s) (sg_gu s) c t = false) : sp_hope s t c = sp_any (fun k => sp_sees (sg_gr s) ((sg_gu s).2 k) c t true (sp_fog (sg_fo s) t)) (sg_gu s).1 := by unfold sp_hope; rw [h1, h2]; simp
theorem nw_hfz {fz : Nat → Int32} {g : Nat → Int32} {i : Nat} (h : ∀ k, k < i → fz k = g k) (hi : fz i = g i) : ∀ k, k < i + 1 → fz k = g k := fun k hk => (Nat.lt_or_ge k i).elim (fun g5 => h k g5) (fun g5 => by rw [show k = i by omega]; exact hi)
theorem sp_gain_le (s : spSg) (t r c : Nat) : sp_gain s t r c ≤ gr_n (sg_gr s) := sp_cnt_le _ _
theorem sp_lamps_w {s : spSg} {t r c : Nat} (h : gr_k (sg_gr s) c = 1) : sp_lamps s t r (c + 1) = sp_lamps s t r c := by rw [sp_lamps, if_pos h]
theorem sp_lamps_a {s : spSg} {t r c : Nat} (h : ¬ gr_k (sg_gr s) c = 1) (h2 : (sp_lamps s t r c).2 = none) : sp_lamps s t r (c + 1) = (some c, some (sp_gain s t r c)) := by rw [sp_lamps, if_neg h, h2]
theorem sp_lamps_b {s : spSg} {t r c b : Nat} (h : ¬ gr_k (sg_gr s) c = 1) (h2 : (sp_lamps s t r c).2 = some b) : sp_lamps s t r (c + 1) = if b < sp_gain s t r c then (some c, some (sp_gain s t r c)) else sp_lamps s t r c := by rw [sp_lamps, if_neg h, h2]
theorem nw_m1le {n : Nat} (h : n < 2 ^ 31) : ¬ nI n ≤ oI none := by
  intro h1
  have h2 := Int32.le_iff_toInt_le.mp h1
  rw [nI_toInt h] at h2
  have h3 : (oI none).toInt = -1 := by decide
  omega
theorem kJ3_iterator : nwPV "java/util/ArrayList" yJ3_iterator cJ3_iterator 1 (some (.object "java/util/Iterator")) 0 := ⟨⟨q300, q301, q90, q302⟩, rfl, by decide +kernel, by decide +kernel, by decide +kernel⟩
theorem kX12_walksOn : nwPV "NightwatchWall$Intruder" yX12_walksOn cX12_walksOn 3 (some .boolean) 1 := ⟨⟨q380, q381, q120, q382⟩, rfl, by decide +kernel, by decide +kernel, by decide +kernel⟩
theorem kX10_walksOn : nwPV "NightwatchWall$Guard" yX10_walksOn cX10_walksOn 3 (some .boolean) 1 := ⟨⟨q371, q372, q117, q373⟩, rfl, by decide +kernel, by decide +kernel, by decide +kernel⟩
theorem kX1_isTaken : nwPV "NightwatchWall" yX1_isTaken cX1_isTaken 4 (some .boolean) 1 := ⟨⟨q297, qs3, q86, q298⟩, rfl, by decide +kernel, by decide +kernel, by decide +kernel⟩
theorem kX1_isSoundNow : nwPV "NightwatchWall" yX1_isSoundNow cX1_isSoundNow 5 (some .boolean) 0 := ⟨⟨q270, qs1, q86, q271⟩, rfl, by decide +kernel, by decide +kernel, by decide +kernel⟩
theorem kJ19_bitCount : nwPS yJ19_bitCount cJ19_bitCount 1 (some .int) 1 := ⟨⟨q512, q115, q513⟩, by decide +kernel, by decide +kernel, by decide +kernel⟩
theorem kX1_emptyMinutes : nwPV "NightwatchWall" yX1_emptyMinutes cX1_emptyMinutes 3 (some .int) 0 := ⟨⟨q519, qs14, q86, q520⟩, rfl, by decide +kernel, by decide +kernel, by decide +kernel⟩
theorem kX1_manyNow : nwPV "NightwatchWall" yX1_manyNow cX1_manyNow 5 (some .int) 1 := ⟨⟨q405, qs4, q86, q406⟩, rfl, by decide +kernel, by decide +kernel, by decide +kernel⟩
theorem kX1_hopes : nwPV "NightwatchWall" yX1_hopes cX1_hopes 6 (some (.array .boolean)) 1 := ⟨⟨q1303, qs45, q86, q1304⟩, rfl, by decide +kernel, by decide +kernel, by decide +kernel⟩
theorem kX8_init : nwPI yX8_init cX8_init 3 2 := ⟨⟨q110, q873, q874⟩, rfl, by decide +kernel, by decide +kernel, by decide +kernel⟩
theorem kX1_gain : nwPV "NightwatchWall" yX1_gain cX1_gain 5 (some .int) 2 := ⟨⟨q1307, qs46, q86, q1308⟩, rfl, by decide +kernel, by decide +kernel, by decide +kernel⟩
set_option maxHeartbeats 4000000 in
theorem mX1_isTaken (l : Launch) (hf : l.flags = flags0) (d : nwD) (ro ad : Nat → Nat) (x : Nat) (σ : spSg) (sm : Int64) (c : Nat) (H : Heap) (hB : nd_B d ≤ H.size) (hW : nwWC d ro ad x σ sm H) (ok : spOk σ) (hc : c < 2 ^ 31) : nwMt l d yX1_isTaken cX1_isTaken 4 (some .boolean) 6 127 3 12 [.ref x, .int (nI c)] H (nwBr (sp_taken σ c) H) nwNo (nwNew H) := by
  refine nw_start "NightwatchWall" "isTaken" hf (by decide +kernel) rfl rfl (fun _ h => h) (fun q h => Nat.le_trans hB h) (Nat.le_of_ble_eq_true rfl) ?_
  intro X C
  obtain ⟨mo1, ar1, cap1, f1, hLm1⟩ := nwLi_m hW.2.2.1.1
  obtain ⟨mo3, ar3, cap3, f3, hLm3⟩ := nwLi_m hW.2.2.2.2.1.1
  obtain ⟨mo5, ar5, cap5, f5, hLm5⟩ := nwLi_m hW.2.2.2.2.2.2.1.1
  have hW0 := hW
  have hLm10 := hLm1
  have hLm30 := hLm3
  have hLm50 := hLm5
  have hB0 := hB
  have hE := C.E0
  have hext : nwExt H H := nwExt.rfl
  obtain ⟨hx, hcG, hcLa, hcFo, hcGu, hcPo, hcIn, hcWi, hcWo, hcKe⟩ := id hW
  obtain ⟨okg, okl, okf, oku, okp, oki, okw, okd, okk, oka⟩ := id ok
  have hn64 : gr_n (sg_gr σ) ≤ 64 := okg.n
  have oku1 := oku.1
  have oki1 := oki.1
  have okp1 := okp.1
  have okw1 := okw.1
  have okl1 := okl.1
  have okf1 := okf.1
  show nwV X _ _ 4 H 0 0 0 [(0, .ref x), (1, .int (nI c))] []
  refine nw_aload_n C 0 dX1_isTaken_0 rfl 1 rfl ?_
  refine nw_get C hx (T := TX1) rfl in_X1 1 (by decide) q222 (Or.inl rfl) rfl dX1_isTaken_1 4 rfl ?_
  refine nw_callV C (mJ3_iterator _ C.hfl d (ad 1) ((sg_la σ).1) (fun k => ad (100 + k)) (fun q => ro q = 2002) mo1 ar1 cap1 f1 H hB hLm1) kJ3_iterator q299 (hcLa.1.is C) (As := []) (rest := []) rfl rfl ⟨⟨Nat.le_of_ble_eq_true rfl, Nat.le_of_ble_eq_true rfl⟩, (show 0 + 1 ≤ 3 by omega), (show 0 + 4 ≤ 12 by omega)⟩ (Nat.le_of_ble_eq_true rfl) (fun _ h8 h9 => absurd h9 (Nat.not_le.mpr h8)) dX1_isTaken_4 7 rfl (fun v9 H1 hR2 hz3 hq4 => ?_) nw_noX
  obtain ⟨⟨it5, rfl, hn6, hi7⟩, -⟩ := hR2
  have hn8 : H.size ≤ it5 := (Nat.le_trans hext.1 hn6)
  have hext := hext.call hz3 hq4
  have hW := hW0.ext hext.2
  have hLm1 := hLm10.ext hext.2
  have hLm3 := hLm30.ext hext.2
  have hLm5 := hLm50.ext hext.2
  have hE := C.E0.ext hext.2
  have hB := Nat.le_trans hB0 hext.1
  obtain ⟨hx, hcG, hcLa, hcFo, hcGu, hcPo, hcIn, hcWi, hcWo, hcKe⟩ := id hW
  obtain ⟨okg, okl, okf, oku, okp, oki, okw, okd, okk, oka⟩ := id ok
  have hn64 : gr_n (sg_gr σ) ≤ 64 := okg.n
  have oku1 := oku.1
  have oki1 := oki.1
  have okp1 := okp.1
  have okw1 := okw.1
  have okl1 := okl.1
  have okf1 := okf.1
  show nwV X _ _ 4 H1 (0 + 1) (0 + 4) 7 [(0, .ref x), (1, .int (nI c))] [.ref it5]
  refine nw_wide (k' := 1) (n' := 4) (by omega) (by omega) ?_
  refine nw_astore_n C [(2, .ref it5), (0, .ref x), (1, .int (nI c))] dX1_isTaken_7 (by decide) rfl 8 rfl ?_
  have lp9 : ∀ (fu : Nat) (H21 : Heap) (j1 : Nat) (lr1 : Int32), (nwExt H H21) → (nwO d it5 14 [.int (nI j1), .int lr1, .int mo1, .ref (ad 1)] H21) → (j1 ≤ (sg_la σ).1) → (∀ k, k < j1 → (fun k => ((sg_la σ).2 k).1 == c) k = false) → (sg_la σ).1 - j1 < fu → nwV X (nwNew H) (nwQE X (nwBr (sp_taken σ c) H) nwNo (nwNew H) 3 12) 4 H21 1 4 8 [(0, .ref x), (1, .int (nI c)), (2, .ref it5)] [] := by
    intro fu
    induction fu with
    | zero => intro H21 j1 lr1 _ _ _ _ hm; exact absurd hm (Nat.not_lt_zero _)
    | succ fu ih_lp9 =>
      intro H21 j1 lr1 hext hit1 hi1 hno1 hm
      have hW := hW0.ext hext.2
      have hLm1 := hLm10.ext hext.2
      have hLm3 := hLm30.ext hext.2
      have hLm5 := hLm50.ext hext.2
      have hE := C.E0.ext hext.2
      have hB := Nat.le_trans hB0 hext.1
      obtain ⟨hx, hcG, hcLa, hcFo, hcGu, hcPo, hcIn, hcWi, hcWo, hcKe⟩ := id hW
      obtain ⟨okg, okl, okf, oku, okp, oki, okw, okd, okk, oka⟩ := id ok
      have hn64 : gr_n (sg_gr σ) ≤ 64 := okg.n
      have oku1 := oku.1
      have oki1 := oki.1
      have okp1 := okp.1
      have okw1 := okw.1
      have okl1 := okl.1
      have okf1 := okf.1
      refine nw_aload_n C 2 dX1_isTaken_8 rfl 9 rfl ?_
      refine nw_callG C (mJ13_hasNext _ C.hfl d (ad 1) ((sg_la σ).1) (fun k => ad (100 + k)) (fun q => ro q = 2002) mo1 ar1 cap1 f1 it5 j1 lr1 H21 hB hLm1 hit1 (by omega)) kJ13_hasNext (ci := 14) rfl q323 q327 (by decide +kernel) fc_Iterator_hasNext (hit1.is C (ci := 14) rfl) (As := []) (rest := []) rfl rfl ⟨⟨Nat.le_of_ble_eq_true rfl, Nat.le_of_ble_eq_true rfl⟩, Nat.le_of_ble_eq_true rfl, Nat.le_of_ble_eq_true rfl⟩ (Nat.le_of_ble_eq_true rfl) (fun _ h8 h9 => absurd h9 (Nat.not_le.mpr h8)) dX1_isTaken_9 14 rfl (nw_rdK ?_) nw_noX
      refine nw_ifeqB C 40 dX1_isTaken_14 (by decide) 17 rfl (fun h10 => ?_) (fun h10 => ?_)
      · have h10 := of_decide_eq_false h10
        refine nw_iconst C (nI 0) dX1_isTaken_40 (by decide) 41 rfl ?_
        refine nw_istore_n C [(2, .int (nI 0)), (0, .ref x), (1, .int (nI c))] dX1_isTaken_41 (by decide) rfl 42 rfl ?_
        have ha1 : sp_any (fun k => ((sg_la σ).2 k).1 == c) (sg_la σ).1 = false := sp_any_false.mpr (fun k hk => hno1 k (by omega))
        have lp11 : ∀ (fu : Nat) (j2 : Nat), (j2 ≤ (sg_po σ).1) → (∀ k, k < j2 → (fun k => (sg_po σ).2 k == c) k = false) → (sg_po σ).1 - j2 < fu → nwV X (nwNew H) (nwQE X (nwBr (sp_taken σ c) H) nwNo (nwNew H) 3 12) 4 H21 1 4 42 [(0, .ref x), (1, .int (nI c)), (2, .int (nI j2))] [] := by
          intro fu
          induction fu with
          | zero => intro j2 _ _ hm; exact absurd hm (Nat.not_lt_zero _)
          | succ fu ih_lp11 =>
            intro j2 hi2 hno2 hm
            refine nw_iload_n C 2 dX1_isTaken_42 rfl 43 rfl ?_
            refine nw_aload_n C 0 dX1_isTaken_43 rfl 44 rfl ?_
            refine nw_get C hx (T := TX1) rfl in_X1 4 (by decide) q225 (Or.inl rfl) rfl dX1_isTaken_44 47 rfl ?_
            refine nw_callV C (mJ3_size _ C.hfl d (ad 4) ((sg_po σ).1) (fun k => nd_bx d ((sg_po σ).2 k)) (fun q => ro q = 2005) H21 hB hcPo) kJ3_size q346 (hcPo.is C) (As := []) (rest := [.int (nI j2)]) rfl rfl ⟨⟨Nat.le_of_ble_eq_true rfl, Nat.le_of_ble_eq_true rfl⟩, Nat.le_of_ble_eq_true rfl, Nat.le_of_ble_eq_true rfl⟩ (Nat.le_of_ble_eq_true rfl) (fun _ h8 h9 => absurd h9 (Nat.not_le.mpr h8)) dX1_isTaken_47 50 rfl (nw_rdK ?_) nw_noX
            refine nw_icmpgeN C (by omega) 79 dX1_isTaken_50 (by decide) 53 rfl (fun h12 => ?_) (fun h12 => ?_)
            · have ha2 : sp_any (fun k => (sg_po σ).2 k == c) (sg_po σ).1 = false := sp_any_false.mpr (fun k hk => hno2 k (by omega))
              refine nw_aload_n C 0 dX1_isTaken_79 rfl 80 rfl ?_
              refine nw_get C hx (T := TX1) rfl in_X1 3 (by decide) q224 (Or.inl rfl) rfl dX1_isTaken_80 83 rfl ?_
              refine nw_callV C (mJ3_iterator _ C.hfl d (ad 3) ((sg_gu σ).1) (fun k => ad (300 + k)) (fun q => ro q = 2004) mo3 ar3 cap3 f3 H21 hB hLm3) kJ3_iterator q299 (hcGu.1.is C) (As := []) (rest := []) rfl rfl ⟨⟨Nat.le_of_ble_eq_true rfl, Nat.le_of_ble_eq_true rfl⟩, (show 1 + 1 ≤ 3 by omega), (show 4 + 4 ≤ 12 by omega)⟩ (Nat.le_of_ble_eq_true rfl) (fun _ h8 h9 => absurd h9 (Nat.not_le.mpr h8)) dX1_isTaken_83 86 rfl (fun v9 H13 hR14 hz15 hq16 => ?_) nw_noX
              obtain ⟨⟨it17, rfl, hn18, hi19⟩, -⟩ := hR14
              have hn20 : H.size ≤ it17 := (Nat.le_trans hext.1 hn18)
              have hne21 : it5 ≠ it17 := (Nat.ne_of_lt (Nat.lt_of_lt_of_le hit1.lt hn18))
              have ho22 := hit1.kept (hq16 _ hit1.lt (Nat.not_le.mpr hit1.lt))
              have hext := hext.call hz15 hq16
              have hW := hW0.ext hext.2
              have hLm1 := hLm10.ext hext.2
              have hLm3 := hLm30.ext hext.2
              have hLm5 := hLm50.ext hext.2
              have hE := C.E0.ext hext.2
              have hB := Nat.le_trans hB0 hext.1
              obtain ⟨hx, hcG, hcLa, hcFo, hcGu, hcPo, hcIn, hcWi, hcWo, hcKe⟩ := id hW
              obtain ⟨okg, okl, okf, oku, okp, oki, okw, okd, okk, oka⟩ := id ok
              have hn64 : gr_n (sg_gr σ) ≤ 64 := okg.n
              have oku1 := oku.1
              have oki1 := oki.1
              have okp1 := okp.1
              have okw1 := okw.1
              have okl1 := okl.1
              have okf1 := okf.1
              show nwV X _ _ 4 H13 (1 + 1) (4 + 4) 86 [(0, .ref x), (1, .int (nI c)), (2, .int (nI j2))] [.ref it17]
              refine nw_wide (k' := 2) (n' := 8) (by omega) (by omega) ?_
              refine nw_astore_n C [(2, .ref it17), (0, .ref x), (1, .int (nI c))] dX1_isTaken_86 (by decide) rfl 87 rfl ?_
              have lp23 : ∀ (fu : Nat) (H23 : Heap) (j3 : Nat) (lr3 : Int32), (nwExt H H23) → (nwO d it17 14 [.int (nI j3), .int lr3, .int mo3, .ref (ad 3)] H23) → (j3 ≤ (sg_gu σ).1) → (∀ k, k < j3 → (fun k => sp_any (fun j => gd_c ((sg_gu σ).2 k) j == c) (gd_m ((sg_gu σ).2 k))) k = false) → (sg_gu σ).1 - j3 < fu → nwV X (nwNew H) (nwQE X (nwBr (sp_taken σ c) H) nwNo (nwNew H) 3 12) 4 H23 2 8 87 [(0, .ref x), (1, .int (nI c)), (2, .ref it17)] [] := by
                intro fu
                induction fu with
                | zero => intro H23 j3 lr3 _ _ _ _ hm; exact absurd hm (Nat.not_lt_zero _)
                | succ fu ih_lp23 =>
                  intro H23 j3 lr3 hext hit3 hi3 hno3 hm
                  have hW := hW0.ext hext.2
                  have hLm1 := hLm10.ext hext.2
                  have hLm3 := hLm30.ext hext.2
                  have hLm5 := hLm50.ext hext.2
                  have hE := C.E0.ext hext.2
                  have hB := Nat.le_trans hB0 hext.1
                  obtain ⟨hx, hcG, hcLa, hcFo, hcGu, hcPo, hcIn, hcWi, hcWo, hcKe⟩ := id hW
                  obtain ⟨okg, okl, okf, oku, okp, oki, okw, okd, okk, oka⟩ := id ok
                  have hn64 : gr_n (sg_gr σ) ≤ 64 := okg.n
                  have oku1 := oku.1
                  have oki1 := oki.1
                  have okp1 := okp.1
                  have okw1 := okw.1
                  have okl1 := okl.1
                  have okf1 := okf.1
                  refine nw_aload_n C 2 dX1_isTaken_87 rfl 88 rfl ?_
                  refine nw_callG C (mJ13_hasNext _ C.hfl d (ad 3) ((sg_gu σ).1) (fun k => ad (300 + k)) (fun q => ro q = 2004) mo3 ar3 cap3 f3 it17 j3 lr3 H23 hB hLm3 hit3 (by omega)) kJ13_hasNext (ci := 14) rfl q323 q327 (by decide +kernel) fc_Iterator_hasNext (hit3.is C (ci := 14) rfl) (As := []) (rest := []) rfl rfl ⟨⟨Nat.le_of_ble_eq_true rfl, Nat.le_of_ble_eq_true rfl⟩, Nat.le_of_ble_eq_true rfl, Nat.le_of_ble_eq_true rfl⟩ (Nat.le_of_ble_eq_true rfl) (fun _ h8 h9 => absurd h9 (Nat.not_le.mpr h8)) dX1_isTaken_88 93 rfl (nw_rdK ?_) nw_noX
                  refine nw_ifeqB C 119 dX1_isTaken_93 (by decide) 96 rfl (fun h24 => ?_) (fun h24 => ?_)
                  · have h24 := of_decide_eq_false h24
                    have ha3 : sp_any (fun k => sp_any (fun j => gd_c ((sg_gu σ).2 k) j == c) (gd_m ((sg_gu σ).2 k))) (sg_gu σ).1 = false := sp_any_false.mpr (fun k hk => hno3 k (by omega))
                    refine nw_aload_n C 0 dX1_isTaken_119 rfl 120 rfl ?_
                    refine nw_get C hx (T := TX1) rfl in_X1 5 (by decide) q226 (Or.inl rfl) rfl dX1_isTaken_120 123 rfl ?_
                    refine nw_callV C (mJ3_iterator _ C.hfl d (ad 5) ((sg_in σ).1) (fun k => ad (500 + k)) (fun q => ro q = 2006) mo5 ar5 cap5 f5 H23 hB hLm5) kJ3_iterator q299 (hcIn.1.is C) (As := []) (rest := []) rfl rfl ⟨⟨Nat.le_of_ble_eq_true rfl, Nat.le_of_ble_eq_true rfl⟩, (show 2 + 1 ≤ 3 by omega), (show 8 + 4 ≤ 12 by omega)⟩ (Nat.le_of_ble_eq_true rfl) (fun _ h8 h9 => absurd h9 (Nat.not_le.mpr h8)) dX1_isTaken_123 126 rfl (fun v9 H25 hR26 hz27 hq28 => ?_) nw_noX
                    obtain ⟨⟨it29, rfl, hn30, hi31⟩, -⟩ := hR26
                    have hn32 : H.size ≤ it29 := (Nat.le_trans hext.1 hn30)
                    have hne33 : it17 ≠ it29 := (Nat.ne_of_lt (Nat.lt_of_lt_of_le hit3.lt hn30))
                    have ho34 := hit3.kept (hq28 _ hit3.lt (Nat.not_le.mpr hit3.lt))
                    have hext := hext.call hz27 hq28
                    have hW := hW0.ext hext.2
                    have hLm1 := hLm10.ext hext.2
                    have hLm3 := hLm30.ext hext.2
                    have hLm5 := hLm50.ext hext.2
                    have hE := C.E0.ext hext.2
                    have hB := Nat.le_trans hB0 hext.1
                    obtain ⟨hx, hcG, hcLa, hcFo, hcGu, hcPo, hcIn, hcWi, hcWo, hcKe⟩ := id hW
                    obtain ⟨okg, okl, okf, oku, okp, oki, okw, okd, okk, oka⟩ := id ok
                    have hn64 : gr_n (sg_gr σ) ≤ 64 := okg.n
                    have oku1 := oku.1
                    have oki1 := oki.1
                    have okp1 := okp.1
                    have okw1 := okw.1
                    have okl1 := okl.1
                    have okf1 := okf.1
                    show nwV X _ _ 4 H25 (2 + 1) (8 + 4) 126 [(0, .ref x), (1, .int (nI c)), (2, .ref it17)] [.ref it29]
                    refine nw_wide (k' := 3) (n' := 12) (by omega) (by omega) ?_
                    refine nw_astore_n C [(2, .ref it29), (0, .ref x), (1, .int (nI c))] dX1_isTaken_126 (by decide) rfl 127 rfl ?_
                    have lp35 : ∀ (fu : Nat) (H25 : Heap) (j5 : Nat) (lr5 : Int32), (nwExt H H25) → (nwO d it29 14 [.int (nI j5), .int lr5, .int mo5, .ref (ad 5)] H25) → (j5 ≤ (sg_in σ).1) → (∀ k, k < j5 → (fun k => sp_walks ((sg_in σ).2 k) c) k = false) → (sg_in σ).1 - j5 < fu → nwV X (nwNew H) (nwQE X (nwBr (sp_taken σ c) H) nwNo (nwNew H) 3 12) 4 H25 3 12 127 [(0, .ref x), (1, .int (nI c)), (2, .ref it29)] [] := by
                      intro fu
                      induction fu with
                      | zero => intro H25 j5 lr5 _ _ _ _ hm; exact absurd hm (Nat.not_lt_zero _)
                      | succ fu ih_lp35 =>
                        intro H25 j5 lr5 hext hit5 hi5 hno5 hm
                        have hW := hW0.ext hext.2
                        have hLm1 := hLm10.ext hext.2
                        have hLm3 := hLm30.ext hext.2
                        have hLm5 := hLm50.ext hext.2
                        have hE := C.E0.ext hext.2
                        have hB := Nat.le_trans hB0 hext.1
                        obtain ⟨hx, hcG, hcLa, hcFo, hcGu, hcPo, hcIn, hcWi, hcWo, hcKe⟩ := id hW
                        obtain ⟨okg, okl, okf, oku, okp, oki, okw, okd, okk, oka⟩ := id ok
                        have hn64 : gr_n (sg_gr σ) ≤ 64 := okg.n
                        have oku1 := oku.1
                        have oki1 := oki.1
                        have okp1 := okp.1
                        have okw1 := okw.1
                        have okl1 := okl.1
                        have okf1 := okf.1
                        refine nw_aload_n C 2 dX1_isTaken_127 rfl 128 rfl ?_
                        refine nw_callG C (mJ13_hasNext _ C.hfl d (ad 5) ((sg_in σ).1) (fun k => ad (500 + k)) (fun q => ro q = 2006) mo5 ar5 cap5 f5 it29 j5 lr5 H25 hB hLm5 hit5 (by omega)) kJ13_hasNext (ci := 14) rfl q323 q327 (by decide +kernel) fc_Iterator_hasNext (hit5.is C (ci := 14) rfl) (As := []) (rest := []) rfl rfl ⟨⟨Nat.le_of_ble_eq_true rfl, Nat.le_of_ble_eq_true rfl⟩, Nat.le_of_ble_eq_true rfl, Nat.le_of_ble_eq_true rfl⟩ (Nat.le_of_ble_eq_true rfl) (fun _ h8 h9 => absurd h9 (Nat.not_le.mpr h8)) dX1_isTaken_128 133 rfl (nw_rdK ?_) nw_noX
                        refine nw_ifeqB C 159 dX1_isTaken_133 (by decide) 136 rfl (fun h36 => ?_) (fun h36 => ?_)
                        · have h36 := of_decide_eq_false h36
                          have ha5 : sp_any (fun k => sp_walks ((sg_in σ).2 k) c) (sg_in σ).1 = false := sp_any_false.mpr (fun k hk => hno5 k (by omega))
                          refine nw_iconst C (nI 0) dX1_isTaken_159 (by decide) 160 rfl ?_
                          exact nw_nret C dX1_isTaken_160 (b2i_narrow false) (by omega) (by omega) ⟨by rw [show sp_taken σ c = false by unfold sp_taken; simp only [ha1, ha2, ha3, ha5]; rfl]; rfl, hext⟩
                        · have h36 := of_decide_eq_true h36
                          refine nw_aload_n C 2 dX1_isTaken_136 rfl 137 rfl ?_
                          refine nw_callG C (mJ13_next _ C.hfl d it29 (ad 5) ((sg_in σ).1) (fun k => ad (500 + k)) (fun q => ro q = 2006) mo5 ar5 cap5 f5 j5 lr5 H25 hB (Nat.le_trans hB0 hn32) hit5 hLm5 (by omega) (fun g9 e9 => absurd (hLm50.art g9) (Nat.not_lt.mpr (by rw [e9]; exact hn32))) (fun e9 => absurd hLm50.lt (Nat.not_lt.mpr (by rw [e9]; exact hn32)))) kJ13_next (ci := 14) rfl q333 q336 (by decide +kernel) fc_Iterator_next (hit5.is C (ci := 14) rfl) (As := []) (rest := []) rfl rfl ⟨⟨Nat.le_of_ble_eq_true rfl, Nat.le_of_ble_eq_true rfl⟩, (show 3 + 0 ≤ 3 by omega), (show 12 + 0 ≤ 12 by omega)⟩ (Nat.le_of_ble_eq_true rfl) (fun q8 h8 h9 => h9.elim (fun e9 => by rw [e9]; exact hn32) (fun e9 => absurd h8 (Nat.not_lt.mpr e9))) dX1_isTaken_137 142 rfl (fun v9 H37 hR38 hz39 hq40 => ?_) nw_noX
                          obtain ⟨rfl, ho41⟩ := hR38
                          have hext := hext.step hz39 hq40 (fun q9 e9 => e9.elim (fun e9 => by rw [e9]; exact hn32) (fun e9 => Nat.le_trans hext.1 e9))
                          have hW := hW0.ext hext.2
                          have hLm1 := hLm10.ext hext.2
                          have hLm3 := hLm30.ext hext.2
                          have hLm5 := hLm50.ext hext.2
                          have hE := C.E0.ext hext.2
                          have hB := Nat.le_trans hB0 hext.1
                          obtain ⟨hx, hcG, hcLa, hcFo, hcGu, hcPo, hcIn, hcWi, hcWo, hcKe⟩ := id hW
                          obtain ⟨okg, okl, okf, oku, okp, oki, okw, okd, okk, oka⟩ := id ok
                          have hn64 : gr_n (sg_gr σ) ≤ 64 := okg.n
                          have oku1 := oku.1
                          have oki1 := oki.1
                          have okp1 := okp.1
                          have okw1 := okw.1
                          have okl1 := okl.1
                          have okf1 := okf.1
                          have hg42 : nwIn d (ad (500 + j5)) (ad (600 + j5)) (fun q => ro q = 2601 + j5) ((sg_in σ).2 j5) H37 := hcIn.2 j5 (by omega)
                          have hk43 : okI1 (sg_gr σ) ((sg_in σ).2 j5) := oki.2 j5 (by omega)
                          have hg44 : nwO d (ad (500 + j5)) 7 [.int (nI (in_a ((sg_in σ).2 j5))), .ref (ad (600 + j5)), .int (nI (in_v ((sg_in σ).2 j5))), .int (nI (in_s ((sg_in σ).2 j5))), .int (oI (in_l ((sg_in σ).2 j5)))] H37 := hg42.1
                          show nwV X _ _ 4 H37 (3 + 0) (12 + 0) 142 [(0, .ref x), (1, .int (nI c)), (2, .ref it29)] [.ref (ad (500 + j5))]
                          refine nw_wide (k' := 3) (n' := 12) (by omega) (by omega) ?_
                          refine nw_cast C (ci := 7) rfl (hg44.is C (ci := 7) rfl) q378 dX1_isTaken_142 145 rfl ?_
                          refine nw_astore_n C [(3, .ref (ad (500 + j5))), (0, .ref x), (1, .int (nI c)), (2, .ref it29)] dX1_isTaken_145 (by decide) rfl 146 rfl ?_
                          refine nw_aload_n C 0 dX1_isTaken_146 rfl 147 rfl ?_
                          refine nw_iload_n C 2 dX1_isTaken_147 rfl 148 rfl ?_
                          refine nw_callV C (mX12_walksOn _ C.hfl d (ad (500 + j5)) (ad (600 + j5)) (fun q => ro q = 2601 + j5) ((sg_in σ).2 j5) (sg_gr σ) c H37 hB hg42 hk43 hn64 (by omega)) kX12_walksOn q379 (hg44.is C (ci := 7) rfl) (As := [.int (nI c)]) (rest := []) rfl rfl ⟨⟨Nat.le_of_ble_eq_true rfl, Nat.le_of_ble_eq_true rfl⟩, Nat.le_of_ble_eq_true rfl, Nat.le_of_ble_eq_true rfl⟩ (Nat.le_of_ble_eq_true rfl) (fun _ h8 h9 => absurd h9 (Nat.not_le.mpr h8)) dX1_isTaken_148 151 rfl (nw_rdK ?_) nw_noX
                          refine nw_ifeqB C 156 dX1_isTaken_151 (by decide) 154 rfl (fun h45 => ?_) (fun h45 => ?_)
                          · refine nw_goto C 127 dX1_isTaken_156 (by decide) ?_
                            exact nw_wide (by omega) (by omega) (nw_sub [1, 2, 3] rfl (ih_lp35 H37 (j5 + 1) (nI j5) hext ho41 (by omega) (sp_no hno5 h45) (by omega)))
                          · have hb9 : sp_any (fun k => sp_walks ((sg_in σ).2 k) c) (sg_in σ).1 = true := sp_any_iff.mpr ⟨j5, by omega, by simp [h45]⟩
                            refine nw_iconst C (nI 1) dX1_isTaken_154 (by decide) 155 rfl ?_
                            exact nw_nret C dX1_isTaken_155 (b2i_narrow true) (by omega) (by omega) ⟨by rw [show sp_taken σ c = true by unfold sp_taken; simp [hb9]]; rfl, hext⟩
                    exact nw_wide (by omega) (by omega) (nw_sub [1, 2, 0] rfl (lp35 _ H25 0 (oI none) hext hi31 (Nat.zero_le _) (fun k hk => absurd hk (Nat.not_lt_zero k)) (Nat.lt_succ_self _)))
                  · have h24 := of_decide_eq_true h24
                    refine nw_aload_n C 2 dX1_isTaken_96 rfl 97 rfl ?_
                    refine nw_callG C (mJ13_next _ C.hfl d it17 (ad 3) ((sg_gu σ).1) (fun k => ad (300 + k)) (fun q => ro q = 2004) mo3 ar3 cap3 f3 j3 lr3 H23 hB (Nat.le_trans hB0 hn20) hit3 hLm3 (by omega) (fun g9 e9 => absurd (hLm30.art g9) (Nat.not_lt.mpr (by rw [e9]; exact hn20))) (fun e9 => absurd hLm30.lt (Nat.not_lt.mpr (by rw [e9]; exact hn20)))) kJ13_next (ci := 14) rfl q333 q336 (by decide +kernel) fc_Iterator_next (hit3.is C (ci := 14) rfl) (As := []) (rest := []) rfl rfl ⟨⟨Nat.le_of_ble_eq_true rfl, Nat.le_of_ble_eq_true rfl⟩, (show 2 + 0 ≤ 3 by omega), (show 8 + 0 ≤ 12 by omega)⟩ (Nat.le_of_ble_eq_true rfl) (fun q8 h8 h9 => h9.elim (fun e9 => by rw [e9]; exact hn20) (fun e9 => absurd h8 (Nat.not_lt.mpr e9))) dX1_isTaken_97 102 rfl (fun v9 H46 hR47 hz48 hq49 => ?_) nw_noX
                    obtain ⟨rfl, ho50⟩ := hR47
                    have hext := hext.step hz48 hq49 (fun q9 e9 => e9.elim (fun e9 => by rw [e9]; exact hn20) (fun e9 => Nat.le_trans hext.1 e9))
                    have hW := hW0.ext hext.2
                    have hLm1 := hLm10.ext hext.2
                    have hLm3 := hLm30.ext hext.2
                    have hLm5 := hLm50.ext hext.2
                    have hE := C.E0.ext hext.2
                    have hB := Nat.le_trans hB0 hext.1
                    obtain ⟨hx, hcG, hcLa, hcFo, hcGu, hcPo, hcIn, hcWi, hcWo, hcKe⟩ := id hW
                    obtain ⟨okg, okl, okf, oku, okp, oki, okw, okd, okk, oka⟩ := id ok
                    have hn64 : gr_n (sg_gr σ) ≤ 64 := okg.n
                    have oku1 := oku.1
                    have oki1 := oki.1
                    have okp1 := okp.1
                    have okw1 := okw.1
                    have okl1 := okl.1
                    have okf1 := okf.1
                    have hg51 : nwGd d (ad (300 + j3)) (ad (400 + j3)) (fun q => ro q = 2401 + j3) ((sg_gu σ).2 j3) H46 := hcGu.2 j3 (by omega)
                    have hk52 : okGd (sg_gr σ) ((sg_gu σ).2 j3) := oku.2 j3 (by omega)
                    have hg53 : nwO d (ad (300 + j3)) 4 [.int (nI (gd_a ((sg_gu σ).2 j3))), .int (nI (gd_b ((sg_gu σ).2 j3))), .int (nI (gd_s ((sg_gu σ).2 j3))), .ref (ad (400 + j3)), .int (nI (gd_k ((sg_gu σ).2 j3))), .int (gd_h ((sg_gu σ).2 j3))] H46 := hg51.1
                    show nwV X _ _ 4 H46 (2 + 0) (8 + 0) 102 [(0, .ref x), (1, .int (nI c)), (2, .ref it17)] [.ref (ad (300 + j3))]
                    refine nw_wide (k' := 2) (n' := 8) (by omega) (by omega) ?_
                    refine nw_cast C (ci := 4) rfl (hg53.is C (ci := 4) rfl) q369 dX1_isTaken_102 105 rfl ?_
                    refine nw_astore_n C [(3, .ref (ad (300 + j3))), (0, .ref x), (1, .int (nI c)), (2, .ref it17)] dX1_isTaken_105 (by decide) rfl 106 rfl ?_
                    refine nw_aload_n C 0 dX1_isTaken_106 rfl 107 rfl ?_
                    refine nw_iload_n C 2 dX1_isTaken_107 rfl 108 rfl ?_
                    refine nw_callV C (mX10_walksOn _ C.hfl d (ad (300 + j3)) (ad (400 + j3)) (fun q => ro q = 2401 + j3) ((sg_gu σ).2 j3) (sg_gr σ) c H46 hB hg51 hk52 (by omega) (by omega)) kX10_walksOn q370 (hg53.is C (ci := 4) rfl) (As := [.int (nI c)]) (rest := []) rfl rfl ⟨⟨Nat.le_of_ble_eq_true rfl, Nat.le_of_ble_eq_true rfl⟩, Nat.le_of_ble_eq_true rfl, Nat.le_of_ble_eq_true rfl⟩ (Nat.le_of_ble_eq_true rfl) (fun _ h8 h9 => absurd h9 (Nat.not_le.mpr h8)) dX1_isTaken_108 111 rfl (nw_rdK ?_) nw_noX
                    refine nw_ifeqB C 116 dX1_isTaken_111 (by decide) 114 rfl (fun h54 => ?_) (fun h54 => ?_)
                    · refine nw_goto C 87 dX1_isTaken_116 (by decide) ?_
                      exact nw_wide (by omega) (by omega) (nw_sub [1, 2, 3] rfl (ih_lp23 H46 (j3 + 1) (nI j3) hext ho50 (by omega) (sp_no hno3 h54) (by omega)))
                    · have hb9 : sp_any (fun k => sp_any (fun j => gd_c ((sg_gu σ).2 k) j == c) (gd_m ((sg_gu σ).2 k))) (sg_gu σ).1 = true := sp_any_iff.mpr ⟨j3, by omega, by simp [h54]⟩
                      refine nw_iconst C (nI 1) dX1_isTaken_114 (by decide) 115 rfl ?_
                      exact nw_nret C dX1_isTaken_115 (b2i_narrow true) (by omega) (by omega) ⟨by rw [show sp_taken σ c = true by unfold sp_taken; simp [hb9]]; rfl, hext⟩
              exact nw_wide (by omega) (by omega) (nw_sub [1, 2, 0] rfl (lp23 _ H13 0 (oI none) hext hi19 (Nat.zero_le _) (fun k hk => absurd hk (Nat.not_lt_zero k)) (Nat.lt_succ_self _)))
            · refine nw_aload_n C 0 dX1_isTaken_53 rfl 54 rfl ?_
              refine nw_get C hx (T := TX1) rfl in_X1 4 (by decide) q225 (Or.inl rfl) rfl dX1_isTaken_54 57 rfl ?_
              refine nw_iload_n C 2 dX1_isTaken_57 rfl 58 rfl ?_
              refine nw_callV C (mJ3_get _ C.hfl d (ad 4) ((sg_po σ).1) (fun k => nd_bx d ((sg_po σ).2 k)) (fun q => ro q = 2005) j2 H21 hB hcPo (by omega)) kJ3_get q350 (hcPo.is C) (As := [.int (nI j2)]) (rest := []) rfl rfl ⟨⟨Nat.le_of_ble_eq_true rfl, Nat.le_of_ble_eq_true rfl⟩, Nat.le_of_ble_eq_true rfl, Nat.le_of_ble_eq_true rfl⟩ (Nat.le_of_ble_eq_true rfl) (fun _ h8 h9 => absurd h9 (Nat.not_le.mpr h8)) dX1_isTaken_58 61 rfl (nw_rdK ?_) nw_noX
              have hb55 : (sg_po σ).2 j2 < 128 := (by have := okp.2 j2 (by omega); omega)
              refine nw_cast C (ci := 16) rfl (hE.boxIs hb55) q364 dX1_isTaken_61 64 rfl ?_
              refine nw_callV C (mJ19_intValue _ C.hfl d ((sg_po σ).2 j2) H21 hB (by omega)) kJ19_intValue q365 (hE.boxIs (by omega)) (As := []) (rest := []) rfl rfl ⟨⟨Nat.le_of_ble_eq_true rfl, Nat.le_of_ble_eq_true rfl⟩, Nat.le_of_ble_eq_true rfl, Nat.le_of_ble_eq_true rfl⟩ (Nat.le_of_ble_eq_true rfl) (fun _ h8 h9 => absurd h9 (Nat.not_le.mpr h8)) dX1_isTaken_64 67 rfl (nw_rdK ?_) nw_noX
              refine nw_iload_n C 1 dX1_isTaken_67 rfl 68 rfl ?_
              refine nw_icmpneN C (by omega) 73 dX1_isTaken_68 (by decide) 71 rfl (fun h56 => ?_) (fun h56 => ?_)
              · refine nw_iincN C 2 (c0 := 1) [(2, .int (nI (j2 + 1))), (0, .ref x), (1, .int (nI c))] dX1_isTaken_73 rfl (by decide) rfl 76 rfl ?_
                refine nw_goto C 42 dX1_isTaken_76 (by decide) ?_
                exact nw_wide (by omega) (by omega) (nw_sub [1, 2, 0] rfl (ih_lp11 (j2 + 1) (by omega) (sp_no hno2 (by simp [h56])) (by omega)))
              · have hb9 : sp_any (fun k => (sg_po σ).2 k == c) (sg_po σ).1 = true := sp_any_iff.mpr ⟨j2, by omega, by simp [h56]⟩
                refine nw_iconst C (nI 1) dX1_isTaken_71 (by decide) 72 rfl ?_
                exact nw_nret C dX1_isTaken_72 (b2i_narrow true) (by omega) (by omega) ⟨by rw [show sp_taken σ c = true by unfold sp_taken; simp [hb9]]; rfl, hext⟩
        exact nw_wide (by omega) (by omega) (nw_sub [1, 2, 0] rfl (lp11 _ 0 (Nat.zero_le _) (fun k hk => absurd hk (Nat.not_lt_zero k)) (Nat.lt_succ_self _)))
      · have h10 := of_decide_eq_true h10
        refine nw_aload_n C 2 dX1_isTaken_17 rfl 18 rfl ?_
        refine nw_callG C (mJ13_next _ C.hfl d it5 (ad 1) ((sg_la σ).1) (fun k => ad (100 + k)) (fun q => ro q = 2002) mo1 ar1 cap1 f1 j1 lr1 H21 hB (Nat.le_trans hB0 hn8) hit1 hLm1 (by omega) (fun g9 e9 => absurd (hLm10.art g9) (Nat.not_lt.mpr (by rw [e9]; exact hn8))) (fun e9 => absurd hLm10.lt (Nat.not_lt.mpr (by rw [e9]; exact hn8)))) kJ13_next (ci := 14) rfl q333 q336 (by decide +kernel) fc_Iterator_next (hit1.is C (ci := 14) rfl) (As := []) (rest := []) rfl rfl ⟨⟨Nat.le_of_ble_eq_true rfl, Nat.le_of_ble_eq_true rfl⟩, (show 1 + 0 ≤ 3 by omega), (show 4 + 0 ≤ 12 by omega)⟩ (Nat.le_of_ble_eq_true rfl) (fun q8 h8 h9 => h9.elim (fun e9 => by rw [e9]; exact hn8) (fun e9 => absurd h8 (Nat.not_lt.mpr e9))) dX1_isTaken_18 23 rfl (fun v9 H57 hR58 hz59 hq60 => ?_) nw_noX
        obtain ⟨rfl, ho61⟩ := hR58
        have hext := hext.step hz59 hq60 (fun q9 e9 => e9.elim (fun e9 => by rw [e9]; exact hn8) (fun e9 => Nat.le_trans hext.1 e9))
        have hW := hW0.ext hext.2
        have hLm1 := hLm10.ext hext.2
        have hLm3 := hLm30.ext hext.2
        have hLm5 := hLm50.ext hext.2
        have hE := C.E0.ext hext.2
        have hB := Nat.le_trans hB0 hext.1
        obtain ⟨hx, hcG, hcLa, hcFo, hcGu, hcPo, hcIn, hcWi, hcWo, hcKe⟩ := id hW
        obtain ⟨okg, okl, okf, oku, okp, oki, okw, okd, okk, oka⟩ := id ok
        have hn64 : gr_n (sg_gr σ) ≤ 64 := okg.n
        have oku1 := oku.1
        have oki1 := oki.1
        have okp1 := okp.1
        have okw1 := okw.1
        have okl1 := okl.1
        have okf1 := okf.1
        have hg62 : nwO d (ad (100 + j1)) 2 [.int (nI (((sg_la σ).2 j1).1)), .int (nI (((sg_la σ).2 j1).2.1)), .int (b2i (((sg_la σ).2 j1).2.2))] H57 := (hcLa.2 j1 (by omega))
        show nwV X _ _ 4 H57 (1 + 0) (4 + 0) 23 [(0, .ref x), (1, .int (nI c)), (2, .ref it5)] [.ref (ad (100 + j1))]
        refine nw_wide (k' := 1) (n' := 4) (by omega) (by omega) ?_
        refine nw_cast C (ci := 2) rfl (hg62.is C (ci := 2) rfl) q345 dX1_isTaken_23 26 rfl ?_
        refine nw_astore_n C [(3, .ref (ad (100 + j1))), (0, .ref x), (1, .int (nI c)), (2, .ref it5)] dX1_isTaken_26 (by decide) rfl 27 rfl ?_
        have hlb := okl.2 j1 (by omega)
        refine nw_aload_n C 0 dX1_isTaken_27 rfl 28 rfl ?_
        refine nw_getN C hg62 (T := TX8) rfl in_X8 0 (by decide) q877 rfl rfl dX1_isTaken_28 31 rfl ?_
        refine nw_iload_n C 2 dX1_isTaken_31 rfl 32 rfl ?_
        refine nw_icmpneN C (by omega) 37 dX1_isTaken_32 (by decide) 35 rfl (fun h63 => ?_) (fun h63 => ?_)
        · refine nw_goto C 8 dX1_isTaken_37 (by decide) ?_
          exact nw_wide (by omega) (by omega) (nw_sub [1, 2, 3] rfl (ih_lp9 H57 (j1 + 1) (nI j1) hext ho61 (by omega) (sp_no hno1 (by simp [h63])) (by omega)))
        · have hb9 : sp_any (fun k => ((sg_la σ).2 k).1 == c) (sg_la σ).1 = true := sp_any_iff.mpr ⟨j1, by omega, by simp [h63]⟩
          refine nw_iconst C (nI 1) dX1_isTaken_35 (by decide) 36 rfl ?_
          exact nw_nret C dX1_isTaken_36 (b2i_narrow true) (by omega) (by omega) ⟨by rw [show sp_taken σ c = true by unfold sp_taken; simp [hb9]]; rfl, hext⟩
  exact nw_wide (by omega) (by omega) (nw_sub [1, 2, 0] rfl (lp9 _ H1 0 (oI none) hext hi7 (Nat.zero_le _) (fun k hk => absurd hk (Nat.not_lt_zero k)) (Nat.lt_succ_self _)))
set_option maxHeartbeats 4000000 in
theorem mX1_isSoundNow (l : Launch) (hf : l.flags = flags0) (d : nwD) (ro ad : Nat → Nat) (x : Nat) (σ : spSg) (sm : Int64)  (H : Heap) (hB : nd_B d ≤ H.size) (hW : nwWC d ro ad x σ sm H) (ok : spOk σ)  : nwMt l d yX1_isSoundNow cX1_isSoundNow 5 (some .boolean) 7 150 194 776 [.ref x] H (nwBr (sp_sound σ) H) nwNo (nwNew H) := by
  refine nw_start "NightwatchWall" "isSoundNow" hf (by decide +kernel) rfl rfl (fun _ h => h) (fun q h => Nat.le_trans hB h) (Nat.le_of_ble_eq_true rfl) ?_
  intro X C
  obtain ⟨mo3, ar3, cap3, f3, hLm3⟩ := nwLi_m hW.2.2.2.2.1.1
  obtain ⟨mo5, ar5, cap5, f5, hLm5⟩ := nwLi_m hW.2.2.2.2.2.2.1.1
  have hW0 := hW
  have hLm30 := hLm3
  have hLm50 := hLm5
  have hB0 := hB
  have hE := C.E0
  have hext : nwExt H H := nwExt.rfl
  obtain ⟨hx, hcG, hcLa, hcFo, hcGu, hcPo, hcIn, hcWi, hcWo, hcKe⟩ := id hW
  obtain ⟨okg, okl, okf, oku, okp, oki, okw, okd, okk, oka⟩ := id ok
  have hn64 : gr_n (sg_gr σ) ≤ 64 := okg.n
  have oku1 := oku.1
  have oki1 := oki.1
  have okp1 := okp.1
  have okw1 := okw.1
  have okl1 := okl.1
  have okf1 := okf.1
  show nwV X _ _ 5 H 0 0 0 [(0, .ref x)] []
  refine nw_iconst C (nI 0) dX1_isSoundNow_0 (by decide) 1 rfl ?_
  refine nw_istore_n C [(1, .int (nI 0)), (0, .ref x)] dX1_isSoundNow_1 (by decide) rfl 2 rfl ?_
  have lp1 : ∀ (fu : Nat) (H20 : Heap) (i : Nat), (nwExt H H20) → (i ≤ gr_n (sg_gr σ)) → (∀ k, k < i → (fun c => gr_k (sg_gr σ) c == 1 && sp_taken σ c) k = false) → gr_n (sg_gr σ) - i < fu → nwV X (nwNew H) (nwQE X (nwBr (sp_sound σ) H) nwNo (nwNew H) 194 776) 5 H20 (3 * i) (12 * i) 2 [(0, .ref x), (1, .int (nI i))] [] := by
    intro fu
    induction fu with
    | zero => intro H20 i _ _ _ hm; exact absurd hm (Nat.not_lt_zero _)
    | succ fu ih_lp1 =>
      intro H20 i hext hi hno hm
      have hW := hW0.ext hext.2
      have hLm3 := hLm30.ext hext.2
      have hLm5 := hLm50.ext hext.2
      have hE := C.E0.ext hext.2
      have hB := Nat.le_trans hB0 hext.1
      obtain ⟨hx, hcG, hcLa, hcFo, hcGu, hcPo, hcIn, hcWi, hcWo, hcKe⟩ := id hW
      obtain ⟨okg, okl, okf, oku, okp, oki, okw, okd, okk, oka⟩ := id ok
      have hn64 : gr_n (sg_gr σ) ≤ 64 := okg.n
      have oku1 := oku.1
      have oki1 := oki.1
      have okp1 := okp.1
      have okw1 := okw.1
      have okl1 := okl.1
      have okf1 := okf.1
      refine nw_iload_n C 1 dX1_isSoundNow_2 rfl 3 rfl ?_
      refine nw_aload_n C 0 dX1_isSoundNow_3 rfl 4 rfl ?_
      refine nw_callV C (mX1_size _ C.hfl d ro ad x σ sm  H20 hB hW ok ) kX1_size q272 (hx.is C (ci := 0) rfl) (As := []) (rest := [.int (nI i)]) rfl rfl ⟨⟨Nat.le_of_ble_eq_true rfl, Nat.le_of_ble_eq_true rfl⟩, (show (3 * i) + 0 ≤ 194 by omega), (show (12 * i) + 0 ≤ 776 by omega)⟩ (Nat.le_of_ble_eq_true rfl) (fun _ h8 h9 => absurd h9 (Nat.not_le.mpr h8)) dX1_isSoundNow_4 7 rfl (nw_rdK ?_) nw_noX
      refine nw_icmpgeN C (by omega) 43 dX1_isSoundNow_7 (by decide) 10 rfl (fun h2 => ?_) (fun h2 => ?_)
      · have hs9 : sp_sound σ = true := by unfold sp_sound; rw [sp_any_false.mpr (fun k hk => hno k (by omega))]; rfl
        refine nw_aload_n C 0 dX1_isSoundNow_43 rfl 44 rfl ?_
        refine nw_get C hx (T := TX1) rfl in_X1 8 (by decide) q229 (Or.inl rfl) rfl dX1_isSoundNow_44 47 rfl ?_
        refine nw_astore_n C [(1, .ref (ad 8)), (0, .ref x)] dX1_isSoundNow_47 (by decide) rfl 48 rfl ?_
        refine nw_aload_n C 0 dX1_isSoundNow_48 rfl 49 rfl ?_
        refine nw_alenI C hcKe (by decide) dX1_isSoundNow_49 50 rfl ?_
        refine nw_istore_n C [(2, .int (nI 6)), (1, .ref (ad 8)), (0, .ref x)] dX1_isSoundNow_50 (by decide) rfl 51 rfl ?_
        refine nw_iconst C (nI 0) dX1_isSoundNow_51 (by decide) 52 rfl ?_
        refine nw_istore_n C [(3, .int (nI 0)), (2, .int (nI 6)), (1, .ref (ad 8)), (0, .ref x)] dX1_isSoundNow_52 (by decide) rfl 53 rfl ?_
        have lp3 : ∀ (fu : Nat) (j : Nat), (j ≤ 6) → 6 - j < fu → nwV X (nwNew H) (nwQE X (nwBr (sp_sound σ) H) nwNo (nwNew H) 194 776) 5 H20 (3 * i) (12 * i) 53 [(0, .ref x), (1, .ref (ad 8)), (2, .int (nI 6)), (3, .int (nI j))] [] := by
          intro fu
          induction fu with
          | zero => intro j _ hm; exact absurd hm (Nat.not_lt_zero _)
          | succ fu ih_lp3 =>
            intro j hj hm
            refine nw_iload_n C 3 dX1_isSoundNow_53 rfl 54 rfl ?_
            refine nw_iload_n C 2 dX1_isSoundNow_54 rfl 55 rfl ?_
            refine nw_icmpgeN C (by omega) 89 dX1_isSoundNow_55 (by decide) 58 rfl (fun h4 => ?_) (fun h4 => ?_)
            · refine nw_aload_n C 0 dX1_isSoundNow_89 rfl 90 rfl ?_
              refine nw_get C hx (T := TX1) rfl in_X1 3 (by decide) q224 (Or.inl rfl) rfl dX1_isSoundNow_90 93 rfl ?_
              refine nw_callV C (mJ3_iterator _ C.hfl d (ad 3) ((sg_gu σ).1) (fun k => ad (300 + k)) (fun q => ro q = 2004) mo3 ar3 cap3 f3 H20 hB hLm3) kJ3_iterator q299 (hcGu.1.is C) (As := []) (rest := []) rfl rfl ⟨⟨Nat.le_of_ble_eq_true rfl, Nat.le_of_ble_eq_true rfl⟩, (show (3 * i) + 1 ≤ 194 by omega), (show (12 * i) + 4 ≤ 776 by omega)⟩ (Nat.le_of_ble_eq_true rfl) (fun _ h8 h9 => absurd h9 (Nat.not_le.mpr h8)) dX1_isSoundNow_93 96 rfl (fun v9 H5 hR6 hz7 hq8 => ?_) nw_noX
              obtain ⟨⟨it9, rfl, hn10, hi11⟩, -⟩ := hR6
              have hn12 : H.size ≤ it9 := (Nat.le_trans hext.1 hn10)
              have hext := hext.call hz7 hq8
              have hW := hW0.ext hext.2
              have hLm3 := hLm30.ext hext.2
              have hLm5 := hLm50.ext hext.2
              have hE := C.E0.ext hext.2
              have hB := Nat.le_trans hB0 hext.1
              obtain ⟨hx, hcG, hcLa, hcFo, hcGu, hcPo, hcIn, hcWi, hcWo, hcKe⟩ := id hW
              obtain ⟨okg, okl, okf, oku, okp, oki, okw, okd, okk, oka⟩ := id ok
              have hn64 : gr_n (sg_gr σ) ≤ 64 := okg.n
              have oku1 := oku.1
              have oki1 := oki.1
              have okp1 := okp.1
              have okw1 := okw.1
              have okl1 := okl.1
              have okf1 := okf.1
              show nwV X _ _ 5 H5 ((3 * i) + 1) ((12 * i) + 4) 96 [(0, .ref x), (1, .ref (ad 8)), (2, .int (nI 6)), (3, .int (nI j))] [.ref it9]
              refine nw_wide (k' := 3 * i + 1) (n' := 12 * i + 4) (by omega) (by omega) ?_
              refine nw_astore_n C [(1, .ref it9), (0, .ref x), (2, .int (nI 6)), (3, .int (nI j))] dX1_isSoundNow_96 (by decide) rfl 97 rfl ?_
              have lp13 : ∀ (fu : Nat) (H23 : Heap) (j3 : Nat) (lr3 : Int32), (nwExt H H23) → (nwO d it9 14 [.int (nI j3), .int lr3, .int mo3, .ref (ad 3)] H23) → (j3 ≤ (sg_gu σ).1) → (sg_gu σ).1 - j3 < fu → nwV X (nwNew H) (nwQE X (nwBr (sp_sound σ) H) nwNo (nwNew H) 194 776) 5 H23 (3 * i + 1) (12 * i + 4) 97 [(0, .ref x), (1, .ref it9)] [] := by
                intro fu
                induction fu with
                | zero => intro H23 j3 lr3 _ _ _ hm; exact absurd hm (Nat.not_lt_zero _)
                | succ fu ih_lp13 =>
                  intro H23 j3 lr3 hext hit3 hi3 hm
                  have hW := hW0.ext hext.2
                  have hLm3 := hLm30.ext hext.2
                  have hLm5 := hLm50.ext hext.2
                  have hE := C.E0.ext hext.2
                  have hB := Nat.le_trans hB0 hext.1
                  obtain ⟨hx, hcG, hcLa, hcFo, hcGu, hcPo, hcIn, hcWi, hcWo, hcKe⟩ := id hW
                  obtain ⟨okg, okl, okf, oku, okp, oki, okw, okd, okk, oka⟩ := id ok
                  have hn64 : gr_n (sg_gr σ) ≤ 64 := okg.n
                  have oku1 := oku.1
                  have oki1 := oki.1
                  have okp1 := okp.1
                  have okw1 := okw.1
                  have okl1 := okl.1
                  have okf1 := okf.1
                  refine nw_aload_n C 1 dX1_isSoundNow_97 rfl 98 rfl ?_
                  refine nw_callG C (mJ13_hasNext _ C.hfl d (ad 3) ((sg_gu σ).1) (fun k => ad (300 + k)) (fun q => ro q = 2004) mo3 ar3 cap3 f3 it9 j3 lr3 H23 hB hLm3 hit3 (by omega)) kJ13_hasNext (ci := 14) rfl q323 q327 (by decide +kernel) fc_Iterator_hasNext (hit3.is C (ci := 14) rfl) (As := []) (rest := []) rfl rfl ⟨⟨Nat.le_of_ble_eq_true rfl, Nat.le_of_ble_eq_true rfl⟩, (show (3 * i + 1) + 0 ≤ 194 by omega), (show (12 * i + 4) + 0 ≤ 776 by omega)⟩ (Nat.le_of_ble_eq_true rfl) (fun _ h8 h9 => absurd h9 (Nat.not_le.mpr h8)) dX1_isSoundNow_98 103 rfl (nw_rdK ?_) nw_noX
                  refine nw_ifeqB C 129 dX1_isSoundNow_103 (by decide) 106 rfl (fun h14 => ?_) (fun h14 => ?_)
                  · have h14 := of_decide_eq_false h14
                    refine nw_aload_n C 0 dX1_isSoundNow_129 rfl 130 rfl ?_
                    refine nw_get C hx (T := TX1) rfl in_X1 5 (by decide) q226 (Or.inl rfl) rfl dX1_isSoundNow_130 133 rfl ?_
                    refine nw_callV C (mJ3_iterator _ C.hfl d (ad 5) ((sg_in σ).1) (fun k => ad (500 + k)) (fun q => ro q = 2006) mo5 ar5 cap5 f5 H23 hB hLm5) kJ3_iterator q299 (hcIn.1.is C) (As := []) (rest := []) rfl rfl ⟨⟨Nat.le_of_ble_eq_true rfl, Nat.le_of_ble_eq_true rfl⟩, (show (3 * i + 1) + 1 ≤ 194 by omega), (show (12 * i + 4) + 4 ≤ 776 by omega)⟩ (Nat.le_of_ble_eq_true rfl) (fun _ h8 h9 => absurd h9 (Nat.not_le.mpr h8)) dX1_isSoundNow_133 136 rfl (fun v9 H15 hR16 hz17 hq18 => ?_) nw_noX
                    obtain ⟨⟨it19, rfl, hn20, hi21⟩, -⟩ := hR16
                    have hn22 : H.size ≤ it19 := (Nat.le_trans hext.1 hn20)
                    have hne23 : it9 ≠ it19 := (Nat.ne_of_lt (Nat.lt_of_lt_of_le hit3.lt hn20))
                    have ho24 := hit3.kept (hq18 _ hit3.lt (Nat.not_le.mpr hit3.lt))
                    have hext := hext.call hz17 hq18
                    have hW := hW0.ext hext.2
                    have hLm3 := hLm30.ext hext.2
                    have hLm5 := hLm50.ext hext.2
                    have hE := C.E0.ext hext.2
                    have hB := Nat.le_trans hB0 hext.1
                    obtain ⟨hx, hcG, hcLa, hcFo, hcGu, hcPo, hcIn, hcWi, hcWo, hcKe⟩ := id hW
                    obtain ⟨okg, okl, okf, oku, okp, oki, okw, okd, okk, oka⟩ := id ok
                    have hn64 : gr_n (sg_gr σ) ≤ 64 := okg.n
                    have oku1 := oku.1
                    have oki1 := oki.1
                    have okp1 := okp.1
                    have okw1 := okw.1
                    have okl1 := okl.1
                    have okf1 := okf.1
                    show nwV X _ _ 5 H15 ((3 * i + 1) + 1) ((12 * i + 4) + 4) 136 [(0, .ref x), (1, .ref it9)] [.ref it19]
                    refine nw_wide (k' := 3 * i + 2) (n' := 12 * i + 8) (by omega) (by omega) ?_
                    refine nw_astore_n C [(1, .ref it19), (0, .ref x)] dX1_isSoundNow_136 (by decide) rfl 137 rfl ?_
                    have lp25 : ∀ (fu : Nat) (H25 : Heap) (j5 : Nat) (lr5 : Int32), (nwExt H H25) → (nwO d it19 14 [.int (nI j5), .int lr5, .int mo5, .ref (ad 5)] H25) → (j5 ≤ (sg_in σ).1) → (sg_in σ).1 - j5 < fu → nwV X (nwNew H) (nwQE X (nwBr (sp_sound σ) H) nwNo (nwNew H) 194 776) 5 H25 (3 * i + 2) (12 * i + 8) 137 [(0, .ref x), (1, .ref it19)] [] := by
                      intro fu
                      induction fu with
                      | zero => intro H25 j5 lr5 _ _ _ hm; exact absurd hm (Nat.not_lt_zero _)
                      | succ fu ih_lp25 =>
                        intro H25 j5 lr5 hext hit5 hi5 hm
                        have hW := hW0.ext hext.2
                        have hLm3 := hLm30.ext hext.2
                        have hLm5 := hLm50.ext hext.2
                        have hE := C.E0.ext hext.2
                        have hB := Nat.le_trans hB0 hext.1
                        obtain ⟨hx, hcG, hcLa, hcFo, hcGu, hcPo, hcIn, hcWi, hcWo, hcKe⟩ := id hW
                        obtain ⟨okg, okl, okf, oku, okp, oki, okw, okd, okk, oka⟩ := id ok
                        have hn64 : gr_n (sg_gr σ) ≤ 64 := okg.n
                        have oku1 := oku.1
                        have oki1 := oki.1
                        have okp1 := okp.1
                        have okw1 := okw.1
                        have okl1 := okl.1
                        have okf1 := okf.1
                        refine nw_aload_n C 1 dX1_isSoundNow_137 rfl 138 rfl ?_
                        refine nw_callG C (mJ13_hasNext _ C.hfl d (ad 5) ((sg_in σ).1) (fun k => ad (500 + k)) (fun q => ro q = 2006) mo5 ar5 cap5 f5 it19 j5 lr5 H25 hB hLm5 hit5 (by omega)) kJ13_hasNext (ci := 14) rfl q323 q327 (by decide +kernel) fc_Iterator_hasNext (hit5.is C (ci := 14) rfl) (As := []) (rest := []) rfl rfl ⟨⟨Nat.le_of_ble_eq_true rfl, Nat.le_of_ble_eq_true rfl⟩, (show (3 * i + 2) + 0 ≤ 194 by omega), (show (12 * i + 8) + 0 ≤ 776 by omega)⟩ (Nat.le_of_ble_eq_true rfl) (fun _ h8 h9 => absurd h9 (Nat.not_le.mpr h8)) dX1_isSoundNow_138 143 rfl (nw_rdK ?_) nw_noX
                        refine nw_ifeqB C 169 dX1_isSoundNow_143 (by decide) 146 rfl (fun h26 => ?_) (fun h26 => ?_)
                        · have h26 := of_decide_eq_false h26
                          refine nw_iconst C (nI 1) dX1_isSoundNow_169 (by decide) 170 rfl ?_
                          exact nw_nret C dX1_isSoundNow_170 (b2i_narrow true) (by omega) (by omega) ⟨by rw [hs9]; rfl, hext⟩
                        · have h26 := of_decide_eq_true h26
                          refine nw_aload_n C 1 dX1_isSoundNow_146 rfl 147 rfl ?_
                          refine nw_callG C (mJ13_next _ C.hfl d it19 (ad 5) ((sg_in σ).1) (fun k => ad (500 + k)) (fun q => ro q = 2006) mo5 ar5 cap5 f5 j5 lr5 H25 hB (Nat.le_trans hB0 hn22) hit5 hLm5 (by omega) (fun g9 e9 => absurd (hLm50.art g9) (Nat.not_lt.mpr (by rw [e9]; exact hn22))) (fun e9 => absurd hLm50.lt (Nat.not_lt.mpr (by rw [e9]; exact hn22)))) kJ13_next (ci := 14) rfl q333 q336 (by decide +kernel) fc_Iterator_next (hit5.is C (ci := 14) rfl) (As := []) (rest := []) rfl rfl ⟨⟨Nat.le_of_ble_eq_true rfl, Nat.le_of_ble_eq_true rfl⟩, (show (3 * i + 2) + 0 ≤ 194 by omega), (show (12 * i + 8) + 0 ≤ 776 by omega)⟩ (Nat.le_of_ble_eq_true rfl) (fun q8 h8 h9 => h9.elim (fun e9 => by rw [e9]; exact hn22) (fun e9 => absurd h8 (Nat.not_lt.mpr e9))) dX1_isSoundNow_147 152 rfl (fun v9 H27 hR28 hz29 hq30 => ?_) nw_noX
                          obtain ⟨rfl, ho31⟩ := hR28
                          have hext := hext.step hz29 hq30 (fun q9 e9 => e9.elim (fun e9 => by rw [e9]; exact hn22) (fun e9 => Nat.le_trans hext.1 e9))
                          have hW := hW0.ext hext.2
                          have hLm3 := hLm30.ext hext.2
                          have hLm5 := hLm50.ext hext.2
                          have hE := C.E0.ext hext.2
                          have hB := Nat.le_trans hB0 hext.1
                          obtain ⟨hx, hcG, hcLa, hcFo, hcGu, hcPo, hcIn, hcWi, hcWo, hcKe⟩ := id hW
                          obtain ⟨okg, okl, okf, oku, okp, oki, okw, okd, okk, oka⟩ := id ok
                          have hn64 : gr_n (sg_gr σ) ≤ 64 := okg.n
                          have oku1 := oku.1
                          have oki1 := oki.1
                          have okp1 := okp.1
                          have okw1 := okw.1
                          have okl1 := okl.1
                          have okf1 := okf.1
                          have hg32 : nwIn d (ad (500 + j5)) (ad (600 + j5)) (fun q => ro q = 2601 + j5) ((sg_in σ).2 j5) H27 := hcIn.2 j5 (by omega)
                          have hk33 : okI1 (sg_gr σ) ((sg_in σ).2 j5) := oki.2 j5 (by omega)
                          have hg34 : nwO d (ad (500 + j5)) 7 [.int (nI (in_a ((sg_in σ).2 j5))), .ref (ad (600 + j5)), .int (nI (in_v ((sg_in σ).2 j5))), .int (nI (in_s ((sg_in σ).2 j5))), .int (oI (in_l ((sg_in σ).2 j5)))] H27 := hg32.1
                          show nwV X _ _ 5 H27 ((3 * i + 2) + 0) ((12 * i + 8) + 0) 152 [(0, .ref x), (1, .ref it19)] [.ref (ad (500 + j5))]
                          refine nw_wide (k' := 3 * i + 2) (n' := 12 * i + 8) (by omega) (by omega) ?_
                          refine nw_cast C (ci := 7) rfl (hg34.is C (ci := 7) rfl) q378 dX1_isSoundNow_152 155 rfl ?_
                          refine nw_astore_n C [(2, .ref (ad (500 + j5))), (0, .ref x), (1, .ref it19)] dX1_isSoundNow_155 (by decide) rfl 156 rfl ?_
                          have hgi := oki.2 j5 (by omega)
                          have hgi3 := hgi.1.2.2.2.2.1
                          refine nw_aload_n C 0 dX1_isSoundNow_156 rfl 157 rfl ?_
                          refine nw_getN C hg34 (T := TX12) rfl in_X12 3 (by decide) q1200 rfl rfl dX1_isSoundNow_157 160 rfl ?_
                          refine nw_iconst C (nI 4) dX1_isSoundNow_160 (by decide) 161 rfl ?_
                          refine nw_icmpleN C (by omega) 166 dX1_isSoundNow_161 (by decide) 164 rfl (fun h35 => ?_) (fun h35 => ?_)
                          · refine nw_goto C 137 dX1_isSoundNow_166 (by decide) ?_
                            exact nw_wide (by omega) (by omega) (nw_sub [1, 2] rfl (ih_lp25 H27 (j5 + 1) (nI j5) hext ho31 (by omega) (by omega)))
                          · exfalso; omega
                    exact nw_wide (by omega) (by omega) (nw_sub [1, 0] rfl (lp25 _ H15 0 (oI none) hext hi21 (Nat.zero_le _) (Nat.lt_succ_self _)))
                  · have h14 := of_decide_eq_true h14
                    refine nw_aload_n C 1 dX1_isSoundNow_106 rfl 107 rfl ?_
                    refine nw_callG C (mJ13_next _ C.hfl d it9 (ad 3) ((sg_gu σ).1) (fun k => ad (300 + k)) (fun q => ro q = 2004) mo3 ar3 cap3 f3 j3 lr3 H23 hB (Nat.le_trans hB0 hn12) hit3 hLm3 (by omega) (fun g9 e9 => absurd (hLm30.art g9) (Nat.not_lt.mpr (by rw [e9]; exact hn12))) (fun e9 => absurd hLm30.lt (Nat.not_lt.mpr (by rw [e9]; exact hn12)))) kJ13_next (ci := 14) rfl q333 q336 (by decide +kernel) fc_Iterator_next (hit3.is C (ci := 14) rfl) (As := []) (rest := []) rfl rfl ⟨⟨Nat.le_of_ble_eq_true rfl, Nat.le_of_ble_eq_true rfl⟩, (show (3 * i + 1) + 0 ≤ 194 by omega), (show (12 * i + 4) + 0 ≤ 776 by omega)⟩ (Nat.le_of_ble_eq_true rfl) (fun q8 h8 h9 => h9.elim (fun e9 => by rw [e9]; exact hn12) (fun e9 => absurd h8 (Nat.not_lt.mpr e9))) dX1_isSoundNow_107 112 rfl (fun v9 H36 hR37 hz38 hq39 => ?_) nw_noX
                    obtain ⟨rfl, ho40⟩ := hR37
                    have hext := hext.step hz38 hq39 (fun q9 e9 => e9.elim (fun e9 => by rw [e9]; exact hn12) (fun e9 => Nat.le_trans hext.1 e9))
                    have hW := hW0.ext hext.2
                    have hLm3 := hLm30.ext hext.2
                    have hLm5 := hLm50.ext hext.2
                    have hE := C.E0.ext hext.2
                    have hB := Nat.le_trans hB0 hext.1
                    obtain ⟨hx, hcG, hcLa, hcFo, hcGu, hcPo, hcIn, hcWi, hcWo, hcKe⟩ := id hW
                    obtain ⟨okg, okl, okf, oku, okp, oki, okw, okd, okk, oka⟩ := id ok
                    have hn64 : gr_n (sg_gr σ) ≤ 64 := okg.n
                    have oku1 := oku.1
                    have oki1 := oki.1
                    have okp1 := okp.1
                    have okw1 := okw.1
                    have okl1 := okl.1
                    have okf1 := okf.1
                    have hg41 : nwGd d (ad (300 + j3)) (ad (400 + j3)) (fun q => ro q = 2401 + j3) ((sg_gu σ).2 j3) H36 := hcGu.2 j3 (by omega)
                    have hk42 : okGd (sg_gr σ) ((sg_gu σ).2 j3) := oku.2 j3 (by omega)
                    have hg43 : nwO d (ad (300 + j3)) 4 [.int (nI (gd_a ((sg_gu σ).2 j3))), .int (nI (gd_b ((sg_gu σ).2 j3))), .int (nI (gd_s ((sg_gu σ).2 j3))), .ref (ad (400 + j3)), .int (nI (gd_k ((sg_gu σ).2 j3))), .int (gd_h ((sg_gu σ).2 j3))] H36 := hg41.1
                    show nwV X _ _ 5 H36 ((3 * i + 1) + 0) ((12 * i + 4) + 0) 112 [(0, .ref x), (1, .ref it9)] [.ref (ad (300 + j3))]
                    refine nw_wide (k' := 3 * i + 1) (n' := 12 * i + 4) (by omega) (by omega) ?_
                    refine nw_cast C (ci := 4) rfl (hg43.is C (ci := 4) rfl) q369 dX1_isSoundNow_112 115 rfl ?_
                    refine nw_astore_n C [(2, .ref (ad (300 + j3))), (0, .ref x), (1, .ref it9)] dX1_isSoundNow_115 (by decide) rfl 116 rfl ?_
                    have hgk := oku.2 j3 (by omega)
                    have hgk3 := hgk.1.2.2.2.2.2.2
                    refine nw_aload_n C 0 dX1_isSoundNow_116 rfl 117 rfl ?_
                    refine nw_getN C hg43 (T := TX10) rfl in_X10 4 (by decide) q1030 rfl rfl dX1_isSoundNow_117 120 rfl ?_
                    refine nw_iconst C (nI 3) dX1_isSoundNow_120 (by decide) 121 rfl ?_
                    refine nw_icmpleN C (by omega) 126 dX1_isSoundNow_121 (by decide) 124 rfl (fun h44 => ?_) (fun h44 => ?_)
                    · refine nw_goto C 97 dX1_isSoundNow_126 (by decide) ?_
                      exact nw_wide (by omega) (by omega) (nw_sub [1, 2] rfl (ih_lp13 H36 (j3 + 1) (nI j3) hext ho40 (by omega) (by omega)))
                    · exfalso; omega
              exact nw_wide (by omega) (by omega) (nw_sub [1, 0] rfl (lp13 _ H5 0 (oI none) hext hi11 (Nat.zero_le _) (Nat.lt_succ_self _)))
            · refine nw_aload_n C 1 dX1_isSoundNow_58 rfl 59 rfl ?_
              refine nw_iload_n C 3 dX1_isSoundNow_59 rfl 60 rfl ?_
              refine nw_ialdN C (oI (sg_ke σ j)) hcKe (by omega) rfl dX1_isSoundNow_60 61 rfl ?_
              generalize hke : sg_ke σ j = o
              rcases o with _ | g
              · show nwV X _ _ 5 H20 (3 * i) (12 * i) 61 [(0, .ref x), (1, .ref (ad 8)), (2, .int (nI 6)), (3, .int (nI j))] [.int (oI none)]
                refine nw_istore C [(4, .int (oI none)), (0, .ref x), (1, .ref (ad 8)), (2, .int (nI 6)), (3, .int (nI j))] dX1_isSoundNow_61 (by decide) rfl 63 rfl ?_
                refine nw_iload C 0 dX1_isSoundNow_63 rfl 65 rfl ?_
                refine nw_iconst C (oI none) dX1_isSoundNow_65 (by decide) 66 rfl ?_
                refine nw_icmplt C 81 dX1_isSoundNow_66 (by decide) 69 rfl (fun h45 => absurd h45 (by decide)) (fun _ => ?_)
                refine nw_iload C 0 dX1_isSoundNow_69 rfl 71 rfl ?_
                refine nw_aload_n C 1 dX1_isSoundNow_71 rfl 72 rfl ?_
                refine nw_get C hx (T := TX1) rfl in_X1 3 (by decide) q224 (Or.inl rfl) rfl dX1_isSoundNow_72 75 rfl ?_
                refine nw_callV C (mJ3_size _ C.hfl d (ad 3) ((sg_gu σ).1) (fun k => ad (300 + k)) (fun q => ro q = 2004) H20 hB hcGu.1) kJ3_size q346 (hcGu.1.is C) (As := []) (rest := [.int (oI none)]) rfl rfl ⟨⟨Nat.le_of_ble_eq_true rfl, Nat.le_of_ble_eq_true rfl⟩, (show (3 * i) + 0 ≤ 194 by omega), (show (12 * i) + 0 ≤ 776 by omega)⟩ (Nat.le_of_ble_eq_true rfl) (fun _ h8 h9 => absurd h9 (Nat.not_le.mpr h8)) dX1_isSoundNow_75 78 rfl (nw_rdK ?_) nw_noX
                refine nw_icmplt C 83 dX1_isSoundNow_78 (by decide) 81 rfl (fun _ => ?_) (fun h46 => absurd (nw_m1l (by omega)) h46)
                refine nw_iincN C 4 (c0 := 1) [(3, .int (nI (j + 1))), (4, .int (oI none)), (0, .ref x), (1, .ref (ad 8)), (2, .int (nI 6))] dX1_isSoundNow_83 rfl (by decide) rfl 86 rfl ?_
                refine nw_goto C 53 dX1_isSoundNow_86 (by decide) ?_
                exact nw_wide (by omega) (by omega) (nw_sub [2, 3, 4, 0] rfl (ih_lp3 (j + 1) (by omega) (by omega)))
              · show nwV X _ _ 5 H20 (3 * i) (12 * i) 61 [(0, .ref x), (1, .ref (ad 8)), (2, .int (nI 6)), (3, .int (nI j))] [.int (nI g)]
                have hgk := okk j (by omega) g hke
                refine nw_istore C [(4, .int (nI g)), (0, .ref x), (1, .ref (ad 8)), (2, .int (nI 6)), (3, .int (nI j))] dX1_isSoundNow_61 (by decide) rfl 63 rfl ?_
                refine nw_iload C 0 dX1_isSoundNow_63 rfl 65 rfl ?_
                refine nw_iconst C (oI none) dX1_isSoundNow_65 (by decide) 66 rfl ?_
                refine nw_icmplt C 81 dX1_isSoundNow_66 (by decide) 69 rfl (fun h47 => absurd h47 (nw_m1n (by omega))) (fun _ => ?_)
                refine nw_iload C 0 dX1_isSoundNow_69 rfl 71 rfl ?_
                refine nw_aload_n C 1 dX1_isSoundNow_71 rfl 72 rfl ?_
                refine nw_get C hx (T := TX1) rfl in_X1 3 (by decide) q224 (Or.inl rfl) rfl dX1_isSoundNow_72 75 rfl ?_
                refine nw_callV C (mJ3_size _ C.hfl d (ad 3) ((sg_gu σ).1) (fun k => ad (300 + k)) (fun q => ro q = 2004) H20 hB hcGu.1) kJ3_size q346 (hcGu.1.is C) (As := []) (rest := [.int (nI g)]) rfl rfl ⟨⟨Nat.le_of_ble_eq_true rfl, Nat.le_of_ble_eq_true rfl⟩, (show (3 * i) + 0 ≤ 194 by omega), (show (12 * i) + 0 ≤ 776 by omega)⟩ (Nat.le_of_ble_eq_true rfl) (fun _ h8 h9 => absurd h9 (Nat.not_le.mpr h8)) dX1_isSoundNow_75 78 rfl (nw_rdK ?_) nw_noX
                refine nw_icmplt C 83 dX1_isSoundNow_78 (by decide) 81 rfl (fun _ => ?_) (fun h48 => absurd ((nI_ltI (by omega) (by omega)).mpr (by omega)) h48)
                refine nw_iincN C 4 (c0 := 1) [(3, .int (nI (j + 1))), (4, .int (nI g)), (0, .ref x), (1, .ref (ad 8)), (2, .int (nI 6))] dX1_isSoundNow_83 rfl (by decide) rfl 86 rfl ?_
                refine nw_goto C 53 dX1_isSoundNow_86 (by decide) ?_
                exact nw_wide (by omega) (by omega) (nw_sub [2, 3, 4, 0] rfl (ih_lp3 (j + 1) (by omega) (by omega)))
        exact nw_wide (by omega) (by omega) (nw_sub [3, 2, 1, 0] rfl (lp3 _ 0 (by omega) (Nat.lt_succ_self _)))
      · obtain ⟨hgro, hgrl, hgrg⟩ := hcG.here (show i < _ by omega)
        refine nw_aload_n C 0 dX1_isSoundNow_10 rfl 11 rfl ?_
        refine nw_get C hx (T := TX1) rfl in_X1 0 (by decide) q221 (Or.inl rfl) rfl dX1_isSoundNow_11 14 rfl ?_
        refine nw_callV C (mJ0_get _ C.hfl d (ad 0) (ad 9) H20 hB hgrl) kJ0_get q280 (hgrl.is C (ci := 15) rfl) (As := []) (rest := []) rfl rfl ⟨⟨Nat.le_of_ble_eq_true rfl, Nat.le_of_ble_eq_true rfl⟩, (show (3 * i) + 0 ≤ 194 by omega), (show (12 * i) + 0 ≤ 776 by omega)⟩ (Nat.le_of_ble_eq_true rfl) (fun _ h8 h9 => absurd h9 (Nat.not_le.mpr h8)) dX1_isSoundNow_14 17 rfl (nw_rdK ?_) nw_noX
        refine nw_cast C (ci := 1) rfl (hgrg.1.is C (ci := 1) rfl) q284 dX1_isSoundNow_17 20 rfl ?_
        refine nw_iload_n C 1 dX1_isSoundNow_20 rfl 21 rfl ?_
        refine nw_callV C (mX6_isWall _ C.hfl d (ad 9) (ad 10) (sg_gr σ) i H20 hB hgrg hgro (by omega)) kX6_isWall q289 (hgrg.1.is C (ci := 1) rfl) (As := [.int (nI i)]) (rest := []) rfl rfl ⟨⟨Nat.le_of_ble_eq_true rfl, Nat.le_of_ble_eq_true rfl⟩, (show (3 * i) + 0 ≤ 194 by omega), (show (12 * i) + 0 ≤ 776 by omega)⟩ (Nat.le_of_ble_eq_true rfl) (fun _ h8 h9 => absurd h9 (Nat.not_le.mpr h8)) dX1_isSoundNow_21 24 rfl (nw_rdK ?_) nw_noX
        refine nw_ifeqB C 37 dX1_isSoundNow_24 (by decide) 27 rfl (fun h49 => ?_) (fun h49 => ?_)
        · refine nw_iincN C 1 (c0 := 1) [(1, .int (nI (i + 1))), (0, .ref x)] dX1_isSoundNow_37 rfl (by decide) rfl 40 rfl ?_
          refine nw_goto C 2 dX1_isSoundNow_40 (by decide) ?_
          exact nw_wide (by omega) (by omega) (nw_sub [1, 0] rfl (ih_lp1 H20 (i + 1) hext (by omega) (sp_no hno (by simp [h49])) (by omega)))
        · refine nw_aload_n C 0 dX1_isSoundNow_27 rfl 28 rfl ?_
          refine nw_iload_n C 1 dX1_isSoundNow_28 rfl 29 rfl ?_
          refine nw_callV C (mX1_isTaken _ C.hfl d ro ad x σ sm i H20 hB hW ok (by omega)) kX1_isTaken q295 (hx.is C (ci := 0) rfl) (As := [.int (nI i)]) (rest := []) rfl rfl ⟨⟨Nat.le_of_ble_eq_true rfl, Nat.le_of_ble_eq_true rfl⟩, (show (3 * i) + 3 ≤ 194 by omega), (show (12 * i) + 12 ≤ 776 by omega)⟩ (Nat.le_of_ble_eq_true rfl) (fun _ h8 h9 => absurd h9 (Nat.not_le.mpr h8)) dX1_isSoundNow_29 32 rfl (fun v9 H50 hR51 hz52 hq53 => ?_) nw_noX
          obtain ⟨rfl, -⟩ := hR51
          have hext := hext.call hz52 hq53
          have hW := hW0.ext hext.2
          have hLm3 := hLm30.ext hext.2
          have hLm5 := hLm50.ext hext.2
          have hE := C.E0.ext hext.2
          have hB := Nat.le_trans hB0 hext.1
          obtain ⟨hx, hcG, hcLa, hcFo, hcGu, hcPo, hcIn, hcWi, hcWo, hcKe⟩ := id hW
          obtain ⟨okg, okl, okf, oku, okp, oki, okw, okd, okk, oka⟩ := id ok
          have hn64 : gr_n (sg_gr σ) ≤ 64 := okg.n
          have oku1 := oku.1
          have oki1 := oki.1
          have okp1 := okp.1
          have okw1 := okw.1
          have okl1 := okl.1
          have okf1 := okf.1
          show nwV X _ _ 5 H50 ((3 * i) + 3) ((12 * i) + 12) 32 [(0, .ref x), (1, .int (nI i))] [.int (b2i (sp_taken σ i))]
          refine nw_wide (k' := 3 * i + 3) (n' := 12 * i + 12) (by omega) (by omega) ?_
          refine nw_ifeqB C 37 dX1_isSoundNow_32 (by decide) 35 rfl (fun h54 => ?_) (fun h54 => ?_)
          · refine nw_iincN C 1 (c0 := 1) [(1, .int (nI (i + 1))), (0, .ref x)] dX1_isSoundNow_37 rfl (by decide) rfl 40 rfl ?_
            refine nw_goto C 2 dX1_isSoundNow_40 (by decide) ?_
            exact nw_wide (by omega) (by omega) (nw_sub [1, 0] rfl (ih_lp1 H50 (i + 1) hext (by omega) (sp_no hno (by simp [h49, h54])) (by omega)))
          · refine nw_iconst C (nI 0) dX1_isSoundNow_35 (by decide) 36 rfl ?_
            exact nw_nret C dX1_isSoundNow_36 (b2i_narrow false) (by omega) (by omega) ⟨by rw [show sp_sound σ = false by unfold sp_sound; rw [sp_any_iff.mpr ⟨i, by omega, by simp [h49, h54]⟩]; rfl]; rfl, hext⟩
  exact nw_wide (by omega) (by omega) (nw_sub [1, 0] rfl (lp1 _ H 0 hext (Nat.zero_le _) (fun k hk => absurd hk (Nat.not_lt_zero k)) (Nat.lt_succ_self _)))
set_option maxHeartbeats 4000000 in
theorem mX1_isSound (l : Launch) (hf : l.flags = flags0) (d : nwD) (ro ad : Nat → Nat) (x : Nat) (σ : spSg) (sm : Int64)  (H : Heap) (hB : nd_B d ≤ H.size) (hW : nwWC d ro ad x σ sm H) (ok : spOk σ)  : nwMt l d yX1_isSound cX1_isSound 1 (some .boolean) 8 174 194 776 [.ref x] H (nwBr (sp_sound σ) H) nwNo (nwNew H) := by
  refine nw_start "NightwatchWall" "isSound" hf (by decide +kernel) rfl rfl (fun _ h => h) (fun q h => Nat.le_trans hB h) (Nat.le_of_ble_eq_true rfl) ?_
  intro X C
  have hW0 := hW
  have hB0 := hB
  have hE := C.E0
  have hext : nwExt H H := nwExt.rfl
  obtain ⟨hx, hcG, hcLa, hcFo, hcGu, hcPo, hcIn, hcWi, hcWo, hcKe⟩ := id hW
  obtain ⟨okg, okl, okf, oku, okp, oki, okw, okd, okk, oka⟩ := id ok
  have hn64 : gr_n (sg_gr σ) ≤ 64 := okg.n
  have oku1 := oku.1
  have oki1 := oki.1
  have okp1 := okp.1
  have okw1 := okw.1
  have okl1 := okl.1
  have okf1 := okf.1
  show nwV X _ _ 1 H 0 0 0 [(0, .ref x)] []
  refine nw_aload_n C 0 dX1_isSound_0 rfl 1 rfl ?_
  refine nw_callV C (mX1_isSoundNow _ C.hfl d ro ad x σ sm  H hB hW ok ) kX1_isSoundNow q268 (hx.is C (ci := 0) rfl) (As := []) (rest := []) rfl rfl ⟨⟨Nat.le_of_ble_eq_true rfl, Nat.le_of_ble_eq_true rfl⟩, (show 0 + 194 ≤ 194 by omega), (show 0 + 776 ≤ 776 by omega)⟩ (Nat.le_of_ble_eq_true rfl) (fun _ h8 h9 => absurd h9 (Nat.not_le.mpr h8)) dX1_isSound_1 4 rfl (fun v9 H1 hR2 hz3 hq4 => ?_) nw_noX
  obtain ⟨rfl, -⟩ := hR2
  have hext := hext.call hz3 hq4
  have hW := hW0.ext hext.2
  have hE := C.E0.ext hext.2
  have hB := Nat.le_trans hB0 hext.1
  obtain ⟨hx, hcG, hcLa, hcFo, hcGu, hcPo, hcIn, hcWi, hcWo, hcKe⟩ := id hW
  obtain ⟨okg, okl, okf, oku, okp, oki, okw, okd, okk, oka⟩ := id ok
  have hn64 : gr_n (sg_gr σ) ≤ 64 := okg.n
  have oku1 := oku.1
  have oki1 := oki.1
  have okp1 := okp.1
  have okw1 := okw.1
  have okl1 := okl.1
  have okf1 := okf.1
  show nwV X _ _ 1 H1 (0 + 194) (0 + 776) 4 [(0, .ref x)] [.int (b2i (sp_sound σ))]
  refine nw_wide (k' := 194) (n' := 776) (by omega) (by omega) ?_
  exact nw_nret C dX1_isSound_4 (b2i_narrow _) (by omega) (by omega) ⟨rfl, hext⟩
set_option maxHeartbeats 4000000 in
theorem mX1_manyNow (l : Launch) (hf : l.flags = flags0) (d : nwD) (ro ad : Nat → Nat) (x : Nat) (σ : spSg) (sm : Int64) (q : Nat) (H : Heap) (hB : nd_B d ≤ H.size) (hW : nwWC d ro ad x σ sm H) (ok : spOk σ) (hq12 : q ≤ 12) : nwMt l d yX1_manyNow cX1_manyNow 5 (some .int) 9 204 1 4 [.ref x, .int (nI q)] H (nwVr (nI (sp_manyNow σ q)) H) nwNo (nwNew H) := by
  refine nw_start "NightwatchWall" "manyNow" hf (by decide +kernel) rfl rfl (fun _ h => h) (fun q h => Nat.le_trans hB h) (Nat.le_of_ble_eq_true rfl) ?_
  intro X C
  obtain ⟨mo1, ar1, cap1, f1, hLm1⟩ := nwLi_m hW.2.2.1.1
  obtain ⟨mo5, ar5, cap5, f5, hLm5⟩ := nwLi_m hW.2.2.2.2.2.2.1.1
  have hW0 := hW
  have hLm10 := hLm1
  have hLm50 := hLm5
  have hB0 := hB
  have hE := C.E0
  have hext : nwExt H H := nwExt.rfl
  obtain ⟨hx, hcG, hcLa, hcFo, hcGu, hcPo, hcIn, hcWi, hcWo, hcKe⟩ := id hW
  obtain ⟨okg, okl, okf, oku, okp, oki, okw, okd, okk, oka⟩ := id ok
  have hn64 : gr_n (sg_gr σ) ≤ 64 := okg.n
  have oku1 := oku.1
  have oki1 := oki.1
  have okp1 := okp.1
  have okw1 := okw.1
  have okl1 := okl.1
  have okf1 := okf.1
  show nwV X _ _ 5 H 0 0 0 [(0, .ref x), (1, .int (nI q))] []
  refine nw_iconst C (nI 0) dX1_manyNow_0 (by decide) 1 rfl ?_
  refine nw_istore_n C [(2, .int (nI 0)), (0, .ref x), (1, .int (nI q))] dX1_manyNow_1 (by decide) rfl 2 rfl ?_
  refine nw_iload_n C 2 dX1_manyNow_2 rfl 3 rfl ?_
  rcases Nat.decEq q 0 with h1 | h1
  rotate_left
  · have h1s := h1
    refine nw_tabInN C (off := 61) h1 (by decide) 64 dX1_manyNow_3 (by decide) (by decide) rfl (by decide) ?_
    refine nw_aload_n C 1 dX1_manyNow_64 rfl 65 rfl ?_
    refine nw_callV C (mX1_size _ C.hfl d ro ad x σ sm  H hB hW ok ) kX1_size q272 (hx.is C (ci := 0) rfl) (As := []) (rest := []) rfl rfl ⟨⟨Nat.le_of_ble_eq_true rfl, Nat.le_of_ble_eq_true rfl⟩, Nat.le_of_ble_eq_true rfl, Nat.le_of_ble_eq_true rfl⟩ (Nat.le_of_ble_eq_true rfl) (fun _ h8 h9 => absurd h9 (Nat.not_le.mpr h8)) dX1_manyNow_65 68 rfl (nw_rdK ?_) nw_noX
    exact nw_iret C dX1_manyNow_68 (by omega) (by omega) ⟨by unfold sp_manyNow; simp [h1], hext⟩
  rcases Nat.decEq q 1 with h2 | h2
  rotate_left
  · have h2s := h2
    refine nw_tabInN C (off := 66) h2 (by decide) 69 dX1_manyNow_3 (by decide) (by decide) rfl (by decide) ?_
    refine nw_aload_n C 1 dX1_manyNow_69 rfl 70 rfl ?_
    refine nw_get C hx (T := TX1) rfl in_X1 1 (by decide) q222 (Or.inl rfl) rfl dX1_manyNow_70 73 rfl ?_
    refine nw_callV C (mJ3_size _ C.hfl d (ad 1) ((sg_la σ).1) (fun k => ad (100 + k)) (fun q => ro q = 2002) H hB hcLa.1) kJ3_size q346 (hcLa.1.is C) (As := []) (rest := []) rfl rfl ⟨⟨Nat.le_of_ble_eq_true rfl, Nat.le_of_ble_eq_true rfl⟩, Nat.le_of_ble_eq_true rfl, Nat.le_of_ble_eq_true rfl⟩ (Nat.le_of_ble_eq_true rfl) (fun _ h8 h9 => absurd h9 (Nat.not_le.mpr h8)) dX1_manyNow_73 76 rfl (nw_rdK ?_) nw_noX
    exact nw_iret C dX1_manyNow_76 (by omega) (by omega) ⟨by unfold sp_manyNow; simp [h1, h2], hext⟩
  rcases Nat.decEq q 2 with h3 | h3
  rotate_left
  · have h3s := h3
    refine nw_tabInN C (off := 74) h3 (by decide) 77 dX1_manyNow_3 (by decide) (by decide) rfl (by decide) ?_
    refine nw_aload_n C 1 dX1_manyNow_77 rfl 78 rfl ?_
    refine nw_get C hx (T := TX1) rfl in_X1 1 (by decide) q222 (Or.inl rfl) rfl dX1_manyNow_78 81 rfl ?_
    refine nw_callV C (mJ3_iterator _ C.hfl d (ad 1) ((sg_la σ).1) (fun k => ad (100 + k)) (fun q => ro q = 2002) mo1 ar1 cap1 f1 H hB hLm1) kJ3_iterator q299 (hcLa.1.is C) (As := []) (rest := []) rfl rfl ⟨⟨Nat.le_of_ble_eq_true rfl, Nat.le_of_ble_eq_true rfl⟩, (show 0 + 1 ≤ 1 by omega), (show 0 + 4 ≤ 4 by omega)⟩ (Nat.le_of_ble_eq_true rfl) (fun _ h8 h9 => absurd h9 (Nat.not_le.mpr h8)) dX1_manyNow_81 84 rfl (fun v9 H4 hR5 hz6 hq7 => ?_) nw_noX
    obtain ⟨⟨it8, rfl, hn9, hi10⟩, -⟩ := hR5
    have hn11 : H.size ≤ it8 := (Nat.le_trans hext.1 hn9)
    have hext := hext.call hz6 hq7
    have hW := hW0.ext hext.2
    have hLm1 := hLm10.ext hext.2
    have hLm5 := hLm50.ext hext.2
    have hE := C.E0.ext hext.2
    have hB := Nat.le_trans hB0 hext.1
    obtain ⟨hx, hcG, hcLa, hcFo, hcGu, hcPo, hcIn, hcWi, hcWo, hcKe⟩ := id hW
    obtain ⟨okg, okl, okf, oku, okp, oki, okw, okd, okk, oka⟩ := id ok
    have hn64 : gr_n (sg_gr σ) ≤ 64 := okg.n
    have oku1 := oku.1
    have oki1 := oki.1
    have okp1 := okp.1
    have okw1 := okw.1
    have okl1 := okl.1
    have okf1 := okf.1
    show nwV X _ _ 5 H4 (0 + 1) (0 + 4) 84 [(2, .int (nI 0)), (0, .ref x), (1, .int (nI q))] [.ref it8]
    refine nw_wide (k' := 1) (n' := 4) (by omega) (by omega) ?_
    refine nw_astore_n C [(3, .ref it8), (2, .int (nI 0)), (0, .ref x), (1, .int (nI q))] dX1_manyNow_84 (by decide) rfl 85 rfl ?_
    have lp12 : ∀ (fu : Nat) (H21 : Heap) (j1 : Nat) (lr1 : Int32) (m1 : Nat), (nwExt H H21) → (nwO d it8 14 [.int (nI j1), .int lr1, .int mo1, .ref (ad 1)] H21) → (j1 ≤ (sg_la σ).1) → (m1 = sp_cnt (fun k => ((sg_la σ).2 k).2.2) j1) → (sg_la σ).1 - j1 < fu → nwV X (nwNew H) (nwQE X (nwVr (nI (sp_manyNow σ q)) H) nwNo (nwNew H) 1 4) 5 H21 1 4 85 [(2, .int (nI m1)), (3, .ref it8)] [] := by
      intro fu
      induction fu with
      | zero => intro H21 j1 lr1 m1 _ _ _ _ hm; exact absurd hm (Nat.not_lt_zero _)
      | succ fu ih_lp12 =>
        intro H21 j1 lr1 m1 hext hit1 hi1 hm1 hm
        have hW := hW0.ext hext.2
        have hLm1 := hLm10.ext hext.2
        have hLm5 := hLm50.ext hext.2
        have hE := C.E0.ext hext.2
        have hB := Nat.le_trans hB0 hext.1
        obtain ⟨hx, hcG, hcLa, hcFo, hcGu, hcPo, hcIn, hcWi, hcWo, hcKe⟩ := id hW
        obtain ⟨okg, okl, okf, oku, okp, oki, okw, okd, okk, oka⟩ := id ok
        have hn64 : gr_n (sg_gr σ) ≤ 64 := okg.n
        have oku1 := oku.1
        have oki1 := oki.1
        have okp1 := okp.1
        have okw1 := okw.1
        have okl1 := okl.1
        have okf1 := okf.1
        refine nw_aload_n C 1 dX1_manyNow_85 rfl 86 rfl ?_
        refine nw_callG C (mJ13_hasNext _ C.hfl d (ad 1) ((sg_la σ).1) (fun k => ad (100 + k)) (fun q => ro q = 2002) mo1 ar1 cap1 f1 it8 j1 lr1 H21 hB hLm1 hit1 (by omega)) kJ13_hasNext (ci := 14) rfl q323 q327 (by decide +kernel) fc_Iterator_hasNext (hit1.is C (ci := 14) rfl) (As := []) (rest := []) rfl rfl ⟨⟨Nat.le_of_ble_eq_true rfl, Nat.le_of_ble_eq_true rfl⟩, Nat.le_of_ble_eq_true rfl, Nat.le_of_ble_eq_true rfl⟩ (Nat.le_of_ble_eq_true rfl) (fun _ h8 h9 => absurd h9 (Nat.not_le.mpr h8)) dX1_manyNow_86 91 rfl (nw_rdK ?_) nw_noX
        refine nw_ifeqB C 124 dX1_manyNow_91 (by decide) 94 rfl (fun h13 => ?_) (fun h13 => ?_)
        · have h13 := of_decide_eq_false h13
          refine nw_iload_n C 0 dX1_manyNow_124 rfl 125 rfl ?_
          have hz9 : m1 = sp_lit (sg_la σ) := by rw [hm1, show j1 = (sg_la σ).1 by omega]; rfl
          exact nw_iret C dX1_manyNow_125 (by omega) (by omega) ⟨by unfold sp_manyNow; simp [h1, h2, h3, hz9], hext⟩
        · have h13 := of_decide_eq_true h13
          refine nw_aload_n C 1 dX1_manyNow_94 rfl 95 rfl ?_
          refine nw_callG C (mJ13_next _ C.hfl d it8 (ad 1) ((sg_la σ).1) (fun k => ad (100 + k)) (fun q => ro q = 2002) mo1 ar1 cap1 f1 j1 lr1 H21 hB (Nat.le_trans hB0 hn11) hit1 hLm1 (by omega) (fun g9 e9 => absurd (hLm10.art g9) (Nat.not_lt.mpr (by rw [e9]; exact hn11))) (fun e9 => absurd hLm10.lt (Nat.not_lt.mpr (by rw [e9]; exact hn11)))) kJ13_next (ci := 14) rfl q333 q336 (by decide +kernel) fc_Iterator_next (hit1.is C (ci := 14) rfl) (As := []) (rest := []) rfl rfl ⟨⟨Nat.le_of_ble_eq_true rfl, Nat.le_of_ble_eq_true rfl⟩, (show 1 + 0 ≤ 1 by omega), (show 4 + 0 ≤ 4 by omega)⟩ (Nat.le_of_ble_eq_true rfl) (fun q8 h8 h9 => h9.elim (fun e9 => by rw [e9]; exact hn11) (fun e9 => absurd h8 (Nat.not_lt.mpr e9))) dX1_manyNow_95 100 rfl (fun v9 H14 hR15 hz16 hq17 => ?_) nw_noX
          obtain ⟨rfl, ho18⟩ := hR15
          have hext := hext.step hz16 hq17 (fun q9 e9 => e9.elim (fun e9 => by rw [e9]; exact hn11) (fun e9 => Nat.le_trans hext.1 e9))
          have hW := hW0.ext hext.2
          have hLm1 := hLm10.ext hext.2
          have hLm5 := hLm50.ext hext.2
          have hE := C.E0.ext hext.2
          have hB := Nat.le_trans hB0 hext.1
          obtain ⟨hx, hcG, hcLa, hcFo, hcGu, hcPo, hcIn, hcWi, hcWo, hcKe⟩ := id hW
          obtain ⟨okg, okl, okf, oku, okp, oki, okw, okd, okk, oka⟩ := id ok
          have hn64 : gr_n (sg_gr σ) ≤ 64 := okg.n
          have oku1 := oku.1
          have oki1 := oki.1
          have okp1 := okp.1
          have okw1 := okw.1
          have okl1 := okl.1
          have okf1 := okf.1
          have hg19 : nwO d (ad (100 + j1)) 2 [.int (nI (((sg_la σ).2 j1).1)), .int (nI (((sg_la σ).2 j1).2.1)), .int (b2i (((sg_la σ).2 j1).2.2))] H14 := (hcLa.2 j1 (by omega))
          show nwV X _ _ 5 H14 (1 + 0) (4 + 0) 100 [(2, .int (nI m1)), (3, .ref it8)] [.ref (ad (100 + j1))]
          refine nw_wide (k' := 1) (n' := 4) (by omega) (by omega) ?_
          refine nw_cast C (ci := 2) rfl (hg19.is C (ci := 2) rfl) q345 dX1_manyNow_100 103 rfl ?_
          refine nw_astore C [(4, .ref (ad (100 + j1))), (2, .int (nI m1)), (3, .ref it8)] dX1_manyNow_103 (by decide) rfl 105 rfl ?_
          refine nw_iload_n C 1 dX1_manyNow_105 rfl 106 rfl ?_
          refine nw_aload C 0 dX1_manyNow_106 rfl 108 rfl ?_
          refine nw_getN C hg19 (T := TX8) rfl in_X8 2 (by decide) q880 rfl rfl dX1_manyNow_108 111 rfl ?_
          refine nw_ifeqB C 118 dX1_manyNow_111 (by decide) 114 rfl (fun h20 => ?_) (fun h20 => ?_)
          · refine nw_iconst C (nI 0) dX1_manyNow_118 (by decide) 119 rfl ?_
            refine nw_iaddN C dX1_manyNow_119 120 rfl ?_
            refine nw_istore_n C [(2, .int (nI (m1 + 0))), (4, .ref (ad (100 + j1))), (3, .ref it8)] dX1_manyNow_120 (by decide) rfl 121 rfl ?_
            refine nw_goto C 85 dX1_manyNow_121 (by decide) ?_
            exact nw_wide (by omega) (by omega) (nw_sub [0, 2] rfl (ih_lp12 H14 (j1 + 1) (nI j1) m1 hext ho18 (by omega) (by rw [sp_cnt_f (p := (fun k => ((sg_la σ).2 k).2.2)) (n := j1) (by simp [h20])]; omega) (by omega)))
          · refine nw_iconst C (nI 1) dX1_manyNow_114 (by decide) 115 rfl ?_
            refine nw_goto C 119 dX1_manyNow_115 (by decide) ?_
            refine nw_iaddN C dX1_manyNow_119 120 rfl ?_
            refine nw_istore_n C [(2, .int (nI (m1 + 1))), (4, .ref (ad (100 + j1))), (3, .ref it8)] dX1_manyNow_120 (by decide) rfl 121 rfl ?_
            refine nw_goto C 85 dX1_manyNow_121 (by decide) ?_
            exact nw_wide (by omega) (by omega) (nw_sub [0, 2] rfl (ih_lp12 H14 (j1 + 1) (nI j1) (m1 + 1) hext ho18 (by omega) (by rw [sp_cnt_t (p := (fun k => ((sg_la σ).2 k).2.2)) (n := j1) (by simp [h20])]; omega) (by omega)))
    exact nw_wide (by omega) (by omega) (nw_sub [1, 0] rfl (lp12 _ H4 0 (oI none) 0 hext hi10 (Nat.zero_le _) rfl (Nat.lt_succ_self _)))
  rcases Nat.decEq q 3 with h21 | h21
  rotate_left
  · have h21s := h21
    refine nw_tabInN C (off := 123) h21 (by decide) 126 dX1_manyNow_3 (by decide) (by decide) rfl (by decide) ?_
    refine nw_aload_n C 1 dX1_manyNow_126 rfl 127 rfl ?_
    refine nw_get C hx (T := TX1) rfl in_X1 3 (by decide) q224 (Or.inl rfl) rfl dX1_manyNow_127 130 rfl ?_
    refine nw_callV C (mJ3_size _ C.hfl d (ad 3) ((sg_gu σ).1) (fun k => ad (300 + k)) (fun q => ro q = 2004) H hB hcGu.1) kJ3_size q346 (hcGu.1.is C) (As := []) (rest := []) rfl rfl ⟨⟨Nat.le_of_ble_eq_true rfl, Nat.le_of_ble_eq_true rfl⟩, Nat.le_of_ble_eq_true rfl, Nat.le_of_ble_eq_true rfl⟩ (Nat.le_of_ble_eq_true rfl) (fun _ h8 h9 => absurd h9 (Nat.not_le.mpr h8)) dX1_manyNow_130 133 rfl (nw_rdK ?_) nw_noX
    exact nw_iret C dX1_manyNow_133 (by omega) (by omega) ⟨by unfold sp_manyNow; simp [h1, h2, h3, h21], hext⟩
  rcases Nat.decEq q 4 with h22 | h22
  rotate_left
  · have h22s := h22
    refine nw_tabInN C (off := 131) h22 (by decide) 134 dX1_manyNow_3 (by decide) (by decide) rfl (by decide) ?_
    refine nw_aload_n C 1 dX1_manyNow_134 rfl 135 rfl ?_
    refine nw_get C hx (T := TX1) rfl in_X1 4 (by decide) q225 (Or.inl rfl) rfl dX1_manyNow_135 138 rfl ?_
    refine nw_callV C (mJ3_size _ C.hfl d (ad 4) ((sg_po σ).1) (fun k => nd_bx d ((sg_po σ).2 k)) (fun q => ro q = 2005) H hB hcPo) kJ3_size q346 (hcPo.is C) (As := []) (rest := []) rfl rfl ⟨⟨Nat.le_of_ble_eq_true rfl, Nat.le_of_ble_eq_true rfl⟩, Nat.le_of_ble_eq_true rfl, Nat.le_of_ble_eq_true rfl⟩ (Nat.le_of_ble_eq_true rfl) (fun _ h8 h9 => absurd h9 (Nat.not_le.mpr h8)) dX1_manyNow_138 141 rfl (nw_rdK ?_) nw_noX
    exact nw_iret C dX1_manyNow_141 (by omega) (by omega) ⟨by unfold sp_manyNow; simp [h1, h2, h3, h21, h22], hext⟩
  rcases Nat.decEq q 5 with h23 | h23
  rotate_left
  · have h23s := h23
    refine nw_tabInN C (off := 139) h23 (by decide) 142 dX1_manyNow_3 (by decide) (by decide) rfl (by decide) ?_
    refine nw_aload_n C 1 dX1_manyNow_142 rfl 143 rfl ?_
    refine nw_get C hx (T := TX1) rfl in_X1 5 (by decide) q226 (Or.inl rfl) rfl dX1_manyNow_143 146 rfl ?_
    refine nw_callV C (mJ3_size _ C.hfl d (ad 5) ((sg_in σ).1) (fun k => ad (500 + k)) (fun q => ro q = 2006) H hB hcIn.1) kJ3_size q346 (hcIn.1.is C) (As := []) (rest := []) rfl rfl ⟨⟨Nat.le_of_ble_eq_true rfl, Nat.le_of_ble_eq_true rfl⟩, Nat.le_of_ble_eq_true rfl, Nat.le_of_ble_eq_true rfl⟩ (Nat.le_of_ble_eq_true rfl) (fun _ h8 h9 => absurd h9 (Nat.not_le.mpr h8)) dX1_manyNow_146 149 rfl (nw_rdK ?_) nw_noX
    exact nw_iret C dX1_manyNow_149 (by omega) (by omega) ⟨by unfold sp_manyNow; simp [h1, h2, h3, h21, h22, h23], hext⟩
  rcases Nat.decEq q 6 with h24 | h24
  rotate_left
  · have h24s := h24
    refine nw_tabInN C (off := 147) h24 (by decide) 150 dX1_manyNow_3 (by decide) (by decide) rfl (by decide) ?_
    refine nw_aload_n C 1 dX1_manyNow_150 rfl 151 rfl ?_
    refine nw_get C hx (T := TX1) rfl in_X1 5 (by decide) q226 (Or.inl rfl) rfl dX1_manyNow_151 154 rfl ?_
    refine nw_callV C (mJ3_iterator _ C.hfl d (ad 5) ((sg_in σ).1) (fun k => ad (500 + k)) (fun q => ro q = 2006) mo5 ar5 cap5 f5 H hB hLm5) kJ3_iterator q299 (hcIn.1.is C) (As := []) (rest := []) rfl rfl ⟨⟨Nat.le_of_ble_eq_true rfl, Nat.le_of_ble_eq_true rfl⟩, (show 0 + 1 ≤ 1 by omega), (show 0 + 4 ≤ 4 by omega)⟩ (Nat.le_of_ble_eq_true rfl) (fun _ h8 h9 => absurd h9 (Nat.not_le.mpr h8)) dX1_manyNow_154 157 rfl (fun v9 H25 hR26 hz27 hq28 => ?_) nw_noX
    obtain ⟨⟨it29, rfl, hn30, hi31⟩, -⟩ := hR26
    have hn32 : H.size ≤ it29 := (Nat.le_trans hext.1 hn30)
    have hext := hext.call hz27 hq28
    have hW := hW0.ext hext.2
    have hLm1 := hLm10.ext hext.2
    have hLm5 := hLm50.ext hext.2
    have hE := C.E0.ext hext.2
    have hB := Nat.le_trans hB0 hext.1
    obtain ⟨hx, hcG, hcLa, hcFo, hcGu, hcPo, hcIn, hcWi, hcWo, hcKe⟩ := id hW
    obtain ⟨okg, okl, okf, oku, okp, oki, okw, okd, okk, oka⟩ := id ok
    have hn64 : gr_n (sg_gr σ) ≤ 64 := okg.n
    have oku1 := oku.1
    have oki1 := oki.1
    have okp1 := okp.1
    have okw1 := okw.1
    have okl1 := okl.1
    have okf1 := okf.1
    show nwV X _ _ 5 H25 (0 + 1) (0 + 4) 157 [(2, .int (nI 0)), (0, .ref x), (1, .int (nI q))] [.ref it29]
    refine nw_wide (k' := 1) (n' := 4) (by omega) (by omega) ?_
    refine nw_astore_n C [(3, .ref it29), (2, .int (nI 0)), (0, .ref x), (1, .int (nI q))] dX1_manyNow_157 (by decide) rfl 158 rfl ?_
    have lp33 : ∀ (fu : Nat) (H25 : Heap) (j5 : Nat) (lr5 : Int32) (m5 : Nat), (nwExt H H25) → (nwO d it29 14 [.int (nI j5), .int lr5, .int mo5, .ref (ad 5)] H25) → (j5 ≤ (sg_in σ).1) → (m5 = sp_cnt (fun k => (sp_foundS σ ((sg_in σ).2 k)).isSome) j5) → (sg_in σ).1 - j5 < fu → nwV X (nwNew H) (nwQE X (nwVr (nI (sp_manyNow σ q)) H) nwNo (nwNew H) 1 4) 5 H25 1 4 158 [(0, .ref x), (2, .int (nI m5)), (3, .ref it29)] [] := by
      intro fu
      induction fu with
      | zero => intro H25 j5 lr5 m5 _ _ _ _ hm; exact absurd hm (Nat.not_lt_zero _)
      | succ fu ih_lp33 =>
        intro H25 j5 lr5 m5 hext hit5 hi5 hm5 hm
        have hW := hW0.ext hext.2
        have hLm1 := hLm10.ext hext.2
        have hLm5 := hLm50.ext hext.2
        have hE := C.E0.ext hext.2
        have hB := Nat.le_trans hB0 hext.1
        obtain ⟨hx, hcG, hcLa, hcFo, hcGu, hcPo, hcIn, hcWi, hcWo, hcKe⟩ := id hW
        obtain ⟨okg, okl, okf, oku, okp, oki, okw, okd, okk, oka⟩ := id ok
        have hn64 : gr_n (sg_gr σ) ≤ 64 := okg.n
        have oku1 := oku.1
        have oki1 := oki.1
        have okp1 := okp.1
        have okw1 := okw.1
        have okl1 := okl.1
        have okf1 := okf.1
        refine nw_aload_n C 2 dX1_manyNow_158 rfl 159 rfl ?_
        refine nw_callG C (mJ13_hasNext _ C.hfl d (ad 5) ((sg_in σ).1) (fun k => ad (500 + k)) (fun q => ro q = 2006) mo5 ar5 cap5 f5 it29 j5 lr5 H25 hB hLm5 hit5 (by omega)) kJ13_hasNext (ci := 14) rfl q323 q327 (by decide +kernel) fc_Iterator_hasNext (hit5.is C (ci := 14) rfl) (As := []) (rest := []) rfl rfl ⟨⟨Nat.le_of_ble_eq_true rfl, Nat.le_of_ble_eq_true rfl⟩, Nat.le_of_ble_eq_true rfl, Nat.le_of_ble_eq_true rfl⟩ (Nat.le_of_ble_eq_true rfl) (fun _ h8 h9 => absurd h9 (Nat.not_le.mpr h8)) dX1_manyNow_159 164 rfl (nw_rdK ?_) nw_noX
        refine nw_ifeqB C 199 dX1_manyNow_164 (by decide) 167 rfl (fun h34 => ?_) (fun h34 => ?_)
        · have h34 := of_decide_eq_false h34
          refine nw_iload_n C 1 dX1_manyNow_199 rfl 200 rfl ?_
          have hz9 : m5 = sp_found2 σ := by rw [hm5, show j5 = (sg_in σ).1 by omega]; rfl
          exact nw_iret C dX1_manyNow_200 (by omega) (by omega) ⟨by unfold sp_manyNow; simp [h1, h2, h3, h21, h22, h23, h24, hz9], hext⟩
        · have h34 := of_decide_eq_true h34
          refine nw_aload_n C 2 dX1_manyNow_167 rfl 168 rfl ?_
          refine nw_callG C (mJ13_next _ C.hfl d it29 (ad 5) ((sg_in σ).1) (fun k => ad (500 + k)) (fun q => ro q = 2006) mo5 ar5 cap5 f5 j5 lr5 H25 hB (Nat.le_trans hB0 hn32) hit5 hLm5 (by omega) (fun g9 e9 => absurd (hLm50.art g9) (Nat.not_lt.mpr (by rw [e9]; exact hn32))) (fun e9 => absurd hLm50.lt (Nat.not_lt.mpr (by rw [e9]; exact hn32)))) kJ13_next (ci := 14) rfl q333 q336 (by decide +kernel) fc_Iterator_next (hit5.is C (ci := 14) rfl) (As := []) (rest := []) rfl rfl ⟨⟨Nat.le_of_ble_eq_true rfl, Nat.le_of_ble_eq_true rfl⟩, (show 1 + 0 ≤ 1 by omega), (show 4 + 0 ≤ 4 by omega)⟩ (Nat.le_of_ble_eq_true rfl) (fun q8 h8 h9 => h9.elim (fun e9 => by rw [e9]; exact hn32) (fun e9 => absurd h8 (Nat.not_lt.mpr e9))) dX1_manyNow_168 173 rfl (fun v9 H35 hR36 hz37 hq38 => ?_) nw_noX
          obtain ⟨rfl, ho39⟩ := hR36
          have hext := hext.step hz37 hq38 (fun q9 e9 => e9.elim (fun e9 => by rw [e9]; exact hn32) (fun e9 => Nat.le_trans hext.1 e9))
          have hW := hW0.ext hext.2
          have hLm1 := hLm10.ext hext.2
          have hLm5 := hLm50.ext hext.2
          have hE := C.E0.ext hext.2
          have hB := Nat.le_trans hB0 hext.1
          obtain ⟨hx, hcG, hcLa, hcFo, hcGu, hcPo, hcIn, hcWi, hcWo, hcKe⟩ := id hW
          obtain ⟨okg, okl, okf, oku, okp, oki, okw, okd, okk, oka⟩ := id ok
          have hn64 : gr_n (sg_gr σ) ≤ 64 := okg.n
          have oku1 := oku.1
          have oki1 := oki.1
          have okp1 := okp.1
          have okw1 := okw.1
          have okl1 := okl.1
          have okf1 := okf.1
          have hg40 : nwIn d (ad (500 + j5)) (ad (600 + j5)) (fun q => ro q = 2601 + j5) ((sg_in σ).2 j5) H35 := hcIn.2 j5 (by omega)
          have hk41 : okI1 (sg_gr σ) ((sg_in σ).2 j5) := oki.2 j5 (by omega)
          have hg42 : nwO d (ad (500 + j5)) 7 [.int (nI (in_a ((sg_in σ).2 j5))), .ref (ad (600 + j5)), .int (nI (in_v ((sg_in σ).2 j5))), .int (nI (in_s ((sg_in σ).2 j5))), .int (oI (in_l ((sg_in σ).2 j5)))] H35 := hg40.1
          show nwV X _ _ 5 H35 (1 + 0) (4 + 0) 173 [(0, .ref x), (2, .int (nI m5)), (3, .ref it29)] [.ref (ad (500 + j5))]
          refine nw_wide (k' := 1) (n' := 4) (by omega) (by omega) ?_
          refine nw_cast C (ci := 7) rfl (hg42.is C (ci := 7) rfl) q378 dX1_manyNow_173 176 rfl ?_
          refine nw_astore C [(4, .ref (ad (500 + j5))), (0, .ref x), (2, .int (nI m5)), (3, .ref it29)] dX1_manyNow_176 (by decide) rfl 178 rfl ?_
          refine nw_iload_n C 2 dX1_manyNow_178 rfl 179 rfl ?_
          refine nw_aload_n C 1 dX1_manyNow_179 rfl 180 rfl ?_
          refine nw_aload C 0 dX1_manyNow_180 rfl 182 rfl ?_
          refine nw_callV C (mX1_found _ C.hfl d ro ad x σ sm (ad (500 + j5)) (ad (600 + j5)) (fun q => ro q = 2601 + j5) ((sg_in σ).2 j5) H35 hB hW ok hg40 hk41) kX1_found q407 (hx.is C (ci := 0) rfl) (As := [.ref (ad (500 + j5))]) (rest := [.int (nI m5)]) rfl rfl ⟨⟨Nat.le_of_ble_eq_true rfl, Nat.le_of_ble_eq_true rfl⟩, Nat.le_of_ble_eq_true rfl, Nat.le_of_ble_eq_true rfl⟩ (Nat.le_of_ble_eq_true rfl) (fun _ h8 h9 => absurd h9 (Nat.not_le.mpr h8)) dX1_manyNow_182 185 rfl (nw_rdK ?_) nw_noX
          generalize hfo : sp_foundS σ ((sg_in σ).2 j5) = o
          rcases o with _ | t
          · show nwV X _ _ 5 H35 1 4 185 [(4, .ref (ad (500 + j5))), (0, .ref x), (2, .int (nI m5)), (3, .ref it29)] [.int (oI none), .int (nI m5)]
            refine nw_iconst C (oI none) dX1_manyNow_185 (by decide) 186 rfl ?_
            refine nw_icmpeqT C rfl 193 dX1_manyNow_186 (by decide) ?_
            refine nw_iconst C (nI 0) dX1_manyNow_193 (by decide) 194 rfl ?_
            refine nw_iaddN C dX1_manyNow_194 195 rfl ?_
            refine nw_istore_n C [(2, .int (nI (m5 + 0))), (4, .ref (ad (500 + j5))), (0, .ref x), (3, .ref it29)] dX1_manyNow_195 (by decide) rfl 196 rfl ?_
            refine nw_goto C 158 dX1_manyNow_196 (by decide) ?_
            exact nw_wide (by omega) (by omega) (nw_sub [2, 0, 3] rfl (ih_lp33 H35 (j5 + 1) (nI j5) m5 hext ho39 (by omega) (by rw [sp_cnt_f (p := (fun k => (sp_foundS σ ((sg_in σ).2 k)).isSome)) (n := j5) (by rw [hfo]; rfl)]; omega) (by omega)))
          · show nwV X _ _ 5 H35 1 4 185 [(4, .ref (ad (500 + j5))), (0, .ref x), (2, .int (nI m5)), (3, .ref it29)] [.int (nI t), .int (nI m5)]
            have htt := sp_foundS_in hfo
            refine nw_iconst C (oI none) dX1_manyNow_185 (by decide) 186 rfl ?_
            refine nw_icmpeqF C (nI_m1 (by omega)) 193 dX1_manyNow_186 (by decide) 189 rfl ?_
            refine nw_iconst C (nI 1) dX1_manyNow_189 (by decide) 190 rfl ?_
            refine nw_goto C 194 dX1_manyNow_190 (by decide) ?_
            refine nw_iaddN C dX1_manyNow_194 195 rfl ?_
            refine nw_istore_n C [(2, .int (nI (m5 + 1))), (4, .ref (ad (500 + j5))), (0, .ref x), (3, .ref it29)] dX1_manyNow_195 (by decide) rfl 196 rfl ?_
            refine nw_goto C 158 dX1_manyNow_196 (by decide) ?_
            exact nw_wide (by omega) (by omega) (nw_sub [2, 0, 3] rfl (ih_lp33 H35 (j5 + 1) (nI j5) (m5 + 1) hext ho39 (by omega) (by rw [sp_cnt_t (p := (fun k => (sp_foundS σ ((sg_in σ).2 k)).isSome)) (n := j5) (by rw [hfo]; rfl)]; omega) (by omega)))
    exact nw_wide (by omega) (by omega) (nw_sub [2, 1, 0] rfl (lp33 _ H25 0 (oI none) 0 hext hi31 (Nat.zero_le _) rfl (Nat.lt_succ_self _)))
  rcases Nat.decEq q 7 with h45 | h45
  rotate_left
  · have h45s := h45
    refine nw_tabInN C (off := 198) h45 (by decide) 201 dX1_manyNow_3 (by decide) (by decide) rfl (by decide) ?_
    refine nw_aload_n C 1 dX1_manyNow_201 rfl 202 rfl ?_
    refine nw_get C hx (T := TX1) rfl in_X1 6 (by decide) q227 (Or.inl rfl) rfl dX1_manyNow_202 205 rfl ?_
    refine nw_callV C (mJ3_size _ C.hfl d (ad 6) ((sg_wi σ).1) (fun k => ad (700 + k)) (fun q => ro q = 2007) H hB hcWi.1) kJ3_size q346 (hcWi.1.is C) (As := []) (rest := []) rfl rfl ⟨⟨Nat.le_of_ble_eq_true rfl, Nat.le_of_ble_eq_true rfl⟩, Nat.le_of_ble_eq_true rfl, Nat.le_of_ble_eq_true rfl⟩ (Nat.le_of_ble_eq_true rfl) (fun _ h8 h9 => absurd h9 (Nat.not_le.mpr h8)) dX1_manyNow_205 208 rfl (nw_rdK ?_) nw_noX
    exact nw_iret C dX1_manyNow_208 (by omega) (by omega) ⟨by unfold sp_manyNow; simp [h1, h2, h3, h21, h22, h23, h24, h45], hext⟩
  rcases Nat.decEq q 8 with h46 | h46
  rotate_left
  · have h46s := h46
    refine nw_tabInN C (off := 206) h46 (by decide) 209 dX1_manyNow_3 (by decide) (by decide) rfl (by decide) ?_
    refine nw_bipush C (nI 6) dX1_manyNow_209 (by decide) 211 rfl ?_
    refine nw_aload_n C 1 dX1_manyNow_211 rfl 212 rfl ?_
    refine nw_iconst C (oI none) dX1_manyNow_212 (by decide) 213 rfl ?_
    refine nw_callV C (mX1_keysOf _ C.hfl d ro ad x σ sm none H hB hW ok (fun v hv => by cases hv)) kX1_keysOf q507 (hx.is C (ci := 0) rfl) (As := [.int (oI none)]) (rest := [.int (nI 6)]) rfl rfl ⟨⟨Nat.le_of_ble_eq_true rfl, Nat.le_of_ble_eq_true rfl⟩, Nat.le_of_ble_eq_true rfl, Nat.le_of_ble_eq_true rfl⟩ (Nat.le_of_ble_eq_true rfl) (fun _ h8 h9 => absurd h9 (Nat.not_le.mpr h8)) dX1_manyNow_213 216 rfl (nw_rdK ?_) nw_noX
    refine nw_callS C (mJ19_bitCount _ C.hfl d (sp_keysOf (sg_ke σ) none) H hB) kJ19_bitCount q511 (As := [.int (sp_keysOf (sg_ke σ) none)]) (rest := [.int (nI 6)]) rfl rfl ⟨⟨Nat.le_of_ble_eq_true rfl, Nat.le_of_ble_eq_true rfl⟩, Nat.le_of_ble_eq_true rfl, Nat.le_of_ble_eq_true rfl⟩ (Nat.le_of_ble_eq_true rfl) (fun _ h8 h9 => absurd h9 (Nat.not_le.mpr h8)) dX1_manyNow_216 219 rfl (nw_rdK ?_) nw_noX
    refine nw_isub C (nI (sp_keysIn (sg_ke σ))) dX1_manyNow_219 (nw_keysIn _) 220 rfl ?_
    exact nw_iret C dX1_manyNow_220 (by omega) (by omega) ⟨by unfold sp_manyNow; simp [h1, h2, h3, h21, h22, h23, h24, h45, h46], hext⟩
  rcases Nat.decEq q 9 with h47 | h47
  rotate_left
  · have h47s := h47
    refine nw_tabInN C (off := 218) h47 (by decide) 221 dX1_manyNow_3 (by decide) (by decide) rfl (by decide) ?_
    refine nw_aload_n C 1 dX1_manyNow_221 rfl 222 rfl ?_
    refine nw_get C hx (T := TX1) rfl in_X1 7 (by decide) q228 (Or.inl rfl) rfl dX1_manyNow_222 225 rfl ?_
    refine nw_getN C hcWo.1 (T := TX2) rfl in_X2 3 (by decide) q206 rfl rfl dX1_manyNow_225 228 rfl ?_
    refine nw_callV C (mJ3_size _ C.hfl d (ad 12) (wo_m (sg_wo σ)) (fun k => nd_bx d (wo_o (sg_wo σ) k)) (fun q => ro q = 2013) H hB hcWo.2.2.2) kJ3_size q346 (hcWo.2.2.2.is C) (As := []) (rest := []) rfl rfl ⟨⟨Nat.le_of_ble_eq_true rfl, Nat.le_of_ble_eq_true rfl⟩, Nat.le_of_ble_eq_true rfl, Nat.le_of_ble_eq_true rfl⟩ (Nat.le_of_ble_eq_true rfl) (fun _ h8 h9 => absurd h9 (Nat.not_le.mpr h8)) dX1_manyNow_228 231 rfl (nw_rdK ?_) nw_noX
    exact nw_iret C dX1_manyNow_231 (by omega) (by omega) ⟨by unfold sp_manyNow; simp [h1, h2, h3, h21, h22, h23, h24, h45, h46, h47], hext⟩
  rcases Nat.decEq q 10 with h48 | h48
  rotate_left
  · have h48s := h48
    refine nw_tabInN C (off := 229) h48 (by decide) 232 dX1_manyNow_3 (by decide) (by decide) rfl (by decide) ?_
    refine nw_aload_n C 1 dX1_manyNow_232 rfl 233 rfl ?_
    refine nw_get C hx (T := TX1) rfl in_X1 11 (by decide) q232 (Or.inl rfl) rfl dX1_manyNow_233 236 rfl ?_
    exact nw_iret C dX1_manyNow_236 (by omega) (by omega) ⟨by unfold sp_manyNow; simp [h1, h2, h3, h21, h22, h23, h24, h45, h46, h47, h48], hext⟩
  rcases Nat.decEq q 11 with h49 | h49
  rotate_left
  · have h49s := h49
    refine nw_tabInN C (off := 234) h49 (by decide) 237 dX1_manyNow_3 (by decide) (by decide) rfl (by decide) ?_
    refine nw_aload_n C 1 dX1_manyNow_237 rfl 238 rfl ?_
    refine nw_callV C (mX1_emptyMinutes _ C.hfl d ro ad x σ sm  H hB hW ok ) kX1_emptyMinutes q517 (hx.is C (ci := 0) rfl) (As := []) (rest := []) rfl rfl ⟨⟨Nat.le_of_ble_eq_true rfl, Nat.le_of_ble_eq_true rfl⟩, Nat.le_of_ble_eq_true rfl, Nat.le_of_ble_eq_true rfl⟩ (Nat.le_of_ble_eq_true rfl) (fun _ h8 h9 => absurd h9 (Nat.not_le.mpr h8)) dX1_manyNow_238 241 rfl (nw_rdK ?_) nw_noX
    exact nw_iret C dX1_manyNow_241 (by omega) (by omega) ⟨by unfold sp_manyNow; simp [h1, h2, h3, h21, h22, h23, h24, h45, h46, h47, h48, h49], hext⟩
  refine nw_tabOutN C (lo := 0) (hi := 11) (by omega) (by omega) 242 dX1_manyNow_3 (by decide) ?_
  refine nw_aload_n C 1 dX1_manyNow_242 rfl 243 rfl ?_
  refine nw_get C hx (T := TX1) rfl in_X1 12 (by decide) q233 (Or.inl rfl) rfl dX1_manyNow_243 246 rfl ?_
  exact nw_iret C dX1_manyNow_246 (by omega) (by omega) ⟨by unfold sp_manyNow; simp [h1, h2, h3, h21, h22, h23, h24, h45, h46, h47, h48, h49], hext⟩
set_option maxHeartbeats 4000000 in
theorem mX1_many (l : Launch) (hf : l.flags = flags0) (d : nwD) (ro ad : Nat → Nat) (x : Nat) (σ : spSg) (sm : Int64) (q : Int32) (H : Heap) (hB : nd_B d ≤ H.size) (hW : nwWC d ro ad x σ sm H) (ok : spOk σ)  : nwMt l d yX1_many cX1_many 2 (some .int) 10 228 2 10 [.ref x, .int q] H (nwRv (op_many σ q) H) (nwRx (op_many σ q) [cIA] H) (nwNew H) := by
  refine nw_start "NightwatchWall" "many" hf (by decide +kernel) rfl rfl (fun _ h => h) (fun q h => Nat.le_trans hB h) (Nat.le_of_ble_eq_true rfl) ?_
  intro X C
  have hW0 := hW
  have hB0 := hB
  have hE := C.E0
  have hext : nwExt H H := nwExt.rfl
  obtain ⟨hx, hcG, hcLa, hcFo, hcGu, hcPo, hcIn, hcWi, hcWo, hcKe⟩ := id hW
  obtain ⟨okg, okl, okf, oku, okp, oki, okw, okd, okk, oka⟩ := id ok
  have hn64 : gr_n (sg_gr σ) ≤ 64 := okg.n
  have oku1 := oku.1
  have oki1 := oki.1
  have okp1 := okp.1
  have okw1 := okw.1
  have okl1 := okl.1
  have okf1 := okf.1
  show nwV X _ _ 2 H 0 0 0 [(0, .ref x), (1, .int q)] []
  refine nw_iconst C (nI 0) dX1_many_0 (by decide) 1 rfl ?_
  refine nw_bipush C (nI 12) dX1_many_1 (by decide) 3 rfl ?_
  refine nw_iload_n C 1 dX1_many_3 rfl 4 rfl ?_
  refine nw_callS C (mX1_isFromR _ C.hfl d (nI 0) (nI 12) q H hB) kX1_isFrom q579 (As := [.int (nI 0), .int (nI 12), .int q]) (rest := []) rfl rfl ⟨⟨Nat.le_of_ble_eq_true rfl, Nat.le_of_ble_eq_true rfl⟩, Nat.le_of_ble_eq_true rfl, Nat.le_of_ble_eq_true rfl⟩ (Nat.le_of_ble_eq_true rfl) (fun _ h8 h9 => absurd h9 (Nat.not_le.mpr h8)) dX1_many_4 7 rfl (nw_rdK ?_) nw_noX
  show nwV X _ _ 2 H 0 0 7 [(0, .ref x), (1, .int q)] [.int (b2i (nw_rg 0 12 q))]
  refine nw_callS C (mX1_require _ C.hfl d (nw_rg 0 12 q) H hB) kX1_require q655 (As := [.int (b2i (nw_rg 0 12 q))]) (rest := []) rfl rfl ⟨⟨Nat.le_of_ble_eq_true rfl, Nat.le_of_ble_eq_true rfl⟩, (show 0 + 1 ≤ 2 by omega), (show 0 + 6 ≤ 10 by omega)⟩ (Nat.le_of_ble_eq_true rfl) (fun _ h8 h9 => absurd h9 (Nat.not_le.mpr h8)) dX1_many_7 10 rfl ?_ ?_
  rotate_left
  · intro E9 w9 H1 hR2 hz3 hq4
    obtain ⟨rfl, hb5, hx6⟩ := hR2
    exact nw_out C (show (0 + 1) ≤ 2 by omega) (show (0 + 6) ≤ 10 by omega) ⟨⟨0, by simp [op_many, hb5], rfl⟩, hext.trans hx6⟩
  intro v9 H1 hR2 hz3 hq4
  obtain ⟨rfl, hb7, rfl⟩ := hR2
  obtain ⟨qn, hk8, rfl⟩ := nw_rg_nat (by decide) (by decide) hb7
  have en_qn : nw_nn (nI qn) = qn := nw_nn_nI (by omega)
  show nwV X _ _ 2 H (0 + 1) (0 + 6) 10 [(0, .ref x), (1, .int (nI qn))] []
  refine nw_wide (k' := 1) (n' := 6) (by omega) (by omega) ?_
  refine nw_aload_n C 0 dX1_many_10 rfl 11 rfl ?_
  refine nw_iload_n C 1 dX1_many_11 rfl 12 rfl ?_
  refine nw_callV C (mX1_manyNow _ C.hfl d ro ad x σ sm qn H hB hW ok (by omega)) kX1_manyNow q403 (hx.is C (ci := 0) rfl) (As := [.int (nI qn)]) (rest := []) rfl rfl ⟨⟨Nat.le_of_ble_eq_true rfl, Nat.le_of_ble_eq_true rfl⟩, (show 1 + 1 ≤ 2 by omega), (show 6 + 4 ≤ 10 by omega)⟩ (Nat.le_of_ble_eq_true rfl) (fun _ h8 h9 => absurd h9 (Nat.not_le.mpr h8)) dX1_many_12 15 rfl (fun v9 H9 hR10 hz11 hq12 => ?_) nw_noX
  obtain ⟨rfl, -⟩ := hR10
  have hext := hext.call hz11 hq12
  have hW := hW0.ext hext.2
  have hE := C.E0.ext hext.2
  have hB := Nat.le_trans hB0 hext.1
  obtain ⟨hx, hcG, hcLa, hcFo, hcGu, hcPo, hcIn, hcWi, hcWo, hcKe⟩ := id hW
  obtain ⟨okg, okl, okf, oku, okp, oki, okw, okd, okk, oka⟩ := id ok
  have hn64 : gr_n (sg_gr σ) ≤ 64 := okg.n
  have oku1 := oku.1
  have oki1 := oki.1
  have okp1 := okp.1
  have okw1 := okw.1
  have okl1 := okl.1
  have okf1 := okf.1
  show nwV X _ _ 2 H9 (1 + 1) (6 + 4) 15 [(0, .ref x), (1, .int (nI qn))] [.int (nI (sp_manyNow σ qn))]
  refine nw_wide (k' := 2) (n' := 10) (by omega) (by omega) ?_
  exact nw_iret C dX1_many_15 (by omega) (by omega) ⟨⟨by simp [op_many, en_qn, hb7], by simp [op_many, en_qn, hb7]⟩, hext⟩
set_option maxHeartbeats 4000000 in
theorem mX1_hopes (l : Launch) (hf : l.flags = flags0) (d : nwD) (ro ad : Nat → Nat) (x : Nat) (σ : spSg) (sm : Int64) (t : Nat) (H : Heap) (hB : nd_B d ≤ H.size) (hW : nwWC d ro ad x σ sm H) (ok : spOk σ) (ht : t < 2 ^ 31) : nwMt l d yX1_hopes cX1_hopes 6 (some (.array .boolean)) 8 182 1 64 [.ref x, .int (nI t)] H (nwZr d (gr_n (sg_gr σ)) (sp_hope σ t) H) nwNo (nwNew H) := by
  refine nw_start "NightwatchWall" "hopes" hf (by decide +kernel) rfl rfl (fun _ h => h) (fun q h => Nat.le_trans hB h) (Nat.le_of_ble_eq_true rfl) ?_
  intro X C
  have hW0 := hW
  have hB0 := hB
  have hE := C.E0
  have hext : nwExt H H := nwExt.rfl
  obtain ⟨hx, hcG, hcLa, hcFo, hcGu, hcPo, hcIn, hcWi, hcWo, hcKe⟩ := id hW
  obtain ⟨okg, okl, okf, oku, okp, oki, okw, okd, okk, oka⟩ := id ok
  have hn64 : gr_n (sg_gr σ) ≤ 64 := okg.n
  have oku1 := oku.1
  have oki1 := oki.1
  have okp1 := okp.1
  have okw1 := okw.1
  have okl1 := okl.1
  have okf1 := okf.1
  have hfog5 := sp_fog_le okf t
  show nwV X _ _ 6 H 0 0 0 [(0, .ref x), (1, .int (nI t))] []
  refine nw_aload_n C 0 dX1_hopes_0 rfl 1 rfl ?_
  refine nw_iload_n C 1 dX1_hopes_1 rfl 2 rfl ?_
  refine nw_callV C (mX1_fogAt _ C.hfl d ro ad x σ sm t H hB hW ok (by omega)) kX1_fogAt q420 (hx.is C (ci := 0) rfl) (As := [.int (nI t)]) (rest := []) rfl rfl ⟨⟨Nat.le_of_ble_eq_true rfl, Nat.le_of_ble_eq_true rfl⟩, Nat.le_of_ble_eq_true rfl, Nat.le_of_ble_eq_true rfl⟩ (Nat.le_of_ble_eq_true rfl) (fun _ h8 h9 => absurd h9 (Nat.not_le.mpr h8)) dX1_hopes_2 5 rfl (nw_rdK ?_) nw_noX
  refine nw_istore_n C [(2, .int (nI (sp_fog (sg_fo σ) t))), (0, .ref x), (1, .int (nI t))] dX1_hopes_5 (by decide) rfl 6 rfl ?_
  refine nw_aload_n C 1 dX1_hopes_6 rfl 7 rfl ?_
  refine nw_callV C (mX1_size _ C.hfl d ro ad x σ sm  H hB hW ok ) kX1_size q272 (hx.is C (ci := 0) rfl) (As := []) (rest := []) rfl rfl ⟨⟨Nat.le_of_ble_eq_true rfl, Nat.le_of_ble_eq_true rfl⟩, Nat.le_of_ble_eq_true rfl, Nat.le_of_ble_eq_true rfl⟩ (Nat.le_of_ble_eq_true rfl) (fun _ h8 h9 => absurd h9 (Nat.not_le.mpr h8)) dX1_hopes_7 10 rfl (nw_rdK ?_) nw_noX
  refine nw_newz C (by omega) 1 64 (by omega) (by omega) ⟨(show 1 ≤ 1 by omega), (show 64 ≤ 64 by omega)⟩ dX1_hopes_10 12 rfl (fun a1 H2 hx3 ho4 hz5 hq6 => ?_)
  have hn7 : H.size ≤ a1 := (by rw [hx3]; exact hext.1)
  have hext := hext.made hz5 hq6
  have hW := hW0.ext hext.2
  have hE := C.E0.ext hext.2
  have hB := Nat.le_trans hB0 hext.1
  obtain ⟨hx, hcG, hcLa, hcFo, hcGu, hcPo, hcIn, hcWi, hcWo, hcKe⟩ := id hW
  obtain ⟨okg, okl, okf, oku, okp, oki, okw, okd, okk, oka⟩ := id ok
  have hn64 : gr_n (sg_gr σ) ≤ 64 := okg.n
  have oku1 := oku.1
  have oki1 := oki.1
  have okp1 := okp.1
  have okw1 := okw.1
  have okl1 := okl.1
  have okf1 := okf.1
  have hfog5 := sp_fog_le okf t
  refine nw_astore_n C [(3, .ref a1), (2, .int (nI (sp_fog (sg_fo σ) t))), (0, .ref x), (1, .int (nI t))] dX1_hopes_12 (by decide) rfl 13 rfl ?_
  refine nw_iconst C (nI 0) dX1_hopes_13 (by decide) 14 rfl ?_
  refine nw_istore C [(4, .int (nI 0)), (3, .ref a1), (2, .int (nI (sp_fog (sg_fo σ) t))), (0, .ref x), (1, .int (nI t))] dX1_hopes_14 (by decide) rfl 16 rfl ?_
  have lp8 : ∀ (fu : Nat) (H2 : Heap) (i : Nat) (fz : Nat → Int32), (nwExt H H2) → (nwI d a1 1 (gr_n (sg_gr σ)) fz H2) → (i ≤ gr_n (sg_gr σ)) → (∀ k, k < i → fz k = (fun k => b2i (sp_hope σ t k)) k) → (∀ k, i ≤ k → fz k = nI 0) → gr_n (sg_gr σ) - i < fu → nwV X (nwNew H) (nwQE X (nwZr d (gr_n (sg_gr σ)) (sp_hope σ t) H) nwNo (nwNew H) 1 64) 6 H2 1 64 16 [(0, .ref x), (1, .int (nI t)), (2, .int (nI (sp_fog (sg_fo σ) t))), (3, .ref a1), (4, .int (nI i))] [] := by
    intro fu
    induction fu with
    | zero => intro H2 i fz _ _ _ _ _ hm; exact absurd hm (Nat.not_lt_zero _)
    | succ fu ih_lp8 =>
      intro H2 i fz hext hcz hi hfz hfy hm
      have hW := hW0.ext hext.2
      have hE := C.E0.ext hext.2
      have hB := Nat.le_trans hB0 hext.1
      obtain ⟨hx, hcG, hcLa, hcFo, hcGu, hcPo, hcIn, hcWi, hcWo, hcKe⟩ := id hW
      obtain ⟨okg, okl, okf, oku, okp, oki, okw, okd, okk, oka⟩ := id ok
      have hn64 : gr_n (sg_gr σ) ≤ 64 := okg.n
      have oku1 := oku.1
      have oki1 := oki.1
      have okp1 := okp.1
      have okw1 := okw.1
      have okl1 := okl.1
      have okf1 := okf.1
      have hfog5 := sp_fog_le okf t
      refine nw_iload C 4 dX1_hopes_16 rfl 18 rfl ?_
      refine nw_aload_n C 3 dX1_hopes_18 rfl 19 rfl ?_
      refine nw_alenI C hcz (by decide) dX1_hopes_19 20 rfl ?_
      refine nw_icmpgeN C (by omega) 126 dX1_hopes_20 (by decide) 23 rfl (fun h9 => ?_) (fun h9 => ?_)
      · refine nw_aload_n C 3 dX1_hopes_126 rfl 127 rfl ?_
        exact nw_aret C (Or.inr ⟨_, rfl⟩) dX1_hopes_127 (by omega) (by omega) ⟨⟨a1, rfl, hn7, nwI.congr hcz (fun j hj => hfz j (by omega))⟩, hext⟩
      · obtain ⟨hgro, hgrl, hgrg⟩ := hcG.here (show i < _ by omega)
        refine nw_aload_n C 0 dX1_hopes_23 rfl 24 rfl ?_
        refine nw_get C hx (T := TX1) rfl in_X1 0 (by decide) q221 (Or.inl rfl) rfl dX1_hopes_24 27 rfl ?_
        refine nw_callV C (mJ0_get _ C.hfl d (ad 0) (ad 9) H2 hB hgrl) kJ0_get q280 (hgrl.is C (ci := 15) rfl) (As := []) (rest := []) rfl rfl ⟨⟨Nat.le_of_ble_eq_true rfl, Nat.le_of_ble_eq_true rfl⟩, Nat.le_of_ble_eq_true rfl, Nat.le_of_ble_eq_true rfl⟩ (Nat.le_of_ble_eq_true rfl) (fun _ h8 h9 => absurd h9 (Nat.not_le.mpr h8)) dX1_hopes_27 30 rfl (nw_rdK ?_) nw_noX
        refine nw_cast C (ci := 1) rfl (hgrg.1.is C (ci := 1) rfl) q284 dX1_hopes_30 33 rfl ?_
        refine nw_iload C 4 dX1_hopes_33 rfl 35 rfl ?_
        refine nw_callV C (mX6_isWall _ C.hfl d (ad 9) (ad 10) (sg_gr σ) i H2 hB hgrg hgro (by omega)) kX6_isWall q289 (hgrg.1.is C (ci := 1) rfl) (As := [.int (nI i)]) (rest := []) rfl rfl ⟨⟨Nat.le_of_ble_eq_true rfl, Nat.le_of_ble_eq_true rfl⟩, Nat.le_of_ble_eq_true rfl, Nat.le_of_ble_eq_true rfl⟩ (Nat.le_of_ble_eq_true rfl) (fun _ h8 h9 => absurd h9 (Nat.not_le.mpr h8)) dX1_hopes_35 38 rfl (nw_rdK ?_) nw_noX
        refine nw_ifneB C 120 dX1_hopes_38 (by decide) 41 rfl (fun h10 => ?_) (fun h10 => ?_)
        · refine nw_iincN C 4 (c0 := 1) [(4, .int (nI (i + 1))), (0, .ref x), (1, .int (nI t)), (2, .int (nI (sp_fog (sg_fo σ) t))), (3, .ref a1)] dX1_hopes_120 rfl (by decide) rfl 123 rfl ?_
          refine nw_goto C 16 dX1_hopes_123 (by decide) ?_
          exact nw_wide (by omega) (by omega) (nw_sub [1, 2, 3, 4, 0] rfl (ih_lp8 H2 (i + 1) fz hext hcz (by omega) (nw_hfz hfz (by rw [hfy i (Nat.le_refl _), sp_hope_wall h10]; rfl)) (fun k hk => hfy k (by omega)) (by omega)))
        · refine nw_aload_n C 0 dX1_hopes_41 rfl 42 rfl ?_
          refine nw_iload C 4 dX1_hopes_42 rfl 44 rfl ?_
          refine nw_iload_n C 1 dX1_hopes_44 rfl 45 rfl ?_
          refine nw_callV C (mX1_isWatched _ C.hfl d ro ad x σ sm i t H2 hB hW ok (by omega) (by omega)) kX1_isWatched q412 (hx.is C (ci := 0) rfl) (As := [.int (nI i), .int (nI t)]) (rest := []) rfl rfl ⟨⟨Nat.le_of_ble_eq_true rfl, Nat.le_of_ble_eq_true rfl⟩, Nat.le_of_ble_eq_true rfl, Nat.le_of_ble_eq_true rfl⟩ (Nat.le_of_ble_eq_true rfl) (fun _ h8 h9 => absurd h9 (Nat.not_le.mpr h8)) dX1_hopes_45 48 rfl (nw_rdK ?_) nw_noX
          refine nw_ifeqB C 54 dX1_hopes_48 (by decide) 51 rfl (fun h11 => ?_) (fun h11 => ?_)
          · refine nw_iconst C (nI 0) dX1_hopes_54 (by decide) 55 rfl ?_
            refine nw_istore C [(5, .int (nI 0)), (0, .ref x), (1, .int (nI t)), (2, .int (nI (sp_fog (sg_fo σ) t))), (3, .ref a1), (4, .int (nI i))] dX1_hopes_55 (by decide) rfl 57 rfl ?_
            have lp12 : ∀ (fu : Nat) (H3 : Heap) (j : Nat) (fy : Nat → Int32), (nwExt H H3) → (nwI d a1 1 (gr_n (sg_gr σ)) fy H3) → (j ≤ (sg_gu σ).1) → (∀ k, k ≠ i → fy k = fz k) → (fy i = b2i (sp_any (fun k => sp_sees (sg_gr σ) ((sg_gu σ).2 k) i t true (sp_fog (sg_fo σ) t)) j)) → (sg_gu σ).1 - j < fu → nwV X (nwNew H) (nwQE X (nwZr d (gr_n (sg_gr σ)) (sp_hope σ t) H) nwNo (nwNew H) 1 64) 6 H3 1 64 57 [(0, .ref x), (1, .int (nI t)), (2, .int (nI (sp_fog (sg_fo σ) t))), (3, .ref a1), (4, .int (nI i)), (5, .int (nI j))] [] := by
              intro fu
              induction fu with
              | zero => intro H3 j fy _ _ _ _ _ hm; exact absurd hm (Nat.not_lt_zero _)
              | succ fu ih_lp12 =>
                intro H3 j fy hext hcy hj hyk hyi hm
                have hW := hW0.ext hext.2
                have hE := C.E0.ext hext.2
                have hB := Nat.le_trans hB0 hext.1
                obtain ⟨hx, hcG, hcLa, hcFo, hcGu, hcPo, hcIn, hcWi, hcWo, hcKe⟩ := id hW
                obtain ⟨okg, okl, okf, oku, okp, oki, okw, okd, okk, oka⟩ := id ok
                have hn64 : gr_n (sg_gr σ) ≤ 64 := okg.n
                have oku1 := oku.1
                have oki1 := oki.1
                have okp1 := okp.1
                have okw1 := okw.1
                have okl1 := okl.1
                have okf1 := okf.1
                have hfog5 := sp_fog_le okf t
                refine nw_iload C 5 dX1_hopes_57 rfl 59 rfl ?_
                refine nw_aload_n C 0 dX1_hopes_59 rfl 60 rfl ?_
                refine nw_get C hx (T := TX1) rfl in_X1 3 (by decide) q224 (Or.inl rfl) rfl dX1_hopes_60 63 rfl ?_
                refine nw_callV C (mJ3_size _ C.hfl d (ad 3) ((sg_gu σ).1) (fun k => ad (300 + k)) (fun q => ro q = 2004) H3 hB hcGu.1) kJ3_size q346 (hcGu.1.is C) (As := []) (rest := [.int (nI j)]) rfl rfl ⟨⟨Nat.le_of_ble_eq_true rfl, Nat.le_of_ble_eq_true rfl⟩, Nat.le_of_ble_eq_true rfl, Nat.le_of_ble_eq_true rfl⟩ (Nat.le_of_ble_eq_true rfl) (fun _ h8 h9 => absurd h9 (Nat.not_le.mpr h8)) dX1_hopes_63 66 rfl (nw_rdK ?_) nw_noX
                refine nw_icmpgeN C (by omega) 120 dX1_hopes_66 (by decide) 69 rfl (fun h13 => ?_) (fun h13 => ?_)
                · have hhv := sp_hope_no (s := σ) (t := t) (c := i) h10 h11
                  refine nw_iincN C 4 (c0 := 1) [(4, .int (nI (i + 1))), (0, .ref x), (1, .int (nI t)), (2, .int (nI (sp_fog (sg_fo σ) t))), (3, .ref a1), (5, .int (nI j))] dX1_hopes_120 rfl (by decide) rfl 123 rfl ?_
                  refine nw_goto C 16 dX1_hopes_123 (by decide) ?_
                  exact nw_wide (by omega) (by omega) (nw_sub [1, 2, 3, 4, 0] rfl (ih_lp8 H3 (i + 1) fy hext hcy (by omega) (nw_hfz (fun k hk => (hyk k (by omega)).trans (hfz k hk)) (by rw [hyi, show j = (sg_gu σ).1 by omega]; rw [hhv])) (fun k hk => (hyk k (by omega)).trans (hfy k (by omega))) (by omega)))
                · refine nw_aload_n C 3 dX1_hopes_69 rfl 70 rfl ?_
                  refine nw_iload C 4 dX1_hopes_70 rfl 72 rfl ?_
                  refine nw_dup2 C dX1_hopes_72 rfl rfl 73 rfl ?_
                  refine nw_zaldN C (b2i (sp_any (fun k => sp_sees (sg_gr σ) ((sg_gu σ).2 k) i t true (sp_fog (sg_fo σ) t)) j)) hcy (by omega) hyi dX1_hopes_73 74 rfl ?_
                  refine nw_aload_n C 0 dX1_hopes_74 rfl 75 rfl ?_
                  refine nw_aload_n C 0 dX1_hopes_75 rfl 76 rfl ?_
                  refine nw_get C hx (T := TX1) rfl in_X1 3 (by decide) q224 (Or.inl rfl) rfl dX1_hopes_76 79 rfl ?_
                  refine nw_iload C 5 dX1_hopes_79 rfl 81 rfl ?_
                  refine nw_callV C (mJ3_get _ C.hfl d (ad 3) ((sg_gu σ).1) (fun k => ad (300 + k)) (fun q => ro q = 2004) j H3 hB hcGu.1 (by omega)) kJ3_get q350 (hcGu.1.is C) (As := [.int (nI j)]) (rest := [.ref x, .int (b2i (sp_any (fun k => sp_sees (sg_gr σ) ((sg_gu σ).2 k) i t true (sp_fog (sg_fo σ) t)) j)), .int (nI i), .ref a1]) rfl rfl ⟨⟨Nat.le_of_ble_eq_true rfl, Nat.le_of_ble_eq_true rfl⟩, Nat.le_of_ble_eq_true rfl, Nat.le_of_ble_eq_true rfl⟩ (Nat.le_of_ble_eq_true rfl) (fun _ h8 h9 => absurd h9 (Nat.not_le.mpr h8)) dX1_hopes_81 84 rfl (nw_rdK ?_) nw_noX
                  have hg14 : nwGd d (ad (300 + j)) (ad (400 + j)) (fun q => ro q = 2401 + j) ((sg_gu σ).2 j) H3 := hcGu.2 j (by omega)
                  have hk15 : okGd (sg_gr σ) ((sg_gu σ).2 j) := oku.2 j (by omega)
                  have hg16 : nwO d (ad (300 + j)) 4 [.int (nI (gd_a ((sg_gu σ).2 j))), .int (nI (gd_b ((sg_gu σ).2 j))), .int (nI (gd_s ((sg_gu σ).2 j))), .ref (ad (400 + j)), .int (nI (gd_k ((sg_gu σ).2 j))), .int (gd_h ((sg_gu σ).2 j))] H3 := hg14.1
                  refine nw_cast C (ci := 4) rfl (hg16.is C (ci := 4) rfl) q369 dX1_hopes_84 87 rfl ?_
                  refine nw_aload_n C 0 dX1_hopes_87 rfl 88 rfl ?_
                  refine nw_aload_n C 0 dX1_hopes_88 rfl 89 rfl ?_
                  refine nw_get C hx (T := TX1) rfl in_X1 3 (by decide) q224 (Or.inl rfl) rfl dX1_hopes_89 92 rfl ?_
                  refine nw_iload C 5 dX1_hopes_92 rfl 94 rfl ?_
                  refine nw_callV C (mJ3_get _ C.hfl d (ad 3) ((sg_gu σ).1) (fun k => ad (300 + k)) (fun q => ro q = 2004) j H3 hB hcGu.1 (by omega)) kJ3_get q350 (hcGu.1.is C) (As := [.int (nI j)]) (rest := [.ref x, .ref (ad (300 + j)), .ref x, .int (b2i (sp_any (fun k => sp_sees (sg_gr σ) ((sg_gu σ).2 k) i t true (sp_fog (sg_fo σ) t)) j)), .int (nI i), .ref a1]) rfl rfl ⟨⟨Nat.le_of_ble_eq_true rfl, Nat.le_of_ble_eq_true rfl⟩, Nat.le_of_ble_eq_true rfl, Nat.le_of_ble_eq_true rfl⟩ (Nat.le_of_ble_eq_true rfl) (fun _ h8 h9 => absurd h9 (Nat.not_le.mpr h8)) dX1_hopes_94 97 rfl (nw_rdK ?_) nw_noX
                  refine nw_cast C (ci := 4) rfl (hg16.is C (ci := 4) rfl) q369 dX1_hopes_97 100 rfl ?_
                  refine nw_iload C 4 dX1_hopes_100 rfl 102 rfl ?_
                  refine nw_iload_n C 1 dX1_hopes_102 rfl 103 rfl ?_
                  refine nw_callV C (mX1_view _ C.hfl d ro ad x σ sm (ad (300 + j)) (ad (400 + j)) (fun q => ro q = 2401 + j) ((sg_gu σ).2 j) i t H3 hB hW ok hg14 hk15 (by omega) (by omega)) kX1_view q425 (hx.is C (ci := 0) rfl) (As := [.ref (ad (300 + j)), .int (nI i), .int (nI t)]) (rest := [.ref (ad (300 + j)), .ref x, .int (b2i (sp_any (fun k => sp_sees (sg_gr σ) ((sg_gu σ).2 k) i t true (sp_fog (sg_fo σ) t)) j)), .int (nI i), .ref a1]) rfl rfl ⟨⟨Nat.le_of_ble_eq_true rfl, Nat.le_of_ble_eq_true rfl⟩, Nat.le_of_ble_eq_true rfl, Nat.le_of_ble_eq_true rfl⟩ (Nat.le_of_ble_eq_true rfl) (fun _ h8 h9 => absurd h9 (Nat.not_le.mpr h8)) dX1_hopes_103 106 rfl (nw_rdK ?_) nw_noX
                  refine nw_iload_n C 1 dX1_hopes_106 rfl 107 rfl ?_
                  refine nw_iconst C (nI 1) dX1_hopes_107 (by decide) 108 rfl ?_
                  refine nw_iload_n C 2 dX1_hopes_108 rfl 109 rfl ?_
                  refine nw_callV C (mX1_sees _ C.hfl d ro ad x σ sm (ad (300 + j)) (ad (400 + j)) (fun q => ro q = 2401 + j) ((sg_gu σ).2 j) (sp_view (sg_gr σ) ((sg_gu σ).2 j) i t) t true (sp_fog (sg_fo σ) t) H3 hB hW ok hg14 hk15 (sp_view_lt hgro hk15 (show i < _ by omega)) (by omega) (by omega)) kX1_sees q485 (hx.is C (ci := 0) rfl) (As := [.ref (ad (300 + j)), .int (oI (sp_view (sg_gr σ) ((sg_gu σ).2 j) i t)), .int (nI t), .int (b2i true), .int (nI (sp_fog (sg_fo σ) t))]) (rest := [.int (b2i (sp_any (fun k => sp_sees (sg_gr σ) ((sg_gu σ).2 k) i t true (sp_fog (sg_fo σ) t)) j)), .int (nI i), .ref a1]) rfl rfl ⟨⟨Nat.le_of_ble_eq_true rfl, Nat.le_of_ble_eq_true rfl⟩, Nat.le_of_ble_eq_true rfl, Nat.le_of_ble_eq_true rfl⟩ (Nat.le_of_ble_eq_true rfl) (fun _ h8 h9 => absurd h9 (Nat.not_le.mpr h8)) dX1_hopes_109 112 rfl (nw_rdK ?_) nw_noX
                  refine nw_ior C (b2i ((sp_any (fun k => sp_sees (sg_gr σ) ((sg_gu σ).2 k) i t true (sp_fog (sg_fo σ) t)) j) || (sp_near (sp_view (sg_gr σ) ((sg_gu σ).2 j) i t) ((sg_gu σ).2 j) t true (sp_fog (sg_fo σ) t)))) dX1_hopes_112 (nw_orB _ _) 113 rfl ?_
                  refine nw_zastN C (b := (sp_any (fun k => sp_sees (sg_gr σ) ((sg_gu σ).2 k) i t true (sp_fog (sg_fo σ) t)) j) || (sp_near (sp_view (sg_gr σ) ((sg_gu σ).2 j) i t) ((sg_gu σ).2 j) t true (sp_fog (sg_fo σ) t))) hcy hn7 (by omega) dX1_hopes_113 114 rfl (fun H17 ho18 hz19 hq20 => ?_)
                  have hext := hext.put hz19 hq20 hn7
                  have hW := hW0.ext hext.2
                  have hE := C.E0.ext hext.2
                  have hB := Nat.le_trans hB0 hext.1
                  obtain ⟨hx, hcG, hcLa, hcFo, hcGu, hcPo, hcIn, hcWi, hcWo, hcKe⟩ := id hW
                  obtain ⟨okg, okl, okf, oku, okp, oki, okw, okd, okk, oka⟩ := id ok
                  have hn64 : gr_n (sg_gr σ) ≤ 64 := okg.n
                  have oku1 := oku.1
                  have oki1 := oki.1
                  have okp1 := okp.1
                  have okw1 := okw.1
                  have okl1 := okl.1
                  have okf1 := okf.1
                  have hfog5 := sp_fog_le okf t
                  refine nw_iincN C 5 (c0 := 1) [(5, .int (nI (j + 1))), (0, .ref x), (1, .int (nI t)), (2, .int (nI (sp_fog (sg_fo σ) t))), (3, .ref a1), (4, .int (nI i))] dX1_hopes_114 rfl (by decide) rfl 117 rfl ?_
                  refine nw_goto C 57 dX1_hopes_117 (by decide) ?_
                  exact nw_wide (by omega) (by omega) (nw_sub [1, 2, 3, 4, 5, 0] rfl (ih_lp12 H17 (j + 1) (upd fy i (b2i ((sp_any (fun k => sp_sees (sg_gr σ) ((sg_gu σ).2 k) i t true (sp_fog (sg_fo σ) t)) j) || (sp_near (sp_view (sg_gr σ) ((sg_gu σ).2 j) i t) ((sg_gu σ).2 j) t true (sp_fog (sg_fo σ) t))))) hext ho18 (by omega) (fun k hk => by unfold upd; rw [if_neg hk]; exact hyk k hk) (by unfold upd; rw [if_pos rfl]; rfl) (by omega)))
            exact nw_wide (by omega) (by omega) (nw_sub [1, 2, 3, 4, 5, 0] rfl (lp12 _ H2 0 fz hext hcz (Nat.zero_le _) (fun _ _ => rfl) (hfy i (Nat.le_refl _)) (Nat.lt_succ_self _)))
          · refine nw_goto C 120 dX1_hopes_51 (by decide) ?_
            refine nw_iincN C 4 (c0 := 1) [(4, .int (nI (i + 1))), (0, .ref x), (1, .int (nI t)), (2, .int (nI (sp_fog (sg_fo σ) t))), (3, .ref a1)] dX1_hopes_120 rfl (by decide) rfl 123 rfl ?_
            refine nw_goto C 16 dX1_hopes_123 (by decide) ?_
            exact nw_wide (by omega) (by omega) (nw_sub [1, 2, 3, 4, 0] rfl (ih_lp8 H2 (i + 1) fz hext hcz (by omega) (nw_hfz hfz (by rw [hfy i (Nat.le_refl _), sp_hope_seen h11]; rfl)) (fun k hk => hfy k (by omega)) (by omega)))
  exact nw_wide (by omega) (by omega) (nw_sub [3, 4, 2, 1, 0] rfl (lp8 _ H2 0 (fun _ => 0) hext ho4 (Nat.zero_le _) (fun k hk => absurd hk (Nat.not_lt_zero k)) (fun k _ => rfl) (Nat.lt_succ_self _)))
set_option maxHeartbeats 4000000 in
theorem mX1_gain (l : Launch) (hf : l.flags = flags0) (d : nwD) (ro ad : Nat → Nat) (x : Nat) (σ : spSg) (sm : Int64) (lp ha : Nat) (lm : Nat × Nat × Bool) (f : Nat → Bool) (H : Heap) (hB : nd_B d ≤ H.size) (hW : nwWC d ro ad x σ sm H) (ok : spOk σ) (hl : nwO d lp 2 [.int (nI lm.1), .int (nI lm.2.1), .int (b2i lm.2.2)] H) (hh : nwI d ha 1 (gr_n (sg_gr σ)) (fun k => b2i (f k)) H) (hlc : lm.1 < gr_n (sg_gr σ)) (hlr : lm.2.1 < 2 ^ 31) : nwRd l d yX1_gain cX1_gain 5 (some .int) 5 111 [.ref x, .ref lp, .ref ha] H (some (.int (nI (sp_cnt (fun k => f k && sp_lights (sg_gr σ) lm k) (gr_n (sg_gr σ)))))) := by
  refine nw_rd "NightwatchWall" "gain" hf (by decide +kernel) rfl rfl hB (Nat.le_of_ble_eq_true rfl) ?_
  intro X C
  obtain ⟨hx, hcG, hcLa, hcFo, hcGu, hcPo, hcIn, hcWi, hcWo, hcKe⟩ := id hW
  obtain ⟨okg, okl, okf, oku, okp, oki, okw, okd, okk, oka⟩ := id ok
  have hn64 : gr_n (sg_gr σ) ≤ 64 := okg.n
  have hE := C.E0
  show nwV X _ _ 5 H 0 0 0 [(0, .ref x), (1, .ref lp), (2, .ref ha)] []
  refine nw_iconst C (nI 0) dX1_gain_0 (by decide) 1 rfl ?_
  refine nw_istore_n C [(3, .int (nI 0)), (0, .ref x), (1, .ref lp), (2, .ref ha)] dX1_gain_1 (by decide) rfl 2 rfl ?_
  refine nw_iconst C (nI 0) dX1_gain_2 (by decide) 3 rfl ?_
  refine nw_istore C [(4, .int (nI 0)), (3, .int (nI 0)), (0, .ref x), (1, .ref lp), (2, .ref ha)] dX1_gain_3 (by decide) rfl 5 rfl ?_
  have lp1 : ∀ (fu : Nat) (i : Nat) (m : Nat), (i ≤ gr_n (sg_gr σ)) → (m = sp_cnt (fun k => f k && sp_lights (sg_gr σ) lm k) i) → gr_n (sg_gr σ) - i < fu → nwV X (nwNew H) (nwQE X (fun v H1 => v = some (.int (nI (sp_cnt (fun k => f k && sp_lights (sg_gr σ) lm k) (gr_n (sg_gr σ))))) ∧ H1 = H) nwNo (nwNew H) 0 0) 5 H 0 0 5 [(0, .ref x), (1, .ref lp), (2, .ref ha), (3, .int (nI m)), (4, .int (nI i))] [] := by
    intro fu
    induction fu with
    | zero => intro i m _ _ hm; exact absurd hm (Nat.not_lt_zero _)
    | succ fu ih_lp1 =>
      intro i m hi hmm hm
      refine nw_iload C 4 dX1_gain_5 rfl 7 rfl ?_
      refine nw_aload_n C 2 dX1_gain_7 rfl 8 rfl ?_
      refine nw_alenI C hh (by decide) dX1_gain_8 9 rfl ?_
      refine nw_icmpgeN C (by omega) 52 dX1_gain_9 (by decide) 12 rfl (fun h2 => ?_) (fun h2 => ?_)
      · refine nw_iload_n C 3 dX1_gain_52 rfl 53 rfl ?_
        exact nw_iret C dX1_gain_53 (Nat.le_refl _) (Nat.le_refl _) ⟨congrArg (fun z => some (Value.int (nI z))) (show (m) = (sp_cnt (fun k => f k && sp_lights (sg_gr σ) lm k) (gr_n (sg_gr σ))) from (by rw [hmm, show i = gr_n (sg_gr σ) by omega])), rfl⟩
      · refine nw_iload_n C 3 dX1_gain_12 rfl 13 rfl ?_
        refine nw_aload_n C 2 dX1_gain_13 rfl 14 rfl ?_
        refine nw_iload C 4 dX1_gain_14 rfl 16 rfl ?_
        refine nw_zaldN C (b2i (f i)) hh (by omega) rfl dX1_gain_16 17 rfl ?_
        refine nw_ifeqB C 43 dX1_gain_17 (by decide) 20 rfl (fun h3 => ?_) (fun h3 => ?_)
        · refine nw_iconst C (nI 0) dX1_gain_43 (by decide) 44 rfl ?_
          refine nw_iaddN C dX1_gain_44 45 rfl ?_
          refine nw_istore_n C [(3, .int (nI (m + 0))), (0, .ref x), (1, .ref lp), (2, .ref ha), (4, .int (nI i))] dX1_gain_45 (by decide) rfl 46 rfl ?_
          refine nw_iincN C 4 (c0 := 1) [(4, .int (nI (i + 1))), (3, .int (nI (m + 0))), (0, .ref x), (1, .ref lp), (2, .ref ha)] dX1_gain_46 rfl (by decide) rfl 49 rfl ?_
          refine nw_goto C 5 dX1_gain_49 (by decide) ?_
          exact (nw_sub [2, 3, 4, 1, 0] rfl (ih_lp1 (i + 1) m (by omega) (by rw [sp_cnt_f (p := (fun k => f k && sp_lights (sg_gr σ) lm k)) (n := i) (by simp [h3])]; omega) (by omega)))
        · obtain ⟨hgr4o, hgr4l, hgr4g⟩ := hcG.here (by omega)
          refine nw_aload_n C 1 dX1_gain_20 rfl 21 rfl ?_
          refine nw_aload_n C 0 dX1_gain_21 rfl 22 rfl ?_
          refine nw_get C hx (T := TX1) rfl in_X1 0 (by decide) q221 (Or.inl rfl) rfl dX1_gain_22 25 rfl ?_
          refine nw_callV C (mJ0_get _ C.hfl d (ad 0) (ad 9) H hB hgr4l) kJ0_get q280 (hgr4l.is C (ci := 15) rfl) (As := []) (rest := [.ref lp, .int (nI m)]) rfl rfl ⟨⟨Nat.le_of_ble_eq_true rfl, Nat.le_of_ble_eq_true rfl⟩, Nat.le_of_ble_eq_true rfl, Nat.le_of_ble_eq_true rfl⟩ (Nat.le_of_ble_eq_true rfl) (fun _ h8 h9 => absurd h9 (Nat.not_le.mpr h8)) dX1_gain_25 28 rfl (nw_rdK ?_) nw_noX
          refine nw_cast C (ci := 1) rfl (hgr4g.1.is C (ci := 1) rfl) q284 dX1_gain_28 31 rfl ?_
          refine nw_iload C 4 dX1_gain_31 rfl 33 rfl ?_
          refine nw_callV C (mX8_lights _ C.hfl d lp (ad 9) (ad 10) (sg_gr σ) lm i H hB hl hgr4g hgr4o hlc hlr (by omega)) kX8_lights q501 (hl.is C (ci := 2) rfl) (As := [.ref (ad 9), .int (nI i)]) (rest := [.int (nI m)]) rfl rfl ⟨⟨Nat.le_of_ble_eq_true rfl, Nat.le_of_ble_eq_true rfl⟩, Nat.le_of_ble_eq_true rfl, Nat.le_of_ble_eq_true rfl⟩ (Nat.le_of_ble_eq_true rfl) (fun _ h8 h9 => absurd h9 (Nat.not_le.mpr h8)) dX1_gain_33 36 rfl (nw_rdK ?_) nw_noX
          refine nw_ifeqB C 43 dX1_gain_36 (by decide) 39 rfl (fun h5 => ?_) (fun h5 => ?_)
          · refine nw_iconst C (nI 0) dX1_gain_43 (by decide) 44 rfl ?_
            refine nw_iaddN C dX1_gain_44 45 rfl ?_
            refine nw_istore_n C [(3, .int (nI (m + 0))), (0, .ref x), (1, .ref lp), (2, .ref ha), (4, .int (nI i))] dX1_gain_45 (by decide) rfl 46 rfl ?_
            refine nw_iincN C 4 (c0 := 1) [(4, .int (nI (i + 1))), (3, .int (nI (m + 0))), (0, .ref x), (1, .ref lp), (2, .ref ha)] dX1_gain_46 rfl (by decide) rfl 49 rfl ?_
            refine nw_goto C 5 dX1_gain_49 (by decide) ?_
            exact (nw_sub [2, 3, 4, 1, 0] rfl (ih_lp1 (i + 1) m (by omega) (by rw [sp_cnt_f (p := (fun k => f k && sp_lights (sg_gr σ) lm k)) (n := i) (by simp [h3, h5])]; omega) (by omega)))
          · refine nw_iconst C (nI 1) dX1_gain_39 (by decide) 40 rfl ?_
            refine nw_goto C 44 dX1_gain_40 (by decide) ?_
            refine nw_iaddN C dX1_gain_44 45 rfl ?_
            refine nw_istore_n C [(3, .int (nI (m + 1))), (0, .ref x), (1, .ref lp), (2, .ref ha), (4, .int (nI i))] dX1_gain_45 (by decide) rfl 46 rfl ?_
            refine nw_iincN C 4 (c0 := 1) [(4, .int (nI (i + 1))), (3, .int (nI (m + 1))), (0, .ref x), (1, .ref lp), (2, .ref ha)] dX1_gain_46 rfl (by decide) rfl 49 rfl ?_
            refine nw_goto C 5 dX1_gain_49 (by decide) ?_
            exact (nw_sub [2, 3, 4, 1, 0] rfl (ih_lp1 (i + 1) (m + 1) (by omega) (by rw [sp_cnt_t (p := (fun k => f k && sp_lights (sg_gr σ) lm k)) (n := i) (by simp [h3, h5])]; omega) (by omega)))
  exact (nw_sub [2, 3, 4, 1, 0] rfl (lp1 _ 0 0 (Nat.zero_le _) rfl (Nat.lt_succ_self _)))
set_option maxHeartbeats 4000000 in
theorem mX1_nextLamp (l : Launch) (hf : l.flags = flags0) (d : nwD) (ro ad : Nat → Nat) (x : Nat) (σ : spSg) (sm : Int64) (t : Int32) (r : Int32) (b : Bool) (H : Heap) (hB : nd_B d ≤ H.size) (hW : nwWC d ro ad x σ sm H) (ok : spOk σ)  : nwMt l d yX1_nextLamp cX1_nextLamp 9 (some .int) 9 207 66 262 [.ref x, .int t, .int r, .int (b2i b)] H (nwRv (op_nextLamp σ t r b) H) (nwRx (op_nextLamp σ t r b) [cIA] H) (nwNew H) := by
  refine nw_start "NightwatchWall" "nextLamp" hf (by decide +kernel) rfl rfl (fun _ h => h) (fun q h => Nat.le_trans hB h) (Nat.le_of_ble_eq_true rfl) ?_
  intro X C
  have hW0 := hW
  have hB0 := hB
  have hE := C.E0
  have hext : nwExt H H := nwExt.rfl
  obtain ⟨hx, hcG, hcLa, hcFo, hcGu, hcPo, hcIn, hcWi, hcWo, hcKe⟩ := id hW
  obtain ⟨okg, okl, okf, oku, okp, oki, okw, okd, okk, oka⟩ := id ok
  have hn64 : gr_n (sg_gr σ) ≤ 64 := okg.n
  have oku1 := oku.1
  have oki1 := oki.1
  have okp1 := okp.1
  have okw1 := okw.1
  have okl1 := okl.1
  have okf1 := okf.1
  show nwV X _ _ 9 H 0 0 0 [(0, .ref x), (1, .int t), (2, .int r), (3, .int (b2i b))] []
  refine nw_iload_n C 1 dX1_nextLamp_0 rfl 1 rfl ?_
  refine nw_callS C (mX1_isMinute _ C.hfl d t H hB) kX1_isMinute q861 (As := [.int t]) (rest := []) rfl rfl ⟨⟨Nat.le_of_ble_eq_true rfl, Nat.le_of_ble_eq_true rfl⟩, Nat.le_of_ble_eq_true rfl, Nat.le_of_ble_eq_true rfl⟩ (Nat.le_of_ble_eq_true rfl) (fun _ h8 h9 => absurd h9 (Nat.not_le.mpr h8)) dX1_nextLamp_1 4 rfl (nw_rdK ?_) nw_noX
  refine nw_ifeqB C 20 dX1_nextLamp_4 (by decide) 7 rfl (fun h1 => ?_) (fun h1 => ?_)
  · refine nw_iconst C (nI 0) dX1_nextLamp_20 (by decide) 21 rfl ?_
    refine nw_callS C (mX1_require _ C.hfl d false H hB) kX1_require q655 (As := [.int (b2i false)]) (rest := []) rfl rfl ⟨⟨Nat.le_of_ble_eq_true rfl, Nat.le_of_ble_eq_true rfl⟩, (show 0 + 1 ≤ 66 by omega), (show 0 + 6 ≤ 262 by omega)⟩ (Nat.le_of_ble_eq_true rfl) (fun _ h8 h9 => absurd h9 (Nat.not_le.mpr h8)) dX1_nextLamp_21 24 rfl ?_ ?_
    rotate_left
    · intro E9 w9 H2 hR3 hz4 hq5
      obtain ⟨rfl, hb6, hx7⟩ := hR3
      exact nw_out C (show (0 + 1) ≤ 66 by omega) (show (0 + 6) ≤ 262 by omega) ⟨⟨0, by simp [op_nextLamp, h1, hb6], rfl⟩, hext.trans hx7⟩
    intro v9 H2 hR3 hz4 hq5
    obtain ⟨rfl, hb8, rfl⟩ := hR3
    cases hb8
  · obtain ⟨tn, hk9, rfl⟩ := nw_rg_nat (by decide) (by decide) h1
    have en_tn : nw_nn (nI tn) = tn := nw_nn_nI (by omega)
    refine nw_iconst C (nI 1) dX1_nextLamp_7 (by decide) 8 rfl ?_
    refine nw_iconst C (nI 4) dX1_nextLamp_8 (by decide) 9 rfl ?_
    refine nw_iload_n C 2 dX1_nextLamp_9 rfl 10 rfl ?_
    refine nw_callS C (mX1_isFromR _ C.hfl d (nI 1) (nI 4) r H hB) kX1_isFrom q579 (As := [.int (nI 1), .int (nI 4), .int r]) (rest := []) rfl rfl ⟨⟨Nat.le_of_ble_eq_true rfl, Nat.le_of_ble_eq_true rfl⟩, Nat.le_of_ble_eq_true rfl, Nat.le_of_ble_eq_true rfl⟩ (Nat.le_of_ble_eq_true rfl) (fun _ h8 h9 => absurd h9 (Nat.not_le.mpr h8)) dX1_nextLamp_10 13 rfl (nw_rdK ?_) nw_noX
    show nwV X _ _ 9 H 0 0 13 [(0, .ref x), (1, .int (nI tn)), (2, .int r), (3, .int (b2i b))] [.int (b2i (nw_rg 1 4 r))]
    refine nw_ifeqB C 20 dX1_nextLamp_13 (by decide) 16 rfl (fun h10 => ?_) (fun h10 => ?_)
    · refine nw_iconst C (nI 0) dX1_nextLamp_20 (by decide) 21 rfl ?_
      refine nw_callS C (mX1_require _ C.hfl d false H hB) kX1_require q655 (As := [.int (b2i false)]) (rest := []) rfl rfl ⟨⟨Nat.le_of_ble_eq_true rfl, Nat.le_of_ble_eq_true rfl⟩, (show 0 + 1 ≤ 66 by omega), (show 0 + 6 ≤ 262 by omega)⟩ (Nat.le_of_ble_eq_true rfl) (fun _ h8 h9 => absurd h9 (Nat.not_le.mpr h8)) dX1_nextLamp_21 24 rfl ?_ ?_
      rotate_left
      · intro E9 w9 H11 hR12 hz13 hq14
        obtain ⟨rfl, hb15, hx16⟩ := hR12
        exact nw_out C (show (0 + 1) ≤ 66 by omega) (show (0 + 6) ≤ 262 by omega) ⟨⟨0, by simp [op_nextLamp, h1, h10, en_tn, hb15], rfl⟩, hext.trans hx16⟩
      intro v9 H11 hR12 hz13 hq14
      obtain ⟨rfl, hb17, rfl⟩ := hR12
      cases hb17
    · obtain ⟨rn, hk18, rfl⟩ := nw_rg_nat (by decide) (by decide) h10
      have en_rn : nw_nn (nI rn) = rn := nw_nn_nI (by omega)
      refine nw_iconst C (nI 1) dX1_nextLamp_16 (by decide) 17 rfl ?_
      refine nw_goto C 21 dX1_nextLamp_17 (by decide) ?_
      refine nw_callS C (mX1_requireT _ C.hfl d H hB) kX1_require q655 (As := [.int (b2i true)]) (rest := []) rfl rfl ⟨⟨Nat.le_of_ble_eq_true rfl, Nat.le_of_ble_eq_true rfl⟩, Nat.le_of_ble_eq_true rfl, Nat.le_of_ble_eq_true rfl⟩ (Nat.le_of_ble_eq_true rfl) (fun _ h8 h9 => absurd h9 (Nat.not_le.mpr h8)) dX1_nextLamp_21 24 rfl (nw_rdK ?_) nw_noX
      refine nw_aload_n C 0 dX1_nextLamp_24 rfl 25 rfl ?_
      refine nw_iload_n C 1 dX1_nextLamp_25 rfl 26 rfl ?_
      refine nw_callV C (mX1_hopes _ C.hfl d ro ad x σ sm tn H hB hW ok (by omega)) kX1_hopes q1301 (hx.is C (ci := 0) rfl) (As := [.int (nI tn)]) (rest := []) rfl rfl ⟨⟨Nat.le_of_ble_eq_true rfl, Nat.le_of_ble_eq_true rfl⟩, (show 0 + 1 ≤ 66 by omega), (show 0 + 64 ≤ 262 by omega)⟩ (Nat.le_of_ble_eq_true rfl) (fun _ h8 h9 => absurd h9 (Nat.not_le.mpr h8)) dX1_nextLamp_26 29 rfl (fun v9 H19 hR20 hz21 hq22 => ?_) nw_noX
      obtain ⟨⟨ar23, rfl, hn24, hi25⟩, -⟩ := hR20
      have hn26 : H.size ≤ ar23 := (Nat.le_trans hext.1 hn24)
      have hext := hext.call hz21 hq22
      have hW := hW0.ext hext.2
      have hE := C.E0.ext hext.2
      have hB := Nat.le_trans hB0 hext.1
      obtain ⟨hx, hcG, hcLa, hcFo, hcGu, hcPo, hcIn, hcWi, hcWo, hcKe⟩ := id hW
      obtain ⟨okg, okl, okf, oku, okp, oki, okw, okd, okk, oka⟩ := id ok
      have hn64 : gr_n (sg_gr σ) ≤ 64 := okg.n
      have oku1 := oku.1
      have oki1 := oki.1
      have okp1 := okp.1
      have okw1 := okw.1
      have okl1 := okl.1
      have okf1 := okf.1
      show nwV X _ _ 9 H19 (0 + 1) (0 + 64) 29 [(0, .ref x), (1, .int (nI tn)), (2, .int (nI rn)), (3, .int (b2i b))] [.ref ar23]
      refine nw_wide (k' := 1) (n' := 64) (by omega) (by omega) ?_
      refine nw_astore C [(4, .ref ar23), (0, .ref x), (1, .int (nI tn)), (2, .int (nI rn)), (3, .int (b2i b))] dX1_nextLamp_29 (by decide) rfl 31 rfl ?_
      refine nw_iconst C (oI none) dX1_nextLamp_31 (by decide) 32 rfl ?_
      refine nw_istore C [(5, .int (oI none)), (4, .ref ar23), (0, .ref x), (1, .int (nI tn)), (2, .int (nI rn)), (3, .int (b2i b))] dX1_nextLamp_32 (by decide) rfl 34 rfl ?_
      refine nw_iconst C (oI none) dX1_nextLamp_34 (by decide) 35 rfl ?_
      refine nw_istore C [(6, .int (oI none)), (5, .int (oI none)), (4, .ref ar23), (0, .ref x), (1, .int (nI tn)), (2, .int (nI rn)), (3, .int (b2i b))] dX1_nextLamp_35 (by decide) rfl 37 rfl ?_
      refine nw_iconst C (nI 0) dX1_nextLamp_37 (by decide) 38 rfl ?_
      refine nw_istore C [(7, .int (nI 0)), (6, .int (oI none)), (5, .int (oI none)), (4, .ref ar23), (0, .ref x), (1, .int (nI tn)), (2, .int (nI rn)), (3, .int (b2i b))] dX1_nextLamp_38 (by decide) rfl 40 rfl ?_
      have lp27 : ∀ (fu : Nat) (H2 : Heap) (i : Nat) (o1 : Option Nat) (o2 : Option Nat), (nwExt H H2) → (nwI d ar23 1 (gr_n (sg_gr σ)) (fun k => b2i ((sp_hope σ tn) k)) H2) → (i ≤ gr_n (sg_gr σ)) → (o1 = (sp_lamps σ tn rn i).1) → (o2 = (sp_lamps σ tn rn i).2) → (∀ v, o2 = some v → v ≤ gr_n (sg_gr σ)) → gr_n (sg_gr σ) - i < fu → nwV X (nwNew H) (nwQE X (nwRv (op_nextLamp σ (nI tn) (nI rn) b) H) (nwRx (op_nextLamp σ (nI tn) (nI rn) b) [cIA] H) (nwNew H) 66 262) 9 H2 (2 + i) (70 + 3 * i) 40 [(0, .ref x), (1, .int (nI tn)), (2, .int (nI rn)), (3, .int (b2i b)), (4, .ref ar23), (5, .int (oI o1)), (6, .int (oI o2)), (7, .int (nI i))] [] := by
        intro fu
        induction fu with
        | zero => intro H2 i o1 o2 _ _ _ _ _ _ hm; exact absurd hm (Nat.not_lt_zero _)
        | succ fu ih_lp27 =>
          intro H2 i o1 o2 hext hch hi ho1 ho2 hob2 hm
          have hW := hW0.ext hext.2
          have hE := C.E0.ext hext.2
          have hB := Nat.le_trans hB0 hext.1
          obtain ⟨hx, hcG, hcLa, hcFo, hcGu, hcPo, hcIn, hcWi, hcWo, hcKe⟩ := id hW
          obtain ⟨okg, okl, okf, oku, okp, oki, okw, okd, okk, oka⟩ := id ok
          have hn64 : gr_n (sg_gr σ) ≤ 64 := okg.n
          have oku1 := oku.1
          have oki1 := oki.1
          have okp1 := okp.1
          have okw1 := okw.1
          have okl1 := okl.1
          have okf1 := okf.1
          refine nw_iload C 7 dX1_nextLamp_40 rfl 42 rfl ?_
          refine nw_aload C 4 dX1_nextLamp_42 rfl 44 rfl ?_
          refine nw_alenI C hch (by decide) dX1_nextLamp_44 45 rfl ?_
          refine nw_icmpgeN C (by omega) 108 dX1_nextLamp_45 (by decide) 48 rfl (fun h28 => ?_) (fun h28 => ?_)
          · refine nw_iload_n C 3 dX1_nextLamp_108 rfl 109 rfl ?_
            refine nw_ifeqB C 117 dX1_nextLamp_109 (by decide) 112 rfl (fun h29 => ?_) (fun h29 => ?_)
            · refine nw_iload C 6 dX1_nextLamp_117 rfl 119 rfl ?_
              have hz1 : o1 = (sp_lamps σ tn rn (gr_n (sg_gr σ))).1 := by rw [ho1, show i = gr_n (sg_gr σ) by omega]
              have hz2 : o2 = (sp_lamps σ tn rn (gr_n (sg_gr σ))).2 := by rw [ho2, show i = gr_n (sg_gr σ) by omega]
              exact nw_iret C dX1_nextLamp_119 (by omega) (by omega) ⟨⟨by simp [op_nextLamp, en_tn, en_rn, h1, h10], by simp [op_nextLamp, hz1, hz2, en_tn, en_rn, h1, h10, h29]⟩, hext⟩
            · refine nw_iload C 5 dX1_nextLamp_112 rfl 114 rfl ?_
              refine nw_goto C 119 dX1_nextLamp_114 (by decide) ?_
              have hz1 : o1 = (sp_lamps σ tn rn (gr_n (sg_gr σ))).1 := by rw [ho1, show i = gr_n (sg_gr σ) by omega]
              have hz2 : o2 = (sp_lamps σ tn rn (gr_n (sg_gr σ))).2 := by rw [ho2, show i = gr_n (sg_gr σ) by omega]
              exact nw_iret C dX1_nextLamp_119 (by omega) (by omega) ⟨⟨by simp [op_nextLamp, en_tn, en_rn, h1, h10], by simp [op_nextLamp, hz1, hz2, en_tn, en_rn, h1, h10, h29]⟩, hext⟩
          · obtain ⟨hgro, hgrl, hgrg⟩ := hcG.here (show i < _ by omega)
            refine nw_aload_n C 0 dX1_nextLamp_48 rfl 49 rfl ?_
            refine nw_get C hx (T := TX1) rfl in_X1 0 (by decide) q221 (Or.inl rfl) rfl dX1_nextLamp_49 52 rfl ?_
            refine nw_callV C (mJ0_get _ C.hfl d (ad 0) (ad 9) H2 hB hgrl) kJ0_get q280 (hgrl.is C (ci := 15) rfl) (As := []) (rest := []) rfl rfl ⟨⟨Nat.le_of_ble_eq_true rfl, Nat.le_of_ble_eq_true rfl⟩, (show (2 + i) + 0 ≤ 66 by omega), (show (70 + 3 * i) + 0 ≤ 262 by omega)⟩ (Nat.le_of_ble_eq_true rfl) (fun _ h8 h9 => absurd h9 (Nat.not_le.mpr h8)) dX1_nextLamp_52 55 rfl (nw_rdK ?_) nw_noX
            refine nw_cast C (ci := 1) rfl (hgrg.1.is C (ci := 1) rfl) q284 dX1_nextLamp_55 58 rfl ?_
            refine nw_iload C 7 dX1_nextLamp_58 rfl 60 rfl ?_
            refine nw_callV C (mX6_isWall _ C.hfl d (ad 9) (ad 10) (sg_gr σ) i H2 hB hgrg hgro (by omega)) kX6_isWall q289 (hgrg.1.is C (ci := 1) rfl) (As := [.int (nI i)]) (rest := []) rfl rfl ⟨⟨Nat.le_of_ble_eq_true rfl, Nat.le_of_ble_eq_true rfl⟩, (show (2 + i) + 0 ≤ 66 by omega), (show (70 + 3 * i) + 0 ≤ 262 by omega)⟩ (Nat.le_of_ble_eq_true rfl) (fun _ h8 h9 => absurd h9 (Nat.not_le.mpr h8)) dX1_nextLamp_60 63 rfl (nw_rdK ?_) nw_noX
            refine nw_ifeqB C 69 dX1_nextLamp_63 (by decide) 66 rfl (fun h30 => ?_) (fun h30 => ?_)
            · refine nw_aload_n C 0 dX1_nextLamp_69 rfl 70 rfl ?_
              refine nw_new C (ci := 2) (T := TX8) (ty0 := tyX8) [.int (nI 0), .int (nI 0), .int (b2i false)] rfl in_X8 tyX8_ok q345 q871 q110 (fun j hj => by rcases (show j = 0 ∨ j = 1 ∨ j = 2 by omega) with rfl | rfl | rfl <;> rfl) (2 + i + 1) (70 + 3 * i + 3) (by omega) (by omega) ⟨(show (2 + i + 1) ≤ 66 by omega), (show (70 + 3 * i + 3) ≤ 262 by omega)⟩ dX1_nextLamp_70 73 rfl (fun a31 H32 hx33 ho34 hz35 hq36 => ?_)
              have hn37 : H.size ≤ a31 := (by rw [hx33]; exact hext.1)
              have hne38 : ar23 ≠ a31 := (Nat.ne_of_lt (by rw [hx33]; exact hch.lt))
              have ho39 := hch.kept (hq36 _ hch.lt)
              have hext := hext.made hz35 hq36
              have hW := hW0.ext hext.2
              have hE := C.E0.ext hext.2
              have hB := Nat.le_trans hB0 hext.1
              obtain ⟨hx, hcG, hcLa, hcFo, hcGu, hcPo, hcIn, hcWi, hcWo, hcKe⟩ := id hW
              obtain ⟨okg, okl, okf, oku, okp, oki, okw, okd, okk, oka⟩ := id ok
              have hn64 : gr_n (sg_gr σ) ≤ 64 := okg.n
              have oku1 := oku.1
              have oki1 := oki.1
              have okp1 := okp.1
              have okw1 := okw.1
              have okl1 := okl.1
              have okf1 := okf.1
              refine nw_dup C dX1_nextLamp_73 rfl 74 rfl ?_
              refine nw_iload C 7 dX1_nextLamp_74 rfl 76 rfl ?_
              refine nw_iload_n C 2 dX1_nextLamp_76 rfl 77 rfl ?_
              refine nw_callI C (mX8_init _ C.hfl d a31 i rn H32 hB (Nat.le_trans hB0 hn37) ho34 ) kX8_init q872 (As := [.int (nI i), .int (nI rn)]) (rest := [.ref a31, .ref x]) rfl rfl ⟨⟨Nat.le_of_ble_eq_true rfl, Nat.le_of_ble_eq_true rfl⟩, (show (2 + i + 1) + 0 ≤ 66 by omega), (show (70 + 3 * i + 3) + 0 ≤ 262 by omega)⟩ (Nat.le_of_ble_eq_true rfl) (fun q8 h8 h9 => h9.elim (fun e9 => by rw [e9]; exact hn37) (fun e9 => absurd h8 (Nat.not_lt.mpr e9))) dX1_nextLamp_77 80 rfl (fun v9 H40 hR41 hz42 hq43 => ?_) nw_noX
              obtain ⟨rfl, ho44⟩ := hR41
              have ho45 := ho39.kept (hq43 _ ho39.lt (fun e9 => e9.elim hne38 (Nat.not_le.mpr ho39.lt)))
              have hext := hext.step hz42 hq43 (fun q9 e9 => e9.elim (fun e9 => by rw [e9]; exact hn37) (fun e9 => Nat.le_trans hext.1 e9))
              have hW := hW0.ext hext.2
              have hE := C.E0.ext hext.2
              have hB := Nat.le_trans hB0 hext.1
              obtain ⟨hx, hcG, hcLa, hcFo, hcGu, hcPo, hcIn, hcWi, hcWo, hcKe⟩ := id hW
              obtain ⟨okg, okl, okf, oku, okp, oki, okw, okd, okk, oka⟩ := id ok
              have hn64 : gr_n (sg_gr σ) ≤ 64 := okg.n
              have oku1 := oku.1
              have oki1 := oki.1
              have okp1 := okp.1
              have okw1 := okw.1
              have okl1 := okl.1
              have okf1 := okf.1
              show nwV X _ _ 9 H40 ((2 + i + 1) + 0) ((70 + 3 * i + 3) + 0) 80 [(0, .ref x), (1, .int (nI tn)), (2, .int (nI rn)), (3, .int (b2i b)), (4, .ref ar23), (5, .int (oI o1)), (6, .int (oI o2)), (7, .int (nI i))] [.ref a31, .ref x]
              refine nw_wide (k' := 2 + i + 1) (n' := 70 + 3 * i + 3) (by omega) (by omega) ?_
              refine nw_aload C 4 dX1_nextLamp_80 rfl 82 rfl ?_
              refine nw_callV C (mX1_gain _ C.hfl d ro ad x σ sm a31 ar23 (i, rn, true) (sp_hope σ tn) H40 hB hW ok ho44 ho45 (show i < _ by omega) (show rn < 2 ^ 31 by omega)) kX1_gain q1305 (hx.is C (ci := 0) rfl) (As := [.ref a31, .ref ar23]) (rest := []) rfl rfl ⟨⟨Nat.le_of_ble_eq_true rfl, Nat.le_of_ble_eq_true rfl⟩, (show (2 + i + 1) + 0 ≤ 66 by omega), (show (70 + 3 * i + 3) + 0 ≤ 262 by omega)⟩ (Nat.le_of_ble_eq_true rfl) (fun _ h8 h9 => absurd h9 (Nat.not_le.mpr h8)) dX1_nextLamp_82 85 rfl (nw_rdK ?_) nw_noX
              have hgn := sp_gain_le σ tn rn i
              refine nw_istore C [(8, .int (nI (sp_gain σ tn rn i))), (0, .ref x), (1, .int (nI tn)), (2, .int (nI rn)), (3, .int (b2i b)), (4, .ref ar23), (5, .int (oI o1)), (6, .int (oI o2)), (7, .int (nI i))] dX1_nextLamp_85 (by decide) rfl 87 rfl ?_
              rcases o2 with _ | bb
              · show nwV X _ _ 9 H40 (2 + i + 1) (70 + 3 * i + 3) 87 [(8, .int (nI (sp_gain σ tn rn i))), (0, .ref x), (1, .int (nI tn)), (2, .int (nI rn)), (3, .int (b2i b)), (4, .ref ar23), (5, .int (oI o1)), (6, .int (oI none)), (7, .int (nI i))] []
                refine nw_iload C 0 dX1_nextLamp_87 rfl 89 rfl ?_
                refine nw_iload C 7 dX1_nextLamp_89 rfl 91 rfl ?_
                refine nw_icmple C 102 dX1_nextLamp_91 (by decide) 94 rfl (fun h46 => absurd h46 (nw_m1le (by omega))) (fun _ => ?_)
                refine nw_iload C 0 dX1_nextLamp_94 rfl 96 rfl ?_
                refine nw_istore C [(6, .int (nI (sp_gain σ tn rn i))), (8, .int (nI (sp_gain σ tn rn i))), (0, .ref x), (1, .int (nI tn)), (2, .int (nI rn)), (3, .int (b2i b)), (4, .ref ar23), (5, .int (oI o1)), (7, .int (nI i))] dX1_nextLamp_96 (by decide) rfl 98 rfl ?_
                refine nw_iload C 8 dX1_nextLamp_98 rfl 100 rfl ?_
                refine nw_istore C [(5, .int (nI i)), (6, .int (nI (sp_gain σ tn rn i))), (8, .int (nI (sp_gain σ tn rn i))), (0, .ref x), (1, .int (nI tn)), (2, .int (nI rn)), (3, .int (b2i b)), (4, .ref ar23), (7, .int (nI i))] dX1_nextLamp_100 (by decide) rfl 102 rfl ?_
                refine nw_iincN C 8 (c0 := 1) [(7, .int (nI (i + 1))), (5, .int (nI i)), (6, .int (nI (sp_gain σ tn rn i))), (8, .int (nI (sp_gain σ tn rn i))), (0, .ref x), (1, .int (nI tn)), (2, .int (nI rn)), (3, .int (b2i b)), (4, .ref ar23)] dX1_nextLamp_102 rfl (by decide) rfl 105 rfl ?_
                refine nw_goto C 40 dX1_nextLamp_105 (by decide) ?_
                exact nw_wide (by omega) (by omega) (nw_sub [4, 5, 6, 7, 8, 1, 2, 0] rfl (ih_lp27 H40 (i + 1) (some i) (some (sp_gain σ tn rn i)) hext ho45 (by omega) (by rw [sp_lamps_a (show ¬ gr_k (sg_gr σ) i = 1 by simpa using h30) ho2.symm]) (by rw [sp_lamps_a (show ¬ gr_k (sg_gr σ) i = 1 by simpa using h30) ho2.symm]) (fun v hv => by cases hv; exact hgn) (by omega)))
              · show nwV X _ _ 9 H40 (2 + i + 1) (70 + 3 * i + 3) 87 [(8, .int (nI (sp_gain σ tn rn i))), (0, .ref x), (1, .int (nI tn)), (2, .int (nI rn)), (3, .int (b2i b)), (4, .ref ar23), (5, .int (oI o1)), (6, .int (nI bb)), (7, .int (nI i))] []
                have hbb2 := hob2 bb rfl
                refine nw_iload C 0 dX1_nextLamp_87 rfl 89 rfl ?_
                refine nw_iload C 7 dX1_nextLamp_89 rfl 91 rfl ?_
                refine nw_icmpleN C (by omega) 102 dX1_nextLamp_91 (by decide) 94 rfl (fun h47 => ?_) (fun h47 => ?_)
                · refine nw_iincN C 8 (c0 := 1) [(7, .int (nI (i + 1))), (8, .int (nI (sp_gain σ tn rn i))), (0, .ref x), (1, .int (nI tn)), (2, .int (nI rn)), (3, .int (b2i b)), (4, .ref ar23), (5, .int (oI o1)), (6, .int (nI bb))] dX1_nextLamp_102 rfl (by decide) rfl 105 rfl ?_
                  refine nw_goto C 40 dX1_nextLamp_105 (by decide) ?_
                  exact nw_wide (by omega) (by omega) (nw_sub [2, 3, 4, 5, 6, 7, 8, 0] rfl (ih_lp27 H40 (i + 1) o1 (some bb) hext ho45 (by omega) (by rw [sp_lamps_b (show ¬ gr_k (sg_gr σ) i = 1 by simpa using h30) ho2.symm, if_neg (by omega)]; exact ho1) (by rw [sp_lamps_b (show ¬ gr_k (sg_gr σ) i = 1 by simpa using h30) ho2.symm, if_neg (by omega)]; exact ho2) hob2 (by omega)))
                · refine nw_iload C 0 dX1_nextLamp_94 rfl 96 rfl ?_
                  refine nw_istore C [(6, .int (nI (sp_gain σ tn rn i))), (8, .int (nI (sp_gain σ tn rn i))), (0, .ref x), (1, .int (nI tn)), (2, .int (nI rn)), (3, .int (b2i b)), (4, .ref ar23), (5, .int (oI o1)), (7, .int (nI i))] dX1_nextLamp_96 (by decide) rfl 98 rfl ?_
                  refine nw_iload C 8 dX1_nextLamp_98 rfl 100 rfl ?_
                  refine nw_istore C [(5, .int (nI i)), (6, .int (nI (sp_gain σ tn rn i))), (8, .int (nI (sp_gain σ tn rn i))), (0, .ref x), (1, .int (nI tn)), (2, .int (nI rn)), (3, .int (b2i b)), (4, .ref ar23), (7, .int (nI i))] dX1_nextLamp_100 (by decide) rfl 102 rfl ?_
                  refine nw_iincN C 8 (c0 := 1) [(7, .int (nI (i + 1))), (5, .int (nI i)), (6, .int (nI (sp_gain σ tn rn i))), (8, .int (nI (sp_gain σ tn rn i))), (0, .ref x), (1, .int (nI tn)), (2, .int (nI rn)), (3, .int (b2i b)), (4, .ref ar23)] dX1_nextLamp_102 rfl (by decide) rfl 105 rfl ?_
                  refine nw_goto C 40 dX1_nextLamp_105 (by decide) ?_
                  exact nw_wide (by omega) (by omega) (nw_sub [4, 5, 6, 7, 8, 1, 2, 0] rfl (ih_lp27 H40 (i + 1) (some i) (some (sp_gain σ tn rn i)) hext ho45 (by omega) (by rw [sp_lamps_b (show ¬ gr_k (sg_gr σ) i = 1 by simpa using h30) ho2.symm, if_pos (by omega)]) (by rw [sp_lamps_b (show ¬ gr_k (sg_gr σ) i = 1 by simpa using h30) ho2.symm, if_pos (by omega)]) (fun v hv => by cases hv; exact hgn) (by omega)))
            · refine nw_goto C 102 dX1_nextLamp_66 (by decide) ?_
              refine nw_iincN C 7 (c0 := 1) [(7, .int (nI (i + 1))), (0, .ref x), (1, .int (nI tn)), (2, .int (nI rn)), (3, .int (b2i b)), (4, .ref ar23), (5, .int (oI o1)), (6, .int (oI o2))] dX1_nextLamp_102 rfl (by decide) rfl 105 rfl ?_
              refine nw_goto C 40 dX1_nextLamp_105 (by decide) ?_
              exact nw_wide (by omega) (by omega) (nw_sub [1, 2, 3, 4, 5, 6, 7, 0] rfl (ih_lp27 H2 (i + 1) o1 o2 hext hch (by omega) (by rw [sp_lamps_w (by simpa using h30)]; exact ho1) (by rw [sp_lamps_w (by simpa using h30)]; exact ho2) hob2 (by omega)))
      exact nw_wide (by omega) (by omega) (nw_sub [4, 5, 6, 7, 3, 2, 1, 0] rfl (lp27 _ H19 0 none none hext hi25 (Nat.zero_le _) rfl rfl (fun v hv => by cases hv) (Nat.lt_succ_self _)))
