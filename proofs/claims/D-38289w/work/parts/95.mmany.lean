/-! ===== the reference: how many ===== -/
theorem nw_addB (m : Nat) (b : Bool) : nI m + b2i b = nI (m + if b = true then 1 else 0) := by
  cases b
  · show nI m + nI 0 = _; rw [nI_add]; rfl
  · show nI m + nI 1 = _; rw [nI_add]; rfl
theorem kX4_minuteNow : nwPV "NightwatchWallModel" yX4_minuteNow cX4_minuteNow 8 (some .int) 2 := ⟨⟨q1882, qs65, q93, q1883⟩, rfl, by decide +kernel, by decide +kernel, by decide +kernel⟩
theorem kX4_foundNow : nwPV "NightwatchWallModel" yX4_foundNow cX4_foundNow 3 (some .int) 1 := ⟨⟨q1990, qs73, q93, q1991⟩, rfl, by decide +kernel, by decide +kernel, by decide +kernel⟩
set_option maxHeartbeats 4000000 in
theorem mX4_manyNow (l : Launch) (hf : l.flags = flags0) (d : nwD) (ro am : Nat → Nat) (y : Nat) (σ : spSg) (th : Int32) (q : Nat) (H : Heap) (hB : nd_B d ≤ H.size) (hW : nwMC d ro am y σ th H) (okM : spOkM σ) (hq12 : q ≤ 12) : nwMt l d yX4_manyNow cX4_manyNow 10 (some .int) 8 184 1 13 [.ref y, .int (nI q)] H (nwVr (nI (sp_manyNow σ q)) H) nwNo (nwNew H) := by
  refine nw_start "NightwatchWallModel" "manyNow" hf (by decide +kernel) rfl rfl (fun _ h => h) (fun q h => Nat.le_trans hB h) (Nat.le_of_ble_eq_true rfl) ?_
  intro X C
  have hW0 := hW
  have hB0 := hB
  have hE := C.E0
  have hext : nwExt H H := nwExt.rfl
  obtain ⟨hmX, hmKi, hmLa, hmFo, hmGu, hmPo, hmIn, hmWi, hmWo, hmKe⟩ := id hW
  obtain ⟨okg, okl, okf, oku, okp, oki, okw, okd, okk, oka⟩ := id okM
  have hn64 : gr_n (sg_gr σ) ≤ 64 := okg.n
  have oku1 := oku.1
  have oki1 := oki.1
  have okp1 := okp.1
  have okw1 := okw.1
  have okl1 := okl.1
  have okf1 := okf.1
  have hm8 := okd.1.2.2
  show nwV X _ _ 10 H 0 0 0 [(0, .ref y), (1, .int (nI q))] []
  refine nw_iconst C (nI 0) dX4_manyNow_0 (by decide) 1 rfl ?_
  refine nw_istore_n C [(2, .int (nI 0)), (0, .ref y), (1, .int (nI q))] dX4_manyNow_1 (by decide) rfl 2 rfl ?_
  refine nw_iconst C (nI 0) dX4_manyNow_2 (by decide) 3 rfl ?_
  refine nw_istore_n C [(3, .int (nI 0)), (2, .int (nI 0)), (0, .ref y), (1, .int (nI q))] dX4_manyNow_3 (by decide) rfl 4 rfl ?_
  refine nw_iconst C (nI 0) dX4_manyNow_4 (by decide) 5 rfl ?_
  refine nw_istore C [(4, .int (nI 0)), (3, .int (nI 0)), (2, .int (nI 0)), (0, .ref y), (1, .int (nI q))] dX4_manyNow_5 (by decide) rfl 7 rfl ?_
  refine nw_iconst C (nI 0) dX4_manyNow_7 (by decide) 8 rfl ?_
  refine nw_istore C [(5, .int (nI 0)), (4, .int (nI 0)), (3, .int (nI 0)), (2, .int (nI 0)), (0, .ref y), (1, .int (nI q))] dX4_manyNow_8 (by decide) rfl 10 rfl ?_
  refine nw_iconst C (nI 0) dX4_manyNow_10 (by decide) 11 rfl ?_
  refine nw_istore C [(6, .int (nI 0)), (5, .int (nI 0)), (4, .int (nI 0)), (3, .int (nI 0)), (2, .int (nI 0)), (0, .ref y), (1, .int (nI q))] dX4_manyNow_11 (by decide) rfl 13 rfl ?_
  have lp1 : ∀ (fu : Nat) (i1 : Nat) (m1 : Nat), (i1 ≤ (sg_la σ).1) → (m1 = sp_cnt (fun k => ((sg_la σ).2 k).2.2) i1) → (sg_la σ).1 - i1 < fu → nwV X (nwNew H) (nwQE X (nwVr (nI (sp_manyNow σ q)) H) nwNo (nwNew H) 1 13) 10 H 0 0 13 [(0, .ref y), (1, .int (nI q)), (2, .int (nI m1)), (3, .int (nI 0)), (4, .int (nI 0)), (5, .int (nI 0)), (6, .int (nI i1))] [] := by
    intro fu
    induction fu with
    | zero => intro i1 m1 _ _ hm; exact absurd hm (Nat.not_lt_zero _)
    | succ fu ih_lp1 =>
      intro i1 m1 hi1 hm1 hm
      refine nw_iload C 6 dX4_manyNow_13 rfl 15 rfl ?_
      refine nw_aload_n C 0 dX4_manyNow_15 rfl 16 rfl ?_
      refine nw_get C hmX (T := TX4) rfl in_X4 6 (by decide) q1628 (Or.inl rfl) rfl dX4_manyNow_16 19 rfl ?_
      refine nw_callF C (mJ3_size _ C.hfl d (am 1) ((sg_la σ).1) (fun k => am (100 + k)) (fun q => ro q = 7002) H hB hmLa.1) kJ3_size (ci := 13) rfl q1607 q1611 (by decide +kernel) fc_List_size (hmLa.1.is C) (As := []) (rest := [.int (nI i1)]) rfl rfl ⟨⟨Nat.le_of_ble_eq_true rfl, Nat.le_of_ble_eq_true rfl⟩, Nat.le_of_ble_eq_true rfl, Nat.le_of_ble_eq_true rfl⟩ (Nat.le_of_ble_eq_true rfl) (fun _ h8 h9 => absurd h9 (Nat.not_le.mpr h8)) dX4_manyNow_19 24 rfl (nw_rdK ?_) nw_noX
      refine nw_icmpgeN C (by omega) 52 dX4_manyNow_24 (by decide) 27 rfl (fun h5 => ?_) (fun h5 => ?_)
      · have hL : m1 = sp_lit (sg_la σ) := by rw [hm1, show i1 = (sg_la σ).1 by omega]; rfl
        refine nw_iconst C (nI 0) dX4_manyNow_52 (by decide) 53 rfl ?_
        refine nw_istore C [(6, .int (nI 0)), (0, .ref y), (1, .int (nI q)), (2, .int (nI m1)), (3, .int (nI 0)), (4, .int (nI 0)), (5, .int (nI 0))] dX4_manyNow_53 (by decide) rfl 55 rfl ?_
        have lp2 : ∀ (fu : Nat) (i2 : Nat) (m2 : Nat), (i2 ≤ (sg_in σ).1) → (m2 = sp_cnt (fun k => (sp_foundS σ ((sg_in σ).2 k)).isSome) i2) → (¬ q = 6 → m2 = 0) → (sg_in σ).1 - i2 < fu → nwV X (nwNew H) (nwQE X (nwVr (nI (sp_manyNow σ q)) H) nwNo (nwNew H) 1 13) 10 H 0 0 55 [(0, .ref y), (1, .int (nI q)), (2, .int (nI m1)), (3, .int (nI m2)), (4, .int (nI 0)), (5, .int (nI 0)), (6, .int (nI i2))] [] := by
          intro fu
          induction fu with
          | zero => intro i2 m2 _ _ _ hm; exact absurd hm (Nat.not_lt_zero _)
          | succ fu ih_lp2 =>
            intro i2 m2 hi2 hm2 hq2 hm
            refine nw_iload C 6 dX4_manyNow_55 rfl 57 rfl ?_
            refine nw_aload_n C 0 dX4_manyNow_57 rfl 58 rfl ?_
            refine nw_get C hmX (T := TX4) rfl in_X4 17 (by decide) q1639 (Or.inl rfl) rfl dX4_manyNow_58 61 rfl ?_
            refine nw_callF C (mJ3_size _ C.hfl d (am 5) ((sg_in σ).1) (fun k => am (500 + k)) (fun q => ro q = 7006) H hB hmIn.1) kJ3_size (ci := 13) rfl q1607 q1611 (by decide +kernel) fc_List_size (hmIn.1.is C) (As := []) (rest := [.int (nI i2)]) rfl rfl ⟨⟨Nat.le_of_ble_eq_true rfl, Nat.le_of_ble_eq_true rfl⟩, Nat.le_of_ble_eq_true rfl, Nat.le_of_ble_eq_true rfl⟩ (Nat.le_of_ble_eq_true rfl) (fun _ h8 h9 => absurd h9 (Nat.not_le.mpr h8)) dX4_manyNow_61 66 rfl (nw_rdK ?_) nw_noX
            refine nw_icmpgeN C (by omega) 111 dX4_manyNow_66 (by decide) 69 rfl (fun h6 => ?_) (fun h6 => ?_)
            · have hF : q = 6 → m2 = sp_found2 σ := fun e9 => by first | (exact absurd e9 h6) | (rw [hm2, show i2 = (sg_in σ).1 by omega]; rfl)
              refine nw_aload_n C 0 dX4_manyNow_111 rfl 112 rfl ?_
              refine nw_get C hmX (T := TX4) rfl in_X4 16 (by decide) q1638 (Or.inl rfl) rfl dX4_manyNow_112 115 rfl ?_
              refine nw_astore C [(6, .ref (am 8)), (0, .ref y), (1, .int (nI q)), (2, .int (nI m1)), (3, .int (nI m2)), (4, .int (nI 0)), (5, .int (nI 0))] dX4_manyNow_115 (by decide) rfl 117 rfl ?_
              refine nw_aload C 0 dX4_manyNow_117 rfl 119 rfl ?_
              refine nw_alenI C hmKe (by decide) dX4_manyNow_119 120 rfl ?_
              refine nw_istore C [(7, .int (nI 6)), (6, .ref (am 8)), (0, .ref y), (1, .int (nI q)), (2, .int (nI m1)), (3, .int (nI m2)), (4, .int (nI 0)), (5, .int (nI 0))] dX4_manyNow_120 (by decide) rfl 122 rfl ?_
              refine nw_iconst C (nI 0) dX4_manyNow_122 (by decide) 123 rfl ?_
              refine nw_istore C [(8, .int (nI 0)), (7, .int (nI 6)), (6, .ref (am 8)), (0, .ref y), (1, .int (nI q)), (2, .int (nI m1)), (3, .int (nI m2)), (4, .int (nI 0)), (5, .int (nI 0))] dX4_manyNow_123 (by decide) rfl 125 rfl ?_
              have lp3 : ∀ (fu : Nat) (i3 : Nat) (m3 : Nat), (i3 ≤ 6) → (m3 = sp_cnt (fun k => (sg_ke σ k).isSome) i3) → 6 - i3 < fu → nwV X (nwNew H) (nwQE X (nwVr (nI (sp_manyNow σ q)) H) nwNo (nwNew H) 1 13) 10 H 0 0 125 [(0, .ref y), (1, .int (nI q)), (2, .int (nI m1)), (3, .int (nI m2)), (4, .int (nI m3)), (5, .int (nI 0)), (6, .ref (am 8)), (7, .int (nI 6)), (8, .int (nI i3))] [] := by
                intro fu
                induction fu with
                | zero => intro i3 m3 _ _ hm; exact absurd hm (Nat.not_lt_zero _)
                | succ fu ih_lp3 =>
                  intro i3 m3 hi3 hm3 hm
                  refine nw_iload C 8 dX4_manyNow_125 rfl 127 rfl ?_
                  refine nw_iload C 7 dX4_manyNow_127 rfl 129 rfl ?_
                  refine nw_icmpgeN C (by omega) 161 dX4_manyNow_129 (by decide) 132 rfl (fun h7 => ?_) (fun h7 => ?_)
                  · have hK : m3 = sp_keysIn (sg_ke σ) := by rw [hm3, show i3 = 6 by omega]; rfl
                    refine nw_iconst C (nI 0) dX4_manyNow_161 (by decide) 162 rfl ?_
                    refine nw_istore C [(6, .int (nI 0)), (0, .ref y), (1, .int (nI q)), (2, .int (nI m1)), (3, .int (nI m2)), (4, .int (nI m3)), (5, .int (nI 0)), (7, .int (nI 6)), (8, .int (nI i3))] dX4_manyNow_162 (by decide) rfl 164 rfl ?_
                    have lp4 : ∀ (fu : Nat) (i4 : Nat) (m4 : Nat), (i4 ≤ 240) → (m4 = sp_cnt (fun t => decide (0 < sp_emptyPosts (sg_gu σ) (sg_po σ) t)) i4) → (¬ q = 11 → m4 = 0) → 240 - i4 < fu → nwV X (nwNew H) (nwQE X (nwVr (nI (sp_manyNow σ q)) H) nwNo (nwNew H) 1 13) 10 H 0 0 164 [(0, .ref y), (1, .int (nI q)), (2, .int (nI m1)), (3, .int (nI m2)), (4, .int (nI m3)), (5, .int (nI m4)), (6, .int (nI i4))] [] := by
                      intro fu
                      induction fu with
                      | zero => intro i4 m4 _ _ _ hm; exact absurd hm (Nat.not_lt_zero _)
                      | succ fu ih_lp4 =>
                        intro i4 m4 hi4 hm4 hq4 hm
                        refine nw_iload C 6 dX4_manyNow_164 rfl 166 rfl ?_
                        refine nw_sipush C (nI 239) dX4_manyNow_166 (by decide) 169 rfl ?_
                        refine nw_icmpgtN C (by omega) 204 dX4_manyNow_169 (by decide) 172 rfl (fun h8 => ?_) (fun h8 => ?_)
                        · have hEm : q = 11 → m4 = sp_emptyMinutes (sg_gu σ) (sg_po σ) := fun e9 => by first | (exact absurd e9 h8) | (rw [hm4, show i4 = 240 by omega]; rfl)
                          refine nw_bipush C (nI 13) dX4_manyNow_204 (by decide) 206 rfl ?_
                          refine nw_newi C (by omega) 1 13 (by omega) (by omega) ⟨(show 1 ≤ 1 by omega), (show 13 ≤ 13 by omega)⟩ dX4_manyNow_206 208 rfl (fun a9 H10 hx11 ho12 hz13 hq14 => ?_)
                          have hn15 : H.size ≤ a9 := (by rw [hx11]; exact hext.1)
                          replace hext := hext.made hz13 hq14
                          replace hW := hW0.ext hext.2
                          replace hE := C.E0.ext hext.2
                          replace hB := Nat.le_trans hB0 hext.1
                          clear hmX hmKi hmLa hmFo hmGu hmPo hmIn hmWi hmWo hmKe
                          obtain ⟨hmX, hmKi, hmLa, hmFo, hmGu, hmPo, hmIn, hmWi, hmWo, hmKe⟩ := id hW
                          refine nw_dup C dX4_manyNow_208 rfl 209 rfl ?_
                          refine nw_iconst C (nI 0) dX4_manyNow_209 (by decide) 210 rfl ?_
                          refine nw_aload_n C 0 dX4_manyNow_210 rfl 211 rfl ?_
                          refine nw_get C hmX (T := TX4) rfl in_X4 3 (by decide) q1625 (Or.inl rfl) rfl dX4_manyNow_211 214 rfl ?_
                          refine nw_alenI C hmKi (by decide) dX4_manyNow_214 215 rfl ?_
                          refine nw_iastN C ho12 hn15 (by omega) dX4_manyNow_215 216 rfl (fun H16 ho17 hz18 hq19 => ?_)
                          replace hext := hext.put hz18 hq19 hn15
                          replace hW := hW0.ext hext.2
                          replace hE := C.E0.ext hext.2
                          replace hB := Nat.le_trans hB0 hext.1
                          clear hmX hmKi hmLa hmFo hmGu hmPo hmIn hmWi hmWo hmKe
                          obtain ⟨hmX, hmKi, hmLa, hmFo, hmGu, hmPo, hmIn, hmWi, hmWo, hmKe⟩ := id hW
                          refine nw_dup C dX4_manyNow_216 rfl 217 rfl ?_
                          refine nw_iconst C (nI 1) dX4_manyNow_217 (by decide) 218 rfl ?_
                          refine nw_aload_n C 0 dX4_manyNow_218 rfl 219 rfl ?_
                          refine nw_get C hmX (T := TX4) rfl in_X4 6 (by decide) q1628 (Or.inl rfl) rfl dX4_manyNow_219 222 rfl ?_
                          refine nw_callF C (mJ3_size _ C.hfl d (am 1) ((sg_la σ).1) (fun k => am (100 + k)) (fun q => ro q = 7002) H16 hB hmLa.1) kJ3_size (ci := 13) rfl q1607 q1611 (by decide +kernel) fc_List_size (hmLa.1.is C) (As := []) (rest := [.int (nI 1), .ref a9, .ref a9]) rfl rfl ⟨⟨Nat.le_of_ble_eq_true rfl, Nat.le_of_ble_eq_true rfl⟩, Nat.le_of_ble_eq_true rfl, Nat.le_of_ble_eq_true rfl⟩ (Nat.le_of_ble_eq_true rfl) (fun _ h8 h9 => absurd h9 (Nat.not_le.mpr h8)) dX4_manyNow_222 227 rfl (nw_rdK ?_) nw_noX
                          refine nw_iastN C ho17 hn15 (by omega) dX4_manyNow_227 228 rfl (fun H20 ho21 hz22 hq23 => ?_)
                          replace hext := hext.put hz22 hq23 hn15
                          replace hW := hW0.ext hext.2
                          replace hE := C.E0.ext hext.2
                          replace hB := Nat.le_trans hB0 hext.1
                          clear hmX hmKi hmLa hmFo hmGu hmPo hmIn hmWi hmWo hmKe
                          obtain ⟨hmX, hmKi, hmLa, hmFo, hmGu, hmPo, hmIn, hmWi, hmWo, hmKe⟩ := id hW
                          refine nw_dup C dX4_manyNow_228 rfl 229 rfl ?_
                          refine nw_iconst C (nI 2) dX4_manyNow_229 (by decide) 230 rfl ?_
                          refine nw_iload_n C 2 dX4_manyNow_230 rfl 231 rfl ?_
                          refine nw_iastN C ho21 hn15 (by omega) dX4_manyNow_231 232 rfl (fun H24 ho25 hz26 hq27 => ?_)
                          replace hext := hext.put hz26 hq27 hn15
                          replace hW := hW0.ext hext.2
                          replace hE := C.E0.ext hext.2
                          replace hB := Nat.le_trans hB0 hext.1
                          clear hmX hmKi hmLa hmFo hmGu hmPo hmIn hmWi hmWo hmKe
                          obtain ⟨hmX, hmKi, hmLa, hmFo, hmGu, hmPo, hmIn, hmWi, hmWo, hmKe⟩ := id hW
                          refine nw_dup C dX4_manyNow_232 rfl 233 rfl ?_
                          refine nw_iconst C (nI 3) dX4_manyNow_233 (by decide) 234 rfl ?_
                          refine nw_aload_n C 0 dX4_manyNow_234 rfl 235 rfl ?_
                          refine nw_get C hmX (T := TX4) rfl in_X4 8 (by decide) q1630 (Or.inl rfl) rfl dX4_manyNow_235 238 rfl ?_
                          refine nw_callF C (mJ3_size _ C.hfl d (am 3) ((sg_gu σ).1) (fun k => am (300 + k)) (fun q => ro q = 7004) H24 hB hmGu.1) kJ3_size (ci := 13) rfl q1607 q1611 (by decide +kernel) fc_List_size (hmGu.1.is C) (As := []) (rest := [.int (nI 3), .ref a9, .ref a9]) rfl rfl ⟨⟨Nat.le_of_ble_eq_true rfl, Nat.le_of_ble_eq_true rfl⟩, Nat.le_of_ble_eq_true rfl, Nat.le_of_ble_eq_true rfl⟩ (Nat.le_of_ble_eq_true rfl) (fun _ h8 h9 => absurd h9 (Nat.not_le.mpr h8)) dX4_manyNow_238 243 rfl (nw_rdK ?_) nw_noX
                          refine nw_iastN C ho25 hn15 (by omega) dX4_manyNow_243 244 rfl (fun H28 ho29 hz30 hq31 => ?_)
                          replace hext := hext.put hz30 hq31 hn15
                          replace hW := hW0.ext hext.2
                          replace hE := C.E0.ext hext.2
                          replace hB := Nat.le_trans hB0 hext.1
                          clear hmX hmKi hmLa hmFo hmGu hmPo hmIn hmWi hmWo hmKe
                          obtain ⟨hmX, hmKi, hmLa, hmFo, hmGu, hmPo, hmIn, hmWi, hmWo, hmKe⟩ := id hW
                          refine nw_dup C dX4_manyNow_244 rfl 245 rfl ?_
                          refine nw_iconst C (nI 4) dX4_manyNow_245 (by decide) 246 rfl ?_
                          refine nw_aload_n C 0 dX4_manyNow_246 rfl 247 rfl ?_
                          refine nw_get C hmX (T := TX4) rfl in_X4 9 (by decide) q1631 (Or.inl rfl) rfl dX4_manyNow_247 250 rfl ?_
                          refine nw_callF C (mJ3_size _ C.hfl d (am 4) ((sg_po σ).1) (fun k => nd_bx d ((sg_po σ).2 k)) (fun q => ro q = 7005) H28 hB hmPo) kJ3_size (ci := 13) rfl q1607 q1611 (by decide +kernel) fc_List_size (hmPo.is C) (As := []) (rest := [.int (nI 4), .ref a9, .ref a9]) rfl rfl ⟨⟨Nat.le_of_ble_eq_true rfl, Nat.le_of_ble_eq_true rfl⟩, Nat.le_of_ble_eq_true rfl, Nat.le_of_ble_eq_true rfl⟩ (Nat.le_of_ble_eq_true rfl) (fun _ h8 h9 => absurd h9 (Nat.not_le.mpr h8)) dX4_manyNow_250 255 rfl (nw_rdK ?_) nw_noX
                          refine nw_iastN C ho29 hn15 (by omega) dX4_manyNow_255 256 rfl (fun H32 ho33 hz34 hq35 => ?_)
                          replace hext := hext.put hz34 hq35 hn15
                          replace hW := hW0.ext hext.2
                          replace hE := C.E0.ext hext.2
                          replace hB := Nat.le_trans hB0 hext.1
                          clear hmX hmKi hmLa hmFo hmGu hmPo hmIn hmWi hmWo hmKe
                          obtain ⟨hmX, hmKi, hmLa, hmFo, hmGu, hmPo, hmIn, hmWi, hmWo, hmKe⟩ := id hW
                          refine nw_dup C dX4_manyNow_256 rfl 257 rfl ?_
                          refine nw_iconst C (nI 5) dX4_manyNow_257 (by decide) 258 rfl ?_
                          refine nw_aload_n C 0 dX4_manyNow_258 rfl 259 rfl ?_
                          refine nw_get C hmX (T := TX4) rfl in_X4 17 (by decide) q1639 (Or.inl rfl) rfl dX4_manyNow_259 262 rfl ?_
                          refine nw_callF C (mJ3_size _ C.hfl d (am 5) ((sg_in σ).1) (fun k => am (500 + k)) (fun q => ro q = 7006) H32 hB hmIn.1) kJ3_size (ci := 13) rfl q1607 q1611 (by decide +kernel) fc_List_size (hmIn.1.is C) (As := []) (rest := [.int (nI 5), .ref a9, .ref a9]) rfl rfl ⟨⟨Nat.le_of_ble_eq_true rfl, Nat.le_of_ble_eq_true rfl⟩, Nat.le_of_ble_eq_true rfl, Nat.le_of_ble_eq_true rfl⟩ (Nat.le_of_ble_eq_true rfl) (fun _ h8 h9 => absurd h9 (Nat.not_le.mpr h8)) dX4_manyNow_262 267 rfl (nw_rdK ?_) nw_noX
                          refine nw_iastN C ho33 hn15 (by omega) dX4_manyNow_267 268 rfl (fun H36 ho37 hz38 hq39 => ?_)
                          replace hext := hext.put hz38 hq39 hn15
                          replace hW := hW0.ext hext.2
                          replace hE := C.E0.ext hext.2
                          replace hB := Nat.le_trans hB0 hext.1
                          clear hmX hmKi hmLa hmFo hmGu hmPo hmIn hmWi hmWo hmKe
                          obtain ⟨hmX, hmKi, hmLa, hmFo, hmGu, hmPo, hmIn, hmWi, hmWo, hmKe⟩ := id hW
                          refine nw_dup C dX4_manyNow_268 rfl 269 rfl ?_
                          refine nw_bipush C (nI 6) dX4_manyNow_269 (by decide) 271 rfl ?_
                          refine nw_iload_n C 3 dX4_manyNow_271 rfl 272 rfl ?_
                          refine nw_iastN C ho37 hn15 (by omega) dX4_manyNow_272 273 rfl (fun H40 ho41 hz42 hq43 => ?_)
                          replace hext := hext.put hz42 hq43 hn15
                          replace hW := hW0.ext hext.2
                          replace hE := C.E0.ext hext.2
                          replace hB := Nat.le_trans hB0 hext.1
                          clear hmX hmKi hmLa hmFo hmGu hmPo hmIn hmWi hmWo hmKe
                          obtain ⟨hmX, hmKi, hmLa, hmFo, hmGu, hmPo, hmIn, hmWi, hmWo, hmKe⟩ := id hW
                          refine nw_dup C dX4_manyNow_273 rfl 274 rfl ?_
                          refine nw_bipush C (nI 7) dX4_manyNow_274 (by decide) 276 rfl ?_
                          refine nw_aload_n C 0 dX4_manyNow_276 rfl 277 rfl ?_
                          refine nw_get C hmX (T := TX4) rfl in_X4 18 (by decide) q1640 (Or.inl rfl) rfl dX4_manyNow_277 280 rfl ?_
                          refine nw_callF C (mJ3_size _ C.hfl d (am 6) ((sg_wi σ).1) (fun k => am (700 + k)) (fun q => ro q = 7007) H40 hB hmWi.1) kJ3_size (ci := 13) rfl q1607 q1611 (by decide +kernel) fc_List_size (hmWi.1.is C) (As := []) (rest := [.int (nI 7), .ref a9, .ref a9]) rfl rfl ⟨⟨Nat.le_of_ble_eq_true rfl, Nat.le_of_ble_eq_true rfl⟩, Nat.le_of_ble_eq_true rfl, Nat.le_of_ble_eq_true rfl⟩ (Nat.le_of_ble_eq_true rfl) (fun _ h8 h9 => absurd h9 (Nat.not_le.mpr h8)) dX4_manyNow_280 285 rfl (nw_rdK ?_) nw_noX
                          refine nw_iastN C ho41 hn15 (by omega) dX4_manyNow_285 286 rfl (fun H44 ho45 hz46 hq47 => ?_)
                          replace hext := hext.put hz46 hq47 hn15
                          replace hW := hW0.ext hext.2
                          replace hE := C.E0.ext hext.2
                          replace hB := Nat.le_trans hB0 hext.1
                          clear hmX hmKi hmLa hmFo hmGu hmPo hmIn hmWi hmWo hmKe
                          obtain ⟨hmX, hmKi, hmLa, hmFo, hmGu, hmPo, hmIn, hmWi, hmWo, hmKe⟩ := id hW
                          refine nw_dup C dX4_manyNow_286 rfl 287 rfl ?_
                          refine nw_bipush C (nI 8) dX4_manyNow_287 (by decide) 289 rfl ?_
                          refine nw_iload C 4 dX4_manyNow_289 rfl 291 rfl ?_
                          refine nw_iastN C ho45 hn15 (by omega) dX4_manyNow_291 292 rfl (fun H48 ho49 hz50 hq51 => ?_)
                          replace hext := hext.put hz50 hq51 hn15
                          replace hW := hW0.ext hext.2
                          replace hE := C.E0.ext hext.2
                          replace hB := Nat.le_trans hB0 hext.1
                          clear hmX hmKi hmLa hmFo hmGu hmPo hmIn hmWi hmWo hmKe
                          obtain ⟨hmX, hmKi, hmLa, hmFo, hmGu, hmPo, hmIn, hmWi, hmWo, hmKe⟩ := id hW
                          refine nw_dup C dX4_manyNow_292 rfl 293 rfl ?_
                          refine nw_bipush C (nI 9) dX4_manyNow_293 (by decide) 295 rfl ?_
                          refine nw_aload_n C 0 dX4_manyNow_295 rfl 296 rfl ?_
                          refine nw_get C hmX (T := TX4) rfl in_X4 11 (by decide) q1633 (Or.inl rfl) rfl dX4_manyNow_296 299 rfl ?_
                          refine nw_iastN C ho49 hn15 (by omega) dX4_manyNow_299 300 rfl (fun H52 ho53 hz54 hq55 => ?_)
                          replace hext := hext.put hz54 hq55 hn15
                          replace hW := hW0.ext hext.2
                          replace hE := C.E0.ext hext.2
                          replace hB := Nat.le_trans hB0 hext.1
                          clear hmX hmKi hmLa hmFo hmGu hmPo hmIn hmWi hmWo hmKe
                          obtain ⟨hmX, hmKi, hmLa, hmFo, hmGu, hmPo, hmIn, hmWi, hmWo, hmKe⟩ := id hW
                          refine nw_dup C dX4_manyNow_300 rfl 301 rfl ?_
                          refine nw_bipush C (nI 10) dX4_manyNow_301 (by decide) 303 rfl ?_
                          refine nw_aload_n C 0 dX4_manyNow_303 rfl 304 rfl ?_
                          refine nw_get C hmX (T := TX4) rfl in_X4 15 (by decide) q1637 (Or.inl rfl) rfl dX4_manyNow_304 307 rfl ?_
                          refine nw_iastN C ho53 hn15 (by omega) dX4_manyNow_307 308 rfl (fun H56 ho57 hz58 hq59 => ?_)
                          replace hext := hext.put hz58 hq59 hn15
                          replace hW := hW0.ext hext.2
                          replace hE := C.E0.ext hext.2
                          replace hB := Nat.le_trans hB0 hext.1
                          clear hmX hmKi hmLa hmFo hmGu hmPo hmIn hmWi hmWo hmKe
                          obtain ⟨hmX, hmKi, hmLa, hmFo, hmGu, hmPo, hmIn, hmWi, hmWo, hmKe⟩ := id hW
                          refine nw_dup C dX4_manyNow_308 rfl 309 rfl ?_
                          refine nw_bipush C (nI 11) dX4_manyNow_309 (by decide) 311 rfl ?_
                          refine nw_iload C 5 dX4_manyNow_311 rfl 313 rfl ?_
                          refine nw_iastN C ho57 hn15 (by omega) dX4_manyNow_313 314 rfl (fun H60 ho61 hz62 hq63 => ?_)
                          replace hext := hext.put hz62 hq63 hn15
                          replace hW := hW0.ext hext.2
                          replace hE := C.E0.ext hext.2
                          replace hB := Nat.le_trans hB0 hext.1
                          clear hmX hmKi hmLa hmFo hmGu hmPo hmIn hmWi hmWo hmKe
                          obtain ⟨hmX, hmKi, hmLa, hmFo, hmGu, hmPo, hmIn, hmWi, hmWo, hmKe⟩ := id hW
                          refine nw_dup C dX4_manyNow_314 rfl 315 rfl ?_
                          refine nw_bipush C (nI 12) dX4_manyNow_315 (by decide) 317 rfl ?_
                          refine nw_aload_n C 0 dX4_manyNow_317 rfl 318 rfl ?_
                          refine nw_get C hmX (T := TX4) rfl in_X4 19 (by decide) q1641 (Or.inl rfl) rfl dX4_manyNow_318 321 rfl ?_
                          refine nw_iastN C ho61 hn15 (by omega) dX4_manyNow_321 322 rfl (fun H64 ho65 hz66 hq67 => ?_)
                          replace hext := hext.put hz66 hq67 hn15
                          replace hW := hW0.ext hext.2
                          replace hE := C.E0.ext hext.2
                          replace hB := Nat.le_trans hB0 hext.1
                          clear hmX hmKi hmLa hmFo hmGu hmPo hmIn hmWi hmWo hmKe
                          obtain ⟨hmX, hmKi, hmLa, hmFo, hmGu, hmPo, hmIn, hmWi, hmWo, hmKe⟩ := id hW
                          refine nw_astore C [(6, .ref a9), (0, .ref y), (1, .int (nI q)), (2, .int (nI m1)), (3, .int (nI m2)), (4, .int (nI m3)), (5, .int (nI m4))] dX4_manyNow_322 (by decide) rfl 324 rfl ?_
                          refine nw_aload C 0 dX4_manyNow_324 rfl 326 rfl ?_
                          refine nw_iload_n C 2 dX4_manyNow_326 rfl 327 rfl ?_
                          refine nw_ialdN C ((upd (upd (upd (upd (upd (upd (upd (upd (upd (upd (upd (upd (upd (fun _ => 0) 0 (nI (gr_n (sg_gr σ)))) 1 (nI ((sg_la σ).1))) 2 (nI m1)) 3 (nI ((sg_gu σ).1))) 4 (nI ((sg_po σ).1))) 5 (nI ((sg_in σ).1))) 6 (nI m2)) 7 (nI ((sg_wi σ).1))) 8 (nI m3)) 9 (nI (wo_m (sg_wo σ)))) 10 (nI (sg_ri σ))) 11 (nI m4)) 12 (nI (sg_rf σ))) q) ho65 (by omega) rfl dX4_manyNow_327 328 rfl ?_
                          exact nw_iret C dX4_manyNow_328 (by omega) (by omega) ⟨by rcases (show q = 0 ∨ q = 1 ∨ q = 2 ∨ q = 3 ∨ q = 4 ∨ q = 5 ∨ q = 6 ∨ q = 7 ∨ q = 8 ∨ q = 9 ∨ q = 10 ∨ q = 11 ∨ q = 12 by omega) with rfl | rfl | rfl | rfl | rfl | rfl | rfl | rfl | rfl | rfl | rfl | rfl | rfl <;> simp [upd, sp_manyNow, hL, hK] <;> first | rfl | (rw [hF rfl]) | (rw [hEm rfl]), hext⟩
                        · refine nw_iload_n C 1 dX4_manyNow_172 rfl 173 rfl ?_
                          refine nw_bipush C (nI 11) dX4_manyNow_173 (by decide) 175 rfl ?_
                          refine nw_icmpneN C (by omega) 204 dX4_manyNow_175 (by decide) 178 rfl (fun h68 => ?_) (fun h68 => ?_)
                          · have hEm : q = 11 → m4 = sp_emptyMinutes (sg_gu σ) (sg_po σ) := fun e9 => by first | (exact absurd e9 h68) | (rw [hm4, show i4 = 240 by omega]; rfl)
                            refine nw_bipush C (nI 13) dX4_manyNow_204 (by decide) 206 rfl ?_
                            refine nw_newi C (by omega) 1 13 (by omega) (by omega) ⟨(show 1 ≤ 1 by omega), (show 13 ≤ 13 by omega)⟩ dX4_manyNow_206 208 rfl (fun a69 H70 hx71 ho72 hz73 hq74 => ?_)
                            have hn75 : H.size ≤ a69 := (by rw [hx71]; exact hext.1)
                            replace hext := hext.made hz73 hq74
                            replace hW := hW0.ext hext.2
                            replace hE := C.E0.ext hext.2
                            replace hB := Nat.le_trans hB0 hext.1
                            clear hmX hmKi hmLa hmFo hmGu hmPo hmIn hmWi hmWo hmKe
                            obtain ⟨hmX, hmKi, hmLa, hmFo, hmGu, hmPo, hmIn, hmWi, hmWo, hmKe⟩ := id hW
                            refine nw_dup C dX4_manyNow_208 rfl 209 rfl ?_
                            refine nw_iconst C (nI 0) dX4_manyNow_209 (by decide) 210 rfl ?_
                            refine nw_aload_n C 0 dX4_manyNow_210 rfl 211 rfl ?_
                            refine nw_get C hmX (T := TX4) rfl in_X4 3 (by decide) q1625 (Or.inl rfl) rfl dX4_manyNow_211 214 rfl ?_
                            refine nw_alenI C hmKi (by decide) dX4_manyNow_214 215 rfl ?_
                            refine nw_iastN C ho72 hn75 (by omega) dX4_manyNow_215 216 rfl (fun H76 ho77 hz78 hq79 => ?_)
                            replace hext := hext.put hz78 hq79 hn75
                            replace hW := hW0.ext hext.2
                            replace hE := C.E0.ext hext.2
                            replace hB := Nat.le_trans hB0 hext.1
                            clear hmX hmKi hmLa hmFo hmGu hmPo hmIn hmWi hmWo hmKe
                            obtain ⟨hmX, hmKi, hmLa, hmFo, hmGu, hmPo, hmIn, hmWi, hmWo, hmKe⟩ := id hW
                            refine nw_dup C dX4_manyNow_216 rfl 217 rfl ?_
                            refine nw_iconst C (nI 1) dX4_manyNow_217 (by decide) 218 rfl ?_
                            refine nw_aload_n C 0 dX4_manyNow_218 rfl 219 rfl ?_
                            refine nw_get C hmX (T := TX4) rfl in_X4 6 (by decide) q1628 (Or.inl rfl) rfl dX4_manyNow_219 222 rfl ?_
                            refine nw_callF C (mJ3_size _ C.hfl d (am 1) ((sg_la σ).1) (fun k => am (100 + k)) (fun q => ro q = 7002) H76 hB hmLa.1) kJ3_size (ci := 13) rfl q1607 q1611 (by decide +kernel) fc_List_size (hmLa.1.is C) (As := []) (rest := [.int (nI 1), .ref a69, .ref a69]) rfl rfl ⟨⟨Nat.le_of_ble_eq_true rfl, Nat.le_of_ble_eq_true rfl⟩, Nat.le_of_ble_eq_true rfl, Nat.le_of_ble_eq_true rfl⟩ (Nat.le_of_ble_eq_true rfl) (fun _ h8 h9 => absurd h9 (Nat.not_le.mpr h8)) dX4_manyNow_222 227 rfl (nw_rdK ?_) nw_noX
                            refine nw_iastN C ho77 hn75 (by omega) dX4_manyNow_227 228 rfl (fun H80 ho81 hz82 hq83 => ?_)
                            replace hext := hext.put hz82 hq83 hn75
                            replace hW := hW0.ext hext.2
                            replace hE := C.E0.ext hext.2
                            replace hB := Nat.le_trans hB0 hext.1
                            clear hmX hmKi hmLa hmFo hmGu hmPo hmIn hmWi hmWo hmKe
                            obtain ⟨hmX, hmKi, hmLa, hmFo, hmGu, hmPo, hmIn, hmWi, hmWo, hmKe⟩ := id hW
                            refine nw_dup C dX4_manyNow_228 rfl 229 rfl ?_
                            refine nw_iconst C (nI 2) dX4_manyNow_229 (by decide) 230 rfl ?_
                            refine nw_iload_n C 2 dX4_manyNow_230 rfl 231 rfl ?_
                            refine nw_iastN C ho81 hn75 (by omega) dX4_manyNow_231 232 rfl (fun H84 ho85 hz86 hq87 => ?_)
                            replace hext := hext.put hz86 hq87 hn75
                            replace hW := hW0.ext hext.2
                            replace hE := C.E0.ext hext.2
                            replace hB := Nat.le_trans hB0 hext.1
                            clear hmX hmKi hmLa hmFo hmGu hmPo hmIn hmWi hmWo hmKe
                            obtain ⟨hmX, hmKi, hmLa, hmFo, hmGu, hmPo, hmIn, hmWi, hmWo, hmKe⟩ := id hW
                            refine nw_dup C dX4_manyNow_232 rfl 233 rfl ?_
                            refine nw_iconst C (nI 3) dX4_manyNow_233 (by decide) 234 rfl ?_
                            refine nw_aload_n C 0 dX4_manyNow_234 rfl 235 rfl ?_
                            refine nw_get C hmX (T := TX4) rfl in_X4 8 (by decide) q1630 (Or.inl rfl) rfl dX4_manyNow_235 238 rfl ?_
                            refine nw_callF C (mJ3_size _ C.hfl d (am 3) ((sg_gu σ).1) (fun k => am (300 + k)) (fun q => ro q = 7004) H84 hB hmGu.1) kJ3_size (ci := 13) rfl q1607 q1611 (by decide +kernel) fc_List_size (hmGu.1.is C) (As := []) (rest := [.int (nI 3), .ref a69, .ref a69]) rfl rfl ⟨⟨Nat.le_of_ble_eq_true rfl, Nat.le_of_ble_eq_true rfl⟩, Nat.le_of_ble_eq_true rfl, Nat.le_of_ble_eq_true rfl⟩ (Nat.le_of_ble_eq_true rfl) (fun _ h8 h9 => absurd h9 (Nat.not_le.mpr h8)) dX4_manyNow_238 243 rfl (nw_rdK ?_) nw_noX
                            refine nw_iastN C ho85 hn75 (by omega) dX4_manyNow_243 244 rfl (fun H88 ho89 hz90 hq91 => ?_)
                            replace hext := hext.put hz90 hq91 hn75
                            replace hW := hW0.ext hext.2
                            replace hE := C.E0.ext hext.2
                            replace hB := Nat.le_trans hB0 hext.1
                            clear hmX hmKi hmLa hmFo hmGu hmPo hmIn hmWi hmWo hmKe
                            obtain ⟨hmX, hmKi, hmLa, hmFo, hmGu, hmPo, hmIn, hmWi, hmWo, hmKe⟩ := id hW
                            refine nw_dup C dX4_manyNow_244 rfl 245 rfl ?_
                            refine nw_iconst C (nI 4) dX4_manyNow_245 (by decide) 246 rfl ?_
                            refine nw_aload_n C 0 dX4_manyNow_246 rfl 247 rfl ?_
                            refine nw_get C hmX (T := TX4) rfl in_X4 9 (by decide) q1631 (Or.inl rfl) rfl dX4_manyNow_247 250 rfl ?_
                            refine nw_callF C (mJ3_size _ C.hfl d (am 4) ((sg_po σ).1) (fun k => nd_bx d ((sg_po σ).2 k)) (fun q => ro q = 7005) H88 hB hmPo) kJ3_size (ci := 13) rfl q1607 q1611 (by decide +kernel) fc_List_size (hmPo.is C) (As := []) (rest := [.int (nI 4), .ref a69, .ref a69]) rfl rfl ⟨⟨Nat.le_of_ble_eq_true rfl, Nat.le_of_ble_eq_true rfl⟩, Nat.le_of_ble_eq_true rfl, Nat.le_of_ble_eq_true rfl⟩ (Nat.le_of_ble_eq_true rfl) (fun _ h8 h9 => absurd h9 (Nat.not_le.mpr h8)) dX4_manyNow_250 255 rfl (nw_rdK ?_) nw_noX
                            refine nw_iastN C ho89 hn75 (by omega) dX4_manyNow_255 256 rfl (fun H92 ho93 hz94 hq95 => ?_)
                            replace hext := hext.put hz94 hq95 hn75
                            replace hW := hW0.ext hext.2
                            replace hE := C.E0.ext hext.2
                            replace hB := Nat.le_trans hB0 hext.1
                            clear hmX hmKi hmLa hmFo hmGu hmPo hmIn hmWi hmWo hmKe
                            obtain ⟨hmX, hmKi, hmLa, hmFo, hmGu, hmPo, hmIn, hmWi, hmWo, hmKe⟩ := id hW
                            refine nw_dup C dX4_manyNow_256 rfl 257 rfl ?_
                            refine nw_iconst C (nI 5) dX4_manyNow_257 (by decide) 258 rfl ?_
                            refine nw_aload_n C 0 dX4_manyNow_258 rfl 259 rfl ?_
                            refine nw_get C hmX (T := TX4) rfl in_X4 17 (by decide) q1639 (Or.inl rfl) rfl dX4_manyNow_259 262 rfl ?_
                            refine nw_callF C (mJ3_size _ C.hfl d (am 5) ((sg_in σ).1) (fun k => am (500 + k)) (fun q => ro q = 7006) H92 hB hmIn.1) kJ3_size (ci := 13) rfl q1607 q1611 (by decide +kernel) fc_List_size (hmIn.1.is C) (As := []) (rest := [.int (nI 5), .ref a69, .ref a69]) rfl rfl ⟨⟨Nat.le_of_ble_eq_true rfl, Nat.le_of_ble_eq_true rfl⟩, Nat.le_of_ble_eq_true rfl, Nat.le_of_ble_eq_true rfl⟩ (Nat.le_of_ble_eq_true rfl) (fun _ h8 h9 => absurd h9 (Nat.not_le.mpr h8)) dX4_manyNow_262 267 rfl (nw_rdK ?_) nw_noX
                            refine nw_iastN C ho93 hn75 (by omega) dX4_manyNow_267 268 rfl (fun H96 ho97 hz98 hq99 => ?_)
                            replace hext := hext.put hz98 hq99 hn75
                            replace hW := hW0.ext hext.2
                            replace hE := C.E0.ext hext.2
                            replace hB := Nat.le_trans hB0 hext.1
                            clear hmX hmKi hmLa hmFo hmGu hmPo hmIn hmWi hmWo hmKe
                            obtain ⟨hmX, hmKi, hmLa, hmFo, hmGu, hmPo, hmIn, hmWi, hmWo, hmKe⟩ := id hW
                            refine nw_dup C dX4_manyNow_268 rfl 269 rfl ?_
                            refine nw_bipush C (nI 6) dX4_manyNow_269 (by decide) 271 rfl ?_
                            refine nw_iload_n C 3 dX4_manyNow_271 rfl 272 rfl ?_
                            refine nw_iastN C ho97 hn75 (by omega) dX4_manyNow_272 273 rfl (fun H100 ho101 hz102 hq103 => ?_)
                            replace hext := hext.put hz102 hq103 hn75
                            replace hW := hW0.ext hext.2
                            replace hE := C.E0.ext hext.2
                            replace hB := Nat.le_trans hB0 hext.1
                            clear hmX hmKi hmLa hmFo hmGu hmPo hmIn hmWi hmWo hmKe
                            obtain ⟨hmX, hmKi, hmLa, hmFo, hmGu, hmPo, hmIn, hmWi, hmWo, hmKe⟩ := id hW
                            refine nw_dup C dX4_manyNow_273 rfl 274 rfl ?_
                            refine nw_bipush C (nI 7) dX4_manyNow_274 (by decide) 276 rfl ?_
                            refine nw_aload_n C 0 dX4_manyNow_276 rfl 277 rfl ?_
                            refine nw_get C hmX (T := TX4) rfl in_X4 18 (by decide) q1640 (Or.inl rfl) rfl dX4_manyNow_277 280 rfl ?_
                            refine nw_callF C (mJ3_size _ C.hfl d (am 6) ((sg_wi σ).1) (fun k => am (700 + k)) (fun q => ro q = 7007) H100 hB hmWi.1) kJ3_size (ci := 13) rfl q1607 q1611 (by decide +kernel) fc_List_size (hmWi.1.is C) (As := []) (rest := [.int (nI 7), .ref a69, .ref a69]) rfl rfl ⟨⟨Nat.le_of_ble_eq_true rfl, Nat.le_of_ble_eq_true rfl⟩, Nat.le_of_ble_eq_true rfl, Nat.le_of_ble_eq_true rfl⟩ (Nat.le_of_ble_eq_true rfl) (fun _ h8 h9 => absurd h9 (Nat.not_le.mpr h8)) dX4_manyNow_280 285 rfl (nw_rdK ?_) nw_noX
                            refine nw_iastN C ho101 hn75 (by omega) dX4_manyNow_285 286 rfl (fun H104 ho105 hz106 hq107 => ?_)
                            replace hext := hext.put hz106 hq107 hn75
                            replace hW := hW0.ext hext.2
                            replace hE := C.E0.ext hext.2
                            replace hB := Nat.le_trans hB0 hext.1
                            clear hmX hmKi hmLa hmFo hmGu hmPo hmIn hmWi hmWo hmKe
                            obtain ⟨hmX, hmKi, hmLa, hmFo, hmGu, hmPo, hmIn, hmWi, hmWo, hmKe⟩ := id hW
                            refine nw_dup C dX4_manyNow_286 rfl 287 rfl ?_
                            refine nw_bipush C (nI 8) dX4_manyNow_287 (by decide) 289 rfl ?_
                            refine nw_iload C 4 dX4_manyNow_289 rfl 291 rfl ?_
                            refine nw_iastN C ho105 hn75 (by omega) dX4_manyNow_291 292 rfl (fun H108 ho109 hz110 hq111 => ?_)
                            replace hext := hext.put hz110 hq111 hn75
                            replace hW := hW0.ext hext.2
                            replace hE := C.E0.ext hext.2
                            replace hB := Nat.le_trans hB0 hext.1
                            clear hmX hmKi hmLa hmFo hmGu hmPo hmIn hmWi hmWo hmKe
                            obtain ⟨hmX, hmKi, hmLa, hmFo, hmGu, hmPo, hmIn, hmWi, hmWo, hmKe⟩ := id hW
                            refine nw_dup C dX4_manyNow_292 rfl 293 rfl ?_
                            refine nw_bipush C (nI 9) dX4_manyNow_293 (by decide) 295 rfl ?_
                            refine nw_aload_n C 0 dX4_manyNow_295 rfl 296 rfl ?_
                            refine nw_get C hmX (T := TX4) rfl in_X4 11 (by decide) q1633 (Or.inl rfl) rfl dX4_manyNow_296 299 rfl ?_
                            refine nw_iastN C ho109 hn75 (by omega) dX4_manyNow_299 300 rfl (fun H112 ho113 hz114 hq115 => ?_)
                            replace hext := hext.put hz114 hq115 hn75
                            replace hW := hW0.ext hext.2
                            replace hE := C.E0.ext hext.2
                            replace hB := Nat.le_trans hB0 hext.1
                            clear hmX hmKi hmLa hmFo hmGu hmPo hmIn hmWi hmWo hmKe
                            obtain ⟨hmX, hmKi, hmLa, hmFo, hmGu, hmPo, hmIn, hmWi, hmWo, hmKe⟩ := id hW
                            refine nw_dup C dX4_manyNow_300 rfl 301 rfl ?_
                            refine nw_bipush C (nI 10) dX4_manyNow_301 (by decide) 303 rfl ?_
                            refine nw_aload_n C 0 dX4_manyNow_303 rfl 304 rfl ?_
                            refine nw_get C hmX (T := TX4) rfl in_X4 15 (by decide) q1637 (Or.inl rfl) rfl dX4_manyNow_304 307 rfl ?_
                            refine nw_iastN C ho113 hn75 (by omega) dX4_manyNow_307 308 rfl (fun H116 ho117 hz118 hq119 => ?_)
                            replace hext := hext.put hz118 hq119 hn75
                            replace hW := hW0.ext hext.2
                            replace hE := C.E0.ext hext.2
                            replace hB := Nat.le_trans hB0 hext.1
                            clear hmX hmKi hmLa hmFo hmGu hmPo hmIn hmWi hmWo hmKe
                            obtain ⟨hmX, hmKi, hmLa, hmFo, hmGu, hmPo, hmIn, hmWi, hmWo, hmKe⟩ := id hW
                            refine nw_dup C dX4_manyNow_308 rfl 309 rfl ?_
                            refine nw_bipush C (nI 11) dX4_manyNow_309 (by decide) 311 rfl ?_
                            refine nw_iload C 5 dX4_manyNow_311 rfl 313 rfl ?_
                            refine nw_iastN C ho117 hn75 (by omega) dX4_manyNow_313 314 rfl (fun H120 ho121 hz122 hq123 => ?_)
                            replace hext := hext.put hz122 hq123 hn75
                            replace hW := hW0.ext hext.2
                            replace hE := C.E0.ext hext.2
                            replace hB := Nat.le_trans hB0 hext.1
                            clear hmX hmKi hmLa hmFo hmGu hmPo hmIn hmWi hmWo hmKe
                            obtain ⟨hmX, hmKi, hmLa, hmFo, hmGu, hmPo, hmIn, hmWi, hmWo, hmKe⟩ := id hW
                            refine nw_dup C dX4_manyNow_314 rfl 315 rfl ?_
                            refine nw_bipush C (nI 12) dX4_manyNow_315 (by decide) 317 rfl ?_
                            refine nw_aload_n C 0 dX4_manyNow_317 rfl 318 rfl ?_
                            refine nw_get C hmX (T := TX4) rfl in_X4 19 (by decide) q1641 (Or.inl rfl) rfl dX4_manyNow_318 321 rfl ?_
                            refine nw_iastN C ho121 hn75 (by omega) dX4_manyNow_321 322 rfl (fun H124 ho125 hz126 hq127 => ?_)
                            replace hext := hext.put hz126 hq127 hn75
                            replace hW := hW0.ext hext.2
                            replace hE := C.E0.ext hext.2
                            replace hB := Nat.le_trans hB0 hext.1
                            clear hmX hmKi hmLa hmFo hmGu hmPo hmIn hmWi hmWo hmKe
                            obtain ⟨hmX, hmKi, hmLa, hmFo, hmGu, hmPo, hmIn, hmWi, hmWo, hmKe⟩ := id hW
                            refine nw_astore C [(6, .ref a69), (0, .ref y), (1, .int (nI q)), (2, .int (nI m1)), (3, .int (nI m2)), (4, .int (nI m3)), (5, .int (nI m4))] dX4_manyNow_322 (by decide) rfl 324 rfl ?_
                            refine nw_aload C 0 dX4_manyNow_324 rfl 326 rfl ?_
                            refine nw_iload_n C 2 dX4_manyNow_326 rfl 327 rfl ?_
                            refine nw_ialdN C ((upd (upd (upd (upd (upd (upd (upd (upd (upd (upd (upd (upd (upd (fun _ => 0) 0 (nI (gr_n (sg_gr σ)))) 1 (nI ((sg_la σ).1))) 2 (nI m1)) 3 (nI ((sg_gu σ).1))) 4 (nI ((sg_po σ).1))) 5 (nI ((sg_in σ).1))) 6 (nI m2)) 7 (nI ((sg_wi σ).1))) 8 (nI m3)) 9 (nI (wo_m (sg_wo σ)))) 10 (nI (sg_ri σ))) 11 (nI m4)) 12 (nI (sg_rf σ))) q) ho125 (by omega) rfl dX4_manyNow_327 328 rfl ?_
                            exact nw_iret C dX4_manyNow_328 (by omega) (by omega) ⟨by rcases (show q = 0 ∨ q = 1 ∨ q = 2 ∨ q = 3 ∨ q = 4 ∨ q = 5 ∨ q = 6 ∨ q = 7 ∨ q = 8 ∨ q = 9 ∨ q = 10 ∨ q = 11 ∨ q = 12 by omega) with rfl | rfl | rfl | rfl | rfl | rfl | rfl | rfl | rfl | rfl | rfl | rfl | rfl <;> simp [upd, sp_manyNow, hL, hK] <;> first | rfl | (rw [hF rfl]) | (rw [hEm rfl]), hext⟩
                          · refine nw_iload C 5 dX4_manyNow_178 rfl 180 rfl ?_
                            refine nw_aload_n C 0 dX4_manyNow_180 rfl 181 rfl ?_
                            refine nw_iload C 6 dX4_manyNow_181 rfl 183 rfl ?_
                            refine nw_iconst C (nI 4) dX4_manyNow_183 (by decide) 184 rfl ?_
                            refine nw_callV C (mX4_minuteNow _ C.hfl d ro am y σ th i4 4 H hB hW okM (by omega) (by omega)) kX4_minuteNow q1880 (hmX.is C (ci := 9) rfl) (As := [.int (nI i4), .int (nI 4)]) (rest := [.int (nI m4)]) rfl rfl ⟨⟨Nat.le_of_ble_eq_true rfl, Nat.le_of_ble_eq_true rfl⟩, Nat.le_of_ble_eq_true rfl, Nat.le_of_ble_eq_true rfl⟩ (Nat.le_of_ble_eq_true rfl) (fun _ h8 h9 => absurd h9 (Nat.not_le.mpr h8)) dX4_manyNow_184 187 rfl (nw_rdK ?_) nw_noX
                            have hmn9 : sp_minuteNow σ i4 4 = sp_emptyPosts (sg_gu σ) (sg_po σ) i4 := rfl
                            rw [hmn9]
                            have hep : sp_emptyPosts (sg_gu σ) (sg_po σ) i4 ≤ 4 := by have := sp_cnt_le (fun k => sp_empty (sg_gu σ) ((sg_po σ).2 k) i4) (sg_po σ).1; have h8 := okp.1; unfold sp_emptyPosts; omega
                            refine nw_ifleN C (by omega) 194 dX4_manyNow_187 (by decide) 190 rfl (fun h128 => ?_) (fun h128 => ?_)
                            · refine nw_iconst C (nI 0) dX4_manyNow_194 (by decide) 195 rfl ?_
                              refine nw_iaddN C dX4_manyNow_195 196 rfl ?_
                              refine nw_istore C [(5, .int (nI (m4 + 0))), (0, .ref y), (1, .int (nI q)), (2, .int (nI m1)), (3, .int (nI m2)), (4, .int (nI m3)), (6, .int (nI i4))] dX4_manyNow_196 (by decide) rfl 198 rfl ?_
                              refine nw_iincN C 6 (c0 := 1) [(6, .int (nI (i4 + 1))), (5, .int (nI (m4 + 0))), (0, .ref y), (1, .int (nI q)), (2, .int (nI m1)), (3, .int (nI m2)), (4, .int (nI m3))] dX4_manyNow_198 rfl (by decide) rfl 201 rfl ?_
                              refine nw_goto C 164 dX4_manyNow_201 (by decide) ?_
                              exact nw_wide (by omega) (by omega) (nw_sub [2, 3, 4, 5, 6, 1, 0] rfl (ih_lp4 (i4 + 1) m4 (by omega) (by rw [sp_cnt_f (p := (fun t => decide (0 < sp_emptyPosts (sg_gu σ) (sg_po σ) t))) (n := i4) (by simp [h128])]; omega) (fun e9 => absurd h68 e9) (by omega)))
                            · refine nw_iconst C (nI 1) dX4_manyNow_190 (by decide) 191 rfl ?_
                              refine nw_goto C 195 dX4_manyNow_191 (by decide) ?_
                              refine nw_iaddN C dX4_manyNow_195 196 rfl ?_
                              refine nw_istore C [(5, .int (nI (m4 + 1))), (0, .ref y), (1, .int (nI q)), (2, .int (nI m1)), (3, .int (nI m2)), (4, .int (nI m3)), (6, .int (nI i4))] dX4_manyNow_196 (by decide) rfl 198 rfl ?_
                              refine nw_iincN C 6 (c0 := 1) [(6, .int (nI (i4 + 1))), (5, .int (nI (m4 + 1))), (0, .ref y), (1, .int (nI q)), (2, .int (nI m1)), (3, .int (nI m2)), (4, .int (nI m3))] dX4_manyNow_198 rfl (by decide) rfl 201 rfl ?_
                              refine nw_goto C 164 dX4_manyNow_201 (by decide) ?_
                              exact nw_wide (by omega) (by omega) (nw_sub [2, 3, 4, 5, 6, 1, 0] rfl (ih_lp4 (i4 + 1) (m4 + 1) (by omega) (by rw [sp_cnt_t (p := (fun t => decide (0 < sp_emptyPosts (sg_gu σ) (sg_po σ) t))) (n := i4) (by simp [h128])]; omega) (fun e9 => absurd h68 e9) (by omega)))
                    exact nw_wide (by omega) (by omega) (nw_sub [1, 2, 3, 4, 5, 6, 0] rfl (lp4 _ 0 0 (Nat.zero_le _) rfl (fun _ => rfl) (Nat.lt_succ_self _)))
                  · refine nw_aload C 6 dX4_manyNow_132 rfl 134 rfl ?_
                    refine nw_iload C 8 dX4_manyNow_134 rfl 136 rfl ?_
                    refine nw_ialdN C (oI (sg_ke σ i3)) hmKe (by omega) rfl dX4_manyNow_136 137 rfl ?_
                    refine nw_istore C [(9, .int (oI (sg_ke σ i3))), (0, .ref y), (1, .int (nI q)), (2, .int (nI m1)), (3, .int (nI m2)), (4, .int (nI m3)), (5, .int (nI 0)), (6, .ref (am 8)), (7, .int (nI 6)), (8, .int (nI i3))] dX4_manyNow_137 (by decide) rfl 139 rfl ?_
                    generalize hok9 : sg_ke σ i3 = ok9
                    rcases ok9 with _ | kk9
                    · show nwV X _ _ 10 H 0 0 139 [(9, .int (oI none)), (0, .ref y), (1, .int (nI q)), (2, .int (nI m1)), (3, .int (nI m2)), (4, .int (nI m3)), (5, .int (nI 0)), (6, .ref (am 8)), (7, .int (nI 6)), (8, .int (nI i3))] []
                      refine nw_iload C 5 dX4_manyNow_139 rfl 141 rfl ?_
                      refine nw_iload C 0 dX4_manyNow_141 rfl 143 rfl ?_
                      refine nw_iconst C (oI none) dX4_manyNow_143 (by decide) 144 rfl ?_
                      refine nw_icmpneF C rfl 151 dX4_manyNow_144 (by decide) 147 rfl ?_
                      refine nw_iconst C (nI 0) dX4_manyNow_147 (by decide) 148 rfl ?_
                      refine nw_goto C 152 dX4_manyNow_148 (by decide) ?_
                      refine nw_iaddN C dX4_manyNow_152 153 rfl ?_
                      refine nw_istore C [(4, .int (nI (m3 + 0))), (9, .int (oI none)), (0, .ref y), (1, .int (nI q)), (2, .int (nI m1)), (3, .int (nI m2)), (5, .int (nI 0)), (6, .ref (am 8)), (7, .int (nI 6)), (8, .int (nI i3))] dX4_manyNow_153 (by decide) rfl 155 rfl ?_
                      refine nw_iincN C 9 (c0 := 1) [(8, .int (nI (i3 + 1))), (4, .int (nI (m3 + 0))), (9, .int (oI none)), (0, .ref y), (1, .int (nI q)), (2, .int (nI m1)), (3, .int (nI m2)), (5, .int (nI 0)), (6, .ref (am 8)), (7, .int (nI 6))] dX4_manyNow_155 rfl (by decide) rfl 158 rfl ?_
                      refine nw_goto C 125 dX4_manyNow_158 (by decide) ?_
                      exact nw_wide (by omega) (by omega) (nw_sub [3, 4, 5, 6, 1, 7, 8, 9, 0] rfl (ih_lp3 (i3 + 1) m3 (by omega) (by rw [sp_cnt_f (p := (fun k => (sg_ke σ k).isSome)) (n := i3) (by simp [hok9])]; omega) (by omega)))
                    · show nwV X _ _ 10 H 0 0 139 [(9, .int (nI kk9)), (0, .ref y), (1, .int (nI q)), (2, .int (nI m1)), (3, .int (nI m2)), (4, .int (nI m3)), (5, .int (nI 0)), (6, .ref (am 8)), (7, .int (nI 6)), (8, .int (nI i3))] []
                      have hgk := okk i3 (by omega) kk9 hok9
                      refine nw_iload C 5 dX4_manyNow_139 rfl 141 rfl ?_
                      refine nw_iload C 0 dX4_manyNow_141 rfl 143 rfl ?_
                      refine nw_iconst C (oI none) dX4_manyNow_143 (by decide) 144 rfl ?_
                      refine nw_icmpneT C (nI_m1 (by omega)) 151 dX4_manyNow_144 (by decide) ?_
                      refine nw_iconst C (nI 1) dX4_manyNow_151 (by decide) 152 rfl ?_
                      refine nw_iaddN C dX4_manyNow_152 153 rfl ?_
                      refine nw_istore C [(4, .int (nI (m3 + 1))), (9, .int (nI kk9)), (0, .ref y), (1, .int (nI q)), (2, .int (nI m1)), (3, .int (nI m2)), (5, .int (nI 0)), (6, .ref (am 8)), (7, .int (nI 6)), (8, .int (nI i3))] dX4_manyNow_153 (by decide) rfl 155 rfl ?_
                      refine nw_iincN C 9 (c0 := 1) [(8, .int (nI (i3 + 1))), (4, .int (nI (m3 + 1))), (9, .int (nI kk9)), (0, .ref y), (1, .int (nI q)), (2, .int (nI m1)), (3, .int (nI m2)), (5, .int (nI 0)), (6, .ref (am 8)), (7, .int (nI 6))] dX4_manyNow_155 rfl (by decide) rfl 158 rfl ?_
                      refine nw_goto C 125 dX4_manyNow_158 (by decide) ?_
                      exact nw_wide (by omega) (by omega) (nw_sub [3, 4, 5, 6, 1, 7, 8, 9, 0] rfl (ih_lp3 (i3 + 1) (m3 + 1) (by omega) (by rw [sp_cnt_t (p := (fun k => (sg_ke σ k).isSome)) (n := i3) (by simp [hok9])]; omega) (by omega)))
              exact nw_wide (by omega) (by omega) (nw_sub [3, 4, 5, 6, 7, 8, 2, 1, 0] rfl (lp3 _ 0 0 (Nat.zero_le _) rfl (Nat.lt_succ_self _)))
            · refine nw_iload_n C 1 dX4_manyNow_69 rfl 70 rfl ?_
              refine nw_bipush C (nI 6) dX4_manyNow_70 (by decide) 72 rfl ?_
              refine nw_icmpneN C (by omega) 111 dX4_manyNow_72 (by decide) 75 rfl (fun h131 => ?_) (fun h131 => ?_)
              · have hF : q = 6 → m2 = sp_found2 σ := fun e9 => by first | (exact absurd e9 h131) | (rw [hm2, show i2 = (sg_in σ).1 by omega]; rfl)
                refine nw_aload_n C 0 dX4_manyNow_111 rfl 112 rfl ?_
                refine nw_get C hmX (T := TX4) rfl in_X4 16 (by decide) q1638 (Or.inl rfl) rfl dX4_manyNow_112 115 rfl ?_
                refine nw_astore C [(6, .ref (am 8)), (0, .ref y), (1, .int (nI q)), (2, .int (nI m1)), (3, .int (nI m2)), (4, .int (nI 0)), (5, .int (nI 0))] dX4_manyNow_115 (by decide) rfl 117 rfl ?_
                refine nw_aload C 0 dX4_manyNow_117 rfl 119 rfl ?_
                refine nw_alenI C hmKe (by decide) dX4_manyNow_119 120 rfl ?_
                refine nw_istore C [(7, .int (nI 6)), (6, .ref (am 8)), (0, .ref y), (1, .int (nI q)), (2, .int (nI m1)), (3, .int (nI m2)), (4, .int (nI 0)), (5, .int (nI 0))] dX4_manyNow_120 (by decide) rfl 122 rfl ?_
                refine nw_iconst C (nI 0) dX4_manyNow_122 (by decide) 123 rfl ?_
                refine nw_istore C [(8, .int (nI 0)), (7, .int (nI 6)), (6, .ref (am 8)), (0, .ref y), (1, .int (nI q)), (2, .int (nI m1)), (3, .int (nI m2)), (4, .int (nI 0)), (5, .int (nI 0))] dX4_manyNow_123 (by decide) rfl 125 rfl ?_
                have lp3 : ∀ (fu : Nat) (i3 : Nat) (m3 : Nat), (i3 ≤ 6) → (m3 = sp_cnt (fun k => (sg_ke σ k).isSome) i3) → 6 - i3 < fu → nwV X (nwNew H) (nwQE X (nwVr (nI (sp_manyNow σ q)) H) nwNo (nwNew H) 1 13) 10 H 0 0 125 [(0, .ref y), (1, .int (nI q)), (2, .int (nI m1)), (3, .int (nI m2)), (4, .int (nI m3)), (5, .int (nI 0)), (6, .ref (am 8)), (7, .int (nI 6)), (8, .int (nI i3))] [] := by
                  intro fu
                  induction fu with
                  | zero => intro i3 m3 _ _ hm; exact absurd hm (Nat.not_lt_zero _)
                  | succ fu ih_lp3 =>
                    intro i3 m3 hi3 hm3 hm
                    refine nw_iload C 8 dX4_manyNow_125 rfl 127 rfl ?_
                    refine nw_iload C 7 dX4_manyNow_127 rfl 129 rfl ?_
                    refine nw_icmpgeN C (by omega) 161 dX4_manyNow_129 (by decide) 132 rfl (fun h132 => ?_) (fun h132 => ?_)
                    · have hK : m3 = sp_keysIn (sg_ke σ) := by rw [hm3, show i3 = 6 by omega]; rfl
                      refine nw_iconst C (nI 0) dX4_manyNow_161 (by decide) 162 rfl ?_
                      refine nw_istore C [(6, .int (nI 0)), (0, .ref y), (1, .int (nI q)), (2, .int (nI m1)), (3, .int (nI m2)), (4, .int (nI m3)), (5, .int (nI 0)), (7, .int (nI 6)), (8, .int (nI i3))] dX4_manyNow_162 (by decide) rfl 164 rfl ?_
                      have lp4 : ∀ (fu : Nat) (i4 : Nat) (m4 : Nat), (i4 ≤ 240) → (m4 = sp_cnt (fun t => decide (0 < sp_emptyPosts (sg_gu σ) (sg_po σ) t)) i4) → (¬ q = 11 → m4 = 0) → 240 - i4 < fu → nwV X (nwNew H) (nwQE X (nwVr (nI (sp_manyNow σ q)) H) nwNo (nwNew H) 1 13) 10 H 0 0 164 [(0, .ref y), (1, .int (nI q)), (2, .int (nI m1)), (3, .int (nI m2)), (4, .int (nI m3)), (5, .int (nI m4)), (6, .int (nI i4))] [] := by
                        intro fu
                        induction fu with
                        | zero => intro i4 m4 _ _ _ hm; exact absurd hm (Nat.not_lt_zero _)
                        | succ fu ih_lp4 =>
                          intro i4 m4 hi4 hm4 hq4 hm
                          refine nw_iload C 6 dX4_manyNow_164 rfl 166 rfl ?_
                          refine nw_sipush C (nI 239) dX4_manyNow_166 (by decide) 169 rfl ?_
                          refine nw_icmpgtN C (by omega) 204 dX4_manyNow_169 (by decide) 172 rfl (fun h133 => ?_) (fun h133 => ?_)
                          · have hEm : q = 11 → m4 = sp_emptyMinutes (sg_gu σ) (sg_po σ) := fun e9 => by first | (exact absurd e9 h133) | (rw [hm4, show i4 = 240 by omega]; rfl)
                            refine nw_bipush C (nI 13) dX4_manyNow_204 (by decide) 206 rfl ?_
                            refine nw_newi C (by omega) 1 13 (by omega) (by omega) ⟨(show 1 ≤ 1 by omega), (show 13 ≤ 13 by omega)⟩ dX4_manyNow_206 208 rfl (fun a134 H135 hx136 ho137 hz138 hq139 => ?_)
                            have hn140 : H.size ≤ a134 := (by rw [hx136]; exact hext.1)
                            replace hext := hext.made hz138 hq139
                            replace hW := hW0.ext hext.2
                            replace hE := C.E0.ext hext.2
                            replace hB := Nat.le_trans hB0 hext.1
                            clear hmX hmKi hmLa hmFo hmGu hmPo hmIn hmWi hmWo hmKe
                            obtain ⟨hmX, hmKi, hmLa, hmFo, hmGu, hmPo, hmIn, hmWi, hmWo, hmKe⟩ := id hW
                            refine nw_dup C dX4_manyNow_208 rfl 209 rfl ?_
                            refine nw_iconst C (nI 0) dX4_manyNow_209 (by decide) 210 rfl ?_
                            refine nw_aload_n C 0 dX4_manyNow_210 rfl 211 rfl ?_
                            refine nw_get C hmX (T := TX4) rfl in_X4 3 (by decide) q1625 (Or.inl rfl) rfl dX4_manyNow_211 214 rfl ?_
                            refine nw_alenI C hmKi (by decide) dX4_manyNow_214 215 rfl ?_
                            refine nw_iastN C ho137 hn140 (by omega) dX4_manyNow_215 216 rfl (fun H141 ho142 hz143 hq144 => ?_)
                            replace hext := hext.put hz143 hq144 hn140
                            replace hW := hW0.ext hext.2
                            replace hE := C.E0.ext hext.2
                            replace hB := Nat.le_trans hB0 hext.1
                            clear hmX hmKi hmLa hmFo hmGu hmPo hmIn hmWi hmWo hmKe
                            obtain ⟨hmX, hmKi, hmLa, hmFo, hmGu, hmPo, hmIn, hmWi, hmWo, hmKe⟩ := id hW
                            refine nw_dup C dX4_manyNow_216 rfl 217 rfl ?_
                            refine nw_iconst C (nI 1) dX4_manyNow_217 (by decide) 218 rfl ?_
                            refine nw_aload_n C 0 dX4_manyNow_218 rfl 219 rfl ?_
                            refine nw_get C hmX (T := TX4) rfl in_X4 6 (by decide) q1628 (Or.inl rfl) rfl dX4_manyNow_219 222 rfl ?_
                            refine nw_callF C (mJ3_size _ C.hfl d (am 1) ((sg_la σ).1) (fun k => am (100 + k)) (fun q => ro q = 7002) H141 hB hmLa.1) kJ3_size (ci := 13) rfl q1607 q1611 (by decide +kernel) fc_List_size (hmLa.1.is C) (As := []) (rest := [.int (nI 1), .ref a134, .ref a134]) rfl rfl ⟨⟨Nat.le_of_ble_eq_true rfl, Nat.le_of_ble_eq_true rfl⟩, Nat.le_of_ble_eq_true rfl, Nat.le_of_ble_eq_true rfl⟩ (Nat.le_of_ble_eq_true rfl) (fun _ h8 h9 => absurd h9 (Nat.not_le.mpr h8)) dX4_manyNow_222 227 rfl (nw_rdK ?_) nw_noX
                            refine nw_iastN C ho142 hn140 (by omega) dX4_manyNow_227 228 rfl (fun H145 ho146 hz147 hq148 => ?_)
                            replace hext := hext.put hz147 hq148 hn140
                            replace hW := hW0.ext hext.2
                            replace hE := C.E0.ext hext.2
                            replace hB := Nat.le_trans hB0 hext.1
                            clear hmX hmKi hmLa hmFo hmGu hmPo hmIn hmWi hmWo hmKe
                            obtain ⟨hmX, hmKi, hmLa, hmFo, hmGu, hmPo, hmIn, hmWi, hmWo, hmKe⟩ := id hW
                            refine nw_dup C dX4_manyNow_228 rfl 229 rfl ?_
                            refine nw_iconst C (nI 2) dX4_manyNow_229 (by decide) 230 rfl ?_
                            refine nw_iload_n C 2 dX4_manyNow_230 rfl 231 rfl ?_
                            refine nw_iastN C ho146 hn140 (by omega) dX4_manyNow_231 232 rfl (fun H149 ho150 hz151 hq152 => ?_)
                            replace hext := hext.put hz151 hq152 hn140
                            replace hW := hW0.ext hext.2
                            replace hE := C.E0.ext hext.2
                            replace hB := Nat.le_trans hB0 hext.1
                            clear hmX hmKi hmLa hmFo hmGu hmPo hmIn hmWi hmWo hmKe
                            obtain ⟨hmX, hmKi, hmLa, hmFo, hmGu, hmPo, hmIn, hmWi, hmWo, hmKe⟩ := id hW
                            refine nw_dup C dX4_manyNow_232 rfl 233 rfl ?_
                            refine nw_iconst C (nI 3) dX4_manyNow_233 (by decide) 234 rfl ?_
                            refine nw_aload_n C 0 dX4_manyNow_234 rfl 235 rfl ?_
                            refine nw_get C hmX (T := TX4) rfl in_X4 8 (by decide) q1630 (Or.inl rfl) rfl dX4_manyNow_235 238 rfl ?_
                            refine nw_callF C (mJ3_size _ C.hfl d (am 3) ((sg_gu σ).1) (fun k => am (300 + k)) (fun q => ro q = 7004) H149 hB hmGu.1) kJ3_size (ci := 13) rfl q1607 q1611 (by decide +kernel) fc_List_size (hmGu.1.is C) (As := []) (rest := [.int (nI 3), .ref a134, .ref a134]) rfl rfl ⟨⟨Nat.le_of_ble_eq_true rfl, Nat.le_of_ble_eq_true rfl⟩, Nat.le_of_ble_eq_true rfl, Nat.le_of_ble_eq_true rfl⟩ (Nat.le_of_ble_eq_true rfl) (fun _ h8 h9 => absurd h9 (Nat.not_le.mpr h8)) dX4_manyNow_238 243 rfl (nw_rdK ?_) nw_noX
                            refine nw_iastN C ho150 hn140 (by omega) dX4_manyNow_243 244 rfl (fun H153 ho154 hz155 hq156 => ?_)
                            replace hext := hext.put hz155 hq156 hn140
                            replace hW := hW0.ext hext.2
                            replace hE := C.E0.ext hext.2
                            replace hB := Nat.le_trans hB0 hext.1
                            clear hmX hmKi hmLa hmFo hmGu hmPo hmIn hmWi hmWo hmKe
                            obtain ⟨hmX, hmKi, hmLa, hmFo, hmGu, hmPo, hmIn, hmWi, hmWo, hmKe⟩ := id hW
                            refine nw_dup C dX4_manyNow_244 rfl 245 rfl ?_
                            refine nw_iconst C (nI 4) dX4_manyNow_245 (by decide) 246 rfl ?_
                            refine nw_aload_n C 0 dX4_manyNow_246 rfl 247 rfl ?_
                            refine nw_get C hmX (T := TX4) rfl in_X4 9 (by decide) q1631 (Or.inl rfl) rfl dX4_manyNow_247 250 rfl ?_
                            refine nw_callF C (mJ3_size _ C.hfl d (am 4) ((sg_po σ).1) (fun k => nd_bx d ((sg_po σ).2 k)) (fun q => ro q = 7005) H153 hB hmPo) kJ3_size (ci := 13) rfl q1607 q1611 (by decide +kernel) fc_List_size (hmPo.is C) (As := []) (rest := [.int (nI 4), .ref a134, .ref a134]) rfl rfl ⟨⟨Nat.le_of_ble_eq_true rfl, Nat.le_of_ble_eq_true rfl⟩, Nat.le_of_ble_eq_true rfl, Nat.le_of_ble_eq_true rfl⟩ (Nat.le_of_ble_eq_true rfl) (fun _ h8 h9 => absurd h9 (Nat.not_le.mpr h8)) dX4_manyNow_250 255 rfl (nw_rdK ?_) nw_noX
                            refine nw_iastN C ho154 hn140 (by omega) dX4_manyNow_255 256 rfl (fun H157 ho158 hz159 hq160 => ?_)
                            replace hext := hext.put hz159 hq160 hn140
                            replace hW := hW0.ext hext.2
                            replace hE := C.E0.ext hext.2
                            replace hB := Nat.le_trans hB0 hext.1
                            clear hmX hmKi hmLa hmFo hmGu hmPo hmIn hmWi hmWo hmKe
                            obtain ⟨hmX, hmKi, hmLa, hmFo, hmGu, hmPo, hmIn, hmWi, hmWo, hmKe⟩ := id hW
                            refine nw_dup C dX4_manyNow_256 rfl 257 rfl ?_
                            refine nw_iconst C (nI 5) dX4_manyNow_257 (by decide) 258 rfl ?_
                            refine nw_aload_n C 0 dX4_manyNow_258 rfl 259 rfl ?_
                            refine nw_get C hmX (T := TX4) rfl in_X4 17 (by decide) q1639 (Or.inl rfl) rfl dX4_manyNow_259 262 rfl ?_
                            refine nw_callF C (mJ3_size _ C.hfl d (am 5) ((sg_in σ).1) (fun k => am (500 + k)) (fun q => ro q = 7006) H157 hB hmIn.1) kJ3_size (ci := 13) rfl q1607 q1611 (by decide +kernel) fc_List_size (hmIn.1.is C) (As := []) (rest := [.int (nI 5), .ref a134, .ref a134]) rfl rfl ⟨⟨Nat.le_of_ble_eq_true rfl, Nat.le_of_ble_eq_true rfl⟩, Nat.le_of_ble_eq_true rfl, Nat.le_of_ble_eq_true rfl⟩ (Nat.le_of_ble_eq_true rfl) (fun _ h8 h9 => absurd h9 (Nat.not_le.mpr h8)) dX4_manyNow_262 267 rfl (nw_rdK ?_) nw_noX
                            refine nw_iastN C ho158 hn140 (by omega) dX4_manyNow_267 268 rfl (fun H161 ho162 hz163 hq164 => ?_)
                            replace hext := hext.put hz163 hq164 hn140
                            replace hW := hW0.ext hext.2
                            replace hE := C.E0.ext hext.2
                            replace hB := Nat.le_trans hB0 hext.1
                            clear hmX hmKi hmLa hmFo hmGu hmPo hmIn hmWi hmWo hmKe
                            obtain ⟨hmX, hmKi, hmLa, hmFo, hmGu, hmPo, hmIn, hmWi, hmWo, hmKe⟩ := id hW
                            refine nw_dup C dX4_manyNow_268 rfl 269 rfl ?_
                            refine nw_bipush C (nI 6) dX4_manyNow_269 (by decide) 271 rfl ?_
                            refine nw_iload_n C 3 dX4_manyNow_271 rfl 272 rfl ?_
                            refine nw_iastN C ho162 hn140 (by omega) dX4_manyNow_272 273 rfl (fun H165 ho166 hz167 hq168 => ?_)
                            replace hext := hext.put hz167 hq168 hn140
                            replace hW := hW0.ext hext.2
                            replace hE := C.E0.ext hext.2
                            replace hB := Nat.le_trans hB0 hext.1
                            clear hmX hmKi hmLa hmFo hmGu hmPo hmIn hmWi hmWo hmKe
                            obtain ⟨hmX, hmKi, hmLa, hmFo, hmGu, hmPo, hmIn, hmWi, hmWo, hmKe⟩ := id hW
                            refine nw_dup C dX4_manyNow_273 rfl 274 rfl ?_
                            refine nw_bipush C (nI 7) dX4_manyNow_274 (by decide) 276 rfl ?_
                            refine nw_aload_n C 0 dX4_manyNow_276 rfl 277 rfl ?_
                            refine nw_get C hmX (T := TX4) rfl in_X4 18 (by decide) q1640 (Or.inl rfl) rfl dX4_manyNow_277 280 rfl ?_
                            refine nw_callF C (mJ3_size _ C.hfl d (am 6) ((sg_wi σ).1) (fun k => am (700 + k)) (fun q => ro q = 7007) H165 hB hmWi.1) kJ3_size (ci := 13) rfl q1607 q1611 (by decide +kernel) fc_List_size (hmWi.1.is C) (As := []) (rest := [.int (nI 7), .ref a134, .ref a134]) rfl rfl ⟨⟨Nat.le_of_ble_eq_true rfl, Nat.le_of_ble_eq_true rfl⟩, Nat.le_of_ble_eq_true rfl, Nat.le_of_ble_eq_true rfl⟩ (Nat.le_of_ble_eq_true rfl) (fun _ h8 h9 => absurd h9 (Nat.not_le.mpr h8)) dX4_manyNow_280 285 rfl (nw_rdK ?_) nw_noX
                            refine nw_iastN C ho166 hn140 (by omega) dX4_manyNow_285 286 rfl (fun H169 ho170 hz171 hq172 => ?_)
                            replace hext := hext.put hz171 hq172 hn140
                            replace hW := hW0.ext hext.2
                            replace hE := C.E0.ext hext.2
                            replace hB := Nat.le_trans hB0 hext.1
                            clear hmX hmKi hmLa hmFo hmGu hmPo hmIn hmWi hmWo hmKe
                            obtain ⟨hmX, hmKi, hmLa, hmFo, hmGu, hmPo, hmIn, hmWi, hmWo, hmKe⟩ := id hW
                            refine nw_dup C dX4_manyNow_286 rfl 287 rfl ?_
                            refine nw_bipush C (nI 8) dX4_manyNow_287 (by decide) 289 rfl ?_
                            refine nw_iload C 4 dX4_manyNow_289 rfl 291 rfl ?_
                            refine nw_iastN C ho170 hn140 (by omega) dX4_manyNow_291 292 rfl (fun H173 ho174 hz175 hq176 => ?_)
                            replace hext := hext.put hz175 hq176 hn140
                            replace hW := hW0.ext hext.2
                            replace hE := C.E0.ext hext.2
                            replace hB := Nat.le_trans hB0 hext.1
                            clear hmX hmKi hmLa hmFo hmGu hmPo hmIn hmWi hmWo hmKe
                            obtain ⟨hmX, hmKi, hmLa, hmFo, hmGu, hmPo, hmIn, hmWi, hmWo, hmKe⟩ := id hW
                            refine nw_dup C dX4_manyNow_292 rfl 293 rfl ?_
                            refine nw_bipush C (nI 9) dX4_manyNow_293 (by decide) 295 rfl ?_
                            refine nw_aload_n C 0 dX4_manyNow_295 rfl 296 rfl ?_
                            refine nw_get C hmX (T := TX4) rfl in_X4 11 (by decide) q1633 (Or.inl rfl) rfl dX4_manyNow_296 299 rfl ?_
                            refine nw_iastN C ho174 hn140 (by omega) dX4_manyNow_299 300 rfl (fun H177 ho178 hz179 hq180 => ?_)
                            replace hext := hext.put hz179 hq180 hn140
                            replace hW := hW0.ext hext.2
                            replace hE := C.E0.ext hext.2
                            replace hB := Nat.le_trans hB0 hext.1
                            clear hmX hmKi hmLa hmFo hmGu hmPo hmIn hmWi hmWo hmKe
                            obtain ⟨hmX, hmKi, hmLa, hmFo, hmGu, hmPo, hmIn, hmWi, hmWo, hmKe⟩ := id hW
                            refine nw_dup C dX4_manyNow_300 rfl 301 rfl ?_
                            refine nw_bipush C (nI 10) dX4_manyNow_301 (by decide) 303 rfl ?_
                            refine nw_aload_n C 0 dX4_manyNow_303 rfl 304 rfl ?_
                            refine nw_get C hmX (T := TX4) rfl in_X4 15 (by decide) q1637 (Or.inl rfl) rfl dX4_manyNow_304 307 rfl ?_
                            refine nw_iastN C ho178 hn140 (by omega) dX4_manyNow_307 308 rfl (fun H181 ho182 hz183 hq184 => ?_)
                            replace hext := hext.put hz183 hq184 hn140
                            replace hW := hW0.ext hext.2
                            replace hE := C.E0.ext hext.2
                            replace hB := Nat.le_trans hB0 hext.1
                            clear hmX hmKi hmLa hmFo hmGu hmPo hmIn hmWi hmWo hmKe
                            obtain ⟨hmX, hmKi, hmLa, hmFo, hmGu, hmPo, hmIn, hmWi, hmWo, hmKe⟩ := id hW
                            refine nw_dup C dX4_manyNow_308 rfl 309 rfl ?_
                            refine nw_bipush C (nI 11) dX4_manyNow_309 (by decide) 311 rfl ?_
                            refine nw_iload C 5 dX4_manyNow_311 rfl 313 rfl ?_
                            refine nw_iastN C ho182 hn140 (by omega) dX4_manyNow_313 314 rfl (fun H185 ho186 hz187 hq188 => ?_)
                            replace hext := hext.put hz187 hq188 hn140
                            replace hW := hW0.ext hext.2
                            replace hE := C.E0.ext hext.2
                            replace hB := Nat.le_trans hB0 hext.1
                            clear hmX hmKi hmLa hmFo hmGu hmPo hmIn hmWi hmWo hmKe
                            obtain ⟨hmX, hmKi, hmLa, hmFo, hmGu, hmPo, hmIn, hmWi, hmWo, hmKe⟩ := id hW
                            refine nw_dup C dX4_manyNow_314 rfl 315 rfl ?_
                            refine nw_bipush C (nI 12) dX4_manyNow_315 (by decide) 317 rfl ?_
                            refine nw_aload_n C 0 dX4_manyNow_317 rfl 318 rfl ?_
                            refine nw_get C hmX (T := TX4) rfl in_X4 19 (by decide) q1641 (Or.inl rfl) rfl dX4_manyNow_318 321 rfl ?_
                            refine nw_iastN C ho186 hn140 (by omega) dX4_manyNow_321 322 rfl (fun H189 ho190 hz191 hq192 => ?_)
                            replace hext := hext.put hz191 hq192 hn140
                            replace hW := hW0.ext hext.2
                            replace hE := C.E0.ext hext.2
                            replace hB := Nat.le_trans hB0 hext.1
                            clear hmX hmKi hmLa hmFo hmGu hmPo hmIn hmWi hmWo hmKe
                            obtain ⟨hmX, hmKi, hmLa, hmFo, hmGu, hmPo, hmIn, hmWi, hmWo, hmKe⟩ := id hW
                            refine nw_astore C [(6, .ref a134), (0, .ref y), (1, .int (nI q)), (2, .int (nI m1)), (3, .int (nI m2)), (4, .int (nI m3)), (5, .int (nI m4))] dX4_manyNow_322 (by decide) rfl 324 rfl ?_
                            refine nw_aload C 0 dX4_manyNow_324 rfl 326 rfl ?_
                            refine nw_iload_n C 2 dX4_manyNow_326 rfl 327 rfl ?_
                            refine nw_ialdN C ((upd (upd (upd (upd (upd (upd (upd (upd (upd (upd (upd (upd (upd (fun _ => 0) 0 (nI (gr_n (sg_gr σ)))) 1 (nI ((sg_la σ).1))) 2 (nI m1)) 3 (nI ((sg_gu σ).1))) 4 (nI ((sg_po σ).1))) 5 (nI ((sg_in σ).1))) 6 (nI m2)) 7 (nI ((sg_wi σ).1))) 8 (nI m3)) 9 (nI (wo_m (sg_wo σ)))) 10 (nI (sg_ri σ))) 11 (nI m4)) 12 (nI (sg_rf σ))) q) ho190 (by omega) rfl dX4_manyNow_327 328 rfl ?_
                            exact nw_iret C dX4_manyNow_328 (by omega) (by omega) ⟨by rcases (show q = 0 ∨ q = 1 ∨ q = 2 ∨ q = 3 ∨ q = 4 ∨ q = 5 ∨ q = 6 ∨ q = 7 ∨ q = 8 ∨ q = 9 ∨ q = 10 ∨ q = 11 ∨ q = 12 by omega) with rfl | rfl | rfl | rfl | rfl | rfl | rfl | rfl | rfl | rfl | rfl | rfl | rfl <;> simp [upd, sp_manyNow, hL, hK] <;> first | rfl | (rw [hF rfl]) | (rw [hEm rfl]), hext⟩
                          · refine nw_iload_n C 1 dX4_manyNow_172 rfl 173 rfl ?_
                            refine nw_bipush C (nI 11) dX4_manyNow_173 (by decide) 175 rfl ?_
                            refine nw_icmpneN C (by omega) 204 dX4_manyNow_175 (by decide) 178 rfl (fun h193 => ?_) (fun h193 => ?_)
                            · have hEm : q = 11 → m4 = sp_emptyMinutes (sg_gu σ) (sg_po σ) := fun e9 => by first | (exact absurd e9 h193) | (rw [hm4, show i4 = 240 by omega]; rfl)
                              refine nw_bipush C (nI 13) dX4_manyNow_204 (by decide) 206 rfl ?_
                              refine nw_newi C (by omega) 1 13 (by omega) (by omega) ⟨(show 1 ≤ 1 by omega), (show 13 ≤ 13 by omega)⟩ dX4_manyNow_206 208 rfl (fun a194 H195 hx196 ho197 hz198 hq199 => ?_)
                              have hn200 : H.size ≤ a194 := (by rw [hx196]; exact hext.1)
                              replace hext := hext.made hz198 hq199
                              replace hW := hW0.ext hext.2
                              replace hE := C.E0.ext hext.2
                              replace hB := Nat.le_trans hB0 hext.1
                              clear hmX hmKi hmLa hmFo hmGu hmPo hmIn hmWi hmWo hmKe
                              obtain ⟨hmX, hmKi, hmLa, hmFo, hmGu, hmPo, hmIn, hmWi, hmWo, hmKe⟩ := id hW
                              refine nw_dup C dX4_manyNow_208 rfl 209 rfl ?_
                              refine nw_iconst C (nI 0) dX4_manyNow_209 (by decide) 210 rfl ?_
                              refine nw_aload_n C 0 dX4_manyNow_210 rfl 211 rfl ?_
                              refine nw_get C hmX (T := TX4) rfl in_X4 3 (by decide) q1625 (Or.inl rfl) rfl dX4_manyNow_211 214 rfl ?_
                              refine nw_alenI C hmKi (by decide) dX4_manyNow_214 215 rfl ?_
                              refine nw_iastN C ho197 hn200 (by omega) dX4_manyNow_215 216 rfl (fun H201 ho202 hz203 hq204 => ?_)
                              replace hext := hext.put hz203 hq204 hn200
                              replace hW := hW0.ext hext.2
                              replace hE := C.E0.ext hext.2
                              replace hB := Nat.le_trans hB0 hext.1
                              clear hmX hmKi hmLa hmFo hmGu hmPo hmIn hmWi hmWo hmKe
                              obtain ⟨hmX, hmKi, hmLa, hmFo, hmGu, hmPo, hmIn, hmWi, hmWo, hmKe⟩ := id hW
                              refine nw_dup C dX4_manyNow_216 rfl 217 rfl ?_
                              refine nw_iconst C (nI 1) dX4_manyNow_217 (by decide) 218 rfl ?_
                              refine nw_aload_n C 0 dX4_manyNow_218 rfl 219 rfl ?_
                              refine nw_get C hmX (T := TX4) rfl in_X4 6 (by decide) q1628 (Or.inl rfl) rfl dX4_manyNow_219 222 rfl ?_
                              refine nw_callF C (mJ3_size _ C.hfl d (am 1) ((sg_la σ).1) (fun k => am (100 + k)) (fun q => ro q = 7002) H201 hB hmLa.1) kJ3_size (ci := 13) rfl q1607 q1611 (by decide +kernel) fc_List_size (hmLa.1.is C) (As := []) (rest := [.int (nI 1), .ref a194, .ref a194]) rfl rfl ⟨⟨Nat.le_of_ble_eq_true rfl, Nat.le_of_ble_eq_true rfl⟩, Nat.le_of_ble_eq_true rfl, Nat.le_of_ble_eq_true rfl⟩ (Nat.le_of_ble_eq_true rfl) (fun _ h8 h9 => absurd h9 (Nat.not_le.mpr h8)) dX4_manyNow_222 227 rfl (nw_rdK ?_) nw_noX
                              refine nw_iastN C ho202 hn200 (by omega) dX4_manyNow_227 228 rfl (fun H205 ho206 hz207 hq208 => ?_)
                              replace hext := hext.put hz207 hq208 hn200
                              replace hW := hW0.ext hext.2
                              replace hE := C.E0.ext hext.2
                              replace hB := Nat.le_trans hB0 hext.1
                              clear hmX hmKi hmLa hmFo hmGu hmPo hmIn hmWi hmWo hmKe
                              obtain ⟨hmX, hmKi, hmLa, hmFo, hmGu, hmPo, hmIn, hmWi, hmWo, hmKe⟩ := id hW
                              refine nw_dup C dX4_manyNow_228 rfl 229 rfl ?_
                              refine nw_iconst C (nI 2) dX4_manyNow_229 (by decide) 230 rfl ?_
                              refine nw_iload_n C 2 dX4_manyNow_230 rfl 231 rfl ?_
                              refine nw_iastN C ho206 hn200 (by omega) dX4_manyNow_231 232 rfl (fun H209 ho210 hz211 hq212 => ?_)
                              replace hext := hext.put hz211 hq212 hn200
                              replace hW := hW0.ext hext.2
                              replace hE := C.E0.ext hext.2
                              replace hB := Nat.le_trans hB0 hext.1
                              clear hmX hmKi hmLa hmFo hmGu hmPo hmIn hmWi hmWo hmKe
                              obtain ⟨hmX, hmKi, hmLa, hmFo, hmGu, hmPo, hmIn, hmWi, hmWo, hmKe⟩ := id hW
                              refine nw_dup C dX4_manyNow_232 rfl 233 rfl ?_
                              refine nw_iconst C (nI 3) dX4_manyNow_233 (by decide) 234 rfl ?_
                              refine nw_aload_n C 0 dX4_manyNow_234 rfl 235 rfl ?_
                              refine nw_get C hmX (T := TX4) rfl in_X4 8 (by decide) q1630 (Or.inl rfl) rfl dX4_manyNow_235 238 rfl ?_
                              refine nw_callF C (mJ3_size _ C.hfl d (am 3) ((sg_gu σ).1) (fun k => am (300 + k)) (fun q => ro q = 7004) H209 hB hmGu.1) kJ3_size (ci := 13) rfl q1607 q1611 (by decide +kernel) fc_List_size (hmGu.1.is C) (As := []) (rest := [.int (nI 3), .ref a194, .ref a194]) rfl rfl ⟨⟨Nat.le_of_ble_eq_true rfl, Nat.le_of_ble_eq_true rfl⟩, Nat.le_of_ble_eq_true rfl, Nat.le_of_ble_eq_true rfl⟩ (Nat.le_of_ble_eq_true rfl) (fun _ h8 h9 => absurd h9 (Nat.not_le.mpr h8)) dX4_manyNow_238 243 rfl (nw_rdK ?_) nw_noX
                              refine nw_iastN C ho210 hn200 (by omega) dX4_manyNow_243 244 rfl (fun H213 ho214 hz215 hq216 => ?_)
                              replace hext := hext.put hz215 hq216 hn200
                              replace hW := hW0.ext hext.2
                              replace hE := C.E0.ext hext.2
                              replace hB := Nat.le_trans hB0 hext.1
                              clear hmX hmKi hmLa hmFo hmGu hmPo hmIn hmWi hmWo hmKe
                              obtain ⟨hmX, hmKi, hmLa, hmFo, hmGu, hmPo, hmIn, hmWi, hmWo, hmKe⟩ := id hW
                              refine nw_dup C dX4_manyNow_244 rfl 245 rfl ?_
                              refine nw_iconst C (nI 4) dX4_manyNow_245 (by decide) 246 rfl ?_
                              refine nw_aload_n C 0 dX4_manyNow_246 rfl 247 rfl ?_
                              refine nw_get C hmX (T := TX4) rfl in_X4 9 (by decide) q1631 (Or.inl rfl) rfl dX4_manyNow_247 250 rfl ?_
                              refine nw_callF C (mJ3_size _ C.hfl d (am 4) ((sg_po σ).1) (fun k => nd_bx d ((sg_po σ).2 k)) (fun q => ro q = 7005) H213 hB hmPo) kJ3_size (ci := 13) rfl q1607 q1611 (by decide +kernel) fc_List_size (hmPo.is C) (As := []) (rest := [.int (nI 4), .ref a194, .ref a194]) rfl rfl ⟨⟨Nat.le_of_ble_eq_true rfl, Nat.le_of_ble_eq_true rfl⟩, Nat.le_of_ble_eq_true rfl, Nat.le_of_ble_eq_true rfl⟩ (Nat.le_of_ble_eq_true rfl) (fun _ h8 h9 => absurd h9 (Nat.not_le.mpr h8)) dX4_manyNow_250 255 rfl (nw_rdK ?_) nw_noX
                              refine nw_iastN C ho214 hn200 (by omega) dX4_manyNow_255 256 rfl (fun H217 ho218 hz219 hq220 => ?_)
                              replace hext := hext.put hz219 hq220 hn200
                              replace hW := hW0.ext hext.2
                              replace hE := C.E0.ext hext.2
                              replace hB := Nat.le_trans hB0 hext.1
                              clear hmX hmKi hmLa hmFo hmGu hmPo hmIn hmWi hmWo hmKe
                              obtain ⟨hmX, hmKi, hmLa, hmFo, hmGu, hmPo, hmIn, hmWi, hmWo, hmKe⟩ := id hW
                              refine nw_dup C dX4_manyNow_256 rfl 257 rfl ?_
                              refine nw_iconst C (nI 5) dX4_manyNow_257 (by decide) 258 rfl ?_
                              refine nw_aload_n C 0 dX4_manyNow_258 rfl 259 rfl ?_
                              refine nw_get C hmX (T := TX4) rfl in_X4 17 (by decide) q1639 (Or.inl rfl) rfl dX4_manyNow_259 262 rfl ?_
                              refine nw_callF C (mJ3_size _ C.hfl d (am 5) ((sg_in σ).1) (fun k => am (500 + k)) (fun q => ro q = 7006) H217 hB hmIn.1) kJ3_size (ci := 13) rfl q1607 q1611 (by decide +kernel) fc_List_size (hmIn.1.is C) (As := []) (rest := [.int (nI 5), .ref a194, .ref a194]) rfl rfl ⟨⟨Nat.le_of_ble_eq_true rfl, Nat.le_of_ble_eq_true rfl⟩, Nat.le_of_ble_eq_true rfl, Nat.le_of_ble_eq_true rfl⟩ (Nat.le_of_ble_eq_true rfl) (fun _ h8 h9 => absurd h9 (Nat.not_le.mpr h8)) dX4_manyNow_262 267 rfl (nw_rdK ?_) nw_noX
                              refine nw_iastN C ho218 hn200 (by omega) dX4_manyNow_267 268 rfl (fun H221 ho222 hz223 hq224 => ?_)
                              replace hext := hext.put hz223 hq224 hn200
                              replace hW := hW0.ext hext.2
                              replace hE := C.E0.ext hext.2
                              replace hB := Nat.le_trans hB0 hext.1
                              clear hmX hmKi hmLa hmFo hmGu hmPo hmIn hmWi hmWo hmKe
                              obtain ⟨hmX, hmKi, hmLa, hmFo, hmGu, hmPo, hmIn, hmWi, hmWo, hmKe⟩ := id hW
                              refine nw_dup C dX4_manyNow_268 rfl 269 rfl ?_
                              refine nw_bipush C (nI 6) dX4_manyNow_269 (by decide) 271 rfl ?_
                              refine nw_iload_n C 3 dX4_manyNow_271 rfl 272 rfl ?_
                              refine nw_iastN C ho222 hn200 (by omega) dX4_manyNow_272 273 rfl (fun H225 ho226 hz227 hq228 => ?_)
                              replace hext := hext.put hz227 hq228 hn200
                              replace hW := hW0.ext hext.2
                              replace hE := C.E0.ext hext.2
                              replace hB := Nat.le_trans hB0 hext.1
                              clear hmX hmKi hmLa hmFo hmGu hmPo hmIn hmWi hmWo hmKe
                              obtain ⟨hmX, hmKi, hmLa, hmFo, hmGu, hmPo, hmIn, hmWi, hmWo, hmKe⟩ := id hW
                              refine nw_dup C dX4_manyNow_273 rfl 274 rfl ?_
                              refine nw_bipush C (nI 7) dX4_manyNow_274 (by decide) 276 rfl ?_
                              refine nw_aload_n C 0 dX4_manyNow_276 rfl 277 rfl ?_
                              refine nw_get C hmX (T := TX4) rfl in_X4 18 (by decide) q1640 (Or.inl rfl) rfl dX4_manyNow_277 280 rfl ?_
                              refine nw_callF C (mJ3_size _ C.hfl d (am 6) ((sg_wi σ).1) (fun k => am (700 + k)) (fun q => ro q = 7007) H225 hB hmWi.1) kJ3_size (ci := 13) rfl q1607 q1611 (by decide +kernel) fc_List_size (hmWi.1.is C) (As := []) (rest := [.int (nI 7), .ref a194, .ref a194]) rfl rfl ⟨⟨Nat.le_of_ble_eq_true rfl, Nat.le_of_ble_eq_true rfl⟩, Nat.le_of_ble_eq_true rfl, Nat.le_of_ble_eq_true rfl⟩ (Nat.le_of_ble_eq_true rfl) (fun _ h8 h9 => absurd h9 (Nat.not_le.mpr h8)) dX4_manyNow_280 285 rfl (nw_rdK ?_) nw_noX
                              refine nw_iastN C ho226 hn200 (by omega) dX4_manyNow_285 286 rfl (fun H229 ho230 hz231 hq232 => ?_)
                              replace hext := hext.put hz231 hq232 hn200
                              replace hW := hW0.ext hext.2
                              replace hE := C.E0.ext hext.2
                              replace hB := Nat.le_trans hB0 hext.1
                              clear hmX hmKi hmLa hmFo hmGu hmPo hmIn hmWi hmWo hmKe
                              obtain ⟨hmX, hmKi, hmLa, hmFo, hmGu, hmPo, hmIn, hmWi, hmWo, hmKe⟩ := id hW
                              refine nw_dup C dX4_manyNow_286 rfl 287 rfl ?_
                              refine nw_bipush C (nI 8) dX4_manyNow_287 (by decide) 289 rfl ?_
                              refine nw_iload C 4 dX4_manyNow_289 rfl 291 rfl ?_
                              refine nw_iastN C ho230 hn200 (by omega) dX4_manyNow_291 292 rfl (fun H233 ho234 hz235 hq236 => ?_)
                              replace hext := hext.put hz235 hq236 hn200
                              replace hW := hW0.ext hext.2
                              replace hE := C.E0.ext hext.2
                              replace hB := Nat.le_trans hB0 hext.1
                              clear hmX hmKi hmLa hmFo hmGu hmPo hmIn hmWi hmWo hmKe
                              obtain ⟨hmX, hmKi, hmLa, hmFo, hmGu, hmPo, hmIn, hmWi, hmWo, hmKe⟩ := id hW
                              refine nw_dup C dX4_manyNow_292 rfl 293 rfl ?_
                              refine nw_bipush C (nI 9) dX4_manyNow_293 (by decide) 295 rfl ?_
                              refine nw_aload_n C 0 dX4_manyNow_295 rfl 296 rfl ?_
                              refine nw_get C hmX (T := TX4) rfl in_X4 11 (by decide) q1633 (Or.inl rfl) rfl dX4_manyNow_296 299 rfl ?_
                              refine nw_iastN C ho234 hn200 (by omega) dX4_manyNow_299 300 rfl (fun H237 ho238 hz239 hq240 => ?_)
                              replace hext := hext.put hz239 hq240 hn200
                              replace hW := hW0.ext hext.2
                              replace hE := C.E0.ext hext.2
                              replace hB := Nat.le_trans hB0 hext.1
                              clear hmX hmKi hmLa hmFo hmGu hmPo hmIn hmWi hmWo hmKe
                              obtain ⟨hmX, hmKi, hmLa, hmFo, hmGu, hmPo, hmIn, hmWi, hmWo, hmKe⟩ := id hW
                              refine nw_dup C dX4_manyNow_300 rfl 301 rfl ?_
                              refine nw_bipush C (nI 10) dX4_manyNow_301 (by decide) 303 rfl ?_
                              refine nw_aload_n C 0 dX4_manyNow_303 rfl 304 rfl ?_
                              refine nw_get C hmX (T := TX4) rfl in_X4 15 (by decide) q1637 (Or.inl rfl) rfl dX4_manyNow_304 307 rfl ?_
                              refine nw_iastN C ho238 hn200 (by omega) dX4_manyNow_307 308 rfl (fun H241 ho242 hz243 hq244 => ?_)
                              replace hext := hext.put hz243 hq244 hn200
                              replace hW := hW0.ext hext.2
                              replace hE := C.E0.ext hext.2
                              replace hB := Nat.le_trans hB0 hext.1
                              clear hmX hmKi hmLa hmFo hmGu hmPo hmIn hmWi hmWo hmKe
                              obtain ⟨hmX, hmKi, hmLa, hmFo, hmGu, hmPo, hmIn, hmWi, hmWo, hmKe⟩ := id hW
                              refine nw_dup C dX4_manyNow_308 rfl 309 rfl ?_
                              refine nw_bipush C (nI 11) dX4_manyNow_309 (by decide) 311 rfl ?_
                              refine nw_iload C 5 dX4_manyNow_311 rfl 313 rfl ?_
                              refine nw_iastN C ho242 hn200 (by omega) dX4_manyNow_313 314 rfl (fun H245 ho246 hz247 hq248 => ?_)
                              replace hext := hext.put hz247 hq248 hn200
                              replace hW := hW0.ext hext.2
                              replace hE := C.E0.ext hext.2
                              replace hB := Nat.le_trans hB0 hext.1
                              clear hmX hmKi hmLa hmFo hmGu hmPo hmIn hmWi hmWo hmKe
                              obtain ⟨hmX, hmKi, hmLa, hmFo, hmGu, hmPo, hmIn, hmWi, hmWo, hmKe⟩ := id hW
                              refine nw_dup C dX4_manyNow_314 rfl 315 rfl ?_
                              refine nw_bipush C (nI 12) dX4_manyNow_315 (by decide) 317 rfl ?_
                              refine nw_aload_n C 0 dX4_manyNow_317 rfl 318 rfl ?_
                              refine nw_get C hmX (T := TX4) rfl in_X4 19 (by decide) q1641 (Or.inl rfl) rfl dX4_manyNow_318 321 rfl ?_
                              refine nw_iastN C ho246 hn200 (by omega) dX4_manyNow_321 322 rfl (fun H249 ho250 hz251 hq252 => ?_)
                              replace hext := hext.put hz251 hq252 hn200
                              replace hW := hW0.ext hext.2
                              replace hE := C.E0.ext hext.2
                              replace hB := Nat.le_trans hB0 hext.1
                              clear hmX hmKi hmLa hmFo hmGu hmPo hmIn hmWi hmWo hmKe
                              obtain ⟨hmX, hmKi, hmLa, hmFo, hmGu, hmPo, hmIn, hmWi, hmWo, hmKe⟩ := id hW
                              refine nw_astore C [(6, .ref a194), (0, .ref y), (1, .int (nI q)), (2, .int (nI m1)), (3, .int (nI m2)), (4, .int (nI m3)), (5, .int (nI m4))] dX4_manyNow_322 (by decide) rfl 324 rfl ?_
                              refine nw_aload C 0 dX4_manyNow_324 rfl 326 rfl ?_
                              refine nw_iload_n C 2 dX4_manyNow_326 rfl 327 rfl ?_
                              refine nw_ialdN C ((upd (upd (upd (upd (upd (upd (upd (upd (upd (upd (upd (upd (upd (fun _ => 0) 0 (nI (gr_n (sg_gr σ)))) 1 (nI ((sg_la σ).1))) 2 (nI m1)) 3 (nI ((sg_gu σ).1))) 4 (nI ((sg_po σ).1))) 5 (nI ((sg_in σ).1))) 6 (nI m2)) 7 (nI ((sg_wi σ).1))) 8 (nI m3)) 9 (nI (wo_m (sg_wo σ)))) 10 (nI (sg_ri σ))) 11 (nI m4)) 12 (nI (sg_rf σ))) q) ho250 (by omega) rfl dX4_manyNow_327 328 rfl ?_
                              exact nw_iret C dX4_manyNow_328 (by omega) (by omega) ⟨by rcases (show q = 0 ∨ q = 1 ∨ q = 2 ∨ q = 3 ∨ q = 4 ∨ q = 5 ∨ q = 6 ∨ q = 7 ∨ q = 8 ∨ q = 9 ∨ q = 10 ∨ q = 11 ∨ q = 12 by omega) with rfl | rfl | rfl | rfl | rfl | rfl | rfl | rfl | rfl | rfl | rfl | rfl | rfl <;> simp [upd, sp_manyNow, hL, hK] <;> first | rfl | (rw [hF rfl]) | (rw [hEm rfl]), hext⟩
                            · refine nw_iload C 5 dX4_manyNow_178 rfl 180 rfl ?_
                              refine nw_aload_n C 0 dX4_manyNow_180 rfl 181 rfl ?_
                              refine nw_iload C 6 dX4_manyNow_181 rfl 183 rfl ?_
                              refine nw_iconst C (nI 4) dX4_manyNow_183 (by decide) 184 rfl ?_
                              refine nw_callV C (mX4_minuteNow _ C.hfl d ro am y σ th i4 4 H hB hW okM (by omega) (by omega)) kX4_minuteNow q1880 (hmX.is C (ci := 9) rfl) (As := [.int (nI i4), .int (nI 4)]) (rest := [.int (nI m4)]) rfl rfl ⟨⟨Nat.le_of_ble_eq_true rfl, Nat.le_of_ble_eq_true rfl⟩, Nat.le_of_ble_eq_true rfl, Nat.le_of_ble_eq_true rfl⟩ (Nat.le_of_ble_eq_true rfl) (fun _ h8 h9 => absurd h9 (Nat.not_le.mpr h8)) dX4_manyNow_184 187 rfl (nw_rdK ?_) nw_noX
                              have hmn9 : sp_minuteNow σ i4 4 = sp_emptyPosts (sg_gu σ) (sg_po σ) i4 := rfl
                              rw [hmn9]
                              have hep : sp_emptyPosts (sg_gu σ) (sg_po σ) i4 ≤ 4 := by have := sp_cnt_le (fun k => sp_empty (sg_gu σ) ((sg_po σ).2 k) i4) (sg_po σ).1; have h8 := okp.1; unfold sp_emptyPosts; omega
                              refine nw_ifleN C (by omega) 194 dX4_manyNow_187 (by decide) 190 rfl (fun h253 => ?_) (fun h253 => ?_)
                              · refine nw_iconst C (nI 0) dX4_manyNow_194 (by decide) 195 rfl ?_
                                refine nw_iaddN C dX4_manyNow_195 196 rfl ?_
                                refine nw_istore C [(5, .int (nI (m4 + 0))), (0, .ref y), (1, .int (nI q)), (2, .int (nI m1)), (3, .int (nI m2)), (4, .int (nI m3)), (6, .int (nI i4))] dX4_manyNow_196 (by decide) rfl 198 rfl ?_
                                refine nw_iincN C 6 (c0 := 1) [(6, .int (nI (i4 + 1))), (5, .int (nI (m4 + 0))), (0, .ref y), (1, .int (nI q)), (2, .int (nI m1)), (3, .int (nI m2)), (4, .int (nI m3))] dX4_manyNow_198 rfl (by decide) rfl 201 rfl ?_
                                refine nw_goto C 164 dX4_manyNow_201 (by decide) ?_
                                exact nw_wide (by omega) (by omega) (nw_sub [2, 3, 4, 5, 6, 1, 0] rfl (ih_lp4 (i4 + 1) m4 (by omega) (by rw [sp_cnt_f (p := (fun t => decide (0 < sp_emptyPosts (sg_gu σ) (sg_po σ) t))) (n := i4) (by simp [h253])]; omega) (fun e9 => absurd h193 e9) (by omega)))
                              · refine nw_iconst C (nI 1) dX4_manyNow_190 (by decide) 191 rfl ?_
                                refine nw_goto C 195 dX4_manyNow_191 (by decide) ?_
                                refine nw_iaddN C dX4_manyNow_195 196 rfl ?_
                                refine nw_istore C [(5, .int (nI (m4 + 1))), (0, .ref y), (1, .int (nI q)), (2, .int (nI m1)), (3, .int (nI m2)), (4, .int (nI m3)), (6, .int (nI i4))] dX4_manyNow_196 (by decide) rfl 198 rfl ?_
                                refine nw_iincN C 6 (c0 := 1) [(6, .int (nI (i4 + 1))), (5, .int (nI (m4 + 1))), (0, .ref y), (1, .int (nI q)), (2, .int (nI m1)), (3, .int (nI m2)), (4, .int (nI m3))] dX4_manyNow_198 rfl (by decide) rfl 201 rfl ?_
                                refine nw_goto C 164 dX4_manyNow_201 (by decide) ?_
                                exact nw_wide (by omega) (by omega) (nw_sub [2, 3, 4, 5, 6, 1, 0] rfl (ih_lp4 (i4 + 1) (m4 + 1) (by omega) (by rw [sp_cnt_t (p := (fun t => decide (0 < sp_emptyPosts (sg_gu σ) (sg_po σ) t))) (n := i4) (by simp [h253])]; omega) (fun e9 => absurd h193 e9) (by omega)))
                      exact nw_wide (by omega) (by omega) (nw_sub [1, 2, 3, 4, 5, 6, 0] rfl (lp4 _ 0 0 (Nat.zero_le _) rfl (fun _ => rfl) (Nat.lt_succ_self _)))
                    · refine nw_aload C 6 dX4_manyNow_132 rfl 134 rfl ?_
                      refine nw_iload C 8 dX4_manyNow_134 rfl 136 rfl ?_
                      refine nw_ialdN C (oI (sg_ke σ i3)) hmKe (by omega) rfl dX4_manyNow_136 137 rfl ?_
                      refine nw_istore C [(9, .int (oI (sg_ke σ i3))), (0, .ref y), (1, .int (nI q)), (2, .int (nI m1)), (3, .int (nI m2)), (4, .int (nI m3)), (5, .int (nI 0)), (6, .ref (am 8)), (7, .int (nI 6)), (8, .int (nI i3))] dX4_manyNow_137 (by decide) rfl 139 rfl ?_
                      generalize hok9 : sg_ke σ i3 = ok9
                      rcases ok9 with _ | kk9
                      · show nwV X _ _ 10 H 0 0 139 [(9, .int (oI none)), (0, .ref y), (1, .int (nI q)), (2, .int (nI m1)), (3, .int (nI m2)), (4, .int (nI m3)), (5, .int (nI 0)), (6, .ref (am 8)), (7, .int (nI 6)), (8, .int (nI i3))] []
                        refine nw_iload C 5 dX4_manyNow_139 rfl 141 rfl ?_
                        refine nw_iload C 0 dX4_manyNow_141 rfl 143 rfl ?_
                        refine nw_iconst C (oI none) dX4_manyNow_143 (by decide) 144 rfl ?_
                        refine nw_icmpneF C rfl 151 dX4_manyNow_144 (by decide) 147 rfl ?_
                        refine nw_iconst C (nI 0) dX4_manyNow_147 (by decide) 148 rfl ?_
                        refine nw_goto C 152 dX4_manyNow_148 (by decide) ?_
                        refine nw_iaddN C dX4_manyNow_152 153 rfl ?_
                        refine nw_istore C [(4, .int (nI (m3 + 0))), (9, .int (oI none)), (0, .ref y), (1, .int (nI q)), (2, .int (nI m1)), (3, .int (nI m2)), (5, .int (nI 0)), (6, .ref (am 8)), (7, .int (nI 6)), (8, .int (nI i3))] dX4_manyNow_153 (by decide) rfl 155 rfl ?_
                        refine nw_iincN C 9 (c0 := 1) [(8, .int (nI (i3 + 1))), (4, .int (nI (m3 + 0))), (9, .int (oI none)), (0, .ref y), (1, .int (nI q)), (2, .int (nI m1)), (3, .int (nI m2)), (5, .int (nI 0)), (6, .ref (am 8)), (7, .int (nI 6))] dX4_manyNow_155 rfl (by decide) rfl 158 rfl ?_
                        refine nw_goto C 125 dX4_manyNow_158 (by decide) ?_
                        exact nw_wide (by omega) (by omega) (nw_sub [3, 4, 5, 6, 1, 7, 8, 9, 0] rfl (ih_lp3 (i3 + 1) m3 (by omega) (by rw [sp_cnt_f (p := (fun k => (sg_ke σ k).isSome)) (n := i3) (by simp [hok9])]; omega) (by omega)))
                      · show nwV X _ _ 10 H 0 0 139 [(9, .int (nI kk9)), (0, .ref y), (1, .int (nI q)), (2, .int (nI m1)), (3, .int (nI m2)), (4, .int (nI m3)), (5, .int (nI 0)), (6, .ref (am 8)), (7, .int (nI 6)), (8, .int (nI i3))] []
                        have hgk := okk i3 (by omega) kk9 hok9
                        refine nw_iload C 5 dX4_manyNow_139 rfl 141 rfl ?_
                        refine nw_iload C 0 dX4_manyNow_141 rfl 143 rfl ?_
                        refine nw_iconst C (oI none) dX4_manyNow_143 (by decide) 144 rfl ?_
                        refine nw_icmpneT C (nI_m1 (by omega)) 151 dX4_manyNow_144 (by decide) ?_
                        refine nw_iconst C (nI 1) dX4_manyNow_151 (by decide) 152 rfl ?_
                        refine nw_iaddN C dX4_manyNow_152 153 rfl ?_
                        refine nw_istore C [(4, .int (nI (m3 + 1))), (9, .int (nI kk9)), (0, .ref y), (1, .int (nI q)), (2, .int (nI m1)), (3, .int (nI m2)), (5, .int (nI 0)), (6, .ref (am 8)), (7, .int (nI 6)), (8, .int (nI i3))] dX4_manyNow_153 (by decide) rfl 155 rfl ?_
                        refine nw_iincN C 9 (c0 := 1) [(8, .int (nI (i3 + 1))), (4, .int (nI (m3 + 1))), (9, .int (nI kk9)), (0, .ref y), (1, .int (nI q)), (2, .int (nI m1)), (3, .int (nI m2)), (5, .int (nI 0)), (6, .ref (am 8)), (7, .int (nI 6))] dX4_manyNow_155 rfl (by decide) rfl 158 rfl ?_
                        refine nw_goto C 125 dX4_manyNow_158 (by decide) ?_
                        exact nw_wide (by omega) (by omega) (nw_sub [3, 4, 5, 6, 1, 7, 8, 9, 0] rfl (ih_lp3 (i3 + 1) (m3 + 1) (by omega) (by rw [sp_cnt_t (p := (fun k => (sg_ke σ k).isSome)) (n := i3) (by simp [hok9])]; omega) (by omega)))
                exact nw_wide (by omega) (by omega) (nw_sub [3, 4, 5, 6, 7, 8, 2, 1, 0] rfl (lp3 _ 0 0 (Nat.zero_le _) rfl (Nat.lt_succ_self _)))
              · refine nw_iload_n C 3 dX4_manyNow_75 rfl 76 rfl ?_
                refine nw_aload_n C 0 dX4_manyNow_76 rfl 77 rfl ?_
                refine nw_aload_n C 0 dX4_manyNow_77 rfl 78 rfl ?_
                refine nw_get C hmX (T := TX4) rfl in_X4 17 (by decide) q1639 (Or.inl rfl) rfl dX4_manyNow_78 81 rfl ?_
                refine nw_iload C 6 dX4_manyNow_81 rfl 83 rfl ?_
                refine nw_callF C (mJ3_get _ C.hfl d (am 5) ((sg_in σ).1) (fun k => am (500 + k)) (fun q => ro q = 7006) i2 H hB hmIn.1 (by omega)) kJ3_get (ci := 13) rfl q1615 q1618 (by decide +kernel) fc_List_get (hmIn.1.is C) (As := [.int (nI i2)]) (rest := [.ref y, .int (nI m2)]) rfl rfl ⟨⟨Nat.le_of_ble_eq_true rfl, Nat.le_of_ble_eq_true rfl⟩, Nat.le_of_ble_eq_true rfl, Nat.le_of_ble_eq_true rfl⟩ (Nat.le_of_ble_eq_true rfl) (fun _ h8 h9 => absurd h9 (Nat.not_le.mpr h8)) dX4_manyNow_83 88 rfl (nw_rdK ?_) nw_noX
                have hg256 : nwMIn d (am (500 + i2)) (am (600 + i2)) ((sg_in σ).2 i2) H := hmIn.2 i2 (by omega)
                have hk257 : okI1 (sg_gr σ) ((sg_in σ).2 i2) := oki.2 i2 (by omega)
                have hg258 : nwO d (am (500 + i2)) 11 [.int (nI (in_a ((sg_in σ).2 i2))), .int (nI (in_v ((sg_in σ).2 i2))), .ref (am (600 + i2)), .int (nI (in_s ((sg_in σ).2 i2))), .int (oI (in_l ((sg_in σ).2 i2)))] H := hg256.1
                refine nw_cast C (ci := 11) rfl (hg258.is C (ci := 11) rfl) q1713 dX4_manyNow_88 91 rfl ?_
                refine nw_callV C (mX4_foundNow _ C.hfl d ro am y σ th (am (500 + i2)) (am (600 + i2)) ((sg_in σ).2 i2) H hB hW okM hg256 hk257) kX4_foundNow q1988 (hmX.is C (ci := 9) rfl) (As := [.ref (am (500 + i2))]) (rest := [.int (nI m2)]) rfl rfl ⟨⟨Nat.le_of_ble_eq_true rfl, Nat.le_of_ble_eq_true rfl⟩, Nat.le_of_ble_eq_true rfl, Nat.le_of_ble_eq_true rfl⟩ (Nat.le_of_ble_eq_true rfl) (fun _ h8 h9 => absurd h9 (Nat.not_le.mpr h8)) dX4_manyNow_91 94 rfl (nw_rdK ?_) nw_noX
                generalize hof : sp_foundS σ ((sg_in σ).2 i2) = of
                rcases of with _ | ff
                · show nwV X _ _ 10 H 0 0 94 [(0, .ref y), (1, .int (nI q)), (2, .int (nI m1)), (3, .int (nI m2)), (4, .int (nI 0)), (5, .int (nI 0)), (6, .int (nI i2))] [.int (oI none), .int (nI m2)]
                  refine nw_iconst C (oI none) dX4_manyNow_94 (by decide) 95 rfl ?_
                  refine nw_icmpneF C rfl 102 dX4_manyNow_95 (by decide) 98 rfl ?_
                  refine nw_iconst C (nI 0) dX4_manyNow_98 (by decide) 99 rfl ?_
                  refine nw_goto C 103 dX4_manyNow_99 (by decide) ?_
                  refine nw_iaddN C dX4_manyNow_103 104 rfl ?_
                  refine nw_istore_n C [(3, .int (nI (m2 + 0))), (0, .ref y), (1, .int (nI q)), (2, .int (nI m1)), (4, .int (nI 0)), (5, .int (nI 0)), (6, .int (nI i2))] dX4_manyNow_104 (by decide) rfl 105 rfl ?_
                  refine nw_iincN C 6 (c0 := 1) [(6, .int (nI (i2 + 1))), (3, .int (nI (m2 + 0))), (0, .ref y), (1, .int (nI q)), (2, .int (nI m1)), (4, .int (nI 0)), (5, .int (nI 0))] dX4_manyNow_105 rfl (by decide) rfl 108 rfl ?_
                  refine nw_goto C 55 dX4_manyNow_108 (by decide) ?_
                  exact nw_wide (by omega) (by omega) (nw_sub [2, 3, 4, 1, 5, 6, 0] rfl (ih_lp2 (i2 + 1) m2 (by omega) (by rw [sp_cnt_f (p := (fun k => (sp_foundS σ ((sg_in σ).2 k)).isSome)) (n := i2) (by simp [hof])]; omega) (fun e9 => absurd h131 e9) (by omega)))
                · show nwV X _ _ 10 H 0 0 94 [(0, .ref y), (1, .int (nI q)), (2, .int (nI m1)), (3, .int (nI m2)), (4, .int (nI 0)), (5, .int (nI 0)), (6, .int (nI i2))] [.int (nI ff), .int (nI m2)]
                  have hff9 := sp_foundS_in hof
                  refine nw_iconst C (oI none) dX4_manyNow_94 (by decide) 95 rfl ?_
                  refine nw_icmpneT C (nI_m1 (by omega)) 102 dX4_manyNow_95 (by decide) ?_
                  refine nw_iconst C (nI 1) dX4_manyNow_102 (by decide) 103 rfl ?_
                  refine nw_iaddN C dX4_manyNow_103 104 rfl ?_
                  refine nw_istore_n C [(3, .int (nI (m2 + 1))), (0, .ref y), (1, .int (nI q)), (2, .int (nI m1)), (4, .int (nI 0)), (5, .int (nI 0)), (6, .int (nI i2))] dX4_manyNow_104 (by decide) rfl 105 rfl ?_
                  refine nw_iincN C 6 (c0 := 1) [(6, .int (nI (i2 + 1))), (3, .int (nI (m2 + 1))), (0, .ref y), (1, .int (nI q)), (2, .int (nI m1)), (4, .int (nI 0)), (5, .int (nI 0))] dX4_manyNow_105 rfl (by decide) rfl 108 rfl ?_
                  refine nw_goto C 55 dX4_manyNow_108 (by decide) ?_
                  exact nw_wide (by omega) (by omega) (nw_sub [2, 3, 4, 1, 5, 6, 0] rfl (ih_lp2 (i2 + 1) (m2 + 1) (by omega) (by rw [sp_cnt_t (p := (fun k => (sp_foundS σ ((sg_in σ).2 k)).isSome)) (n := i2) (by simp [hof])]; omega) (fun e9 => absurd h131 e9) (by omega)))
        exact nw_wide (by omega) (by omega) (nw_sub [1, 2, 3, 4, 5, 6, 0] rfl (lp2 _ 0 0 (Nat.zero_le _) rfl (fun _ => rfl) (Nat.lt_succ_self _)))
      · refine nw_iload_n C 2 dX4_manyNow_27 rfl 28 rfl ?_
        refine nw_aload_n C 0 dX4_manyNow_28 rfl 29 rfl ?_
        refine nw_get C hmX (T := TX4) rfl in_X4 6 (by decide) q1628 (Or.inl rfl) rfl dX4_manyNow_29 32 rfl ?_
        refine nw_iload C 6 dX4_manyNow_32 rfl 34 rfl ?_
        refine nw_callF C (mJ3_get _ C.hfl d (am 1) ((sg_la σ).1) (fun k => am (100 + k)) (fun q => ro q = 7002) i1 H hB hmLa.1 (by omega)) kJ3_get (ci := 13) rfl q1615 q1618 (by decide +kernel) fc_List_get (hmLa.1.is C) (As := [.int (nI i1)]) (rest := [.int (nI m1)]) rfl rfl ⟨⟨Nat.le_of_ble_eq_true rfl, Nat.le_of_ble_eq_true rfl⟩, Nat.le_of_ble_eq_true rfl, Nat.le_of_ble_eq_true rfl⟩ (Nat.le_of_ble_eq_true rfl) (fun _ h8 h9 => absurd h9 (Nat.not_le.mpr h8)) dX4_manyNow_34 39 rfl (nw_rdK ?_) nw_noX
        have hg261 : nwI d (am (100 + i1)) 0 3 (fn3 (nI (((sg_la σ).2 i1).1)) (nI (((sg_la σ).2 i1).2.1)) (b2i (((sg_la σ).2 i1).2.2))) H := hmLa.2 i1 (by omega)
        refine nw_castI C hg261 q1710 dX4_manyNow_39 42 rfl ?_
        refine nw_iconst C (nI 2) dX4_manyNow_42 (by decide) 43 rfl ?_
        refine nw_ialdN C (b2i (((sg_la σ).2 i1).2.2)) hg261 (by omega) rfl dX4_manyNow_43 44 rfl ?_
        refine nw_iadd C (nI (m1 + if ((sg_la σ).2 i1).2.2 = true then 1 else 0)) dX4_manyNow_44 (nw_addB _ _) 45 rfl ?_
        refine nw_istore_n C [(2, .int (nI (m1 + if ((sg_la σ).2 i1).2.2 = true then 1 else 0))), (0, .ref y), (1, .int (nI q)), (3, .int (nI 0)), (4, .int (nI 0)), (5, .int (nI 0)), (6, .int (nI i1))] dX4_manyNow_45 (by decide) rfl 46 rfl ?_
        refine nw_iincN C 6 (c0 := 1) [(6, .int (nI (i1 + 1))), (2, .int (nI (m1 + if ((sg_la σ).2 i1).2.2 = true then 1 else 0))), (0, .ref y), (1, .int (nI q)), (3, .int (nI 0)), (4, .int (nI 0)), (5, .int (nI 0))] dX4_manyNow_46 rfl (by decide) rfl 49 rfl ?_
        refine nw_goto C 13 dX4_manyNow_49 (by decide) ?_
        exact nw_wide (by omega) (by omega) (nw_sub [2, 3, 1, 4, 5, 6, 0] rfl (ih_lp1 (i1 + 1) (m1 + if ((sg_la σ).2 i1).2.2 = true then 1 else 0) (by omega) (by rw [sp_cnt, hm1]) (by omega)))
  exact nw_wide (by omega) (by omega) (nw_sub [5, 6, 4, 3, 2, 1, 0] rfl (lp1 _ 0 0 (Nat.zero_le _) rfl (Nat.lt_succ_self _)))
