/-! ===== the reference: the checksum ===== -/
set_option maxHeartbeats 4000000 in
theorem mX4_digest (l : Launch) (hf : l.flags = flags0) (d : nwD) (ro am : Nat → Nat) (y : Nat) (σ : spSg) (th : Int32) (H : Heap) (hB : nd_B d ≤ H.size) (hR : nwMW d ro am y σ th H) (ok : spOk σ) : nwMt l d yX4_digest cX4_digest 5 (some .long) 10 230 499 28303 [.ref y] H (fun v H1 => v = some (.long (sp_digest σ)) ∧ H.size ≤ H1.size ∧ nwMW d ro am y σ (nI 0) H1) nwNo (nwAM ro H) := by
  refine nw_start "NightwatchWallModel" "digest" hf (by decide +kernel) rfl rfl (fun _ h => Or.inr h) (nwAM_B hR hB) (Nat.le_of_ble_eq_true rfl) ?_
  intro X C
  have hW := hR.wc
  have okM := ok.m
  have hyB := (hR.ok0 (show ro y ≠ 0 by rw [hR.2.1.2]; decide)).1
  have hAy : nwAM ro H y := Or.inl (by rw [hR.2.1.2]; decide +kernel)
  have hW0 := hW
  have hB0 := hB
  have hE := C.E0
  have hext : nwExt H H := nwExt.rfl
  obtain ⟨hmX, hmKi, hmLa, hmFo, hmGu, hmPo, hmIn, hmWi, hmWo, hmKe⟩ := id hW
  obtain ⟨okg, okl, okf, oku, okp, oki, okw, okd, okk, oka⟩ := id ok
  have hn64 : gr_n (sg_gr σ) ≤ 64 := okg.n
  have oku1 := oku.1
  have oki1 := oki.1
  have okp1 := okp.1
  have okw1 := okw.1
  have okl1 := okl.1
  have okf1 := okf.1
  show nwV X _ _ 5 H 0 0 0 [(0, .ref y)] []
  refine nw_aload_n C 0 dX4_digest_0 rfl 1 rfl ?_
  refine nw_iconst C (nI 0) dX4_digest_1 (by decide) 2 rfl ?_
  refine nw_put C hmX hAy (T := TX4) (ty0 := tyX4) rfl in_X4 tyX4_ok nmX4 0 (by decide) q1622 (Or.inl rfl) rfl rfl rfl (Nat.le_of_ble_eq_true rfl) dX4_digest_2 5 rfl (fun H8 ho9 hz10 hq11 => ?_)
  have ho9 : nwO d y 9 [.int (nI 0), .int (nI (gr_w (sg_gr σ))), .int (nI (gr_h (sg_gr σ))), .ref (am 9), .int (nI (gaM_f (sg_ga σ))), .int (oI (gaM_t (sg_ga σ))), .ref (am 1), .ref (am 2), .ref (am 3), .ref (am 4), .int (nI (wo_s (sg_wo σ))), .int (nI (wo_m (sg_wo σ))), .int (nI (sp_after (wo_x (sg_wo σ)))), .ref (am 11), .ref (am 12), .int (nI (sg_ri σ)), .ref (am 8), .ref (am 5), .ref (am 6), .int (nI (sg_rf σ))] H8 := ho9
  replace hR := hR.th hz10 hq11 ho9
  have hzb : H8.size = H.size := hz10
  replace hB0 : nd_B d ≤ H8.size := by rw [hz10]; exact hB0
  replace hB := hB0
  replace hE := hE.kept (fun q9 _ hb9 => hq11 q9 (fun e9 => hb9 (by rw [e9]; exact hyB)))
  have hE0 := hE
  replace hW0 := hR.wc
  replace hW := hW0
  replace hext : nwExt H8 H8 := nwExt.rfl
  clear hmX hmKi hmLa hmFo hmGu hmPo hmIn hmWi hmWo hmKe
  obtain ⟨hmX, hmKi, hmLa, hmFo, hmGu, hmPo, hmIn, hmWi, hmWo, hmKe⟩ := id hW
  refine nw_ldc2 C q2097 dX4_digest_5 8 rfl ?_
  refine nw_lstore_n C [(1, .long 9241), (0, .ref y)] dX4_digest_8 (by decide) rfl 9 rfl ?_
  refine nw_iconst C (nI 0) dX4_digest_9 (by decide) 10 rfl ?_
  refine nw_istore_n C [(3, .int (nI 0)), (1, .long 9241), (0, .ref y)] dX4_digest_10 (by decide) rfl 11 rfl ?_
  have lp1 : ∀ (fu : Nat) (HL : Heap) (sm : Int64) (q : Nat), (nwExt H8 HL) → (q ≤ 13) → (sm = dg_L (fun q => nI (sp_manyNow σ q)) q 9241) → 13 - q < fu → nwV X (nwAM ro H) (nwQE X (fun v H1 => v = some (.long (sp_digest σ)) ∧ H.size ≤ H1.size ∧ nwMW d ro am y σ (nI 0) H1) nwNo (nwAM ro H) 499 28303) 5 HL q (13 * q) 11 [(0, .ref y), (1, .long sm), (3, .int (nI q))] [] := by
    intro fu
    induction fu with
    | zero => intro HL sm q _ _ _ hm; exact absurd hm (Nat.not_lt_zero _)
    | succ fu ih_lp1 =>
      intro HL sm q hext hq9 hdg hm
      replace hW := hW0.ext hext.2
      replace hE := hE0.ext hext.2
      replace hB := Nat.le_trans hB0 hext.1
      clear hmX hmKi hmLa hmFo hmGu hmPo hmIn hmWi hmWo hmKe
      obtain ⟨hmX, hmKi, hmLa, hmFo, hmGu, hmPo, hmIn, hmWi, hmWo, hmKe⟩ := id hW
      refine nw_iload_n C 2 dX4_digest_11 rfl 12 rfl ?_
      refine nw_bipush C (nI 12) dX4_digest_12 (by decide) 14 rfl ?_
      refine nw_icmpgtN C (by omega) 36 dX4_digest_14 (by decide) 17 rfl (fun h12 => ?_) (fun h12 => ?_)
      · have hd1 : sm = sp_d1 σ := by unfold sp_d1; rw [hdg, show q = 13 by omega]
        refine nw_wide (k' := 13) (n' := 169) (by omega) (by omega) ?_
        refine nw_iconst C (nI 0) dX4_digest_36 (by decide) 37 rfl ?_
        refine nw_istore_n C [(3, .int (nI 0)), (0, .ref y), (1, .long sm)] dX4_digest_37 (by decide) rfl 38 rfl ?_
        have lp2 : ∀ (fu : Nat) (HL : Heap) (sm : Int64) (m : Nat) (t : Nat), (nwExt H8 HL) → (m ≤ 4) → (t = 60 * m) → (sm = dg_F (fun m => dg_L (fun q => nI (sp_minuteNow σ (60 * m) q)) 7) m (sp_d1 σ)) → 4 - m < fu → nwV X (nwAM ro H) (nwQE X (fun v H1 => v = some (.long (sp_digest σ)) ∧ H.size ≤ H1.size ∧ nwMW d ro am y σ (nI 0) H1) nwNo (nwAM ro H) 499 28303) 5 HL 13 169 38 [(0, .ref y), (1, .long sm), (3, .int (nI t))] [] := by
          intro fu
          induction fu with
          | zero => intro HL sm m t _ _ _ _ hm; exact absurd hm (Nat.not_lt_zero _)
          | succ fu ih_lp2 =>
            intro HL sm m t hext hm4 ht hdg hm
            replace hW := hW0.ext hext.2
            replace hE := hE0.ext hext.2
            replace hB := Nat.le_trans hB0 hext.1
            clear hmX hmKi hmLa hmFo hmGu hmPo hmIn hmWi hmWo hmKe
            obtain ⟨hmX, hmKi, hmLa, hmFo, hmGu, hmPo, hmIn, hmWi, hmWo, hmKe⟩ := id hW
            refine nw_iload_n C 2 dX4_digest_38 rfl 39 rfl ?_
            refine nw_sipush C (nI 180) dX4_digest_39 (by decide) 42 rfl ?_
            refine nw_icmpgtN C (by omega) 82 dX4_digest_42 (by decide) 45 rfl (fun h13 => ?_) (fun h13 => ?_)
            · have hd2 : sm = sp_d2 σ := by unfold sp_d2; rw [hdg, show m = 4 by omega]
              refine nw_iconst C (nI 0) dX4_digest_82 (by decide) 83 rfl ?_
              refine nw_istore_n C [(3, .int (nI 0)), (0, .ref y), (1, .long sm)] dX4_digest_83 (by decide) rfl 84 rfl ?_
              have lp3 : ∀ (fu : Nat) (HL : Heap) (sm : Int64) (c : Nat), (nwExt H8 HL) → (c ≤ gr_n (sg_gr σ)) → (sm = dg_F (fun c => dg_L (fun q => sp_cellNow σ c 120 q) 5) c (sp_d2 σ)) → gr_n (sg_gr σ) - c < fu → nwV X (nwAM ro H) (nwQE X (fun v H1 => v = some (.long (sp_digest σ)) ∧ H.size ≤ H1.size ∧ nwMW d ro am y σ (nI 0) H1) nwNo (nwAM ro H) 499 28303) 5 HL 13 169 84 [(0, .ref y), (1, .long sm), (3, .int (nI c))] [] := by
                intro fu
                induction fu with
                | zero => intro HL sm c _ _ _ hm; exact absurd hm (Nat.not_lt_zero _)
                | succ fu ih_lp3 =>
                  intro HL sm c hext hc hdg hm
                  replace hW := hW0.ext hext.2
                  replace hE := hE0.ext hext.2
                  replace hB := Nat.le_trans hB0 hext.1
                  clear hmX hmKi hmLa hmFo hmGu hmPo hmIn hmWi hmWo hmKe
                  obtain ⟨hmX, hmKi, hmLa, hmFo, hmGu, hmPo, hmIn, hmWi, hmWo, hmKe⟩ := id hW
                  refine nw_iload_n C 2 dX4_digest_84 rfl 85 rfl ?_
                  refine nw_aload_n C 0 dX4_digest_85 rfl 86 rfl ?_
                  refine nw_get C hmX (T := TX4) rfl in_X4 3 (by decide) q1625 (Or.inl rfl) rfl dX4_digest_86 89 rfl ?_
                  refine nw_alenI C hmKi (by decide) dX4_digest_89 90 rfl ?_
                  refine nw_icmpgeN C (by omega) 131 dX4_digest_90 (by decide) 93 rfl (fun h14 => ?_) (fun h14 => ?_)
                  · have hd3 : sm = sp_d3 σ := by unfold sp_d3; rw [hdg, show c = gr_n (sg_gr σ) by omega]
                    refine nw_iconst C (nI 0) dX4_digest_131 (by decide) 132 rfl ?_
                    refine nw_istore_n C [(3, .int (nI 0)), (0, .ref y), (1, .long sm)] dX4_digest_132 (by decide) rfl 133 rfl ?_
                    have lp4 : ∀ (fu : Nat) (HL : Heap) (sm : Int64) (g : Nat), (nwExt H8 HL) → (g ≤ (sg_gu σ).1) → (sm = dg_F (fun g => dg_L (fun q => sp_guardNow σ g q) 9) g (sp_d3 σ)) → (sg_gu σ).1 - g < fu → nwV X (nwAM ro H) (nwQE X (fun v H1 => v = some (.long (sp_digest σ)) ∧ H.size ≤ H1.size ∧ nwMW d ro am y σ (nI 0) H1) nwNo (nwAM ro H) 499 28303) 5 HL (13 + 9 * g) (169 + 81 * g) 133 [(0, .ref y), (1, .long sm), (3, .int (nI g))] [] := by
                      intro fu
                      induction fu with
                      | zero => intro HL sm g _ _ _ hm; exact absurd hm (Nat.not_lt_zero _)
                      | succ fu ih_lp4 =>
                        intro HL sm g hext hg hdg hm
                        replace hW := hW0.ext hext.2
                        replace hE := hE0.ext hext.2
                        replace hB := Nat.le_trans hB0 hext.1
                        clear hmX hmKi hmLa hmFo hmGu hmPo hmIn hmWi hmWo hmKe
                        obtain ⟨hmX, hmKi, hmLa, hmFo, hmGu, hmPo, hmIn, hmWi, hmWo, hmKe⟩ := id hW
                        refine nw_iload_n C 2 dX4_digest_133 rfl 134 rfl ?_
                        refine nw_aload_n C 0 dX4_digest_134 rfl 135 rfl ?_
                        refine nw_get C hmX (T := TX4) rfl in_X4 8 (by decide) q1630 (Or.inl rfl) rfl dX4_digest_135 138 rfl ?_
                        refine nw_callF C (mJ3_size _ C.hfl d (am 3) ((sg_gu σ).1) (fun k => am (300 + k)) (fun q => ro q = 7004) HL hB hmGu.1) kJ3_size (ci := 13) rfl q1607 q1611 (by decide +kernel) fc_List_size (hmGu.1.is C) (As := []) (rest := [.int (nI g)]) rfl rfl ⟨⟨Nat.le_of_ble_eq_true rfl, Nat.le_of_ble_eq_true rfl⟩, (show (13 + 9 * g) + 0 ≤ 499 by omega), (show (169 + 81 * g) + 0 ≤ 28303 by omega)⟩ (Nat.le_of_ble_eq_true rfl) (fun _ h8 h9 => absurd h9 (Nat.not_le.mpr h8)) dX4_digest_138 143 rfl (nw_rdK ?_) nw_noX
                        refine nw_icmpgeN C (by omega) 183 dX4_digest_143 (by decide) 146 rfl (fun h15 => ?_) (fun h15 => ?_)
                        · have hd4 : sm = sp_d4 σ := by unfold sp_d4; rw [hdg, show g = (sg_gu σ).1 by omega]
                          refine nw_wide (k' := 67) (n' := 655) (by omega) (by omega) ?_
                          refine nw_iconst C (nI 0) dX4_digest_183 (by decide) 184 rfl ?_
                          refine nw_istore_n C [(3, .int (nI 0)), (0, .ref y), (1, .long sm)] dX4_digest_184 (by decide) rfl 185 rfl ?_
                          have lp5 : ∀ (fu : Nat) (HL : Heap) (sm : Int64) (p : Nat), (nwExt H8 HL) → (p ≤ (sg_po σ).1) → (sm = dg_F (fun p v => dg_add (dg_add v (sp_emptyNow (sg_gu σ) ((sg_po σ).2 p) true)) (sp_emptyNow (sg_gu σ) ((sg_po σ).2 p) false)) p (sp_d4 σ)) → (sg_po σ).1 - p < fu → nwV X (nwAM ro H) (nwQE X (fun v H1 => v = some (.long (sp_digest σ)) ∧ H.size ≤ H1.size ∧ nwMW d ro am y σ (nI 0) H1) nwNo (nwAM ro H) 499 28303) 5 HL 67 655 185 [(0, .ref y), (1, .long sm), (3, .int (nI p))] [] := by
                            intro fu
                            induction fu with
                            | zero => intro HL sm p _ _ _ hm; exact absurd hm (Nat.not_lt_zero _)
                            | succ fu ih_lp5 =>
                              intro HL sm p hext hp hdg hm
                              replace hW := hW0.ext hext.2
                              replace hE := hE0.ext hext.2
                              replace hB := Nat.le_trans hB0 hext.1
                              clear hmX hmKi hmLa hmFo hmGu hmPo hmIn hmWi hmWo hmKe
                              obtain ⟨hmX, hmKi, hmLa, hmFo, hmGu, hmPo, hmIn, hmWi, hmWo, hmKe⟩ := id hW
                              refine nw_iload_n C 2 dX4_digest_185 rfl 186 rfl ?_
                              refine nw_aload_n C 0 dX4_digest_186 rfl 187 rfl ?_
                              refine nw_get C hmX (T := TX4) rfl in_X4 9 (by decide) q1631 (Or.inl rfl) rfl dX4_digest_187 190 rfl ?_
                              refine nw_callF C (mJ3_size _ C.hfl d (am 4) ((sg_po σ).1) (fun k => nd_bx d ((sg_po σ).2 k)) (fun q => ro q = 7005) HL hB hmPo) kJ3_size (ci := 13) rfl q1607 q1611 (by decide +kernel) fc_List_size (hmPo.is C) (As := []) (rest := [.int (nI p)]) rfl rfl ⟨⟨Nat.le_of_ble_eq_true rfl, Nat.le_of_ble_eq_true rfl⟩, Nat.le_of_ble_eq_true rfl, Nat.le_of_ble_eq_true rfl⟩ (Nat.le_of_ble_eq_true rfl) (fun _ h8 h9 => absurd h9 (Nat.not_le.mpr h8)) dX4_digest_190 195 rfl (nw_rdK ?_) nw_noX
                              refine nw_icmpgeN C (by omega) 232 dX4_digest_195 (by decide) 198 rfl (fun h16 => ?_) (fun h16 => ?_)
                              · have hd5 : sm = sp_d5 σ := by unfold sp_d5; rw [hdg, show p = (sg_po σ).1 by omega]
                                refine nw_iconst C (nI 0) dX4_digest_232 (by decide) 233 rfl ?_
                                refine nw_istore_n C [(3, .int (nI 0)), (0, .ref y), (1, .long sm)] dX4_digest_233 (by decide) rfl 234 rfl ?_
                                have lp6 : ∀ (fu : Nat) (HL : Heap) (sm : Int64) (i : Nat), (nwExt H8 HL) → (i ≤ (sg_in σ).1) → (sm = dg_F (fun i => dg_L (fun q => sp_intrNow σ ((sg_in σ).2 i) q) 9) i (sp_d5 σ)) → (sg_in σ).1 - i < fu → nwV X (nwAM ro H) (nwQE X (fun v H1 => v = some (.long (sp_digest σ)) ∧ H.size ≤ H1.size ∧ nwMW d ro am y σ (nI 0) H1) nwNo (nwAM ro H) 499 28303) 5 HL (67 + 108 * i) (655 + 6912 * i) 234 [(0, .ref y), (1, .long sm), (3, .int (nI i))] [] := by
                                  intro fu
                                  induction fu with
                                  | zero => intro HL sm i _ _ _ hm; exact absurd hm (Nat.not_lt_zero _)
                                  | succ fu ih_lp6 =>
                                    intro HL sm i hext hi hdg hm
                                    replace hW := hW0.ext hext.2
                                    replace hE := hE0.ext hext.2
                                    replace hB := Nat.le_trans hB0 hext.1
                                    clear hmX hmKi hmLa hmFo hmGu hmPo hmIn hmWi hmWo hmKe
                                    obtain ⟨hmX, hmKi, hmLa, hmFo, hmGu, hmPo, hmIn, hmWi, hmWo, hmKe⟩ := id hW
                                    refine nw_iload_n C 2 dX4_digest_234 rfl 235 rfl ?_
                                    refine nw_aload_n C 0 dX4_digest_235 rfl 236 rfl ?_
                                    refine nw_get C hmX (T := TX4) rfl in_X4 17 (by decide) q1639 (Or.inl rfl) rfl dX4_digest_236 239 rfl ?_
                                    refine nw_callF C (mJ3_size _ C.hfl d (am 5) ((sg_in σ).1) (fun k => am (500 + k)) (fun q => ro q = 7006) HL hB hmIn.1) kJ3_size (ci := 13) rfl q1607 q1611 (by decide +kernel) fc_List_size (hmIn.1.is C) (As := []) (rest := [.int (nI i)]) rfl rfl ⟨⟨Nat.le_of_ble_eq_true rfl, Nat.le_of_ble_eq_true rfl⟩, (show (67 + 108 * i) + 0 ≤ 499 by omega), (show (655 + 6912 * i) + 0 ≤ 28303 by omega)⟩ (Nat.le_of_ble_eq_true rfl) (fun _ h8 h9 => absurd h9 (Nat.not_le.mpr h8)) dX4_digest_239 244 rfl (nw_rdK ?_) nw_noX
                                    refine nw_icmpgeN C (by omega) 284 dX4_digest_244 (by decide) 247 rfl (fun h17 => ?_) (fun h17 => ?_)
                                    · have hd6 : sm = sp_d6 σ := by unfold sp_d6; rw [hdg, show i = (sg_in σ).1 by omega]
                                      refine nw_wide (k' := 499) (n' := 28303) (by omega) (by omega) ?_
                                      refine nw_iconst C (nI 0) dX4_digest_284 (by decide) 285 rfl ?_
                                      refine nw_istore_n C [(3, .int (nI 0)), (0, .ref y), (1, .long sm)] dX4_digest_285 (by decide) rfl 286 rfl ?_
                                      have lp7 : ∀ (fu : Nat) (HL : Heap) (sm : Int64) (k : Nat), (nwExt H8 HL) → (k ≤ (sg_wi σ).1) → (sm = dg_F (fun i => dg_L (fun q => sp_wireNow (sg_in σ) ((sg_wi σ).2 i) q) 5) k (sp_d6 σ)) → (sg_wi σ).1 - k < fu → nwV X (nwAM ro H) (nwQE X (fun v H1 => v = some (.long (sp_digest σ)) ∧ H.size ≤ H1.size ∧ nwMW d ro am y σ (nI 0) H1) nwNo (nwAM ro H) 499 28303) 5 HL 499 28303 286 [(0, .ref y), (1, .long sm), (3, .int (nI k))] [] := by
                                        intro fu
                                        induction fu with
                                        | zero => intro HL sm k _ _ _ hm; exact absurd hm (Nat.not_lt_zero _)
                                        | succ fu ih_lp7 =>
                                          intro HL sm k hext hk hdg hm
                                          replace hW := hW0.ext hext.2
                                          replace hE := hE0.ext hext.2
                                          replace hB := Nat.le_trans hB0 hext.1
                                          clear hmX hmKi hmLa hmFo hmGu hmPo hmIn hmWi hmWo hmKe
                                          obtain ⟨hmX, hmKi, hmLa, hmFo, hmGu, hmPo, hmIn, hmWi, hmWo, hmKe⟩ := id hW
                                          refine nw_iload_n C 2 dX4_digest_286 rfl 287 rfl ?_
                                          refine nw_aload_n C 0 dX4_digest_287 rfl 288 rfl ?_
                                          refine nw_get C hmX (T := TX4) rfl in_X4 18 (by decide) q1640 (Or.inl rfl) rfl dX4_digest_288 291 rfl ?_
                                          refine nw_callF C (mJ3_size _ C.hfl d (am 6) ((sg_wi σ).1) (fun k => am (700 + k)) (fun q => ro q = 7007) HL hB hmWi.1) kJ3_size (ci := 13) rfl q1607 q1611 (by decide +kernel) fc_List_size (hmWi.1.is C) (As := []) (rest := [.int (nI k)]) rfl rfl ⟨⟨Nat.le_of_ble_eq_true rfl, Nat.le_of_ble_eq_true rfl⟩, Nat.le_of_ble_eq_true rfl, Nat.le_of_ble_eq_true rfl⟩ (Nat.le_of_ble_eq_true rfl) (fun _ h8 h9 => absurd h9 (Nat.not_le.mpr h8)) dX4_digest_291 296 rfl (nw_rdK ?_) nw_noX
                                          refine nw_icmpgeN C (by omega) 335 dX4_digest_296 (by decide) 299 rfl (fun h18 => ?_) (fun h18 => ?_)
                                          · have hd7 : sm = sp_d7 σ := by unfold sp_d7; rw [hdg, show k = (sg_wi σ).1 by omega]
                                            refine nw_lload_n C 1 dX4_digest_335 rfl 336 rfl ?_
                                            refine nw_ldc2 C q2098 dX4_digest_336 339 rfl ?_
                                            refine nw_lmul C dX4_digest_339 340 rfl ?_
                                            refine nw_aload_n C 0 dX4_digest_340 rfl 341 rfl ?_
                                            refine nw_callV C (mX4_isSoundNow _ C.hfl d ro am y σ (nI 0)  HL hB hW okM ) kX4_isSoundNow q2085 (hmX.is C (ci := 9) rfl) (As := []) (rest := [.long (sm * 31)]) rfl rfl ⟨⟨Nat.le_of_ble_eq_true rfl, Nat.le_of_ble_eq_true rfl⟩, Nat.le_of_ble_eq_true rfl, Nat.le_of_ble_eq_true rfl⟩ (Nat.le_of_ble_eq_true rfl) (fun _ h8 h9 => absurd h9 (Nat.not_le.mpr h8)) dX4_digest_341 344 rfl (nw_rdK ?_) nw_noX
                                            refine nw_ifeqB C 351 dX4_digest_344 (by decide) 347 rfl (fun h19 => ?_) (fun h19 => ?_)
                                            · refine nw_iconst C (nI 0) dX4_digest_351 (by decide) 352 rfl ?_
                                              refine nw_i2l C dX4_digest_352 353 rfl ?_
                                              refine nw_ladd C dX4_digest_353 354 rfl ?_
                                              have hfin : (sm * 31) + (Int32.toInt64 (nI 0)) = sp_digest σ := by unfold sp_digest; rw [← hd7, h19]; rfl
                                              exact nw_lret C dX4_digest_354 (by omega) (by omega) (by rw [hfin]; exact ⟨rfl, Nat.le_trans (Nat.le_of_eq hzb.symm) hext.1, hR.ext hext⟩)
                                            · refine nw_iconst C (nI 1) dX4_digest_347 (by decide) 348 rfl ?_
                                              refine nw_goto C 352 dX4_digest_348 (by decide) ?_
                                              refine nw_i2l C dX4_digest_352 353 rfl ?_
                                              refine nw_ladd C dX4_digest_353 354 rfl ?_
                                              have hfin : (sm * 31) + (Int32.toInt64 (nI 1)) = sp_digest σ := by unfold sp_digest; rw [← hd7, h19]; rfl
                                              exact nw_lret C dX4_digest_354 (by omega) (by omega) (by rw [hfin]; exact ⟨rfl, Nat.le_trans (Nat.le_of_eq hzb.symm) hext.1, hR.ext hext⟩)
                                          · refine nw_iconst C (nI 0) dX4_digest_299 (by decide) 300 rfl ?_
                                            refine nw_istore C [(4, .int (nI 0)), (0, .ref y), (1, .long sm), (3, .int (nI k))] dX4_digest_300 (by decide) rfl 302 rfl ?_
                                            have hdgo := hdg
                                            have lp20 : ∀ (fu : Nat) (HM : Heap) (sm : Int64) (q7 : Nat), (nwExt H8 HM) → (q7 ≤ 5) → (sm = dg_L (fun q => sp_wireNow (sg_in σ) ((sg_wi σ).2 k) q) q7 (dg_F (fun i => dg_L (fun q => sp_wireNow (sg_in σ) ((sg_wi σ).2 i) q) 5) k (sp_d6 σ))) → 5 - q7 < fu → nwV X (nwAM ro H) (nwQE X (fun v H1 => v = some (.long (sp_digest σ)) ∧ H.size ≤ H1.size ∧ nwMW d ro am y σ (nI 0) H1) nwNo (nwAM ro H) 499 28303) 5 HM 499 28303 302 [(0, .ref y), (1, .long sm), (3, .int (nI k)), (4, .int (nI q7))] [] := by
                                              intro fu
                                              induction fu with
                                              | zero => intro HM sm q7 _ _ _ hm; exact absurd hm (Nat.not_lt_zero _)
                                              | succ fu ih_lp20 =>
                                                intro HM sm q7 hext hq7 hdg hm
                                                replace hW := hW0.ext hext.2
                                                replace hE := hE0.ext hext.2
                                                replace hB := Nat.le_trans hB0 hext.1
                                                clear hmX hmKi hmLa hmFo hmGu hmPo hmIn hmWi hmWo hmKe
                                                obtain ⟨hmX, hmKi, hmLa, hmFo, hmGu, hmPo, hmIn, hmWi, hmWo, hmKe⟩ := id hW
                                                refine nw_iload C 3 dX4_digest_302 rfl 304 rfl ?_
                                                refine nw_iconst C (nI 4) dX4_digest_304 (by decide) 305 rfl ?_
                                                refine nw_icmpgtN C (by omega) 329 dX4_digest_305 (by decide) 308 rfl (fun h21 => ?_) (fun h21 => ?_)
                                                · refine nw_iincN C 2 (c0 := 1) [(3, .int (nI (k + 1))), (0, .ref y), (1, .long sm), (4, .int (nI q7))] dX4_digest_329 rfl (by decide) rfl 332 rfl ?_
                                                  refine nw_goto C 286 dX4_digest_332 (by decide) ?_
                                                  exact nw_wide (k' := 499) (n' := 28303) (by omega) (by omega) (nw_sub [1, 2, 0] rfl (ih_lp7 HM sm (k + 1) hext (by omega) (by rw [dg_F_s, hdg, show q7 = 5 by omega]) (by omega)))
                                                · refine nw_lload_n C 1 dX4_digest_308 rfl 309 rfl ?_
                                                  refine nw_ldc2 C q2098 dX4_digest_309 312 rfl ?_
                                                  refine nw_lmul C dX4_digest_312 313 rfl ?_
                                                  refine nw_aload_n C 0 dX4_digest_313 rfl 314 rfl ?_
                                                  refine nw_iload_n C 2 dX4_digest_314 rfl 315 rfl ?_
                                                  refine nw_iload C 3 dX4_digest_315 rfl 317 rfl ?_
                                                  refine nw_callV C (mX4_wireNow _ C.hfl d ro am y σ (nI 0) k q7 HM hB hW okM (by omega) (by omega)) kX4_wireNow q2012 (hmX.is C (ci := 9) rfl) (As := [.int (nI k), .int (nI q7)]) (rest := [.long (sm * 31)]) rfl rfl ⟨⟨Nat.le_of_ble_eq_true rfl, Nat.le_of_ble_eq_true rfl⟩, Nat.le_of_ble_eq_true rfl, Nat.le_of_ble_eq_true rfl⟩ (Nat.le_of_ble_eq_true rfl) (fun _ h8 h9 => absurd h9 (Nat.not_le.mpr h8)) dX4_digest_317 320 rfl (nw_rdK ?_) nw_noX
                                                  refine nw_i2l C dX4_digest_320 321 rfl ?_
                                                  refine nw_ladd C dX4_digest_321 322 rfl ?_
                                                  refine nw_lstore_n C [(1, .long ((sm * 31) + (Int32.toInt64 (sp_wireNow (sg_in σ) ((sg_wi σ).2 k) q7)))), (0, .ref y), (3, .int (nI k)), (4, .int (nI q7))] dX4_digest_322 (by decide) rfl 323 rfl ?_
                                                  refine nw_iincN C 3 (c0 := 1) [(4, .int (nI (q7 + 1))), (1, .long ((sm * 31) + (Int32.toInt64 (sp_wireNow (sg_in σ) ((sg_wi σ).2 k) q7)))), (0, .ref y), (3, .int (nI k))] dX4_digest_323 rfl (by decide) rfl 326 rfl ?_
                                                  refine nw_goto C 302 dX4_digest_326 (by decide) ?_
                                                  exact nw_wide (k' := 499) (n' := 28303) (by omega) (by omega) (nw_sub [2, 1, 3, 0] rfl (ih_lp20 HM ((sm * 31) + (Int32.toInt64 (sp_wireNow (sg_in σ) ((sg_wi σ).2 k) q7))) (q7 + 1) hext (by omega) (by rw [dg_L_s, ← hdg]) (by omega)))
                                            exact nw_wide (k' := 499) (n' := 28303) (by omega) (by omega) (nw_sub [1, 2, 3, 0] rfl (lp20 _ HL sm 0 hext (Nat.zero_le _) (hdgo.trans (dg_L_0 _ _).symm) (Nat.lt_succ_self _)))
                                      exact nw_wide (k' := 499) (n' := 28303) (by omega) (by omega) (nw_sub [1, 2, 0] rfl (lp7 _ HL sm 0 hext (Nat.zero_le _) (hd6.trans (dg_F_0 _ _).symm) (Nat.lt_succ_self _)))
                                    · refine nw_iconst C (nI 0) dX4_digest_247 (by decide) 248 rfl ?_
                                      refine nw_istore C [(4, .int (nI 0)), (0, .ref y), (1, .long sm), (3, .int (nI i))] dX4_digest_248 (by decide) rfl 250 rfl ?_
                                      have hdgo := hdg
                                      have lp22 : ∀ (fu : Nat) (HM : Heap) (sm : Int64) (q6 : Nat), (nwExt H8 HM) → (q6 ≤ 9) → (sm = dg_L (fun q => sp_intrNow σ ((sg_in σ).2 i) q) q6 (dg_F (fun i => dg_L (fun q => sp_intrNow σ ((sg_in σ).2 i) q) 9) i (sp_d5 σ))) → 9 - q6 < fu → nwV X (nwAM ro H) (nwQE X (fun v H1 => v = some (.long (sp_digest σ)) ∧ H.size ≤ H1.size ∧ nwMW d ro am y σ (nI 0) H1) nwNo (nwAM ro H) 499 28303) 5 HM (67 + 108 * i + 12 * q6) (655 + 6912 * i + 768 * q6) 250 [(0, .ref y), (1, .long sm), (3, .int (nI i)), (4, .int (nI q6))] [] := by
                                        intro fu
                                        induction fu with
                                        | zero => intro HM sm q6 _ _ _ hm; exact absurd hm (Nat.not_lt_zero _)
                                        | succ fu ih_lp22 =>
                                          intro HM sm q6 hext hq6 hdg hm
                                          replace hW := hW0.ext hext.2
                                          replace hE := hE0.ext hext.2
                                          replace hB := Nat.le_trans hB0 hext.1
                                          clear hmX hmKi hmLa hmFo hmGu hmPo hmIn hmWi hmWo hmKe
                                          obtain ⟨hmX, hmKi, hmLa, hmFo, hmGu, hmPo, hmIn, hmWi, hmWo, hmKe⟩ := id hW
                                          refine nw_iload C 3 dX4_digest_250 rfl 252 rfl ?_
                                          refine nw_bipush C (nI 8) dX4_digest_252 (by decide) 254 rfl ?_
                                          refine nw_icmpgtN C (by omega) 278 dX4_digest_254 (by decide) 257 rfl (fun h23 => ?_) (fun h23 => ?_)
                                          · refine nw_iincN C 2 (c0 := 1) [(3, .int (nI (i + 1))), (0, .ref y), (1, .long sm), (4, .int (nI q6))] dX4_digest_278 rfl (by decide) rfl 281 rfl ?_
                                            refine nw_goto C 234 dX4_digest_281 (by decide) ?_
                                            exact nw_wide (k' := 67 + 108 * (i + 1)) (n' := 655 + 6912 * (i + 1)) (by omega) (by omega) (nw_sub [1, 2, 0] rfl (ih_lp6 HM sm (i + 1) hext (by omega) (by rw [dg_F_s, hdg, show q6 = 9 by omega]) (by omega)))
                                          · refine nw_lload_n C 1 dX4_digest_257 rfl 258 rfl ?_
                                            refine nw_ldc2 C q2098 dX4_digest_258 261 rfl ?_
                                            refine nw_lmul C dX4_digest_261 262 rfl ?_
                                            refine nw_aload_n C 0 dX4_digest_262 rfl 263 rfl ?_
                                            refine nw_iload_n C 2 dX4_digest_263 rfl 264 rfl ?_
                                            refine nw_iload C 3 dX4_digest_264 rfl 266 rfl ?_
                                            refine nw_callV C (mX4_intruderNow _ C.hfl d ro am y σ (nI 0) i q6 HM hB hW okM (by omega) (by omega)) kX4_intruderNow q1984 (hmX.is C (ci := 9) rfl) (As := [.int (nI i), .int (nI q6)]) (rest := [.long (sm * 31)]) rfl rfl ⟨⟨Nat.le_of_ble_eq_true rfl, Nat.le_of_ble_eq_true rfl⟩, (show (67 + 108 * i + 12 * q6) + 12 ≤ 499 by omega), (show (655 + 6912 * i + 768 * q6) + 768 ≤ 28303 by omega)⟩ (Nat.le_of_ble_eq_true rfl) (fun _ h8 h9 => absurd h9 (Nat.not_le.mpr h8)) dX4_digest_266 269 rfl (fun v9 H24 hR25 hz26 hq27 => ?_) nw_noX
                                            obtain ⟨rfl, -⟩ := hR25
                                            replace hext := hext.call hz26 hq27
                                            replace hW := hW0.ext hext.2
                                            replace hE := hE0.ext hext.2
                                            replace hB := Nat.le_trans hB0 hext.1
                                            clear hmX hmKi hmLa hmFo hmGu hmPo hmIn hmWi hmWo hmKe
                                            obtain ⟨hmX, hmKi, hmLa, hmFo, hmGu, hmPo, hmIn, hmWi, hmWo, hmKe⟩ := id hW
                                            show nwV X _ _ 5 H24 ((67 + 108 * i + 12 * q6) + 12) ((655 + 6912 * i + 768 * q6) + 768) 269 [(0, .ref y), (1, .long sm), (3, .int (nI i)), (4, .int (nI q6))] [.int (sp_intrNow σ ((sg_in σ).2 i) q6), .long (sm * 31)]
                                            refine nw_wide (k' := 67 + 108 * i + 12 * q6 + 12) (n' := 655 + 6912 * i + 768 * q6 + 768) (by omega) (by omega) ?_
                                            refine nw_i2l C dX4_digest_269 270 rfl ?_
                                            refine nw_ladd C dX4_digest_270 271 rfl ?_
                                            refine nw_lstore_n C [(1, .long ((sm * 31) + (Int32.toInt64 (sp_intrNow σ ((sg_in σ).2 i) q6)))), (0, .ref y), (3, .int (nI i)), (4, .int (nI q6))] dX4_digest_271 (by decide) rfl 272 rfl ?_
                                            refine nw_iincN C 3 (c0 := 1) [(4, .int (nI (q6 + 1))), (1, .long ((sm * 31) + (Int32.toInt64 (sp_intrNow σ ((sg_in σ).2 i) q6)))), (0, .ref y), (3, .int (nI i))] dX4_digest_272 rfl (by decide) rfl 275 rfl ?_
                                            refine nw_goto C 250 dX4_digest_275 (by decide) ?_
                                            exact nw_wide (k' := 67 + 108 * i + 12 * (q6 + 1)) (n' := 655 + 6912 * i + 768 * (q6 + 1)) (by omega) (by omega) (nw_sub [2, 1, 3, 0] rfl (ih_lp22 H24 ((sm * 31) + (Int32.toInt64 (sp_intrNow σ ((sg_in σ).2 i) q6))) (q6 + 1) hext (by omega) (by rw [dg_L_s, ← hdg]) (by omega)))
                                      exact nw_wide (k' := 67 + 108 * i + 12 * 0) (n' := 655 + 6912 * i + 768 * 0) (by omega) (by omega) (nw_sub [1, 2, 3, 0] rfl (lp22 _ HL sm 0 hext (Nat.zero_le _) (hdgo.trans (dg_L_0 _ _).symm) (Nat.lt_succ_self _)))
                                exact nw_wide (k' := 67 + 108 * 0) (n' := 655 + 6912 * 0) (by omega) (by omega) (nw_sub [1, 2, 0] rfl (lp6 _ HL sm 0 hext (Nat.zero_le _) (hd5.trans (dg_F_0 _ _).symm) (Nat.lt_succ_self _)))
                              · refine nw_lload_n C 1 dX4_digest_198 rfl 199 rfl ?_
                                refine nw_ldc2 C q2098 dX4_digest_199 202 rfl ?_
                                refine nw_lmul C dX4_digest_202 203 rfl ?_
                                refine nw_aload_n C 0 dX4_digest_203 rfl 204 rfl ?_
                                refine nw_iload_n C 2 dX4_digest_204 rfl 205 rfl ?_
                                refine nw_iconst C (nI 1) dX4_digest_205 (by decide) 206 rfl ?_
                                refine nw_callV C (mX4_emptyNow _ C.hfl d ro am y σ (nI 0) p true HL hB hW okM (by omega)) kX4_emptyNow q1893 (hmX.is C (ci := 9) rfl) (As := [.int (nI p), .int (b2i true)]) (rest := [.long (sm * 31)]) rfl rfl ⟨⟨Nat.le_of_ble_eq_true rfl, Nat.le_of_ble_eq_true rfl⟩, Nat.le_of_ble_eq_true rfl, Nat.le_of_ble_eq_true rfl⟩ (Nat.le_of_ble_eq_true rfl) (fun _ h8 h9 => absurd h9 (Nat.not_le.mpr h8)) dX4_digest_206 209 rfl (nw_rdK ?_) nw_noX
                                refine nw_i2l C dX4_digest_209 210 rfl ?_
                                refine nw_ladd C dX4_digest_210 211 rfl ?_
                                refine nw_lstore_n C [(1, .long ((sm * 31) + (Int32.toInt64 (sp_emptyNow (sg_gu σ) ((sg_po σ).2 p) true)))), (0, .ref y), (3, .int (nI p))] dX4_digest_211 (by decide) rfl 212 rfl ?_
                                refine nw_lload_n C 0 dX4_digest_212 rfl 213 rfl ?_
                                refine nw_ldc2 C q2098 dX4_digest_213 216 rfl ?_
                                refine nw_lmul C dX4_digest_216 217 rfl ?_
                                refine nw_aload_n C 1 dX4_digest_217 rfl 218 rfl ?_
                                refine nw_iload_n C 2 dX4_digest_218 rfl 219 rfl ?_
                                refine nw_iconst C (nI 0) dX4_digest_219 (by decide) 220 rfl ?_
                                refine nw_callV C (mX4_emptyNow _ C.hfl d ro am y σ (nI 0) p false HL hB hW okM (by omega)) kX4_emptyNow q1893 (hmX.is C (ci := 9) rfl) (As := [.int (nI p), .int (b2i false)]) (rest := [.long (((sm * 31) + (Int32.toInt64 (sp_emptyNow (sg_gu σ) ((sg_po σ).2 p) true))) * 31)]) rfl rfl ⟨⟨Nat.le_of_ble_eq_true rfl, Nat.le_of_ble_eq_true rfl⟩, Nat.le_of_ble_eq_true rfl, Nat.le_of_ble_eq_true rfl⟩ (Nat.le_of_ble_eq_true rfl) (fun _ h8 h9 => absurd h9 (Nat.not_le.mpr h8)) dX4_digest_220 223 rfl (nw_rdK ?_) nw_noX
                                refine nw_i2l C dX4_digest_223 224 rfl ?_
                                refine nw_ladd C dX4_digest_224 225 rfl ?_
                                refine nw_lstore_n C [(1, .long ((((sm * 31) + (Int32.toInt64 (sp_emptyNow (sg_gu σ) ((sg_po σ).2 p) true))) * 31) + (Int32.toInt64 (sp_emptyNow (sg_gu σ) ((sg_po σ).2 p) false)))), (0, .ref y), (3, .int (nI p))] dX4_digest_225 (by decide) rfl 226 rfl ?_
                                refine nw_iincN C 2 (c0 := 1) [(3, .int (nI (p + 1))), (1, .long ((((sm * 31) + (Int32.toInt64 (sp_emptyNow (sg_gu σ) ((sg_po σ).2 p) true))) * 31) + (Int32.toInt64 (sp_emptyNow (sg_gu σ) ((sg_po σ).2 p) false)))), (0, .ref y)] dX4_digest_226 rfl (by decide) rfl 229 rfl ?_
                                refine nw_goto C 185 dX4_digest_229 (by decide) ?_
                                exact nw_wide (k' := 67) (n' := 655) (by omega) (by omega) (nw_sub [2, 1, 0] rfl (ih_lp5 HL ((((sm * 31) + (Int32.toInt64 (sp_emptyNow (sg_gu σ) ((sg_po σ).2 p) true))) * 31) + (Int32.toInt64 (sp_emptyNow (sg_gu σ) ((sg_po σ).2 p) false))) (p + 1) hext (by omega) (by rw [dg_F_s, ← hdg]; rfl) (by omega)))
                          exact nw_wide (k' := 67) (n' := 655) (by omega) (by omega) (nw_sub [1, 2, 0] rfl (lp5 _ HL sm 0 hext (Nat.zero_le _) (hd4.trans (dg_F_0 _ _).symm) (Nat.lt_succ_self _)))
                        · refine nw_iconst C (nI 0) dX4_digest_146 (by decide) 147 rfl ?_
                          refine nw_istore C [(4, .int (nI 0)), (0, .ref y), (1, .long sm), (3, .int (nI g))] dX4_digest_147 (by decide) rfl 149 rfl ?_
                          have hdgo := hdg
                          have lp28 : ∀ (fu : Nat) (HM : Heap) (sm : Int64) (q4 : Nat), (nwExt H8 HM) → (q4 ≤ 9) → (sm = dg_L (fun q => sp_guardNow σ g q) q4 (dg_F (fun g => dg_L (fun q => sp_guardNow σ g q) 9) g (sp_d3 σ))) → 9 - q4 < fu → nwV X (nwAM ro H) (nwQE X (fun v H1 => v = some (.long (sp_digest σ)) ∧ H.size ≤ H1.size ∧ nwMW d ro am y σ (nI 0) H1) nwNo (nwAM ro H) 499 28303) 5 HM (13 + 9 * g + q4) (169 + 81 * g + 9 * q4) 149 [(0, .ref y), (1, .long sm), (3, .int (nI g)), (4, .int (nI q4))] [] := by
                            intro fu
                            induction fu with
                            | zero => intro HM sm q4 _ _ _ hm; exact absurd hm (Nat.not_lt_zero _)
                            | succ fu ih_lp28 =>
                              intro HM sm q4 hext hq4 hdg hm
                              replace hW := hW0.ext hext.2
                              replace hE := hE0.ext hext.2
                              replace hB := Nat.le_trans hB0 hext.1
                              clear hmX hmKi hmLa hmFo hmGu hmPo hmIn hmWi hmWo hmKe
                              obtain ⟨hmX, hmKi, hmLa, hmFo, hmGu, hmPo, hmIn, hmWi, hmWo, hmKe⟩ := id hW
                              refine nw_iload C 3 dX4_digest_149 rfl 151 rfl ?_
                              refine nw_bipush C (nI 8) dX4_digest_151 (by decide) 153 rfl ?_
                              refine nw_icmpgtN C (by omega) 177 dX4_digest_153 (by decide) 156 rfl (fun h29 => ?_) (fun h29 => ?_)
                              · refine nw_iincN C 2 (c0 := 1) [(3, .int (nI (g + 1))), (0, .ref y), (1, .long sm), (4, .int (nI q4))] dX4_digest_177 rfl (by decide) rfl 180 rfl ?_
                                refine nw_goto C 133 dX4_digest_180 (by decide) ?_
                                exact nw_wide (k' := 13 + 9 * (g + 1)) (n' := 169 + 81 * (g + 1)) (by omega) (by omega) (nw_sub [1, 2, 0] rfl (ih_lp4 HM sm (g + 1) hext (by omega) (by rw [dg_F_s, hdg, show q4 = 9 by omega]) (by omega)))
                              · refine nw_lload_n C 1 dX4_digest_156 rfl 157 rfl ?_
                                refine nw_ldc2 C q2098 dX4_digest_157 160 rfl ?_
                                refine nw_lmul C dX4_digest_160 161 rfl ?_
                                refine nw_aload_n C 0 dX4_digest_161 rfl 162 rfl ?_
                                refine nw_iload_n C 2 dX4_digest_162 rfl 163 rfl ?_
                                refine nw_iload C 3 dX4_digest_163 rfl 165 rfl ?_
                                refine nw_callV C (mX4_guardNow _ C.hfl d ro am y σ (nI 0) g q4 HM hB hW okM (by omega) (by omega)) kX4_guardNow q1925 (hmX.is C (ci := 9) rfl) (As := [.int (nI g), .int (nI q4)]) (rest := [.long (sm * 31)]) rfl rfl ⟨⟨Nat.le_of_ble_eq_true rfl, Nat.le_of_ble_eq_true rfl⟩, (show (13 + 9 * g + q4) + 1 ≤ 499 by omega), (show (169 + 81 * g + 9 * q4) + 9 ≤ 28303 by omega)⟩ (Nat.le_of_ble_eq_true rfl) (fun _ h8 h9 => absurd h9 (Nat.not_le.mpr h8)) dX4_digest_165 168 rfl (fun v9 H30 hR31 hz32 hq33 => ?_) nw_noX
                                obtain ⟨rfl, -⟩ := hR31
                                replace hext := hext.call hz32 hq33
                                replace hW := hW0.ext hext.2
                                replace hE := hE0.ext hext.2
                                replace hB := Nat.le_trans hB0 hext.1
                                clear hmX hmKi hmLa hmFo hmGu hmPo hmIn hmWi hmWo hmKe
                                obtain ⟨hmX, hmKi, hmLa, hmFo, hmGu, hmPo, hmIn, hmWi, hmWo, hmKe⟩ := id hW
                                show nwV X _ _ 5 H30 ((13 + 9 * g + q4) + 1) ((169 + 81 * g + 9 * q4) + 9) 168 [(0, .ref y), (1, .long sm), (3, .int (nI g)), (4, .int (nI q4))] [.int (sp_guardNow σ g q4), .long (sm * 31)]
                                refine nw_wide (k' := 13 + 9 * g + q4 + 1) (n' := 169 + 81 * g + 9 * q4 + 9) (by omega) (by omega) ?_
                                refine nw_i2l C dX4_digest_168 169 rfl ?_
                                refine nw_ladd C dX4_digest_169 170 rfl ?_
                                refine nw_lstore_n C [(1, .long ((sm * 31) + (Int32.toInt64 (sp_guardNow σ g q4)))), (0, .ref y), (3, .int (nI g)), (4, .int (nI q4))] dX4_digest_170 (by decide) rfl 171 rfl ?_
                                refine nw_iincN C 3 (c0 := 1) [(4, .int (nI (q4 + 1))), (1, .long ((sm * 31) + (Int32.toInt64 (sp_guardNow σ g q4)))), (0, .ref y), (3, .int (nI g))] dX4_digest_171 rfl (by decide) rfl 174 rfl ?_
                                refine nw_goto C 149 dX4_digest_174 (by decide) ?_
                                exact nw_wide (k' := 13 + 9 * g + (q4 + 1)) (n' := 169 + 81 * g + 9 * (q4 + 1)) (by omega) (by omega) (nw_sub [2, 1, 3, 0] rfl (ih_lp28 H30 ((sm * 31) + (Int32.toInt64 (sp_guardNow σ g q4))) (q4 + 1) hext (by omega) (by rw [dg_L_s, ← hdg]) (by omega)))
                          exact nw_wide (k' := 13 + 9 * g + 0) (n' := 169 + 81 * g + 9 * 0) (by omega) (by omega) (nw_sub [1, 2, 3, 0] rfl (lp28 _ HL sm 0 hext (Nat.zero_le _) (hdgo.trans (dg_L_0 _ _).symm) (Nat.lt_succ_self _)))
                    exact nw_wide (k' := 13 + 9 * 0) (n' := 169 + 81 * 0) (by omega) (by omega) (nw_sub [1, 2, 0] rfl (lp4 _ HL sm 0 hext (Nat.zero_le _) (hd3.trans (dg_F_0 _ _).symm) (Nat.lt_succ_self _)))
                  · refine nw_iconst C (nI 0) dX4_digest_93 (by decide) 94 rfl ?_
                    refine nw_istore C [(4, .int (nI 0)), (0, .ref y), (1, .long sm), (3, .int (nI c))] dX4_digest_94 (by decide) rfl 96 rfl ?_
                    have hdgo := hdg
                    have lp34 : ∀ (fu : Nat) (HM : Heap) (sm : Int64) (q3 : Nat), (nwExt H8 HM) → (q3 ≤ 5) → (sm = dg_L (fun q => sp_cellNow σ c 120 q) q3 (dg_F (fun c => dg_L (fun q => sp_cellNow σ c 120 q) 5) c (sp_d2 σ))) → 5 - q3 < fu → nwV X (nwAM ro H) (nwQE X (fun v H1 => v = some (.long (sp_digest σ)) ∧ H.size ≤ H1.size ∧ nwMW d ro am y σ (nI 0) H1) nwNo (nwAM ro H) 499 28303) 5 HM 13 169 96 [(0, .ref y), (1, .long sm), (3, .int (nI c)), (4, .int (nI q3))] [] := by
                      intro fu
                      induction fu with
                      | zero => intro HM sm q3 _ _ _ hm; exact absurd hm (Nat.not_lt_zero _)
                      | succ fu ih_lp34 =>
                        intro HM sm q3 hext hq3 hdg hm
                        replace hW := hW0.ext hext.2
                        replace hE := hE0.ext hext.2
                        replace hB := Nat.le_trans hB0 hext.1
                        clear hmX hmKi hmLa hmFo hmGu hmPo hmIn hmWi hmWo hmKe
                        obtain ⟨hmX, hmKi, hmLa, hmFo, hmGu, hmPo, hmIn, hmWi, hmWo, hmKe⟩ := id hW
                        refine nw_iload C 3 dX4_digest_96 rfl 98 rfl ?_
                        refine nw_iconst C (nI 4) dX4_digest_98 (by decide) 99 rfl ?_
                        refine nw_icmpgtN C (by omega) 125 dX4_digest_99 (by decide) 102 rfl (fun h35 => ?_) (fun h35 => ?_)
                        · refine nw_iincN C 2 (c0 := 1) [(3, .int (nI (c + 1))), (0, .ref y), (1, .long sm), (4, .int (nI q3))] dX4_digest_125 rfl (by decide) rfl 128 rfl ?_
                          refine nw_goto C 84 dX4_digest_128 (by decide) ?_
                          exact nw_wide (k' := 13) (n' := 169) (by omega) (by omega) (nw_sub [1, 2, 0] rfl (ih_lp3 HM sm (c + 1) hext (by omega) (by rw [dg_F_s, hdg, show q3 = 5 by omega]) (by omega)))
                        · refine nw_lload_n C 1 dX4_digest_102 rfl 103 rfl ?_
                          refine nw_ldc2 C q2098 dX4_digest_103 106 rfl ?_
                          refine nw_lmul C dX4_digest_106 107 rfl ?_
                          refine nw_aload_n C 0 dX4_digest_107 rfl 108 rfl ?_
                          refine nw_iload_n C 2 dX4_digest_108 rfl 109 rfl ?_
                          refine nw_bipush C (nI 120) dX4_digest_109 (by decide) 111 rfl ?_
                          refine nw_iload C 3 dX4_digest_111 rfl 113 rfl ?_
                          refine nw_callV C (mX4_cellNow _ C.hfl d ro am y σ (nI 0) c 120 q3 HM hB hW okM (by omega) (by omega) (by omega)) kX4_cellNow q1864 (hmX.is C (ci := 9) rfl) (As := [.int (nI c), .int (nI 120), .int (nI q3)]) (rest := [.long (sm * 31)]) rfl rfl ⟨⟨Nat.le_of_ble_eq_true rfl, Nat.le_of_ble_eq_true rfl⟩, Nat.le_of_ble_eq_true rfl, Nat.le_of_ble_eq_true rfl⟩ (Nat.le_of_ble_eq_true rfl) (fun _ h8 h9 => absurd h9 (Nat.not_le.mpr h8)) dX4_digest_113 116 rfl (nw_rdK ?_) nw_noX
                          refine nw_i2l C dX4_digest_116 117 rfl ?_
                          refine nw_ladd C dX4_digest_117 118 rfl ?_
                          refine nw_lstore_n C [(1, .long ((sm * 31) + (Int32.toInt64 (sp_cellNow σ c 120 q3)))), (0, .ref y), (3, .int (nI c)), (4, .int (nI q3))] dX4_digest_118 (by decide) rfl 119 rfl ?_
                          refine nw_iincN C 3 (c0 := 1) [(4, .int (nI (q3 + 1))), (1, .long ((sm * 31) + (Int32.toInt64 (sp_cellNow σ c 120 q3)))), (0, .ref y), (3, .int (nI c))] dX4_digest_119 rfl (by decide) rfl 122 rfl ?_
                          refine nw_goto C 96 dX4_digest_122 (by decide) ?_
                          exact nw_wide (k' := 13) (n' := 169) (by omega) (by omega) (nw_sub [2, 1, 3, 0] rfl (ih_lp34 HM ((sm * 31) + (Int32.toInt64 (sp_cellNow σ c 120 q3))) (q3 + 1) hext (by omega) (by rw [dg_L_s, ← hdg]) (by omega)))
                    exact nw_wide (k' := 13) (n' := 169) (by omega) (by omega) (nw_sub [1, 2, 3, 0] rfl (lp34 _ HL sm 0 hext (Nat.zero_le _) (hdgo.trans (dg_L_0 _ _).symm) (Nat.lt_succ_self _)))
              exact nw_wide (k' := 13) (n' := 169) (by omega) (by omega) (nw_sub [1, 2, 0] rfl (lp3 _ HL sm 0 hext (Nat.zero_le _) (hd2.trans (dg_F_0 _ _).symm) (Nat.lt_succ_self _)))
            · refine nw_iconst C (nI 0) dX4_digest_45 (by decide) 46 rfl ?_
              refine nw_istore C [(4, .int (nI 0)), (0, .ref y), (1, .long sm), (3, .int (nI t))] dX4_digest_46 (by decide) rfl 48 rfl ?_
              have hdgo := hdg
              have lp36 : ∀ (fu : Nat) (HM : Heap) (sm : Int64) (q2 : Nat), (nwExt H8 HM) → (q2 ≤ 7) → (sm = dg_L (fun q => nI (sp_minuteNow σ (60 * m) q)) q2 (dg_F (fun m => dg_L (fun q => nI (sp_minuteNow σ (60 * m) q)) 7) m (sp_d1 σ))) → 7 - q2 < fu → nwV X (nwAM ro H) (nwQE X (fun v H1 => v = some (.long (sp_digest σ)) ∧ H.size ≤ H1.size ∧ nwMW d ro am y σ (nI 0) H1) nwNo (nwAM ro H) 499 28303) 5 HM 13 169 48 [(0, .ref y), (1, .long sm), (3, .int (nI t)), (4, .int (nI q2))] [] := by
                intro fu
                induction fu with
                | zero => intro HM sm q2 _ _ _ hm; exact absurd hm (Nat.not_lt_zero _)
                | succ fu ih_lp36 =>
                  intro HM sm q2 hext hq2 hdg hm
                  replace hW := hW0.ext hext.2
                  replace hE := hE0.ext hext.2
                  replace hB := Nat.le_trans hB0 hext.1
                  clear hmX hmKi hmLa hmFo hmGu hmPo hmIn hmWi hmWo hmKe
                  obtain ⟨hmX, hmKi, hmLa, hmFo, hmGu, hmPo, hmIn, hmWi, hmWo, hmKe⟩ := id hW
                  refine nw_iload C 3 dX4_digest_48 rfl 50 rfl ?_
                  refine nw_bipush C (nI 6) dX4_digest_50 (by decide) 52 rfl ?_
                  refine nw_icmpgtN C (by omega) 76 dX4_digest_52 (by decide) 55 rfl (fun h37 => ?_) (fun h37 => ?_)
                  · refine nw_iincN C 2 (c0 := 60) [(3, .int (nI (t + 60))), (0, .ref y), (1, .long sm), (4, .int (nI q2))] dX4_digest_76 rfl (by decide) rfl 79 rfl ?_
                    refine nw_goto C 38 dX4_digest_79 (by decide) ?_
                    exact nw_wide (k' := 13) (n' := 169) (by omega) (by omega) (nw_sub [1, 2, 0] rfl (ih_lp2 HM sm (m + 1) (t + 60) hext (by omega) (by omega) (by rw [dg_F_s, hdg, show q2 = 7 by omega]) (by omega)))
                  · refine nw_lload_n C 1 dX4_digest_55 rfl 56 rfl ?_
                    refine nw_ldc2 C q2098 dX4_digest_56 59 rfl ?_
                    refine nw_lmul C dX4_digest_59 60 rfl ?_
                    refine nw_aload_n C 0 dX4_digest_60 rfl 61 rfl ?_
                    refine nw_iload_n C 2 dX4_digest_61 rfl 62 rfl ?_
                    refine nw_iload C 3 dX4_digest_62 rfl 64 rfl ?_
                    refine nw_callV C (mX4_minuteNow _ C.hfl d ro am y σ (nI 0) t q2 HM hB hW okM (by omega) (by omega)) kX4_minuteNow q1880 (hmX.is C (ci := 9) rfl) (As := [.int (nI t), .int (nI q2)]) (rest := [.long (sm * 31)]) rfl rfl ⟨⟨Nat.le_of_ble_eq_true rfl, Nat.le_of_ble_eq_true rfl⟩, Nat.le_of_ble_eq_true rfl, Nat.le_of_ble_eq_true rfl⟩ (Nat.le_of_ble_eq_true rfl) (fun _ h8 h9 => absurd h9 (Nat.not_le.mpr h8)) dX4_digest_64 67 rfl (nw_rdK ?_) nw_noX
                    refine nw_i2l C dX4_digest_67 68 rfl ?_
                    refine nw_ladd C dX4_digest_68 69 rfl ?_
                    refine nw_lstore_n C [(1, .long ((sm * 31) + (Int32.toInt64 (nI (sp_minuteNow σ t q2))))), (0, .ref y), (3, .int (nI t)), (4, .int (nI q2))] dX4_digest_69 (by decide) rfl 70 rfl ?_
                    refine nw_iincN C 3 (c0 := 1) [(4, .int (nI (q2 + 1))), (1, .long ((sm * 31) + (Int32.toInt64 (nI (sp_minuteNow σ t q2))))), (0, .ref y), (3, .int (nI t))] dX4_digest_70 rfl (by decide) rfl 73 rfl ?_
                    refine nw_goto C 48 dX4_digest_73 (by decide) ?_
                    exact nw_wide (k' := 13) (n' := 169) (by omega) (by omega) (nw_sub [2, 1, 3, 0] rfl (ih_lp36 HM ((sm * 31) + (Int32.toInt64 (nI (sp_minuteNow σ t q2)))) (q2 + 1) hext (by omega) (by rw [dg_L_s, ← hdg, ht]) (by omega)))
              exact nw_wide (k' := 13) (n' := 169) (by omega) (by omega) (nw_sub [1, 2, 3, 0] rfl (lp36 _ HL sm 0 hext (Nat.zero_le _) (hdgo.trans (dg_L_0 _ _).symm) (Nat.lt_succ_self _)))
        exact nw_wide (k' := 13) (n' := 169) (by omega) (by omega) (nw_sub [1, 2, 0] rfl (lp2 _ HL sm 0 0 hext (Nat.zero_le _) rfl (hd1.trans (dg_F_0 _ _).symm) (Nat.lt_succ_self _)))
      · refine nw_lload_n C 1 dX4_digest_17 rfl 18 rfl ?_
        refine nw_ldc2 C q2098 dX4_digest_18 21 rfl ?_
        refine nw_lmul C dX4_digest_21 22 rfl ?_
        refine nw_aload_n C 0 dX4_digest_22 rfl 23 rfl ?_
        refine nw_iload_n C 2 dX4_digest_23 rfl 24 rfl ?_
        refine nw_callV C (mX4_manyNow _ C.hfl d ro am y σ (nI 0) q HL hB hW okM (by omega)) kX4_manyNow q2062 (hmX.is C (ci := 9) rfl) (As := [.int (nI q)]) (rest := [.long (sm * 31)]) rfl rfl ⟨⟨Nat.le_of_ble_eq_true rfl, Nat.le_of_ble_eq_true rfl⟩, (show q + 1 ≤ 499 by omega), (show (13 * q) + 13 ≤ 28303 by omega)⟩ (Nat.le_of_ble_eq_true rfl) (fun _ h8 h9 => absurd h9 (Nat.not_le.mpr h8)) dX4_digest_24 27 rfl (fun v9 H38 hR39 hz40 hq41 => ?_) nw_noX
        obtain ⟨rfl, -⟩ := hR39
        replace hext := hext.call hz40 hq41
        replace hW := hW0.ext hext.2
        replace hE := hE0.ext hext.2
        replace hB := Nat.le_trans hB0 hext.1
        clear hmX hmKi hmLa hmFo hmGu hmPo hmIn hmWi hmWo hmKe
        obtain ⟨hmX, hmKi, hmLa, hmFo, hmGu, hmPo, hmIn, hmWi, hmWo, hmKe⟩ := id hW
        show nwV X _ _ 5 H38 (q + 1) ((13 * q) + 13) 27 [(0, .ref y), (1, .long sm), (3, .int (nI q))] [.int (nI (sp_manyNow σ q)), .long (sm * 31)]
        refine nw_wide (k' := q + 1) (n' := 13 * q + 13) (by omega) (by omega) ?_
        refine nw_i2l C dX4_digest_27 28 rfl ?_
        refine nw_ladd C dX4_digest_28 29 rfl ?_
        refine nw_lstore_n C [(1, .long ((sm * 31) + (Int32.toInt64 (nI (sp_manyNow σ q))))), (0, .ref y), (3, .int (nI q))] dX4_digest_29 (by decide) rfl 30 rfl ?_
        refine nw_iincN C 2 (c0 := 1) [(3, .int (nI (q + 1))), (1, .long ((sm * 31) + (Int32.toInt64 (nI (sp_manyNow σ q))))), (0, .ref y)] dX4_digest_30 rfl (by decide) rfl 33 rfl ?_
        refine nw_goto C 11 dX4_digest_33 (by decide) ?_
        exact nw_wide (k' := (q + 1)) (n' := 13 * (q + 1)) (by omega) (by omega) (nw_sub [2, 1, 0] rfl (ih_lp1 H38 ((sm * 31) + (Int32.toInt64 (nI (sp_manyNow σ q)))) (q + 1) hext (by omega) (by rw [dg_L_s, ← hdg]) (by omega)))
  exact nw_wide (k' := 0) (n' := 13 * 0) (by omega) (by omega) (nw_sub [2, 1, 0] rfl (lp1 _ H8 9241 0 hext (Nat.zero_le _) (dg_L_0 _ _).symm (Nat.lt_succ_self _)))
