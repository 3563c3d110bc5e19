/-! ===== the reference: hidden ways ===== -/
theorem kX4_at : nwPV "NightwatchWallModel" yX4_at cX4_at 4 (some (.array .boolean)) 2 := ⟨⟨q2026, qs79, q93, q2027⟩, rfl, by decide +kernel, by decide +kernel, by decide +kernel⟩
theorem kX4_onward : nwPV "NightwatchWallModel" yX4_onward cX4_onward 7 (some (.array .boolean)) 2 := ⟨⟨q2034, qs81, q93, q2035⟩, rfl, by decide +kernel, by decide +kernel, by decide +kernel⟩
set_option maxHeartbeats 4000000 in
theorem mX4_sneak (l : Launch) (hf : l.flags = flags0) (d : nwD) (ro am : Nat → Nat) (y : Nat) (σ : spSg) (th : Int32) (a : Int32) (b : Int32) (t : Int32) (q : Int32) (H : Heap) (hB : nd_B d ≤ H.size) (hR : nwMW d ro am y σ th H) (ok : spOk σ) : nwMt l d yX4_sneak cX4_sneak 7 (some .int) 9 205 62 3968 [.ref y, .int a, .int b, .int t, .int q] H (nwMv d ro y ((op_sneak σ a b t q).1, (op_sneak σ a b t q).2, σ) H) nwNo (nwAM ro H) := by
  refine nw_start "NightwatchWallModel" "sneak" hf (by decide +kernel) rfl rfl (fun _ h => Or.inr h) (nwAM_B hR hB) (Nat.le_of_ble_eq_true rfl) ?_
  intro X C
  have hW := hR.wc
  have okM := ok.m
  have hyB := (hR.ok0 (show ro y ≠ 0 by rw [hR.2.1.2]; decide)).1
  have hAy : nwAM ro H y := Or.inl (by rw [hR.2.1.2]; decide +kernel)
  have hW0 := hW
  have hB0 := hB
  have hE := C.E0
  have hext : nwExt H H := nwExt.rfl
  obtain ⟨hmX, hmKi, hmLa, hmFo, hmGu, hmPo, hmIn, hmWi, hmWo, hmKe⟩ := id hW
  obtain ⟨okg, okl, okf, oku, okp, oki, okw, okd, okk, oka⟩ := id ok
  have hn64 : gr_n (sg_gr σ) ≤ 64 := okg.n
  have oku1 := oku.1
  have oki1 := oki.1
  have okp1 := okp.1
  have okw1 := okw.1
  have okl1 := okl.1
  have okf1 := okf.1
  show nwV X _ _ 7 H 0 0 0 [(0, .ref y), (1, .int a), (2, .int b), (3, .int t), (4, .int q)] []
  refine nw_aload_n C 0 dX4_sneak_0 rfl 1 rfl ?_
  refine nw_iconst C (nI 0) dX4_sneak_1 (by decide) 2 rfl ?_
  refine nw_put C hmX hAy (T := TX4) (ty0 := tyX4) rfl in_X4 tyX4_ok nmX4 0 (by decide) q1622 (Or.inl rfl) rfl rfl rfl (Nat.le_of_ble_eq_true rfl) dX4_sneak_2 5 rfl (fun H2 ho3 hz4 hq5 => ?_)
  have ho3 : nwO d y 9 [.int (nI 0), .int (nI (gr_w (sg_gr σ))), .int (nI (gr_h (sg_gr σ))), .ref (am 9), .int (nI (gaM_f (sg_ga σ))), .int (oI (gaM_t (sg_ga σ))), .ref (am 1), .ref (am 2), .ref (am 3), .ref (am 4), .int (nI (wo_s (sg_wo σ))), .int (nI (wo_m (sg_wo σ))), .int (nI (sp_after (wo_x (sg_wo σ)))), .ref (am 11), .ref (am 12), .int (nI (sg_ri σ)), .ref (am 8), .ref (am 5), .ref (am 6), .int (nI (sg_rf σ))] H2 := ho3
  replace hR := hR.th hz4 hq5 ho3
  have hzb : H2.size = H.size := hz4
  replace hB0 : nd_B d ≤ H2.size := by rw [hz4]; exact hB0
  replace hB := hB0
  replace hE := hE.kept (fun q9 _ hb9 => hq5 q9 (fun e9 => hb9 (by rw [e9]; exact hyB)))
  have hE0 := hE
  replace hW0 := hR.wc
  replace hW := hW0
  replace hext : nwExt H2 H2 := nwExt.rfl
  clear hmX hmKi hmLa hmFo hmGu hmPo hmIn hmWi hmWo hmKe
  obtain ⟨hmX, hmKi, hmLa, hmFo, hmGu, hmPo, hmIn, hmWi, hmWo, hmKe⟩ := id hW
  refine nw_aload_n C 0 dX4_sneak_5 rfl 6 rfl ?_
  refine nw_iload_n C 1 dX4_sneak_6 rfl 7 rfl ?_
  refine nw_callV C (mX4_isCell _ C.hfl d ro am y σ (nI 0) a H2 hB hW okM ) kX4_isCell q1702 (hmX.is C (ci := 9) rfl) (As := [.int a]) (rest := []) rfl rfl ⟨⟨Nat.le_of_ble_eq_true rfl, Nat.le_of_ble_eq_true rfl⟩, Nat.le_of_ble_eq_true rfl, Nat.le_of_ble_eq_true rfl⟩ (Nat.le_of_ble_eq_true rfl) (fun _ h8 h9 => absurd h9 (Nat.not_le.mpr h8)) dX4_sneak_7 10 rfl (nw_rdK ?_) nw_noX
  refine nw_ifeqB C 21 dX4_sneak_10 (by decide) 13 rfl (fun h6 => ?_) (fun h6 => ?_)
  · refine nw_aload_n C 0 dX4_sneak_21 rfl 22 rfl ?_
    refine nw_iconst C (nI 1) dX4_sneak_22 (by decide) 23 rfl ?_
    refine nw_callV C (mX4_no _ C.hfl d y (.int (nI 0)) (.int (nI (gr_w (sg_gr σ)))) (.int (nI (gr_h (sg_gr σ)))) (.ref (am 9)) (.int (nI (gaM_f (sg_ga σ)))) (.int (oI (gaM_t (sg_ga σ)))) (.ref (am 1)) (.ref (am 2)) (.ref (am 3)) (.ref (am 4)) (.int (nI (wo_s (sg_wo σ)))) (.int (nI (wo_m (sg_wo σ)))) (.int (nI (sp_after (wo_x (sg_wo σ))))) (.ref (am 11)) (.ref (am 12)) (.int (nI (sg_ri σ))) (.ref (am 8)) (.ref (am 5)) (.ref (am 6)) (.int (nI (sg_rf σ))) (nI 1) H2 hB hyB hmX) kX4_no q1694 (hmX.is C (ci := 9) rfl) (As := [.int (nI 1)]) (rest := []) rfl rfl ⟨⟨Nat.le_of_ble_eq_true rfl, Nat.le_of_ble_eq_true rfl⟩, (show 0 + 0 ≤ 62 by omega), (show 0 + 0 ≤ 3968 by omega)⟩ (Nat.le_of_ble_eq_true rfl) (fun q8 h8 h9 => h9.elim (fun e9 => by rw [e9]; exact hAy) (fun e9 => absurd h8 (Nat.not_lt.mpr e9))) dX4_sneak_23 26 rfl (fun v9 H7 hR8 hz9 hq10 => ?_) nw_noX
    obtain ⟨rfl, ho11⟩ := hR8
    have hR8 := hR.ext hext
    have hR9 : nwMW d ro am y σ (nI 1) H7 := hR8.obj hz9 (fun q9 g9 n9 _ => hq10 q9 g9 (fun e9 => e9.elim n9 (Nat.not_le.mpr g9))) mSame.rfl ho11
    have hle9 : H.size ≤ H7.size := Nat.le_trans (Nat.le_of_eq hzb.symm) (Nat.le_trans hext.1 hz9)
    show nwV X _ _ 7 H7 (0 + 0) (0 + 0) 26 [(0, .ref y), (1, .int a), (2, .int b), (3, .int t), (4, .int q)] [.int (nI 0)]
    refine nw_wide (k' := 0) (n' := 0) (by omega) (by omega) ?_
    have hop : op_sneak σ a b t q = (1, 0) := by simp [op_sneak, h6]
    exact nw_iret C dX4_sneak_26 (by omega) (by omega) (by rw [hop]; exact ⟨rfl, ok, hle9, ro, am, hR9, fun _ _ => rfl⟩)
  · obtain ⟨an, hk12, rfl⟩ := nw_ix_nat (by omega) h6
    have en_an : nw_nn (nI an) = an := nw_nn_nI (by omega)
    refine nw_aload_n C 0 dX4_sneak_13 rfl 14 rfl ?_
    refine nw_iload_n C 2 dX4_sneak_14 rfl 15 rfl ?_
    refine nw_callV C (mX4_isCell _ C.hfl d ro am y σ (nI 0) b H2 hB hW okM ) kX4_isCell q1702 (hmX.is C (ci := 9) rfl) (As := [.int b]) (rest := []) rfl rfl ⟨⟨Nat.le_of_ble_eq_true rfl, Nat.le_of_ble_eq_true rfl⟩, Nat.le_of_ble_eq_true rfl, Nat.le_of_ble_eq_true rfl⟩ (Nat.le_of_ble_eq_true rfl) (fun _ h8 h9 => absurd h9 (Nat.not_le.mpr h8)) dX4_sneak_15 18 rfl (nw_rdK ?_) nw_noX
    refine nw_ifneB C 27 dX4_sneak_18 (by decide) 21 rfl (fun h13 => ?_) (fun h13 => ?_)
    · obtain ⟨bn, hk14, rfl⟩ := nw_ix_nat (by omega) h13
      have en_bn : nw_nn (nI bn) = bn := nw_nn_nI (by omega)
      refine nw_iload_n C 3 dX4_sneak_27 rfl 28 rfl ?_
      refine nw_callS C (mX4_isMinute _ C.hfl d t H2 hB) kX4_isMinute q1722 (As := [.int t]) (rest := []) rfl rfl ⟨⟨Nat.le_of_ble_eq_true rfl, Nat.le_of_ble_eq_true rfl⟩, Nat.le_of_ble_eq_true rfl, Nat.le_of_ble_eq_true rfl⟩ (Nat.le_of_ble_eq_true rfl) (fun _ h8 h9 => absurd h9 (Nat.not_le.mpr h8)) dX4_sneak_28 31 rfl (nw_rdK ?_) nw_noX
      refine nw_ifeqB C 45 dX4_sneak_31 (by decide) 34 rfl (fun h15 => ?_) (fun h15 => ?_)
      · refine nw_aload_n C 0 dX4_sneak_45 rfl 46 rfl ?_
        refine nw_iconst C (nI 2) dX4_sneak_46 (by decide) 47 rfl ?_
        refine nw_callV C (mX4_no _ C.hfl d y (.int (nI 0)) (.int (nI (gr_w (sg_gr σ)))) (.int (nI (gr_h (sg_gr σ)))) (.ref (am 9)) (.int (nI (gaM_f (sg_ga σ)))) (.int (oI (gaM_t (sg_ga σ)))) (.ref (am 1)) (.ref (am 2)) (.ref (am 3)) (.ref (am 4)) (.int (nI (wo_s (sg_wo σ)))) (.int (nI (wo_m (sg_wo σ)))) (.int (nI (sp_after (wo_x (sg_wo σ))))) (.ref (am 11)) (.ref (am 12)) (.int (nI (sg_ri σ))) (.ref (am 8)) (.ref (am 5)) (.ref (am 6)) (.int (nI (sg_rf σ))) (nI 2) H2 hB hyB hmX) kX4_no q1694 (hmX.is C (ci := 9) rfl) (As := [.int (nI 2)]) (rest := []) rfl rfl ⟨⟨Nat.le_of_ble_eq_true rfl, Nat.le_of_ble_eq_true rfl⟩, (show 0 + 0 ≤ 62 by omega), (show 0 + 0 ≤ 3968 by omega)⟩ (Nat.le_of_ble_eq_true rfl) (fun q8 h8 h9 => h9.elim (fun e9 => by rw [e9]; exact hAy) (fun e9 => absurd h8 (Nat.not_lt.mpr e9))) dX4_sneak_47 50 rfl (fun v9 H16 hR17 hz18 hq19 => ?_) nw_noX
        obtain ⟨rfl, ho20⟩ := hR17
        have hR8 := hR.ext hext
        have hR9 : nwMW d ro am y σ (nI 2) H16 := hR8.obj hz18 (fun q9 g9 n9 _ => hq19 q9 g9 (fun e9 => e9.elim n9 (Nat.not_le.mpr g9))) mSame.rfl ho20
        have hle9 : H.size ≤ H16.size := Nat.le_trans (Nat.le_of_eq hzb.symm) (Nat.le_trans hext.1 hz18)
        show nwV X _ _ 7 H16 (0 + 0) (0 + 0) 50 [(0, .ref y), (1, .int (nI an)), (2, .int (nI bn)), (3, .int t), (4, .int q)] [.int (nI 0)]
        refine nw_wide (k' := 0) (n' := 0) (by omega) (by omega) ?_
        have hop : op_sneak σ (nI an) (nI bn) t q = (2, 0) := by simp [op_sneak, h6, h13, h15, en_an, en_bn]
        exact nw_iret C dX4_sneak_50 (by omega) (by omega) (by rw [hop]; exact ⟨rfl, ok, hle9, ro, am, hR9, fun _ _ => rfl⟩)
      · obtain ⟨tn, hk21, rfl⟩ := nw_rg_nat (by omega) (by omega) h15
        have en_tn : nw_nn (nI tn) = tn := nw_nn_nI (by omega)
        refine nw_iload C 4 dX4_sneak_34 rfl 36 rfl ?_
        refine nw_iconst C (nI 0) dX4_sneak_36 (by decide) 37 rfl ?_
        refine nw_bipush C (nI 60) dX4_sneak_37 (by decide) 39 rfl ?_
        refine nw_callS C (mX4_inR _ C.hfl d q (nI 0) (nI 60) H2 hB) kX4_in q1691 (As := [.int q, .int (nI 0), .int (nI 60)]) (rest := []) rfl rfl ⟨⟨Nat.le_of_ble_eq_true rfl, Nat.le_of_ble_eq_true rfl⟩, Nat.le_of_ble_eq_true rfl, Nat.le_of_ble_eq_true rfl⟩ (Nat.le_of_ble_eq_true rfl) (fun _ h8 h9 => absurd h9 (Nat.not_le.mpr h8)) dX4_sneak_39 42 rfl (nw_rdK ?_) nw_noX
        show nwV X _ _ 7 H2 0 0 42 [(0, .ref y), (1, .int (nI an)), (2, .int (nI bn)), (3, .int (nI tn)), (4, .int q)] [.int (b2i (nw_rg 0 60 q))]
        refine nw_ifneB C 51 dX4_sneak_42 (by decide) 45 rfl (fun h22 => ?_) (fun h22 => ?_)
        · obtain ⟨qn, hk23, rfl⟩ := nw_rg_nat (by omega) (by omega) h22
          have en_qn : nw_nn (nI qn) = qn := nw_nn_nI (by omega)
          refine nw_aload_n C 0 dX4_sneak_51 rfl 52 rfl ?_
          refine nw_iload_n C 1 dX4_sneak_52 rfl 53 rfl ?_
          refine nw_iload_n C 3 dX4_sneak_53 rfl 54 rfl ?_
          refine nw_callV C (mX4_at _ C.hfl d ro am y σ (nI 0) an tn H2 hB hW okM (by omega) (by omega)) kX4_at q2024 (hmX.is C (ci := 9) rfl) (As := [.int (nI an), .int (nI tn)]) (rest := []) rfl rfl ⟨⟨Nat.le_of_ble_eq_true rfl, Nat.le_of_ble_eq_true rfl⟩, (show 0 + 1 ≤ 62 by omega), (show 0 + 64 ≤ 3968 by omega)⟩ (Nat.le_of_ble_eq_true rfl) (fun _ h8 h9 => absurd h9 (Nat.not_le.mpr h8)) dX4_sneak_54 57 rfl (fun v9 H24 hR25 hz26 hq27 => ?_) nw_noX
          obtain ⟨⟨ar28, rfl, hn29, hi30⟩, -⟩ := hR25
          have hn31 : H2.size ≤ ar28 := (Nat.le_trans hext.1 hn29)
          replace hext := hext.call hz26 hq27
          replace hW := hW0.ext hext.2
          replace hE := hE0.ext hext.2
          replace hB := Nat.le_trans hB0 hext.1
          clear hmX hmKi hmLa hmFo hmGu hmPo hmIn hmWi hmWo hmKe
          obtain ⟨hmX, hmKi, hmLa, hmFo, hmGu, hmPo, hmIn, hmWi, hmWo, hmKe⟩ := id hW
          show nwV X _ _ 7 H24 (0 + 1) (0 + 64) 57 [(0, .ref y), (1, .int (nI an)), (2, .int (nI bn)), (3, .int (nI tn)), (4, .int (nI qn))] [.ref ar28]
          refine nw_wide (k' := 1) (n' := 64) (by omega) (by omega) ?_
          refine nw_astore C [(5, .ref ar28), (0, .ref y), (1, .int (nI an)), (2, .int (nI bn)), (3, .int (nI tn)), (4, .int (nI qn))] dX4_sneak_57 (by decide) rfl 59 rfl ?_
          refine nw_iconst C (nI 0) dX4_sneak_59 (by decide) 60 rfl ?_
          refine nw_istore C [(6, .int (nI 0)), (5, .ref ar28), (0, .ref y), (1, .int (nI an)), (2, .int (nI bn)), (3, .int (nI tn)), (4, .int (nI qn))] dX4_sneak_60 (by decide) rfl 62 rfl ?_
          have lp1 : ∀ (fu : Nat) (HL : Heap) (j : Nat) (na : Nat), (nwExt H2 HL) → (nwI d na 1 (gr_n (sg_gr σ)) (fun k => b2i ((sp_seq σ an tn (j - 1)) k)) HL) → (H2.size ≤ na) → (j ≤ min (qn + 1) (240 - tn)) → (∀ k, 0 ≤ k → k < j → (fun j => sp_seq σ an tn j bn) k = false) → min (qn + 1) (240 - tn) - j < fu → nwV X (nwAM ro H) (nwQE X (nwMv d ro y ((op_sneak σ (nI an) (nI bn) (nI tn) (nI qn)).1, (op_sneak σ (nI an) (nI bn) (nI tn) (nI qn)).2, σ) H) nwNo (nwAM ro H) 62 3968) 7 HL (1 + j) (64 + 64 * j) 62 [(0, .ref y), (1, .int (nI an)), (2, .int (nI bn)), (3, .int (nI tn)), (4, .int (nI qn)), (5, .ref na), (6, .int (nI j))] [] := by
            intro fu
            induction fu with
            | zero => intro HL j na _ _ _ _ _ hm; exact absurd hm (Nat.not_lt_zero _)
            | succ fu ih_lp1 =>
              intro HL j na hext hcz hna hj hno hm
              replace hW := hW0.ext hext.2
              replace hE := hE0.ext hext.2
              replace hB := Nat.le_trans hB0 hext.1
              clear hmX hmKi hmLa hmFo hmGu hmPo hmIn hmWi hmWo hmKe
              obtain ⟨hmX, hmKi, hmLa, hmFo, hmGu, hmPo, hmIn, hmWi, hmWo, hmKe⟩ := id hW
              refine nw_iload C 6 dX4_sneak_62 rfl 64 rfl ?_
              refine nw_iload C 4 dX4_sneak_64 rfl 66 rfl ?_
              refine nw_icmpgtN C (by omega) 112 dX4_sneak_66 (by decide) 69 rfl (fun h32 => ?_) (fun h32 => ?_)
              · refine nw_iconst C (oI none) dX4_sneak_112 (by decide) 113 rfl ?_
                have hz0 : sp_fst (fun j => sp_seq σ an tn j bn) 0 (min (qn + 1) (240 - tn)) = none := sp_fst_no (fun k h5 h6 => hno k h5 (by omega))
                have hop : op_sneak σ (nI an) (nI bn) (nI tn) (nI qn) = (0, oI none) := by simp [op_sneak, hz0, h6, h13, h15, h22, en_an, en_bn, en_tn, en_qn]; try rfl
                exact nw_iret C dX4_sneak_113 (by omega) (by omega) (by rw [hop]; exact ⟨rfl, ok, Nat.le_trans (Nat.le_of_eq hzb.symm) hext.1, ro, am, hR.ext hext, fun _ _ => rfl⟩)
              · refine nw_iload_n C 3 dX4_sneak_69 rfl 70 rfl ?_
                refine nw_iload C 6 dX4_sneak_70 rfl 72 rfl ?_
                refine nw_iaddN C dX4_sneak_72 73 rfl ?_
                refine nw_sipush C (nI 239) dX4_sneak_73 (by decide) 76 rfl ?_
                refine nw_icmpgtN C (by omega) 112 dX4_sneak_76 (by decide) 79 rfl (fun h33 => ?_) (fun h33 => ?_)
                · refine nw_iconst C (oI none) dX4_sneak_112 (by decide) 113 rfl ?_
                  have hz0 : sp_fst (fun j => sp_seq σ an tn j bn) 0 (min (qn + 1) (240 - tn)) = none := sp_fst_no (fun k h5 h6 => hno k h5 (by omega))
                  have hop : op_sneak σ (nI an) (nI bn) (nI tn) (nI qn) = (0, oI none) := by simp [op_sneak, hz0, h6, h13, h15, h22, en_an, en_bn, en_tn, en_qn]; try rfl
                  exact nw_iret C dX4_sneak_113 (by omega) (by omega) (by rw [hop]; exact ⟨rfl, ok, Nat.le_trans (Nat.le_of_eq hzb.symm) hext.1, ro, am, hR.ext hext, fun _ _ => rfl⟩)
                · refine nw_iload C 6 dX4_sneak_79 rfl 81 rfl ?_
                  refine nw_ifleN C (by omega) 96 dX4_sneak_81 (by decide) 84 rfl (fun h34 => ?_) (fun h34 => ?_)
                  · have hcj35 : nwI d na 1 (gr_n (sg_gr σ)) (fun k => b2i (sp_seq σ an tn j k)) HL := (sp_seq_0 (show j = 0 by omega) hcz)
                    refine nw_aload C 5 dX4_sneak_96 rfl 98 rfl ?_
                    refine nw_iload_n C 2 dX4_sneak_98 rfl 99 rfl ?_
                    refine nw_zaldN C (b2i (sp_seq σ an tn j bn)) hcj35 (by omega) rfl dX4_sneak_99 100 rfl ?_
                    refine nw_ifeqB C 106 dX4_sneak_100 (by decide) 103 rfl (fun h36 => ?_) (fun h36 => ?_)
                    · refine nw_iincN C 6 (c0 := 1) [(6, .int (nI (j + 1))), (0, .ref y), (1, .int (nI an)), (2, .int (nI bn)), (3, .int (nI tn)), (4, .int (nI qn)), (5, .ref na)] dX4_sneak_106 rfl (by decide) rfl 109 rfl ?_
                      refine nw_goto C 62 dX4_sneak_109 (by decide) ?_
                      exact nw_wide (by omega) (by omega) (nw_sub [1, 2, 3, 4, 5, 6, 0] rfl (ih_lp1 HL (j + 1) na hext hcj35 hna (by omega) (fun k h5 h6 => (Nat.lt_or_ge k j).elim (fun g5 => hno k h5 g5) (fun g5 => by rw [show k = j by omega]; exact h36)) (by omega)))
                    · refine nw_iload C 6 dX4_sneak_103 rfl 105 rfl ?_
                      have hz0 : sp_fst (fun j => sp_seq σ an tn j bn) 0 (min (qn + 1) (240 - tn)) = some j := sp_fst_at hno (Nat.zero_le _) (by omega) h36
                      have hop : op_sneak σ (nI an) (nI bn) (nI tn) (nI qn) = (0, nI j) := by simp [op_sneak, hz0, h6, h13, h15, h22, en_an, en_bn, en_tn, en_qn]; try rfl
                      exact nw_iret C dX4_sneak_105 (by omega) (by omega) (by rw [hop]; exact ⟨rfl, ok, Nat.le_trans (Nat.le_of_eq hzb.symm) hext.1, ro, am, hR.ext hext, fun _ _ => rfl⟩)
                  · refine nw_aload_n C 0 dX4_sneak_84 rfl 85 rfl ?_
                    refine nw_aload C 5 dX4_sneak_85 rfl 87 rfl ?_
                    refine nw_iload_n C 3 dX4_sneak_87 rfl 88 rfl ?_
                    refine nw_iload C 6 dX4_sneak_88 rfl 90 rfl ?_
                    refine nw_iaddN C dX4_sneak_90 91 rfl ?_
                    refine nw_callV C (mX4_onward _ C.hfl d ro am y σ (nI 0) na (tn + j) (sp_seq σ an tn (j - 1)) HL hB hW okM hcz (by omega)) kX4_onward q2032 (hmX.is C (ci := 9) rfl) (As := [.ref na, .int (nI (tn + j))]) (rest := []) rfl rfl ⟨⟨Nat.le_of_ble_eq_true rfl, Nat.le_of_ble_eq_true rfl⟩, (show (1 + j) + 1 ≤ 62 by omega), (show (64 + 64 * j) + 64 ≤ 3968 by omega)⟩ (Nat.le_of_ble_eq_true rfl) (fun _ h8 h9 => absurd h9 (Nat.not_le.mpr h8)) dX4_sneak_91 94 rfl (fun v9 H37 hR38 hz39 hq40 => ?_) nw_noX
                    obtain ⟨⟨ar41, rfl, hn42, hi43⟩, -⟩ := hR38
                    have hn44 : H2.size ≤ ar41 := (Nat.le_trans hext.1 hn42)
                    have hne45 : na ≠ ar41 := (Nat.ne_of_lt (Nat.lt_of_lt_of_le hcz.lt hn42))
                    have ho46 := hcz.kept (hq40 _ hcz.lt (Nat.not_le.mpr hcz.lt))
                    replace hext := hext.call hz39 hq40
                    replace hW := hW0.ext hext.2
                    replace hE := hE0.ext hext.2
                    replace hB := Nat.le_trans hB0 hext.1
                    clear hmX hmKi hmLa hmFo hmGu hmPo hmIn hmWi hmWo hmKe
                    obtain ⟨hmX, hmKi, hmLa, hmFo, hmGu, hmPo, hmIn, hmWi, hmWo, hmKe⟩ := id hW
                    show nwV X _ _ 7 H37 ((1 + j) + 1) ((64 + 64 * j) + 64) 94 [(0, .ref y), (1, .int (nI an)), (2, .int (nI bn)), (3, .int (nI tn)), (4, .int (nI qn)), (5, .ref na), (6, .int (nI j))] [.ref ar41]
                    refine nw_wide (k' := 1 + j + 1) (n' := 64 + 64 * j + 64) (by omega) (by omega) ?_
                    refine nw_astore C [(5, .ref ar41), (0, .ref y), (1, .int (nI an)), (2, .int (nI bn)), (3, .int (nI tn)), (4, .int (nI qn)), (6, .int (nI j))] dX4_sneak_94 (by decide) rfl 96 rfl ?_
                    have hcj47 : nwI d ar41 1 (gr_n (sg_gr σ)) (fun k => b2i (sp_seq σ an tn j k)) H37 := (by rw [← sp_seq_s (by omega)]; exact hi43)
                    refine nw_aload C 0 dX4_sneak_96 rfl 98 rfl ?_
                    refine nw_iload_n C 3 dX4_sneak_98 rfl 99 rfl ?_
                    refine nw_zaldN C (b2i (sp_seq σ an tn j bn)) hcj47 (by omega) rfl dX4_sneak_99 100 rfl ?_
                    refine nw_ifeqB C 106 dX4_sneak_100 (by decide) 103 rfl (fun h48 => ?_) (fun h48 => ?_)
                    · refine nw_iincN C 6 (c0 := 1) [(6, .int (nI (j + 1))), (5, .ref ar41), (0, .ref y), (1, .int (nI an)), (2, .int (nI bn)), (3, .int (nI tn)), (4, .int (nI qn))] dX4_sneak_106 rfl (by decide) rfl 109 rfl ?_
                      refine nw_goto C 62 dX4_sneak_109 (by decide) ?_
                      exact nw_wide (by omega) (by omega) (nw_sub [2, 3, 4, 5, 6, 1, 0] rfl (ih_lp1 H37 (j + 1) ar41 hext hcj47 hn44 (by omega) (fun k h5 h6 => (Nat.lt_or_ge k j).elim (fun g5 => hno k h5 g5) (fun g5 => by rw [show k = j by omega]; exact h48)) (by omega)))
                    · refine nw_iload C 6 dX4_sneak_103 rfl 105 rfl ?_
                      have hz0 : sp_fst (fun j => sp_seq σ an tn j bn) 0 (min (qn + 1) (240 - tn)) = some j := sp_fst_at hno (Nat.zero_le _) (by omega) h48
                      have hop : op_sneak σ (nI an) (nI bn) (nI tn) (nI qn) = (0, nI j) := by simp [op_sneak, hz0, h6, h13, h15, h22, en_an, en_bn, en_tn, en_qn]; try rfl
                      exact nw_iret C dX4_sneak_105 (by omega) (by omega) (by rw [hop]; exact ⟨rfl, ok, Nat.le_trans (Nat.le_of_eq hzb.symm) hext.1, ro, am, hR.ext hext, fun _ _ => rfl⟩)
          exact nw_wide (by omega) (by omega) (nw_sub [2, 3, 4, 5, 6, 1, 0] rfl (lp1 _ H24 0 ar28 hext hi30 hn31 (Nat.zero_le _) (fun k _ hk => absurd hk (Nat.not_lt_zero k)) (Nat.lt_succ_self _)))
        · refine nw_aload_n C 0 dX4_sneak_45 rfl 46 rfl ?_
          refine nw_iconst C (nI 2) dX4_sneak_46 (by decide) 47 rfl ?_
          refine nw_callV C (mX4_no _ C.hfl d y (.int (nI 0)) (.int (nI (gr_w (sg_gr σ)))) (.int (nI (gr_h (sg_gr σ)))) (.ref (am 9)) (.int (nI (gaM_f (sg_ga σ)))) (.int (oI (gaM_t (sg_ga σ)))) (.ref (am 1)) (.ref (am 2)) (.ref (am 3)) (.ref (am 4)) (.int (nI (wo_s (sg_wo σ)))) (.int (nI (wo_m (sg_wo σ)))) (.int (nI (sp_after (wo_x (sg_wo σ))))) (.ref (am 11)) (.ref (am 12)) (.int (nI (sg_ri σ))) (.ref (am 8)) (.ref (am 5)) (.ref (am 6)) (.int (nI (sg_rf σ))) (nI 2) H2 hB hyB hmX) kX4_no q1694 (hmX.is C (ci := 9) rfl) (As := [.int (nI 2)]) (rest := []) rfl rfl ⟨⟨Nat.le_of_ble_eq_true rfl, Nat.le_of_ble_eq_true rfl⟩, (show 0 + 0 ≤ 62 by omega), (show 0 + 0 ≤ 3968 by omega)⟩ (Nat.le_of_ble_eq_true rfl) (fun q8 h8 h9 => h9.elim (fun e9 => by rw [e9]; exact hAy) (fun e9 => absurd h8 (Nat.not_lt.mpr e9))) dX4_sneak_47 50 rfl (fun v9 H49 hR50 hz51 hq52 => ?_) nw_noX
          obtain ⟨rfl, ho53⟩ := hR50
          have hR8 := hR.ext hext
          have hR9 : nwMW d ro am y σ (nI 2) H49 := hR8.obj hz51 (fun q9 g9 n9 _ => hq52 q9 g9 (fun e9 => e9.elim n9 (Nat.not_le.mpr g9))) mSame.rfl ho53
          have hle9 : H.size ≤ H49.size := Nat.le_trans (Nat.le_of_eq hzb.symm) (Nat.le_trans hext.1 hz51)
          show nwV X _ _ 7 H49 (0 + 0) (0 + 0) 50 [(0, .ref y), (1, .int (nI an)), (2, .int (nI bn)), (3, .int (nI tn)), (4, .int q)] [.int (nI 0)]
          refine nw_wide (k' := 0) (n' := 0) (by omega) (by omega) ?_
          have hop : op_sneak σ (nI an) (nI bn) (nI tn) q = (2, 0) := by simp [op_sneak, h6, h13, h15, h22, en_an, en_bn, en_tn]
          exact nw_iret C dX4_sneak_50 (by omega) (by omega) (by rw [hop]; exact ⟨rfl, ok, hle9, ro, am, hR9, fun _ _ => rfl⟩)
    · refine nw_aload_n C 0 dX4_sneak_21 rfl 22 rfl ?_
      refine nw_iconst C (nI 1) dX4_sneak_22 (by decide) 23 rfl ?_
      refine nw_callV C (mX4_no _ C.hfl d y (.int (nI 0)) (.int (nI (gr_w (sg_gr σ)))) (.int (nI (gr_h (sg_gr σ)))) (.ref (am 9)) (.int (nI (gaM_f (sg_ga σ)))) (.int (oI (gaM_t (sg_ga σ)))) (.ref (am 1)) (.ref (am 2)) (.ref (am 3)) (.ref (am 4)) (.int (nI (wo_s (sg_wo σ)))) (.int (nI (wo_m (sg_wo σ)))) (.int (nI (sp_after (wo_x (sg_wo σ))))) (.ref (am 11)) (.ref (am 12)) (.int (nI (sg_ri σ))) (.ref (am 8)) (.ref (am 5)) (.ref (am 6)) (.int (nI (sg_rf σ))) (nI 1) H2 hB hyB hmX) kX4_no q1694 (hmX.is C (ci := 9) rfl) (As := [.int (nI 1)]) (rest := []) rfl rfl ⟨⟨Nat.le_of_ble_eq_true rfl, Nat.le_of_ble_eq_true rfl⟩, (show 0 + 0 ≤ 62 by omega), (show 0 + 0 ≤ 3968 by omega)⟩ (Nat.le_of_ble_eq_true rfl) (fun q8 h8 h9 => h9.elim (fun e9 => by rw [e9]; exact hAy) (fun e9 => absurd h8 (Nat.not_lt.mpr e9))) dX4_sneak_23 26 rfl (fun v9 H54 hR55 hz56 hq57 => ?_) nw_noX
      obtain ⟨rfl, ho58⟩ := hR55
      have hR8 := hR.ext hext
      have hR9 : nwMW d ro am y σ (nI 1) H54 := hR8.obj hz56 (fun q9 g9 n9 _ => hq57 q9 g9 (fun e9 => e9.elim n9 (Nat.not_le.mpr g9))) mSame.rfl ho58
      have hle9 : H.size ≤ H54.size := Nat.le_trans (Nat.le_of_eq hzb.symm) (Nat.le_trans hext.1 hz56)
      show nwV X _ _ 7 H54 (0 + 0) (0 + 0) 26 [(0, .ref y), (1, .int (nI an)), (2, .int b), (3, .int t), (4, .int q)] [.int (nI 0)]
      refine nw_wide (k' := 0) (n' := 0) (by omega) (by omega) ?_
      have hop : op_sneak σ (nI an) b t q = (1, 0) := by simp [op_sneak, h6, h13, en_an]
      exact nw_iret C dX4_sneak_26 (by omega) (by omega) (by rw [hop]; exact ⟨rfl, ok, hle9, ro, am, hR9, fun _ _ => rfl⟩)
set_option maxHeartbeats 4000000 in
theorem mX4_reach (l : Launch) (hf : l.flags = flags0) (d : nwD) (ro am : Nat → Nat) (y : Nat) (σ : spSg) (th : Int32) (a : Int32) (t : Int32) (q : Int32) (H : Heap) (hB : nd_B d ≤ H.size) (hR : nwMW d ro am y σ th H) (ok : spOk σ) : nwMt l d yX4_reach cX4_reach 10 (some .int) 9 205 62 3968 [.ref y, .int a, .int t, .int q] H (nwMv d ro y ((op_reach σ a t q).1, (op_reach σ a t q).2, σ) H) nwNo (nwAM ro H) := by
  refine nw_start "NightwatchWallModel" "reach" hf (by decide +kernel) rfl rfl (fun _ h => Or.inr h) (nwAM_B hR hB) (Nat.le_of_ble_eq_true rfl) ?_
  intro X C
  have hW := hR.wc
  have okM := ok.m
  have hyB := (hR.ok0 (show ro y ≠ 0 by rw [hR.2.1.2]; decide)).1
  have hAy : nwAM ro H y := Or.inl (by rw [hR.2.1.2]; decide +kernel)
  have hW0 := hW
  have hB0 := hB
  have hE := C.E0
  have hext : nwExt H H := nwExt.rfl
  obtain ⟨hmX, hmKi, hmLa, hmFo, hmGu, hmPo, hmIn, hmWi, hmWo, hmKe⟩ := id hW
  obtain ⟨okg, okl, okf, oku, okp, oki, okw, okd, okk, oka⟩ := id ok
  have hn64 : gr_n (sg_gr σ) ≤ 64 := okg.n
  have oku1 := oku.1
  have oki1 := oki.1
  have okp1 := okp.1
  have okw1 := okw.1
  have okl1 := okl.1
  have okf1 := okf.1
  show nwV X _ _ 10 H 0 0 0 [(0, .ref y), (1, .int a), (2, .int t), (3, .int q)] []
  refine nw_aload_n C 0 dX4_reach_0 rfl 1 rfl ?_
  refine nw_iconst C (nI 0) dX4_reach_1 (by decide) 2 rfl ?_
  refine nw_put C hmX hAy (T := TX4) (ty0 := tyX4) rfl in_X4 tyX4_ok nmX4 0 (by decide) q1622 (Or.inl rfl) rfl rfl rfl (Nat.le_of_ble_eq_true rfl) dX4_reach_2 5 rfl (fun H2 ho3 hz4 hq5 => ?_)
  have ho3 : nwO d y 9 [.int (nI 0), .int (nI (gr_w (sg_gr σ))), .int (nI (gr_h (sg_gr σ))), .ref (am 9), .int (nI (gaM_f (sg_ga σ))), .int (oI (gaM_t (sg_ga σ))), .ref (am 1), .ref (am 2), .ref (am 3), .ref (am 4), .int (nI (wo_s (sg_wo σ))), .int (nI (wo_m (sg_wo σ))), .int (nI (sp_after (wo_x (sg_wo σ)))), .ref (am 11), .ref (am 12), .int (nI (sg_ri σ)), .ref (am 8), .ref (am 5), .ref (am 6), .int (nI (sg_rf σ))] H2 := ho3
  replace hR := hR.th hz4 hq5 ho3
  have hzb : H2.size = H.size := hz4
  replace hB0 : nd_B d ≤ H2.size := by rw [hz4]; exact hB0
  replace hB := hB0
  replace hE := hE.kept (fun q9 _ hb9 => hq5 q9 (fun e9 => hb9 (by rw [e9]; exact hyB)))
  have hE0 := hE
  replace hW0 := hR.wc
  replace hW := hW0
  replace hext : nwExt H2 H2 := nwExt.rfl
  clear hmX hmKi hmLa hmFo hmGu hmPo hmIn hmWi hmWo hmKe
  obtain ⟨hmX, hmKi, hmLa, hmFo, hmGu, hmPo, hmIn, hmWi, hmWo, hmKe⟩ := id hW
  refine nw_aload_n C 0 dX4_reach_5 rfl 6 rfl ?_
  refine nw_iload_n C 1 dX4_reach_6 rfl 7 rfl ?_
  refine nw_callV C (mX4_isCell _ C.hfl d ro am y σ (nI 0) a H2 hB hW okM ) kX4_isCell q1702 (hmX.is C (ci := 9) rfl) (As := [.int a]) (rest := []) rfl rfl ⟨⟨Nat.le_of_ble_eq_true rfl, Nat.le_of_ble_eq_true rfl⟩, Nat.le_of_ble_eq_true rfl, Nat.le_of_ble_eq_true rfl⟩ (Nat.le_of_ble_eq_true rfl) (fun _ h8 h9 => absurd h9 (Nat.not_le.mpr h8)) dX4_reach_7 10 rfl (nw_rdK ?_) nw_noX
  refine nw_ifneB C 19 dX4_reach_10 (by decide) 13 rfl (fun h6 => ?_) (fun h6 => ?_)
  · obtain ⟨an, hk7, rfl⟩ := nw_ix_nat (by omega) h6
    have en_an : nw_nn (nI an) = an := nw_nn_nI (by omega)
    refine nw_iload_n C 2 dX4_reach_19 rfl 20 rfl ?_
    refine nw_callS C (mX4_isMinute _ C.hfl d t H2 hB) kX4_isMinute q1722 (As := [.int t]) (rest := []) rfl rfl ⟨⟨Nat.le_of_ble_eq_true rfl, Nat.le_of_ble_eq_true rfl⟩, Nat.le_of_ble_eq_true rfl, Nat.le_of_ble_eq_true rfl⟩ (Nat.le_of_ble_eq_true rfl) (fun _ h8 h9 => absurd h9 (Nat.not_le.mpr h8)) dX4_reach_20 23 rfl (nw_rdK ?_) nw_noX
    refine nw_ifeqB C 45 dX4_reach_23 (by decide) 26 rfl (fun h8 => ?_) (fun h8 => ?_)
    · refine nw_aload_n C 0 dX4_reach_45 rfl 46 rfl ?_
      refine nw_iconst C (nI 2) dX4_reach_46 (by decide) 47 rfl ?_
      refine nw_callV C (mX4_no _ C.hfl d y (.int (nI 0)) (.int (nI (gr_w (sg_gr σ)))) (.int (nI (gr_h (sg_gr σ)))) (.ref (am 9)) (.int (nI (gaM_f (sg_ga σ)))) (.int (oI (gaM_t (sg_ga σ)))) (.ref (am 1)) (.ref (am 2)) (.ref (am 3)) (.ref (am 4)) (.int (nI (wo_s (sg_wo σ)))) (.int (nI (wo_m (sg_wo σ)))) (.int (nI (sp_after (wo_x (sg_wo σ))))) (.ref (am 11)) (.ref (am 12)) (.int (nI (sg_ri σ))) (.ref (am 8)) (.ref (am 5)) (.ref (am 6)) (.int (nI (sg_rf σ))) (nI 2) H2 hB hyB hmX) kX4_no q1694 (hmX.is C (ci := 9) rfl) (As := [.int (nI 2)]) (rest := []) rfl rfl ⟨⟨Nat.le_of_ble_eq_true rfl, Nat.le_of_ble_eq_true rfl⟩, (show 0 + 0 ≤ 62 by omega), (show 0 + 0 ≤ 3968 by omega)⟩ (Nat.le_of_ble_eq_true rfl) (fun q8 h8 h9 => h9.elim (fun e9 => by rw [e9]; exact hAy) (fun e9 => absurd h8 (Nat.not_lt.mpr e9))) dX4_reach_47 50 rfl (fun v9 H9 hR10 hz11 hq12 => ?_) nw_noX
      obtain ⟨rfl, ho13⟩ := hR10
      have hR8 := hR.ext hext
      have hR9 : nwMW d ro am y σ (nI 2) H9 := hR8.obj hz11 (fun q9 g9 n9 _ => hq12 q9 g9 (fun e9 => e9.elim n9 (Nat.not_le.mpr g9))) mSame.rfl ho13
      have hle9 : H.size ≤ H9.size := Nat.le_trans (Nat.le_of_eq hzb.symm) (Nat.le_trans hext.1 hz11)
      show nwV X _ _ 10 H9 (0 + 0) (0 + 0) 50 [(0, .ref y), (1, .int (nI an)), (2, .int t), (3, .int q)] [.int (nI 0)]
      refine nw_wide (k' := 0) (n' := 0) (by omega) (by omega) ?_
      have hop : op_reach σ (nI an) t q = (2, 0) := by simp [op_reach, h6, h8, en_an]; try omega
      exact nw_iret C dX4_reach_50 (by omega) (by omega) (by rw [hop]; exact ⟨rfl, ok, hle9, ro, am, hR9, fun _ _ => rfl⟩)
    · obtain ⟨tn, hk14, rfl⟩ := nw_rg_nat (by omega) (by omega) h8
      have en_tn : nw_nn (nI tn) = tn := nw_nn_nI (by omega)
      refine nw_iload_n C 3 dX4_reach_26 rfl 27 rfl ?_
      refine nw_iconst C (nI 0) dX4_reach_27 (by decide) 28 rfl ?_
      refine nw_bipush C (nI 60) dX4_reach_28 (by decide) 30 rfl ?_
      refine nw_callS C (mX4_inR _ C.hfl d q (nI 0) (nI 60) H2 hB) kX4_in q1691 (As := [.int q, .int (nI 0), .int (nI 60)]) (rest := []) rfl rfl ⟨⟨Nat.le_of_ble_eq_true rfl, Nat.le_of_ble_eq_true rfl⟩, Nat.le_of_ble_eq_true rfl, Nat.le_of_ble_eq_true rfl⟩ (Nat.le_of_ble_eq_true rfl) (fun _ h8 h9 => absurd h9 (Nat.not_le.mpr h8)) dX4_reach_30 33 rfl (nw_rdK ?_) nw_noX
      show nwV X _ _ 10 H2 0 0 33 [(0, .ref y), (1, .int (nI an)), (2, .int (nI tn)), (3, .int q)] [.int (b2i (nw_rg 0 60 q))]
      refine nw_ifeqB C 45 dX4_reach_33 (by decide) 36 rfl (fun h15 => ?_) (fun h15 => ?_)
      · refine nw_aload_n C 0 dX4_reach_45 rfl 46 rfl ?_
        refine nw_iconst C (nI 2) dX4_reach_46 (by decide) 47 rfl ?_
        refine nw_callV C (mX4_no _ C.hfl d y (.int (nI 0)) (.int (nI (gr_w (sg_gr σ)))) (.int (nI (gr_h (sg_gr σ)))) (.ref (am 9)) (.int (nI (gaM_f (sg_ga σ)))) (.int (oI (gaM_t (sg_ga σ)))) (.ref (am 1)) (.ref (am 2)) (.ref (am 3)) (.ref (am 4)) (.int (nI (wo_s (sg_wo σ)))) (.int (nI (wo_m (sg_wo σ)))) (.int (nI (sp_after (wo_x (sg_wo σ))))) (.ref (am 11)) (.ref (am 12)) (.int (nI (sg_ri σ))) (.ref (am 8)) (.ref (am 5)) (.ref (am 6)) (.int (nI (sg_rf σ))) (nI 2) H2 hB hyB hmX) kX4_no q1694 (hmX.is C (ci := 9) rfl) (As := [.int (nI 2)]) (rest := []) rfl rfl ⟨⟨Nat.le_of_ble_eq_true rfl, Nat.le_of_ble_eq_true rfl⟩, (show 0 + 0 ≤ 62 by omega), (show 0 + 0 ≤ 3968 by omega)⟩ (Nat.le_of_ble_eq_true rfl) (fun q8 h8 h9 => h9.elim (fun e9 => by rw [e9]; exact hAy) (fun e9 => absurd h8 (Nat.not_lt.mpr e9))) dX4_reach_47 50 rfl (fun v9 H16 hR17 hz18 hq19 => ?_) nw_noX
        obtain ⟨rfl, ho20⟩ := hR17
        have hR8 := hR.ext hext
        have hR9 : nwMW d ro am y σ (nI 2) H16 := hR8.obj hz18 (fun q9 g9 n9 _ => hq19 q9 g9 (fun e9 => e9.elim n9 (Nat.not_le.mpr g9))) mSame.rfl ho20
        have hle9 : H.size ≤ H16.size := Nat.le_trans (Nat.le_of_eq hzb.symm) (Nat.le_trans hext.1 hz18)
        show nwV X _ _ 10 H16 (0 + 0) (0 + 0) 50 [(0, .ref y), (1, .int (nI an)), (2, .int (nI tn)), (3, .int q)] [.int (nI 0)]
        refine nw_wide (k' := 0) (n' := 0) (by omega) (by omega) ?_
        have hop : op_reach σ (nI an) (nI tn) q = (2, 0) := by simp [op_reach, h6, h8, h15, en_an, en_tn]; try omega
        exact nw_iret C dX4_reach_50 (by omega) (by omega) (by rw [hop]; exact ⟨rfl, ok, hle9, ro, am, hR9, fun _ _ => rfl⟩)
      · obtain ⟨qn, hk21, rfl⟩ := nw_rg_nat (by omega) (by omega) h15
        have en_qn : nw_nn (nI qn) = qn := nw_nn_nI (by omega)
        refine nw_iload_n C 2 dX4_reach_36 rfl 37 rfl ?_
        refine nw_iload_n C 3 dX4_reach_37 rfl 38 rfl ?_
        refine nw_iaddN C dX4_reach_38 39 rfl ?_
        refine nw_sipush C (nI 239) dX4_reach_39 (by decide) 42 rfl ?_
        refine nw_icmpleN C (by omega) 51 dX4_reach_42 (by decide) 45 rfl (fun h22 => ?_) (fun h22 => ?_)
        · refine nw_aload_n C 0 dX4_reach_51 rfl 52 rfl ?_
          refine nw_iload_n C 1 dX4_reach_52 rfl 53 rfl ?_
          refine nw_iload_n C 2 dX4_reach_53 rfl 54 rfl ?_
          refine nw_callV C (mX4_at _ C.hfl d ro am y σ (nI 0) an tn H2 hB hW okM (by omega) (by omega)) kX4_at q2024 (hmX.is C (ci := 9) rfl) (As := [.int (nI an), .int (nI tn)]) (rest := []) rfl rfl ⟨⟨Nat.le_of_ble_eq_true rfl, Nat.le_of_ble_eq_true rfl⟩, (show 0 + 1 ≤ 62 by omega), (show 0 + 64 ≤ 3968 by omega)⟩ (Nat.le_of_ble_eq_true rfl) (fun _ h8 h9 => absurd h9 (Nat.not_le.mpr h8)) dX4_reach_54 57 rfl (fun v9 H23 hR24 hz25 hq26 => ?_) nw_noX
          obtain ⟨⟨ar27, rfl, hn28, hi29⟩, -⟩ := hR24
          have hn30 : H2.size ≤ ar27 := (Nat.le_trans hext.1 hn28)
          replace hext := hext.call hz25 hq26
          replace hW := hW0.ext hext.2
          replace hE := hE0.ext hext.2
          replace hB := Nat.le_trans hB0 hext.1
          clear hmX hmKi hmLa hmFo hmGu hmPo hmIn hmWi hmWo hmKe
          obtain ⟨hmX, hmKi, hmLa, hmFo, hmGu, hmPo, hmIn, hmWi, hmWo, hmKe⟩ := id hW
          show nwV X _ _ 10 H23 (0 + 1) (0 + 64) 57 [(0, .ref y), (1, .int (nI an)), (2, .int (nI tn)), (3, .int (nI qn))] [.ref ar27]
          refine nw_wide (k' := 1) (n' := 64) (by omega) (by omega) ?_
          refine nw_astore C [(4, .ref ar27), (0, .ref y), (1, .int (nI an)), (2, .int (nI tn)), (3, .int (nI qn))] dX4_reach_57 (by decide) rfl 59 rfl ?_
          refine nw_iconst C (nI 1) dX4_reach_59 (by decide) 60 rfl ?_
          refine nw_istore C [(5, .int (nI 1)), (4, .ref ar27), (0, .ref y), (1, .int (nI an)), (2, .int (nI tn)), (3, .int (nI qn))] dX4_reach_60 (by decide) rfl 62 rfl ?_
          have lp1 : ∀ (fu : Nat) (HL : Heap) (j : Nat) (na : Nat), (nwExt H2 HL) → (nwI d na 1 (gr_n (sg_gr σ)) (fun k => b2i ((sp_seq σ an tn (j - 1)) k)) HL) → (H2.size ≤ na) → (j ≤ qn + 1) → (1 ≤ j) → (tn + qn ≤ 239) → qn + 1 - j < fu → nwV X (nwAM ro H) (nwQE X (nwMv d ro y ((op_reach σ (nI an) (nI tn) (nI qn)).1, (op_reach σ (nI an) (nI tn) (nI qn)).2, σ) H) nwNo (nwAM ro H) 62 3968) 10 HL j (64 * j) 62 [(0, .ref y), (1, .int (nI an)), (2, .int (nI tn)), (3, .int (nI qn)), (4, .ref na), (5, .int (nI j))] [] := by
            intro fu
            induction fu with
            | zero => intro HL j na _ _ _ _ _ _ hm; exact absurd hm (Nat.not_lt_zero _)
            | succ fu ih_lp1 =>
              intro HL j na hext hcz hna hj hj1 htq hm
              replace hW := hW0.ext hext.2
              replace hE := hE0.ext hext.2
              replace hB := Nat.le_trans hB0 hext.1
              clear hmX hmKi hmLa hmFo hmGu hmPo hmIn hmWi hmWo hmKe
              obtain ⟨hmX, hmKi, hmLa, hmFo, hmGu, hmPo, hmIn, hmWi, hmWo, hmKe⟩ := id hW
              refine nw_iload C 5 dX4_reach_62 rfl 64 rfl ?_
              refine nw_iload_n C 3 dX4_reach_64 rfl 65 rfl ?_
              refine nw_icmpgtN C (by omega) 86 dX4_reach_65 (by decide) 68 rfl (fun h31 => ?_) (fun h31 => ?_)
              · have hz9 : j - 1 = qn := by omega
                refine nw_iconst C (nI 0) dX4_reach_86 (by decide) 87 rfl ?_
                refine nw_istore C [(5, .int (nI 0)), (0, .ref y), (1, .int (nI an)), (2, .int (nI tn)), (3, .int (nI qn)), (4, .ref na)] dX4_reach_87 (by decide) rfl 89 rfl ?_
                refine nw_aload C 5 dX4_reach_89 rfl 91 rfl ?_
                refine nw_astore C [(6, .ref na), (5, .int (nI 0)), (0, .ref y), (1, .int (nI an)), (2, .int (nI tn)), (3, .int (nI qn)), (4, .ref na)] dX4_reach_91 (by decide) rfl 93 rfl ?_
                refine nw_aload C 0 dX4_reach_93 rfl 95 rfl ?_
                refine nw_alenI C hcz (by decide) dX4_reach_95 96 rfl ?_
                refine nw_istore C [(7, .int (nI (gr_n (sg_gr σ)))), (6, .ref na), (5, .int (nI 0)), (0, .ref y), (1, .int (nI an)), (2, .int (nI tn)), (3, .int (nI qn)), (4, .ref na)] dX4_reach_96 (by decide) rfl 98 rfl ?_
                refine nw_iconst C (nI 0) dX4_reach_98 (by decide) 99 rfl ?_
                refine nw_istore C [(8, .int (nI 0)), (7, .int (nI (gr_n (sg_gr σ)))), (6, .ref na), (5, .int (nI 0)), (0, .ref y), (1, .int (nI an)), (2, .int (nI tn)), (3, .int (nI qn)), (4, .ref na)] dX4_reach_99 (by decide) rfl 101 rfl ?_
                have lp32 : ∀ (fu : Nat) (i : Nat) (m : Nat), (i ≤ gr_n (sg_gr σ)) → (m = sp_cnt (sp_seq σ an tn (j - 1)) i) → gr_n (sg_gr σ) - i < fu → nwV X (nwAM ro H) (nwQE X (nwMv d ro y ((op_reach σ (nI an) (nI tn) (nI qn)).1, (op_reach σ (nI an) (nI tn) (nI qn)).2, σ) H) nwNo (nwAM ro H) 62 3968) 10 HL j (64 * j) 101 [(4, .ref na), (5, .int (nI m)), (6, .ref na), (7, .int (nI (gr_n (sg_gr σ)))), (8, .int (nI i))] [] := by
                  intro fu
                  induction fu with
                  | zero => intro i m _ _ hm; exact absurd hm (Nat.not_lt_zero _)
                  | succ fu ih_lp32 =>
                    intro i m hi hmm hm
                    refine nw_iload C 4 dX4_reach_101 rfl 103 rfl ?_
                    refine nw_iload C 3 dX4_reach_103 rfl 105 rfl ?_
                    refine nw_icmpgeN C (by omega) 136 dX4_reach_105 (by decide) 108 rfl (fun h33 => ?_) (fun h33 => ?_)
                    · refine nw_iload C 1 dX4_reach_136 rfl 138 rfl ?_
                      have hz0 : m = sp_cnt (sp_seq σ an tn qn) (gr_n (sg_gr σ)) := by rw [hmm, show i = gr_n (sg_gr σ) by omega, hz9]
                      have hlt9 : ¬ 240 ≤ tn + qn := by omega
                      have hop : op_reach σ (nI an) (nI tn) (nI qn) = (0, nI m) := by simp [op_reach, hlt9, hz0, h6, h8, h15, en_an, en_tn, en_qn]
                      exact nw_iret C dX4_reach_138 (by omega) (by omega) (by rw [hop]; exact ⟨rfl, ok, Nat.le_trans (Nat.le_of_eq hzb.symm) hext.1, ro, am, hR.ext hext, fun _ _ => rfl⟩)
                    · refine nw_aload C 2 dX4_reach_108 rfl 110 rfl ?_
                      refine nw_iload C 4 dX4_reach_110 rfl 112 rfl ?_
                      refine nw_zaldN C (b2i ((sp_seq σ an tn (j - 1)) i)) hcz (by omega) rfl dX4_reach_112 113 rfl ?_
                      refine nw_istore C [(9, .int (b2i ((sp_seq σ an tn (j - 1)) i))), (4, .ref na), (5, .int (nI m)), (6, .ref na), (7, .int (nI (gr_n (sg_gr σ)))), (8, .int (nI i))] dX4_reach_113 (by decide) rfl 115 rfl ?_
                      refine nw_iload C 2 dX4_reach_115 rfl 117 rfl ?_
                      refine nw_iload C 0 dX4_reach_117 rfl 119 rfl ?_
                      refine nw_ifeqB C 126 dX4_reach_119 (by decide) 122 rfl (fun h34 => ?_) (fun h34 => ?_)
                      · refine nw_iconst C (nI 0) dX4_reach_126 (by decide) 127 rfl ?_
                        refine nw_iaddN C dX4_reach_127 128 rfl ?_
                        refine nw_istore C [(5, .int (nI (m + 0))), (9, .int (b2i ((sp_seq σ an tn (j - 1)) i))), (4, .ref na), (6, .ref na), (7, .int (nI (gr_n (sg_gr σ)))), (8, .int (nI i))] dX4_reach_128 (by decide) rfl 130 rfl ?_
                        refine nw_iincN C 5 (c0 := 1) [(8, .int (nI (i + 1))), (5, .int (nI (m + 0))), (9, .int (b2i ((sp_seq σ an tn (j - 1)) i))), (4, .ref na), (6, .ref na), (7, .int (nI (gr_n (sg_gr σ))))] dX4_reach_130 rfl (by decide) rfl 133 rfl ?_
                        refine nw_goto C 101 dX4_reach_133 (by decide) ?_
                        exact nw_wide (by omega) (by omega) (nw_sub [3, 1, 4, 5, 0] rfl (ih_lp32 (i + 1) m (by omega) (by rw [sp_cnt_f (p := (sp_seq σ an tn (j - 1))) (n := i) h34]; omega) (by omega)))
                      · refine nw_iconst C (nI 1) dX4_reach_122 (by decide) 123 rfl ?_
                        refine nw_goto C 127 dX4_reach_123 (by decide) ?_
                        refine nw_iaddN C dX4_reach_127 128 rfl ?_
                        refine nw_istore C [(5, .int (nI (m + 1))), (9, .int (b2i ((sp_seq σ an tn (j - 1)) i))), (4, .ref na), (6, .ref na), (7, .int (nI (gr_n (sg_gr σ)))), (8, .int (nI i))] dX4_reach_128 (by decide) rfl 130 rfl ?_
                        refine nw_iincN C 5 (c0 := 1) [(8, .int (nI (i + 1))), (5, .int (nI (m + 1))), (9, .int (b2i ((sp_seq σ an tn (j - 1)) i))), (4, .ref na), (6, .ref na), (7, .int (nI (gr_n (sg_gr σ))))] dX4_reach_130 rfl (by decide) rfl 133 rfl ?_
                        refine nw_goto C 101 dX4_reach_133 (by decide) ?_
                        exact nw_wide (by omega) (by omega) (nw_sub [3, 1, 4, 5, 0] rfl (ih_lp32 (i + 1) (m + 1) (by omega) (by rw [sp_cnt_t (p := (sp_seq σ an tn (j - 1))) (n := i) h34]; omega) (by omega)))
                exact nw_wide (by omega) (by omega) (nw_sub [8, 3, 2, 1, 0] rfl (lp32 _ 0 0 (Nat.zero_le _) rfl (Nat.lt_succ_self _)))
              · refine nw_aload_n C 0 dX4_reach_68 rfl 69 rfl ?_
                refine nw_aload C 4 dX4_reach_69 rfl 71 rfl ?_
                refine nw_iload_n C 2 dX4_reach_71 rfl 72 rfl ?_
                refine nw_iload C 5 dX4_reach_72 rfl 74 rfl ?_
                refine nw_iaddN C dX4_reach_74 75 rfl ?_
                refine nw_callV C (mX4_onward _ C.hfl d ro am y σ (nI 0) na (tn + j) (sp_seq σ an tn (j - 1)) HL hB hW okM hcz (by omega)) kX4_onward q2032 (hmX.is C (ci := 9) rfl) (As := [.ref na, .int (nI (tn + j))]) (rest := []) rfl rfl ⟨⟨Nat.le_of_ble_eq_true rfl, Nat.le_of_ble_eq_true rfl⟩, (show j + 1 ≤ 62 by omega), (show (64 * j) + 64 ≤ 3968 by omega)⟩ (Nat.le_of_ble_eq_true rfl) (fun _ h8 h9 => absurd h9 (Nat.not_le.mpr h8)) dX4_reach_75 78 rfl (fun v9 H35 hR36 hz37 hq38 => ?_) nw_noX
                obtain ⟨⟨ar39, rfl, hn40, hi41⟩, -⟩ := hR36
                have hn42 : H2.size ≤ ar39 := (Nat.le_trans hext.1 hn40)
                have hne43 : na ≠ ar39 := (Nat.ne_of_lt (Nat.lt_of_lt_of_le hcz.lt hn40))
                have ho44 := hcz.kept (hq38 _ hcz.lt (Nat.not_le.mpr hcz.lt))
                replace hext := hext.call hz37 hq38
                replace hW := hW0.ext hext.2
                replace hE := hE0.ext hext.2
                replace hB := Nat.le_trans hB0 hext.1
                clear hmX hmKi hmLa hmFo hmGu hmPo hmIn hmWi hmWo hmKe
                obtain ⟨hmX, hmKi, hmLa, hmFo, hmGu, hmPo, hmIn, hmWi, hmWo, hmKe⟩ := id hW
                show nwV X _ _ 10 H35 (j + 1) ((64 * j) + 64) 78 [(0, .ref y), (1, .int (nI an)), (2, .int (nI tn)), (3, .int (nI qn)), (4, .ref na), (5, .int (nI j))] [.ref ar39]
                refine nw_wide (k' := j + 1) (n' := 64 * j + 64) (by omega) (by omega) ?_
                refine nw_astore C [(4, .ref ar39), (0, .ref y), (1, .int (nI an)), (2, .int (nI tn)), (3, .int (nI qn)), (5, .int (nI j))] dX4_reach_78 (by decide) rfl 80 rfl ?_
                have hcj45 : nwI d ar39 1 (gr_n (sg_gr σ)) (fun k => b2i (sp_seq σ an tn j k)) H35 := (by rw [← sp_seq_s (by omega)]; exact hi41)
                refine nw_iincN C 5 (c0 := 1) [(5, .int (nI (j + 1))), (4, .ref ar39), (0, .ref y), (1, .int (nI an)), (2, .int (nI tn)), (3, .int (nI qn))] dX4_reach_80 rfl (by decide) rfl 83 rfl ?_
                refine nw_goto C 62 dX4_reach_83 (by decide) ?_
                exact nw_wide (by omega) (by omega) (nw_sub [2, 3, 4, 5, 1, 0] rfl (ih_lp1 H35 (j + 1) ar39 hext hcj45 hn42 (by omega) (by omega) htq (by omega)))
          exact nw_wide (by omega) (by omega) (nw_sub [2, 3, 4, 5, 1, 0] rfl (lp1 _ H23 1 ar27 hext hi29 hn30 (by omega) (Nat.le_refl _) (by omega) (Nat.lt_succ_self _)))
        · refine nw_aload_n C 0 dX4_reach_45 rfl 46 rfl ?_
          refine nw_iconst C (nI 2) dX4_reach_46 (by decide) 47 rfl ?_
          refine nw_callV C (mX4_no _ C.hfl d y (.int (nI 0)) (.int (nI (gr_w (sg_gr σ)))) (.int (nI (gr_h (sg_gr σ)))) (.ref (am 9)) (.int (nI (gaM_f (sg_ga σ)))) (.int (oI (gaM_t (sg_ga σ)))) (.ref (am 1)) (.ref (am 2)) (.ref (am 3)) (.ref (am 4)) (.int (nI (wo_s (sg_wo σ)))) (.int (nI (wo_m (sg_wo σ)))) (.int (nI (sp_after (wo_x (sg_wo σ))))) (.ref (am 11)) (.ref (am 12)) (.int (nI (sg_ri σ))) (.ref (am 8)) (.ref (am 5)) (.ref (am 6)) (.int (nI (sg_rf σ))) (nI 2) H2 hB hyB hmX) kX4_no q1694 (hmX.is C (ci := 9) rfl) (As := [.int (nI 2)]) (rest := []) rfl rfl ⟨⟨Nat.le_of_ble_eq_true rfl, Nat.le_of_ble_eq_true rfl⟩, (show 0 + 0 ≤ 62 by omega), (show 0 + 0 ≤ 3968 by omega)⟩ (Nat.le_of_ble_eq_true rfl) (fun q8 h8 h9 => h9.elim (fun e9 => by rw [e9]; exact hAy) (fun e9 => absurd h8 (Nat.not_lt.mpr e9))) dX4_reach_47 50 rfl (fun v9 H46 hR47 hz48 hq49 => ?_) nw_noX
          obtain ⟨rfl, ho50⟩ := hR47
          have hR8 := hR.ext hext
          have hR9 : nwMW d ro am y σ (nI 2) H46 := hR8.obj hz48 (fun q9 g9 n9 _ => hq49 q9 g9 (fun e9 => e9.elim n9 (Nat.not_le.mpr g9))) mSame.rfl ho50
          have hle9 : H.size ≤ H46.size := Nat.le_trans (Nat.le_of_eq hzb.symm) (Nat.le_trans hext.1 hz48)
          show nwV X _ _ 10 H46 (0 + 0) (0 + 0) 50 [(0, .ref y), (1, .int (nI an)), (2, .int (nI tn)), (3, .int (nI qn))] [.int (nI 0)]
          refine nw_wide (k' := 0) (n' := 0) (by omega) (by omega) ?_
          have hop : op_reach σ (nI an) (nI tn) (nI qn) = (2, 0) := by simp [op_reach, h6, h8, h15, h22, en_an, en_tn, en_qn]; try omega
          exact nw_iret C dX4_reach_50 (by omega) (by omega) (by rw [hop]; exact ⟨rfl, ok, hle9, ro, am, hR9, fun _ _ => rfl⟩)
  · refine nw_aload_n C 0 dX4_reach_13 rfl 14 rfl ?_
    refine nw_iconst C (nI 1) dX4_reach_14 (by decide) 15 rfl ?_
    refine nw_callV C (mX4_no _ C.hfl d y (.int (nI 0)) (.int (nI (gr_w (sg_gr σ)))) (.int (nI (gr_h (sg_gr σ)))) (.ref (am 9)) (.int (nI (gaM_f (sg_ga σ)))) (.int (oI (gaM_t (sg_ga σ)))) (.ref (am 1)) (.ref (am 2)) (.ref (am 3)) (.ref (am 4)) (.int (nI (wo_s (sg_wo σ)))) (.int (nI (wo_m (sg_wo σ)))) (.int (nI (sp_after (wo_x (sg_wo σ))))) (.ref (am 11)) (.ref (am 12)) (.int (nI (sg_ri σ))) (.ref (am 8)) (.ref (am 5)) (.ref (am 6)) (.int (nI (sg_rf σ))) (nI 1) H2 hB hyB hmX) kX4_no q1694 (hmX.is C (ci := 9) rfl) (As := [.int (nI 1)]) (rest := []) rfl rfl ⟨⟨Nat.le_of_ble_eq_true rfl, Nat.le_of_ble_eq_true rfl⟩, (show 0 + 0 ≤ 62 by omega), (show 0 + 0 ≤ 3968 by omega)⟩ (Nat.le_of_ble_eq_true rfl) (fun q8 h8 h9 => h9.elim (fun e9 => by rw [e9]; exact hAy) (fun e9 => absurd h8 (Nat.not_lt.mpr e9))) dX4_reach_15 18 rfl (fun v9 H51 hR52 hz53 hq54 => ?_) nw_noX
    obtain ⟨rfl, ho55⟩ := hR52
    have hR8 := hR.ext hext
    have hR9 : nwMW d ro am y σ (nI 1) H51 := hR8.obj hz53 (fun q9 g9 n9 _ => hq54 q9 g9 (fun e9 => e9.elim n9 (Nat.not_le.mpr g9))) mSame.rfl ho55
    have hle9 : H.size ≤ H51.size := Nat.le_trans (Nat.le_of_eq hzb.symm) (Nat.le_trans hext.1 hz53)
    show nwV X _ _ 10 H51 (0 + 0) (0 + 0) 18 [(0, .ref y), (1, .int a), (2, .int t), (3, .int q)] [.int (nI 0)]
    refine nw_wide (k' := 0) (n' := 0) (by omega) (by omega) ?_
    have hop : op_reach σ a t q = (1, 0) := by simp [op_reach, h6]; try omega
    exact nw_iret C dX4_reach_18 (by omega) (by omega) (by rw [hop]; exact ⟨rfl, ok, hle9, ro, am, hR9, fun _ _ => rfl⟩)
