/-! ===== the reference: force, answer ===== -/
theorem st_answer_same (s : spSg) (g : Nat) : st_answer s g (4, (sg_gu s).2 g) = s := by
  have h : sp_up (sg_gu s).2 g ((sg_gu s).2 g) = (sg_gu s).2 := by
    funext k
    by_cases e : k = g
    · rw [e, sp_up_at]
    · rw [sp_up_ne _ _ e]
  unfold st_answer
  show st_ri (st_gu s ((sg_gu s).1, sp_up (sg_gu s).2 g ((sg_gu s).2 g))) (sg_ri s + 0) = s
  rw [h]
  rfl
theorem kX4_judged : nwPV "NightwatchWallModel" yX4_judged cX4_judged 8 (some .int) 3 := ⟨⟨q1915, qs68, q93, q1916⟩, rfl, by decide +kernel, by decide +kernel, by decide +kernel⟩
set_option maxHeartbeats 4000000 in
theorem mX4_force (l : Launch) (hf : l.flags = flags0) (d : nwD) (ro am : Nat → Nat) (y : Nat) (σ : spSg) (th : Int32) (iv : Int32) (k : Int32) (t : Int32) (H : Heap) (hB : nd_B d ≤ H.size) (hR : nwMW d ro am y σ th H) (ok : spOk σ) : nwMt l d yX4_force cX4_force 6 (some .int) 8 179 0 0 [.ref y, .int iv, .int k, .int t] H (nwMv d ro y (op_force σ iv k t) H) nwNo (nwAM ro H) := by
  refine nw_start "NightwatchWallModel" "force" hf (by decide +kernel) rfl rfl (fun _ h => Or.inr h) (nwAM_B hR hB) (Nat.le_of_ble_eq_true rfl) ?_
  intro X C
  have hW := hR.wc
  have okM := ok.m
  have hyB := (hR.ok0 (show ro y ≠ 0 by rw [hR.2.1.2]; decide)).1
  have hAy : nwAM ro H y := Or.inl (by rw [hR.2.1.2]; decide +kernel)
  have hW0 := hW
  have hB0 := hB
  have hE := C.E0
  have hext : nwExt H H := nwExt.rfl
  obtain ⟨hmX, hmKi, hmLa, hmFo, hmGu, hmPo, hmIn, hmWi, hmWo, hmKe⟩ := id hW
  obtain ⟨okg, okl, okf, oku, okp, oki, okw, okd, okk, oka⟩ := id ok
  have hn64 : gr_n (sg_gr σ) ≤ 64 := okg.n
  have oku1 := oku.1
  have oki1 := oki.1
  have okp1 := okp.1
  have okw1 := okw.1
  have okl1 := okl.1
  have okf1 := okf.1
  show nwV X _ _ 6 H 0 0 0 [(0, .ref y), (1, .int iv), (2, .int k), (3, .int t)] []
  refine nw_aload_n C 0 dX4_force_0 rfl 1 rfl ?_
  refine nw_iconst C (nI 0) dX4_force_1 (by decide) 2 rfl ?_
  refine nw_put C hmX hAy (T := TX4) (ty0 := tyX4) rfl in_X4 tyX4_ok nmX4 0 (by decide) q1622 (Or.inl rfl) rfl rfl rfl (Nat.le_of_ble_eq_true rfl) dX4_force_2 5 rfl (fun H1 ho2 hz3 hq4 => ?_)
  have ho2 : nwO d y 9 [.int (nI 0), .int (nI (gr_w (sg_gr σ))), .int (nI (gr_h (sg_gr σ))), .ref (am 9), .int (nI (gaM_f (sg_ga σ))), .int (oI (gaM_t (sg_ga σ))), .ref (am 1), .ref (am 2), .ref (am 3), .ref (am 4), .int (nI (wo_s (sg_wo σ))), .int (nI (wo_m (sg_wo σ))), .int (nI (sp_after (wo_x (sg_wo σ)))), .ref (am 11), .ref (am 12), .int (nI (sg_ri σ)), .ref (am 8), .ref (am 5), .ref (am 6), .int (nI (sg_rf σ))] H1 := ho2
  replace hR := hR.th hz3 hq4 ho2
  have hzb : H1.size = H.size := hz3
  replace hB0 : nd_B d ≤ H1.size := by rw [hz3]; exact hB0
  replace hB := hB0
  replace hE := hE.kept (fun q9 _ hb9 => hq4 q9 (fun e9 => hb9 (by rw [e9]; exact hyB)))
  have hE0 := hE
  replace hW0 := hR.wc
  replace hW := hW0
  replace hext : nwExt H1 H1 := nwExt.rfl
  clear hmX hmKi hmLa hmFo hmGu hmPo hmIn hmWi hmWo hmKe
  obtain ⟨hmX, hmKi, hmLa, hmFo, hmGu, hmPo, hmIn, hmWi, hmWo, hmKe⟩ := id hW
  refine nw_aload_n C 0 dX4_force_5 rfl 6 rfl ?_
  refine nw_iload_n C 1 dX4_force_6 rfl 7 rfl ?_
  refine nw_callV C (mX4_isIntruder _ C.hfl d ro am y σ (nI 0) iv H1 hB hW okM ) kX4_isIntruder q1976 (hmX.is C (ci := 9) rfl) (As := [.int iv]) (rest := []) rfl rfl ⟨⟨Nat.le_of_ble_eq_true rfl, Nat.le_of_ble_eq_true rfl⟩, Nat.le_of_ble_eq_true rfl, Nat.le_of_ble_eq_true rfl⟩ (Nat.le_of_ble_eq_true rfl) (fun _ h8 h9 => absurd h9 (Nat.not_le.mpr h8)) dX4_force_7 10 rfl (nw_rdK ?_) nw_noX
  refine nw_ifneB C 19 dX4_force_10 (by decide) 13 rfl (fun h5 => ?_) (fun h5 => ?_)
  · obtain ⟨ivn, hk6, rfl⟩ := nw_ix_nat (by omega) h5
    have en_ivn : nw_nn (nI ivn) = ivn := nw_nn_nI (by omega)
    refine nw_iload_n C 2 dX4_force_19 rfl 20 rfl ?_
    refine nw_iconst C (nI 0) dX4_force_20 (by decide) 21 rfl ?_
    refine nw_iconst C (nI 3) dX4_force_21 (by decide) 22 rfl ?_
    refine nw_callS C (mX4_inR _ C.hfl d k (nI 0) (nI 3) H1 hB) kX4_in q1691 (As := [.int k, .int (nI 0), .int (nI 3)]) (rest := []) rfl rfl ⟨⟨Nat.le_of_ble_eq_true rfl, Nat.le_of_ble_eq_true rfl⟩, Nat.le_of_ble_eq_true rfl, Nat.le_of_ble_eq_true rfl⟩ (Nat.le_of_ble_eq_true rfl) (fun _ h8 h9 => absurd h9 (Nat.not_le.mpr h8)) dX4_force_22 25 rfl (nw_rdK ?_) nw_noX
    show nwV X _ _ 6 H1 0 0 25 [(0, .ref y), (1, .int (nI ivn)), (2, .int k), (3, .int t)] [.int (b2i (nw_rg 0 3 k))]
    refine nw_ifeqB C 35 dX4_force_25 (by decide) 28 rfl (fun h7 => ?_) (fun h7 => ?_)
    · refine nw_aload_n C 0 dX4_force_35 rfl 36 rfl ?_
      refine nw_iconst C (nI 2) dX4_force_36 (by decide) 37 rfl ?_
      refine nw_callV C (mX4_no _ C.hfl d y (.int (nI 0)) (.int (nI (gr_w (sg_gr σ)))) (.int (nI (gr_h (sg_gr σ)))) (.ref (am 9)) (.int (nI (gaM_f (sg_ga σ)))) (.int (oI (gaM_t (sg_ga σ)))) (.ref (am 1)) (.ref (am 2)) (.ref (am 3)) (.ref (am 4)) (.int (nI (wo_s (sg_wo σ)))) (.int (nI (wo_m (sg_wo σ)))) (.int (nI (sp_after (wo_x (sg_wo σ))))) (.ref (am 11)) (.ref (am 12)) (.int (nI (sg_ri σ))) (.ref (am 8)) (.ref (am 5)) (.ref (am 6)) (.int (nI (sg_rf σ))) (nI 2) H1 hB hyB hmX) kX4_no q1694 (hmX.is C (ci := 9) rfl) (As := [.int (nI 2)]) (rest := []) rfl rfl ⟨⟨Nat.le_of_ble_eq_true rfl, Nat.le_of_ble_eq_true rfl⟩, (show 0 + 0 ≤ 0 by omega), (show 0 + 0 ≤ 0 by omega)⟩ (Nat.le_of_ble_eq_true rfl) (fun q8 h8 h9 => h9.elim (fun e9 => by rw [e9]; exact hAy) (fun e9 => absurd h8 (Nat.not_lt.mpr e9))) dX4_force_37 40 rfl (fun v9 H8 hR9 hz10 hq11 => ?_) nw_noX
      obtain ⟨rfl, ho12⟩ := hR9
      have hR8 := hR.ext hext
      have hR9 : nwMW d ro am y σ (nI 2) H8 := hR8.obj hz10 (fun q9 g9 n9 _ => hq11 q9 g9 (fun e9 => e9.elim n9 (Nat.not_le.mpr g9))) mSame.rfl ho12
      have hle9 : H.size ≤ H8.size := Nat.le_trans (Nat.le_of_eq hzb.symm) (Nat.le_trans hext.1 hz10)
      show nwV X _ _ 6 H8 (0 + 0) (0 + 0) 40 [(0, .ref y), (1, .int (nI ivn)), (2, .int k), (3, .int t)] [.int (nI 0)]
      refine nw_wide (k' := 0) (n' := 0) (by omega) (by omega) ?_
      have hop : op_force σ (nI ivn) k t = (2, 0, σ) := by simp [op_force, h5, h7, en_ivn]
      exact nw_iret C dX4_force_40 (Nat.le_refl _) (Nat.le_refl _) (by rw [hop]; exact ⟨rfl, ok, hle9, ro, am, hR9, fun _ _ => rfl⟩)
    · obtain ⟨kn, hk13, rfl⟩ := nw_rg_nat (by omega) (by omega) h7
      have en_kn : nw_nn (nI kn) = kn := nw_nn_nI (by omega)
      refine nw_iload_n C 3 dX4_force_28 rfl 29 rfl ?_
      refine nw_callS C (mX4_isMinute _ C.hfl d t H1 hB) kX4_isMinute q1722 (As := [.int t]) (rest := []) rfl rfl ⟨⟨Nat.le_of_ble_eq_true rfl, Nat.le_of_ble_eq_true rfl⟩, Nat.le_of_ble_eq_true rfl, Nat.le_of_ble_eq_true rfl⟩ (Nat.le_of_ble_eq_true rfl) (fun _ h8 h9 => absurd h9 (Nat.not_le.mpr h8)) dX4_force_29 32 rfl (nw_rdK ?_) nw_noX
      refine nw_ifneB C 41 dX4_force_32 (by decide) 35 rfl (fun h14 => ?_) (fun h14 => ?_)
      · obtain ⟨tn, hk15, rfl⟩ := nw_rg_nat (by omega) (by omega) h14
        have en_tn : nw_nn (nI tn) = tn := nw_nn_nI (by omega)
        refine nw_aload_n C 0 dX4_force_41 rfl 42 rfl ?_
        refine nw_get C hmX (T := TX4) rfl in_X4 17 (by decide) q1639 (Or.inl rfl) rfl dX4_force_42 45 rfl ?_
        refine nw_iload_n C 1 dX4_force_45 rfl 46 rfl ?_
        refine nw_callF C (mJ3_get _ C.hfl d (am 5) ((sg_in σ).1) (fun k => am (500 + k)) (fun q => ro q = 7006) ivn H1 hB hmIn.1 (by omega)) kJ3_get (ci := 13) rfl q1615 q1618 (by decide +kernel) fc_List_get (hmIn.1.is C) (As := [.int (nI ivn)]) (rest := []) rfl rfl ⟨⟨Nat.le_of_ble_eq_true rfl, Nat.le_of_ble_eq_true rfl⟩, Nat.le_of_ble_eq_true rfl, Nat.le_of_ble_eq_true rfl⟩ (Nat.le_of_ble_eq_true rfl) (fun _ h8 h9 => absurd h9 (Nat.not_le.mpr h8)) dX4_force_46 51 rfl (nw_rdK ?_) nw_noX
        have hg16 : nwMIn d (am (500 + ivn)) (am (600 + ivn)) ((sg_in σ).2 ivn) H1 := hmIn.2 ivn (by omega)
        have hk17 : okI1 (sg_gr σ) ((sg_in σ).2 ivn) := oki.2 ivn (by omega)
        have hg18 : nwO d (am (500 + ivn)) 11 [.int (nI (in_a ((sg_in σ).2 ivn))), .int (nI (in_v ((sg_in σ).2 ivn))), .ref (am (600 + ivn)), .int (nI (in_s ((sg_in σ).2 ivn))), .int (oI (in_l ((sg_in σ).2 ivn)))] H1 := hg16.1
        refine nw_cast C (ci := 11) rfl (hg18.is C (ci := 11) rfl) q1713 dX4_force_51 54 rfl ?_
        refine nw_astore C [(4, .ref (am (500 + ivn))), (0, .ref y), (1, .int (nI ivn)), (2, .int (nI kn)), (3, .int (nI tn))] dX4_force_54 (by decide) rfl 56 rfl ?_
        refine nw_aload_n C 1 dX4_force_56 rfl 57 rfl ?_
        refine nw_aload C 0 dX4_force_57 rfl 59 rfl ?_
        refine nw_callV C (mX4_foundNow _ C.hfl d ro am y σ (nI 0) (am (500 + ivn)) (am (600 + ivn)) ((sg_in σ).2 ivn) H1 hB hW okM hg16 hk17) kX4_foundNow q1988 (hmX.is C (ci := 9) rfl) (As := [.ref (am (500 + ivn))]) (rest := []) rfl rfl ⟨⟨Nat.le_of_ble_eq_true rfl, Nat.le_of_ble_eq_true rfl⟩, Nat.le_of_ble_eq_true rfl, Nat.le_of_ble_eq_true rfl⟩ (Nat.le_of_ble_eq_true rfl) (fun _ h8 h9 => absurd h9 (Nat.not_le.mpr h8)) dX4_force_59 62 rfl (nw_rdK ?_) nw_noX
        refine nw_istore C [(5, .int (oI (sp_foundS σ ((sg_in σ).2 ivn)))), (4, .ref (am (500 + ivn))), (0, .ref y), (1, .int (nI ivn)), (2, .int (nI kn)), (3, .int (nI tn))] dX4_force_62 (by decide) rfl 64 rfl ?_
        have hki := oki.2 ivn (by omega)
        have hki4 := hki.1.2.2.2.2.1
        generalize hfo : sp_foundS σ ((sg_in σ).2 ivn) = o
        rcases o with _ | f
        · show nwV X _ _ 6 H1 0 0 64 [(5, .int (oI none)), (4, .ref (am (500 + ivn))), (0, .ref y), (1, .int (nI ivn)), (2, .int (nI kn)), (3, .int (nI tn))] []
          refine nw_aload C 1 dX4_force_64 rfl 66 rfl ?_
          refine nw_get C hg18 (T := TX13) rfl in_X13 3 (by decide) q1947 (Or.inl rfl) rfl dX4_force_66 69 rfl ?_
          refine nw_iload_n C 4 dX4_force_69 rfl 70 rfl ?_
          refine nw_icmpneN C (by omega) 94 dX4_force_70 (by decide) 73 rfl (fun h19 => ?_) (fun h19 => ?_)
          · have hfF : sp_forced σ ((sg_in σ).2 ivn) kn tn = false := by
              unfold sp_forced
              rw [hfo]
              simp
              first | done | omega
            refine nw_aload_n C 2 dX4_force_94 rfl 95 rfl ?_
            refine nw_iconst C (nI 3) dX4_force_95 (by decide) 96 rfl ?_
            refine nw_callV C (mX4_no _ C.hfl d y (.int (nI 0)) (.int (nI (gr_w (sg_gr σ)))) (.int (nI (gr_h (sg_gr σ)))) (.ref (am 9)) (.int (nI (gaM_f (sg_ga σ)))) (.int (oI (gaM_t (sg_ga σ)))) (.ref (am 1)) (.ref (am 2)) (.ref (am 3)) (.ref (am 4)) (.int (nI (wo_s (sg_wo σ)))) (.int (nI (wo_m (sg_wo σ)))) (.int (nI (sp_after (wo_x (sg_wo σ))))) (.ref (am 11)) (.ref (am 12)) (.int (nI (sg_ri σ))) (.ref (am 8)) (.ref (am 5)) (.ref (am 6)) (.int (nI (sg_rf σ))) (nI 3) H1 hB hyB hmX) kX4_no q1694 (hmX.is C (ci := 9) rfl) (As := [.int (nI 3)]) (rest := []) rfl rfl ⟨⟨Nat.le_of_ble_eq_true rfl, Nat.le_of_ble_eq_true rfl⟩, (show 0 + 0 ≤ 0 by omega), (show 0 + 0 ≤ 0 by omega)⟩ (Nat.le_of_ble_eq_true rfl) (fun q8 h8 h9 => h9.elim (fun e9 => by rw [e9]; exact hAy) (fun e9 => absurd h8 (Nat.not_lt.mpr e9))) dX4_force_96 99 rfl (fun v9 H20 hR21 hz22 hq23 => ?_) nw_noX
            obtain ⟨rfl, ho24⟩ := hR21
            have hR8 := hR.ext hext
            have hR9 : nwMW d ro am y σ (nI 3) H20 := hR8.obj hz22 (fun q9 g9 n9 _ => hq23 q9 g9 (fun e9 => e9.elim n9 (Nat.not_le.mpr g9))) mSame.rfl ho24
            have hle9 : H.size ≤ H20.size := Nat.le_trans (Nat.le_of_eq hzb.symm) (Nat.le_trans hext.1 hz22)
            show nwV X _ _ 6 H20 (0 + 0) (0 + 0) 99 [(5, .int (oI none)), (4, .ref (am (500 + ivn))), (0, .ref y), (1, .int (nI ivn)), (2, .int (nI kn)), (3, .int (nI tn))] [.int (nI 0)]
            refine nw_wide (k' := 0) (n' := 0) (by omega) (by omega) ?_
            have hop : op_force σ (nI ivn) (nI kn) (nI tn) = (3, 0, σ) := by simp [op_force, h5, h7, h14, en_ivn, en_kn, en_tn, hfF]
            exact nw_iret C dX4_force_99 (Nat.le_refl _) (Nat.le_refl _) (by rw [hop]; exact ⟨rfl, ok, hle9, ro, am, hR9, fun _ _ => rfl⟩)
          · refine nw_iload C 0 dX4_force_73 rfl 75 rfl ?_
            refine nw_iconst C (oI none) dX4_force_75 (by decide) 76 rfl ?_
            refine nw_icmpeqT C rfl 94 dX4_force_76 (by decide) ?_
            have hfF : sp_forced σ ((sg_in σ).2 ivn) kn tn = false := by
              unfold sp_forced
              rw [hfo]
              simp
              first | done | omega
            refine nw_aload_n C 2 dX4_force_94 rfl 95 rfl ?_
            refine nw_iconst C (nI 3) dX4_force_95 (by decide) 96 rfl ?_
            refine nw_callV C (mX4_no _ C.hfl d y (.int (nI 0)) (.int (nI (gr_w (sg_gr σ)))) (.int (nI (gr_h (sg_gr σ)))) (.ref (am 9)) (.int (nI (gaM_f (sg_ga σ)))) (.int (oI (gaM_t (sg_ga σ)))) (.ref (am 1)) (.ref (am 2)) (.ref (am 3)) (.ref (am 4)) (.int (nI (wo_s (sg_wo σ)))) (.int (nI (wo_m (sg_wo σ)))) (.int (nI (sp_after (wo_x (sg_wo σ))))) (.ref (am 11)) (.ref (am 12)) (.int (nI (sg_ri σ))) (.ref (am 8)) (.ref (am 5)) (.ref (am 6)) (.int (nI (sg_rf σ))) (nI 3) H1 hB hyB hmX) kX4_no q1694 (hmX.is C (ci := 9) rfl) (As := [.int (nI 3)]) (rest := []) rfl rfl ⟨⟨Nat.le_of_ble_eq_true rfl, Nat.le_of_ble_eq_true rfl⟩, (show 0 + 0 ≤ 0 by omega), (show 0 + 0 ≤ 0 by omega)⟩ (Nat.le_of_ble_eq_true rfl) (fun q8 h8 h9 => h9.elim (fun e9 => by rw [e9]; exact hAy) (fun e9 => absurd h8 (Nat.not_lt.mpr e9))) dX4_force_96 99 rfl (fun v9 H26 hR27 hz28 hq29 => ?_) nw_noX
            obtain ⟨rfl, ho30⟩ := hR27
            have hR8 := hR.ext hext
            have hR9 : nwMW d ro am y σ (nI 3) H26 := hR8.obj hz28 (fun q9 g9 n9 _ => hq29 q9 g9 (fun e9 => e9.elim n9 (Nat.not_le.mpr g9))) mSame.rfl ho30
            have hle9 : H.size ≤ H26.size := Nat.le_trans (Nat.le_of_eq hzb.symm) (Nat.le_trans hext.1 hz28)
            show nwV X _ _ 6 H26 (0 + 0) (0 + 0) 99 [(5, .int (oI none)), (4, .ref (am (500 + ivn))), (0, .ref y), (1, .int (nI ivn)), (2, .int (nI kn)), (3, .int (nI tn))] [.int (nI 0)]
            refine nw_wide (k' := 0) (n' := 0) (by omega) (by omega) ?_
            have hop : op_force σ (nI ivn) (nI kn) (nI tn) = (3, 0, σ) := by simp [op_force, h5, h7, h14, en_ivn, en_kn, en_tn, hfF]
            exact nw_iret C dX4_force_99 (Nat.le_refl _) (Nat.le_refl _) (by rw [hop]; exact ⟨rfl, ok, hle9, ro, am, hR9, fun _ _ => rfl⟩)
        · show nwV X _ _ 6 H1 0 0 64 [(5, .int (nI f)), (4, .ref (am (500 + ivn))), (0, .ref y), (1, .int (nI ivn)), (2, .int (nI kn)), (3, .int (nI tn))] []
          have htt := sp_foundS_in hfo
          refine nw_aload C 1 dX4_force_64 rfl 66 rfl ?_
          refine nw_get C hg18 (T := TX13) rfl in_X13 3 (by decide) q1947 (Or.inl rfl) rfl dX4_force_66 69 rfl ?_
          refine nw_iload_n C 4 dX4_force_69 rfl 70 rfl ?_
          refine nw_icmpneN C (by omega) 94 dX4_force_70 (by decide) 73 rfl (fun h31 => ?_) (fun h31 => ?_)
          · have hfF : sp_forced σ ((sg_in σ).2 ivn) kn tn = false := by
              unfold sp_forced
              rw [hfo]
              simp
              first | done | omega
            refine nw_aload_n C 2 dX4_force_94 rfl 95 rfl ?_
            refine nw_iconst C (nI 3) dX4_force_95 (by decide) 96 rfl ?_
            refine nw_callV C (mX4_no _ C.hfl d y (.int (nI 0)) (.int (nI (gr_w (sg_gr σ)))) (.int (nI (gr_h (sg_gr σ)))) (.ref (am 9)) (.int (nI (gaM_f (sg_ga σ)))) (.int (oI (gaM_t (sg_ga σ)))) (.ref (am 1)) (.ref (am 2)) (.ref (am 3)) (.ref (am 4)) (.int (nI (wo_s (sg_wo σ)))) (.int (nI (wo_m (sg_wo σ)))) (.int (nI (sp_after (wo_x (sg_wo σ))))) (.ref (am 11)) (.ref (am 12)) (.int (nI (sg_ri σ))) (.ref (am 8)) (.ref (am 5)) (.ref (am 6)) (.int (nI (sg_rf σ))) (nI 3) H1 hB hyB hmX) kX4_no q1694 (hmX.is C (ci := 9) rfl) (As := [.int (nI 3)]) (rest := []) rfl rfl ⟨⟨Nat.le_of_ble_eq_true rfl, Nat.le_of_ble_eq_true rfl⟩, (show 0 + 0 ≤ 0 by omega), (show 0 + 0 ≤ 0 by omega)⟩ (Nat.le_of_ble_eq_true rfl) (fun q8 h8 h9 => h9.elim (fun e9 => by rw [e9]; exact hAy) (fun e9 => absurd h8 (Nat.not_lt.mpr e9))) dX4_force_96 99 rfl (fun v9 H32 hR33 hz34 hq35 => ?_) nw_noX
            obtain ⟨rfl, ho36⟩ := hR33
            have hR8 := hR.ext hext
            have hR9 : nwMW d ro am y σ (nI 3) H32 := hR8.obj hz34 (fun q9 g9 n9 _ => hq35 q9 g9 (fun e9 => e9.elim n9 (Nat.not_le.mpr g9))) mSame.rfl ho36
            have hle9 : H.size ≤ H32.size := Nat.le_trans (Nat.le_of_eq hzb.symm) (Nat.le_trans hext.1 hz34)
            show nwV X _ _ 6 H32 (0 + 0) (0 + 0) 99 [(5, .int (nI f)), (4, .ref (am (500 + ivn))), (0, .ref y), (1, .int (nI ivn)), (2, .int (nI kn)), (3, .int (nI tn))] [.int (nI 0)]
            refine nw_wide (k' := 0) (n' := 0) (by omega) (by omega) ?_
            have hop : op_force σ (nI ivn) (nI kn) (nI tn) = (3, 0, σ) := by simp [op_force, h5, h7, h14, en_ivn, en_kn, en_tn, hfF]
            exact nw_iret C dX4_force_99 (Nat.le_refl _) (Nat.le_refl _) (by rw [hop]; exact ⟨rfl, ok, hle9, ro, am, hR9, fun _ _ => rfl⟩)
          · refine nw_iload C 0 dX4_force_73 rfl 75 rfl ?_
            refine nw_iconst C (oI none) dX4_force_75 (by decide) 76 rfl ?_
            refine nw_icmpeqF C (nI_m1 (by omega)) 94 dX4_force_76 (by decide) 79 rfl ?_
            refine nw_iload_n C 5 dX4_force_79 rfl 80 rfl ?_
            refine nw_iload C 0 dX4_force_80 rfl 82 rfl ?_
            refine nw_icmpltN C (by omega) 94 dX4_force_82 (by decide) 85 rfl (fun h38 => ?_) (fun h38 => ?_)
            · have hfF : sp_forced σ ((sg_in σ).2 ivn) kn tn = false := by
                unfold sp_forced
                rw [hfo]
                simp
                first | done | omega
              refine nw_aload_n C 2 dX4_force_94 rfl 95 rfl ?_
              refine nw_iconst C (nI 3) dX4_force_95 (by decide) 96 rfl ?_
              refine nw_callV C (mX4_no _ C.hfl d y (.int (nI 0)) (.int (nI (gr_w (sg_gr σ)))) (.int (nI (gr_h (sg_gr σ)))) (.ref (am 9)) (.int (nI (gaM_f (sg_ga σ)))) (.int (oI (gaM_t (sg_ga σ)))) (.ref (am 1)) (.ref (am 2)) (.ref (am 3)) (.ref (am 4)) (.int (nI (wo_s (sg_wo σ)))) (.int (nI (wo_m (sg_wo σ)))) (.int (nI (sp_after (wo_x (sg_wo σ))))) (.ref (am 11)) (.ref (am 12)) (.int (nI (sg_ri σ))) (.ref (am 8)) (.ref (am 5)) (.ref (am 6)) (.int (nI (sg_rf σ))) (nI 3) H1 hB hyB hmX) kX4_no q1694 (hmX.is C (ci := 9) rfl) (As := [.int (nI 3)]) (rest := []) rfl rfl ⟨⟨Nat.le_of_ble_eq_true rfl, Nat.le_of_ble_eq_true rfl⟩, (show 0 + 0 ≤ 0 by omega), (show 0 + 0 ≤ 0 by omega)⟩ (Nat.le_of_ble_eq_true rfl) (fun q8 h8 h9 => h9.elim (fun e9 => by rw [e9]; exact hAy) (fun e9 => absurd h8 (Nat.not_lt.mpr e9))) dX4_force_96 99 rfl (fun v9 H39 hR40 hz41 hq42 => ?_) nw_noX
              obtain ⟨rfl, ho43⟩ := hR40
              have hR8 := hR.ext hext
              have hR9 : nwMW d ro am y σ (nI 3) H39 := hR8.obj hz41 (fun q9 g9 n9 _ => hq42 q9 g9 (fun e9 => e9.elim n9 (Nat.not_le.mpr g9))) mSame.rfl ho43
              have hle9 : H.size ≤ H39.size := Nat.le_trans (Nat.le_of_eq hzb.symm) (Nat.le_trans hext.1 hz41)
              show nwV X _ _ 6 H39 (0 + 0) (0 + 0) 99 [(5, .int (nI f)), (4, .ref (am (500 + ivn))), (0, .ref y), (1, .int (nI ivn)), (2, .int (nI kn)), (3, .int (nI tn))] [.int (nI 0)]
              refine nw_wide (k' := 0) (n' := 0) (by omega) (by omega) ?_
              have hop : op_force σ (nI ivn) (nI kn) (nI tn) = (3, 0, σ) := by simp [op_force, h5, h7, h14, en_ivn, en_kn, en_tn, hfF]
              exact nw_iret C dX4_force_99 (Nat.le_refl _) (Nat.le_refl _) (by rw [hop]; exact ⟨rfl, ok, hle9, ro, am, hR9, fun _ _ => rfl⟩)
            · refine nw_iload_n C 5 dX4_force_85 rfl 86 rfl ?_
              refine nw_aload C 1 dX4_force_86 rfl 88 rfl ?_
              refine nw_get C hg18 (T := TX13) rfl in_X13 4 (by decide) q1949 (Or.inl rfl) rfl dX4_force_88 91 rfl ?_
              generalize hol : in_l ((sg_in σ).2 ivn) = ol
              rcases ol with _ | lz
              · show nwV X _ _ 6 H1 0 0 91 [(5, .int (nI f)), (4, .ref (am (500 + ivn))), (0, .ref y), (1, .int (nI ivn)), (2, .int (nI kn)), (3, .int (nI tn))] [.int (oI none), .int (nI tn)]
                refine nw_icmpge C 100 dX4_force_91 (by decide) 94 rfl (fun _ => ?_) (fun h44 => absurd (nw_ge_m1 (by omega)) h44)
                have hfF : sp_forced σ ((sg_in σ).2 ivn) kn tn = true := by
                  unfold sp_forced
                  rw [hfo]
                  rw [hol]
                  simp
                  first | done | omega
                refine nw_aload C 1 dX4_force_100 rfl 102 rfl ?_
                refine nw_dup C dX4_force_102 rfl 103 rfl ?_
                refine nw_get C hg18 (T := TX13) rfl in_X13 3 (by decide) q1947 (Or.inl rfl) rfl dX4_force_103 106 rfl ?_
                refine nw_iconst C (nI 1) dX4_force_106 (by decide) 107 rfl ?_
                refine nw_iaddN C dX4_force_107 108 rfl ?_
                refine nw_put C hg18 (Or.inl (by rw [show ro (am (500 + ivn)) = 5501 + ivn from (hR.2.2.2.2.2.2.2.1.2.2.2 ivn (by omega)).1, rp_5501 ivn (by omega)]; decide)) (T := TX13) (ty0 := tyX13) rfl in_X13 tyX13_ok nmX13 3 (by decide) q1947 (Or.inl rfl) rfl rfl rfl (Nat.le_of_ble_eq_true rfl) dX4_force_108 111 rfl (fun H45 ho46 hz47 hq48 => ?_)
                have ho46 : nwO d (am (500 + ivn)) 11 [.int (nI (in_a ((sg_in σ).2 ivn))), .int (nI (in_v ((sg_in σ).2 ivn))), .ref (am (600 + ivn)), .int (nI (in_s ((sg_in σ).2 ivn) + 1)), .int (oI (in_l ((sg_in σ).2 ivn)))] H45 := ho46
                refine nw_aload C 1 dX4_force_111 rfl 113 rfl ?_
                refine nw_iload_n C 5 dX4_force_113 rfl 114 rfl ?_
                refine nw_put C ho46 (Or.inl (by rw [show ro (am (500 + ivn)) = 5501 + ivn from (hR.2.2.2.2.2.2.2.1.2.2.2 ivn (by omega)).1, rp_5501 ivn (by omega)]; decide)) (T := TX13) (ty0 := tyX13) rfl in_X13 tyX13_ok nmX13 4 (by decide) q1949 (Or.inl rfl) rfl rfl rfl (Nat.le_of_ble_eq_true rfl) dX4_force_114 117 rfl (fun H49 ho50 hz51 hq52 => ?_)
                have ho50 : nwO d (am (500 + ivn)) 11 [.int (nI (in_a ((sg_in σ).2 ivn))), .int (nI (in_v ((sg_in σ).2 ivn))), .ref (am (600 + ivn)), .int (nI (in_s ((sg_in σ).2 ivn) + 1)), .int (nI tn)] H49 := ho50
                have hz53 : H49.size = H1.size := hz51.trans hz47
                have hq54 : ∀ q9 : Nat, q9 ≠ am (500 + ivn) → H49[q9]? = H1[q9]? := fun q9 n9 => (hq52 q9 n9).trans (hq48 q9 n9)
                have hRc := hR.ext hext
                have hR1 := trm_pIn hRc (k := ivn) (v := in_force ((sg_in σ).2 ivn) tn) (by omega) hz53 hq54 ⟨rfl, rfl⟩ ho50
                have hAq : ∀ q8, q8 < H1.size → q8 = am (500 + ivn) → nwAM ro H q8 := fun q8 _ h9 => by rw [h9]; exact (Or.inl (by rw [show ro (am (500 + ivn)) = 5501 + ivn from (hR.2.2.2.2.2.2.2.1.2.2.2 ivn (by omega)).1, rp_5501 ivn (by omega)]; decide))
                obtain ⟨σ1, hσ1⟩ : ∃ t9 : spSg, t9 = st_in σ ((sg_in σ).1, sp_up (sg_in σ).2 ivn (in_force ((sg_in σ).2 ivn) tn)) := ⟨_, rfl⟩
                rw [← hσ1] at hR1
                have hlen : (sg_in σ1).1 = (sg_in σ).1 := by rw [hσ1]; rfl
                have hin1 : (sg_in σ1).2 ivn = in_force ((sg_in σ).2 ivn) tn := by rw [hσ1]; exact sp_up_at _ _ _
                replace hE := hE.kept (fun q9 g9 hb9 => (fun q9 _ n9 => hq54 q9 n9) q9 g9 (fun h9 => hb9 (C.hB q9 (hAq q9 g9 h9))))
                have hsz : H.size ≤ H49.size := Nat.le_trans (Nat.le_trans (Nat.le_of_eq hzb.symm) hext.1) (Nat.le_of_eq hz53.symm)
                replace hB := Nat.le_trans hB (Nat.le_of_eq hz53.symm)
                have ok9 : spOk σ1 := by rw [hσ1]; exact ⟨okg, okl, okf, oku, okp, oki.put ⟨⟨hki.1.1, hki.1.2.1, hki.1.2.2.1, hki.1.2.2.2.1, by show in_s ((sg_in σ).2 ivn) + 1 ≤ 4; omega, fun v9 e9 => by cases e9; omega⟩, hki.2⟩, okw, okd, okk, oka⟩
                replace ok := ok9
                replace okM := ok.m
                replace hR := hR1
                replace hW := hR.wc
                clear hmX hmKi hmLa hmFo hmGu hmPo hmIn hmWi hmWo hmKe okg okl okf oku okp oki okw okd okk oka hn64 oku1 oki1 okp1 okw1 okl1 okf1
                obtain ⟨hmX, hmKi, hmLa, hmFo, hmGu, hmPo, hmIn, hmWi, hmWo, hmKe⟩ := id hW
                obtain ⟨okg, okl, okf, oku, okp, oki, okw, okd, okk, oka⟩ := id ok
                have hn64 : gr_n (sg_gr σ1) ≤ 64 := okg.n
                have oku1 := oku.1
                have oki1 := oki.1
                have okp1 := okp.1
                have okw1 := okw.1
                have okl1 := okl.1
                have okf1 := okf.1
                have hlt9 : ivn < (sg_in σ1).1 := by rw [hlen]; assumption
                have hg55 : nwMIn d (am (500 + ivn)) (am (600 + ivn)) ((sg_in σ1).2 ivn) H49 := hmIn.2 ivn (by omega)
                have hk56 : okI1 (sg_gr σ1) ((sg_in σ1).2 ivn) := oki.2 ivn (by omega)
                have hg57 : nwO d (am (500 + ivn)) 11 [.int (nI (in_a ((sg_in σ1).2 ivn))), .int (nI (in_v ((sg_in σ1).2 ivn))), .ref (am (600 + ivn)), .int (nI (in_s ((sg_in σ1).2 ivn))), .int (oI (in_l ((sg_in σ1).2 ivn)))] H49 := hg55.1
                refine nw_aload C 1 dX4_force_117 rfl 119 rfl ?_
                refine nw_get C hg57 (T := TX13) rfl in_X13 3 (by decide) q1947 (Or.inl rfl) rfl dX4_force_119 122 rfl ?_
                have hop : op_force σ (nI ivn) (nI kn) (nI tn) = (0, nI (in_s ((sg_in σ).2 ivn) + 1), σ1) := by rw [hσ1]; simp [op_force, h5, h7, h14, en_ivn, en_kn, en_tn, hfF]
                exact nw_iret C dX4_force_122 (Nat.le_refl _) (Nat.le_refl _) (by rw [hop]; exact ⟨congrArg (fun z => some (Value.int z)) (congrArg nI (show in_s ((sg_in σ1).2 ivn) = in_s ((sg_in σ).2 ivn) + 1 by rw [hin1]; rfl)), ok, hsz, ro, am, hR, (fun _ _ => rfl)⟩)
              · show nwV X _ _ 6 H1 0 0 91 [(5, .int (nI f)), (4, .ref (am (500 + ivn))), (0, .ref y), (1, .int (nI ivn)), (2, .int (nI kn)), (3, .int (nI tn))] [.int (nI lz), .int (nI tn)]
                have hlz := hki.1.2.2.2.2.2 lz hol
                refine nw_icmpgeN C (by omega) 100 dX4_force_91 (by decide) 94 rfl (fun h58 => ?_) (fun h58 => ?_)
                · have hfF : sp_forced σ ((sg_in σ).2 ivn) kn tn = true := by
                    unfold sp_forced
                    rw [hfo]
                    rw [hol]
                    simp
                    first | done | omega
                  refine nw_aload C 1 dX4_force_100 rfl 102 rfl ?_
                  refine nw_dup C dX4_force_102 rfl 103 rfl ?_
                  refine nw_get C hg18 (T := TX13) rfl in_X13 3 (by decide) q1947 (Or.inl rfl) rfl dX4_force_103 106 rfl ?_
                  refine nw_iconst C (nI 1) dX4_force_106 (by decide) 107 rfl ?_
                  refine nw_iaddN C dX4_force_107 108 rfl ?_
                  refine nw_put C hg18 (Or.inl (by rw [show ro (am (500 + ivn)) = 5501 + ivn from (hR.2.2.2.2.2.2.2.1.2.2.2 ivn (by omega)).1, rp_5501 ivn (by omega)]; decide)) (T := TX13) (ty0 := tyX13) rfl in_X13 tyX13_ok nmX13 3 (by decide) q1947 (Or.inl rfl) rfl rfl rfl (Nat.le_of_ble_eq_true rfl) dX4_force_108 111 rfl (fun H59 ho60 hz61 hq62 => ?_)
                  have ho60 : nwO d (am (500 + ivn)) 11 [.int (nI (in_a ((sg_in σ).2 ivn))), .int (nI (in_v ((sg_in σ).2 ivn))), .ref (am (600 + ivn)), .int (nI (in_s ((sg_in σ).2 ivn) + 1)), .int (oI (in_l ((sg_in σ).2 ivn)))] H59 := ho60
                  refine nw_aload C 1 dX4_force_111 rfl 113 rfl ?_
                  refine nw_iload_n C 5 dX4_force_113 rfl 114 rfl ?_
                  refine nw_put C ho60 (Or.inl (by rw [show ro (am (500 + ivn)) = 5501 + ivn from (hR.2.2.2.2.2.2.2.1.2.2.2 ivn (by omega)).1, rp_5501 ivn (by omega)]; decide)) (T := TX13) (ty0 := tyX13) rfl in_X13 tyX13_ok nmX13 4 (by decide) q1949 (Or.inl rfl) rfl rfl rfl (Nat.le_of_ble_eq_true rfl) dX4_force_114 117 rfl (fun H63 ho64 hz65 hq66 => ?_)
                  have ho64 : nwO d (am (500 + ivn)) 11 [.int (nI (in_a ((sg_in σ).2 ivn))), .int (nI (in_v ((sg_in σ).2 ivn))), .ref (am (600 + ivn)), .int (nI (in_s ((sg_in σ).2 ivn) + 1)), .int (nI tn)] H63 := ho64
                  have hz67 : H63.size = H1.size := hz65.trans hz61
                  have hq68 : ∀ q9 : Nat, q9 ≠ am (500 + ivn) → H63[q9]? = H1[q9]? := fun q9 n9 => (hq66 q9 n9).trans (hq62 q9 n9)
                  have hRc := hR.ext hext
                  have hR1 := trm_pIn hRc (k := ivn) (v := in_force ((sg_in σ).2 ivn) tn) (by omega) hz67 hq68 ⟨rfl, rfl⟩ ho64
                  have hAq : ∀ q8, q8 < H1.size → q8 = am (500 + ivn) → nwAM ro H q8 := fun q8 _ h9 => by rw [h9]; exact (Or.inl (by rw [show ro (am (500 + ivn)) = 5501 + ivn from (hR.2.2.2.2.2.2.2.1.2.2.2 ivn (by omega)).1, rp_5501 ivn (by omega)]; decide))
                  obtain ⟨σ1, hσ1⟩ : ∃ t9 : spSg, t9 = st_in σ ((sg_in σ).1, sp_up (sg_in σ).2 ivn (in_force ((sg_in σ).2 ivn) tn)) := ⟨_, rfl⟩
                  rw [← hσ1] at hR1
                  have hlen : (sg_in σ1).1 = (sg_in σ).1 := by rw [hσ1]; rfl
                  have hin1 : (sg_in σ1).2 ivn = in_force ((sg_in σ).2 ivn) tn := by rw [hσ1]; exact sp_up_at _ _ _
                  replace hE := hE.kept (fun q9 g9 hb9 => (fun q9 _ n9 => hq68 q9 n9) q9 g9 (fun h9 => hb9 (C.hB q9 (hAq q9 g9 h9))))
                  have hsz : H.size ≤ H63.size := Nat.le_trans (Nat.le_trans (Nat.le_of_eq hzb.symm) hext.1) (Nat.le_of_eq hz67.symm)
                  replace hB := Nat.le_trans hB (Nat.le_of_eq hz67.symm)
                  have ok9 : spOk σ1 := by rw [hσ1]; exact ⟨okg, okl, okf, oku, okp, oki.put ⟨⟨hki.1.1, hki.1.2.1, hki.1.2.2.1, hki.1.2.2.2.1, by show in_s ((sg_in σ).2 ivn) + 1 ≤ 4; omega, fun v9 e9 => by cases e9; omega⟩, hki.2⟩, okw, okd, okk, oka⟩
                  replace ok := ok9
                  replace okM := ok.m
                  replace hR := hR1
                  replace hW := hR.wc
                  clear hmX hmKi hmLa hmFo hmGu hmPo hmIn hmWi hmWo hmKe okg okl okf oku okp oki okw okd okk oka hn64 oku1 oki1 okp1 okw1 okl1 okf1
                  obtain ⟨hmX, hmKi, hmLa, hmFo, hmGu, hmPo, hmIn, hmWi, hmWo, hmKe⟩ := id hW
                  obtain ⟨okg, okl, okf, oku, okp, oki, okw, okd, okk, oka⟩ := id ok
                  have hn64 : gr_n (sg_gr σ1) ≤ 64 := okg.n
                  have oku1 := oku.1
                  have oki1 := oki.1
                  have okp1 := okp.1
                  have okw1 := okw.1
                  have okl1 := okl.1
                  have okf1 := okf.1
                  have hlt9 : ivn < (sg_in σ1).1 := by rw [hlen]; assumption
                  have hg69 : nwMIn d (am (500 + ivn)) (am (600 + ivn)) ((sg_in σ1).2 ivn) H63 := hmIn.2 ivn (by omega)
                  have hk70 : okI1 (sg_gr σ1) ((sg_in σ1).2 ivn) := oki.2 ivn (by omega)
                  have hg71 : nwO d (am (500 + ivn)) 11 [.int (nI (in_a ((sg_in σ1).2 ivn))), .int (nI (in_v ((sg_in σ1).2 ivn))), .ref (am (600 + ivn)), .int (nI (in_s ((sg_in σ1).2 ivn))), .int (oI (in_l ((sg_in σ1).2 ivn)))] H63 := hg69.1
                  refine nw_aload C 1 dX4_force_117 rfl 119 rfl ?_
                  refine nw_get C hg71 (T := TX13) rfl in_X13 3 (by decide) q1947 (Or.inl rfl) rfl dX4_force_119 122 rfl ?_
                  have hop : op_force σ (nI ivn) (nI kn) (nI tn) = (0, nI (in_s ((sg_in σ).2 ivn) + 1), σ1) := by rw [hσ1]; simp [op_force, h5, h7, h14, en_ivn, en_kn, en_tn, hfF]
                  exact nw_iret C dX4_force_122 (Nat.le_refl _) (Nat.le_refl _) (by rw [hop]; exact ⟨congrArg (fun z => some (Value.int z)) (congrArg nI (show in_s ((sg_in σ1).2 ivn) = in_s ((sg_in σ).2 ivn) + 1 by rw [hin1]; rfl)), ok, hsz, ro, am, hR, (fun _ _ => rfl)⟩)
                · have hfF : sp_forced σ ((sg_in σ).2 ivn) kn tn = false := by
                    unfold sp_forced
                    rw [hfo]
                    rw [hol]
                    simp
                    first | done | omega
                  refine nw_aload_n C 2 dX4_force_94 rfl 95 rfl ?_
                  refine nw_iconst C (nI 3) dX4_force_95 (by decide) 96 rfl ?_
                  refine nw_callV C (mX4_no _ C.hfl d y (.int (nI 0)) (.int (nI (gr_w (sg_gr σ)))) (.int (nI (gr_h (sg_gr σ)))) (.ref (am 9)) (.int (nI (gaM_f (sg_ga σ)))) (.int (oI (gaM_t (sg_ga σ)))) (.ref (am 1)) (.ref (am 2)) (.ref (am 3)) (.ref (am 4)) (.int (nI (wo_s (sg_wo σ)))) (.int (nI (wo_m (sg_wo σ)))) (.int (nI (sp_after (wo_x (sg_wo σ))))) (.ref (am 11)) (.ref (am 12)) (.int (nI (sg_ri σ))) (.ref (am 8)) (.ref (am 5)) (.ref (am 6)) (.int (nI (sg_rf σ))) (nI 3) H1 hB hyB hmX) kX4_no q1694 (hmX.is C (ci := 9) rfl) (As := [.int (nI 3)]) (rest := []) rfl rfl ⟨⟨Nat.le_of_ble_eq_true rfl, Nat.le_of_ble_eq_true rfl⟩, (show 0 + 0 ≤ 0 by omega), (show 0 + 0 ≤ 0 by omega)⟩ (Nat.le_of_ble_eq_true rfl) (fun q8 h8 h9 => h9.elim (fun e9 => by rw [e9]; exact hAy) (fun e9 => absurd h8 (Nat.not_lt.mpr e9))) dX4_force_96 99 rfl (fun v9 H72 hR73 hz74 hq75 => ?_) nw_noX
                  obtain ⟨rfl, ho76⟩ := hR73
                  have hR8 := hR.ext hext
                  have hR9 : nwMW d ro am y σ (nI 3) H72 := hR8.obj hz74 (fun q9 g9 n9 _ => hq75 q9 g9 (fun e9 => e9.elim n9 (Nat.not_le.mpr g9))) mSame.rfl ho76
                  have hle9 : H.size ≤ H72.size := Nat.le_trans (Nat.le_of_eq hzb.symm) (Nat.le_trans hext.1 hz74)
                  show nwV X _ _ 6 H72 (0 + 0) (0 + 0) 99 [(5, .int (nI f)), (4, .ref (am (500 + ivn))), (0, .ref y), (1, .int (nI ivn)), (2, .int (nI kn)), (3, .int (nI tn))] [.int (nI 0)]
                  refine nw_wide (k' := 0) (n' := 0) (by omega) (by omega) ?_
                  have hop : op_force σ (nI ivn) (nI kn) (nI tn) = (3, 0, σ) := by simp [op_force, h5, h7, h14, en_ivn, en_kn, en_tn, hfF]
                  exact nw_iret C dX4_force_99 (Nat.le_refl _) (Nat.le_refl _) (by rw [hop]; exact ⟨rfl, ok, hle9, ro, am, hR9, fun _ _ => rfl⟩)
      · refine nw_aload_n C 0 dX4_force_35 rfl 36 rfl ?_
        refine nw_iconst C (nI 2) dX4_force_36 (by decide) 37 rfl ?_
        refine nw_callV C (mX4_no _ C.hfl d y (.int (nI 0)) (.int (nI (gr_w (sg_gr σ)))) (.int (nI (gr_h (sg_gr σ)))) (.ref (am 9)) (.int (nI (gaM_f (sg_ga σ)))) (.int (oI (gaM_t (sg_ga σ)))) (.ref (am 1)) (.ref (am 2)) (.ref (am 3)) (.ref (am 4)) (.int (nI (wo_s (sg_wo σ)))) (.int (nI (wo_m (sg_wo σ)))) (.int (nI (sp_after (wo_x (sg_wo σ))))) (.ref (am 11)) (.ref (am 12)) (.int (nI (sg_ri σ))) (.ref (am 8)) (.ref (am 5)) (.ref (am 6)) (.int (nI (sg_rf σ))) (nI 2) H1 hB hyB hmX) kX4_no q1694 (hmX.is C (ci := 9) rfl) (As := [.int (nI 2)]) (rest := []) rfl rfl ⟨⟨Nat.le_of_ble_eq_true rfl, Nat.le_of_ble_eq_true rfl⟩, (show 0 + 0 ≤ 0 by omega), (show 0 + 0 ≤ 0 by omega)⟩ (Nat.le_of_ble_eq_true rfl) (fun q8 h8 h9 => h9.elim (fun e9 => by rw [e9]; exact hAy) (fun e9 => absurd h8 (Nat.not_lt.mpr e9))) dX4_force_37 40 rfl (fun v9 H77 hR78 hz79 hq80 => ?_) nw_noX
        obtain ⟨rfl, ho81⟩ := hR78
        have hR8 := hR.ext hext
        have hR9 : nwMW d ro am y σ (nI 2) H77 := hR8.obj hz79 (fun q9 g9 n9 _ => hq80 q9 g9 (fun e9 => e9.elim n9 (Nat.not_le.mpr g9))) mSame.rfl ho81
        have hle9 : H.size ≤ H77.size := Nat.le_trans (Nat.le_of_eq hzb.symm) (Nat.le_trans hext.1 hz79)
        show nwV X _ _ 6 H77 (0 + 0) (0 + 0) 40 [(0, .ref y), (1, .int (nI ivn)), (2, .int (nI kn)), (3, .int t)] [.int (nI 0)]
        refine nw_wide (k' := 0) (n' := 0) (by omega) (by omega) ?_
        have hop : op_force σ (nI ivn) (nI kn) t = (2, 0, σ) := by simp [op_force, h5, h7, h14, en_ivn, en_kn]
        exact nw_iret C dX4_force_40 (Nat.le_refl _) (Nat.le_refl _) (by rw [hop]; exact ⟨rfl, ok, hle9, ro, am, hR9, fun _ _ => rfl⟩)
  · refine nw_aload_n C 0 dX4_force_13 rfl 14 rfl ?_
    refine nw_iconst C (nI 1) dX4_force_14 (by decide) 15 rfl ?_
    refine nw_callV C (mX4_no _ C.hfl d y (.int (nI 0)) (.int (nI (gr_w (sg_gr σ)))) (.int (nI (gr_h (sg_gr σ)))) (.ref (am 9)) (.int (nI (gaM_f (sg_ga σ)))) (.int (oI (gaM_t (sg_ga σ)))) (.ref (am 1)) (.ref (am 2)) (.ref (am 3)) (.ref (am 4)) (.int (nI (wo_s (sg_wo σ)))) (.int (nI (wo_m (sg_wo σ)))) (.int (nI (sp_after (wo_x (sg_wo σ))))) (.ref (am 11)) (.ref (am 12)) (.int (nI (sg_ri σ))) (.ref (am 8)) (.ref (am 5)) (.ref (am 6)) (.int (nI (sg_rf σ))) (nI 1) H1 hB hyB hmX) kX4_no q1694 (hmX.is C (ci := 9) rfl) (As := [.int (nI 1)]) (rest := []) rfl rfl ⟨⟨Nat.le_of_ble_eq_true rfl, Nat.le_of_ble_eq_true rfl⟩, (show 0 + 0 ≤ 0 by omega), (show 0 + 0 ≤ 0 by omega)⟩ (Nat.le_of_ble_eq_true rfl) (fun q8 h8 h9 => h9.elim (fun e9 => by rw [e9]; exact hAy) (fun e9 => absurd h8 (Nat.not_lt.mpr e9))) dX4_force_15 18 rfl (fun v9 H82 hR83 hz84 hq85 => ?_) nw_noX
    obtain ⟨rfl, ho86⟩ := hR83
    have hR8 := hR.ext hext
    have hR9 : nwMW d ro am y σ (nI 1) H82 := hR8.obj hz84 (fun q9 g9 n9 _ => hq85 q9 g9 (fun e9 => e9.elim n9 (Nat.not_le.mpr g9))) mSame.rfl ho86
    have hle9 : H.size ≤ H82.size := Nat.le_trans (Nat.le_of_eq hzb.symm) (Nat.le_trans hext.1 hz84)
    show nwV X _ _ 6 H82 (0 + 0) (0 + 0) 18 [(0, .ref y), (1, .int iv), (2, .int k), (3, .int t)] [.int (nI 0)]
    refine nw_wide (k' := 0) (n' := 0) (by omega) (by omega) ?_
    have hop : op_force σ iv k t = (1, 0, σ) := by simp [op_force, h5]
    exact nw_iret C dX4_force_18 (Nat.le_refl _) (Nat.le_refl _) (by rw [hop]; exact ⟨rfl, ok, hle9, ro, am, hR9, fun _ _ => rfl⟩)
set_option maxHeartbeats 4000000 in
theorem mX4_answer (l : Launch) (hf : l.flags = flags0) (d : nwD) (ro am : Nat → Nat) (y : Nat) (σ : spSg) (th : Int32) (g : Int32) (t : Int32) (v : Int32) (H : Heap) (hB : nd_B d ≤ H.size) (hR : nwMW d ro am y σ th H) (ok : spOk σ) : nwMt l d yX4_answer cX4_answer 6 (some .int) 5 111 0 0 [.ref y, .int g, .int t, .int v] H (nwMv d ro y (op_answer σ g t v) H) nwNo (nwAM ro H) := by
  refine nw_start "NightwatchWallModel" "answer" hf (by decide +kernel) rfl rfl (fun _ h => Or.inr h) (nwAM_B hR hB) (Nat.le_of_ble_eq_true rfl) ?_
  intro X C
  have hW := hR.wc
  have okM := ok.m
  have hyB := (hR.ok0 (show ro y ≠ 0 by rw [hR.2.1.2]; decide)).1
  have hAy : nwAM ro H y := Or.inl (by rw [hR.2.1.2]; decide +kernel)
  have hW0 := hW
  have hB0 := hB
  have hE := C.E0
  have hext : nwExt H H := nwExt.rfl
  obtain ⟨hmX, hmKi, hmLa, hmFo, hmGu, hmPo, hmIn, hmWi, hmWo, hmKe⟩ := id hW
  obtain ⟨okg, okl, okf, oku, okp, oki, okw, okd, okk, oka⟩ := id ok
  have hn64 : gr_n (sg_gr σ) ≤ 64 := okg.n
  have oku1 := oku.1
  have oki1 := oki.1
  have okp1 := okp.1
  have okw1 := okw.1
  have okl1 := okl.1
  have okf1 := okf.1
  show nwV X _ _ 6 H 0 0 0 [(0, .ref y), (1, .int g), (2, .int t), (3, .int v)] []
  refine nw_aload_n C 0 dX4_answer_0 rfl 1 rfl ?_
  refine nw_iconst C (nI 0) dX4_answer_1 (by decide) 2 rfl ?_
  refine nw_put C hmX hAy (T := TX4) (ty0 := tyX4) rfl in_X4 tyX4_ok nmX4 0 (by decide) q1622 (Or.inl rfl) rfl rfl rfl (Nat.le_of_ble_eq_true rfl) dX4_answer_2 5 rfl (fun H1 ho2 hz3 hq4 => ?_)
  have ho2 : nwO d y 9 [.int (nI 0), .int (nI (gr_w (sg_gr σ))), .int (nI (gr_h (sg_gr σ))), .ref (am 9), .int (nI (gaM_f (sg_ga σ))), .int (oI (gaM_t (sg_ga σ))), .ref (am 1), .ref (am 2), .ref (am 3), .ref (am 4), .int (nI (wo_s (sg_wo σ))), .int (nI (wo_m (sg_wo σ))), .int (nI (sp_after (wo_x (sg_wo σ)))), .ref (am 11), .ref (am 12), .int (nI (sg_ri σ)), .ref (am 8), .ref (am 5), .ref (am 6), .int (nI (sg_rf σ))] H1 := ho2
  replace hR := hR.th hz3 hq4 ho2
  have hzb : H1.size = H.size := hz3
  replace hB0 : nd_B d ≤ H1.size := by rw [hz3]; exact hB0
  replace hB := hB0
  replace hE := hE.kept (fun q9 _ hb9 => hq4 q9 (fun e9 => hb9 (by rw [e9]; exact hyB)))
  have hE0 := hE
  replace hW0 := hR.wc
  replace hW := hW0
  replace hext : nwExt H1 H1 := nwExt.rfl
  clear hmX hmKi hmLa hmFo hmGu hmPo hmIn hmWi hmWo hmKe
  obtain ⟨hmX, hmKi, hmLa, hmFo, hmGu, hmPo, hmIn, hmWi, hmWo, hmKe⟩ := id hW
  refine nw_aload_n C 0 dX4_answer_5 rfl 6 rfl ?_
  refine nw_iload_n C 1 dX4_answer_6 rfl 7 rfl ?_
  refine nw_callV C (mX4_isGuard _ C.hfl d ro am y σ (nI 0) g H1 hB hW okM ) kX4_isGuard q1808 (hmX.is C (ci := 9) rfl) (As := [.int g]) (rest := []) rfl rfl ⟨⟨Nat.le_of_ble_eq_true rfl, Nat.le_of_ble_eq_true rfl⟩, Nat.le_of_ble_eq_true rfl, Nat.le_of_ble_eq_true rfl⟩ (Nat.le_of_ble_eq_true rfl) (fun _ h8 h9 => absurd h9 (Nat.not_le.mpr h8)) dX4_answer_7 10 rfl (nw_rdK ?_) nw_noX
  refine nw_ifneB C 19 dX4_answer_10 (by decide) 13 rfl (fun h5 => ?_) (fun h5 => ?_)
  · obtain ⟨gn, hk6, rfl⟩ := nw_ix_nat (by omega) h5
    have en_gn : nw_nn (nI gn) = gn := nw_nn_nI (by omega)
    refine nw_iload_n C 2 dX4_answer_19 rfl 20 rfl ?_
    refine nw_callS C (mX4_isMinute _ C.hfl d t H1 hB) kX4_isMinute q1722 (As := [.int t]) (rest := []) rfl rfl ⟨⟨Nat.le_of_ble_eq_true rfl, Nat.le_of_ble_eq_true rfl⟩, Nat.le_of_ble_eq_true rfl, Nat.le_of_ble_eq_true rfl⟩ (Nat.le_of_ble_eq_true rfl) (fun _ h8 h9 => absurd h9 (Nat.not_le.mpr h8)) dX4_answer_20 23 rfl (nw_rdK ?_) nw_noX
    refine nw_ifneB C 32 dX4_answer_23 (by decide) 26 rfl (fun h7 => ?_) (fun h7 => ?_)
    · obtain ⟨tn, hk8, rfl⟩ := nw_rg_nat (by omega) (by omega) h7
      have en_tn : nw_nn (nI tn) = tn := nw_nn_nI (by omega)
      refine nw_aload_n C 0 dX4_answer_32 rfl 33 rfl ?_
      refine nw_get C hmX (T := TX4) rfl in_X4 8 (by decide) q1630 (Or.inl rfl) rfl dX4_answer_33 36 rfl ?_
      refine nw_iload_n C 1 dX4_answer_36 rfl 37 rfl ?_
      refine nw_callF C (mJ3_get _ C.hfl d (am 3) ((sg_gu σ).1) (fun k => am (300 + k)) (fun q => ro q = 7004) gn H1 hB hmGu.1 (by omega)) kJ3_get (ci := 13) rfl q1615 q1618 (by decide +kernel) fc_List_get (hmGu.1.is C) (As := [.int (nI gn)]) (rest := []) rfl rfl ⟨⟨Nat.le_of_ble_eq_true rfl, Nat.le_of_ble_eq_true rfl⟩, Nat.le_of_ble_eq_true rfl, Nat.le_of_ble_eq_true rfl⟩ (Nat.le_of_ble_eq_true rfl) (fun _ h8 h9 => absurd h9 (Nat.not_le.mpr h8)) dX4_answer_37 42 rfl (nw_rdK ?_) nw_noX
      have hg9 : nwMGd d (am (300 + gn)) (am (400 + gn)) (fun q => ro q = 7401 + gn) ((sg_gu σ).2 gn) H1 := hmGu.2 gn (by omega)
      have hk10 : okGd (sg_gr σ) ((sg_gu σ).2 gn) := oku.2 gn (by omega)
      have hg11 : nwO d (am (300 + gn)) 10 [.int (nI (gd_a ((sg_gu σ).2 gn))), .int (nI (gd_b ((sg_gu σ).2 gn))), .int (nI (gd_s ((sg_gu σ).2 gn))), .ref (am (400 + gn)), .int (nI (gd_k ((sg_gu σ).2 gn))), .int (gd_h ((sg_gu σ).2 gn))] H1 := hg9.1
      refine nw_cast C (ci := 10) rfl (hg11.is C (ci := 10) rfl) q1621 dX4_answer_42 45 rfl ?_
      refine nw_astore C [(4, .ref (am (300 + gn))), (0, .ref y), (1, .int (nI gn)), (2, .int (nI tn)), (3, .int v)] dX4_answer_45 (by decide) rfl 47 rfl ?_
      have hk9 := oku.2 gn (by omega)
      have hk93 := hk9.1.2.2.2.2.2.2
      refine nw_aload C 0 dX4_answer_47 rfl 49 rfl ?_
      refine nw_get C hg11 (T := TX11) rfl in_X11 4 (by decide) q1789 (Or.inl rfl) rfl dX4_answer_49 52 rfl ?_
      refine nw_iconst C (nI 3) dX4_answer_52 (by decide) 53 rfl ?_
      refine nw_icmpneN C (by omega) 58 dX4_answer_53 (by decide) 56 rfl (fun h12 => ?_) (fun h12 => ?_)
      · refine nw_aload_n C 1 dX4_answer_58 rfl 59 rfl ?_
        refine nw_aload C 0 dX4_answer_59 rfl 61 rfl ?_
        refine nw_iload_n C 3 dX4_answer_61 rfl 62 rfl ?_
        refine nw_bipush C (nI 60) dX4_answer_62 (by decide) 64 rfl ?_
        refine nw_idivN C (by omega) dX4_answer_64 65 rfl ?_
        refine nw_iload_n C 4 dX4_answer_65 rfl 66 rfl ?_
        refine nw_callV C (mX4_judged _ C.hfl d ro am y σ (nI 0) (am (300 + gn)) (am (400 + gn)) (fun q => ro q = 7401 + gn) ((sg_gu σ).2 gn) (tn / 60) v H1 hB hW okM hg9 hk10 (by omega)) kX4_judged q1913 (hmX.is C (ci := 9) rfl) (As := [.ref (am (300 + gn)), .int (nI (tn / 60)), .int v]) (rest := []) rfl rfl ⟨⟨Nat.le_of_ble_eq_true rfl, Nat.le_of_ble_eq_true rfl⟩, Nat.le_of_ble_eq_true rfl, Nat.le_of_ble_eq_true rfl⟩ (Nat.le_of_ble_eq_true rfl) (fun _ h8 h9 => absurd h9 (Nat.not_le.mpr h8)) dX4_answer_66 69 rfl (nw_rdK ?_) nw_noX
        refine nw_istore C [(5, .int (nI (sp_judge (sg_wo σ) ((sg_gu σ).2 gn) (tn / 60) v))), (4, .ref (am (300 + gn))), (0, .ref y), (1, .int (nI gn)), (2, .int (nI tn)), (3, .int v)] dX4_answer_69 (by decide) rfl 71 rfl ?_
        have hj4 : sp_judge (sg_wo σ) ((sg_gu σ).2 gn) (tn / 60) v < 4 := by unfold sp_judge; split <;> split <;> omega
        refine nw_iload C 0 dX4_answer_71 rfl 73 rfl ?_
        refine nw_ifneN C (by omega) 105 dX4_answer_73 (by decide) 76 rfl (fun h13 => ?_) (fun h13 => ?_)
        · have hjn : ¬ sp_judge (sg_wo σ) ((sg_gu σ).2 gn) (tn / 60) v = 0 := Nat.ne_of_gt h13
          have htl : sp_told σ gn tn v = (sp_judge (sg_wo σ) ((sg_gu σ).2 gn) (tn / 60) v, gd_strike ((sg_gu σ).2 gn)) := by unfold sp_told wo_answer; rw [if_neg h12, if_neg hjn]
          refine nw_aload C 1 dX4_answer_105 rfl 107 rfl ?_
          refine nw_dup C dX4_answer_107 rfl 108 rfl ?_
          refine nw_get C hg11 (T := TX11) rfl in_X11 4 (by decide) q1789 (Or.inl rfl) rfl dX4_answer_108 111 rfl ?_
          refine nw_iconst C (nI 1) dX4_answer_111 (by decide) 112 rfl ?_
          refine nw_iaddN C dX4_answer_112 113 rfl ?_
          refine nw_put C hg11 (Or.inl (by rw [show ro (am (300 + gn)) = 5301 + gn from (hR.2.2.2.2.2.1.2.2.2 gn (by omega)).1, rp_5301 gn (by omega)]; decide)) (T := TX11) (ty0 := tyX11) rfl in_X11 tyX11_ok nmX11 4 (by decide) q1789 (Or.inl rfl) rfl rfl rfl (Nat.le_of_ble_eq_true rfl) dX4_answer_113 116 rfl (fun H14 ho15 hz16 hq17 => ?_)
          have ho15 : nwO d (am (300 + gn)) 10 [.int (nI (gd_a ((sg_gu σ).2 gn))), .int (nI (gd_b ((sg_gu σ).2 gn))), .int (nI (gd_s ((sg_gu σ).2 gn))), .ref (am (400 + gn)), .int (nI (gd_k ((sg_gu σ).2 gn) + 1)), .int (gd_h ((sg_gu σ).2 gn))] H14 := ho15
          have hRc := hR.ext hext
          have hR1 := trm_pGu hRc (k := gn) (v := gd_strike ((sg_gu σ).2 gn)) (by omega) hz16 hq17 rfl ho15
          have hAq : ∀ q8, q8 < H1.size → q8 = am (300 + gn) → nwAM ro H q8 := fun q8 _ h9 => by rw [h9]; exact (Or.inl (by rw [show ro (am (300 + gn)) = 5301 + gn from (hR.2.2.2.2.2.1.2.2.2 gn (by omega)).1, rp_5301 gn (by omega)]; decide))
          obtain ⟨σ1, hσ1⟩ : ∃ t9 : spSg, t9 = st_gu σ ((sg_gu σ).1, sp_up (sg_gu σ).2 gn (gd_strike ((sg_gu σ).2 gn))) := ⟨_, rfl⟩
          rw [← hσ1] at hR1
          replace hE := hE.kept (fun q9 g9 hb9 => (fun q9 _ n9 => hq17 q9 n9) q9 g9 (fun h9 => hb9 (C.hB q9 (hAq q9 g9 h9))))
          have hsz : H.size ≤ H14.size := Nat.le_trans (Nat.le_trans (Nat.le_of_eq hzb.symm) hext.1) (Nat.le_of_eq hz16.symm)
          replace hB := Nat.le_trans hB (Nat.le_of_eq hz16.symm)
          have ok9 : spOk σ1 := by rw [hσ1]; exact ⟨okg, okl, okf, oku.put ⟨⟨hk9.1.1, hk9.1.2.1, hk9.1.2.2.1, hk9.1.2.2.2.1, hk9.1.2.2.2.2.1, hk9.1.2.2.2.2.2.1, by show gd_k ((sg_gu σ).2 gn) + 1 ≤ 3; omega⟩, hk9.2⟩, okp, oki, okw, okd, okk, oka⟩
          replace ok := ok9
          replace okM := ok.m
          replace hR := hR1
          replace hW := hR.wc
          clear hmX hmKi hmLa hmFo hmGu hmPo hmIn hmWi hmWo hmKe okg okl okf oku okp oki okw okd okk oka hn64 oku1 oki1 okp1 okw1 okl1 okf1
          obtain ⟨hmX, hmKi, hmLa, hmFo, hmGu, hmPo, hmIn, hmWi, hmWo, hmKe⟩ := id hW
          obtain ⟨okg, okl, okf, oku, okp, oki, okw, okd, okk, oka⟩ := id ok
          have hn64 : gr_n (sg_gr σ1) ≤ 64 := okg.n
          have oku1 := oku.1
          have oki1 := oki.1
          have okp1 := okp.1
          have okw1 := okw.1
          have okl1 := okl.1
          have okf1 := okf.1
          refine nw_iload C 0 dX4_answer_116 rfl 118 rfl ?_
          have hop : op_answer σ (nI gn) (nI tn) v = (0, nI (sp_judge (sg_wo σ) ((sg_gu σ).2 gn) (tn / 60) v), σ1) := by rw [hσ1]; simp [op_answer, htl, h5, h7, en_gn, en_tn, st_answer, hjn]; try rfl
          exact nw_iret C dX4_answer_118 (Nat.le_refl _) (Nat.le_refl _) (by rw [hop]; exact ⟨congrArg (fun z => some (Value.int z)) rfl, ok, hsz, ro, am, hR, (fun _ _ => rfl)⟩)
        · have htl : sp_told σ gn tn v = (0, gd_told ((sg_gu σ).2 gn) (tn / 60)) := by unfold sp_told wo_answer; rw [if_neg h12, if_pos h13]
          refine nw_aload C 1 dX4_answer_76 rfl 78 rfl ?_
          refine nw_dup C dX4_answer_78 rfl 79 rfl ?_
          refine nw_get C hg11 (T := TX11) rfl in_X11 5 (by decide) q1790 (Or.inl rfl) rfl dX4_answer_79 82 rfl ?_
          refine nw_iconst C (nI 1) dX4_answer_82 (by decide) 83 rfl ?_
          refine nw_iload_n C 4 dX4_answer_83 rfl 84 rfl ?_
          refine nw_bipush C (nI 60) dX4_answer_84 (by decide) 86 rfl ?_
          refine nw_idivN C (by omega) dX4_answer_86 87 rfl ?_
          refine nw_ishl C ((nI 1) <<< ((nI (tn / 60)) &&& 31)) dX4_answer_87 rfl 88 rfl ?_
          refine nw_ior C ((gd_h ((sg_gu σ).2 gn)) ||| ((nI 1) <<< ((nI (tn / 60)) &&& 31))) dX4_answer_88 rfl 89 rfl ?_
          refine nw_put C hg11 (Or.inl (by rw [show ro (am (300 + gn)) = 5301 + gn from (hR.2.2.2.2.2.1.2.2.2 gn (by omega)).1, rp_5301 gn (by omega)]; decide)) (T := TX11) (ty0 := tyX11) rfl in_X11 tyX11_ok nmX11 5 (by decide) q1790 (Or.inl rfl) rfl rfl rfl (Nat.le_of_ble_eq_true rfl) dX4_answer_89 92 rfl (fun H18 ho19 hz20 hq21 => ?_)
          have ho19 : nwO d (am (300 + gn)) 10 [.int (nI (gd_a ((sg_gu σ).2 gn))), .int (nI (gd_b ((sg_gu σ).2 gn))), .int (nI (gd_s ((sg_gu σ).2 gn))), .ref (am (400 + gn)), .int (nI (gd_k ((sg_gu σ).2 gn))), .int ((gd_h ((sg_gu σ).2 gn)) ||| ((nI 1) <<< ((nI (tn / 60)) &&& 31)))] H18 := ho19
          have hRc := hR.ext hext
          have hR1 := trm_pGu hRc (k := gn) (v := gd_told ((sg_gu σ).2 gn) (tn / 60)) (by omega) hz20 hq21 rfl ho19
          have hAq : ∀ q8, q8 < H1.size → q8 = am (300 + gn) → nwAM ro H q8 := fun q8 _ h9 => by rw [h9]; exact (Or.inl (by rw [show ro (am (300 + gn)) = 5301 + gn from (hR.2.2.2.2.2.1.2.2.2 gn (by omega)).1, rp_5301 gn (by omega)]; decide))
          obtain ⟨σ1, hσ1⟩ : ∃ t9 : spSg, t9 = st_gu σ ((sg_gu σ).1, sp_up (sg_gu σ).2 gn (gd_told ((sg_gu σ).2 gn) (tn / 60))) := ⟨_, rfl⟩
          rw [← hσ1] at hR1
          replace hE := hE.kept (fun q9 g9 hb9 => (fun q9 _ n9 => hq21 q9 n9) q9 g9 (fun h9 => hb9 (C.hB q9 (hAq q9 g9 h9))))
          have hsz : H.size ≤ H18.size := Nat.le_trans (Nat.le_trans (Nat.le_of_eq hzb.symm) hext.1) (Nat.le_of_eq hz20.symm)
          replace hB := Nat.le_trans hB (Nat.le_of_eq hz20.symm)
          have ok9 : spOk σ1 := by rw [hσ1]; exact ⟨okg, okl, okf, oku.put ⟨hk9.1, hk9.2⟩, okp, oki, okw, okd, okk, oka⟩
          replace ok := ok9
          replace okM := ok.m
          replace hR := hR1
          replace hW := hR.wc
          clear hmX hmKi hmLa hmFo hmGu hmPo hmIn hmWi hmWo hmKe okg okl okf oku okp oki okw okd okk oka hn64 oku1 oki1 okp1 okw1 okl1 okf1
          obtain ⟨hmX, hmKi, hmLa, hmFo, hmGu, hmPo, hmIn, hmWi, hmWo, hmKe⟩ := id hW
          obtain ⟨okg, okl, okf, oku, okp, oki, okw, okd, okk, oka⟩ := id ok
          have hn64 : gr_n (sg_gr σ1) ≤ 64 := okg.n
          have oku1 := oku.1
          have oki1 := oki.1
          have okp1 := okp.1
          have okw1 := okw.1
          have okl1 := okl.1
          have okf1 := okf.1
          refine nw_aload_n C 2 dX4_answer_92 rfl 93 rfl ?_
          refine nw_dup C dX4_answer_93 rfl 94 rfl ?_
          refine nw_get C hmX (T := TX4) rfl in_X4 15 (by decide) q1637 (Or.inl rfl) rfl dX4_answer_94 97 rfl ?_
          refine nw_iconst C (nI 1) dX4_answer_97 (by decide) 98 rfl ?_
          refine nw_iaddN C dX4_answer_98 99 rfl ?_
          refine nw_put C hmX hAy (T := TX4) (ty0 := tyX4) rfl in_X4 tyX4_ok nmX4 15 (by decide) q1637 (Or.inl rfl) rfl rfl rfl (Nat.le_of_ble_eq_true rfl) dX4_answer_99 102 rfl (fun H22 ho23 hz24 hq25 => ?_)
          have ho23 : nwO d y 9 [.int (nI 0), .int (nI (gr_w (sg_gr σ1))), .int (nI (gr_h (sg_gr σ1))), .ref (am 9), .int (nI (gaM_f (sg_ga σ1))), .int (oI (gaM_t (sg_ga σ1))), .ref (am 1), .ref (am 2), .ref (am 3), .ref (am 4), .int (nI (wo_s (sg_wo σ1))), .int (nI (wo_m (sg_wo σ1))), .int (nI (sp_after (wo_x (sg_wo σ1)))), .ref (am 11), .ref (am 12), .int (nI (sg_ri σ1 + 1)), .ref (am 8), .ref (am 5), .ref (am 6), .int (nI (sg_rf σ1))] H22 := ho23
          have hRc := hR
          have hR2 := nwMW.obj hRc (t := st_ri σ1 (sg_ri σ1 + 1)) (Nat.le_of_eq hz24.symm) (fun q9 _ n9 _ => hq25 q9 n9) ⟨Or.inr rfl, Or.inr rfl, Or.inr rfl, Or.inr rfl, Or.inr rfl, Or.inr rfl, Or.inr rfl, Or.inr rfl, Or.inr rfl⟩ ho23
          have hAq : ∀ q8, q8 < H18.size → q8 = y → nwAM ro H q8 := fun q8 _ h9 => by rw [h9]; exact hAy
          obtain ⟨σ2, hσ2⟩ : ∃ t9 : spSg, t9 = st_ri σ1 (sg_ri σ1 + 1) := ⟨_, rfl⟩
          rw [← hσ2] at hR2
          replace hE := hE.kept (fun q9 g9 hb9 => (fun q9 _ n9 => hq25 q9 n9) q9 g9 (fun h9 => hb9 (C.hB q9 (hAq q9 g9 h9))))
          replace hsz := Nat.le_trans hsz (Nat.le_of_eq hz24.symm)
          replace hB := Nat.le_trans hB (Nat.le_of_eq hz24.symm)
          have ok9 : spOk σ2 := by rw [hσ2]; exact ⟨okg, okl, okf, oku, okp, oki, okw, okd, okk, oka⟩
          replace ok := ok9
          replace okM := ok.m
          replace hR := hR2
          replace hW := hR.wc
          clear hmX hmKi hmLa hmFo hmGu hmPo hmIn hmWi hmWo hmKe okg okl okf oku okp oki okw okd okk oka hn64 oku1 oki1 okp1 okw1 okl1 okf1
          obtain ⟨hmX, hmKi, hmLa, hmFo, hmGu, hmPo, hmIn, hmWi, hmWo, hmKe⟩ := id hW
          obtain ⟨okg, okl, okf, oku, okp, oki, okw, okd, okk, oka⟩ := id ok
          have hn64 : gr_n (sg_gr σ2) ≤ 64 := okg.n
          have oku1 := oku.1
          have oki1 := oki.1
          have okp1 := okp.1
          have okw1 := okw.1
          have okl1 := okl.1
          have okf1 := okf.1
          refine nw_goto C 116 dX4_answer_102 (by decide) ?_
          refine nw_iload C 0 dX4_answer_116 rfl 118 rfl ?_
          have hop : op_answer σ (nI gn) (nI tn) v = (0, nI 0, σ2) := by rw [hσ2, hσ1]; simp [op_answer, htl, h5, h7, en_gn, en_tn, st_answer]; try rfl
          exact nw_iret C dX4_answer_118 (Nat.le_refl _) (Nat.le_refl _) (by rw [hop]; exact ⟨congrArg (fun z => some (Value.int z)) (congrArg nI h13), ok, hsz, ro, am, hR, (fun _ _ => rfl)⟩)
      · have htl : sp_told σ gn tn v = (4, ((sg_gu σ).2 gn)) := by unfold sp_told wo_answer; rw [if_pos h12]
        refine nw_iconst C (nI 4) dX4_answer_56 (by decide) 57 rfl ?_
        have hop : op_answer σ (nI gn) (nI tn) v = (0, nI 4, σ) := by simp [op_answer, htl, h5, h7, en_gn, en_tn, st_answer_same]
        exact nw_iret C dX4_answer_57 (Nat.le_refl _) (Nat.le_refl _) (by rw [hop]; exact ⟨rfl, ok, Nat.le_trans (Nat.le_of_eq hzb.symm) hext.1, ro, am, hR.ext hext, fun _ _ => rfl⟩)
    · refine nw_aload_n C 0 dX4_answer_26 rfl 27 rfl ?_
      refine nw_iconst C (nI 2) dX4_answer_27 (by decide) 28 rfl ?_
      refine nw_callV C (mX4_no _ C.hfl d y (.int (nI 0)) (.int (nI (gr_w (sg_gr σ)))) (.int (nI (gr_h (sg_gr σ)))) (.ref (am 9)) (.int (nI (gaM_f (sg_ga σ)))) (.int (oI (gaM_t (sg_ga σ)))) (.ref (am 1)) (.ref (am 2)) (.ref (am 3)) (.ref (am 4)) (.int (nI (wo_s (sg_wo σ)))) (.int (nI (wo_m (sg_wo σ)))) (.int (nI (sp_after (wo_x (sg_wo σ))))) (.ref (am 11)) (.ref (am 12)) (.int (nI (sg_ri σ))) (.ref (am 8)) (.ref (am 5)) (.ref (am 6)) (.int (nI (sg_rf σ))) (nI 2) H1 hB hyB hmX) kX4_no q1694 (hmX.is C (ci := 9) rfl) (As := [.int (nI 2)]) (rest := []) rfl rfl ⟨⟨Nat.le_of_ble_eq_true rfl, Nat.le_of_ble_eq_true rfl⟩, (show 0 + 0 ≤ 0 by omega), (show 0 + 0 ≤ 0 by omega)⟩ (Nat.le_of_ble_eq_true rfl) (fun q8 h8 h9 => h9.elim (fun e9 => by rw [e9]; exact hAy) (fun e9 => absurd h8 (Nat.not_lt.mpr e9))) dX4_answer_28 31 rfl (fun v9 H26 hR27 hz28 hq29 => ?_) nw_noX
      obtain ⟨rfl, ho30⟩ := hR27
      have hR8 := hR.ext hext
      have hR9 : nwMW d ro am y σ (nI 2) H26 := hR8.obj hz28 (fun q9 g9 n9 _ => hq29 q9 g9 (fun e9 => e9.elim n9 (Nat.not_le.mpr g9))) mSame.rfl ho30
      have hle9 : H.size ≤ H26.size := Nat.le_trans (Nat.le_of_eq hzb.symm) (Nat.le_trans hext.1 hz28)
      show nwV X _ _ 6 H26 (0 + 0) (0 + 0) 31 [(0, .ref y), (1, .int (nI gn)), (2, .int t), (3, .int v)] [.int (nI 0)]
      refine nw_wide (k' := 0) (n' := 0) (by omega) (by omega) ?_
      have hop : op_answer σ (nI gn) t v = (2, 0, σ) := by simp [op_answer, h5, h7, en_gn]
      exact nw_iret C dX4_answer_31 (Nat.le_refl _) (Nat.le_refl _) (by rw [hop]; exact ⟨rfl, ok, hle9, ro, am, hR9, fun _ _ => rfl⟩)
  · refine nw_aload_n C 0 dX4_answer_13 rfl 14 rfl ?_
    refine nw_iconst C (nI 1) dX4_answer_14 (by decide) 15 rfl ?_
    refine nw_callV C (mX4_no _ C.hfl d y (.int (nI 0)) (.int (nI (gr_w (sg_gr σ)))) (.int (nI (gr_h (sg_gr σ)))) (.ref (am 9)) (.int (nI (gaM_f (sg_ga σ)))) (.int (oI (gaM_t (sg_ga σ)))) (.ref (am 1)) (.ref (am 2)) (.ref (am 3)) (.ref (am 4)) (.int (nI (wo_s (sg_wo σ)))) (.int (nI (wo_m (sg_wo σ)))) (.int (nI (sp_after (wo_x (sg_wo σ))))) (.ref (am 11)) (.ref (am 12)) (.int (nI (sg_ri σ))) (.ref (am 8)) (.ref (am 5)) (.ref (am 6)) (.int (nI (sg_rf σ))) (nI 1) H1 hB hyB hmX) kX4_no q1694 (hmX.is C (ci := 9) rfl) (As := [.int (nI 1)]) (rest := []) rfl rfl ⟨⟨Nat.le_of_ble_eq_true rfl, Nat.le_of_ble_eq_true rfl⟩, (show 0 + 0 ≤ 0 by omega), (show 0 + 0 ≤ 0 by omega)⟩ (Nat.le_of_ble_eq_true rfl) (fun q8 h8 h9 => h9.elim (fun e9 => by rw [e9]; exact hAy) (fun e9 => absurd h8 (Nat.not_lt.mpr e9))) dX4_answer_15 18 rfl (fun v9 H31 hR32 hz33 hq34 => ?_) nw_noX
    obtain ⟨rfl, ho35⟩ := hR32
    have hR8 := hR.ext hext
    have hR9 : nwMW d ro am y σ (nI 1) H31 := hR8.obj hz33 (fun q9 g9 n9 _ => hq34 q9 g9 (fun e9 => e9.elim n9 (Nat.not_le.mpr g9))) mSame.rfl ho35
    have hle9 : H.size ≤ H31.size := Nat.le_trans (Nat.le_of_eq hzb.symm) (Nat.le_trans hext.1 hz33)
    show nwV X _ _ 6 H31 (0 + 0) (0 + 0) 18 [(0, .ref y), (1, .int g), (2, .int t), (3, .int v)] [.int (nI 0)]
    refine nw_wide (k' := 0) (n' := 0) (by omega) (by omega) ?_
    have hop : op_answer σ g t v = (1, 0, σ) := by simp [op_answer, h5]
    exact nw_iret C dX4_answer_18 (Nat.le_refl _) (Nat.le_refl _) (by rw [hop]; exact ⟨rfl, ok, hle9, ro, am, hR9, fun _ _ => rfl⟩)
