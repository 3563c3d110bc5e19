/-! ===== the reference's methods that add to a list ===== -/
theorem fc_List_add : (⟨"java/util/List", "add", "(Ljava/lang/Object;)Z"⟩ : MethodName).cls ≠ "java/lang/invoke/MethodHandle" ∧ (⟨"java/util/List", "add", "(Ljava/lang/Object;)Z"⟩ : MethodName).cls ≠ "java/lang/invoke/VarHandle" ∧ (parseMethodDescriptor (⟨"java/util/List", "add", "(Ljava/lang/Object;)Z"⟩ : MethodName).desc).map (fun d => d.parameters.length) = some 1 := by decide +kernel
set_option maxHeartbeats 4000000 in
theorem mX4_lamp (l : Launch) (hf : l.flags = flags0) (d : nwD) (ro am : Nat → Nat) (y : Nat) (σ : spSg) (th : Int32) (c : Int32) (r : Int32) (H : Heap) (hB : nd_B d ≤ H.size) (hR : nwMW d ro am y σ th H) (ok : spOk σ) : nwMt l d yX4_lamp cX4_lamp 3 (some .int) 5 108 2 13 [.ref y, .int c, .int r] H (nwMv d ro y (op_lamp σ c r) H) nwNo (nwAM ro H) := by
  refine nw_start "NightwatchWallModel" "lamp" hf (by decide +kernel) rfl rfl (fun _ h => Or.inr h) (nwAM_B hR hB) (Nat.le_of_ble_eq_true rfl) ?_
  intro X C
  have hW := hR.wc
  have okM := ok.m
  have hyB := (hR.ok0 (show ro y ≠ 0 by rw [hR.2.1.2]; decide)).1
  have hAy : nwAM ro H y := Or.inl (by rw [hR.2.1.2]; decide +kernel)
  have hW0 := hW
  have hB0 := hB
  have hE := C.E0
  have hext : nwExt H H := nwExt.rfl
  obtain ⟨hmX, hmKi, hmLa, hmFo, hmGu, hmPo, hmIn, hmWi, hmWo, hmKe⟩ := id hW
  obtain ⟨okg, okl, okf, oku, okp, oki, okw, okd, okk, oka⟩ := id ok
  have hn64 : gr_n (sg_gr σ) ≤ 64 := okg.n
  have oku1 := oku.1
  have oki1 := oki.1
  have okp1 := okp.1
  have okw1 := okw.1
  have okl1 := okl.1
  have okf1 := okf.1
  show nwV X _ _ 3 H 0 0 0 [(0, .ref y), (1, .int c), (2, .int r)] []
  refine nw_aload_n C 0 dX4_lamp_0 rfl 1 rfl ?_
  refine nw_iconst C (nI 0) dX4_lamp_1 (by decide) 2 rfl ?_
  refine nw_put C hmX hAy (T := TX4) (ty0 := tyX4) rfl in_X4 tyX4_ok nmX4 0 (by decide) q1622 (Or.inl rfl) rfl rfl rfl (Nat.le_of_ble_eq_true rfl) dX4_lamp_2 5 rfl (fun H1 ho2 hz3 hq4 => ?_)
  have ho2 : nwO d y 9 [.int (nI 0), .int (nI (gr_w (sg_gr σ))), .int (nI (gr_h (sg_gr σ))), .ref (am 9), .int (nI (gaM_f (sg_ga σ))), .int (oI (gaM_t (sg_ga σ))), .ref (am 1), .ref (am 2), .ref (am 3), .ref (am 4), .int (nI (wo_s (sg_wo σ))), .int (nI (wo_m (sg_wo σ))), .int (nI (sp_after (wo_x (sg_wo σ)))), .ref (am 11), .ref (am 12), .int (nI (sg_ri σ)), .ref (am 8), .ref (am 5), .ref (am 6), .int (nI (sg_rf σ))] H1 := ho2
  replace hR := hR.th hz3 hq4 ho2
  have hzb : H1.size = H.size := hz3
  replace hB0 : nd_B d ≤ H1.size := by rw [hz3]; exact hB0
  replace hB := hB0
  replace hE := hE.kept (fun q9 _ hb9 => hq4 q9 (fun e9 => hb9 (by rw [e9]; exact hyB)))
  have hE0 := hE
  replace hW0 := hR.wc
  replace hW := hW0
  replace hext : nwExt H1 H1 := nwExt.rfl
  clear hmX hmKi hmLa hmFo hmGu hmPo hmIn hmWi hmWo hmKe
  obtain ⟨hmX, hmKi, hmLa, hmFo, hmGu, hmPo, hmIn, hmWi, hmWo, hmKe⟩ := id hW
  refine nw_aload_n C 0 dX4_lamp_5 rfl 6 rfl ?_
  refine nw_iload_n C 1 dX4_lamp_6 rfl 7 rfl ?_
  refine nw_callV C (mX4_isCell _ C.hfl d ro am y σ (nI 0) c H1 hB hW okM ) kX4_isCell q1702 (hmX.is C (ci := 9) rfl) (As := [.int c]) (rest := []) rfl rfl ⟨⟨Nat.le_of_ble_eq_true rfl, Nat.le_of_ble_eq_true rfl⟩, Nat.le_of_ble_eq_true rfl, Nat.le_of_ble_eq_true rfl⟩ (Nat.le_of_ble_eq_true rfl) (fun _ h8 h9 => absurd h9 (Nat.not_le.mpr h8)) dX4_lamp_7 10 rfl (nw_rdK ?_) nw_noX
  refine nw_ifneB C 19 dX4_lamp_10 (by decide) 13 rfl (fun h5 => ?_) (fun h5 => ?_)
  · obtain ⟨cn, hk6, rfl⟩ := nw_ix_nat (by omega) h5
    have en_cn : nw_nn (nI cn) = cn := nw_nn_nI (by omega)
    refine nw_iload_n C 2 dX4_lamp_19 rfl 20 rfl ?_
    refine nw_iconst C (nI 1) dX4_lamp_20 (by decide) 21 rfl ?_
    refine nw_iconst C (nI 4) dX4_lamp_21 (by decide) 22 rfl ?_
    refine nw_callS C (mX4_inR _ C.hfl d r (nI 1) (nI 4) H1 hB) kX4_in q1691 (As := [.int r, .int (nI 1), .int (nI 4)]) (rest := []) rfl rfl ⟨⟨Nat.le_of_ble_eq_true rfl, Nat.le_of_ble_eq_true rfl⟩, Nat.le_of_ble_eq_true rfl, Nat.le_of_ble_eq_true rfl⟩ (Nat.le_of_ble_eq_true rfl) (fun _ h8 h9 => absurd h9 (Nat.not_le.mpr h8)) dX4_lamp_22 25 rfl (nw_rdK ?_) nw_noX
    show nwV X _ _ 3 H1 0 0 25 [(0, .ref y), (1, .int (nI cn)), (2, .int r)] [.int (b2i (nw_rg 1 4 r))]
    refine nw_ifneB C 34 dX4_lamp_25 (by decide) 28 rfl (fun h7 => ?_) (fun h7 => ?_)
    · obtain ⟨rn, hk8, rfl⟩ := nw_rg_nat (by omega) (by omega) h7
      have en_rn : nw_nn (nI rn) = rn := nw_nn_nI (by omega)
      refine nw_aload_n C 0 dX4_lamp_34 rfl 35 rfl ?_
      refine nw_get C hmX (T := TX4) rfl in_X4 6 (by decide) q1628 (Or.inl rfl) rfl dX4_lamp_35 38 rfl ?_
      refine nw_callF C (mJ3_size _ C.hfl d (am 1) ((sg_la σ).1) (fun k => am (100 + k)) (fun q => ro q = 7002) H1 hB hmLa.1) kJ3_size (ci := 13) rfl q1607 q1611 (by decide +kernel) fc_List_size (hmLa.1.is C) (As := []) (rest := []) rfl rfl ⟨⟨Nat.le_of_ble_eq_true rfl, Nat.le_of_ble_eq_true rfl⟩, Nat.le_of_ble_eq_true rfl, Nat.le_of_ble_eq_true rfl⟩ (Nat.le_of_ble_eq_true rfl) (fun _ h8 h9 => absurd h9 (Nat.not_le.mpr h8)) dX4_lamp_38 43 rfl (nw_rdK ?_) nw_noX
      refine nw_bipush C (nI 6) dX4_lamp_43 (by decide) 45 rfl ?_
      refine nw_icmpeqN C (by omega) 58 dX4_lamp_45 (by decide) 48 rfl (fun h9 => ?_) (fun h9 => ?_)
      · have hfull : 6 ≤ (sg_la σ).1 := by omega
        refine nw_aload_n C 0 dX4_lamp_58 rfl 59 rfl ?_
        refine nw_iconst C (nI 3) dX4_lamp_59 (by decide) 60 rfl ?_
        refine nw_callV C (mX4_no _ C.hfl d y (.int (nI 0)) (.int (nI (gr_w (sg_gr σ)))) (.int (nI (gr_h (sg_gr σ)))) (.ref (am 9)) (.int (nI (gaM_f (sg_ga σ)))) (.int (oI (gaM_t (sg_ga σ)))) (.ref (am 1)) (.ref (am 2)) (.ref (am 3)) (.ref (am 4)) (.int (nI (wo_s (sg_wo σ)))) (.int (nI (wo_m (sg_wo σ)))) (.int (nI (sp_after (wo_x (sg_wo σ))))) (.ref (am 11)) (.ref (am 12)) (.int (nI (sg_ri σ))) (.ref (am 8)) (.ref (am 5)) (.ref (am 6)) (.int (nI (sg_rf σ))) (nI 3) H1 hB hyB hmX) kX4_no q1694 (hmX.is C (ci := 9) rfl) (As := [.int (nI 3)]) (rest := []) rfl rfl ⟨⟨Nat.le_of_ble_eq_true rfl, Nat.le_of_ble_eq_true rfl⟩, (show 0 + 0 ≤ 2 by omega), (show 0 + 0 ≤ 13 by omega)⟩ (Nat.le_of_ble_eq_true rfl) (fun q8 h8 h9 => h9.elim (fun e9 => by rw [e9]; exact hAy) (fun e9 => absurd h8 (Nat.not_lt.mpr e9))) dX4_lamp_60 63 rfl (fun v9 H10 hR11 hz12 hq13 => ?_) nw_noX
        obtain ⟨rfl, ho14⟩ := hR11
        have hR8 := hR.ext hext
        have hR9 : nwMW d ro am y σ (nI 3) H10 := hR8.obj hz12 (fun q9 g9 n9 _ => hq13 q9 g9 (fun e9 => e9.elim n9 (Nat.not_le.mpr g9))) mSame.rfl ho14
        have hle9 : H.size ≤ H10.size := Nat.le_trans (Nat.le_of_eq hzb.symm) (Nat.le_trans hext.1 hz12)
        show nwV X _ _ 3 H10 (0 + 0) (0 + 0) 63 [(0, .ref y), (1, .int (nI cn)), (2, .int (nI rn))] [.int (nI 0)]
        refine nw_wide (k' := 0) (n' := 0) (by omega) (by omega) ?_
        have hop : op_lamp σ (nI cn) (nI rn) = (3, 0, σ) := by simp [op_lamp, h5, h7, h9, en_cn, en_rn, hfull, sp_wall]
        exact nw_iret C dX4_lamp_63 (by omega) (by omega) (by rw [hop]; exact ⟨rfl, ok, hle9, ro, am, hR9, fun _ _ => rfl⟩)
      · have hfull : ¬ 6 ≤ (sg_la σ).1 := by omega
        have hk4 : gr_k (sg_gr σ) cn < 4 := (okg.here (show cn < gr_n (sg_gr σ) by omega)).2 cn (by omega)
        refine nw_aload_n C 0 dX4_lamp_48 rfl 49 rfl ?_
        refine nw_get C hmX (T := TX4) rfl in_X4 3 (by decide) q1625 (Or.inl rfl) rfl dX4_lamp_49 52 rfl ?_
        refine nw_iload_n C 1 dX4_lamp_52 rfl 53 rfl ?_
        refine nw_ialdN C (nI (gr_k (sg_gr σ) cn)) hmKi (by omega) rfl dX4_lamp_53 54 rfl ?_
        refine nw_iconst C (nI 1) dX4_lamp_54 (by decide) 55 rfl ?_
        refine nw_icmpneN C (by omega) 64 dX4_lamp_55 (by decide) 58 rfl (fun h15 => ?_) (fun h15 => ?_)
        · refine nw_aload_n C 0 dX4_lamp_64 rfl 65 rfl ?_
          refine nw_get C hmX (T := TX4) rfl in_X4 6 (by decide) q1628 (Or.inl rfl) rfl dX4_lamp_65 68 rfl ?_
          refine nw_iconst C (nI 3) dX4_lamp_68 (by decide) 69 rfl ?_
          refine nw_newi C (by omega) 1 3 (by omega) (by omega) ⟨(show 1 ≤ 2 by omega), (show 3 ≤ 13 by omega)⟩ dX4_lamp_69 71 rfl (fun a16 H17 hx18 ho19 hz20 hq21 => ?_)
          have hn22 : H1.size ≤ a16 := (by rw [hx18]; exact hext.1)
          replace hext := hext.made hz20 hq21
          replace hW := hW0.ext hext.2
          replace hE := hE0.ext hext.2
          replace hB := Nat.le_trans hB0 hext.1
          clear hmX hmKi hmLa hmFo hmGu hmPo hmIn hmWi hmWo hmKe
          obtain ⟨hmX, hmKi, hmLa, hmFo, hmGu, hmPo, hmIn, hmWi, hmWo, hmKe⟩ := id hW
          refine nw_dup C dX4_lamp_71 rfl 72 rfl ?_
          refine nw_iconst C (nI 0) dX4_lamp_72 (by decide) 73 rfl ?_
          refine nw_iload_n C 1 dX4_lamp_73 rfl 74 rfl ?_
          refine nw_iastN C ho19 (Or.inr (Nat.le_trans (Nat.le_of_eq hzb.symm) hn22)) (by omega) dX4_lamp_74 75 rfl (fun H23 ho24 hz25 hq26 => ?_)
          replace hext := hext.put hz25 hq26 hn22
          replace hW := hW0.ext hext.2
          replace hE := hE0.ext hext.2
          replace hB := Nat.le_trans hB0 hext.1
          clear hmX hmKi hmLa hmFo hmGu hmPo hmIn hmWi hmWo hmKe
          obtain ⟨hmX, hmKi, hmLa, hmFo, hmGu, hmPo, hmIn, hmWi, hmWo, hmKe⟩ := id hW
          refine nw_dup C dX4_lamp_75 rfl 76 rfl ?_
          refine nw_iconst C (nI 1) dX4_lamp_76 (by decide) 77 rfl ?_
          refine nw_iload_n C 2 dX4_lamp_77 rfl 78 rfl ?_
          refine nw_iastN C ho24 (Or.inr (Nat.le_trans (Nat.le_of_eq hzb.symm) hn22)) (by omega) dX4_lamp_78 79 rfl (fun H27 ho28 hz29 hq30 => ?_)
          replace hext := hext.put hz29 hq30 hn22
          replace hW := hW0.ext hext.2
          replace hE := hE0.ext hext.2
          replace hB := Nat.le_trans hB0 hext.1
          clear hmX hmKi hmLa hmFo hmGu hmPo hmIn hmWi hmWo hmKe
          obtain ⟨hmX, hmKi, hmLa, hmFo, hmGu, hmPo, hmIn, hmWi, hmWo, hmKe⟩ := id hW
          refine nw_dup C dX4_lamp_79 rfl 80 rfl ?_
          refine nw_iconst C (nI 2) dX4_lamp_80 (by decide) 81 rfl ?_
          refine nw_iconst C (nI 1) dX4_lamp_81 (by decide) 82 rfl ?_
          refine nw_iastN C ho28 (Or.inr (Nat.le_trans (Nat.le_of_eq hzb.symm) hn22)) (by omega) dX4_lamp_82 83 rfl (fun H31 ho32 hz33 hq34 => ?_)
          replace hext := hext.put hz33 hq34 hn22
          replace hW := hW0.ext hext.2
          replace hE := hE0.ext hext.2
          replace hB := Nat.le_trans hB0 hext.1
          clear hmX hmKi hmLa hmFo hmGu hmPo hmIn hmWi hmWo hmKe
          obtain ⟨hmX, hmKi, hmLa, hmFo, hmGu, hmPo, hmIn, hmWi, hmWo, hmKe⟩ := id hW
          have hRc := hR.ext hext
          obtain ⟨mo9, ar9, cap9, f9, hL9⟩ := nwLi_m hmLa.1
          have hr9 : ro (am 1) = 5002 := hR.2.2.2.1.2.2.1
          have hai9 := hR.ok0 (show ro (am 1) ≠ 0 by rw [hr9]; decide)
          have hAq : ∀ q8, q8 < H31.size → (q8 = am 1 ∨ ro q8 = 7002 ∨ H31.size ≤ q8) → nwAM ro H q8 := by
            intro q8 h8 h9
            rcases h9 with e9 | e9 | e9
            · exact Or.inl (by rw [e9, hr9]; decide +kernel)
            · exact Or.inl (by rw [e9]; decide +kernel)
            · exact absurd h8 (Nat.not_lt.mpr e9)
          refine nw_callF C (mJ3_add _ C.hfl d (am 1) (sg_la σ).1 (fun k => am (100 + k)) (fun q => ro q = 7002) mo9 ar9 cap9 f9 a16 "[I" H31 hB hai9.1 hL9 (fun q9 e9 => (hR.ok0 (show ro q9 ≠ 0 by rw [show ro q9 = 7002 from e9]; decide)).1) (show ¬ ro (am 1) = 7002 by rw [hr9]; decide) (Or.inr (Or.inr ⟨_, _, ho32, rfl⟩)) q2155 (fun e9 => absurd hai9.2 (Nat.not_lt.mpr (by rw [← e9]; exact hn22))) ho32.lt (by omega)) kJ3_add (ci := 13) rfl q1730 q1733 (by decide +kernel) fc_List_add (nwLi.is hmLa.1 C) (As := [.ref a16]) (rest := []) rfl rfl ⟨⟨Nat.le_of_ble_eq_true rfl, Nat.le_of_ble_eq_true rfl⟩, (show 1 + 1 ≤ 2 by omega), (show 3 + 10 ≤ 13 by omega)⟩ (Nat.le_of_ble_eq_true rfl) hAq dX4_lamp_83 88 rfl (fun v9 H35 hR36 hz37 hq38 => ?_) nw_noX
          obtain ⟨rfl, mo8, ar8, cap8, f8, hL8⟩ := hR36
          obtain ⟨ro1, am1, hR1, hk1⟩ := trm_la hRc (v := (cn, rn, true)) (by omega) (nwMW.new0 hR hn22) (Nat.le_trans hB0 hn22) (nwI.congr ho32 (fun j hj => by rcases (show j = 0 ∨ j = 1 ∨ j = 2 by omega) with e9 | e9 | e9 <;> subst e9 <;> rfl)) hz37 hq38 hL8
          obtain ⟨σ1, hσ1⟩ : ∃ t9 : spSg, t9 = st_la σ ((sg_la σ).1 + 1, sp_up (sg_la σ).2 (sg_la σ).1 (cn, rn, true)) := ⟨_, rfl⟩
          rw [← hσ1] at hR1
          have hlen : (sg_la σ1).1 = (sg_la σ).1 + 1 := by rw [hσ1]; rfl
          replace hE := hE.kept (fun q9 g9 hb9 => hq38 q9 g9 (fun h9 => hb9 (C.hB q9 (hAq q9 g9 h9))))
          have hsz : H.size ≤ H35.size := Nat.le_trans (Nat.le_trans (Nat.le_of_eq hzb.symm) hext.1) hz37
          replace hB := Nat.le_trans hB hz37
          have ok9 : spOk σ1 := by rw [hσ1]; exact ⟨okg, okl.add (by omega) ⟨by assumption, by show rn ≤ 4; omega⟩, okf, oku, okp, oki, okw, okd, okk, oka⟩
          replace ok := ok9
          replace okM := ok.m
          replace hR := hR1
          replace hW := hR.wc
          clear hmX hmKi hmLa hmFo hmGu hmPo hmIn hmWi hmWo hmKe okg okl okf oku okp oki okw okd okk oka hn64 oku1 oki1 okp1 okw1 okl1 okf1
          obtain ⟨hmX, hmKi, hmLa, hmFo, hmGu, hmPo, hmIn, hmWi, hmWo, hmKe⟩ := id hW
          obtain ⟨okg, okl, okf, oku, okp, oki, okw, okd, okk, oka⟩ := id ok
          have hn64 : gr_n (sg_gr σ1) ≤ 64 := okg.n
          have oku1 := oku.1
          have oki1 := oki.1
          have okp1 := okp.1
          have okw1 := okw.1
          have okl1 := okl.1
          have okf1 := okf.1
          show nwV X _ _ 3 H35 (1 + 1) (3 + 10) 88 [(0, .ref y), (1, .int (nI cn)), (2, .int (nI rn))] [.int (b2i true)]
          refine nw_wide (k' := 2) (n' := 13) (by omega) (by omega) ?_
          refine nw_pop C dX4_lamp_88 rfl 89 rfl ?_
          refine nw_aload_n C 0 dX4_lamp_89 rfl 90 rfl ?_
          refine nw_get C hmX (T := TX4) rfl in_X4 6 (by decide) q1628 (Or.inl rfl) rfl dX4_lamp_90 93 rfl ?_
          refine nw_callF C (mJ3_size _ C.hfl d (am1 1) ((sg_la σ1).1) (fun k => am1 (100 + k)) (fun q => ro1 q = 7002) H35 hB hmLa.1) kJ3_size (ci := 13) rfl q1607 q1611 (by decide +kernel) fc_List_size (hmLa.1.is C) (As := []) (rest := []) rfl rfl ⟨⟨Nat.le_of_ble_eq_true rfl, Nat.le_of_ble_eq_true rfl⟩, Nat.le_of_ble_eq_true rfl, Nat.le_of_ble_eq_true rfl⟩ (Nat.le_of_ble_eq_true rfl) (fun _ h8 h9 => absurd h9 (Nat.not_le.mpr h8)) dX4_lamp_93 98 rfl (nw_rdK ?_) nw_noX
          refine nw_iconst C (nI 1) dX4_lamp_98 (by decide) 99 rfl ?_
          refine nw_isubN C (by omega) dX4_lamp_99 100 rfl ?_
          have hop : op_lamp σ (nI cn) (nI rn) = (0, nI (sg_la σ).1, σ1) := by rw [hσ1]; simp [op_lamp, h5, h7, h9, h15, en_cn, en_rn, hfull, sp_wall]
          exact nw_iret C dX4_lamp_100 (by omega) (by omega) (by rw [hop]; exact ⟨congrArg (fun z => some (Value.int z)) (show nI ((sg_la σ1).1 - 1) = nI (sg_la σ).1 by rw [hlen]; rfl), ok, hsz, ro1, am1, hR, hk1⟩)
        · refine nw_aload_n C 0 dX4_lamp_58 rfl 59 rfl ?_
          refine nw_iconst C (nI 3) dX4_lamp_59 (by decide) 60 rfl ?_
          refine nw_callV C (mX4_no _ C.hfl d y (.int (nI 0)) (.int (nI (gr_w (sg_gr σ)))) (.int (nI (gr_h (sg_gr σ)))) (.ref (am 9)) (.int (nI (gaM_f (sg_ga σ)))) (.int (oI (gaM_t (sg_ga σ)))) (.ref (am 1)) (.ref (am 2)) (.ref (am 3)) (.ref (am 4)) (.int (nI (wo_s (sg_wo σ)))) (.int (nI (wo_m (sg_wo σ)))) (.int (nI (sp_after (wo_x (sg_wo σ))))) (.ref (am 11)) (.ref (am 12)) (.int (nI (sg_ri σ))) (.ref (am 8)) (.ref (am 5)) (.ref (am 6)) (.int (nI (sg_rf σ))) (nI 3) H1 hB hyB hmX) kX4_no q1694 (hmX.is C (ci := 9) rfl) (As := [.int (nI 3)]) (rest := []) rfl rfl ⟨⟨Nat.le_of_ble_eq_true rfl, Nat.le_of_ble_eq_true rfl⟩, (show 0 + 0 ≤ 2 by omega), (show 0 + 0 ≤ 13 by omega)⟩ (Nat.le_of_ble_eq_true rfl) (fun q8 h8 h9 => h9.elim (fun e9 => by rw [e9]; exact hAy) (fun e9 => absurd h8 (Nat.not_lt.mpr e9))) dX4_lamp_60 63 rfl (fun v9 H39 hR40 hz41 hq42 => ?_) nw_noX
          obtain ⟨rfl, ho43⟩ := hR40
          have hR8 := hR.ext hext
          have hR9 : nwMW d ro am y σ (nI 3) H39 := hR8.obj hz41 (fun q9 g9 n9 _ => hq42 q9 g9 (fun e9 => e9.elim n9 (Nat.not_le.mpr g9))) mSame.rfl ho43
          have hle9 : H.size ≤ H39.size := Nat.le_trans (Nat.le_of_eq hzb.symm) (Nat.le_trans hext.1 hz41)
          show nwV X _ _ 3 H39 (0 + 0) (0 + 0) 63 [(0, .ref y), (1, .int (nI cn)), (2, .int (nI rn))] [.int (nI 0)]
          refine nw_wide (k' := 0) (n' := 0) (by omega) (by omega) ?_
          have hop : op_lamp σ (nI cn) (nI rn) = (3, 0, σ) := by simp [op_lamp, h5, h7, h9, h15, en_cn, en_rn, hfull, sp_wall]
          exact nw_iret C dX4_lamp_63 (by omega) (by omega) (by rw [hop]; exact ⟨rfl, ok, hle9, ro, am, hR9, fun _ _ => rfl⟩)
    · refine nw_aload_n C 0 dX4_lamp_28 rfl 29 rfl ?_
      refine nw_iconst C (nI 2) dX4_lamp_29 (by decide) 30 rfl ?_
      refine nw_callV C (mX4_no _ C.hfl d y (.int (nI 0)) (.int (nI (gr_w (sg_gr σ)))) (.int (nI (gr_h (sg_gr σ)))) (.ref (am 9)) (.int (nI (gaM_f (sg_ga σ)))) (.int (oI (gaM_t (sg_ga σ)))) (.ref (am 1)) (.ref (am 2)) (.ref (am 3)) (.ref (am 4)) (.int (nI (wo_s (sg_wo σ)))) (.int (nI (wo_m (sg_wo σ)))) (.int (nI (sp_after (wo_x (sg_wo σ))))) (.ref (am 11)) (.ref (am 12)) (.int (nI (sg_ri σ))) (.ref (am 8)) (.ref (am 5)) (.ref (am 6)) (.int (nI (sg_rf σ))) (nI 2) H1 hB hyB hmX) kX4_no q1694 (hmX.is C (ci := 9) rfl) (As := [.int (nI 2)]) (rest := []) rfl rfl ⟨⟨Nat.le_of_ble_eq_true rfl, Nat.le_of_ble_eq_true rfl⟩, (show 0 + 0 ≤ 2 by omega), (show 0 + 0 ≤ 13 by omega)⟩ (Nat.le_of_ble_eq_true rfl) (fun q8 h8 h9 => h9.elim (fun e9 => by rw [e9]; exact hAy) (fun e9 => absurd h8 (Nat.not_lt.mpr e9))) dX4_lamp_30 33 rfl (fun v9 H44 hR45 hz46 hq47 => ?_) nw_noX
      obtain ⟨rfl, ho48⟩ := hR45
      have hR8 := hR.ext hext
      have hR9 : nwMW d ro am y σ (nI 2) H44 := hR8.obj hz46 (fun q9 g9 n9 _ => hq47 q9 g9 (fun e9 => e9.elim n9 (Nat.not_le.mpr g9))) mSame.rfl ho48
      have hle9 : H.size ≤ H44.size := Nat.le_trans (Nat.le_of_eq hzb.symm) (Nat.le_trans hext.1 hz46)
      show nwV X _ _ 3 H44 (0 + 0) (0 + 0) 33 [(0, .ref y), (1, .int (nI cn)), (2, .int r)] [.int (nI 0)]
      refine nw_wide (k' := 0) (n' := 0) (by omega) (by omega) ?_
      have hop : op_lamp σ (nI cn) r = (2, 0, σ) := by simp [op_lamp, h5, h7, en_cn, sp_wall]
      exact nw_iret C dX4_lamp_33 (by omega) (by omega) (by rw [hop]; exact ⟨rfl, ok, hle9, ro, am, hR9, fun _ _ => rfl⟩)
  · refine nw_aload_n C 0 dX4_lamp_13 rfl 14 rfl ?_
    refine nw_iconst C (nI 1) dX4_lamp_14 (by decide) 15 rfl ?_
    refine nw_callV C (mX4_no _ C.hfl d y (.int (nI 0)) (.int (nI (gr_w (sg_gr σ)))) (.int (nI (gr_h (sg_gr σ)))) (.ref (am 9)) (.int (nI (gaM_f (sg_ga σ)))) (.int (oI (gaM_t (sg_ga σ)))) (.ref (am 1)) (.ref (am 2)) (.ref (am 3)) (.ref (am 4)) (.int (nI (wo_s (sg_wo σ)))) (.int (nI (wo_m (sg_wo σ)))) (.int (nI (sp_after (wo_x (sg_wo σ))))) (.ref (am 11)) (.ref (am 12)) (.int (nI (sg_ri σ))) (.ref (am 8)) (.ref (am 5)) (.ref (am 6)) (.int (nI (sg_rf σ))) (nI 1) H1 hB hyB hmX) kX4_no q1694 (hmX.is C (ci := 9) rfl) (As := [.int (nI 1)]) (rest := []) rfl rfl ⟨⟨Nat.le_of_ble_eq_true rfl, Nat.le_of_ble_eq_true rfl⟩, (show 0 + 0 ≤ 2 by omega), (show 0 + 0 ≤ 13 by omega)⟩ (Nat.le_of_ble_eq_true rfl) (fun q8 h8 h9 => h9.elim (fun e9 => by rw [e9]; exact hAy) (fun e9 => absurd h8 (Nat.not_lt.mpr e9))) dX4_lamp_15 18 rfl (fun v9 H49 hR50 hz51 hq52 => ?_) nw_noX
    obtain ⟨rfl, ho53⟩ := hR50
    have hR8 := hR.ext hext
    have hR9 : nwMW d ro am y σ (nI 1) H49 := hR8.obj hz51 (fun q9 g9 n9 _ => hq52 q9 g9 (fun e9 => e9.elim n9 (Nat.not_le.mpr g9))) mSame.rfl ho53
    have hle9 : H.size ≤ H49.size := Nat.le_trans (Nat.le_of_eq hzb.symm) (Nat.le_trans hext.1 hz51)
    show nwV X _ _ 3 H49 (0 + 0) (0 + 0) 18 [(0, .ref y), (1, .int c), (2, .int r)] [.int (nI 0)]
    refine nw_wide (k' := 0) (n' := 0) (by omega) (by omega) ?_
    have hop : op_lamp σ c r = (1, 0, σ) := by simp [op_lamp, h5, sp_wall]
    exact nw_iret C dX4_lamp_18 (by omega) (by omega) (by rw [hop]; exact ⟨rfl, ok, hle9, ro, am, hR9, fun _ _ => rfl⟩)
set_option maxHeartbeats 4000000 in
theorem mX4_fog (l : Launch) (hf : l.flags = flags0) (d : nwD) (ro am : Nat → Nat) (y : Nat) (σ : spSg) (th : Int32) (t : Int32) (f : Int32) (H : Heap) (hB : nd_B d ≤ H.size) (hR : nwMW d ro am y σ th H) (ok : spOk σ) : nwMt l d yX4_fog cX4_fog 3 (some .int) 5 108 2 12 [.ref y, .int t, .int f] H (nwMv d ro y (op_fog σ t f) H) nwNo (nwAM ro H) := by
  refine nw_start "NightwatchWallModel" "fog" hf (by decide +kernel) rfl rfl (fun _ h => Or.inr h) (nwAM_B hR hB) (Nat.le_of_ble_eq_true rfl) ?_
  intro X C
  have hW := hR.wc
  have okM := ok.m
  have hyB := (hR.ok0 (show ro y ≠ 0 by rw [hR.2.1.2]; decide)).1
  have hAy : nwAM ro H y := Or.inl (by rw [hR.2.1.2]; decide +kernel)
  have hW0 := hW
  have hB0 := hB
  have hE := C.E0
  have hext : nwExt H H := nwExt.rfl
  obtain ⟨hmX, hmKi, hmLa, hmFo, hmGu, hmPo, hmIn, hmWi, hmWo, hmKe⟩ := id hW
  obtain ⟨okg, okl, okf, oku, okp, oki, okw, okd, okk, oka⟩ := id ok
  have hn64 : gr_n (sg_gr σ) ≤ 64 := okg.n
  have oku1 := oku.1
  have oki1 := oki.1
  have okp1 := okp.1
  have okw1 := okw.1
  have okl1 := okl.1
  have okf1 := okf.1
  show nwV X _ _ 3 H 0 0 0 [(0, .ref y), (1, .int t), (2, .int f)] []
  refine nw_aload_n C 0 dX4_fog_0 rfl 1 rfl ?_
  refine nw_iconst C (nI 0) dX4_fog_1 (by decide) 2 rfl ?_
  refine nw_put C hmX hAy (T := TX4) (ty0 := tyX4) rfl in_X4 tyX4_ok nmX4 0 (by decide) q1622 (Or.inl rfl) rfl rfl rfl (Nat.le_of_ble_eq_true rfl) dX4_fog_2 5 rfl (fun H1 ho2 hz3 hq4 => ?_)
  have ho2 : nwO d y 9 [.int (nI 0), .int (nI (gr_w (sg_gr σ))), .int (nI (gr_h (sg_gr σ))), .ref (am 9), .int (nI (gaM_f (sg_ga σ))), .int (oI (gaM_t (sg_ga σ))), .ref (am 1), .ref (am 2), .ref (am 3), .ref (am 4), .int (nI (wo_s (sg_wo σ))), .int (nI (wo_m (sg_wo σ))), .int (nI (sp_after (wo_x (sg_wo σ)))), .ref (am 11), .ref (am 12), .int (nI (sg_ri σ)), .ref (am 8), .ref (am 5), .ref (am 6), .int (nI (sg_rf σ))] H1 := ho2
  replace hR := hR.th hz3 hq4 ho2
  have hzb : H1.size = H.size := hz3
  replace hB0 : nd_B d ≤ H1.size := by rw [hz3]; exact hB0
  replace hB := hB0
  replace hE := hE.kept (fun q9 _ hb9 => hq4 q9 (fun e9 => hb9 (by rw [e9]; exact hyB)))
  have hE0 := hE
  replace hW0 := hR.wc
  replace hW := hW0
  replace hext : nwExt H1 H1 := nwExt.rfl
  clear hmX hmKi hmLa hmFo hmGu hmPo hmIn hmWi hmWo hmKe
  obtain ⟨hmX, hmKi, hmLa, hmFo, hmGu, hmPo, hmIn, hmWi, hmWo, hmKe⟩ := id hW
  refine nw_iload_n C 1 dX4_fog_5 rfl 6 rfl ?_
  refine nw_callS C (mX4_isMinute _ C.hfl d t H1 hB) kX4_isMinute q1722 (As := [.int t]) (rest := []) rfl rfl ⟨⟨Nat.le_of_ble_eq_true rfl, Nat.le_of_ble_eq_true rfl⟩, Nat.le_of_ble_eq_true rfl, Nat.le_of_ble_eq_true rfl⟩ (Nat.le_of_ble_eq_true rfl) (fun _ h8 h9 => absurd h9 (Nat.not_le.mpr h8)) dX4_fog_6 9 rfl (nw_rdK ?_) nw_noX
  refine nw_ifeqB C 21 dX4_fog_9 (by decide) 12 rfl (fun h5 => ?_) (fun h5 => ?_)
  · refine nw_aload_n C 0 dX4_fog_21 rfl 22 rfl ?_
    refine nw_iconst C (nI 1) dX4_fog_22 (by decide) 23 rfl ?_
    refine nw_callV C (mX4_no _ C.hfl d y (.int (nI 0)) (.int (nI (gr_w (sg_gr σ)))) (.int (nI (gr_h (sg_gr σ)))) (.ref (am 9)) (.int (nI (gaM_f (sg_ga σ)))) (.int (oI (gaM_t (sg_ga σ)))) (.ref (am 1)) (.ref (am 2)) (.ref (am 3)) (.ref (am 4)) (.int (nI (wo_s (sg_wo σ)))) (.int (nI (wo_m (sg_wo σ)))) (.int (nI (sp_after (wo_x (sg_wo σ))))) (.ref (am 11)) (.ref (am 12)) (.int (nI (sg_ri σ))) (.ref (am 8)) (.ref (am 5)) (.ref (am 6)) (.int (nI (sg_rf σ))) (nI 1) H1 hB hyB hmX) kX4_no q1694 (hmX.is C (ci := 9) rfl) (As := [.int (nI 1)]) (rest := []) rfl rfl ⟨⟨Nat.le_of_ble_eq_true rfl, Nat.le_of_ble_eq_true rfl⟩, (show 0 + 0 ≤ 2 by omega), (show 0 + 0 ≤ 12 by omega)⟩ (Nat.le_of_ble_eq_true rfl) (fun q8 h8 h9 => h9.elim (fun e9 => by rw [e9]; exact hAy) (fun e9 => absurd h8 (Nat.not_lt.mpr e9))) dX4_fog_23 26 rfl (fun v9 H6 hR7 hz8 hq9 => ?_) nw_noX
    obtain ⟨rfl, ho10⟩ := hR7
    have hR8 := hR.ext hext
    have hR9 : nwMW d ro am y σ (nI 1) H6 := hR8.obj hz8 (fun q9 g9 n9 _ => hq9 q9 g9 (fun e9 => e9.elim n9 (Nat.not_le.mpr g9))) mSame.rfl ho10
    have hle9 : H.size ≤ H6.size := Nat.le_trans (Nat.le_of_eq hzb.symm) (Nat.le_trans hext.1 hz8)
    show nwV X _ _ 3 H6 (0 + 0) (0 + 0) 26 [(0, .ref y), (1, .int t), (2, .int f)] [.int (nI 0)]
    refine nw_wide (k' := 0) (n' := 0) (by omega) (by omega) ?_
    have hop : op_fog σ t f = (1, 0, σ) := by simp [op_fog, h5]
    exact nw_iret C dX4_fog_26 (by omega) (by omega) (by rw [hop]; exact ⟨rfl, ok, hle9, ro, am, hR9, fun _ _ => rfl⟩)
  · obtain ⟨tn, hk11, rfl⟩ := nw_rg_nat (by omega) (by omega) h5
    have en_tn : nw_nn (nI tn) = tn := nw_nn_nI (by omega)
    refine nw_iload_n C 2 dX4_fog_12 rfl 13 rfl ?_
    refine nw_iconst C (nI 0) dX4_fog_13 (by decide) 14 rfl ?_
    refine nw_iconst C (nI 5) dX4_fog_14 (by decide) 15 rfl ?_
    refine nw_callS C (mX4_inR _ C.hfl d f (nI 0) (nI 5) H1 hB) kX4_in q1691 (As := [.int f, .int (nI 0), .int (nI 5)]) (rest := []) rfl rfl ⟨⟨Nat.le_of_ble_eq_true rfl, Nat.le_of_ble_eq_true rfl⟩, Nat.le_of_ble_eq_true rfl, Nat.le_of_ble_eq_true rfl⟩ (Nat.le_of_ble_eq_true rfl) (fun _ h8 h9 => absurd h9 (Nat.not_le.mpr h8)) dX4_fog_15 18 rfl (nw_rdK ?_) nw_noX
    show nwV X _ _ 3 H1 0 0 18 [(0, .ref y), (1, .int (nI tn)), (2, .int f)] [.int (b2i (nw_rg 0 5 f))]
    refine nw_ifneB C 27 dX4_fog_18 (by decide) 21 rfl (fun h12 => ?_) (fun h12 => ?_)
    · obtain ⟨fn, hk13, rfl⟩ := nw_rg_nat (by omega) (by omega) h12
      have en_fn : nw_nn (nI fn) = fn := nw_nn_nI (by omega)
      refine nw_aload_n C 0 dX4_fog_27 rfl 28 rfl ?_
      refine nw_get C hmX (T := TX4) rfl in_X4 7 (by decide) q1629 (Or.inl rfl) rfl dX4_fog_28 31 rfl ?_
      refine nw_callF C (mJ3_size _ C.hfl d (am 2) ((sg_fo σ).1) (fun k => am (200 + k)) (fun q => ro q = 7003) H1 hB hmFo.1) kJ3_size (ci := 13) rfl q1607 q1611 (by decide +kernel) fc_List_size (hmFo.1.is C) (As := []) (rest := []) rfl rfl ⟨⟨Nat.le_of_ble_eq_true rfl, Nat.le_of_ble_eq_true rfl⟩, Nat.le_of_ble_eq_true rfl, Nat.le_of_ble_eq_true rfl⟩ (Nat.le_of_ble_eq_true rfl) (fun _ h8 h9 => absurd h9 (Nat.not_le.mpr h8)) dX4_fog_31 36 rfl (nw_rdK ?_) nw_noX
      refine nw_bipush C (nI 8) dX4_fog_36 (by decide) 38 rfl ?_
      refine nw_icmpneN C (by omega) 47 dX4_fog_38 (by decide) 41 rfl (fun h14 => ?_) (fun h14 => ?_)
      · have hfull : ¬ 8 ≤ (sg_fo σ).1 := by omega
        refine nw_aload_n C 0 dX4_fog_47 rfl 48 rfl ?_
        refine nw_get C hmX (T := TX4) rfl in_X4 7 (by decide) q1629 (Or.inl rfl) rfl dX4_fog_48 51 rfl ?_
        refine nw_iconst C (nI 2) dX4_fog_51 (by decide) 52 rfl ?_
        refine nw_newi C (by omega) 1 2 (by omega) (by omega) ⟨(show 1 ≤ 2 by omega), (show 2 ≤ 12 by omega)⟩ dX4_fog_52 54 rfl (fun a15 H16 hx17 ho18 hz19 hq20 => ?_)
        have hn21 : H1.size ≤ a15 := (by rw [hx17]; exact hext.1)
        replace hext := hext.made hz19 hq20
        replace hW := hW0.ext hext.2
        replace hE := hE0.ext hext.2
        replace hB := Nat.le_trans hB0 hext.1
        clear hmX hmKi hmLa hmFo hmGu hmPo hmIn hmWi hmWo hmKe
        obtain ⟨hmX, hmKi, hmLa, hmFo, hmGu, hmPo, hmIn, hmWi, hmWo, hmKe⟩ := id hW
        refine nw_dup C dX4_fog_54 rfl 55 rfl ?_
        refine nw_iconst C (nI 0) dX4_fog_55 (by decide) 56 rfl ?_
        refine nw_iload_n C 1 dX4_fog_56 rfl 57 rfl ?_
        refine nw_iastN C ho18 (Or.inr (Nat.le_trans (Nat.le_of_eq hzb.symm) hn21)) (by omega) dX4_fog_57 58 rfl (fun H22 ho23 hz24 hq25 => ?_)
        replace hext := hext.put hz24 hq25 hn21
        replace hW := hW0.ext hext.2
        replace hE := hE0.ext hext.2
        replace hB := Nat.le_trans hB0 hext.1
        clear hmX hmKi hmLa hmFo hmGu hmPo hmIn hmWi hmWo hmKe
        obtain ⟨hmX, hmKi, hmLa, hmFo, hmGu, hmPo, hmIn, hmWi, hmWo, hmKe⟩ := id hW
        refine nw_dup C dX4_fog_58 rfl 59 rfl ?_
        refine nw_iconst C (nI 1) dX4_fog_59 (by decide) 60 rfl ?_
        refine nw_iload_n C 2 dX4_fog_60 rfl 61 rfl ?_
        refine nw_iastN C ho23 (Or.inr (Nat.le_trans (Nat.le_of_eq hzb.symm) hn21)) (by omega) dX4_fog_61 62 rfl (fun H26 ho27 hz28 hq29 => ?_)
        replace hext := hext.put hz28 hq29 hn21
        replace hW := hW0.ext hext.2
        replace hE := hE0.ext hext.2
        replace hB := Nat.le_trans hB0 hext.1
        clear hmX hmKi hmLa hmFo hmGu hmPo hmIn hmWi hmWo hmKe
        obtain ⟨hmX, hmKi, hmLa, hmFo, hmGu, hmPo, hmIn, hmWi, hmWo, hmKe⟩ := id hW
        have hRc := hR.ext hext
        obtain ⟨mo9, ar9, cap9, f9, hL9⟩ := nwLi_m hmFo.1
        have hr9 : ro (am 2) = 5003 := hR.2.2.2.2.1.2.2.1
        have hai9 := hR.ok0 (show ro (am 2) ≠ 0 by rw [hr9]; decide)
        have hAq : ∀ q8, q8 < H26.size → (q8 = am 2 ∨ ro q8 = 7003 ∨ H26.size ≤ q8) → nwAM ro H q8 := by
          intro q8 h8 h9
          rcases h9 with e9 | e9 | e9
          · exact Or.inl (by rw [e9, hr9]; decide +kernel)
          · exact Or.inl (by rw [e9]; decide +kernel)
          · exact absurd h8 (Nat.not_lt.mpr e9)
        refine nw_callF C (mJ3_add _ C.hfl d (am 2) (sg_fo σ).1 (fun k => am (200 + k)) (fun q => ro q = 7003) mo9 ar9 cap9 f9 a15 "[I" H26 hB hai9.1 hL9 (fun q9 e9 => (hR.ok0 (show ro q9 ≠ 0 by rw [show ro q9 = 7003 from e9]; decide)).1) (show ¬ ro (am 2) = 7003 by rw [hr9]; decide) (Or.inr (Or.inr ⟨_, _, ho27, rfl⟩)) q2155 (fun e9 => absurd hai9.2 (Nat.not_lt.mpr (by rw [← e9]; exact hn21))) ho27.lt (by omega)) kJ3_add (ci := 13) rfl q1730 q1733 (by decide +kernel) fc_List_add (nwLi.is hmFo.1 C) (As := [.ref a15]) (rest := []) rfl rfl ⟨⟨Nat.le_of_ble_eq_true rfl, Nat.le_of_ble_eq_true rfl⟩, (show 1 + 1 ≤ 2 by omega), (show 2 + 10 ≤ 12 by omega)⟩ (Nat.le_of_ble_eq_true rfl) hAq dX4_fog_62 67 rfl (fun v9 H30 hR31 hz32 hq33 => ?_) nw_noX
        obtain ⟨rfl, mo8, ar8, cap8, f8, hL8⟩ := hR31
        obtain ⟨ro1, am1, hR1, hk1⟩ := trm_fo hRc (v := (tn, fn)) (by omega) (nwMW.new0 hR hn21) (Nat.le_trans hB0 hn21) (nwI.congr ho27 (fun j hj => by rcases (show j = 0 ∨ j = 1 by omega) with e9 | e9 <;> subst e9 <;> rfl)) hz32 hq33 hL8
        obtain ⟨σ1, hσ1⟩ : ∃ t9 : spSg, t9 = st_fo σ ((sg_fo σ).1 + 1, sp_up (sg_fo σ).2 (sg_fo σ).1 (tn, fn)) := ⟨_, rfl⟩
        rw [← hσ1] at hR1
        have hlen : (sg_fo σ1).1 = (sg_fo σ).1 + 1 := by rw [hσ1]; rfl
        replace hE := hE.kept (fun q9 g9 hb9 => hq33 q9 g9 (fun h9 => hb9 (C.hB q9 (hAq q9 g9 h9))))
        have hsz : H.size ≤ H30.size := Nat.le_trans (Nat.le_trans (Nat.le_of_eq hzb.symm) hext.1) hz32
        replace hB := Nat.le_trans hB hz32
        have ok9 : spOk σ1 := by rw [hσ1]; exact ⟨okg, okl, okf.add (by omega) ⟨by show tn < 240; omega, by show fn ≤ 5; omega⟩, oku, okp, oki, okw, okd, okk, oka⟩
        replace ok := ok9
        replace okM := ok.m
        replace hR := hR1
        replace hW := hR.wc
        clear hmX hmKi hmLa hmFo hmGu hmPo hmIn hmWi hmWo hmKe okg okl okf oku okp oki okw okd okk oka hn64 oku1 oki1 okp1 okw1 okl1 okf1
        obtain ⟨hmX, hmKi, hmLa, hmFo, hmGu, hmPo, hmIn, hmWi, hmWo, hmKe⟩ := id hW
        obtain ⟨okg, okl, okf, oku, okp, oki, okw, okd, okk, oka⟩ := id ok
        have hn64 : gr_n (sg_gr σ1) ≤ 64 := okg.n
        have oku1 := oku.1
        have oki1 := oki.1
        have okp1 := okp.1
        have okw1 := okw.1
        have okl1 := okl.1
        have okf1 := okf.1
        show nwV X _ _ 3 H30 (1 + 1) (2 + 10) 67 [(0, .ref y), (1, .int (nI tn)), (2, .int (nI fn))] [.int (b2i true)]
        refine nw_wide (k' := 2) (n' := 12) (by omega) (by omega) ?_
        refine nw_pop C dX4_fog_67 rfl 68 rfl ?_
        refine nw_aload_n C 0 dX4_fog_68 rfl 69 rfl ?_
        refine nw_get C hmX (T := TX4) rfl in_X4 7 (by decide) q1629 (Or.inl rfl) rfl dX4_fog_69 72 rfl ?_
        refine nw_callF C (mJ3_size _ C.hfl d (am1 2) ((sg_fo σ1).1) (fun k => am1 (200 + k)) (fun q => ro1 q = 7003) H30 hB hmFo.1) kJ3_size (ci := 13) rfl q1607 q1611 (by decide +kernel) fc_List_size (hmFo.1.is C) (As := []) (rest := []) rfl rfl ⟨⟨Nat.le_of_ble_eq_true rfl, Nat.le_of_ble_eq_true rfl⟩, Nat.le_of_ble_eq_true rfl, Nat.le_of_ble_eq_true rfl⟩ (Nat.le_of_ble_eq_true rfl) (fun _ h8 h9 => absurd h9 (Nat.not_le.mpr h8)) dX4_fog_72 77 rfl (nw_rdK ?_) nw_noX
        have hop : op_fog σ (nI tn) (nI fn) = (0, nI ((sg_fo σ).1 + 1), σ1) := by rw [hσ1]; simp [op_fog, h5, h12, h14, en_tn, en_fn, hfull]
        exact nw_iret C dX4_fog_77 (by omega) (by omega) (by rw [hop]; exact ⟨congrArg (fun z => some (Value.int z)) (show nI (sg_fo σ1).1 = nI ((sg_fo σ).1 + 1) by rw [hlen]), ok, hsz, ro1, am1, hR, hk1⟩)
      · have hfull : 8 ≤ (sg_fo σ).1 := by omega
        refine nw_aload_n C 0 dX4_fog_41 rfl 42 rfl ?_
        refine nw_iconst C (nI 2) dX4_fog_42 (by decide) 43 rfl ?_
        refine nw_callV C (mX4_no _ C.hfl d y (.int (nI 0)) (.int (nI (gr_w (sg_gr σ)))) (.int (nI (gr_h (sg_gr σ)))) (.ref (am 9)) (.int (nI (gaM_f (sg_ga σ)))) (.int (oI (gaM_t (sg_ga σ)))) (.ref (am 1)) (.ref (am 2)) (.ref (am 3)) (.ref (am 4)) (.int (nI (wo_s (sg_wo σ)))) (.int (nI (wo_m (sg_wo σ)))) (.int (nI (sp_after (wo_x (sg_wo σ))))) (.ref (am 11)) (.ref (am 12)) (.int (nI (sg_ri σ))) (.ref (am 8)) (.ref (am 5)) (.ref (am 6)) (.int (nI (sg_rf σ))) (nI 2) H1 hB hyB hmX) kX4_no q1694 (hmX.is C (ci := 9) rfl) (As := [.int (nI 2)]) (rest := []) rfl rfl ⟨⟨Nat.le_of_ble_eq_true rfl, Nat.le_of_ble_eq_true rfl⟩, (show 0 + 0 ≤ 2 by omega), (show 0 + 0 ≤ 12 by omega)⟩ (Nat.le_of_ble_eq_true rfl) (fun q8 h8 h9 => h9.elim (fun e9 => by rw [e9]; exact hAy) (fun e9 => absurd h8 (Nat.not_lt.mpr e9))) dX4_fog_43 46 rfl (fun v9 H34 hR35 hz36 hq37 => ?_) nw_noX
        obtain ⟨rfl, ho38⟩ := hR35
        have hR8 := hR.ext hext
        have hR9 : nwMW d ro am y σ (nI 2) H34 := hR8.obj hz36 (fun q9 g9 n9 _ => hq37 q9 g9 (fun e9 => e9.elim n9 (Nat.not_le.mpr g9))) mSame.rfl ho38
        have hle9 : H.size ≤ H34.size := Nat.le_trans (Nat.le_of_eq hzb.symm) (Nat.le_trans hext.1 hz36)
        show nwV X _ _ 3 H34 (0 + 0) (0 + 0) 46 [(0, .ref y), (1, .int (nI tn)), (2, .int (nI fn))] [.int (nI 0)]
        refine nw_wide (k' := 0) (n' := 0) (by omega) (by omega) ?_
        have hop : op_fog σ (nI tn) (nI fn) = (2, 0, σ) := by simp [op_fog, h5, h12, h14, en_tn, en_fn, hfull]
        exact nw_iret C dX4_fog_46 (by omega) (by omega) (by rw [hop]; exact ⟨rfl, ok, hle9, ro, am, hR9, fun _ _ => rfl⟩)
    · refine nw_aload_n C 0 dX4_fog_21 rfl 22 rfl ?_
      refine nw_iconst C (nI 1) dX4_fog_22 (by decide) 23 rfl ?_
      refine nw_callV C (mX4_no _ C.hfl d y (.int (nI 0)) (.int (nI (gr_w (sg_gr σ)))) (.int (nI (gr_h (sg_gr σ)))) (.ref (am 9)) (.int (nI (gaM_f (sg_ga σ)))) (.int (oI (gaM_t (sg_ga σ)))) (.ref (am 1)) (.ref (am 2)) (.ref (am 3)) (.ref (am 4)) (.int (nI (wo_s (sg_wo σ)))) (.int (nI (wo_m (sg_wo σ)))) (.int (nI (sp_after (wo_x (sg_wo σ))))) (.ref (am 11)) (.ref (am 12)) (.int (nI (sg_ri σ))) (.ref (am 8)) (.ref (am 5)) (.ref (am 6)) (.int (nI (sg_rf σ))) (nI 1) H1 hB hyB hmX) kX4_no q1694 (hmX.is C (ci := 9) rfl) (As := [.int (nI 1)]) (rest := []) rfl rfl ⟨⟨Nat.le_of_ble_eq_true rfl, Nat.le_of_ble_eq_true rfl⟩, (show 0 + 0 ≤ 2 by omega), (show 0 + 0 ≤ 12 by omega)⟩ (Nat.le_of_ble_eq_true rfl) (fun q8 h8 h9 => h9.elim (fun e9 => by rw [e9]; exact hAy) (fun e9 => absurd h8 (Nat.not_lt.mpr e9))) dX4_fog_23 26 rfl (fun v9 H39 hR40 hz41 hq42 => ?_) nw_noX
      obtain ⟨rfl, ho43⟩ := hR40
      have hR8 := hR.ext hext
      have hR9 : nwMW d ro am y σ (nI 1) H39 := hR8.obj hz41 (fun q9 g9 n9 _ => hq42 q9 g9 (fun e9 => e9.elim n9 (Nat.not_le.mpr g9))) mSame.rfl ho43
      have hle9 : H.size ≤ H39.size := Nat.le_trans (Nat.le_of_eq hzb.symm) (Nat.le_trans hext.1 hz41)
      show nwV X _ _ 3 H39 (0 + 0) (0 + 0) 26 [(0, .ref y), (1, .int (nI tn)), (2, .int f)] [.int (nI 0)]
      refine nw_wide (k' := 0) (n' := 0) (by omega) (by omega) ?_
      have hop : op_fog σ (nI tn) f = (1, 0, σ) := by simp [op_fog, h5, h12, en_tn]
      exact nw_iret C dX4_fog_26 (by omega) (by omega) (by rw [hop]; exact ⟨rfl, ok, hle9, ro, am, hR9, fun _ _ => rfl⟩)
set_option maxHeartbeats 4000000 in
theorem mX4_wire (l : Launch) (hf : l.flags = flags0) (d : nwD) (ro am : Nat → Nat) (y : Nat) (σ : spSg) (th : Int32) (c : Int32) (b : Int32) (H : Heap) (hB : nd_B d ≤ H.size) (hR : nwMW d ro am y σ th H) (ok : spOk σ) : nwMt l d yX4_wire cX4_wire 3 (some .int) 5 108 2 12 [.ref y, .int c, .int b] H (nwMv d ro y (op_wire σ c b) H) nwNo (nwAM ro H) := by
  refine nw_start "NightwatchWallModel" "wire" hf (by decide +kernel) rfl rfl (fun _ h => Or.inr h) (nwAM_B hR hB) (Nat.le_of_ble_eq_true rfl) ?_
  intro X C
  have hW := hR.wc
  have okM := ok.m
  have hyB := (hR.ok0 (show ro y ≠ 0 by rw [hR.2.1.2]; decide)).1
  have hAy : nwAM ro H y := Or.inl (by rw [hR.2.1.2]; decide +kernel)
  have hW0 := hW
  have hB0 := hB
  have hE := C.E0
  have hext : nwExt H H := nwExt.rfl
  obtain ⟨hmX, hmKi, hmLa, hmFo, hmGu, hmPo, hmIn, hmWi, hmWo, hmKe⟩ := id hW
  obtain ⟨okg, okl, okf, oku, okp, oki, okw, okd, okk, oka⟩ := id ok
  have hn64 : gr_n (sg_gr σ) ≤ 64 := okg.n
  have oku1 := oku.1
  have oki1 := oki.1
  have okp1 := okp.1
  have okw1 := okw.1
  have okl1 := okl.1
  have okf1 := okf.1
  show nwV X _ _ 3 H 0 0 0 [(0, .ref y), (1, .int c), (2, .int b)] []
  refine nw_aload_n C 0 dX4_wire_0 rfl 1 rfl ?_
  refine nw_iconst C (nI 0) dX4_wire_1 (by decide) 2 rfl ?_
  refine nw_put C hmX hAy (T := TX4) (ty0 := tyX4) rfl in_X4 tyX4_ok nmX4 0 (by decide) q1622 (Or.inl rfl) rfl rfl rfl (Nat.le_of_ble_eq_true rfl) dX4_wire_2 5 rfl (fun H1 ho2 hz3 hq4 => ?_)
  have ho2 : nwO d y 9 [.int (nI 0), .int (nI (gr_w (sg_gr σ))), .int (nI (gr_h (sg_gr σ))), .ref (am 9), .int (nI (gaM_f (sg_ga σ))), .int (oI (gaM_t (sg_ga σ))), .ref (am 1), .ref (am 2), .ref (am 3), .ref (am 4), .int (nI (wo_s (sg_wo σ))), .int (nI (wo_m (sg_wo σ))), .int (nI (sp_after (wo_x (sg_wo σ)))), .ref (am 11), .ref (am 12), .int (nI (sg_ri σ)), .ref (am 8), .ref (am 5), .ref (am 6), .int (nI (sg_rf σ))] H1 := ho2
  replace hR := hR.th hz3 hq4 ho2
  have hzb : H1.size = H.size := hz3
  replace hB0 : nd_B d ≤ H1.size := by rw [hz3]; exact hB0
  replace hB := hB0
  replace hE := hE.kept (fun q9 _ hb9 => hq4 q9 (fun e9 => hb9 (by rw [e9]; exact hyB)))
  have hE0 := hE
  replace hW0 := hR.wc
  replace hW := hW0
  replace hext : nwExt H1 H1 := nwExt.rfl
  clear hmX hmKi hmLa hmFo hmGu hmPo hmIn hmWi hmWo hmKe
  obtain ⟨hmX, hmKi, hmLa, hmFo, hmGu, hmPo, hmIn, hmWi, hmWo, hmKe⟩ := id hW
  refine nw_aload_n C 0 dX4_wire_5 rfl 6 rfl ?_
  refine nw_iload_n C 1 dX4_wire_6 rfl 7 rfl ?_
  refine nw_callV C (mX4_isCell _ C.hfl d ro am y σ (nI 0) c H1 hB hW okM ) kX4_isCell q1702 (hmX.is C (ci := 9) rfl) (As := [.int c]) (rest := []) rfl rfl ⟨⟨Nat.le_of_ble_eq_true rfl, Nat.le_of_ble_eq_true rfl⟩, Nat.le_of_ble_eq_true rfl, Nat.le_of_ble_eq_true rfl⟩ (Nat.le_of_ble_eq_true rfl) (fun _ h8 h9 => absurd h9 (Nat.not_le.mpr h8)) dX4_wire_7 10 rfl (nw_rdK ?_) nw_noX
  refine nw_ifneB C 19 dX4_wire_10 (by decide) 13 rfl (fun h5 => ?_) (fun h5 => ?_)
  · obtain ⟨cn, hk6, rfl⟩ := nw_ix_nat (by omega) h5
    have en_cn : nw_nn (nI cn) = cn := nw_nn_nI (by omega)
    refine nw_iload_n C 2 dX4_wire_19 rfl 20 rfl ?_
    refine nw_iconst C (nI 1) dX4_wire_20 (by decide) 21 rfl ?_
    refine nw_bipush C (nI 12) dX4_wire_21 (by decide) 23 rfl ?_
    refine nw_callS C (mX4_inR _ C.hfl d b (nI 1) (nI 12) H1 hB) kX4_in q1691 (As := [.int b, .int (nI 1), .int (nI 12)]) (rest := []) rfl rfl ⟨⟨Nat.le_of_ble_eq_true rfl, Nat.le_of_ble_eq_true rfl⟩, Nat.le_of_ble_eq_true rfl, Nat.le_of_ble_eq_true rfl⟩ (Nat.le_of_ble_eq_true rfl) (fun _ h8 h9 => absurd h9 (Nat.not_le.mpr h8)) dX4_wire_23 26 rfl (nw_rdK ?_) nw_noX
    show nwV X _ _ 3 H1 0 0 26 [(0, .ref y), (1, .int (nI cn)), (2, .int b)] [.int (b2i (nw_rg 1 12 b))]
    refine nw_ifneB C 35 dX4_wire_26 (by decide) 29 rfl (fun h7 => ?_) (fun h7 => ?_)
    · obtain ⟨bn, hk8, rfl⟩ := nw_rg_nat (by omega) (by omega) h7
      have en_bn : nw_nn (nI bn) = bn := nw_nn_nI (by omega)
      refine nw_aload_n C 0 dX4_wire_35 rfl 36 rfl ?_
      refine nw_get C hmX (T := TX4) rfl in_X4 18 (by decide) q1640 (Or.inl rfl) rfl dX4_wire_36 39 rfl ?_
      refine nw_callF C (mJ3_size _ C.hfl d (am 6) ((sg_wi σ).1) (fun k => am (700 + k)) (fun q => ro q = 7007) H1 hB hmWi.1) kJ3_size (ci := 13) rfl q1607 q1611 (by decide +kernel) fc_List_size (hmWi.1.is C) (As := []) (rest := []) rfl rfl ⟨⟨Nat.le_of_ble_eq_true rfl, Nat.le_of_ble_eq_true rfl⟩, Nat.le_of_ble_eq_true rfl, Nat.le_of_ble_eq_true rfl⟩ (Nat.le_of_ble_eq_true rfl) (fun _ h8 h9 => absurd h9 (Nat.not_le.mpr h8)) dX4_wire_39 44 rfl (nw_rdK ?_) nw_noX
      refine nw_iconst C (nI 5) dX4_wire_44 (by decide) 45 rfl ?_
      refine nw_icmpneN C (by omega) 54 dX4_wire_45 (by decide) 48 rfl (fun h9 => ?_) (fun h9 => ?_)
      · have hfull : ¬ 5 ≤ (sg_wi σ).1 := by omega
        refine nw_aload_n C 0 dX4_wire_54 rfl 55 rfl ?_
        refine nw_get C hmX (T := TX4) rfl in_X4 18 (by decide) q1640 (Or.inl rfl) rfl dX4_wire_55 58 rfl ?_
        refine nw_iconst C (nI 2) dX4_wire_58 (by decide) 59 rfl ?_
        refine nw_newi C (by omega) 1 2 (by omega) (by omega) ⟨(show 1 ≤ 2 by omega), (show 2 ≤ 12 by omega)⟩ dX4_wire_59 61 rfl (fun a10 H11 hx12 ho13 hz14 hq15 => ?_)
        have hn16 : H1.size ≤ a10 := (by rw [hx12]; exact hext.1)
        replace hext := hext.made hz14 hq15
        replace hW := hW0.ext hext.2
        replace hE := hE0.ext hext.2
        replace hB := Nat.le_trans hB0 hext.1
        clear hmX hmKi hmLa hmFo hmGu hmPo hmIn hmWi hmWo hmKe
        obtain ⟨hmX, hmKi, hmLa, hmFo, hmGu, hmPo, hmIn, hmWi, hmWo, hmKe⟩ := id hW
        refine nw_dup C dX4_wire_61 rfl 62 rfl ?_
        refine nw_iconst C (nI 0) dX4_wire_62 (by decide) 63 rfl ?_
        refine nw_iload_n C 1 dX4_wire_63 rfl 64 rfl ?_
        refine nw_iastN C ho13 (Or.inr (Nat.le_trans (Nat.le_of_eq hzb.symm) hn16)) (by omega) dX4_wire_64 65 rfl (fun H17 ho18 hz19 hq20 => ?_)
        replace hext := hext.put hz19 hq20 hn16
        replace hW := hW0.ext hext.2
        replace hE := hE0.ext hext.2
        replace hB := Nat.le_trans hB0 hext.1
        clear hmX hmKi hmLa hmFo hmGu hmPo hmIn hmWi hmWo hmKe
        obtain ⟨hmX, hmKi, hmLa, hmFo, hmGu, hmPo, hmIn, hmWi, hmWo, hmKe⟩ := id hW
        refine nw_dup C dX4_wire_65 rfl 66 rfl ?_
        refine nw_iconst C (nI 1) dX4_wire_66 (by decide) 67 rfl ?_
        refine nw_iload_n C 2 dX4_wire_67 rfl 68 rfl ?_
        refine nw_iastN C ho18 (Or.inr (Nat.le_trans (Nat.le_of_eq hzb.symm) hn16)) (by omega) dX4_wire_68 69 rfl (fun H21 ho22 hz23 hq24 => ?_)
        replace hext := hext.put hz23 hq24 hn16
        replace hW := hW0.ext hext.2
        replace hE := hE0.ext hext.2
        replace hB := Nat.le_trans hB0 hext.1
        clear hmX hmKi hmLa hmFo hmGu hmPo hmIn hmWi hmWo hmKe
        obtain ⟨hmX, hmKi, hmLa, hmFo, hmGu, hmPo, hmIn, hmWi, hmWo, hmKe⟩ := id hW
        have hRc := hR.ext hext
        obtain ⟨mo9, ar9, cap9, f9, hL9⟩ := nwLi_m hmWi.1
        have hr9 : ro (am 6) = 5007 := hR.2.2.2.2.2.2.2.2.1.2.2.1
        have hai9 := hR.ok0 (show ro (am 6) ≠ 0 by rw [hr9]; decide)
        have hAq : ∀ q8, q8 < H21.size → (q8 = am 6 ∨ ro q8 = 7007 ∨ H21.size ≤ q8) → nwAM ro H q8 := by
          intro q8 h8 h9
          rcases h9 with e9 | e9 | e9
          · exact Or.inl (by rw [e9, hr9]; decide +kernel)
          · exact Or.inl (by rw [e9]; decide +kernel)
          · exact absurd h8 (Nat.not_lt.mpr e9)
        refine nw_callF C (mJ3_add _ C.hfl d (am 6) (sg_wi σ).1 (fun k => am (700 + k)) (fun q => ro q = 7007) mo9 ar9 cap9 f9 a10 "[I" H21 hB hai9.1 hL9 (fun q9 e9 => (hR.ok0 (show ro q9 ≠ 0 by rw [show ro q9 = 7007 from e9]; decide)).1) (show ¬ ro (am 6) = 7007 by rw [hr9]; decide) (Or.inr (Or.inr ⟨_, _, ho22, rfl⟩)) q2155 (fun e9 => absurd hai9.2 (Nat.not_lt.mpr (by rw [← e9]; exact hn16))) ho22.lt (by omega)) kJ3_add (ci := 13) rfl q1730 q1733 (by decide +kernel) fc_List_add (nwLi.is hmWi.1 C) (As := [.ref a10]) (rest := []) rfl rfl ⟨⟨Nat.le_of_ble_eq_true rfl, Nat.le_of_ble_eq_true rfl⟩, (show 1 + 1 ≤ 2 by omega), (show 2 + 10 ≤ 12 by omega)⟩ (Nat.le_of_ble_eq_true rfl) hAq dX4_wire_69 74 rfl (fun v9 H25 hR26 hz27 hq28 => ?_) nw_noX
        obtain ⟨rfl, mo8, ar8, cap8, f8, hL8⟩ := hR26
        obtain ⟨ro1, am1, hR1, hk1⟩ := trm_wi hRc (v := (cn, bn)) (by omega) (nwMW.new0 hR hn16) (Nat.le_trans hB0 hn16) (nwI.congr ho22 (fun j hj => by rcases (show j = 0 ∨ j = 1 by omega) with e9 | e9 <;> subst e9 <;> rfl)) hz27 hq28 hL8
        obtain ⟨σ1, hσ1⟩ : ∃ t9 : spSg, t9 = st_wi σ ((sg_wi σ).1 + 1, sp_up (sg_wi σ).2 (sg_wi σ).1 (cn, bn)) := ⟨_, rfl⟩
        rw [← hσ1] at hR1
        have hlen : (sg_wi σ1).1 = (sg_wi σ).1 + 1 := by rw [hσ1]; rfl
        replace hE := hE.kept (fun q9 g9 hb9 => hq28 q9 g9 (fun h9 => hb9 (C.hB q9 (hAq q9 g9 h9))))
        have hsz : H.size ≤ H25.size := Nat.le_trans (Nat.le_trans (Nat.le_of_eq hzb.symm) hext.1) hz27
        replace hB := Nat.le_trans hB hz27
        have ok9 : spOk σ1 := by rw [hσ1]; exact ⟨okg, okl, okf, oku, okp, oki, okw.add (by omega) ⟨by assumption, by show bn ≤ 12; omega⟩, okd, okk, oka⟩
        replace ok := ok9
        replace okM := ok.m
        replace hR := hR1
        replace hW := hR.wc
        clear hmX hmKi hmLa hmFo hmGu hmPo hmIn hmWi hmWo hmKe okg okl okf oku okp oki okw okd okk oka hn64 oku1 oki1 okp1 okw1 okl1 okf1
        obtain ⟨hmX, hmKi, hmLa, hmFo, hmGu, hmPo, hmIn, hmWi, hmWo, hmKe⟩ := id hW
        obtain ⟨okg, okl, okf, oku, okp, oki, okw, okd, okk, oka⟩ := id ok
        have hn64 : gr_n (sg_gr σ1) ≤ 64 := okg.n
        have oku1 := oku.1
        have oki1 := oki.1
        have okp1 := okp.1
        have okw1 := okw.1
        have okl1 := okl.1
        have okf1 := okf.1
        show nwV X _ _ 3 H25 (1 + 1) (2 + 10) 74 [(0, .ref y), (1, .int (nI cn)), (2, .int (nI bn))] [.int (b2i true)]
        refine nw_wide (k' := 2) (n' := 12) (by omega) (by omega) ?_
        refine nw_pop C dX4_wire_74 rfl 75 rfl ?_
        refine nw_aload_n C 0 dX4_wire_75 rfl 76 rfl ?_
        refine nw_get C hmX (T := TX4) rfl in_X4 18 (by decide) q1640 (Or.inl rfl) rfl dX4_wire_76 79 rfl ?_
        refine nw_callF C (mJ3_size _ C.hfl d (am1 6) ((sg_wi σ1).1) (fun k => am1 (700 + k)) (fun q => ro1 q = 7007) H25 hB hmWi.1) kJ3_size (ci := 13) rfl q1607 q1611 (by decide +kernel) fc_List_size (hmWi.1.is C) (As := []) (rest := []) rfl rfl ⟨⟨Nat.le_of_ble_eq_true rfl, Nat.le_of_ble_eq_true rfl⟩, Nat.le_of_ble_eq_true rfl, Nat.le_of_ble_eq_true rfl⟩ (Nat.le_of_ble_eq_true rfl) (fun _ h8 h9 => absurd h9 (Nat.not_le.mpr h8)) dX4_wire_79 84 rfl (nw_rdK ?_) nw_noX
        refine nw_iconst C (nI 1) dX4_wire_84 (by decide) 85 rfl ?_
        refine nw_isubN C (by omega) dX4_wire_85 86 rfl ?_
        have hop : op_wire σ (nI cn) (nI bn) = (0, nI (sg_wi σ).1, σ1) := by rw [hσ1]; simp [op_wire, h5, h7, h9, en_cn, en_bn, hfull]
        exact nw_iret C dX4_wire_86 (by omega) (by omega) (by rw [hop]; exact ⟨congrArg (fun z => some (Value.int z)) (show nI ((sg_wi σ1).1 - 1) = nI (sg_wi σ).1 by rw [hlen]; rfl), ok, hsz, ro1, am1, hR, hk1⟩)
      · have hfull : 5 ≤ (sg_wi σ).1 := by omega
        refine nw_aload_n C 0 dX4_wire_48 rfl 49 rfl ?_
        refine nw_iconst C (nI 3) dX4_wire_49 (by decide) 50 rfl ?_
        refine nw_callV C (mX4_no _ C.hfl d y (.int (nI 0)) (.int (nI (gr_w (sg_gr σ)))) (.int (nI (gr_h (sg_gr σ)))) (.ref (am 9)) (.int (nI (gaM_f (sg_ga σ)))) (.int (oI (gaM_t (sg_ga σ)))) (.ref (am 1)) (.ref (am 2)) (.ref (am 3)) (.ref (am 4)) (.int (nI (wo_s (sg_wo σ)))) (.int (nI (wo_m (sg_wo σ)))) (.int (nI (sp_after (wo_x (sg_wo σ))))) (.ref (am 11)) (.ref (am 12)) (.int (nI (sg_ri σ))) (.ref (am 8)) (.ref (am 5)) (.ref (am 6)) (.int (nI (sg_rf σ))) (nI 3) H1 hB hyB hmX) kX4_no q1694 (hmX.is C (ci := 9) rfl) (As := [.int (nI 3)]) (rest := []) rfl rfl ⟨⟨Nat.le_of_ble_eq_true rfl, Nat.le_of_ble_eq_true rfl⟩, (show 0 + 0 ≤ 2 by omega), (show 0 + 0 ≤ 12 by omega)⟩ (Nat.le_of_ble_eq_true rfl) (fun q8 h8 h9 => h9.elim (fun e9 => by rw [e9]; exact hAy) (fun e9 => absurd h8 (Nat.not_lt.mpr e9))) dX4_wire_50 53 rfl (fun v9 H29 hR30 hz31 hq32 => ?_) nw_noX
        obtain ⟨rfl, ho33⟩ := hR30
        have hR8 := hR.ext hext
        have hR9 : nwMW d ro am y σ (nI 3) H29 := hR8.obj hz31 (fun q9 g9 n9 _ => hq32 q9 g9 (fun e9 => e9.elim n9 (Nat.not_le.mpr g9))) mSame.rfl ho33
        have hle9 : H.size ≤ H29.size := Nat.le_trans (Nat.le_of_eq hzb.symm) (Nat.le_trans hext.1 hz31)
        show nwV X _ _ 3 H29 (0 + 0) (0 + 0) 53 [(0, .ref y), (1, .int (nI cn)), (2, .int (nI bn))] [.int (nI 0)]
        refine nw_wide (k' := 0) (n' := 0) (by omega) (by omega) ?_
        have hop : op_wire σ (nI cn) (nI bn) = (3, 0, σ) := by simp [op_wire, h5, h7, h9, en_cn, en_bn, hfull]
        exact nw_iret C dX4_wire_53 (by omega) (by omega) (by rw [hop]; exact ⟨rfl, ok, hle9, ro, am, hR9, fun _ _ => rfl⟩)
    · refine nw_aload_n C 0 dX4_wire_29 rfl 30 rfl ?_
      refine nw_iconst C (nI 2) dX4_wire_30 (by decide) 31 rfl ?_
      refine nw_callV C (mX4_no _ C.hfl d y (.int (nI 0)) (.int (nI (gr_w (sg_gr σ)))) (.int (nI (gr_h (sg_gr σ)))) (.ref (am 9)) (.int (nI (gaM_f (sg_ga σ)))) (.int (oI (gaM_t (sg_ga σ)))) (.ref (am 1)) (.ref (am 2)) (.ref (am 3)) (.ref (am 4)) (.int (nI (wo_s (sg_wo σ)))) (.int (nI (wo_m (sg_wo σ)))) (.int (nI (sp_after (wo_x (sg_wo σ))))) (.ref (am 11)) (.ref (am 12)) (.int (nI (sg_ri σ))) (.ref (am 8)) (.ref (am 5)) (.ref (am 6)) (.int (nI (sg_rf σ))) (nI 2) H1 hB hyB hmX) kX4_no q1694 (hmX.is C (ci := 9) rfl) (As := [.int (nI 2)]) (rest := []) rfl rfl ⟨⟨Nat.le_of_ble_eq_true rfl, Nat.le_of_ble_eq_true rfl⟩, (show 0 + 0 ≤ 2 by omega), (show 0 + 0 ≤ 12 by omega)⟩ (Nat.le_of_ble_eq_true rfl) (fun q8 h8 h9 => h9.elim (fun e9 => by rw [e9]; exact hAy) (fun e9 => absurd h8 (Nat.not_lt.mpr e9))) dX4_wire_31 34 rfl (fun v9 H34 hR35 hz36 hq37 => ?_) nw_noX
      obtain ⟨rfl, ho38⟩ := hR35
      have hR8 := hR.ext hext
      have hR9 : nwMW d ro am y σ (nI 2) H34 := hR8.obj hz36 (fun q9 g9 n9 _ => hq37 q9 g9 (fun e9 => e9.elim n9 (Nat.not_le.mpr g9))) mSame.rfl ho38
      have hle9 : H.size ≤ H34.size := Nat.le_trans (Nat.le_of_eq hzb.symm) (Nat.le_trans hext.1 hz36)
      show nwV X _ _ 3 H34 (0 + 0) (0 + 0) 34 [(0, .ref y), (1, .int (nI cn)), (2, .int b)] [.int (nI 0)]
      refine nw_wide (k' := 0) (n' := 0) (by omega) (by omega) ?_
      have hop : op_wire σ (nI cn) b = (2, 0, σ) := by simp [op_wire, h5, h7, en_cn]
      exact nw_iret C dX4_wire_34 (by omega) (by omega) (by rw [hop]; exact ⟨rfl, ok, hle9, ro, am, hR9, fun _ _ => rfl⟩)
  · refine nw_aload_n C 0 dX4_wire_13 rfl 14 rfl ?_
    refine nw_iconst C (nI 1) dX4_wire_14 (by decide) 15 rfl ?_
    refine nw_callV C (mX4_no _ C.hfl d y (.int (nI 0)) (.int (nI (gr_w (sg_gr σ)))) (.int (nI (gr_h (sg_gr σ)))) (.ref (am 9)) (.int (nI (gaM_f (sg_ga σ)))) (.int (oI (gaM_t (sg_ga σ)))) (.ref (am 1)) (.ref (am 2)) (.ref (am 3)) (.ref (am 4)) (.int (nI (wo_s (sg_wo σ)))) (.int (nI (wo_m (sg_wo σ)))) (.int (nI (sp_after (wo_x (sg_wo σ))))) (.ref (am 11)) (.ref (am 12)) (.int (nI (sg_ri σ))) (.ref (am 8)) (.ref (am 5)) (.ref (am 6)) (.int (nI (sg_rf σ))) (nI 1) H1 hB hyB hmX) kX4_no q1694 (hmX.is C (ci := 9) rfl) (As := [.int (nI 1)]) (rest := []) rfl rfl ⟨⟨Nat.le_of_ble_eq_true rfl, Nat.le_of_ble_eq_true rfl⟩, (show 0 + 0 ≤ 2 by omega), (show 0 + 0 ≤ 12 by omega)⟩ (Nat.le_of_ble_eq_true rfl) (fun q8 h8 h9 => h9.elim (fun e9 => by rw [e9]; exact hAy) (fun e9 => absurd h8 (Nat.not_lt.mpr e9))) dX4_wire_15 18 rfl (fun v9 H39 hR40 hz41 hq42 => ?_) nw_noX
    obtain ⟨rfl, ho43⟩ := hR40
    have hR8 := hR.ext hext
    have hR9 : nwMW d ro am y σ (nI 1) H39 := hR8.obj hz41 (fun q9 g9 n9 _ => hq42 q9 g9 (fun e9 => e9.elim n9 (Nat.not_le.mpr g9))) mSame.rfl ho43
    have hle9 : H.size ≤ H39.size := Nat.le_trans (Nat.le_of_eq hzb.symm) (Nat.le_trans hext.1 hz41)
    show nwV X _ _ 3 H39 (0 + 0) (0 + 0) 18 [(0, .ref y), (1, .int c), (2, .int b)] [.int (nI 0)]
    refine nw_wide (k' := 0) (n' := 0) (by omega) (by omega) ?_
    have hop : op_wire σ c b = (1, 0, σ) := by simp [op_wire, h5]
    exact nw_iret C dX4_wire_18 (by omega) (by omega) (by rw [hop]; exact ⟨rfl, ok, hle9, ro, am, hR9, fun _ _ => rfl⟩)
set_option maxHeartbeats 4000000 in
theorem mX4_post (l : Launch) (hf : l.flags = flags0) (d : nwD) (ro am : Nat → Nat) (y : Nat) (σ : spSg) (th : Int32) (c : Int32) (H : Heap) (hB : nd_B d ≤ H.size) (hR : nwMW d ro am y σ th H) (ok : spOk σ) : nwMt l d yX4_post cX4_post 2 (some .int) 5 108 1 10 [.ref y, .int c] H (nwMv d ro y (op_post σ c) H) nwNo (nwAM ro H) := by
  refine nw_start "NightwatchWallModel" "post" hf (by decide +kernel) rfl rfl (fun _ h => Or.inr h) (nwAM_B hR hB) (Nat.le_of_ble_eq_true rfl) ?_
  intro X C
  have hW := hR.wc
  have okM := ok.m
  have hyB := (hR.ok0 (show ro y ≠ 0 by rw [hR.2.1.2]; decide)).1
  have hAy : nwAM ro H y := Or.inl (by rw [hR.2.1.2]; decide +kernel)
  have hW0 := hW
  have hB0 := hB
  have hE := C.E0
  have hext : nwExt H H := nwExt.rfl
  obtain ⟨hmX, hmKi, hmLa, hmFo, hmGu, hmPo, hmIn, hmWi, hmWo, hmKe⟩ := id hW
  obtain ⟨okg, okl, okf, oku, okp, oki, okw, okd, okk, oka⟩ := id ok
  have hn64 : gr_n (sg_gr σ) ≤ 64 := okg.n
  have oku1 := oku.1
  have oki1 := oki.1
  have okp1 := okp.1
  have okw1 := okw.1
  have okl1 := okl.1
  have okf1 := okf.1
  show nwV X _ _ 2 H 0 0 0 [(0, .ref y), (1, .int c)] []
  refine nw_aload_n C 0 dX4_post_0 rfl 1 rfl ?_
  refine nw_iconst C (nI 0) dX4_post_1 (by decide) 2 rfl ?_
  refine nw_put C hmX hAy (T := TX4) (ty0 := tyX4) rfl in_X4 tyX4_ok nmX4 0 (by decide) q1622 (Or.inl rfl) rfl rfl rfl (Nat.le_of_ble_eq_true rfl) dX4_post_2 5 rfl (fun H1 ho2 hz3 hq4 => ?_)
  have ho2 : nwO d y 9 [.int (nI 0), .int (nI (gr_w (sg_gr σ))), .int (nI (gr_h (sg_gr σ))), .ref (am 9), .int (nI (gaM_f (sg_ga σ))), .int (oI (gaM_t (sg_ga σ))), .ref (am 1), .ref (am 2), .ref (am 3), .ref (am 4), .int (nI (wo_s (sg_wo σ))), .int (nI (wo_m (sg_wo σ))), .int (nI (sp_after (wo_x (sg_wo σ)))), .ref (am 11), .ref (am 12), .int (nI (sg_ri σ)), .ref (am 8), .ref (am 5), .ref (am 6), .int (nI (sg_rf σ))] H1 := ho2
  replace hR := hR.th hz3 hq4 ho2
  have hzb : H1.size = H.size := hz3
  replace hB0 : nd_B d ≤ H1.size := by rw [hz3]; exact hB0
  replace hB := hB0
  replace hE := hE.kept (fun q9 _ hb9 => hq4 q9 (fun e9 => hb9 (by rw [e9]; exact hyB)))
  have hE0 := hE
  replace hW0 := hR.wc
  replace hW := hW0
  replace hext : nwExt H1 H1 := nwExt.rfl
  clear hmX hmKi hmLa hmFo hmGu hmPo hmIn hmWi hmWo hmKe
  obtain ⟨hmX, hmKi, hmLa, hmFo, hmGu, hmPo, hmIn, hmWi, hmWo, hmKe⟩ := id hW
  refine nw_aload_n C 0 dX4_post_5 rfl 6 rfl ?_
  refine nw_iload_n C 1 dX4_post_6 rfl 7 rfl ?_
  refine nw_callV C (mX4_isCell _ C.hfl d ro am y σ (nI 0) c H1 hB hW okM ) kX4_isCell q1702 (hmX.is C (ci := 9) rfl) (As := [.int c]) (rest := []) rfl rfl ⟨⟨Nat.le_of_ble_eq_true rfl, Nat.le_of_ble_eq_true rfl⟩, Nat.le_of_ble_eq_true rfl, Nat.le_of_ble_eq_true rfl⟩ (Nat.le_of_ble_eq_true rfl) (fun _ h8 h9 => absurd h9 (Nat.not_le.mpr h8)) dX4_post_7 10 rfl (nw_rdK ?_) nw_noX
  refine nw_ifneB C 19 dX4_post_10 (by decide) 13 rfl (fun h5 => ?_) (fun h5 => ?_)
  · obtain ⟨cn, hk6, rfl⟩ := nw_ix_nat (by omega) h5
    have en_cn : nw_nn (nI cn) = cn := nw_nn_nI (by omega)
    refine nw_aload_n C 0 dX4_post_19 rfl 20 rfl ?_
    refine nw_get C hmX (T := TX4) rfl in_X4 9 (by decide) q1631 (Or.inl rfl) rfl dX4_post_20 23 rfl ?_
    refine nw_callF C (mJ3_size _ C.hfl d (am 4) ((sg_po σ).1) (fun k => nd_bx d ((sg_po σ).2 k)) (fun q => ro q = 7005) H1 hB hmPo) kJ3_size (ci := 13) rfl q1607 q1611 (by decide +kernel) fc_List_size (hmPo.is C) (As := []) (rest := []) rfl rfl ⟨⟨Nat.le_of_ble_eq_true rfl, Nat.le_of_ble_eq_true rfl⟩, Nat.le_of_ble_eq_true rfl, Nat.le_of_ble_eq_true rfl⟩ (Nat.le_of_ble_eq_true rfl) (fun _ h8 h9 => absurd h9 (Nat.not_le.mpr h8)) dX4_post_23 28 rfl (nw_rdK ?_) nw_noX
    refine nw_iconst C (nI 4) dX4_post_28 (by decide) 29 rfl ?_
    refine nw_icmpeqN C (by omega) 42 dX4_post_29 (by decide) 32 rfl (fun h7 => ?_) (fun h7 => ?_)
    · have hfull : 4 ≤ (sg_po σ).1 := by omega
      refine nw_aload_n C 0 dX4_post_42 rfl 43 rfl ?_
      refine nw_iconst C (nI 2) dX4_post_43 (by decide) 44 rfl ?_
      refine nw_callV C (mX4_no _ C.hfl d y (.int (nI 0)) (.int (nI (gr_w (sg_gr σ)))) (.int (nI (gr_h (sg_gr σ)))) (.ref (am 9)) (.int (nI (gaM_f (sg_ga σ)))) (.int (oI (gaM_t (sg_ga σ)))) (.ref (am 1)) (.ref (am 2)) (.ref (am 3)) (.ref (am 4)) (.int (nI (wo_s (sg_wo σ)))) (.int (nI (wo_m (sg_wo σ)))) (.int (nI (sp_after (wo_x (sg_wo σ))))) (.ref (am 11)) (.ref (am 12)) (.int (nI (sg_ri σ))) (.ref (am 8)) (.ref (am 5)) (.ref (am 6)) (.int (nI (sg_rf σ))) (nI 2) H1 hB hyB hmX) kX4_no q1694 (hmX.is C (ci := 9) rfl) (As := [.int (nI 2)]) (rest := []) rfl rfl ⟨⟨Nat.le_of_ble_eq_true rfl, Nat.le_of_ble_eq_true rfl⟩, (show 0 + 0 ≤ 1 by omega), (show 0 + 0 ≤ 10 by omega)⟩ (Nat.le_of_ble_eq_true rfl) (fun q8 h8 h9 => h9.elim (fun e9 => by rw [e9]; exact hAy) (fun e9 => absurd h8 (Nat.not_lt.mpr e9))) dX4_post_44 47 rfl (fun v9 H8 hR9 hz10 hq11 => ?_) nw_noX
      obtain ⟨rfl, ho12⟩ := hR9
      have hR8 := hR.ext hext
      have hR9 : nwMW d ro am y σ (nI 2) H8 := hR8.obj hz10 (fun q9 g9 n9 _ => hq11 q9 g9 (fun e9 => e9.elim n9 (Nat.not_le.mpr g9))) mSame.rfl ho12
      have hle9 : H.size ≤ H8.size := Nat.le_trans (Nat.le_of_eq hzb.symm) (Nat.le_trans hext.1 hz10)
      show nwV X _ _ 2 H8 (0 + 0) (0 + 0) 47 [(0, .ref y), (1, .int (nI cn))] [.int (nI 0)]
      refine nw_wide (k' := 0) (n' := 0) (by omega) (by omega) ?_
      have hop : op_post σ (nI cn) = (2, 0, σ) := by simp [op_post, h5, h7, en_cn, hfull, sp_wall]
      exact nw_iret C dX4_post_47 (by omega) (by omega) (by rw [hop]; exact ⟨rfl, ok, hle9, ro, am, hR9, fun _ _ => rfl⟩)
    · have hfull : ¬ 4 ≤ (sg_po σ).1 := by omega
      have hk4 : gr_k (sg_gr σ) cn < 4 := (okg.here (show cn < gr_n (sg_gr σ) by omega)).2 cn (by omega)
      refine nw_aload_n C 0 dX4_post_32 rfl 33 rfl ?_
      refine nw_get C hmX (T := TX4) rfl in_X4 3 (by decide) q1625 (Or.inl rfl) rfl dX4_post_33 36 rfl ?_
      refine nw_iload_n C 1 dX4_post_36 rfl 37 rfl ?_
      refine nw_ialdN C (nI (gr_k (sg_gr σ) cn)) hmKi (by omega) rfl dX4_post_37 38 rfl ?_
      refine nw_iconst C (nI 1) dX4_post_38 (by decide) 39 rfl ?_
      refine nw_icmpneN C (by omega) 48 dX4_post_39 (by decide) 42 rfl (fun h13 => ?_) (fun h13 => ?_)
      · refine nw_aload_n C 0 dX4_post_48 rfl 49 rfl ?_
        refine nw_get C hmX (T := TX4) rfl in_X4 9 (by decide) q1631 (Or.inl rfl) rfl dX4_post_49 52 rfl ?_
        refine nw_iload_n C 1 dX4_post_52 rfl 53 rfl ?_
        refine nw_callS C (mJ19_valueOf _ C.hfl d cn H1 hB (by omega)) kJ19_valueOf q1812 (As := [.int (nI cn)]) (rest := [.ref (am 4)]) rfl rfl ⟨⟨Nat.le_of_ble_eq_true rfl, Nat.le_of_ble_eq_true rfl⟩, Nat.le_of_ble_eq_true rfl, Nat.le_of_ble_eq_true rfl⟩ (Nat.le_of_ble_eq_true rfl) (fun _ h8 h9 => absurd h9 (Nat.not_le.mpr h8)) dX4_post_53 56 rfl (nw_rdK ?_) nw_noX
        have hRc := hR.ext hext
        obtain ⟨mo9, ar9, cap9, f9, hL9⟩ := nwLi_m hmPo
        have hr9 : ro (am 4) = 5005 := hR.2.2.2.2.2.2.1.2
        have hai9 := hR.ok0 (show ro (am 4) ≠ 0 by rw [hr9]; decide)
        have hAq : ∀ q8, q8 < H1.size → (q8 = am 4 ∨ ro q8 = 7005 ∨ H1.size ≤ q8) → nwAM ro H q8 := by
          intro q8 h8 h9
          rcases h9 with e9 | e9 | e9
          · exact Or.inl (by rw [e9, hr9]; decide +kernel)
          · exact Or.inl (by rw [e9]; decide +kernel)
          · exact absurd h8 (Nat.not_lt.mpr e9)
        refine nw_callF C (mJ3_add _ C.hfl d (am 4) (sg_po σ).1 (fun k => nd_bx d ((sg_po σ).2 k)) (fun q => ro q = 7005) mo9 ar9 cap9 f9 (nd_bx d cn) "java/lang/Integer" H1 hB hai9.1 hL9 (fun q9 e9 => (hR.ok0 (show ro q9 ≠ 0 by rw [show ro q9 = 7005 from e9]; decide)).1) (show ¬ ro (am 4) = 7005 by rw [hr9]; decide) (nwEl.box (by omega)) q2140 (nwE.bxne hE (by omega) hai9.1) (nwE.bxlt hE (by omega)) (by omega)) kJ3_add (ci := 13) rfl q1730 q1733 (by decide +kernel) fc_List_add (nwLi.is hmPo C) (As := [.ref (nd_bx d cn)]) (rest := []) rfl rfl ⟨⟨Nat.le_of_ble_eq_true rfl, Nat.le_of_ble_eq_true rfl⟩, (show 0 + 1 ≤ 1 by omega), (show 0 + 10 ≤ 10 by omega)⟩ (Nat.le_of_ble_eq_true rfl) hAq dX4_post_56 61 rfl (fun v9 H14 hR15 hz16 hq17 => ?_) nw_noX
        obtain ⟨rfl, mo8, ar8, cap8, f8, hL8⟩ := hR15
        obtain ⟨ro1, am1, hR1, hk1⟩ := trm_po hRc hB hz16 hq17 hL8
        obtain ⟨σ1, hσ1⟩ : ∃ t9 : spSg, t9 = st_po σ ((sg_po σ).1 + 1, sp_up (sg_po σ).2 (sg_po σ).1 cn) := ⟨_, rfl⟩
        rw [← hσ1] at hR1
        have hlen : (sg_po σ1).1 = (sg_po σ).1 + 1 := by rw [hσ1]; rfl
        replace hE := hE.kept (fun q9 g9 hb9 => hq17 q9 g9 (fun h9 => hb9 (C.hB q9 (hAq q9 g9 h9))))
        have hsz : H.size ≤ H14.size := Nat.le_trans (Nat.le_trans (Nat.le_of_eq hzb.symm) hext.1) hz16
        replace hB := Nat.le_trans hB hz16
        have ok9 : spOk σ1 := by rw [hσ1]; exact ⟨okg, okl, okf, oku, okp.add (by omega) (by assumption), oki, okw, okd, okk, oka⟩
        replace ok := ok9
        replace okM := ok.m
        replace hR := hR1
        replace hW := hR.wc
        clear hmX hmKi hmLa hmFo hmGu hmPo hmIn hmWi hmWo hmKe okg okl okf oku okp oki okw okd okk oka hn64 oku1 oki1 okp1 okw1 okl1 okf1
        obtain ⟨hmX, hmKi, hmLa, hmFo, hmGu, hmPo, hmIn, hmWi, hmWo, hmKe⟩ := id hW
        obtain ⟨okg, okl, okf, oku, okp, oki, okw, okd, okk, oka⟩ := id ok
        have hn64 : gr_n (sg_gr σ1) ≤ 64 := okg.n
        have oku1 := oku.1
        have oki1 := oki.1
        have okp1 := okp.1
        have okw1 := okw.1
        have okl1 := okl.1
        have okf1 := okf.1
        show nwV X _ _ 2 H14 (0 + 1) (0 + 10) 61 [(0, .ref y), (1, .int (nI cn))] [.int (b2i true)]
        refine nw_wide (k' := 1) (n' := 10) (by omega) (by omega) ?_
        refine nw_pop C dX4_post_61 rfl 62 rfl ?_
        refine nw_aload_n C 0 dX4_post_62 rfl 63 rfl ?_
        refine nw_get C hmX (T := TX4) rfl in_X4 9 (by decide) q1631 (Or.inl rfl) rfl dX4_post_63 66 rfl ?_
        refine nw_callF C (mJ3_size _ C.hfl d (am1 4) ((sg_po σ1).1) (fun k => nd_bx d ((sg_po σ1).2 k)) (fun q => ro1 q = 7005) H14 hB hmPo) kJ3_size (ci := 13) rfl q1607 q1611 (by decide +kernel) fc_List_size (hmPo.is C) (As := []) (rest := []) rfl rfl ⟨⟨Nat.le_of_ble_eq_true rfl, Nat.le_of_ble_eq_true rfl⟩, Nat.le_of_ble_eq_true rfl, Nat.le_of_ble_eq_true rfl⟩ (Nat.le_of_ble_eq_true rfl) (fun _ h8 h9 => absurd h9 (Nat.not_le.mpr h8)) dX4_post_66 71 rfl (nw_rdK ?_) nw_noX
        refine nw_iconst C (nI 1) dX4_post_71 (by decide) 72 rfl ?_
        refine nw_isubN C (by omega) dX4_post_72 73 rfl ?_
        have hop : op_post σ (nI cn) = (0, nI (sg_po σ).1, σ1) := by rw [hσ1]; simp [op_post, h5, h7, h13, en_cn, hfull, sp_wall]
        exact nw_iret C dX4_post_73 (by omega) (by omega) (by rw [hop]; exact ⟨congrArg (fun z => some (Value.int z)) (show nI ((sg_po σ1).1 - 1) = nI (sg_po σ).1 by rw [hlen]; rfl), ok, hsz, ro1, am1, hR, hk1⟩)
      · refine nw_aload_n C 0 dX4_post_42 rfl 43 rfl ?_
        refine nw_iconst C (nI 2) dX4_post_43 (by decide) 44 rfl ?_
        refine nw_callV C (mX4_no _ C.hfl d y (.int (nI 0)) (.int (nI (gr_w (sg_gr σ)))) (.int (nI (gr_h (sg_gr σ)))) (.ref (am 9)) (.int (nI (gaM_f (sg_ga σ)))) (.int (oI (gaM_t (sg_ga σ)))) (.ref (am 1)) (.ref (am 2)) (.ref (am 3)) (.ref (am 4)) (.int (nI (wo_s (sg_wo σ)))) (.int (nI (wo_m (sg_wo σ)))) (.int (nI (sp_after (wo_x (sg_wo σ))))) (.ref (am 11)) (.ref (am 12)) (.int (nI (sg_ri σ))) (.ref (am 8)) (.ref (am 5)) (.ref (am 6)) (.int (nI (sg_rf σ))) (nI 2) H1 hB hyB hmX) kX4_no q1694 (hmX.is C (ci := 9) rfl) (As := [.int (nI 2)]) (rest := []) rfl rfl ⟨⟨Nat.le_of_ble_eq_true rfl, Nat.le_of_ble_eq_true rfl⟩, (show 0 + 0 ≤ 1 by omega), (show 0 + 0 ≤ 10 by omega)⟩ (Nat.le_of_ble_eq_true rfl) (fun q8 h8 h9 => h9.elim (fun e9 => by rw [e9]; exact hAy) (fun e9 => absurd h8 (Nat.not_lt.mpr e9))) dX4_post_44 47 rfl (fun v9 H18 hR19 hz20 hq21 => ?_) nw_noX
        obtain ⟨rfl, ho22⟩ := hR19
        have hR8 := hR.ext hext
        have hR9 : nwMW d ro am y σ (nI 2) H18 := hR8.obj hz20 (fun q9 g9 n9 _ => hq21 q9 g9 (fun e9 => e9.elim n9 (Nat.not_le.mpr g9))) mSame.rfl ho22
        have hle9 : H.size ≤ H18.size := Nat.le_trans (Nat.le_of_eq hzb.symm) (Nat.le_trans hext.1 hz20)
        show nwV X _ _ 2 H18 (0 + 0) (0 + 0) 47 [(0, .ref y), (1, .int (nI cn))] [.int (nI 0)]
        refine nw_wide (k' := 0) (n' := 0) (by omega) (by omega) ?_
        have hop : op_post σ (nI cn) = (2, 0, σ) := by simp [op_post, h5, h7, h13, en_cn, hfull, sp_wall]
        exact nw_iret C dX4_post_47 (by omega) (by omega) (by rw [hop]; exact ⟨rfl, ok, hle9, ro, am, hR9, fun _ _ => rfl⟩)
  · refine nw_aload_n C 0 dX4_post_13 rfl 14 rfl ?_
    refine nw_iconst C (nI 1) dX4_post_14 (by decide) 15 rfl ?_
    refine nw_callV C (mX4_no _ C.hfl d y (.int (nI 0)) (.int (nI (gr_w (sg_gr σ)))) (.int (nI (gr_h (sg_gr σ)))) (.ref (am 9)) (.int (nI (gaM_f (sg_ga σ)))) (.int (oI (gaM_t (sg_ga σ)))) (.ref (am 1)) (.ref (am 2)) (.ref (am 3)) (.ref (am 4)) (.int (nI (wo_s (sg_wo σ)))) (.int (nI (wo_m (sg_wo σ)))) (.int (nI (sp_after (wo_x (sg_wo σ))))) (.ref (am 11)) (.ref (am 12)) (.int (nI (sg_ri σ))) (.ref (am 8)) (.ref (am 5)) (.ref (am 6)) (.int (nI (sg_rf σ))) (nI 1) H1 hB hyB hmX) kX4_no q1694 (hmX.is C (ci := 9) rfl) (As := [.int (nI 1)]) (rest := []) rfl rfl ⟨⟨Nat.le_of_ble_eq_true rfl, Nat.le_of_ble_eq_true rfl⟩, (show 0 + 0 ≤ 1 by omega), (show 0 + 0 ≤ 10 by omega)⟩ (Nat.le_of_ble_eq_true rfl) (fun q8 h8 h9 => h9.elim (fun e9 => by rw [e9]; exact hAy) (fun e9 => absurd h8 (Nat.not_lt.mpr e9))) dX4_post_15 18 rfl (fun v9 H23 hR24 hz25 hq26 => ?_) nw_noX
    obtain ⟨rfl, ho27⟩ := hR24
    have hR8 := hR.ext hext
    have hR9 : nwMW d ro am y σ (nI 1) H23 := hR8.obj hz25 (fun q9 g9 n9 _ => hq26 q9 g9 (fun e9 => e9.elim n9 (Nat.not_le.mpr g9))) mSame.rfl ho27
    have hle9 : H.size ≤ H23.size := Nat.le_trans (Nat.le_of_eq hzb.symm) (Nat.le_trans hext.1 hz25)
    show nwV X _ _ 2 H23 (0 + 0) (0 + 0) 18 [(0, .ref y), (1, .int c)] [.int (nI 0)]
    refine nw_wide (k' := 0) (n' := 0) (by omega) (by omega) ?_
    have hop : op_post σ c = (1, 0, σ) := by simp [op_post, h5, sp_wall]
    exact nw_iret C dX4_post_18 (by omega) (by omega) (by rw [hop]; exact ⟨rfl, ok, hle9, ro, am, hR9, fun _ _ => rfl⟩)
