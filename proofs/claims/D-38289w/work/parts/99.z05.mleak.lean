/-! ===== the reference: a word leaks ===== -/
theorem trm_Wo {d : nwD} {ro ro' am am' : Nat → Nat} {Hc Hn : Heap} {y : Nat} {s t : spSg} {th th' : Int32} (h : nwMW d ro am y s th Hc) (hB : roOk d ro' Hn) (hro : ∀ q, ro q ≠ 0 → ro' q = ro q) (had : ∀ i, rp (i + 5001) ≠ 29 → am' i = am i) (hq : ∀ q, q < Hc.size → rp (ro q) ≠ 29 → ro q ≠ 0 → ro q ≠ 8000 → Hn[q]? = Hc[q]?) (hX : mcX d am' y t th' Hn) (hs : mSame (fun p => p == 29) s t) (hw : mrWo d ro' am' (sg_wo t) Hn) : nwMW d ro' am' y t th' Hn :=
  h.upd (fun p => p == 29) hB hro (fun i hi => had i (fun e => by rw [e] at hi; exact absurd hi (by decide))) (fun q g hS h0 h8 => hq q g (fun e => by rw [e] at hS; exact absurd hS (by decide)) h0 h8) hX hs ⟨fun h => absurd h (by decide), fun h => absurd h (by decide), fun h => absurd h (by decide), fun h => absurd h (by decide), fun h => absurd h (by decide), fun h => absurd h (by decide), fun h => absurd h (by decide), fun _ => hw, fun h => absurd h (by decide)⟩
theorem kX4_after : nwPS yX4_after cX4_after 1 (some .int) 1 := ⟨⟨q1604, q93, q1605⟩, by decide +kernel, by decide +kernel, by decide +kernel⟩
set_option maxHeartbeats 4000000 in
theorem mX4_leak (l : Launch) (hf : l.flags = flags0) (d : nwD) (ro am : Nat → Nat) (y : Nat) (σ : spSg) (th : Int32) (u : Int32) (H : Heap) (hB : nd_B d ≤ H.size) (hR : nwMW d ro am y σ th H) (ok : spOk σ) : nwMt l d yX4_leak cX4_leak 2 (some .int) 5 108 1 10 [.ref y, .int u] H (nwMv d ro y (op_leak σ u) H) nwNo (nwAM ro H) := by
  refine nw_start "NightwatchWallModel" "leak" hf (by decide +kernel) rfl rfl (fun _ h => Or.inr h) (nwAM_B hR hB) (Nat.le_of_ble_eq_true rfl) ?_
  intro X C
  have hW := hR.wc
  have okM := ok.m
  have hyB := (hR.ok0 (show ro y ≠ 0 by rw [hR.2.1.2]; decide)).1
  have hAy : nwAM ro H y := Or.inl (by rw [hR.2.1.2]; decide +kernel)
  have hW0 := hW
  have hB0 := hB
  have hE := C.E0
  have hext : nwExt H H := nwExt.rfl
  obtain ⟨hmX, hmKi, hmLa, hmFo, hmGu, hmPo, hmIn, hmWi, hmWo, hmKe⟩ := id hW
  obtain ⟨okg, okl, okf, oku, okp, oki, okw, okd, okk, oka⟩ := id ok
  have hn64 : gr_n (sg_gr σ) ≤ 64 := okg.n
  have oku1 := oku.1
  have oki1 := oki.1
  have okp1 := okp.1
  have okw1 := okw.1
  have okl1 := okl.1
  have okf1 := okf.1
  show nwV X _ _ 2 H 0 0 0 [(0, .ref y), (1, .int u)] []
  refine nw_aload_n C 0 dX4_leak_0 rfl 1 rfl ?_
  refine nw_iconst C (nI 0) dX4_leak_1 (by decide) 2 rfl ?_
  refine nw_put C hmX hAy (T := TX4) (ty0 := tyX4) rfl in_X4 tyX4_ok nmX4 0 (by decide) q1622 (Or.inl rfl) rfl rfl rfl (Nat.le_of_ble_eq_true rfl) dX4_leak_2 5 rfl (fun H1 ho2 hz3 hq4 => ?_)
  have ho2 : nwO d y 9 [.int (nI 0), .int (nI (gr_w (sg_gr σ))), .int (nI (gr_h (sg_gr σ))), .ref (am 9), .int (nI (gaM_f (sg_ga σ))), .int (oI (gaM_t (sg_ga σ))), .ref (am 1), .ref (am 2), .ref (am 3), .ref (am 4), .int (nI (wo_s (sg_wo σ))), .int (nI (wo_m (sg_wo σ))), .int (nI (sp_after (wo_x (sg_wo σ)))), .ref (am 11), .ref (am 12), .int (nI (sg_ri σ)), .ref (am 8), .ref (am 5), .ref (am 6), .int (nI (sg_rf σ))] H1 := ho2
  replace hR := hR.th hz3 hq4 ho2
  have hzb : H1.size = H.size := hz3
  replace hB0 : nd_B d ≤ H1.size := by rw [hz3]; exact hB0
  replace hB := hB0
  replace hE := hE.kept (fun q9 _ hb9 => hq4 q9 (fun e9 => hb9 (by rw [e9]; exact hyB)))
  have hE0 := hE
  replace hW0 := hR.wc
  replace hW := hW0
  replace hext : nwExt H1 H1 := nwExt.rfl
  clear hmX hmKi hmLa hmFo hmGu hmPo hmIn hmWi hmWo hmKe
  obtain ⟨hmX, hmKi, hmLa, hmFo, hmGu, hmPo, hmIn, hmWi, hmWo, hmKe⟩ := id hW
  refine nw_iload_n C 1 dX4_leak_5 rfl 6 rfl ?_
  refine nw_iconst C (nI 0) dX4_leak_6 (by decide) 7 rfl ?_
  refine nw_iconst C (nI 3) dX4_leak_7 (by decide) 8 rfl ?_
  refine nw_callS C (mX4_inR _ C.hfl d u (nI 0) (nI 3) H1 hB) kX4_in q1691 (As := [.int u, .int (nI 0), .int (nI 3)]) (rest := []) rfl rfl ⟨⟨Nat.le_of_ble_eq_true rfl, Nat.le_of_ble_eq_true rfl⟩, Nat.le_of_ble_eq_true rfl, Nat.le_of_ble_eq_true rfl⟩ (Nat.le_of_ble_eq_true rfl) (fun _ h8 h9 => absurd h9 (Nat.not_le.mpr h8)) dX4_leak_8 11 rfl (nw_rdK ?_) nw_noX
  show nwV X _ _ 2 H1 0 0 11 [(0, .ref y), (1, .int u)] [.int (b2i (nw_rg 0 3 u))]
  refine nw_ifneB C 20 dX4_leak_11 (by decide) 14 rfl (fun h5 => ?_) (fun h5 => ?_)
  · obtain ⟨un, hk6, rfl⟩ := nw_rg_nat (by omega) (by omega) h5
    have en_un : nw_nn (nI un) = un := nw_nn_nI (by omega)
    have hm8 := okd.1.2.2
    refine nw_aload_n C 0 dX4_leak_20 rfl 21 rfl ?_
    refine nw_get C hmX (T := TX4) rfl in_X4 11 (by decide) q1633 (Or.inl rfl) rfl dX4_leak_21 24 rfl ?_
    refine nw_bipush C (nI 8) dX4_leak_24 (by decide) 26 rfl ?_
    refine nw_icmpneN C (by omega) 35 dX4_leak_26 (by decide) 29 rfl (fun h7 => ?_) (fun h7 => ?_)
    · refine nw_aload_n C 0 dX4_leak_35 rfl 36 rfl ?_
      refine nw_dup C dX4_leak_36 rfl 37 rfl ?_
      refine nw_get C hmX (T := TX4) rfl in_X4 11 (by decide) q1633 (Or.inl rfl) rfl dX4_leak_37 40 rfl ?_
      refine nw_iconst C (nI 1) dX4_leak_40 (by decide) 41 rfl ?_
      refine nw_iaddN C dX4_leak_41 42 rfl ?_
      refine nw_put C hmX hAy (T := TX4) (ty0 := tyX4) rfl in_X4 tyX4_ok nmX4 11 (by decide) q1633 (Or.inl rfl) rfl rfl rfl (Nat.le_of_ble_eq_true rfl) dX4_leak_42 45 rfl (fun H8 ho9 hz10 hq11 => ?_)
      have ho9 : nwO d y 9 [.int (nI 0), .int (nI (gr_w (sg_gr σ))), .int (nI (gr_h (sg_gr σ))), .ref (am 9), .int (nI (gaM_f (sg_ga σ))), .int (oI (gaM_t (sg_ga σ))), .ref (am 1), .ref (am 2), .ref (am 3), .ref (am 4), .int (nI (wo_s (sg_wo σ))), .int (nI (wo_m (sg_wo σ) + 1)), .int (nI (sp_after (wo_x (sg_wo σ)))), .ref (am 11), .ref (am 12), .int (nI (sg_ri σ)), .ref (am 8), .ref (am 5), .ref (am 6), .int (nI (sg_rf σ))] H8 := ho9
      have hw97 := okd.2.1 un (by omega)
      have hx97 := sp_after_lt (wo_x (sg_wo σ))
      have hm9 : wo_m (sg_wo σ) < 8 := by have := okd.1.2.2; omega
      have r8 : ro y = 8000 := hR.2.1.2
      have r11 : ro (am 11) = 5012 := hR.2.2.2.2.2.2.2.2.2.1.2.1
      have r12 : ro (am 12) = 5013 := hR.2.2.2.2.2.2.2.2.2.1.2.2
      have hai9 := hR.ok0 (show ro (am 12) ≠ 0 by rw [r12]; decide)
      have hB11 := (hR.ok0 (show ro (am 11) ≠ 0 by rw [r11]; decide)).1
      have n811 : am 11 ≠ y := fun e9 => by rw [e9] at r11; omega
      have n812 : am 12 ≠ y := fun e9 => by rw [e9] at r12; omega
      have n1112 : am 11 ≠ am 12 := fun e9 => by rw [e9] at r11; omega
      have hw11 := hmWo.1.kept (hq11 _ n811)
      have hw12 : nwLi d (am 12) (wo_m (sg_wo σ)) (fun k => nd_bx d (wo_o (sg_wo σ) k)) (fun q => ro q = 7013) H8 := hmWo.2.go (fun _ _ e => e) (hq11 _ n812) (fun q _ e => hq11 q (fun e2 => by rw [e2, r8] at e; omega)) (fun _ _ => rfl)
      replace hE := hE.kept (fun q9 _ hb9 => hq11 q9 (fun e9 => hb9 (by rw [e9]; exact hyB)))
      replace hB : nd_B d ≤ H8.size := by rw [hz10]; exact hB
      refine nw_aload_n C 0 dX4_leak_45 rfl 46 rfl ?_
      refine nw_get C ho9 (T := TX4) rfl in_X4 14 (by decide) q1636 (Or.inl rfl) rfl dX4_leak_46 49 rfl ?_
      refine nw_aload_n C 0 dX4_leak_49 rfl 50 rfl ?_
      refine nw_get C ho9 (T := TX4) rfl in_X4 13 (by decide) q1635 (Or.inl rfl) rfl dX4_leak_50 53 rfl ?_
      refine nw_iload_n C 1 dX4_leak_53 rfl 54 rfl ?_
      refine nw_ialdN C (nI (wo_n (sg_wo σ) un)) hw11 (by omega) rfl dX4_leak_54 55 rfl ?_
      refine nw_callS C (mJ19_valueOf _ C.hfl d (wo_n (sg_wo σ) un) H8 hB (by omega)) kJ19_valueOf q1812 (As := [.int (nI (wo_n (sg_wo σ) un))]) (rest := [.ref (am 12)]) rfl rfl ⟨⟨Nat.le_of_ble_eq_true rfl, Nat.le_of_ble_eq_true rfl⟩, Nat.le_of_ble_eq_true rfl, Nat.le_of_ble_eq_true rfl⟩ (Nat.le_of_ble_eq_true rfl) (fun _ h8 h9 => absurd h9 (Nat.not_le.mpr h8)) dX4_leak_55 58 rfl (nw_rdK ?_) nw_noX
      obtain ⟨mo9, ar9, cap9, f9, hL9⟩ := nwLi_m hw12
      have hl8 : y < H1.size := (hR.ok0 (show ro y ≠ 0 by rw [r8]; decide)).2
      have hl11 : am 11 < H1.size := (hR.ok0 (show ro (am 11) ≠ 0 by rw [r11]; decide)).2
      have hAq : ∀ q8, q8 < H8.size → (q8 = am 12 ∨ ro q8 = 7013 ∨ H8.size ≤ q8) → nwAM ro H q8 := by
        intro q8 h8 h9
        rcases h9 with e9 | e9 | e9
        · exact Or.inl (by rw [e9, r12]; decide +kernel)
        · exact Or.inl (by rw [e9]; decide +kernel)
        · exact absurd h8 (Nat.not_lt.mpr e9)
      refine nw_callF C (mJ3_add _ C.hfl d (am 12) (wo_m (sg_wo σ)) (fun k => nd_bx d (wo_o (sg_wo σ) k)) (fun q => ro q = 7013) mo9 ar9 cap9 f9 (nd_bx d (wo_n (sg_wo σ) un)) "java/lang/Integer" H8 hB hai9.1 hL9 (fun q9 e9 => (hR.ok0 (show ro q9 ≠ 0 by rw [show ro q9 = 7013 from e9]; decide)).1) (show ¬ ro (am 12) = 7013 by rw [r12]; decide) (nwEl.box (by omega)) q2140 (nwE.bxne hE (by omega) hai9.1) (nwE.bxlt hE (by omega)) (by omega)) kJ3_add (ci := 13) rfl q1730 q1733 (by decide +kernel) fc_List_add (nwLi.is hw12 C) (As := [.ref (nd_bx d (wo_n (sg_wo σ) un))]) (rest := []) rfl rfl ⟨⟨Nat.le_of_ble_eq_true rfl, Nat.le_of_ble_eq_true rfl⟩, (show 0 + 1 ≤ 1 by omega), (show 0 + 10 ≤ 10 by omega)⟩ (Nat.le_of_ble_eq_true rfl) hAq dX4_leak_58 63 rfl (fun v9 H12 hR13 hz14 hq15 => ?_) nw_noX
      obtain ⟨rfl, mo8, ar8, cap8, f8, hL8⟩ := hR13
      have nS : ∀ q9, q9 < H8.size → ro q9 ≠ 5013 → ro q9 ≠ 7013 → H12[q9]? = H8[q9]? := fun q9 g9 a1 a2 => hq15 q9 g9 (fun e9 => e9.elim (fun e8 => a1 (by rw [e8]; exact r12)) (fun e9 => e9.elim a2 (Nat.not_le.mpr g9)))
      have hyc := ho9.kept (nS _ ho9.lt (by rw [r8]; decide) (by rw [r8]; decide))
      replace hw11 := hw11.kept (nS _ hw11.lt (by rw [r11]; decide) (by rw [r11]; decide))
      replace hE := hE.kept (fun q9 g9 hb9 => hq15 q9 g9 (fun h9 => hb9 (C.hB q9 (hAq q9 g9 h9))))
      replace hB := Nat.le_trans hB hz14
      show nwV X _ _ 2 H12 (0 + 1) (0 + 10) 63 [(0, .ref y), (1, .int (nI un))] [.int (b2i true)]
      refine nw_wide (k' := 1) (n' := 10) (by omega) (by omega) ?_
      refine nw_pop C dX4_leak_63 rfl 64 rfl ?_
      refine nw_aload_n C 0 dX4_leak_64 rfl 65 rfl ?_
      refine nw_get C hyc (T := TX4) rfl in_X4 13 (by decide) q1635 (Or.inl rfl) rfl dX4_leak_65 68 rfl ?_
      refine nw_iload_n C 1 dX4_leak_68 rfl 69 rfl ?_
      refine nw_aload_n C 0 dX4_leak_69 rfl 70 rfl ?_
      refine nw_get C hyc (T := TX4) rfl in_X4 12 (by decide) q1634 (Or.inl rfl) rfl dX4_leak_70 73 rfl ?_
      refine nw_iastN C hw11 (Or.inl (by rw [hR.2.2.2.2.2.2.2.2.2.1.2.1]; decide +kernel)) (by omega) dX4_leak_73 74 rfl (fun H16 ho17 hz18 hq19 => ?_)
      have hyc := hyc.kept (hq19 _ n811.symm)
      replace hL8 := hL8.kp (hq19 _ n1112.symm) (fun q9 p9 _ => hq19 q9 (fun e9 => p9.elim (fun e8 => by rw [e9, r11] at e8; omega) (fun e8 => by rw [e9, hz10] at e8; exact absurd hl11 (Nat.not_lt.mpr e8))))
      replace hE := hE.kept (fun q9 _ hb9 => hq19 q9 (fun e9 => hb9 (by rw [e9]; exact hB11)))
      replace hB : nd_B d ≤ H16.size := by rw [hz18]; exact hB
      have hw11 := ho17
      refine nw_aload_n C 0 dX4_leak_74 rfl 75 rfl ?_
      refine nw_aload_n C 0 dX4_leak_75 rfl 76 rfl ?_
      refine nw_get C hyc (T := TX4) rfl in_X4 12 (by decide) q1634 (Or.inl rfl) rfl dX4_leak_76 79 rfl ?_
      refine nw_callS C (mX4_after _ C.hfl d (sp_after (wo_x (sg_wo σ))) H16 hB (by omega)) kX4_after q1603 (As := [.int (nI (sp_after (wo_x (sg_wo σ))))]) (rest := [.ref y]) rfl rfl ⟨⟨Nat.le_of_ble_eq_true rfl, Nat.le_of_ble_eq_true rfl⟩, Nat.le_of_ble_eq_true rfl, Nat.le_of_ble_eq_true rfl⟩ (Nat.le_of_ble_eq_true rfl) (fun _ h8 h9 => absurd h9 (Nat.not_le.mpr h8)) dX4_leak_79 82 rfl (nw_rdK ?_) nw_noX
      refine nw_put C hyc hAy (T := TX4) (ty0 := tyX4) rfl in_X4 tyX4_ok nmX4 12 (by decide) q1634 (Or.inl rfl) rfl rfl rfl (Nat.le_of_ble_eq_true rfl) dX4_leak_82 85 rfl (fun H20 ho21 hz22 hq23 => ?_)
      have ho21 : nwO d y 9 [.int (nI 0), .int (nI (gr_w (sg_gr σ))), .int (nI (gr_h (sg_gr σ))), .ref (am 9), .int (nI (gaM_f (sg_ga σ))), .int (oI (gaM_t (sg_ga σ))), .ref (am 1), .ref (am 2), .ref (am 3), .ref (am 4), .int (nI (wo_s (sg_wo σ))), .int (nI (wo_m (sg_wo σ) + 1)), .int (nI (sp_after (sp_after (wo_x (sg_wo σ))))), .ref (am 11), .ref (am 12), .int (nI (sg_ri σ)), .ref (am 8), .ref (am 5), .ref (am 6), .int (nI (sg_rf σ))] H20 := ho21
      replace hw11 := hw11.kept (hq23 _ n811)
      replace hL8 := hL8.kp (hq23 _ n812) (fun q9 p9 _ => hq23 q9 (fun e9 => p9.elim (fun e8 => by rw [e9, r8] at e8; omega) (fun e8 => by rw [e9, hz10] at e8; exact absurd hl8 (Nat.not_lt.mpr e8))))
      have hzt : H1.size ≤ H20.size := by rw [hz22, hz18, ← hz10]; exact hz14
      have hqt : ∀ q9, q9 < H1.size → rp (ro q9) ≠ 29 → ro q9 ≠ 0 → ro q9 ≠ 8000 → H20[q9]? = H1[q9]? := by
        intro q9 g9 h29 h0 h8
        have a1 : q9 ≠ y := fun e9 => h8 (by rw [e9]; exact r8)
        have a2 : q9 ≠ am 11 := fun e9 => h29 (by rw [e9, r11]; decide +kernel)
        have a3 : q9 ≠ am 12 := fun e9 => h29 (by rw [e9, r12]; decide +kernel)
        have a4 : ¬ ro q9 = 7013 := fun e9 => h29 (by rw [e9]; decide +kernel)
        rw [hq23 q9 a1, hq19 q9 a2, hq15 q9 (by rw [hz10]; exact g9) (fun e9 => e9.elim a3 (fun e9 => e9.elim a4 (fun e9 => absurd g9 (Nat.not_lt.mpr (by rw [← hz10]; exact e9))))), hq11 q9 a1]
      have hm0 : nwMo d ro (fun _ => 0) H1 := fun q h => absurd rfl h
      have hkk := nwRn.keep (Hn := H20) (r2 := 7013) hR.1 hm0
      have hR1 : nwMW d (nwRn ro (fun _ => 0) H1 H20 7013) am y (st_wo σ (wo_leak (sg_wo σ) un)) (nI 0) H20 := trm_Wo hR (nwRn.ok hR.1 hm0 hzt hB0) hkk (fun _ _ => rfl) hqt ho21 ⟨Or.inr rfl, Or.inr rfl, Or.inr rfl, Or.inr rfl, Or.inr rfl, Or.inr rfl, Or.inr rfl, Or.inl rfl, Or.inr rfl⟩ ⟨⟨nwI.congr hw11 (fun j _ => nw_upN), hL8.to (fun q9 g9 e9 => nwRn.arr hm0 g9 (by decide) (e9.imp id (fun e8 => by rw [← hz10]; exact e8))) (fun k hk => by
        show nd_bx d (sp_up (wo_o (sg_wo σ)) (wo_m (sg_wo σ)) (wo_n (sg_wo σ) un) k) = _
        by_cases e2 : k = wo_m (sg_wo σ)
        · rw [if_pos e2, e2, sp_up_at]
        · rw [if_neg e2, sp_up_ne _ _ e2])⟩, nw_rt hkk r11 (by decide), nw_rt hkk r12 (by decide)⟩
      obtain ⟨ro1, hro1⟩ : ∃ t9, t9 = nwRn ro (fun _ => 0) H1 H20 7013 := ⟨_, rfl⟩
      rw [← hro1] at hR1 hkk
      have hsz : H.size ≤ H16.size := Nat.le_trans (Nat.le_of_eq hzb.symm) (by rw [hz18, ← hz10]; exact hz14)
      have hAq : ∀ q8, q8 < H16.size → q8 = y → nwAM ro H q8 := fun q8 _ h9 => by rw [h9]; exact hAy
      obtain ⟨σ1, hσ1⟩ : ∃ t9 : spSg, t9 = st_wo σ (wo_leak (sg_wo σ) un) := ⟨_, rfl⟩
      rw [← hσ1] at hR1
      replace hE := hE.kept (fun q9 g9 hb9 => (fun q9 _ n9 => hq23 q9 n9) q9 g9 (fun h9 => hb9 (C.hB q9 (hAq q9 g9 h9))))
      replace hsz := Nat.le_trans hsz (Nat.le_of_eq hz22.symm)
      replace hB := Nat.le_trans hB (Nat.le_of_eq hz22.symm)
      have ok9 : spOk σ1 := by rw [hσ1]; exact ⟨okg, okl, okf, oku, okp, oki, okw, okd.leak hm9 (by omega), okk, oka⟩
      replace ok := ok9
      replace okM := ok.m
      replace hR := hR1
      replace hW := hR.wc
      clear hmX hmKi hmLa hmFo hmGu hmPo hmIn hmWi hmWo hmKe okg okl okf oku okp oki okw okd okk oka hn64 oku1 oki1 okp1 okw1 okl1 okf1
      obtain ⟨hmX, hmKi, hmLa, hmFo, hmGu, hmPo, hmIn, hmWi, hmWo, hmKe⟩ := id hW
      obtain ⟨okg, okl, okf, oku, okp, oki, okw, okd, okk, oka⟩ := id ok
      have hn64 : gr_n (sg_gr σ1) ≤ 64 := okg.n
      have oku1 := oku.1
      have oki1 := oki.1
      have okp1 := okp.1
      have okw1 := okw.1
      have okl1 := okl.1
      have okf1 := okf.1
      refine nw_aload_n C 0 dX4_leak_85 rfl 86 rfl ?_
      refine nw_get C hmX (T := TX4) rfl in_X4 13 (by decide) q1635 (Or.inl rfl) rfl dX4_leak_86 89 rfl ?_
      refine nw_iload_n C 1 dX4_leak_89 rfl 90 rfl ?_
      refine nw_ialdN C (nI (wo_n (sg_wo σ1) un)) hmWo.1 (by omega) rfl dX4_leak_90 91 rfl ?_
      have hop : op_leak σ (nI un) = (0, nI (sp_after (wo_x (sg_wo σ))), σ1) := by rw [hσ1]; simp [op_leak, h5, h7, en_un]
      exact nw_iret C dX4_leak_91 (by omega) (by omega) (by rw [hop]; exact ⟨congrArg (fun z => some (Value.int z)) (congrArg nI (show wo_n (sg_wo σ1) un = sp_after (wo_x (sg_wo σ)) by rw [hσ1]; exact sp_up_at _ _ _)), ok, hsz, ro1, am, hR, hkk⟩)
    · refine nw_aload_n C 0 dX4_leak_29 rfl 30 rfl ?_
      refine nw_iconst C (nI 2) dX4_leak_30 (by decide) 31 rfl ?_
      refine nw_callV C (mX4_no _ C.hfl d y (.int (nI 0)) (.int (nI (gr_w (sg_gr σ)))) (.int (nI (gr_h (sg_gr σ)))) (.ref (am 9)) (.int (nI (gaM_f (sg_ga σ)))) (.int (oI (gaM_t (sg_ga σ)))) (.ref (am 1)) (.ref (am 2)) (.ref (am 3)) (.ref (am 4)) (.int (nI (wo_s (sg_wo σ)))) (.int (nI (wo_m (sg_wo σ)))) (.int (nI (sp_after (wo_x (sg_wo σ))))) (.ref (am 11)) (.ref (am 12)) (.int (nI (sg_ri σ))) (.ref (am 8)) (.ref (am 5)) (.ref (am 6)) (.int (nI (sg_rf σ))) (nI 2) H1 hB hyB hmX) kX4_no q1694 (hmX.is C (ci := 9) rfl) (As := [.int (nI 2)]) (rest := []) rfl rfl ⟨⟨Nat.le_of_ble_eq_true rfl, Nat.le_of_ble_eq_true rfl⟩, (show 0 + 0 ≤ 1 by omega), (show 0 + 0 ≤ 10 by omega)⟩ (Nat.le_of_ble_eq_true rfl) (fun q8 h8 h9 => h9.elim (fun e9 => by rw [e9]; exact hAy) (fun e9 => absurd h8 (Nat.not_lt.mpr e9))) dX4_leak_31 34 rfl (fun v9 H24 hR25 hz26 hq27 => ?_) nw_noX
      obtain ⟨rfl, ho28⟩ := hR25
      have hR8 := hR.ext hext
      have hR9 : nwMW d ro am y σ (nI 2) H24 := hR8.obj hz26 (fun q9 g9 n9 _ => hq27 q9 g9 (fun e9 => e9.elim n9 (Nat.not_le.mpr g9))) mSame.rfl ho28
      have hle9 : H.size ≤ H24.size := Nat.le_trans (Nat.le_of_eq hzb.symm) (Nat.le_trans hext.1 hz26)
      show nwV X _ _ 2 H24 (0 + 0) (0 + 0) 34 [(0, .ref y), (1, .int (nI un))] [.int (nI 0)]
      refine nw_wide (k' := 0) (n' := 0) (by omega) (by omega) ?_
      have hop : op_leak σ (nI un) = (2, 0, σ) := by simp [op_leak, h5, h7, en_un]
      exact nw_iret C dX4_leak_34 (by omega) (by omega) (by rw [hop]; exact ⟨rfl, ok, hle9, ro, am, hR9, fun _ _ => rfl⟩)
  · refine nw_aload_n C 0 dX4_leak_14 rfl 15 rfl ?_
    refine nw_iconst C (nI 1) dX4_leak_15 (by decide) 16 rfl ?_
    refine nw_callV C (mX4_no _ C.hfl d y (.int (nI 0)) (.int (nI (gr_w (sg_gr σ)))) (.int (nI (gr_h (sg_gr σ)))) (.ref (am 9)) (.int (nI (gaM_f (sg_ga σ)))) (.int (oI (gaM_t (sg_ga σ)))) (.ref (am 1)) (.ref (am 2)) (.ref (am 3)) (.ref (am 4)) (.int (nI (wo_s (sg_wo σ)))) (.int (nI (wo_m (sg_wo σ)))) (.int (nI (sp_after (wo_x (sg_wo σ))))) (.ref (am 11)) (.ref (am 12)) (.int (nI (sg_ri σ))) (.ref (am 8)) (.ref (am 5)) (.ref (am 6)) (.int (nI (sg_rf σ))) (nI 1) H1 hB hyB hmX) kX4_no q1694 (hmX.is C (ci := 9) rfl) (As := [.int (nI 1)]) (rest := []) rfl rfl ⟨⟨Nat.le_of_ble_eq_true rfl, Nat.le_of_ble_eq_true rfl⟩, (show 0 + 0 ≤ 1 by omega), (show 0 + 0 ≤ 10 by omega)⟩ (Nat.le_of_ble_eq_true rfl) (fun q8 h8 h9 => h9.elim (fun e9 => by rw [e9]; exact hAy) (fun e9 => absurd h8 (Nat.not_lt.mpr e9))) dX4_leak_16 19 rfl (fun v9 H29 hR30 hz31 hq32 => ?_) nw_noX
    obtain ⟨rfl, ho33⟩ := hR30
    have hR8 := hR.ext hext
    have hR9 : nwMW d ro am y σ (nI 1) H29 := hR8.obj hz31 (fun q9 g9 n9 _ => hq32 q9 g9 (fun e9 => e9.elim n9 (Nat.not_le.mpr g9))) mSame.rfl ho33
    have hle9 : H.size ≤ H29.size := Nat.le_trans (Nat.le_of_eq hzb.symm) (Nat.le_trans hext.1 hz31)
    show nwV X _ _ 2 H29 (0 + 0) (0 + 0) 19 [(0, .ref y), (1, .int u)] [.int (nI 0)]
    refine nw_wide (k' := 0) (n' := 0) (by omega) (by omega) ?_
    have hop : op_leak σ u = (1, 0, σ) := by simp [op_leak, h5]
    exact nw_iret C dX4_leak_19 (by omega) (by omega) (by rw [hop]; exact ⟨rfl, ok, hle9, ro, am, hR9, fun _ _ => rfl⟩)
