/-! ===== the reference: words ===== -/
theorem bg_ke {σ : spSg} (ok : spOk σ) : (0 < gr_n (sg_gr σ) ∧ ∀ k, k < 6 → sg_ke σ k = sg_ke σ k) ∨ (gr_n (sg_gr σ) = 0 ∧ ∀ k, k < 6 → sg_ke σ k = none) := by
  obtain ⟨okg, okl, okf, oku, okp, oki, okw, okd, okk, oka⟩ := ok
  rcases Nat.eq_zero_or_pos (gr_n (sg_gr σ)) with h | h
  · refine Or.inr ⟨h, fun k hk => ?_⟩
    have h0 : (sg_gu σ).1 = 0 := by
      apply Nat.eq_zero_of_not_pos
      intro hp
      have h1 := oku.2 0 hp
      have h2 := h1.1.2.2.2.2.1
      have h3 := h1.2 0 (by omega)
      omega
    cases e : sg_ke σ k with
    | none => rfl
    | some g => have := okk k hk g e; omega
  · exact Or.inl ⟨h, fun _ _ => rfl⟩
theorem st_begin_ok {σ : spSg} (ok : spOk σ) : spOk (st_begin σ (sg_ke σ)) := by
  obtain ⟨okg, okl, okf, oku, okp, oki, okw, okd, okk, oka⟩ := ok
  have hw : okWo (sp_words (wo_s (sg_wo σ)) (wo_o (sg_wo σ))) := okWo.begin okd.1.1 _
  have hu := oku.fresh
  unfold st_begin
  generalize sp_words (wo_s (sg_wo σ)) (wo_o (sg_wo σ)) = W at *
  exact ⟨okg, okl, okf, hu, okp, oki, okw, hw, okk, oka⟩
theorem st_begin_words (σ : spSg) (sn : Nat) : st_begin (st_wo σ ((sn, (sg_wo σ).1.2), (sg_wo σ).2)) (sg_ke (st_wo σ ((sn, (sg_wo σ).1.2), (sg_wo σ).2))) = st_forget (st_wo σ (sp_words sn (wo_o (sg_wo σ)))) := by
  unfold st_begin st_forget
  show st_ke (st_gu (st_ri (st_wo (st_wo σ _) (sp_words sn (wo_o (sg_wo σ)))) 0) _) _ = _
  generalize sp_words sn (wo_o (sg_wo σ)) = W
  rfl
theorem st_begin_n0 (σ : spSg) (ke : Nat → Option Nat) : wo_n (sg_wo (st_begin σ ke)) 0 = sp_row (wo_s (sg_wo σ)) 1 := rfl
theorem kX4_begin : nwPV "NightwatchWallModel" yX4_begin cX4_begin 2 none 0 := ⟨⟨q1601, qs48, q93, q1602⟩, rfl, by decide +kernel, by decide +kernel, by decide +kernel⟩
set_option maxHeartbeats 4000000 in
theorem mX4_words (l : Launch) (hf : l.flags = flags0) (d : nwD) (ro am : Nat → Nat) (y : Nat) (σ : spSg) (th : Int32) (s : Int32) (H : Heap) (hB : nd_B d ≤ H.size) (hR : nwMW d ro am y σ th H) (ok : spOk σ) : nwMt l d yX4_words cX4_words 2 (some .int) 5 105 1 3 [.ref y, .int s] H (nwMv d ro y (op_words σ s) H) nwNo (nwAM ro H) := by
  refine nw_start "NightwatchWallModel" "words" hf (by decide +kernel) rfl rfl (fun _ h => Or.inr h) (nwAM_B hR hB) (Nat.le_of_ble_eq_true rfl) ?_
  intro X C
  have hW := hR.wc
  have okM := ok.m
  have hyB := (hR.ok0 (show ro y ≠ 0 by rw [hR.2.1.2]; decide)).1
  have hAy : nwAM ro H y := Or.inl (by rw [hR.2.1.2]; decide +kernel)
  have hW0 := hW
  have hB0 := hB
  have hE := C.E0
  have hext : nwExt H H := nwExt.rfl
  obtain ⟨hmX, hmKi, hmLa, hmFo, hmGu, hmPo, hmIn, hmWi, hmWo, hmKe⟩ := id hW
  obtain ⟨okg, okl, okf, oku, okp, oki, okw, okd, okk, oka⟩ := id ok
  have hn64 : gr_n (sg_gr σ) ≤ 64 := okg.n
  have oku1 := oku.1
  have oki1 := oki.1
  have okp1 := okp.1
  have okw1 := okw.1
  have okl1 := okl.1
  have okf1 := okf.1
  show nwV X _ _ 2 H 0 0 0 [(0, .ref y), (1, .int s)] []
  refine nw_aload_n C 0 dX4_words_0 rfl 1 rfl ?_
  refine nw_iconst C (nI 0) dX4_words_1 (by decide) 2 rfl ?_
  refine nw_put C hmX hAy (T := TX4) (ty0 := tyX4) rfl in_X4 tyX4_ok nmX4 0 (by decide) q1622 (Or.inl rfl) rfl rfl rfl (Nat.le_of_ble_eq_true rfl) dX4_words_2 5 rfl (fun H1 ho2 hz3 hq4 => ?_)
  have ho2 : nwO d y 9 [.int (nI 0), .int (nI (gr_w (sg_gr σ))), .int (nI (gr_h (sg_gr σ))), .ref (am 9), .int (nI (gaM_f (sg_ga σ))), .int (oI (gaM_t (sg_ga σ))), .ref (am 1), .ref (am 2), .ref (am 3), .ref (am 4), .int (nI (wo_s (sg_wo σ))), .int (nI (wo_m (sg_wo σ))), .int (nI (sp_after (wo_x (sg_wo σ)))), .ref (am 11), .ref (am 12), .int (nI (sg_ri σ)), .ref (am 8), .ref (am 5), .ref (am 6), .int (nI (sg_rf σ))] H1 := ho2
  replace hR := hR.th hz3 hq4 ho2
  have hzb : H1.size = H.size := hz3
  replace hB0 : nd_B d ≤ H1.size := by rw [hz3]; exact hB0
  replace hB := hB0
  replace hE := hE.kept (fun q9 _ hb9 => hq4 q9 (fun e9 => hb9 (by rw [e9]; exact hyB)))
  have hE0 := hE
  replace hW0 := hR.wc
  replace hW := hW0
  replace hext : nwExt H1 H1 := nwExt.rfl
  clear hmX hmKi hmLa hmFo hmGu hmPo hmIn hmWi hmWo hmKe
  obtain ⟨hmX, hmKi, hmLa, hmFo, hmGu, hmPo, hmIn, hmWi, hmWo, hmKe⟩ := id hW
  refine nw_iload_n C 1 dX4_words_5 rfl 6 rfl ?_
  refine nw_iconst C (nI 0) dX4_words_6 (by decide) 7 rfl ?_
  refine nw_bipush C (nI 99) dX4_words_7 (by decide) 9 rfl ?_
  refine nw_callS C (mX4_inR _ C.hfl d s (nI 0) (nI 99) H1 hB) kX4_in q1691 (As := [.int s, .int (nI 0), .int (nI 99)]) (rest := []) rfl rfl ⟨⟨Nat.le_of_ble_eq_true rfl, Nat.le_of_ble_eq_true rfl⟩, Nat.le_of_ble_eq_true rfl, Nat.le_of_ble_eq_true rfl⟩ (Nat.le_of_ble_eq_true rfl) (fun _ h8 h9 => absurd h9 (Nat.not_le.mpr h8)) dX4_words_9 12 rfl (nw_rdK ?_) nw_noX
  show nwV X _ _ 2 H1 0 0 12 [(0, .ref y), (1, .int s)] [.int (b2i (nw_rg 0 99 s))]
  refine nw_ifneB C 21 dX4_words_12 (by decide) 15 rfl (fun h5 => ?_) (fun h5 => ?_)
  · obtain ⟨sn, hk6, rfl⟩ := nw_rg_nat (by omega) (by omega) h5
    have en_sn : nw_nn (nI sn) = sn := nw_nn_nI (by omega)
    refine nw_aload_n C 0 dX4_words_21 rfl 22 rfl ?_
    refine nw_iload_n C 1 dX4_words_22 rfl 23 rfl ?_
    refine nw_put C hmX hAy (T := TX4) (ty0 := tyX4) rfl in_X4 tyX4_ok nmX4 10 (by decide) q1632 (Or.inl rfl) rfl rfl rfl (Nat.le_of_ble_eq_true rfl) dX4_words_23 26 rfl (fun H7 ho8 hz9 hq10 => ?_)
    have ho8 : nwO d y 9 [.int (nI 0), .int (nI (gr_w (sg_gr σ))), .int (nI (gr_h (sg_gr σ))), .ref (am 9), .int (nI (gaM_f (sg_ga σ))), .int (oI (gaM_t (sg_ga σ))), .ref (am 1), .ref (am 2), .ref (am 3), .ref (am 4), .int (nI sn), .int (nI (wo_m (sg_wo σ))), .int (nI (sp_after (wo_x (sg_wo σ)))), .ref (am 11), .ref (am 12), .int (nI (sg_ri σ)), .ref (am 8), .ref (am 5), .ref (am 6), .int (nI (sg_rf σ))] H7 := ho8
    have hRc := hR.ext hext
    have r8 : ro y = 8000 := hR.2.1.2
    have hw9 : mrWo d ro am (sg_wo σ) H7 := hRc.2.2.2.2.2.2.2.2.2.1.go (fun _ _ => rfl) (fun _ _ => rfl) (fun q9 _ e9 => hq10 q9 (fun e8 => by rw [e8, r8] at e9; exact absurd e9 (by decide +kernel)))
    have hR1 := trm_Wo hRc (t := st_wo σ ((sn, (sg_wo σ).1.2), (sg_wo σ).2)) (fun q9 g9 => ⟨(hRc.1 q9 g9).1, Nat.lt_of_lt_of_le (hRc.1 q9 g9).2 (Nat.le_of_eq hz9.symm)⟩) (fun _ _ => rfl) (fun _ _ => rfl) (fun q9 _ _ _ h8 => hq10 q9 (fun e8 => h8 (by rw [e8]; exact r8))) ho8 ⟨Or.inr rfl, Or.inr rfl, Or.inr rfl, Or.inr rfl, Or.inr rfl, Or.inr rfl, Or.inr rfl, Or.inl rfl, Or.inr rfl⟩ hw9
    have hAq : ∀ q8, q8 < H1.size → q8 = y → nwAM ro H q8 := fun q8 _ h9 => by rw [h9]; exact hAy
    obtain ⟨σ1, hσ1⟩ : ∃ t9 : spSg, t9 = st_wo σ ((sn, (sg_wo σ).1.2), (sg_wo σ).2) := ⟨_, rfl⟩
    rw [← hσ1] at hR1
    replace hE := hE.kept (fun q9 g9 hb9 => (fun q9 _ n9 => hq10 q9 n9) q9 g9 (fun h9 => hb9 (C.hB q9 (hAq q9 g9 h9))))
    have hsz : H.size ≤ H7.size := Nat.le_trans (Nat.le_trans (Nat.le_of_eq hzb.symm) hext.1) (Nat.le_of_eq hz9.symm)
    replace hB := Nat.le_trans hB (Nat.le_of_eq hz9.symm)
    have ok9 : spOk σ1 := by rw [hσ1]; exact ⟨okg, okl, okf, oku, okp, oki, okw, ⟨⟨show sn < 100 by omega, okd.1.2⟩, okd.2⟩, okk, oka⟩
    replace ok := ok9
    replace okM := ok.m
    replace hR := hR1
    replace hW := hR.wc
    clear hmX hmKi hmLa hmFo hmGu hmPo hmIn hmWi hmWo hmKe okg okl okf oku okp oki okw okd okk oka hn64 oku1 oki1 okp1 okw1 okl1 okf1
    obtain ⟨hmX, hmKi, hmLa, hmFo, hmGu, hmPo, hmIn, hmWi, hmWo, hmKe⟩ := id hW
    obtain ⟨okg, okl, okf, oku, okp, oki, okw, okd, okk, oka⟩ := id ok
    have hn64 : gr_n (sg_gr σ1) ≤ 64 := okg.n
    have oku1 := oku.1
    have oki1 := oki.1
    have okp1 := okp.1
    have okw1 := okw.1
    have okl1 := okl.1
    have okf1 := okf.1
    refine nw_aload_n C 0 dX4_words_26 rfl 27 rfl ?_
    have hAq : ∀ q8, q8 < H7.size → nwAM ro H7 q8 → nwAM ro H q8 := fun q8 h8 h9 => h9.imp id (fun e9 => absurd h8 (Nat.not_lt.mpr e9))
    refine nw_callV C (mX4_begin _ C.hfl d ro am y σ1 (nI 0) (sg_ke σ1) H7 hB hR okd.1.1 hn64 (bg_ke ok)) kX4_begin q1599 (hmX.is C (ci := 9) rfl) (As := []) (rest := []) rfl rfl ⟨⟨Nat.le_of_ble_eq_true rfl, Nat.le_of_ble_eq_true rfl⟩, (show 0 + 1 ≤ 1 by omega), (show 0 + 3 ≤ 3 by omega)⟩ (Nat.le_of_ble_eq_true rfl) hAq dX4_words_27 30 rfl (fun v9 H11 hR12 hz13 hq14 => ?_) nw_noX
    obtain ⟨rfl, hz8, ro2, am2, hR2, hk2, ha2⟩ := hR12
    obtain ⟨σ2, hσ2⟩ : ∃ t9 : spSg, t9 = st_begin σ1 (sg_ke σ1) := ⟨_, rfl⟩
    rw [← hσ2] at hR2
    replace hE := hE.kept (fun q9 g9 hb9 => hq14 q9 g9 (fun h9 => hb9 (C.hB q9 (hAq q9 g9 h9))))
    replace hsz := Nat.le_trans hsz hz13
    replace hB := Nat.le_trans hB hz13
    have ok9 : spOk σ2 := by rw [hσ2]; exact st_begin_ok ok
    replace ok := ok9
    replace okM := ok.m
    replace hR := hR2
    replace hW := hR.wc
    clear hmX hmKi hmLa hmFo hmGu hmPo hmIn hmWi hmWo hmKe okg okl okf oku okp oki okw okd okk oka hn64 oku1 oki1 okp1 okw1 okl1 okf1
    obtain ⟨hmX, hmKi, hmLa, hmFo, hmGu, hmPo, hmIn, hmWi, hmWo, hmKe⟩ := id hW
    obtain ⟨okg, okl, okf, oku, okp, oki, okw, okd, okk, oka⟩ := id ok
    have hn64 : gr_n (sg_gr σ2) ≤ 64 := okg.n
    have oku1 := oku.1
    have oki1 := oki.1
    have okp1 := okp.1
    have okw1 := okw.1
    have okl1 := okl.1
    have okf1 := okf.1
    show nwV X _ _ 2 H11 (0 + 1) (0 + 3) 30 [(0, .ref y), (1, .int (nI sn))] []
    refine nw_wide (k' := 1) (n' := 3) (by omega) (by omega) ?_
    refine nw_aload_n C 0 dX4_words_30 rfl 31 rfl ?_
    refine nw_get C hmX (T := TX4) rfl in_X4 13 (by decide) q1635 (Or.inl rfl) rfl dX4_words_31 34 rfl ?_
    refine nw_iconst C (nI 0) dX4_words_34 (by decide) 35 rfl ?_
    refine nw_ialdN C (nI (wo_n (sg_wo σ2) 0)) hmWo.1 (by omega) rfl dX4_words_35 36 rfl ?_
    have hop : op_words σ (nI sn) = (0, nI (sp_row sn 1), σ2) := by rw [hσ2, hσ1, st_begin_words]; simp [op_words, h5, en_sn]
    exact nw_iret C dX4_words_36 (by omega) (by omega) (by rw [hop]; exact ⟨congrArg (fun z => some (Value.int z)) (congrArg nI (show wo_n (sg_wo σ2) 0 = sp_row sn 1 by rw [hσ2, st_begin_n0, hσ1]; rfl)), ok, hsz, ro2, am2, hR, hk2⟩)
  · refine nw_aload_n C 0 dX4_words_15 rfl 16 rfl ?_
    refine nw_iconst C (nI 1) dX4_words_16 (by decide) 17 rfl ?_
    refine nw_callV C (mX4_no _ C.hfl d y (.int (nI 0)) (.int (nI (gr_w (sg_gr σ)))) (.int (nI (gr_h (sg_gr σ)))) (.ref (am 9)) (.int (nI (gaM_f (sg_ga σ)))) (.int (oI (gaM_t (sg_ga σ)))) (.ref (am 1)) (.ref (am 2)) (.ref (am 3)) (.ref (am 4)) (.int (nI (wo_s (sg_wo σ)))) (.int (nI (wo_m (sg_wo σ)))) (.int (nI (sp_after (wo_x (sg_wo σ))))) (.ref (am 11)) (.ref (am 12)) (.int (nI (sg_ri σ))) (.ref (am 8)) (.ref (am 5)) (.ref (am 6)) (.int (nI (sg_rf σ))) (nI 1) H1 hB hyB hmX) kX4_no q1694 (hmX.is C (ci := 9) rfl) (As := [.int (nI 1)]) (rest := []) rfl rfl ⟨⟨Nat.le_of_ble_eq_true rfl, Nat.le_of_ble_eq_true rfl⟩, (show 0 + 0 ≤ 1 by omega), (show 0 + 0 ≤ 3 by omega)⟩ (Nat.le_of_ble_eq_true rfl) (fun q8 h8 h9 => h9.elim (fun e9 => by rw [e9]; exact hAy) (fun e9 => absurd h8 (Nat.not_lt.mpr e9))) dX4_words_17 20 rfl (fun v9 H15 hR16 hz17 hq18 => ?_) nw_noX
    obtain ⟨rfl, ho19⟩ := hR16
    have hR8 := hR.ext hext
    have hR9 : nwMW d ro am y σ (nI 1) H15 := hR8.obj hz17 (fun q9 g9 n9 _ => hq18 q9 g9 (fun e9 => e9.elim n9 (Nat.not_le.mpr g9))) mSame.rfl ho19
    have hle9 : H.size ≤ H15.size := Nat.le_trans (Nat.le_of_eq hzb.symm) (Nat.le_trans hext.1 hz17)
    show nwV X _ _ 2 H15 (0 + 0) (0 + 0) 20 [(0, .ref y), (1, .int s)] [.int (nI 0)]
    refine nw_wide (k' := 0) (n' := 0) (by omega) (by omega) ?_
    have hop : op_words σ s = (1, 0, σ) := by simp [op_words, h5]
    exact nw_iret C dX4_words_20 (by omega) (by omega) (by rw [hop]; exact ⟨rfl, ok, hle9, ro, am, hR9, fun _ _ => rfl⟩)
