/-! ===== the reference's methods that change a cell, or a guard's round ===== -/
theorem nw_upNM {f : Nat → Nat} {c k j : Nat} : upd (fun c => nI (f c)) c (nI k) j = nI (sp_up f c k j) := by
  unfold upd sp_up
  by_cases e : j = c
  · rw [if_pos e, if_pos e]
  · rw [if_neg e, if_neg e]
theorem mX4_in05 (l : Launch) (hf : l.flags = flags0) (d : nwD) (v : Int32) (H : Heap) (hB : nd_B d ≤ H.size) : nwRd l d yX4_in cX4_in 3 (some .boolean) 1 20 [.int v, .int (nI 0), .int (nI 5)] H (some (.int (b2i (nw_ix v 6)))) := mX4_inX l hf d v 6 H hB (by decide)
theorem kX11_init : nwPI yX11_init cX11_init 5 4 := ⟨⟨q119, q1773, q1774⟩, rfl, by decide +kernel, by decide +kernel, by decide +kernel⟩
set_option maxHeartbeats 4000000 in
theorem mX11_init (l : Launch) (hf : l.flags = flags0) (d : nwD) (g : Nat) (c fr to st : Nat) (H : Heap) (hB : nd_B d ≤ H.size) (hgB : nd_B d ≤ g) (hg : nwO d g 10 [.int (nI 0), .int (nI 0), .int (nI 0), .null, .int (nI 0), .int (nI 0)] H) (hc : c < 128) : nwMt l d yX11_init cX11_init 5 none 5 108 2 13 [.ref g, .int (nI c), .int (nI fr), .int (nI to), .int (nI st)] H (fun v H1 => v = none ∧ ∃ (cl car ccap : Nat) (cmo : Int32) (cf : Nat → Option Nat), (H.size ≤ cl ∧ H.size ≤ car ∧ cl ≠ car) ∧ 0 < ccap ∧ nwO d g 10 [.int (nI fr), .int (nI to), .int (nI st), .ref cl, .int (nI 0), .int (nI 0)] H1 ∧ nwLm d cl 1 (fun _ => nd_bx d c) (fun _ => True) cmo car ccap cf H1) nwNo (fun q => q = g ∨ H.size ≤ q) := by
  refine nw_start "NightwatchWallModel$Guard" "<init>" hf (by decide +kernel) rfl rfl (fun _ h => Or.inr h) (fun q h => h.elim (fun e => by rw [e]; exact hgB) (fun h => Nat.le_trans hB h)) (Nat.le_of_ble_eq_true rfl) ?_
  intro X C
  have hE := C.E0
  have hB0 := hB
  have hsz : H.size ≤ H.size := Nat.le_refl _
  show nwV X _ _ 5 H 0 0 0 [(0, .ref g), (1, .int (nI c)), (2, .int (nI fr)), (3, .int (nI to)), (4, .int (nI st))] []
  refine nw_aload_n C 0 dX11_init_0 rfl 1 rfl ?_
  refine nw_objInit C q1775 q133 q134 dX11_init_1 ⟨Nat.le_of_ble_eq_true rfl, Nat.le_of_ble_eq_true rfl⟩ (Nat.le_of_ble_eq_true rfl) 4 rfl ?_
  refine nw_aload_n C 0 dX11_init_4 rfl 5 rfl ?_
  refine nw_new C (ci := 13) (T := TJ3) (ty0 := tyJ3) [.int (nI 0), .null, .int (nI 0)] rfl in_J3 tyJ3_ok q1776 q141 q90 (fun j hj => by rcases (show j = 0 ∨ j = 1 ∨ j = 2 by omega) with rfl | rfl | rfl <;> rfl) 1 3 (by omega) (by omega) ⟨(show 1 ≤ 2 by omega), (show 3 ≤ 13 by omega)⟩ dX11_init_5 8 rfl (fun a1 H2 hx3 ho4 hz5 hq6 => ?_)
  have hn7 : H.size ≤ a1 := by rw [hx3]; exact hsz
  have hsz := Nat.le_trans hsz (show _ ≤ H2.size by omega)
  have hB := Nat.le_trans hB0 hsz
  have hE := hE.ext hq6
  have hne8 : g ≠ a1 := Nat.ne_of_lt (by rw [hx3]; exact hg.lt)
  have ho9 := hg.kept (hq6 _ hg.lt)
  refine nw_dup C dX11_init_8 rfl 9 rfl ?_
  refine nw_callI C (mJ3_init _ C.hfl d a1  H2 hB (Nat.le_trans hB0 hn7) ho4 ) kJ3_init q1777 (As := []) (rest := [.ref a1, .ref g]) rfl rfl ⟨⟨Nat.le_of_ble_eq_true rfl, Nat.le_of_ble_eq_true rfl⟩, (show 1 + 0 ≤ 2 by omega), (show 3 + 0 ≤ 13 by omega)⟩ (Nat.le_of_ble_eq_true rfl) (fun q8 h8 h9 => h9.elim (fun e9 => by rw [e9]; exact (Or.inr hn7)) (fun e9 => absurd h8 (Nat.not_lt.mpr e9))) dX11_init_9 12 rfl (fun v9 H10 hR11 hz12 hq13 => ?_) nw_noX
  obtain ⟨rfl, ho14⟩ := hR11
  have ho15 := ho9.kept (hq13 _ ho9.lt (fun e9 => e9.elim hne8 (Nat.not_le.mpr ho9.lt)))
  have hE := hE.kept (fun q9 g9 hb9 => hq13 q9 g9 (fun e9 => hb9 (e9.elim (fun e9 => by rw [e9]; exact (Nat.le_trans hB0 hn7)) (fun e9 => Nat.le_trans hB e9))))
  have hsz := Nat.le_trans hsz hz12
  have hB := Nat.le_trans hB0 hsz
  show nwV X _ _ 5 H10 (1 + 0) (3 + 0) 12 [(0, .ref g), (1, .int (nI c)), (2, .int (nI fr)), (3, .int (nI to)), (4, .int (nI st))] [.ref a1, .ref g]
  refine nw_wide (k' := 1) (n' := 3) (by omega) (by omega) ?_
  refine nw_putF C ho15 (Or.inl rfl) (T := TX11) (ty0 := tyX11) rfl in_X11 tyX11_ok nmX11 3 (by decide) q1787 rfl rfl rfl rfl (Nat.le_of_ble_eq_true rfl) dX11_init_12 15 rfl (fun H16 ho17 hz18 hq19 => ?_)
  have ho17 : nwO d g 10 [.int (nI 0), .int (nI 0), .int (nI 0), .ref a1, .int (nI 0), .int (nI 0)] H16 := ho17
  have hsz := Nat.le_trans hsz (Nat.le_of_eq hz18.symm)
  have hE := hE.kept (fun q9 _ hb9 => hq19 q9 (fun e9 => hb9 (by rw [e9]; exact hgB)))
  have hB := Nat.le_trans hB0 hsz
  have ho20 := ho14.kept (hq19 _ (Ne.symm hne8))
  refine nw_aload_n C 0 dX11_init_15 rfl 16 rfl ?_
  refine nw_get C ho17 (T := TX11) rfl in_X11 3 (by decide) q1787 (Or.inl rfl) rfl dX11_init_16 19 rfl ?_
  refine nw_iload_n C 1 dX11_init_19 rfl 20 rfl ?_
  refine nw_callS C (mJ19_valueOf _ C.hfl d c H16 hB (by omega)) kJ19_valueOf q1778 (As := [.int (nI c)]) (rest := [.ref a1]) rfl rfl ⟨⟨Nat.le_of_ble_eq_true rfl, Nat.le_of_ble_eq_true rfl⟩, Nat.le_of_ble_eq_true rfl, Nat.le_of_ble_eq_true rfl⟩ (Nat.le_of_ble_eq_true rfl) (fun _ h8 h9 => absurd h9 (Nat.not_le.mpr h8)) dX11_init_20 23 rfl (nw_rdK ?_) nw_noX
  refine nw_callF C (mJ3_add _ C.hfl d a1 0 (fun _ => 0) (fun _ => False) (nI 0) (nd_st d 5) 0 (fun _ => none) (nd_bx d c) "java/lang/Integer" H16 hB (Nat.le_trans hB0 hn7) ⟨⟨ho20, Nat.le_refl 0, by decide, Or.inl ⟨rfl, rfl⟩⟩, fun h9 => absurd h9 (by decide), fun k hk => absurd hk (Nat.not_lt_zero k)⟩ (fun _ h9 => h9.elim) (fun h9 => h9) (nwEl.box (by omega)) q2140 (nwE.bxne hE (by omega) (Nat.le_trans hB0 hn7)) (nwE.bxlt hE (by omega)) (by decide)) kJ3_add (ci := 13) rfl q1780 q1733 (by decide +kernel) fc_List_add (ho20.is C (ci := 13) rfl) (As := [.ref (nd_bx d c)]) (rest := []) rfl rfl ⟨⟨Nat.le_of_ble_eq_true rfl, Nat.le_of_ble_eq_true rfl⟩, (show 1 + 1 ≤ 2 by omega), (show 3 + 10 ≤ 13 by omega)⟩ (Nat.le_of_ble_eq_true rfl) (fun q8 h8 h9 => h9.elim (fun e9 => Or.inr (by rw [e9]; exact hn7)) (fun e9 => e9.elim False.elim (fun e9 => absurd h8 (Nat.not_lt.mpr e9)))) dX11_init_23 28 rfl (fun v9 H21 hR22 hz23 hq24 => ?_) nw_noX
  have hE := hE.kept (fun q9 g9 hb9 => hq24 q9 g9 (fun e9 => hb9 (e9.elim (fun e8 => by rw [e8]; exact (Nat.le_trans hB0 hn7)) (fun e8 => e8.elim False.elim (fun e7 => absurd g9 (Nat.not_lt.mpr e7))))))
  have hglt : g < H16.size := ho17.lt
  obtain ⟨rfl, cmo, car, ccap, cf, hcl⟩ := hR22
  have hcarn : H16.size ≤ car := (hcl.2.1 (Nat.lt_of_lt_of_le Nat.one_pos hcl.1.2.1)).elim False.elim id
  have hclar : a1 ≠ car := Nat.ne_of_lt (Nat.lt_of_lt_of_le ho20.lt hcarn)
  have ho25 := ho17.kept (hq24 _ ho17.lt (fun e9 => e9.elim hne8 (fun e9 => e9.elim False.elim (Nat.not_le.mpr ho17.lt))))
  have hcarN : H.size ≤ car := Nat.le_trans hsz hcarn
  have hsz := Nat.le_trans hsz hz23
  have hB := Nat.le_trans hB0 hsz
  show nwV X _ _ 5 H21 (1 + 1) (3 + 10) 28 [(0, .ref g), (1, .int (nI c)), (2, .int (nI fr)), (3, .int (nI to)), (4, .int (nI st))] [.int (b2i true)]
  refine nw_wide (k' := 2) (n' := 13) (by omega) (by omega) ?_
  refine nw_pop C dX11_init_28 rfl 29 rfl ?_
  refine nw_aload_n C 0 dX11_init_29 rfl 30 rfl ?_
  refine nw_iload_n C 2 dX11_init_30 rfl 31 rfl ?_
  refine nw_putF C ho25 (Or.inl rfl) (T := TX11) (ty0 := tyX11) rfl in_X11 tyX11_ok nmX11 0 (by decide) q1781 rfl rfl rfl rfl (Nat.le_of_ble_eq_true rfl) dX11_init_31 34 rfl (fun H26 ho27 hz28 hq29 => ?_)
  have ho27 : nwO d g 10 [.int (nI fr), .int (nI 0), .int (nI 0), .ref a1, .int (nI 0), .int (nI 0)] H26 := ho27
  have hsz := Nat.le_trans hsz (Nat.le_of_eq hz28.symm)
  have hE := hE.kept (fun q9 _ hb9 => hq29 q9 (fun e9 => hb9 (by rw [e9]; exact hgB)))
  have hB := Nat.le_trans hB0 hsz
  have hcl := hcl.kp (hq29 _ (Ne.symm hne8)) (fun q9 p9 _ => hq29 q9 (fun e9 => p9.elim False.elim (fun e8 => absurd hglt (Nat.not_lt.mpr (by rw [← e9]; exact e8)))))
  refine nw_aload_n C 0 dX11_init_34 rfl 35 rfl ?_
  refine nw_iload_n C 3 dX11_init_35 rfl 36 rfl ?_
  refine nw_putF C ho27 (Or.inl rfl) (T := TX11) (ty0 := tyX11) rfl in_X11 tyX11_ok nmX11 1 (by decide) q1783 rfl rfl rfl rfl (Nat.le_of_ble_eq_true rfl) dX11_init_36 39 rfl (fun H30 ho31 hz32 hq33 => ?_)
  have ho31 : nwO d g 10 [.int (nI fr), .int (nI to), .int (nI 0), .ref a1, .int (nI 0), .int (nI 0)] H30 := ho31
  have hsz := Nat.le_trans hsz (Nat.le_of_eq hz32.symm)
  have hE := hE.kept (fun q9 _ hb9 => hq33 q9 (fun e9 => hb9 (by rw [e9]; exact hgB)))
  have hB := Nat.le_trans hB0 hsz
  have hcl := hcl.kp (hq33 _ (Ne.symm hne8)) (fun q9 p9 _ => hq33 q9 (fun e9 => p9.elim False.elim (fun e8 => absurd hglt (Nat.not_lt.mpr (by rw [← e9]; exact e8)))))
  refine nw_aload_n C 0 dX11_init_39 rfl 40 rfl ?_
  refine nw_iload C 4 dX11_init_40 rfl 42 rfl ?_
  refine nw_putF C ho31 (Or.inl rfl) (T := TX11) (ty0 := tyX11) rfl in_X11 tyX11_ok nmX11 2 (by decide) q1785 rfl rfl rfl rfl (Nat.le_of_ble_eq_true rfl) dX11_init_42 45 rfl (fun H34 ho35 hz36 hq37 => ?_)
  have ho35 : nwO d g 10 [.int (nI fr), .int (nI to), .int (nI st), .ref a1, .int (nI 0), .int (nI 0)] H34 := ho35
  have hsz := Nat.le_trans hsz (Nat.le_of_eq hz36.symm)
  have hE := hE.kept (fun q9 _ hb9 => hq37 q9 (fun e9 => hb9 (by rw [e9]; exact hgB)))
  have hB := Nat.le_trans hB0 hsz
  have hcl := hcl.kp (hq37 _ (Ne.symm hne8)) (fun q9 p9 _ => hq37 q9 (fun e9 => p9.elim False.elim (fun e8 => absurd hglt (Nat.not_lt.mpr (by rw [← e9]; exact e8)))))
  exact nw_vret C dX11_init_45 (by omega) (by omega) ⟨rfl, a1, car, ccap, cmo, cf, ⟨hn7, hcarN, hclar⟩, Nat.lt_of_lt_of_le Nat.one_pos hcl.1.2.1, ho35, ⟨hcl.1, fun _ => trivial, fun k hk => by rw [hcl.2.2 k hk]; show some (if k = 0 then _ else _) = _; rw [if_pos (by omega)]⟩⟩
set_option maxHeartbeats 4000000 in
theorem mX4_guard (l : Launch) (hf : l.flags = flags0) (d : nwD) (ro am : Nat → Nat) (y : Nat) (σ : spSg) (th : Int32) (c : Int32) (a : Int32) (b : Int32) (s : Int32) (H : Heap) (hB : nd_B d ≤ H.size) (hR : nwMW d ro am y σ th H) (ok : spOk σ) : nwMt l d yX4_guard cX4_guard 5 (some .int) 6 132 4 33 [.ref y, .int c, .int a, .int b, .int s] H (nwMv d ro y (op_guard σ c a b s) H) nwNo (nwAM ro H) := by
  refine nw_start "NightwatchWallModel" "guard" hf (by decide +kernel) rfl rfl (fun _ h => Or.inr h) (nwAM_B hR hB) (Nat.le_of_ble_eq_true rfl) ?_
  intro X C
  have hW := hR.wc
  have okM := ok.m
  have hyB := (hR.ok0 (show ro y ≠ 0 by rw [hR.2.1.2]; decide)).1
  have hAy : nwAM ro H y := Or.inl (by rw [hR.2.1.2]; decide +kernel)
  have hW0 := hW
  have hB0 := hB
  have hE := C.E0
  have hext : nwExt H H := nwExt.rfl
  obtain ⟨hmX, hmKi, hmLa, hmFo, hmGu, hmPo, hmIn, hmWi, hmWo, hmKe⟩ := id hW
  obtain ⟨okg, okl, okf, oku, okp, oki, okw, okd, okk, oka⟩ := id ok
  have hn64 : gr_n (sg_gr σ) ≤ 64 := okg.n
  have oku1 := oku.1
  have oki1 := oki.1
  have okp1 := okp.1
  have okw1 := okw.1
  have okl1 := okl.1
  have okf1 := okf.1
  show nwV X _ _ 5 H 0 0 0 [(0, .ref y), (1, .int c), (2, .int a), (3, .int b), (4, .int s)] []
  refine nw_aload_n C 0 dX4_guard_0 rfl 1 rfl ?_
  refine nw_iconst C (nI 0) dX4_guard_1 (by decide) 2 rfl ?_
  refine nw_put C hmX hAy (T := TX4) (ty0 := tyX4) rfl in_X4 tyX4_ok nmX4 0 (by decide) q1622 (Or.inl rfl) rfl rfl rfl (Nat.le_of_ble_eq_true rfl) dX4_guard_2 5 rfl (fun H1 ho2 hz3 hq4 => ?_)
  have ho2 : nwO d y 9 [.int (nI 0), .int (nI (gr_w (sg_gr σ))), .int (nI (gr_h (sg_gr σ))), .ref (am 9), .int (nI (gaM_f (sg_ga σ))), .int (oI (gaM_t (sg_ga σ))), .ref (am 1), .ref (am 2), .ref (am 3), .ref (am 4), .int (nI (wo_s (sg_wo σ))), .int (nI (wo_m (sg_wo σ))), .int (nI (sp_after (wo_x (sg_wo σ)))), .ref (am 11), .ref (am 12), .int (nI (sg_ri σ)), .ref (am 8), .ref (am 5), .ref (am 6), .int (nI (sg_rf σ))] H1 := ho2
  replace hR := hR.th hz3 hq4 ho2
  have hzb : H1.size = H.size := hz3
  replace hB0 : nd_B d ≤ H1.size := by rw [hz3]; exact hB0
  replace hB := hB0
  replace hE := hE.kept (fun q9 _ hb9 => hq4 q9 (fun e9 => hb9 (by rw [e9]; exact hyB)))
  have hE0 := hE
  replace hW0 := hR.wc
  replace hW := hW0
  replace hext : nwExt H1 H1 := nwExt.rfl
  clear hmX hmKi hmLa hmFo hmGu hmPo hmIn hmWi hmWo hmKe
  obtain ⟨hmX, hmKi, hmLa, hmFo, hmGu, hmPo, hmIn, hmWi, hmWo, hmKe⟩ := id hW
  refine nw_aload_n C 0 dX4_guard_5 rfl 6 rfl ?_
  refine nw_iload_n C 1 dX4_guard_6 rfl 7 rfl ?_
  refine nw_callV C (mX4_isCell _ C.hfl d ro am y σ (nI 0) c H1 hB hW okM ) kX4_isCell q1702 (hmX.is C (ci := 9) rfl) (As := [.int c]) (rest := []) rfl rfl ⟨⟨Nat.le_of_ble_eq_true rfl, Nat.le_of_ble_eq_true rfl⟩, Nat.le_of_ble_eq_true rfl, Nat.le_of_ble_eq_true rfl⟩ (Nat.le_of_ble_eq_true rfl) (fun _ h8 h9 => absurd h9 (Nat.not_le.mpr h8)) dX4_guard_7 10 rfl (nw_rdK ?_) nw_noX
  refine nw_ifneB C 19 dX4_guard_10 (by decide) 13 rfl (fun h5 => ?_) (fun h5 => ?_)
  · obtain ⟨cn, hk6, rfl⟩ := nw_ix_nat (by omega) h5
    have en_cn : nw_nn (nI cn) = cn := nw_nn_nI (by omega)
    refine nw_iload_n C 2 dX4_guard_19 rfl 20 rfl ?_
    refine nw_callS C (mX4_isMinute _ C.hfl d a H1 hB) kX4_isMinute q1722 (As := [.int a]) (rest := []) rfl rfl ⟨⟨Nat.le_of_ble_eq_true rfl, Nat.le_of_ble_eq_true rfl⟩, Nat.le_of_ble_eq_true rfl, Nat.le_of_ble_eq_true rfl⟩ (Nat.le_of_ble_eq_true rfl) (fun _ h8 h9 => absurd h9 (Nat.not_le.mpr h8)) dX4_guard_20 23 rfl (nw_rdK ?_) nw_noX
    refine nw_ifeqB C 48 dX4_guard_23 (by decide) 26 rfl (fun h7 => ?_) (fun h7 => ?_)
    · refine nw_aload_n C 0 dX4_guard_48 rfl 49 rfl ?_
      refine nw_iconst C (nI 2) dX4_guard_49 (by decide) 50 rfl ?_
      refine nw_callV C (mX4_no _ C.hfl d y (.int (nI 0)) (.int (nI (gr_w (sg_gr σ)))) (.int (nI (gr_h (sg_gr σ)))) (.ref (am 9)) (.int (nI (gaM_f (sg_ga σ)))) (.int (oI (gaM_t (sg_ga σ)))) (.ref (am 1)) (.ref (am 2)) (.ref (am 3)) (.ref (am 4)) (.int (nI (wo_s (sg_wo σ)))) (.int (nI (wo_m (sg_wo σ)))) (.int (nI (sp_after (wo_x (sg_wo σ))))) (.ref (am 11)) (.ref (am 12)) (.int (nI (sg_ri σ))) (.ref (am 8)) (.ref (am 5)) (.ref (am 6)) (.int (nI (sg_rf σ))) (nI 2) H1 hB hyB hmX) kX4_no q1694 (hmX.is C (ci := 9) rfl) (As := [.int (nI 2)]) (rest := []) rfl rfl ⟨⟨Nat.le_of_ble_eq_true rfl, Nat.le_of_ble_eq_true rfl⟩, (show 0 + 0 ≤ 4 by omega), (show 0 + 0 ≤ 33 by omega)⟩ (Nat.le_of_ble_eq_true rfl) (fun q8 h8 h9 => h9.elim (fun e9 => by rw [e9]; exact hAy) (fun e9 => absurd h8 (Nat.not_lt.mpr e9))) dX4_guard_50 53 rfl (fun v9 H8 hR9 hz10 hq11 => ?_) nw_noX
      obtain ⟨rfl, ho12⟩ := hR9
      have hR8 := hR.ext hext
      have hR9 : nwMW d ro am y σ (nI 2) H8 := hR8.obj hz10 (fun q9 g9 n9 _ => hq11 q9 g9 (fun e9 => e9.elim n9 (Nat.not_le.mpr g9))) mSame.rfl ho12
      have hle9 : H.size ≤ H8.size := Nat.le_trans (Nat.le_of_eq hzb.symm) (Nat.le_trans hext.1 hz10)
      show nwV X _ _ 5 H8 (0 + 0) (0 + 0) 53 [(0, .ref y), (1, .int (nI cn)), (2, .int a), (3, .int b), (4, .int s)] [.int (nI 0)]
      refine nw_wide (k' := 0) (n' := 0) (by omega) (by omega) ?_
      have hop : op_guard σ (nI cn) a b s = (2, 0, σ) := by simp [op_guard, sp_wall, h5, h7, en_cn]
      exact nw_iret C dX4_guard_53 (by omega) (by omega) (by rw [hop]; exact ⟨rfl, ok, hle9, ro, am, hR9, fun _ _ => rfl⟩)
    · obtain ⟨an, hk13, rfl⟩ := nw_rg_nat (by omega) (by omega) h7
      have en_an : nw_nn (nI an) = an := nw_nn_nI (by omega)
      refine nw_iload_n C 3 dX4_guard_26 rfl 27 rfl ?_
      refine nw_iload_n C 2 dX4_guard_27 rfl 28 rfl ?_
      refine nw_sipush C (nI 239) dX4_guard_28 (by decide) 31 rfl ?_
      refine nw_callS C (mX4_inR _ C.hfl d b (nI an) (nI 239) H1 hB) kX4_in q1691 (As := [.int b, .int (nI an), .int (nI 239)]) (rest := []) rfl rfl ⟨⟨Nat.le_of_ble_eq_true rfl, Nat.le_of_ble_eq_true rfl⟩, Nat.le_of_ble_eq_true rfl, Nat.le_of_ble_eq_true rfl⟩ (Nat.le_of_ble_eq_true rfl) (fun _ h8 h9 => absurd h9 (Nat.not_le.mpr h8)) dX4_guard_31 34 rfl (nw_rdK ?_) nw_noX
      show nwV X _ _ 5 H1 0 0 34 [(0, .ref y), (1, .int (nI cn)), (2, .int (nI an)), (3, .int b), (4, .int s)] [.int (b2i (nw_rg an 239 b))]
      refine nw_ifeqB C 48 dX4_guard_34 (by decide) 37 rfl (fun h14 => ?_) (fun h14 => ?_)
      · refine nw_aload_n C 0 dX4_guard_48 rfl 49 rfl ?_
        refine nw_iconst C (nI 2) dX4_guard_49 (by decide) 50 rfl ?_
        refine nw_callV C (mX4_no _ C.hfl d y (.int (nI 0)) (.int (nI (gr_w (sg_gr σ)))) (.int (nI (gr_h (sg_gr σ)))) (.ref (am 9)) (.int (nI (gaM_f (sg_ga σ)))) (.int (oI (gaM_t (sg_ga σ)))) (.ref (am 1)) (.ref (am 2)) (.ref (am 3)) (.ref (am 4)) (.int (nI (wo_s (sg_wo σ)))) (.int (nI (wo_m (sg_wo σ)))) (.int (nI (sp_after (wo_x (sg_wo σ))))) (.ref (am 11)) (.ref (am 12)) (.int (nI (sg_ri σ))) (.ref (am 8)) (.ref (am 5)) (.ref (am 6)) (.int (nI (sg_rf σ))) (nI 2) H1 hB hyB hmX) kX4_no q1694 (hmX.is C (ci := 9) rfl) (As := [.int (nI 2)]) (rest := []) rfl rfl ⟨⟨Nat.le_of_ble_eq_true rfl, Nat.le_of_ble_eq_true rfl⟩, (show 0 + 0 ≤ 4 by omega), (show 0 + 0 ≤ 33 by omega)⟩ (Nat.le_of_ble_eq_true rfl) (fun q8 h8 h9 => h9.elim (fun e9 => by rw [e9]; exact hAy) (fun e9 => absurd h8 (Nat.not_lt.mpr e9))) dX4_guard_50 53 rfl (fun v9 H15 hR16 hz17 hq18 => ?_) nw_noX
        obtain ⟨rfl, ho19⟩ := hR16
        have hR8 := hR.ext hext
        have hR9 : nwMW d ro am y σ (nI 2) H15 := hR8.obj hz17 (fun q9 g9 n9 _ => hq18 q9 g9 (fun e9 => e9.elim n9 (Nat.not_le.mpr g9))) mSame.rfl ho19
        have hle9 : H.size ≤ H15.size := Nat.le_trans (Nat.le_of_eq hzb.symm) (Nat.le_trans hext.1 hz17)
        show nwV X _ _ 5 H15 (0 + 0) (0 + 0) 53 [(0, .ref y), (1, .int (nI cn)), (2, .int (nI an)), (3, .int b), (4, .int s)] [.int (nI 0)]
        refine nw_wide (k' := 0) (n' := 0) (by omega) (by omega) ?_
        have hop : op_guard σ (nI cn) (nI an) b s = (2, 0, σ) := by
          rcases nw_rgF (by omega) h14 with hq1 | ⟨hq1, hq2⟩
          · simp [op_guard, hq1, h5, h7, h14, en_cn, en_an]
          · simp [op_guard, hq1, hq2, h5, h7, h14, en_cn, en_an]
        exact nw_iret C dX4_guard_53 (by omega) (by omega) (by rw [hop]; exact ⟨rfl, ok, hle9, ro, am, hR9, fun _ _ => rfl⟩)
      · obtain ⟨bn, hk20, rfl⟩ := nw_rg_nat (by omega) (by omega) h14
        have en_bn : nw_nn (nI bn) = bn := nw_nn_nI (by omega)
        refine nw_iload C 4 dX4_guard_37 rfl 39 rfl ?_
        refine nw_iconst C (nI 1) dX4_guard_39 (by decide) 40 rfl ?_
        refine nw_bipush C (nI 20) dX4_guard_40 (by decide) 42 rfl ?_
        refine nw_callS C (mX4_inR _ C.hfl d s (nI 1) (nI 20) H1 hB) kX4_in q1691 (As := [.int s, .int (nI 1), .int (nI 20)]) (rest := []) rfl rfl ⟨⟨Nat.le_of_ble_eq_true rfl, Nat.le_of_ble_eq_true rfl⟩, Nat.le_of_ble_eq_true rfl, Nat.le_of_ble_eq_true rfl⟩ (Nat.le_of_ble_eq_true rfl) (fun _ h8 h9 => absurd h9 (Nat.not_le.mpr h8)) dX4_guard_42 45 rfl (nw_rdK ?_) nw_noX
        show nwV X _ _ 5 H1 0 0 45 [(0, .ref y), (1, .int (nI cn)), (2, .int (nI an)), (3, .int (nI bn)), (4, .int s)] [.int (b2i (nw_rg 1 20 s))]
        refine nw_ifneB C 54 dX4_guard_45 (by decide) 48 rfl (fun h21 => ?_) (fun h21 => ?_)
        · obtain ⟨sn, hk22, rfl⟩ := nw_rg_nat (by omega) (by omega) h21
          have en_sn : nw_nn (nI sn) = sn := nw_nn_nI (by omega)
          refine nw_aload_n C 0 dX4_guard_54 rfl 55 rfl ?_
          refine nw_get C hmX (T := TX4) rfl in_X4 8 (by decide) q1630 (Or.inl rfl) rfl dX4_guard_55 58 rfl ?_
          refine nw_callF C (mJ3_size _ C.hfl d (am 3) ((sg_gu σ).1) (fun k => am (300 + k)) (fun q => ro q = 7004) H1 hB hmGu.1) kJ3_size (ci := 13) rfl q1607 q1611 (by decide +kernel) fc_List_size (hmGu.1.is C) (As := []) (rest := []) rfl rfl ⟨⟨Nat.le_of_ble_eq_true rfl, Nat.le_of_ble_eq_true rfl⟩, Nat.le_of_ble_eq_true rfl, Nat.le_of_ble_eq_true rfl⟩ (Nat.le_of_ble_eq_true rfl) (fun _ h8 h9 => absurd h9 (Nat.not_le.mpr h8)) dX4_guard_58 63 rfl (nw_rdK ?_) nw_noX
          refine nw_bipush C (nI 6) dX4_guard_63 (by decide) 65 rfl ?_
          refine nw_icmpeqN C (by omega) 78 dX4_guard_65 (by decide) 68 rfl (fun h23 => ?_) (fun h23 => ?_)
          · have hfull : 6 ≤ (sg_gu σ).1 := by omega
            refine nw_aload_n C 0 dX4_guard_78 rfl 79 rfl ?_
            refine nw_iconst C (nI 3) dX4_guard_79 (by decide) 80 rfl ?_
            refine nw_callV C (mX4_no _ C.hfl d y (.int (nI 0)) (.int (nI (gr_w (sg_gr σ)))) (.int (nI (gr_h (sg_gr σ)))) (.ref (am 9)) (.int (nI (gaM_f (sg_ga σ)))) (.int (oI (gaM_t (sg_ga σ)))) (.ref (am 1)) (.ref (am 2)) (.ref (am 3)) (.ref (am 4)) (.int (nI (wo_s (sg_wo σ)))) (.int (nI (wo_m (sg_wo σ)))) (.int (nI (sp_after (wo_x (sg_wo σ))))) (.ref (am 11)) (.ref (am 12)) (.int (nI (sg_ri σ))) (.ref (am 8)) (.ref (am 5)) (.ref (am 6)) (.int (nI (sg_rf σ))) (nI 3) H1 hB hyB hmX) kX4_no q1694 (hmX.is C (ci := 9) rfl) (As := [.int (nI 3)]) (rest := []) rfl rfl ⟨⟨Nat.le_of_ble_eq_true rfl, Nat.le_of_ble_eq_true rfl⟩, (show 0 + 0 ≤ 4 by omega), (show 0 + 0 ≤ 33 by omega)⟩ (Nat.le_of_ble_eq_true rfl) (fun q8 h8 h9 => h9.elim (fun e9 => by rw [e9]; exact hAy) (fun e9 => absurd h8 (Nat.not_lt.mpr e9))) dX4_guard_80 83 rfl (fun v9 H24 hR25 hz26 hq27 => ?_) nw_noX
            obtain ⟨rfl, ho28⟩ := hR25
            have hR8 := hR.ext hext
            have hR9 : nwMW d ro am y σ (nI 3) H24 := hR8.obj hz26 (fun q9 g9 n9 _ => hq27 q9 g9 (fun e9 => e9.elim n9 (Nat.not_le.mpr g9))) mSame.rfl ho28
            have hle9 : H.size ≤ H24.size := Nat.le_trans (Nat.le_of_eq hzb.symm) (Nat.le_trans hext.1 hz26)
            show nwV X _ _ 5 H24 (0 + 0) (0 + 0) 83 [(0, .ref y), (1, .int (nI cn)), (2, .int (nI an)), (3, .int (nI bn)), (4, .int (nI sn))] [.int (nI 0)]
            refine nw_wide (k' := 0) (n' := 0) (by omega) (by omega) ?_
            have hq1 : nw_rg 0 239 (nI bn) = true := nw_rgT (by omega) (by decide)
            have hq2 : ¬ nI bn < nI an := fun e9 => absurd ((nI_ltI (by omega) (by omega)).mp e9) (by omega)
            have hop : op_guard σ (nI cn) (nI an) (nI bn) (nI sn) = (3, 0, σ) := by simp [op_guard, sp_wall, hq1, hq2, h5, h7, h14, h21, h23, en_cn, en_an, en_bn, en_sn, hfull]
            exact nw_iret C dX4_guard_83 (by omega) (by omega) (by rw [hop]; exact ⟨rfl, ok, hle9, ro, am, hR9, fun _ _ => rfl⟩)
          · have hfull : ¬ 6 ≤ (sg_gu σ).1 := by omega
            have hk4 : gr_k (sg_gr σ) cn < 4 := (okg.here (show cn < gr_n (sg_gr σ) by omega)).2 cn (by omega)
            refine nw_aload_n C 0 dX4_guard_68 rfl 69 rfl ?_
            refine nw_get C hmX (T := TX4) rfl in_X4 3 (by decide) q1625 (Or.inl rfl) rfl dX4_guard_69 72 rfl ?_
            refine nw_iload_n C 1 dX4_guard_72 rfl 73 rfl ?_
            refine nw_ialdN C (nI (gr_k (sg_gr σ) cn)) hmKi (by omega) rfl dX4_guard_73 74 rfl ?_
            refine nw_iconst C (nI 1) dX4_guard_74 (by decide) 75 rfl ?_
            refine nw_icmpneN C (by omega) 84 dX4_guard_75 (by decide) 78 rfl (fun h29 => ?_) (fun h29 => ?_)
            · refine nw_aload_n C 0 dX4_guard_84 rfl 85 rfl ?_
              refine nw_get C hmX (T := TX4) rfl in_X4 8 (by decide) q1630 (Or.inl rfl) rfl dX4_guard_85 88 rfl ?_
              refine nw_new C (ci := 10) (T := TX11) (ty0 := tyX11) [.int (nI 0), .int (nI 0), .int (nI 0), .null, .int (nI 0), .int (nI 0)] rfl in_X11 tyX11_ok q1621 q1771 q119 (fun j hj => by rcases (show j = 0 ∨ j = 1 ∨ j = 2 ∨ j = 3 ∨ j = 4 ∨ j = 5 by omega) with rfl | rfl | rfl | rfl | rfl | rfl <;> rfl) 1 6 (by omega) (by omega) ⟨(show 1 ≤ 4 by omega), (show 6 ≤ 33 by omega)⟩ dX4_guard_88 91 rfl (fun a30 H31 hx32 ho33 hz34 hq35 => ?_)
              have hn36 : H1.size ≤ a30 := (by rw [hx32]; exact hext.1)
              replace hext := hext.made hz34 hq35
              replace hW := hW0.ext hext.2
              replace hE := hE0.ext hext.2
              replace hB := Nat.le_trans hB0 hext.1
              clear hmX hmKi hmLa hmFo hmGu hmPo hmIn hmWi hmWo hmKe
              obtain ⟨hmX, hmKi, hmLa, hmFo, hmGu, hmPo, hmIn, hmWi, hmWo, hmKe⟩ := id hW
              refine nw_dup C dX4_guard_91 rfl 92 rfl ?_
              refine nw_iload_n C 1 dX4_guard_92 rfl 93 rfl ?_
              refine nw_iload_n C 2 dX4_guard_93 rfl 94 rfl ?_
              refine nw_iload_n C 3 dX4_guard_94 rfl 95 rfl ?_
              refine nw_iload C 4 dX4_guard_95 rfl 97 rfl ?_
              have hB9 := (Nat.le_trans hB0 hn36)
              refine nw_callI C (mX11_init _ C.hfl d a30 cn an bn sn H31 hB (Nat.le_trans hB0 hn36) ho33 (by omega)) kX11_init q1772 (As := [.int (nI cn), .int (nI an), .int (nI bn), .int (nI sn)]) (rest := [.ref a30, .ref (am 3)]) rfl rfl ⟨⟨Nat.le_of_ble_eq_true rfl, Nat.le_of_ble_eq_true rfl⟩, (show 1 + 2 ≤ 4 by omega), (show 6 + 13 ≤ 33 by omega)⟩ (Nat.le_of_ble_eq_true rfl) (fun q8 h8 h9 => h9.elim (fun e9 => by rw [e9]; exact (Or.inr (Nat.le_trans (Nat.le_of_eq hzb.symm) hn36))) (fun e9 => absurd h8 (Nat.not_lt.mpr e9))) dX4_guard_97 100 rfl (fun v9 H37 hR38 hz39 hq40 => ?_) nw_noX
              obtain ⟨rfl, cl, car, ccap, cmo, cf, ⟨hcl1, hcl2, hcl3⟩, hcc, hgo, hcl⟩ := hR38
              have hcl1 := Nat.le_trans hext.1 hcl1
              have hcl2 := Nat.le_trans hext.1 hcl2
              have hecl : a30 ≠ cl ∧ a30 ≠ car := ⟨Nat.ne_of_lt (Nat.lt_of_lt_of_le ho33.lt (by assumption)), Nat.ne_of_lt (Nat.lt_of_lt_of_le ho33.lt (by assumption))⟩
              replace hext := hext.step hz39 hq40 (fun q9 e9 => e9.elim (fun e9 => by rw [e9]; exact hn36) (fun e9 => Nat.le_trans hext.1 e9))
              replace hW := hW0.ext hext.2
              replace hE := hE0.ext hext.2
              replace hB := Nat.le_trans hB0 hext.1
              clear hmX hmKi hmLa hmFo hmGu hmPo hmIn hmWi hmWo hmKe
              obtain ⟨hmX, hmKi, hmLa, hmFo, hmGu, hmPo, hmIn, hmWi, hmWo, hmKe⟩ := id hW
              show nwV X _ _ 5 H37 (1 + 2) (6 + 13) 100 [(0, .ref y), (1, .int (nI cn)), (2, .int (nI an)), (3, .int (nI bn)), (4, .int (nI sn))] [.ref a30, .ref (am 3)]
              refine nw_wide (k' := 3) (n' := 19) (by omega) (by omega) ?_
              have hRc := hR.ext hext
              obtain ⟨mo9, ar9, cap9, f9, hL9⟩ := nwLi_m hmGu.1
              have hr9 : ro (am 3) = 5004 := hR.2.2.2.2.2.1.2.2.1
              have hai9 := hR.ok0 (show ro (am 3) ≠ 0 by rw [hr9]; decide)
              have hAq : ∀ q8, q8 < H37.size → (q8 = am 3 ∨ ro q8 = 7004 ∨ H37.size ≤ q8) → nwAM ro H q8 := by
                intro q8 h8 h9
                rcases h9 with e9 | e9 | e9
                · exact Or.inl (by rw [e9, hr9]; decide +kernel)
                · exact Or.inl (by rw [e9]; decide +kernel)
                · exact absurd h8 (Nat.not_lt.mpr e9)
              refine nw_callF C (mJ3_add _ C.hfl d (am 3) (sg_gu σ).1 (fun k => am (300 + k)) (fun q => ro q = 7004) mo9 ar9 cap9 f9 a30 "NightwatchWallModel$Guard" H37 hB hai9.1 hL9 (fun q9 e9 => (hR.ok0 (show ro q9 ≠ 0 by rw [show ro q9 = 7004 from e9]; decide)).1) (show ¬ ro (am 3) = 7004 by rw [hr9]; decide) (Or.inl ⟨10, _, _, _, hgo, rfl⟩) q2141 (fun e9 => absurd hai9.2 (Nat.not_lt.mpr (by rw [← e9]; exact hn36))) hgo.lt (by omega)) kJ3_add (ci := 13) rfl q1730 q1733 (by decide +kernel) fc_List_add (nwLi.is hmGu.1 C) (As := [.ref a30]) (rest := []) rfl rfl ⟨⟨Nat.le_of_ble_eq_true rfl, Nat.le_of_ble_eq_true rfl⟩, (show 3 + 1 ≤ 4 by omega), (show 19 + 10 ≤ 33 by omega)⟩ (Nat.le_of_ble_eq_true rfl) hAq dX4_guard_100 105 rfl (fun v9 H41 hR42 hz43 hq44 => ?_) nw_noX
              obtain ⟨rfl, mo8, ar8, cap8, f8, hL8⟩ := hR42
              obtain ⟨ro1, am1, hR1, hk1⟩ := trm_gu hRc (v := sp_gd cn an bn sn) (by omega) ⟨(nwMW.new0 hR hn36), Nat.le_trans hB0 hn36⟩ ⟨nwMW.new0 hR hcl1, Nat.le_trans hB0 hcl1⟩ ⟨nwMW.new0 hR hcl2, Nat.le_trans hB0 hcl2⟩ ⟨hecl.1, hecl.2, hcl3⟩ hcc hgo hcl hz43 hq44 hL8
              obtain ⟨σ1, hσ1⟩ : ∃ t9 : spSg, t9 = st_gu σ ((sg_gu σ).1 + 1, sp_up (sg_gu σ).2 (sg_gu σ).1 (sp_gd cn an bn sn)) := ⟨_, rfl⟩
              rw [← hσ1] at hR1
              have hlen : (sg_gu σ1).1 = (sg_gu σ).1 + 1 := by rw [hσ1]; rfl
              replace hE := hE.kept (fun q9 g9 hb9 => hq44 q9 g9 (fun h9 => hb9 (C.hB q9 (hAq q9 g9 h9))))
              have hsz : H.size ≤ H41.size := Nat.le_trans (Nat.le_trans (Nat.le_of_eq hzb.symm) hext.1) hz43
              replace hB := Nat.le_trans hB hz43
              have ok9 : spOk σ1 := by rw [hσ1]; exact ⟨okg, okl, okf, oku.add (by omega) (okGd.one (by assumption) ⟨by omega, by omega, by omega, by omega⟩), okp, oki, okw, okd, okk.more (by show _ ≤ _ + 1; omega), oka⟩
              replace ok := ok9
              replace okM := ok.m
              replace hR := hR1
              replace hW := hR.wc
              clear hmX hmKi hmLa hmFo hmGu hmPo hmIn hmWi hmWo hmKe okg okl okf oku okp oki okw okd okk oka hn64 oku1 oki1 okp1 okw1 okl1 okf1
              obtain ⟨hmX, hmKi, hmLa, hmFo, hmGu, hmPo, hmIn, hmWi, hmWo, hmKe⟩ := id hW
              obtain ⟨okg, okl, okf, oku, okp, oki, okw, okd, okk, oka⟩ := id ok
              have hn64 : gr_n (sg_gr σ1) ≤ 64 := okg.n
              have oku1 := oku.1
              have oki1 := oki.1
              have okp1 := okp.1
              have okw1 := okw.1
              have okl1 := okl.1
              have okf1 := okf.1
              show nwV X _ _ 5 H41 (3 + 1) (19 + 10) 105 [(0, .ref y), (1, .int (nI cn)), (2, .int (nI an)), (3, .int (nI bn)), (4, .int (nI sn))] [.int (b2i true)]
              refine nw_wide (k' := 4) (n' := 29) (by omega) (by omega) ?_
              refine nw_pop C dX4_guard_105 rfl 106 rfl ?_
              refine nw_aload_n C 0 dX4_guard_106 rfl 107 rfl ?_
              refine nw_get C hmX (T := TX4) rfl in_X4 8 (by decide) q1630 (Or.inl rfl) rfl dX4_guard_107 110 rfl ?_
              refine nw_callF C (mJ3_size _ C.hfl d (am1 3) ((sg_gu σ1).1) (fun k => am1 (300 + k)) (fun q => ro1 q = 7004) H41 hB hmGu.1) kJ3_size (ci := 13) rfl q1607 q1611 (by decide +kernel) fc_List_size (hmGu.1.is C) (As := []) (rest := []) rfl rfl ⟨⟨Nat.le_of_ble_eq_true rfl, Nat.le_of_ble_eq_true rfl⟩, Nat.le_of_ble_eq_true rfl, Nat.le_of_ble_eq_true rfl⟩ (Nat.le_of_ble_eq_true rfl) (fun _ h8 h9 => absurd h9 (Nat.not_le.mpr h8)) dX4_guard_110 115 rfl (nw_rdK ?_) nw_noX
              refine nw_iconst C (nI 1) dX4_guard_115 (by decide) 116 rfl ?_
              refine nw_isubN C (by omega) dX4_guard_116 117 rfl ?_
              have hq1 : nw_rg 0 239 (nI bn) = true := nw_rgT (by omega) (by decide)
              have hq2 : ¬ nI bn < nI an := fun e9 => absurd ((nI_ltI (by omega) (by omega)).mp e9) (by omega)
              have hop : op_guard σ (nI cn) (nI an) (nI bn) (nI sn) = (0, nI (sg_gu σ).1, σ1) := by rw [hσ1]; simp [op_guard, sp_wall, hq1, hq2, h5, h7, h14, h21, h23, h29, en_cn, en_an, en_bn, en_sn, hfull]
              exact nw_iret C dX4_guard_117 (by omega) (by omega) (by rw [hop]; exact ⟨congrArg (fun z => some (Value.int z)) (show nI ((sg_gu σ1).1 - 1) = nI (sg_gu σ).1 by rw [hlen]; rfl), ok, hsz, ro1, am1, hR, hk1⟩)
            · refine nw_aload_n C 0 dX4_guard_78 rfl 79 rfl ?_
              refine nw_iconst C (nI 3) dX4_guard_79 (by decide) 80 rfl ?_
              refine nw_callV C (mX4_no _ C.hfl d y (.int (nI 0)) (.int (nI (gr_w (sg_gr σ)))) (.int (nI (gr_h (sg_gr σ)))) (.ref (am 9)) (.int (nI (gaM_f (sg_ga σ)))) (.int (oI (gaM_t (sg_ga σ)))) (.ref (am 1)) (.ref (am 2)) (.ref (am 3)) (.ref (am 4)) (.int (nI (wo_s (sg_wo σ)))) (.int (nI (wo_m (sg_wo σ)))) (.int (nI (sp_after (wo_x (sg_wo σ))))) (.ref (am 11)) (.ref (am 12)) (.int (nI (sg_ri σ))) (.ref (am 8)) (.ref (am 5)) (.ref (am 6)) (.int (nI (sg_rf σ))) (nI 3) H1 hB hyB hmX) kX4_no q1694 (hmX.is C (ci := 9) rfl) (As := [.int (nI 3)]) (rest := []) rfl rfl ⟨⟨Nat.le_of_ble_eq_true rfl, Nat.le_of_ble_eq_true rfl⟩, (show 0 + 0 ≤ 4 by omega), (show 0 + 0 ≤ 33 by omega)⟩ (Nat.le_of_ble_eq_true rfl) (fun q8 h8 h9 => h9.elim (fun e9 => by rw [e9]; exact hAy) (fun e9 => absurd h8 (Nat.not_lt.mpr e9))) dX4_guard_80 83 rfl (fun v9 H45 hR46 hz47 hq48 => ?_) nw_noX
              obtain ⟨rfl, ho49⟩ := hR46
              have hR8 := hR.ext hext
              have hR9 : nwMW d ro am y σ (nI 3) H45 := hR8.obj hz47 (fun q9 g9 n9 _ => hq48 q9 g9 (fun e9 => e9.elim n9 (Nat.not_le.mpr g9))) mSame.rfl ho49
              have hle9 : H.size ≤ H45.size := Nat.le_trans (Nat.le_of_eq hzb.symm) (Nat.le_trans hext.1 hz47)
              show nwV X _ _ 5 H45 (0 + 0) (0 + 0) 83 [(0, .ref y), (1, .int (nI cn)), (2, .int (nI an)), (3, .int (nI bn)), (4, .int (nI sn))] [.int (nI 0)]
              refine nw_wide (k' := 0) (n' := 0) (by omega) (by omega) ?_
              have hq1 : nw_rg 0 239 (nI bn) = true := nw_rgT (by omega) (by decide)
              have hq2 : ¬ nI bn < nI an := fun e9 => absurd ((nI_ltI (by omega) (by omega)).mp e9) (by omega)
              have hop : op_guard σ (nI cn) (nI an) (nI bn) (nI sn) = (3, 0, σ) := by simp [op_guard, sp_wall, hq1, hq2, h5, h7, h14, h21, h23, h29, en_cn, en_an, en_bn, en_sn, hfull]
              exact nw_iret C dX4_guard_83 (by omega) (by omega) (by rw [hop]; exact ⟨rfl, ok, hle9, ro, am, hR9, fun _ _ => rfl⟩)
        · refine nw_aload_n C 0 dX4_guard_48 rfl 49 rfl ?_
          refine nw_iconst C (nI 2) dX4_guard_49 (by decide) 50 rfl ?_
          refine nw_callV C (mX4_no _ C.hfl d y (.int (nI 0)) (.int (nI (gr_w (sg_gr σ)))) (.int (nI (gr_h (sg_gr σ)))) (.ref (am 9)) (.int (nI (gaM_f (sg_ga σ)))) (.int (oI (gaM_t (sg_ga σ)))) (.ref (am 1)) (.ref (am 2)) (.ref (am 3)) (.ref (am 4)) (.int (nI (wo_s (sg_wo σ)))) (.int (nI (wo_m (sg_wo σ)))) (.int (nI (sp_after (wo_x (sg_wo σ))))) (.ref (am 11)) (.ref (am 12)) (.int (nI (sg_ri σ))) (.ref (am 8)) (.ref (am 5)) (.ref (am 6)) (.int (nI (sg_rf σ))) (nI 2) H1 hB hyB hmX) kX4_no q1694 (hmX.is C (ci := 9) rfl) (As := [.int (nI 2)]) (rest := []) rfl rfl ⟨⟨Nat.le_of_ble_eq_true rfl, Nat.le_of_ble_eq_true rfl⟩, (show 0 + 0 ≤ 4 by omega), (show 0 + 0 ≤ 33 by omega)⟩ (Nat.le_of_ble_eq_true rfl) (fun q8 h8 h9 => h9.elim (fun e9 => by rw [e9]; exact hAy) (fun e9 => absurd h8 (Nat.not_lt.mpr e9))) dX4_guard_50 53 rfl (fun v9 H50 hR51 hz52 hq53 => ?_) nw_noX
          obtain ⟨rfl, ho54⟩ := hR51
          have hR8 := hR.ext hext
          have hR9 : nwMW d ro am y σ (nI 2) H50 := hR8.obj hz52 (fun q9 g9 n9 _ => hq53 q9 g9 (fun e9 => e9.elim n9 (Nat.not_le.mpr g9))) mSame.rfl ho54
          have hle9 : H.size ≤ H50.size := Nat.le_trans (Nat.le_of_eq hzb.symm) (Nat.le_trans hext.1 hz52)
          show nwV X _ _ 5 H50 (0 + 0) (0 + 0) 53 [(0, .ref y), (1, .int (nI cn)), (2, .int (nI an)), (3, .int (nI bn)), (4, .int s)] [.int (nI 0)]
          refine nw_wide (k' := 0) (n' := 0) (by omega) (by omega) ?_
          have hq1 : nw_rg 0 239 (nI bn) = true := nw_rgT (by omega) (by decide)
          have hq2 : ¬ nI bn < nI an := fun e9 => absurd ((nI_ltI (by omega) (by omega)).mp e9) (by omega)
          have hop : op_guard σ (nI cn) (nI an) (nI bn) s = (2, 0, σ) := by simp [op_guard, sp_wall, hq1, hq2, h5, h7, h14, h21, en_cn, en_an, en_bn]
          exact nw_iret C dX4_guard_53 (by omega) (by omega) (by rw [hop]; exact ⟨rfl, ok, hle9, ro, am, hR9, fun _ _ => rfl⟩)
  · refine nw_aload_n C 0 dX4_guard_13 rfl 14 rfl ?_
    refine nw_iconst C (nI 1) dX4_guard_14 (by decide) 15 rfl ?_
    refine nw_callV C (mX4_no _ C.hfl d y (.int (nI 0)) (.int (nI (gr_w (sg_gr σ)))) (.int (nI (gr_h (sg_gr σ)))) (.ref (am 9)) (.int (nI (gaM_f (sg_ga σ)))) (.int (oI (gaM_t (sg_ga σ)))) (.ref (am 1)) (.ref (am 2)) (.ref (am 3)) (.ref (am 4)) (.int (nI (wo_s (sg_wo σ)))) (.int (nI (wo_m (sg_wo σ)))) (.int (nI (sp_after (wo_x (sg_wo σ))))) (.ref (am 11)) (.ref (am 12)) (.int (nI (sg_ri σ))) (.ref (am 8)) (.ref (am 5)) (.ref (am 6)) (.int (nI (sg_rf σ))) (nI 1) H1 hB hyB hmX) kX4_no q1694 (hmX.is C (ci := 9) rfl) (As := [.int (nI 1)]) (rest := []) rfl rfl ⟨⟨Nat.le_of_ble_eq_true rfl, Nat.le_of_ble_eq_true rfl⟩, (show 0 + 0 ≤ 4 by omega), (show 0 + 0 ≤ 33 by omega)⟩ (Nat.le_of_ble_eq_true rfl) (fun q8 h8 h9 => h9.elim (fun e9 => by rw [e9]; exact hAy) (fun e9 => absurd h8 (Nat.not_lt.mpr e9))) dX4_guard_15 18 rfl (fun v9 H55 hR56 hz57 hq58 => ?_) nw_noX
    obtain ⟨rfl, ho59⟩ := hR56
    have hR8 := hR.ext hext
    have hR9 : nwMW d ro am y σ (nI 1) H55 := hR8.obj hz57 (fun q9 g9 n9 _ => hq58 q9 g9 (fun e9 => e9.elim n9 (Nat.not_le.mpr g9))) mSame.rfl ho59
    have hle9 : H.size ≤ H55.size := Nat.le_trans (Nat.le_of_eq hzb.symm) (Nat.le_trans hext.1 hz57)
    show nwV X _ _ 5 H55 (0 + 0) (0 + 0) 18 [(0, .ref y), (1, .int c), (2, .int a), (3, .int b), (4, .int s)] [.int (nI 0)]
    refine nw_wide (k' := 0) (n' := 0) (by omega) (by omega) ?_
    have hop : op_guard σ c a b s = (1, 0, σ) := by simp [op_guard, sp_wall, h5]
    exact nw_iret C dX4_guard_18 (by omega) (by omega) (by rw [hop]; exact ⟨rfl, ok, hle9, ro, am, hR9, fun _ _ => rfl⟩)
set_option maxHeartbeats 4000000 in
theorem mX4_round (l : Launch) (hf : l.flags = flags0) (d : nwD) (ro am : Nat → Nat) (y : Nat) (σ : spSg) (th : Int32) (g : Int32) (c : Int32) (H : Heap) (hB : nd_B d ≤ H.size) (hR : nwMW d ro am y σ th H) (ok : spOk σ) : nwMt l d yX4_round cX4_round 4 (some .int) 5 108 1 10 [.ref y, .int g, .int c] H (nwMv d ro y (op_round σ g c) H) nwNo (nwAM ro H) := by
  refine nw_start "NightwatchWallModel" "round" hf (by decide +kernel) rfl rfl (fun _ h => Or.inr h) (nwAM_B hR hB) (Nat.le_of_ble_eq_true rfl) ?_
  intro X C
  have hW := hR.wc
  have okM := ok.m
  have hyB := (hR.ok0 (show ro y ≠ 0 by rw [hR.2.1.2]; decide)).1
  have hAy : nwAM ro H y := Or.inl (by rw [hR.2.1.2]; decide +kernel)
  have hW0 := hW
  have hB0 := hB
  have hE := C.E0
  have hext : nwExt H H := nwExt.rfl
  obtain ⟨hmX, hmKi, hmLa, hmFo, hmGu, hmPo, hmIn, hmWi, hmWo, hmKe⟩ := id hW
  obtain ⟨okg, okl, okf, oku, okp, oki, okw, okd, okk, oka⟩ := id ok
  have hn64 : gr_n (sg_gr σ) ≤ 64 := okg.n
  have oku1 := oku.1
  have oki1 := oki.1
  have okp1 := okp.1
  have okw1 := okw.1
  have okl1 := okl.1
  have okf1 := okf.1
  show nwV X _ _ 4 H 0 0 0 [(0, .ref y), (1, .int g), (2, .int c)] []
  refine nw_aload_n C 0 dX4_round_0 rfl 1 rfl ?_
  refine nw_iconst C (nI 0) dX4_round_1 (by decide) 2 rfl ?_
  refine nw_put C hmX hAy (T := TX4) (ty0 := tyX4) rfl in_X4 tyX4_ok nmX4 0 (by decide) q1622 (Or.inl rfl) rfl rfl rfl (Nat.le_of_ble_eq_true rfl) dX4_round_2 5 rfl (fun H1 ho2 hz3 hq4 => ?_)
  have ho2 : nwO d y 9 [.int (nI 0), .int (nI (gr_w (sg_gr σ))), .int (nI (gr_h (sg_gr σ))), .ref (am 9), .int (nI (gaM_f (sg_ga σ))), .int (oI (gaM_t (sg_ga σ))), .ref (am 1), .ref (am 2), .ref (am 3), .ref (am 4), .int (nI (wo_s (sg_wo σ))), .int (nI (wo_m (sg_wo σ))), .int (nI (sp_after (wo_x (sg_wo σ)))), .ref (am 11), .ref (am 12), .int (nI (sg_ri σ)), .ref (am 8), .ref (am 5), .ref (am 6), .int (nI (sg_rf σ))] H1 := ho2
  replace hR := hR.th hz3 hq4 ho2
  have hzb : H1.size = H.size := hz3
  replace hB0 : nd_B d ≤ H1.size := by rw [hz3]; exact hB0
  replace hB := hB0
  replace hE := hE.kept (fun q9 _ hb9 => hq4 q9 (fun e9 => hb9 (by rw [e9]; exact hyB)))
  have hE0 := hE
  replace hW0 := hR.wc
  replace hW := hW0
  replace hext : nwExt H1 H1 := nwExt.rfl
  clear hmX hmKi hmLa hmFo hmGu hmPo hmIn hmWi hmWo hmKe
  obtain ⟨hmX, hmKi, hmLa, hmFo, hmGu, hmPo, hmIn, hmWi, hmWo, hmKe⟩ := id hW
  refine nw_aload_n C 0 dX4_round_5 rfl 6 rfl ?_
  refine nw_iload_n C 1 dX4_round_6 rfl 7 rfl ?_
  refine nw_callV C (mX4_isGuard _ C.hfl d ro am y σ (nI 0) g H1 hB hW okM ) kX4_isGuard q1808 (hmX.is C (ci := 9) rfl) (As := [.int g]) (rest := []) rfl rfl ⟨⟨Nat.le_of_ble_eq_true rfl, Nat.le_of_ble_eq_true rfl⟩, Nat.le_of_ble_eq_true rfl, Nat.le_of_ble_eq_true rfl⟩ (Nat.le_of_ble_eq_true rfl) (fun _ h8 h9 => absurd h9 (Nat.not_le.mpr h8)) dX4_round_7 10 rfl (nw_rdK ?_) nw_noX
  refine nw_ifeqB C 21 dX4_round_10 (by decide) 13 rfl (fun h5 => ?_) (fun h5 => ?_)
  · refine nw_aload_n C 0 dX4_round_21 rfl 22 rfl ?_
    refine nw_iconst C (nI 1) dX4_round_22 (by decide) 23 rfl ?_
    refine nw_callV C (mX4_no _ C.hfl d y (.int (nI 0)) (.int (nI (gr_w (sg_gr σ)))) (.int (nI (gr_h (sg_gr σ)))) (.ref (am 9)) (.int (nI (gaM_f (sg_ga σ)))) (.int (oI (gaM_t (sg_ga σ)))) (.ref (am 1)) (.ref (am 2)) (.ref (am 3)) (.ref (am 4)) (.int (nI (wo_s (sg_wo σ)))) (.int (nI (wo_m (sg_wo σ)))) (.int (nI (sp_after (wo_x (sg_wo σ))))) (.ref (am 11)) (.ref (am 12)) (.int (nI (sg_ri σ))) (.ref (am 8)) (.ref (am 5)) (.ref (am 6)) (.int (nI (sg_rf σ))) (nI 1) H1 hB hyB hmX) kX4_no q1694 (hmX.is C (ci := 9) rfl) (As := [.int (nI 1)]) (rest := []) rfl rfl ⟨⟨Nat.le_of_ble_eq_true rfl, Nat.le_of_ble_eq_true rfl⟩, (show 0 + 0 ≤ 1 by omega), (show 0 + 0 ≤ 10 by omega)⟩ (Nat.le_of_ble_eq_true rfl) (fun q8 h8 h9 => h9.elim (fun e9 => by rw [e9]; exact hAy) (fun e9 => absurd h8 (Nat.not_lt.mpr e9))) dX4_round_23 26 rfl (fun v9 H6 hR7 hz8 hq9 => ?_) nw_noX
    obtain ⟨rfl, ho10⟩ := hR7
    have hR8 := hR.ext hext
    have hR9 : nwMW d ro am y σ (nI 1) H6 := hR8.obj hz8 (fun q9 g9 n9 _ => hq9 q9 g9 (fun e9 => e9.elim n9 (Nat.not_le.mpr g9))) mSame.rfl ho10
    have hle9 : H.size ≤ H6.size := Nat.le_trans (Nat.le_of_eq hzb.symm) (Nat.le_trans hext.1 hz8)
    show nwV X _ _ 4 H6 (0 + 0) (0 + 0) 26 [(0, .ref y), (1, .int g), (2, .int c)] [.int (nI 0)]
    refine nw_wide (k' := 0) (n' := 0) (by omega) (by omega) ?_
    have hop : op_round σ g c = (1, 0, σ) := by simp [op_round, h5, sp_wall]
    exact nw_iret C dX4_round_26 (by omega) (by omega) (by rw [hop]; exact ⟨rfl, ok, hle9, ro, am, hR9, fun _ _ => rfl⟩)
  · obtain ⟨gn, hk11, rfl⟩ := nw_ix_nat (by omega) h5
    have en_gn : nw_nn (nI gn) = gn := nw_nn_nI (by omega)
    refine nw_aload_n C 0 dX4_round_13 rfl 14 rfl ?_
    refine nw_iload_n C 2 dX4_round_14 rfl 15 rfl ?_
    refine nw_callV C (mX4_isCell _ C.hfl d ro am y σ (nI 0) c H1 hB hW okM ) kX4_isCell q1702 (hmX.is C (ci := 9) rfl) (As := [.int c]) (rest := []) rfl rfl ⟨⟨Nat.le_of_ble_eq_true rfl, Nat.le_of_ble_eq_true rfl⟩, Nat.le_of_ble_eq_true rfl, Nat.le_of_ble_eq_true rfl⟩ (Nat.le_of_ble_eq_true rfl) (fun _ h8 h9 => absurd h9 (Nat.not_le.mpr h8)) dX4_round_15 18 rfl (nw_rdK ?_) nw_noX
    refine nw_ifneB C 27 dX4_round_18 (by decide) 21 rfl (fun h12 => ?_) (fun h12 => ?_)
    · obtain ⟨cn, hk13, rfl⟩ := nw_ix_nat (by omega) h12
      have en_cn : nw_nn (nI cn) = cn := nw_nn_nI (by omega)
      refine nw_aload_n C 0 dX4_round_27 rfl 28 rfl ?_
      refine nw_get C hmX (T := TX4) rfl in_X4 8 (by decide) q1630 (Or.inl rfl) rfl dX4_round_28 31 rfl ?_
      refine nw_iload_n C 1 dX4_round_31 rfl 32 rfl ?_
      refine nw_callF C (mJ3_get _ C.hfl d (am 3) ((sg_gu σ).1) (fun k => am (300 + k)) (fun q => ro q = 7004) gn H1 hB hmGu.1 (by omega)) kJ3_get (ci := 13) rfl q1615 q1618 (by decide +kernel) fc_List_get (hmGu.1.is C) (As := [.int (nI gn)]) (rest := []) rfl rfl ⟨⟨Nat.le_of_ble_eq_true rfl, Nat.le_of_ble_eq_true rfl⟩, Nat.le_of_ble_eq_true rfl, Nat.le_of_ble_eq_true rfl⟩ (Nat.le_of_ble_eq_true rfl) (fun _ h8 h9 => absurd h9 (Nat.not_le.mpr h8)) dX4_round_32 37 rfl (nw_rdK ?_) nw_noX
      have hg14 : nwMGd d (am (300 + gn)) (am (400 + gn)) (fun q => ro q = 7401 + gn) ((sg_gu σ).2 gn) H1 := hmGu.2 gn (by omega)
      have hk15 : okGd (sg_gr σ) ((sg_gu σ).2 gn) := oku.2 gn (by omega)
      have hg16 : nwO d (am (300 + gn)) 10 [.int (nI (gd_a ((sg_gu σ).2 gn))), .int (nI (gd_b ((sg_gu σ).2 gn))), .int (nI (gd_s ((sg_gu σ).2 gn))), .ref (am (400 + gn)), .int (nI (gd_k ((sg_gu σ).2 gn))), .int (gd_h ((sg_gu σ).2 gn))] H1 := hg14.1
      refine nw_cast C (ci := 10) rfl (hg16.is C (ci := 10) rfl) q1621 dX4_round_37 40 rfl ?_
      refine nw_astore_n C [(3, .ref (am (300 + gn))), (0, .ref y), (1, .int (nI gn)), (2, .int (nI cn))] dX4_round_40 (by decide) rfl 41 rfl ?_
      have hgm9 := (oku.2 gn (by omega)).1.2.2.2.2.2.1
      refine nw_aload_n C 0 dX4_round_41 rfl 42 rfl ?_
      refine nw_get C hg16 (T := TX11) rfl in_X11 3 (by decide) q1788 (Or.inl rfl) rfl dX4_round_42 45 rfl ?_
      refine nw_callF C (mJ3_size _ C.hfl d (am (400 + gn)) (gd_m ((sg_gu σ).2 gn)) (fun j => nd_bx d (gd_c ((sg_gu σ).2 gn) j)) (fun q => ro q = 7401 + gn) H1 hB hg14.2) kJ3_size (ci := 13) rfl q1607 q1611 (by decide +kernel) fc_List_size (hg14.2.is C) (As := []) (rest := []) rfl rfl ⟨⟨Nat.le_of_ble_eq_true rfl, Nat.le_of_ble_eq_true rfl⟩, Nat.le_of_ble_eq_true rfl, Nat.le_of_ble_eq_true rfl⟩ (Nat.le_of_ble_eq_true rfl) (fun _ h8 h9 => absurd h9 (Nat.not_le.mpr h8)) dX4_round_45 50 rfl (nw_rdK ?_) nw_noX
      refine nw_bipush C (nI 6) dX4_round_50 (by decide) 52 rfl ?_
      refine nw_icmpeqN C (by omega) 65 dX4_round_52 (by decide) 55 rfl (fun h17 => ?_) (fun h17 => ?_)
      · have hfull : 6 ≤ gd_m ((sg_gu σ).2 gn) := by omega
        refine nw_aload_n C 1 dX4_round_65 rfl 66 rfl ?_
        refine nw_iconst C (nI 2) dX4_round_66 (by decide) 67 rfl ?_
        refine nw_callV C (mX4_no _ C.hfl d y (.int (nI 0)) (.int (nI (gr_w (sg_gr σ)))) (.int (nI (gr_h (sg_gr σ)))) (.ref (am 9)) (.int (nI (gaM_f (sg_ga σ)))) (.int (oI (gaM_t (sg_ga σ)))) (.ref (am 1)) (.ref (am 2)) (.ref (am 3)) (.ref (am 4)) (.int (nI (wo_s (sg_wo σ)))) (.int (nI (wo_m (sg_wo σ)))) (.int (nI (sp_after (wo_x (sg_wo σ))))) (.ref (am 11)) (.ref (am 12)) (.int (nI (sg_ri σ))) (.ref (am 8)) (.ref (am 5)) (.ref (am 6)) (.int (nI (sg_rf σ))) (nI 2) H1 hB hyB hmX) kX4_no q1694 (hmX.is C (ci := 9) rfl) (As := [.int (nI 2)]) (rest := []) rfl rfl ⟨⟨Nat.le_of_ble_eq_true rfl, Nat.le_of_ble_eq_true rfl⟩, (show 0 + 0 ≤ 1 by omega), (show 0 + 0 ≤ 10 by omega)⟩ (Nat.le_of_ble_eq_true rfl) (fun q8 h8 h9 => h9.elim (fun e9 => by rw [e9]; exact hAy) (fun e9 => absurd h8 (Nat.not_lt.mpr e9))) dX4_round_67 70 rfl (fun v9 H18 hR19 hz20 hq21 => ?_) nw_noX
        obtain ⟨rfl, ho22⟩ := hR19
        have hR8 := hR.ext hext
        have hR9 : nwMW d ro am y σ (nI 2) H18 := hR8.obj hz20 (fun q9 g9 n9 _ => hq21 q9 g9 (fun e9 => e9.elim n9 (Nat.not_le.mpr g9))) mSame.rfl ho22
        have hle9 : H.size ≤ H18.size := Nat.le_trans (Nat.le_of_eq hzb.symm) (Nat.le_trans hext.1 hz20)
        show nwV X _ _ 4 H18 (0 + 0) (0 + 0) 70 [(3, .ref (am (300 + gn))), (0, .ref y), (1, .int (nI gn)), (2, .int (nI cn))] [.int (nI 0)]
        refine nw_wide (k' := 0) (n' := 0) (by omega) (by omega) ?_
        have hop : op_round σ (nI gn) (nI cn) = (2, 0, σ) := by simp [op_round, h5, h12, h17, en_gn, en_cn, hfull, sp_wall]
        exact nw_iret C dX4_round_70 (by omega) (by omega) (by rw [hop]; exact ⟨rfl, ok, hle9, ro, am, hR9, fun _ _ => rfl⟩)
      · have hfull : ¬ 6 ≤ gd_m ((sg_gu σ).2 gn) := by omega
        have hk4 : gr_k (sg_gr σ) cn < 4 := (okg.here (show cn < gr_n (sg_gr σ) by omega)).2 cn (by omega)
        refine nw_aload_n C 1 dX4_round_55 rfl 56 rfl ?_
        refine nw_get C hmX (T := TX4) rfl in_X4 3 (by decide) q1625 (Or.inl rfl) rfl dX4_round_56 59 rfl ?_
        refine nw_iload_n C 3 dX4_round_59 rfl 60 rfl ?_
        refine nw_ialdN C (nI (gr_k (sg_gr σ) cn)) hmKi (by omega) rfl dX4_round_60 61 rfl ?_
        refine nw_iconst C (nI 1) dX4_round_61 (by decide) 62 rfl ?_
        refine nw_icmpneN C (by omega) 71 dX4_round_62 (by decide) 65 rfl (fun h23 => ?_) (fun h23 => ?_)
        · refine nw_aload_n C 0 dX4_round_71 rfl 72 rfl ?_
          refine nw_get C hg16 (T := TX11) rfl in_X11 3 (by decide) q1788 (Or.inl rfl) rfl dX4_round_72 75 rfl ?_
          refine nw_iload_n C 3 dX4_round_75 rfl 76 rfl ?_
          refine nw_callS C (mJ19_valueOf _ C.hfl d cn H1 hB (by omega)) kJ19_valueOf q1812 (As := [.int (nI cn)]) (rest := [.ref (am (400 + gn))]) rfl rfl ⟨⟨Nat.le_of_ble_eq_true rfl, Nat.le_of_ble_eq_true rfl⟩, Nat.le_of_ble_eq_true rfl, Nat.le_of_ble_eq_true rfl⟩ (Nat.le_of_ble_eq_true rfl) (fun _ h8 h9 => absurd h9 (Nat.not_le.mpr h8)) dX4_round_76 79 rfl (nw_rdK ?_) nw_noX
          have hRc := hR.ext hext
          obtain ⟨mo9, ar9, cap9, f9, hL9⟩ := nwLi_m hg14.2
          have hr9 : ro (am (400 + gn)) = 5401 + gn := (hR.2.2.2.2.2.1.2.2.2 gn (by omega)).2
          have hai9 := hR.ok0 (show ro (am (400 + gn)) ≠ 0 by rw [hr9]; omega)
          have hAq : ∀ q8, q8 < H1.size → (q8 = am (400 + gn) ∨ ro q8 = 7401 + gn ∨ H1.size ≤ q8) → nwAM ro H q8 := by
            intro q8 h8 h9
            rcases h9 with e9 | e9 | e9
            · exact Or.inl (by rw [e9, hr9, rp_5401 gn (by omega)]; decide)
            · exact Or.inl (by rw [e9, rp_7401 gn (by omega)]; decide)
            · exact absurd h8 (Nat.not_lt.mpr e9)
          have hk9 := hk15
          refine nw_callF C (mJ3_add _ C.hfl d (am (400 + gn)) (gd_m ((sg_gu σ).2 gn)) (fun k => nd_bx d (gd_c ((sg_gu σ).2 gn) k)) (fun q => ro q = 7401 + gn) mo9 ar9 cap9 f9 (nd_bx d cn) "java/lang/Integer" H1 hB hai9.1 hL9 (fun q9 e9 => (hR.ok0 (show ro q9 ≠ 0 by rw [show ro q9 = 7401 + gn from e9]; omega)).1) (show ¬ ro (am (400 + gn)) = 7401 + gn by rw [hr9]; omega) (nwEl.box (by omega)) q2140 (nwE.bxne hE (by omega) hai9.1) (nwE.bxlt hE (by omega)) (by omega)) kJ3_add (ci := 13) rfl q1730 q1733 (by decide +kernel) fc_List_add (nwLi.is hg14.2 C) (As := [.ref (nd_bx d cn)]) (rest := []) rfl rfl ⟨⟨Nat.le_of_ble_eq_true rfl, Nat.le_of_ble_eq_true rfl⟩, (show 0 + 1 ≤ 1 by omega), (show 0 + 10 ≤ 10 by omega)⟩ (Nat.le_of_ble_eq_true rfl) hAq dX4_round_79 84 rfl (fun v9 H24 hR25 hz26 hq27 => ?_) nw_noX
          obtain ⟨rfl, mo8, ar8, cap8, f8, hL8⟩ := hR25
          obtain ⟨ro1, hR1, hk1⟩ := trm_gc hRc (c := cn) hB (by omega) hz26 hq27 hL8
          obtain ⟨σ1, hσ1⟩ : ∃ t9 : spSg, t9 = st_gu σ ((sg_gu σ).1, sp_up (sg_gu σ).2 gn (gd_add ((sg_gu σ).2 gn) cn)) := ⟨_, rfl⟩
          rw [← hσ1] at hR1
          have hlen : (sg_gu σ1).1 = (sg_gu σ).1 := by rw [hσ1]; rfl
          have hgd1 : (sg_gu σ1).2 gn = gd_add ((sg_gu σ).2 gn) cn := by rw [hσ1]; exact sp_up_at _ _ _
          replace hE := hE.kept (fun q9 g9 hb9 => hq27 q9 g9 (fun h9 => hb9 (C.hB q9 (hAq q9 g9 h9))))
          have hsz : H.size ≤ H24.size := Nat.le_trans (Nat.le_trans (Nat.le_of_eq hzb.symm) hext.1) hz26
          replace hB := Nat.le_trans hB hz26
          have ok9 : spOk σ1 := by rw [hσ1]; exact ⟨okg, okl, okf, oku.put (hk9.add (by omega) (by assumption)), okp, oki, okw, okd, okk, oka⟩
          replace ok := ok9
          replace okM := ok.m
          replace hR := hR1
          replace hW := hR.wc
          clear hmX hmKi hmLa hmFo hmGu hmPo hmIn hmWi hmWo hmKe okg okl okf oku okp oki okw okd okk oka hn64 oku1 oki1 okp1 okw1 okl1 okf1
          obtain ⟨hmX, hmKi, hmLa, hmFo, hmGu, hmPo, hmIn, hmWi, hmWo, hmKe⟩ := id hW
          obtain ⟨okg, okl, okf, oku, okp, oki, okw, okd, okk, oka⟩ := id ok
          have hn64 : gr_n (sg_gr σ1) ≤ 64 := okg.n
          have oku1 := oku.1
          have oki1 := oki.1
          have okp1 := okp.1
          have okw1 := okw.1
          have okl1 := okl.1
          have okf1 := okf.1
          have hgd9 := hmGu.2 gn (by rw [hlen]; omega)
          have hlt9 : gn < (sg_gu σ1).1 := by rw [hlen]; assumption
          have hg28 : nwMGd d (am (300 + gn)) (am (400 + gn)) (fun q => ro1 q = 7401 + gn) ((sg_gu σ1).2 gn) H24 := hmGu.2 gn (by omega)
          have hk29 : okGd (sg_gr σ1) ((sg_gu σ1).2 gn) := oku.2 gn (by omega)
          have hg30 : nwO d (am (300 + gn)) 10 [.int (nI (gd_a ((sg_gu σ1).2 gn))), .int (nI (gd_b ((sg_gu σ1).2 gn))), .int (nI (gd_s ((sg_gu σ1).2 gn))), .ref (am (400 + gn)), .int (nI (gd_k ((sg_gu σ1).2 gn))), .int (gd_h ((sg_gu σ1).2 gn))] H24 := hg28.1
          show nwV X _ _ 4 H24 (0 + 1) (0 + 10) 84 [(3, .ref (am (300 + gn))), (0, .ref y), (1, .int (nI gn)), (2, .int (nI cn))] [.int (b2i true)]
          refine nw_wide (k' := 1) (n' := 10) (by omega) (by omega) ?_
          refine nw_pop C dX4_round_84 rfl 85 rfl ?_
          refine nw_aload_n C 0 dX4_round_85 rfl 86 rfl ?_
          refine nw_get C hg30 (T := TX11) rfl in_X11 3 (by decide) q1788 (Or.inl rfl) rfl dX4_round_86 89 rfl ?_
          refine nw_callF C (mJ3_size _ C.hfl d (am (400 + gn)) (gd_m ((sg_gu σ1).2 gn)) (fun j => nd_bx d (gd_c ((sg_gu σ1).2 gn) j)) (fun q => ro1 q = 7401 + gn) H24 hB hg28.2) kJ3_size (ci := 13) rfl q1607 q1611 (by decide +kernel) fc_List_size (hg28.2.is C) (As := []) (rest := []) rfl rfl ⟨⟨Nat.le_of_ble_eq_true rfl, Nat.le_of_ble_eq_true rfl⟩, Nat.le_of_ble_eq_true rfl, Nat.le_of_ble_eq_true rfl⟩ (Nat.le_of_ble_eq_true rfl) (fun _ h8 h9 => absurd h9 (Nat.not_le.mpr h8)) dX4_round_89 94 rfl (nw_rdK ?_) nw_noX
          have hop : op_round σ (nI gn) (nI cn) = (0, nI (gd_m ((sg_gu σ).2 gn) + 1), σ1) := by rw [hσ1]; simp [op_round, h5, h12, h17, h23, en_gn, en_cn, hfull, sp_wall]
          exact nw_iret C dX4_round_94 (by omega) (by omega) (by rw [hop]; exact ⟨congrArg (fun z => some (Value.int z)) (show nI (gd_m ((sg_gu σ1).2 gn)) = nI (gd_m ((sg_gu σ).2 gn) + 1) by rw [hgd1]; rfl), ok, hsz, ro1, am, hR, hk1⟩)
        · refine nw_aload_n C 1 dX4_round_65 rfl 66 rfl ?_
          refine nw_iconst C (nI 2) dX4_round_66 (by decide) 67 rfl ?_
          refine nw_callV C (mX4_no _ C.hfl d y (.int (nI 0)) (.int (nI (gr_w (sg_gr σ)))) (.int (nI (gr_h (sg_gr σ)))) (.ref (am 9)) (.int (nI (gaM_f (sg_ga σ)))) (.int (oI (gaM_t (sg_ga σ)))) (.ref (am 1)) (.ref (am 2)) (.ref (am 3)) (.ref (am 4)) (.int (nI (wo_s (sg_wo σ)))) (.int (nI (wo_m (sg_wo σ)))) (.int (nI (sp_after (wo_x (sg_wo σ))))) (.ref (am 11)) (.ref (am 12)) (.int (nI (sg_ri σ))) (.ref (am 8)) (.ref (am 5)) (.ref (am 6)) (.int (nI (sg_rf σ))) (nI 2) H1 hB hyB hmX) kX4_no q1694 (hmX.is C (ci := 9) rfl) (As := [.int (nI 2)]) (rest := []) rfl rfl ⟨⟨Nat.le_of_ble_eq_true rfl, Nat.le_of_ble_eq_true rfl⟩, (show 0 + 0 ≤ 1 by omega), (show 0 + 0 ≤ 10 by omega)⟩ (Nat.le_of_ble_eq_true rfl) (fun q8 h8 h9 => h9.elim (fun e9 => by rw [e9]; exact hAy) (fun e9 => absurd h8 (Nat.not_lt.mpr e9))) dX4_round_67 70 rfl (fun v9 H31 hR32 hz33 hq34 => ?_) nw_noX
          obtain ⟨rfl, ho35⟩ := hR32
          have hR8 := hR.ext hext
          have hR9 : nwMW d ro am y σ (nI 2) H31 := hR8.obj hz33 (fun q9 g9 n9 _ => hq34 q9 g9 (fun e9 => e9.elim n9 (Nat.not_le.mpr g9))) mSame.rfl ho35
          have hle9 : H.size ≤ H31.size := Nat.le_trans (Nat.le_of_eq hzb.symm) (Nat.le_trans hext.1 hz33)
          show nwV X _ _ 4 H31 (0 + 0) (0 + 0) 70 [(3, .ref (am (300 + gn))), (0, .ref y), (1, .int (nI gn)), (2, .int (nI cn))] [.int (nI 0)]
          refine nw_wide (k' := 0) (n' := 0) (by omega) (by omega) ?_
          have hop : op_round σ (nI gn) (nI cn) = (2, 0, σ) := by simp [op_round, h5, h12, h17, h23, en_gn, en_cn, hfull, sp_wall]
          exact nw_iret C dX4_round_70 (by omega) (by omega) (by rw [hop]; exact ⟨rfl, ok, hle9, ro, am, hR9, fun _ _ => rfl⟩)
    · refine nw_aload_n C 0 dX4_round_21 rfl 22 rfl ?_
      refine nw_iconst C (nI 1) dX4_round_22 (by decide) 23 rfl ?_
      refine nw_callV C (mX4_no _ C.hfl d y (.int (nI 0)) (.int (nI (gr_w (sg_gr σ)))) (.int (nI (gr_h (sg_gr σ)))) (.ref (am 9)) (.int (nI (gaM_f (sg_ga σ)))) (.int (oI (gaM_t (sg_ga σ)))) (.ref (am 1)) (.ref (am 2)) (.ref (am 3)) (.ref (am 4)) (.int (nI (wo_s (sg_wo σ)))) (.int (nI (wo_m (sg_wo σ)))) (.int (nI (sp_after (wo_x (sg_wo σ))))) (.ref (am 11)) (.ref (am 12)) (.int (nI (sg_ri σ))) (.ref (am 8)) (.ref (am 5)) (.ref (am 6)) (.int (nI (sg_rf σ))) (nI 1) H1 hB hyB hmX) kX4_no q1694 (hmX.is C (ci := 9) rfl) (As := [.int (nI 1)]) (rest := []) rfl rfl ⟨⟨Nat.le_of_ble_eq_true rfl, Nat.le_of_ble_eq_true rfl⟩, (show 0 + 0 ≤ 1 by omega), (show 0 + 0 ≤ 10 by omega)⟩ (Nat.le_of_ble_eq_true rfl) (fun q8 h8 h9 => h9.elim (fun e9 => by rw [e9]; exact hAy) (fun e9 => absurd h8 (Nat.not_lt.mpr e9))) dX4_round_23 26 rfl (fun v9 H36 hR37 hz38 hq39 => ?_) nw_noX
      obtain ⟨rfl, ho40⟩ := hR37
      have hR8 := hR.ext hext
      have hR9 : nwMW d ro am y σ (nI 1) H36 := hR8.obj hz38 (fun q9 g9 n9 _ => hq39 q9 g9 (fun e9 => e9.elim n9 (Nat.not_le.mpr g9))) mSame.rfl ho40
      have hle9 : H.size ≤ H36.size := Nat.le_trans (Nat.le_of_eq hzb.symm) (Nat.le_trans hext.1 hz38)
      show nwV X _ _ 4 H36 (0 + 0) (0 + 0) 26 [(0, .ref y), (1, .int (nI gn)), (2, .int c)] [.int (nI 0)]
      refine nw_wide (k' := 0) (n' := 0) (by omega) (by omega) ?_
      have hop : op_round σ (nI gn) c = (1, 0, σ) := by simp [op_round, h5, h12, en_gn, sp_wall]
      exact nw_iret C dX4_round_26 (by omega) (by omega) (by rw [hop]; exact ⟨rfl, ok, hle9, ro, am, hR9, fun _ _ => rfl⟩)
set_option maxHeartbeats 4000000 in
theorem mX4_light (l : Launch) (hf : l.flags = flags0) (d : nwD) (ro am : Nat → Nat) (y : Nat) (σ : spSg) (th : Int32) (p : Int32) (b : Bool) (H : Heap) (hB : nd_B d ≤ H.size) (hR : nwMW d ro am y σ th H) (ok : spOk σ) : nwMt l d yX4_light cX4_light 3 (some .int) 6 137 0 0 [.ref y, .int p, .int (b2i b)] H (nwMv d ro y (op_light σ p b) H) nwNo (nwAM ro H) := by
  refine nw_start "NightwatchWallModel" "light" hf (by decide +kernel) rfl rfl (fun _ h => Or.inr h) (nwAM_B hR hB) (Nat.le_of_ble_eq_true rfl) ?_
  intro X C
  have hW := hR.wc
  have okM := ok.m
  have hyB := (hR.ok0 (show ro y ≠ 0 by rw [hR.2.1.2]; decide)).1
  have hAy : nwAM ro H y := Or.inl (by rw [hR.2.1.2]; decide +kernel)
  have hW0 := hW
  have hB0 := hB
  have hE := C.E0
  have hext : nwExt H H := nwExt.rfl
  obtain ⟨hmX, hmKi, hmLa, hmFo, hmGu, hmPo, hmIn, hmWi, hmWo, hmKe⟩ := id hW
  obtain ⟨okg, okl, okf, oku, okp, oki, okw, okd, okk, oka⟩ := id ok
  have hn64 : gr_n (sg_gr σ) ≤ 64 := okg.n
  have oku1 := oku.1
  have oki1 := oki.1
  have okp1 := okp.1
  have okw1 := okw.1
  have okl1 := okl.1
  have okf1 := okf.1
  show nwV X _ _ 3 H 0 0 0 [(0, .ref y), (1, .int p), (2, .int (b2i b))] []
  refine nw_aload_n C 0 dX4_light_0 rfl 1 rfl ?_
  refine nw_iconst C (nI 0) dX4_light_1 (by decide) 2 rfl ?_
  refine nw_put C hmX hAy (T := TX4) (ty0 := tyX4) rfl in_X4 tyX4_ok nmX4 0 (by decide) q1622 (Or.inl rfl) rfl rfl rfl (Nat.le_of_ble_eq_true rfl) dX4_light_2 5 rfl (fun H1 ho2 hz3 hq4 => ?_)
  have ho2 : nwO d y 9 [.int (nI 0), .int (nI (gr_w (sg_gr σ))), .int (nI (gr_h (sg_gr σ))), .ref (am 9), .int (nI (gaM_f (sg_ga σ))), .int (oI (gaM_t (sg_ga σ))), .ref (am 1), .ref (am 2), .ref (am 3), .ref (am 4), .int (nI (wo_s (sg_wo σ))), .int (nI (wo_m (sg_wo σ))), .int (nI (sp_after (wo_x (sg_wo σ)))), .ref (am 11), .ref (am 12), .int (nI (sg_ri σ)), .ref (am 8), .ref (am 5), .ref (am 6), .int (nI (sg_rf σ))] H1 := ho2
  replace hR := hR.th hz3 hq4 ho2
  have hzb : H1.size = H.size := hz3
  replace hB0 : nd_B d ≤ H1.size := by rw [hz3]; exact hB0
  replace hB := hB0
  replace hE := hE.kept (fun q9 _ hb9 => hq4 q9 (fun e9 => hb9 (by rw [e9]; exact hyB)))
  have hE0 := hE
  replace hW0 := hR.wc
  replace hW := hW0
  replace hext : nwExt H1 H1 := nwExt.rfl
  clear hmX hmKi hmLa hmFo hmGu hmPo hmIn hmWi hmWo hmKe
  obtain ⟨hmX, hmKi, hmLa, hmFo, hmGu, hmPo, hmIn, hmWi, hmWo, hmKe⟩ := id hW
  refine nw_iload_n C 1 dX4_light_5 rfl 6 rfl ?_
  refine nw_iconst C (nI 0) dX4_light_6 (by decide) 7 rfl ?_
  refine nw_aload_n C 0 dX4_light_7 rfl 8 rfl ?_
  refine nw_get C hmX (T := TX4) rfl in_X4 6 (by decide) q1628 (Or.inl rfl) rfl dX4_light_8 11 rfl ?_
  refine nw_callF C (mJ3_size _ C.hfl d (am 1) ((sg_la σ).1) (fun k => am (100 + k)) (fun q => ro q = 7002) H1 hB hmLa.1) kJ3_size (ci := 13) rfl q1607 q1611 (by decide +kernel) fc_List_size (hmLa.1.is C) (As := []) (rest := [.int (nI 0), .int p]) rfl rfl ⟨⟨Nat.le_of_ble_eq_true rfl, Nat.le_of_ble_eq_true rfl⟩, Nat.le_of_ble_eq_true rfl, Nat.le_of_ble_eq_true rfl⟩ (Nat.le_of_ble_eq_true rfl) (fun _ h8 h9 => absurd h9 (Nat.not_le.mpr h8)) dX4_light_11 16 rfl (nw_rdK ?_) nw_noX
  refine nw_iconst C (nI 1) dX4_light_16 (by decide) 17 rfl ?_
  refine nw_isub C (nI ((sg_la σ).1) - nI 1) dX4_light_17 rfl 18 rfl ?_
  refine nw_callS C (mX4_inX _ C.hfl d p ((sg_la σ).1) H1 hB (by omega)) kX4_in q1691 (As := [.int p, .int (nI 0), .int (nI ((sg_la σ).1) - nI 1)]) (rest := []) rfl rfl ⟨⟨Nat.le_of_ble_eq_true rfl, Nat.le_of_ble_eq_true rfl⟩, Nat.le_of_ble_eq_true rfl, Nat.le_of_ble_eq_true rfl⟩ (Nat.le_of_ble_eq_true rfl) (fun _ h8 h9 => absurd h9 (Nat.not_le.mpr h8)) dX4_light_18 21 rfl (nw_rdK ?_) nw_noX
  refine nw_ifneB C 30 dX4_light_21 (by decide) 24 rfl (fun h5 => ?_) (fun h5 => ?_)
  · obtain ⟨pn, hk6, rfl⟩ := nw_ix_nat (by omega) h5
    have en_pn : nw_nn (nI pn) = pn := nw_nn_nI (by omega)
    refine nw_aload_n C 0 dX4_light_30 rfl 31 rfl ?_
    refine nw_get C hmX (T := TX4) rfl in_X4 6 (by decide) q1628 (Or.inl rfl) rfl dX4_light_31 34 rfl ?_
    refine nw_iload_n C 1 dX4_light_34 rfl 35 rfl ?_
    refine nw_callF C (mJ3_get _ C.hfl d (am 1) ((sg_la σ).1) (fun k => am (100 + k)) (fun q => ro q = 7002) pn H1 hB hmLa.1 (by omega)) kJ3_get (ci := 13) rfl q1615 q1618 (by decide +kernel) fc_List_get (hmLa.1.is C) (As := [.int (nI pn)]) (rest := []) rfl rfl ⟨⟨Nat.le_of_ble_eq_true rfl, Nat.le_of_ble_eq_true rfl⟩, Nat.le_of_ble_eq_true rfl, Nat.le_of_ble_eq_true rfl⟩ (Nat.le_of_ble_eq_true rfl) (fun _ h8 h9 => absurd h9 (Nat.not_le.mpr h8)) dX4_light_35 40 rfl (nw_rdK ?_) nw_noX
    have hg7 : nwI d (am (100 + pn)) 0 3 (fn3 (nI (((sg_la σ).2 pn).1)) (nI (((sg_la σ).2 pn).2.1)) (b2i (((sg_la σ).2 pn).2.2))) H1 := hmLa.2 pn (by omega)
    refine nw_castI C hg7 q1710 dX4_light_40 43 rfl ?_
    refine nw_iconst C (nI 2) dX4_light_43 (by decide) 44 rfl ?_
    refine nw_iload_n C 2 dX4_light_44 rfl 45 rfl ?_
    refine nw_ifeqB C 52 dX4_light_45 (by decide) 48 rfl (fun h8 => ?_) (fun h8 => ?_)
    · refine nw_iconst C (nI 0) dX4_light_52 (by decide) 53 rfl ?_
      refine nw_iastN C hg7 (Or.inl (by rw [show ro (am (100 + pn)) = 5101 + pn from hR.2.2.2.1.2.2.2 pn (by omega), rp_5101 pn (by omega)]; decide)) (by omega) dX4_light_53 54 rfl (fun H9 ho10 hz11 hq12 => ?_)
      have hl9 := okl.2 pn (by omega)
      have hRc := hR.ext hext
      have hR1 := trm_pLa hRc (k := pn) (v := (((sg_la σ).2 pn).1, ((sg_la σ).2 pn).2.1, false)) (by omega) hz11 hq12 (nwI.congr ho10 (fun j hj => by rcases (show j = 0 ∨ j = 1 ∨ j = 2 by omega) with e9 | e9 | e9 <;> subst e9 <;> rfl))
      have hAq : ∀ q8, q8 < H1.size → q8 = am (100 + pn) → nwAM ro H q8 := fun q8 _ h9 => by rw [h9]; exact (Or.inl (by rw [show ro (am (100 + pn)) = 5101 + pn from hR.2.2.2.1.2.2.2 pn (by omega), rp_5101 pn (by omega)]; decide))
      obtain ⟨σ1, hσ1⟩ : ∃ t9 : spSg, t9 = st_la σ ((sg_la σ).1, sp_up (sg_la σ).2 pn (((sg_la σ).2 pn).1, ((sg_la σ).2 pn).2.1, false)) := ⟨_, rfl⟩
      rw [← hσ1] at hR1
      have hgr9 : sg_gr σ1 = sg_gr σ := by rw [hσ1]; rfl
      replace hE := hE.kept (fun q9 g9 hb9 => (fun q9 _ n9 => hq12 q9 n9) q9 g9 (fun h9 => hb9 (C.hB q9 (hAq q9 g9 h9))))
      have hsz : H.size ≤ H9.size := Nat.le_trans (Nat.le_trans (Nat.le_of_eq hzb.symm) hext.1) (Nat.le_of_eq hz11.symm)
      replace hB := Nat.le_trans hB (Nat.le_of_eq hz11.symm)
      have ok9 : spOk σ1 := by rw [hσ1]; exact ⟨okg, okl.put hl9, okf, oku, okp, oki, okw, okd, okk, oka⟩
      replace ok := ok9
      replace okM := ok.m
      replace hR := hR1
      replace hW := hR.wc
      clear hmX hmKi hmLa hmFo hmGu hmPo hmIn hmWi hmWo hmKe okg okl okf oku okp oki okw okd okk oka hn64 oku1 oki1 okp1 okw1 okl1 okf1
      obtain ⟨hmX, hmKi, hmLa, hmFo, hmGu, hmPo, hmIn, hmWi, hmWo, hmKe⟩ := id hW
      obtain ⟨okg, okl, okf, oku, okp, oki, okw, okd, okk, oka⟩ := id ok
      have hn64 : gr_n (sg_gr σ1) ≤ 64 := okg.n
      have oku1 := oku.1
      have oki1 := oki.1
      have okp1 := okp.1
      have okw1 := okw.1
      have okl1 := okl.1
      have okf1 := okf.1
      refine nw_aload_n C 0 dX4_light_54 rfl 55 rfl ?_
      refine nw_callV C (mX4_brights _ C.hfl d ro am y σ1 (nI 0)  H9 hB hW okM ) kX4_brights q1740 (hmX.is C (ci := 9) rfl) (As := []) (rest := []) rfl rfl ⟨⟨Nat.le_of_ble_eq_true rfl, Nat.le_of_ble_eq_true rfl⟩, Nat.le_of_ble_eq_true rfl, Nat.le_of_ble_eq_true rfl⟩ (Nat.le_of_ble_eq_true rfl) (fun _ h8 h9 => absurd h9 (Nat.not_le.mpr h8)) dX4_light_55 58 rfl (nw_rdK ?_) nw_noX
      have hop : op_light σ (nI pn) b = (0, nI (sp_brights (sg_gr σ) (sg_la (st_light σ pn false))), σ1) := by rw [hσ1]; simp [op_light, h5, h8, en_pn, st_light]
      exact nw_iret C dX4_light_58 (Nat.le_refl _) (Nat.le_refl _) (by rw [hop]; exact ⟨congrArg (fun z => some (Value.int z)) (show nI (sp_brights (sg_gr σ1) (sg_la σ1)) = _ by rw [hσ1]; rfl), ok, hsz, ro, am, hR, (fun _ _ => rfl)⟩)
    · refine nw_iconst C (nI 1) dX4_light_48 (by decide) 49 rfl ?_
      refine nw_goto C 53 dX4_light_49 (by decide) ?_
      refine nw_iastN C hg7 (Or.inl (by rw [show ro (am (100 + pn)) = 5101 + pn from hR.2.2.2.1.2.2.2 pn (by omega), rp_5101 pn (by omega)]; decide)) (by omega) dX4_light_53 54 rfl (fun H13 ho14 hz15 hq16 => ?_)
      have hl9 := okl.2 pn (by omega)
      have hRc := hR.ext hext
      have hR1 := trm_pLa hRc (k := pn) (v := (((sg_la σ).2 pn).1, ((sg_la σ).2 pn).2.1, true)) (by omega) hz15 hq16 (nwI.congr ho14 (fun j hj => by rcases (show j = 0 ∨ j = 1 ∨ j = 2 by omega) with e9 | e9 | e9 <;> subst e9 <;> rfl))
      have hAq : ∀ q8, q8 < H1.size → q8 = am (100 + pn) → nwAM ro H q8 := fun q8 _ h9 => by rw [h9]; exact (Or.inl (by rw [show ro (am (100 + pn)) = 5101 + pn from hR.2.2.2.1.2.2.2 pn (by omega), rp_5101 pn (by omega)]; decide))
      obtain ⟨σ1, hσ1⟩ : ∃ t9 : spSg, t9 = st_la σ ((sg_la σ).1, sp_up (sg_la σ).2 pn (((sg_la σ).2 pn).1, ((sg_la σ).2 pn).2.1, true)) := ⟨_, rfl⟩
      rw [← hσ1] at hR1
      have hgr9 : sg_gr σ1 = sg_gr σ := by rw [hσ1]; rfl
      replace hE := hE.kept (fun q9 g9 hb9 => (fun q9 _ n9 => hq16 q9 n9) q9 g9 (fun h9 => hb9 (C.hB q9 (hAq q9 g9 h9))))
      have hsz : H.size ≤ H13.size := Nat.le_trans (Nat.le_trans (Nat.le_of_eq hzb.symm) hext.1) (Nat.le_of_eq hz15.symm)
      replace hB := Nat.le_trans hB (Nat.le_of_eq hz15.symm)
      have ok9 : spOk σ1 := by rw [hσ1]; exact ⟨okg, okl.put hl9, okf, oku, okp, oki, okw, okd, okk, oka⟩
      replace ok := ok9
      replace okM := ok.m
      replace hR := hR1
      replace hW := hR.wc
      clear hmX hmKi hmLa hmFo hmGu hmPo hmIn hmWi hmWo hmKe okg okl okf oku okp oki okw okd okk oka hn64 oku1 oki1 okp1 okw1 okl1 okf1
      obtain ⟨hmX, hmKi, hmLa, hmFo, hmGu, hmPo, hmIn, hmWi, hmWo, hmKe⟩ := id hW
      obtain ⟨okg, okl, okf, oku, okp, oki, okw, okd, okk, oka⟩ := id ok
      have hn64 : gr_n (sg_gr σ1) ≤ 64 := okg.n
      have oku1 := oku.1
      have oki1 := oki.1
      have okp1 := okp.1
      have okw1 := okw.1
      have okl1 := okl.1
      have okf1 := okf.1
      refine nw_aload_n C 0 dX4_light_54 rfl 55 rfl ?_
      refine nw_callV C (mX4_brights _ C.hfl d ro am y σ1 (nI 0)  H13 hB hW okM ) kX4_brights q1740 (hmX.is C (ci := 9) rfl) (As := []) (rest := []) rfl rfl ⟨⟨Nat.le_of_ble_eq_true rfl, Nat.le_of_ble_eq_true rfl⟩, Nat.le_of_ble_eq_true rfl, Nat.le_of_ble_eq_true rfl⟩ (Nat.le_of_ble_eq_true rfl) (fun _ h8 h9 => absurd h9 (Nat.not_le.mpr h8)) dX4_light_55 58 rfl (nw_rdK ?_) nw_noX
      have hop : op_light σ (nI pn) b = (0, nI (sp_brights (sg_gr σ) (sg_la (st_light σ pn true))), σ1) := by rw [hσ1]; simp [op_light, h5, h8, en_pn, st_light]
      exact nw_iret C dX4_light_58 (Nat.le_refl _) (Nat.le_refl _) (by rw [hop]; exact ⟨congrArg (fun z => some (Value.int z)) (show nI (sp_brights (sg_gr σ1) (sg_la σ1)) = _ by rw [hσ1]; rfl), ok, hsz, ro, am, hR, (fun _ _ => rfl)⟩)
  · refine nw_aload_n C 0 dX4_light_24 rfl 25 rfl ?_
    refine nw_iconst C (nI 1) dX4_light_25 (by decide) 26 rfl ?_
    refine nw_callV C (mX4_no _ C.hfl d y (.int (nI 0)) (.int (nI (gr_w (sg_gr σ)))) (.int (nI (gr_h (sg_gr σ)))) (.ref (am 9)) (.int (nI (gaM_f (sg_ga σ)))) (.int (oI (gaM_t (sg_ga σ)))) (.ref (am 1)) (.ref (am 2)) (.ref (am 3)) (.ref (am 4)) (.int (nI (wo_s (sg_wo σ)))) (.int (nI (wo_m (sg_wo σ)))) (.int (nI (sp_after (wo_x (sg_wo σ))))) (.ref (am 11)) (.ref (am 12)) (.int (nI (sg_ri σ))) (.ref (am 8)) (.ref (am 5)) (.ref (am 6)) (.int (nI (sg_rf σ))) (nI 1) H1 hB hyB hmX) kX4_no q1694 (hmX.is C (ci := 9) rfl) (As := [.int (nI 1)]) (rest := []) rfl rfl ⟨⟨Nat.le_of_ble_eq_true rfl, Nat.le_of_ble_eq_true rfl⟩, (show 0 + 0 ≤ 0 by omega), (show 0 + 0 ≤ 0 by omega)⟩ (Nat.le_of_ble_eq_true rfl) (fun q8 h8 h9 => h9.elim (fun e9 => by rw [e9]; exact hAy) (fun e9 => absurd h8 (Nat.not_lt.mpr e9))) dX4_light_26 29 rfl (fun v9 H17 hR18 hz19 hq20 => ?_) nw_noX
    obtain ⟨rfl, ho21⟩ := hR18
    have hR8 := hR.ext hext
    have hR9 : nwMW d ro am y σ (nI 1) H17 := hR8.obj hz19 (fun q9 g9 n9 _ => hq20 q9 g9 (fun e9 => e9.elim n9 (Nat.not_le.mpr g9))) mSame.rfl ho21
    have hle9 : H.size ≤ H17.size := Nat.le_trans (Nat.le_of_eq hzb.symm) (Nat.le_trans hext.1 hz19)
    show nwV X _ _ 3 H17 (0 + 0) (0 + 0) 29 [(0, .ref y), (1, .int p), (2, .int (b2i b))] [.int (nI 0)]
    refine nw_wide (k' := 0) (n' := 0) (by omega) (by omega) ?_
    have hop : op_light σ p b = (1, 0, σ) := by simp [op_light, h5, st_light]
    exact nw_iret C dX4_light_29 (Nat.le_refl _) (Nat.le_refl _) (by rw [hop]; exact ⟨rfl, ok, hle9, ro, am, hR9, fun _ _ => rfl⟩)
set_option maxHeartbeats 4000000 in
theorem mX4_lay (l : Launch) (hf : l.flags = flags0) (d : nwD) (ro am : Nat → Nat) (y : Nat) (σ : spSg) (th : Int32) (c : Int32) (k : Int32) (H : Heap) (hB : nd_B d ≤ H.size) (hR : nwMW d ro am y σ th H) (ok : spOk σ) : nwMt l d yX4_lay cX4_lay 4 (some .int) 5 107 0 0 [.ref y, .int c, .int k] H (nwMv d ro y (op_lay σ c k) H) nwNo (nwAM ro H) := by
  refine nw_start "NightwatchWallModel" "lay" hf (by decide +kernel) rfl rfl (fun _ h => Or.inr h) (nwAM_B hR hB) (Nat.le_of_ble_eq_true rfl) ?_
  intro X C
  have hW := hR.wc
  have okM := ok.m
  have hyB := (hR.ok0 (show ro y ≠ 0 by rw [hR.2.1.2]; decide)).1
  have hAy : nwAM ro H y := Or.inl (by rw [hR.2.1.2]; decide +kernel)
  have hW0 := hW
  have hB0 := hB
  have hE := C.E0
  have hext : nwExt H H := nwExt.rfl
  obtain ⟨hmX, hmKi, hmLa, hmFo, hmGu, hmPo, hmIn, hmWi, hmWo, hmKe⟩ := id hW
  obtain ⟨okg, okl, okf, oku, okp, oki, okw, okd, okk, oka⟩ := id ok
  have hn64 : gr_n (sg_gr σ) ≤ 64 := okg.n
  have oku1 := oku.1
  have oki1 := oki.1
  have okp1 := okp.1
  have okw1 := okw.1
  have okl1 := okl.1
  have okf1 := okf.1
  show nwV X _ _ 4 H 0 0 0 [(0, .ref y), (1, .int c), (2, .int k)] []
  refine nw_aload_n C 0 dX4_lay_0 rfl 1 rfl ?_
  refine nw_iconst C (nI 0) dX4_lay_1 (by decide) 2 rfl ?_
  refine nw_put C hmX hAy (T := TX4) (ty0 := tyX4) rfl in_X4 tyX4_ok nmX4 0 (by decide) q1622 (Or.inl rfl) rfl rfl rfl (Nat.le_of_ble_eq_true rfl) dX4_lay_2 5 rfl (fun H1 ho2 hz3 hq4 => ?_)
  have ho2 : nwO d y 9 [.int (nI 0), .int (nI (gr_w (sg_gr σ))), .int (nI (gr_h (sg_gr σ))), .ref (am 9), .int (nI (gaM_f (sg_ga σ))), .int (oI (gaM_t (sg_ga σ))), .ref (am 1), .ref (am 2), .ref (am 3), .ref (am 4), .int (nI (wo_s (sg_wo σ))), .int (nI (wo_m (sg_wo σ))), .int (nI (sp_after (wo_x (sg_wo σ)))), .ref (am 11), .ref (am 12), .int (nI (sg_ri σ)), .ref (am 8), .ref (am 5), .ref (am 6), .int (nI (sg_rf σ))] H1 := ho2
  replace hR := hR.th hz3 hq4 ho2
  have hzb : H1.size = H.size := hz3
  replace hB0 : nd_B d ≤ H1.size := by rw [hz3]; exact hB0
  replace hB := hB0
  replace hE := hE.kept (fun q9 _ hb9 => hq4 q9 (fun e9 => hb9 (by rw [e9]; exact hyB)))
  have hE0 := hE
  replace hW0 := hR.wc
  replace hW := hW0
  replace hext : nwExt H1 H1 := nwExt.rfl
  clear hmX hmKi hmLa hmFo hmGu hmPo hmIn hmWi hmWo hmKe
  obtain ⟨hmX, hmKi, hmLa, hmFo, hmGu, hmPo, hmIn, hmWi, hmWo, hmKe⟩ := id hW
  refine nw_aload_n C 0 dX4_lay_5 rfl 6 rfl ?_
  refine nw_iload_n C 1 dX4_lay_6 rfl 7 rfl ?_
  refine nw_callV C (mX4_isCell _ C.hfl d ro am y σ (nI 0) c H1 hB hW okM ) kX4_isCell q1702 (hmX.is C (ci := 9) rfl) (As := [.int c]) (rest := []) rfl rfl ⟨⟨Nat.le_of_ble_eq_true rfl, Nat.le_of_ble_eq_true rfl⟩, Nat.le_of_ble_eq_true rfl, Nat.le_of_ble_eq_true rfl⟩ (Nat.le_of_ble_eq_true rfl) (fun _ h8 h9 => absurd h9 (Nat.not_le.mpr h8)) dX4_lay_7 10 rfl (nw_rdK ?_) nw_noX
  refine nw_ifneB C 19 dX4_lay_10 (by decide) 13 rfl (fun h5 => ?_) (fun h5 => ?_)
  · obtain ⟨cn, hk6, rfl⟩ := nw_ix_nat (by omega) h5
    have en_cn : nw_nn (nI cn) = cn := nw_nn_nI (by omega)
    refine nw_iload_n C 2 dX4_lay_19 rfl 20 rfl ?_
    refine nw_iconst C (nI 0) dX4_lay_20 (by decide) 21 rfl ?_
    refine nw_iconst C (nI 3) dX4_lay_21 (by decide) 22 rfl ?_
    refine nw_callS C (mX4_inR _ C.hfl d k (nI 0) (nI 3) H1 hB) kX4_in q1691 (As := [.int k, .int (nI 0), .int (nI 3)]) (rest := []) rfl rfl ⟨⟨Nat.le_of_ble_eq_true rfl, Nat.le_of_ble_eq_true rfl⟩, Nat.le_of_ble_eq_true rfl, Nat.le_of_ble_eq_true rfl⟩ (Nat.le_of_ble_eq_true rfl) (fun _ h8 h9 => absurd h9 (Nat.not_le.mpr h8)) dX4_lay_22 25 rfl (nw_rdK ?_) nw_noX
    show nwV X _ _ 4 H1 0 0 25 [(0, .ref y), (1, .int (nI cn)), (2, .int k)] [.int (b2i (nw_rg 0 3 k))]
    refine nw_ifneB C 34 dX4_lay_25 (by decide) 28 rfl (fun h7 => ?_) (fun h7 => ?_)
    · obtain ⟨kn, hk8, rfl⟩ := nw_rg_nat (by omega) (by omega) h7
      have en_kn : nw_nn (nI kn) = kn := nw_nn_nI (by omega)
      refine nw_iload_n C 2 dX4_lay_34 rfl 35 rfl ?_
      refine nw_iconst C (nI 1) dX4_lay_35 (by decide) 36 rfl ?_
      refine nw_icmpneN C (by omega) 53 dX4_lay_36 (by decide) 39 rfl (fun h9 => ?_) (fun h9 => ?_)
      · have hgro := okg.here (show cn < _ by omega)
        have hkn4 : kn < 4 := by omega
        refine nw_aload_n C 0 dX4_lay_53 rfl 54 rfl ?_
        refine nw_get C hmX (T := TX4) rfl in_X4 3 (by decide) q1625 (Or.inl rfl) rfl dX4_lay_54 57 rfl ?_
        refine nw_iload_n C 1 dX4_lay_57 rfl 58 rfl ?_
        refine nw_ialdN C (nI (gr_k (sg_gr σ) cn)) hmKi (by omega) rfl dX4_lay_58 59 rfl ?_
        refine nw_istore_n C [(3, .int (nI (gr_k (sg_gr σ) cn))), (0, .ref y), (1, .int (nI cn)), (2, .int (nI kn))] dX4_lay_59 (by decide) rfl 60 rfl ?_
        refine nw_aload_n C 1 dX4_lay_60 rfl 61 rfl ?_
        refine nw_get C hmX (T := TX4) rfl in_X4 3 (by decide) q1625 (Or.inl rfl) rfl dX4_lay_61 64 rfl ?_
        refine nw_iload_n C 2 dX4_lay_64 rfl 65 rfl ?_
        refine nw_iload_n C 3 dX4_lay_65 rfl 66 rfl ?_
        refine nw_iastN C hmKi (Or.inl (by rw [hR.2.2.1.2]; decide +kernel)) (by omega) dX4_lay_66 67 rfl (fun H10 ho11 hz12 hq13 => ?_)
        have hRc := hR.ext hext
        have hR1 := trm_pKi hRc (kk := sp_up (gr_k (sg_gr σ)) cn kn) hz12 hq13 (nwI.congr ho11 (fun j hj => nw_upNM))
        have hAq : ∀ q8, q8 < H1.size → q8 = am 9 → nwAM ro H q8 := fun q8 _ h9 => by rw [h9]; exact (Or.inl (by rw [hR.2.2.1.2]; decide +kernel))
        obtain ⟨σ1, hσ1⟩ : ∃ t9 : spSg, t9 = st_gr σ (gr_w (sg_gr σ), gr_h (sg_gr σ), sp_up (gr_k (sg_gr σ)) cn kn) := ⟨_, rfl⟩
        rw [← hσ1] at hR1
        replace hE := hE.kept (fun q9 g9 hb9 => (fun q9 _ n9 => hq13 q9 n9) q9 g9 (fun h9 => hb9 (C.hB q9 (hAq q9 g9 h9))))
        have hsz : H.size ≤ H10.size := Nat.le_trans (Nat.le_trans (Nat.le_of_eq hzb.symm) hext.1) (Nat.le_of_eq hz12.symm)
        replace hB := Nat.le_trans hB (Nat.le_of_eq hz12.symm)
        have ok9 : spOk σ1 := by rw [hσ1]; exact ⟨Or.inr ⟨hgro.1, sp_up_all (Q := fun z => z < 4) hgro.2 hkn4⟩, okl, okf, oku, okp, oki, okw, okd, okk, oka⟩
        replace ok := ok9
        replace okM := ok.m
        replace hR := hR1
        replace hW := hR.wc
        clear hmX hmKi hmLa hmFo hmGu hmPo hmIn hmWi hmWo hmKe okg okl okf oku okp oki okw okd okk oka hn64 oku1 oki1 okp1 okw1 okl1 okf1
        obtain ⟨hmX, hmKi, hmLa, hmFo, hmGu, hmPo, hmIn, hmWi, hmWo, hmKe⟩ := id hW
        obtain ⟨okg, okl, okf, oku, okp, oki, okw, okd, okk, oka⟩ := id ok
        have hn64 : gr_n (sg_gr σ1) ≤ 64 := okg.n
        have oku1 := oku.1
        have oki1 := oki.1
        have okp1 := okp.1
        have okw1 := okw.1
        have okl1 := okl.1
        have okf1 := okf.1
        refine nw_iload_n C 0 dX4_lay_67 rfl 68 rfl ?_
        have hop : op_lay σ (nI cn) (nI kn) = (0, nI (gr_k (sg_gr σ) cn), σ1) := by rw [hσ1]; simp [op_lay, h5, h7, h9, en_cn, en_kn]
        exact nw_iret C dX4_lay_68 (Nat.le_refl _) (Nat.le_refl _) (by rw [hop]; exact ⟨congrArg (fun z => some (Value.int z)) rfl, ok, hsz, ro, am, hR, (fun _ _ => rfl)⟩)
      · have h1k : (kn == 1) = true := by simp [h9]
        refine nw_aload_n C 0 dX4_lay_39 rfl 40 rfl ?_
        refine nw_iload_n C 1 dX4_lay_40 rfl 41 rfl ?_
        refine nw_callV C (mX4_isTaken _ C.hfl d ro am y σ (nI 0) cn H1 hB hW okM (by omega)) kX4_isTaken q1706 (hmX.is C (ci := 9) rfl) (As := [.int (nI cn)]) (rest := []) rfl rfl ⟨⟨Nat.le_of_ble_eq_true rfl, Nat.le_of_ble_eq_true rfl⟩, Nat.le_of_ble_eq_true rfl, Nat.le_of_ble_eq_true rfl⟩ (Nat.le_of_ble_eq_true rfl) (fun _ h8 h9 => absurd h9 (Nat.not_le.mpr h8)) dX4_lay_41 44 rfl (nw_rdK ?_) nw_noX
        refine nw_ifeqB C 53 dX4_lay_44 (by decide) 47 rfl (fun h14 => ?_) (fun h14 => ?_)
        · have hgro := okg.here (show cn < _ by omega)
          have hkn4 : kn < 4 := by omega
          refine nw_aload_n C 0 dX4_lay_53 rfl 54 rfl ?_
          refine nw_get C hmX (T := TX4) rfl in_X4 3 (by decide) q1625 (Or.inl rfl) rfl dX4_lay_54 57 rfl ?_
          refine nw_iload_n C 1 dX4_lay_57 rfl 58 rfl ?_
          refine nw_ialdN C (nI (gr_k (sg_gr σ) cn)) hmKi (by omega) rfl dX4_lay_58 59 rfl ?_
          refine nw_istore_n C [(3, .int (nI (gr_k (sg_gr σ) cn))), (0, .ref y), (1, .int (nI cn)), (2, .int (nI kn))] dX4_lay_59 (by decide) rfl 60 rfl ?_
          refine nw_aload_n C 1 dX4_lay_60 rfl 61 rfl ?_
          refine nw_get C hmX (T := TX4) rfl in_X4 3 (by decide) q1625 (Or.inl rfl) rfl dX4_lay_61 64 rfl ?_
          refine nw_iload_n C 2 dX4_lay_64 rfl 65 rfl ?_
          refine nw_iload_n C 3 dX4_lay_65 rfl 66 rfl ?_
          refine nw_iastN C hmKi (Or.inl (by rw [hR.2.2.1.2]; decide +kernel)) (by omega) dX4_lay_66 67 rfl (fun H15 ho16 hz17 hq18 => ?_)
          have hRc := hR.ext hext
          have hR1 := trm_pKi hRc (kk := sp_up (gr_k (sg_gr σ)) cn kn) hz17 hq18 (nwI.congr ho16 (fun j hj => nw_upNM))
          have hAq : ∀ q8, q8 < H1.size → q8 = am 9 → nwAM ro H q8 := fun q8 _ h9 => by rw [h9]; exact (Or.inl (by rw [hR.2.2.1.2]; decide +kernel))
          obtain ⟨σ1, hσ1⟩ : ∃ t9 : spSg, t9 = st_gr σ (gr_w (sg_gr σ), gr_h (sg_gr σ), sp_up (gr_k (sg_gr σ)) cn kn) := ⟨_, rfl⟩
          rw [← hσ1] at hR1
          replace hE := hE.kept (fun q9 g9 hb9 => (fun q9 _ n9 => hq18 q9 n9) q9 g9 (fun h9 => hb9 (C.hB q9 (hAq q9 g9 h9))))
          have hsz : H.size ≤ H15.size := Nat.le_trans (Nat.le_trans (Nat.le_of_eq hzb.symm) hext.1) (Nat.le_of_eq hz17.symm)
          replace hB := Nat.le_trans hB (Nat.le_of_eq hz17.symm)
          have ok9 : spOk σ1 := by rw [hσ1]; exact ⟨Or.inr ⟨hgro.1, sp_up_all (Q := fun z => z < 4) hgro.2 hkn4⟩, okl, okf, oku, okp, oki, okw, okd, okk, oka⟩
          replace ok := ok9
          replace okM := ok.m
          replace hR := hR1
          replace hW := hR.wc
          clear hmX hmKi hmLa hmFo hmGu hmPo hmIn hmWi hmWo hmKe okg okl okf oku okp oki okw okd okk oka hn64 oku1 oki1 okp1 okw1 okl1 okf1
          obtain ⟨hmX, hmKi, hmLa, hmFo, hmGu, hmPo, hmIn, hmWi, hmWo, hmKe⟩ := id hW
          obtain ⟨okg, okl, okf, oku, okp, oki, okw, okd, okk, oka⟩ := id ok
          have hn64 : gr_n (sg_gr σ1) ≤ 64 := okg.n
          have oku1 := oku.1
          have oki1 := oki.1
          have okp1 := okp.1
          have okw1 := okw.1
          have okl1 := okl.1
          have okf1 := okf.1
          refine nw_iload_n C 0 dX4_lay_67 rfl 68 rfl ?_
          have hop : op_lay σ (nI cn) (nI kn) = (0, nI (gr_k (sg_gr σ) cn), σ1) := by rw [hσ1]; simp [op_lay, h5, h7, h1k, h14, en_cn, en_kn]
          exact nw_iret C dX4_lay_68 (Nat.le_refl _) (Nat.le_refl _) (by rw [hop]; exact ⟨congrArg (fun z => some (Value.int z)) rfl, ok, hsz, ro, am, hR, (fun _ _ => rfl)⟩)
        · refine nw_aload_n C 0 dX4_lay_47 rfl 48 rfl ?_
          refine nw_iconst C (nI 3) dX4_lay_48 (by decide) 49 rfl ?_
          refine nw_callV C (mX4_no _ C.hfl d y (.int (nI 0)) (.int (nI (gr_w (sg_gr σ)))) (.int (nI (gr_h (sg_gr σ)))) (.ref (am 9)) (.int (nI (gaM_f (sg_ga σ)))) (.int (oI (gaM_t (sg_ga σ)))) (.ref (am 1)) (.ref (am 2)) (.ref (am 3)) (.ref (am 4)) (.int (nI (wo_s (sg_wo σ)))) (.int (nI (wo_m (sg_wo σ)))) (.int (nI (sp_after (wo_x (sg_wo σ))))) (.ref (am 11)) (.ref (am 12)) (.int (nI (sg_ri σ))) (.ref (am 8)) (.ref (am 5)) (.ref (am 6)) (.int (nI (sg_rf σ))) (nI 3) H1 hB hyB hmX) kX4_no q1694 (hmX.is C (ci := 9) rfl) (As := [.int (nI 3)]) (rest := []) rfl rfl ⟨⟨Nat.le_of_ble_eq_true rfl, Nat.le_of_ble_eq_true rfl⟩, (show 0 + 0 ≤ 0 by omega), (show 0 + 0 ≤ 0 by omega)⟩ (Nat.le_of_ble_eq_true rfl) (fun q8 h8 h9 => h9.elim (fun e9 => by rw [e9]; exact hAy) (fun e9 => absurd h8 (Nat.not_lt.mpr e9))) dX4_lay_49 52 rfl (fun v9 H19 hR20 hz21 hq22 => ?_) nw_noX
          obtain ⟨rfl, ho23⟩ := hR20
          have hR8 := hR.ext hext
          have hR9 : nwMW d ro am y σ (nI 3) H19 := hR8.obj hz21 (fun q9 g9 n9 _ => hq22 q9 g9 (fun e9 => e9.elim n9 (Nat.not_le.mpr g9))) mSame.rfl ho23
          have hle9 : H.size ≤ H19.size := Nat.le_trans (Nat.le_of_eq hzb.symm) (Nat.le_trans hext.1 hz21)
          show nwV X _ _ 4 H19 (0 + 0) (0 + 0) 52 [(0, .ref y), (1, .int (nI cn)), (2, .int (nI kn))] [.int (nI 0)]
          refine nw_wide (k' := 0) (n' := 0) (by omega) (by omega) ?_
          have hop : op_lay σ (nI cn) (nI kn) = (3, 0, σ) := by simp [op_lay, h5, h7, h1k, h14, en_cn, en_kn]
          exact nw_iret C dX4_lay_52 (Nat.le_refl _) (Nat.le_refl _) (by rw [hop]; exact ⟨rfl, ok, hle9, ro, am, hR9, fun _ _ => rfl⟩)
    · refine nw_aload_n C 0 dX4_lay_28 rfl 29 rfl ?_
      refine nw_iconst C (nI 2) dX4_lay_29 (by decide) 30 rfl ?_
      refine nw_callV C (mX4_no _ C.hfl d y (.int (nI 0)) (.int (nI (gr_w (sg_gr σ)))) (.int (nI (gr_h (sg_gr σ)))) (.ref (am 9)) (.int (nI (gaM_f (sg_ga σ)))) (.int (oI (gaM_t (sg_ga σ)))) (.ref (am 1)) (.ref (am 2)) (.ref (am 3)) (.ref (am 4)) (.int (nI (wo_s (sg_wo σ)))) (.int (nI (wo_m (sg_wo σ)))) (.int (nI (sp_after (wo_x (sg_wo σ))))) (.ref (am 11)) (.ref (am 12)) (.int (nI (sg_ri σ))) (.ref (am 8)) (.ref (am 5)) (.ref (am 6)) (.int (nI (sg_rf σ))) (nI 2) H1 hB hyB hmX) kX4_no q1694 (hmX.is C (ci := 9) rfl) (As := [.int (nI 2)]) (rest := []) rfl rfl ⟨⟨Nat.le_of_ble_eq_true rfl, Nat.le_of_ble_eq_true rfl⟩, (show 0 + 0 ≤ 0 by omega), (show 0 + 0 ≤ 0 by omega)⟩ (Nat.le_of_ble_eq_true rfl) (fun q8 h8 h9 => h9.elim (fun e9 => by rw [e9]; exact hAy) (fun e9 => absurd h8 (Nat.not_lt.mpr e9))) dX4_lay_30 33 rfl (fun v9 H24 hR25 hz26 hq27 => ?_) nw_noX
      obtain ⟨rfl, ho28⟩ := hR25
      have hR8 := hR.ext hext
      have hR9 : nwMW d ro am y σ (nI 2) H24 := hR8.obj hz26 (fun q9 g9 n9 _ => hq27 q9 g9 (fun e9 => e9.elim n9 (Nat.not_le.mpr g9))) mSame.rfl ho28
      have hle9 : H.size ≤ H24.size := Nat.le_trans (Nat.le_of_eq hzb.symm) (Nat.le_trans hext.1 hz26)
      show nwV X _ _ 4 H24 (0 + 0) (0 + 0) 33 [(0, .ref y), (1, .int (nI cn)), (2, .int k)] [.int (nI 0)]
      refine nw_wide (k' := 0) (n' := 0) (by omega) (by omega) ?_
      have hop : op_lay σ (nI cn) k = (2, 0, σ) := by simp [op_lay, h5, h7, en_cn]
      exact nw_iret C dX4_lay_33 (Nat.le_refl _) (Nat.le_refl _) (by rw [hop]; exact ⟨rfl, ok, hle9, ro, am, hR9, fun _ _ => rfl⟩)
  · refine nw_aload_n C 0 dX4_lay_13 rfl 14 rfl ?_
    refine nw_iconst C (nI 1) dX4_lay_14 (by decide) 15 rfl ?_
    refine nw_callV C (mX4_no _ C.hfl d y (.int (nI 0)) (.int (nI (gr_w (sg_gr σ)))) (.int (nI (gr_h (sg_gr σ)))) (.ref (am 9)) (.int (nI (gaM_f (sg_ga σ)))) (.int (oI (gaM_t (sg_ga σ)))) (.ref (am 1)) (.ref (am 2)) (.ref (am 3)) (.ref (am 4)) (.int (nI (wo_s (sg_wo σ)))) (.int (nI (wo_m (sg_wo σ)))) (.int (nI (sp_after (wo_x (sg_wo σ))))) (.ref (am 11)) (.ref (am 12)) (.int (nI (sg_ri σ))) (.ref (am 8)) (.ref (am 5)) (.ref (am 6)) (.int (nI (sg_rf σ))) (nI 1) H1 hB hyB hmX) kX4_no q1694 (hmX.is C (ci := 9) rfl) (As := [.int (nI 1)]) (rest := []) rfl rfl ⟨⟨Nat.le_of_ble_eq_true rfl, Nat.le_of_ble_eq_true rfl⟩, (show 0 + 0 ≤ 0 by omega), (show 0 + 0 ≤ 0 by omega)⟩ (Nat.le_of_ble_eq_true rfl) (fun q8 h8 h9 => h9.elim (fun e9 => by rw [e9]; exact hAy) (fun e9 => absurd h8 (Nat.not_lt.mpr e9))) dX4_lay_15 18 rfl (fun v9 H29 hR30 hz31 hq32 => ?_) nw_noX
    obtain ⟨rfl, ho33⟩ := hR30
    have hR8 := hR.ext hext
    have hR9 : nwMW d ro am y σ (nI 1) H29 := hR8.obj hz31 (fun q9 g9 n9 _ => hq32 q9 g9 (fun e9 => e9.elim n9 (Nat.not_le.mpr g9))) mSame.rfl ho33
    have hle9 : H.size ≤ H29.size := Nat.le_trans (Nat.le_of_eq hzb.symm) (Nat.le_trans hext.1 hz31)
    show nwV X _ _ 4 H29 (0 + 0) (0 + 0) 18 [(0, .ref y), (1, .int c), (2, .int k)] [.int (nI 0)]
    refine nw_wide (k' := 0) (n' := 0) (by omega) (by omega) ?_
    have hop : op_lay σ c k = (1, 0, σ) := by simp [op_lay, h5]
    exact nw_iret C dX4_lay_18 (Nat.le_refl _) (Nat.le_refl _) (by rw [hop]; exact ⟨rfl, ok, hle9, ro, am, hR9, fun _ _ => rfl⟩)
set_option maxHeartbeats 4000000 in
theorem mX4_gates (l : Launch) (hf : l.flags = flags0) (d : nwD) (ro am : Nat → Nat) (y : Nat) (σ : spSg) (th : Int32) (a : Int32) (b : Int32) (H : Heap) (hB : nd_B d ≤ H.size) (hR : nwMW d ro am y σ th H) (ok : spOk σ) : nwMt l d yX4_gates cX4_gates 8 (some .int) 3 62 0 0 [.ref y, .int a, .int b] H (nwMv d ro y (op_gates σ a b) H) nwNo (nwAM ro H) := by
  refine nw_start "NightwatchWallModel" "gates" hf (by decide +kernel) rfl rfl (fun _ h => Or.inr h) (nwAM_B hR hB) (Nat.le_of_ble_eq_true rfl) ?_
  intro X C
  have hW := hR.wc
  have okM := ok.m
  have hyB := (hR.ok0 (show ro y ≠ 0 by rw [hR.2.1.2]; decide)).1
  have hAy : nwAM ro H y := Or.inl (by rw [hR.2.1.2]; decide +kernel)
  have hW0 := hW
  have hB0 := hB
  have hE := C.E0
  have hext : nwExt H H := nwExt.rfl
  obtain ⟨hmX, hmKi, hmLa, hmFo, hmGu, hmPo, hmIn, hmWi, hmWo, hmKe⟩ := id hW
  obtain ⟨okg, okl, okf, oku, okp, oki, okw, okd, okk, oka⟩ := id ok
  have hn64 : gr_n (sg_gr σ) ≤ 64 := okg.n
  have oku1 := oku.1
  have oki1 := oki.1
  have okp1 := okp.1
  have okw1 := okw.1
  have okl1 := okl.1
  have okf1 := okf.1
  show nwV X _ _ 8 H 0 0 0 [(0, .ref y), (1, .int a), (2, .int b)] []
  refine nw_aload_n C 0 dX4_gates_0 rfl 1 rfl ?_
  refine nw_iconst C (nI 0) dX4_gates_1 (by decide) 2 rfl ?_
  refine nw_put C hmX hAy (T := TX4) (ty0 := tyX4) rfl in_X4 tyX4_ok nmX4 0 (by decide) q1622 (Or.inl rfl) rfl rfl rfl (Nat.le_of_ble_eq_true rfl) dX4_gates_2 5 rfl (fun H2 ho3 hz4 hq5 => ?_)
  have ho3 : nwO d y 9 [.int (nI 0), .int (nI (gr_w (sg_gr σ))), .int (nI (gr_h (sg_gr σ))), .ref (am 9), .int (nI (gaM_f (sg_ga σ))), .int (oI (gaM_t (sg_ga σ))), .ref (am 1), .ref (am 2), .ref (am 3), .ref (am 4), .int (nI (wo_s (sg_wo σ))), .int (nI (wo_m (sg_wo σ))), .int (nI (sp_after (wo_x (sg_wo σ)))), .ref (am 11), .ref (am 12), .int (nI (sg_ri σ)), .ref (am 8), .ref (am 5), .ref (am 6), .int (nI (sg_rf σ))] H2 := ho3
  replace hR := hR.th hz4 hq5 ho3
  have hzb : H2.size = H.size := hz4
  replace hB0 : nd_B d ≤ H2.size := by rw [hz4]; exact hB0
  replace hB := hB0
  replace hE := hE.kept (fun q9 _ hb9 => hq5 q9 (fun e9 => hb9 (by rw [e9]; exact hyB)))
  have hE0 := hE
  replace hW0 := hR.wc
  replace hW := hW0
  replace hext : nwExt H2 H2 := nwExt.rfl
  clear hmX hmKi hmLa hmFo hmGu hmPo hmIn hmWi hmWo hmKe
  obtain ⟨hmX, hmKi, hmLa, hmFo, hmGu, hmPo, hmIn, hmWi, hmWo, hmKe⟩ := id hW
  refine nw_iload_n C 1 dX4_gates_5 rfl 6 rfl ?_
  refine nw_callS C (mX4_isMinute _ C.hfl d a H2 hB) kX4_isMinute q1722 (As := [.int a]) (rest := []) rfl rfl ⟨⟨Nat.le_of_ble_eq_true rfl, Nat.le_of_ble_eq_true rfl⟩, Nat.le_of_ble_eq_true rfl, Nat.le_of_ble_eq_true rfl⟩ (Nat.le_of_ble_eq_true rfl) (fun _ h8 h9 => absurd h9 (Nat.not_le.mpr h8)) dX4_gates_6 9 rfl (nw_rdK ?_) nw_noX
  refine nw_ifeqB C 19 dX4_gates_9 (by decide) 12 rfl (fun h6 => ?_) (fun h6 => ?_)
  · refine nw_aload_n C 0 dX4_gates_19 rfl 20 rfl ?_
    refine nw_iconst C (nI 1) dX4_gates_20 (by decide) 21 rfl ?_
    refine nw_callV C (mX4_no _ C.hfl d y (.int (nI 0)) (.int (nI (gr_w (sg_gr σ)))) (.int (nI (gr_h (sg_gr σ)))) (.ref (am 9)) (.int (nI (gaM_f (sg_ga σ)))) (.int (oI (gaM_t (sg_ga σ)))) (.ref (am 1)) (.ref (am 2)) (.ref (am 3)) (.ref (am 4)) (.int (nI (wo_s (sg_wo σ)))) (.int (nI (wo_m (sg_wo σ)))) (.int (nI (sp_after (wo_x (sg_wo σ))))) (.ref (am 11)) (.ref (am 12)) (.int (nI (sg_ri σ))) (.ref (am 8)) (.ref (am 5)) (.ref (am 6)) (.int (nI (sg_rf σ))) (nI 1) H2 hB hyB hmX) kX4_no q1694 (hmX.is C (ci := 9) rfl) (As := [.int (nI 1)]) (rest := []) rfl rfl ⟨⟨Nat.le_of_ble_eq_true rfl, Nat.le_of_ble_eq_true rfl⟩, (show 0 + 0 ≤ 0 by omega), (show 0 + 0 ≤ 0 by omega)⟩ (Nat.le_of_ble_eq_true rfl) (fun q8 h8 h9 => h9.elim (fun e9 => by rw [e9]; exact hAy) (fun e9 => absurd h8 (Nat.not_lt.mpr e9))) dX4_gates_21 24 rfl (fun v9 H7 hR8 hz9 hq10 => ?_) nw_noX
    obtain ⟨rfl, ho11⟩ := hR8
    have hR8 := hR.ext hext
    have hR9 : nwMW d ro am y σ (nI 1) H7 := hR8.obj hz9 (fun q9 g9 n9 _ => hq10 q9 g9 (fun e9 => e9.elim n9 (Nat.not_le.mpr g9))) mSame.rfl ho11
    have hle9 : H.size ≤ H7.size := Nat.le_trans (Nat.le_of_eq hzb.symm) (Nat.le_trans hext.1 hz9)
    show nwV X _ _ 8 H7 (0 + 0) (0 + 0) 24 [(0, .ref y), (1, .int a), (2, .int b)] [.int (nI 0)]
    refine nw_wide (k' := 0) (n' := 0) (by omega) (by omega) ?_
    have hop : op_gates σ a b = (1, 0, σ) := by simp [op_gates, h6]
    exact nw_iret C dX4_gates_24 (Nat.le_refl _) (Nat.le_refl _) (by rw [hop]; exact ⟨rfl, ok, hle9, ro, am, hR9, fun _ _ => rfl⟩)
  · obtain ⟨an, hk12, rfl⟩ := nw_rg_nat (by omega) (by omega) h6
    have en_an : nw_nn (nI an) = an := nw_nn_nI (by omega)
    refine nw_iload_n C 2 dX4_gates_12 rfl 13 rfl ?_
    refine nw_callS C (mX4_isMinute _ C.hfl d b H2 hB) kX4_isMinute q1722 (As := [.int b]) (rest := []) rfl rfl ⟨⟨Nat.le_of_ble_eq_true rfl, Nat.le_of_ble_eq_true rfl⟩, Nat.le_of_ble_eq_true rfl, Nat.le_of_ble_eq_true rfl⟩ (Nat.le_of_ble_eq_true rfl) (fun _ h8 h9 => absurd h9 (Nat.not_le.mpr h8)) dX4_gates_13 16 rfl (nw_rdK ?_) nw_noX
    refine nw_ifneB C 25 dX4_gates_16 (by decide) 19 rfl (fun h13 => ?_) (fun h13 => ?_)
    · obtain ⟨bn, hk14, rfl⟩ := nw_rg_nat (by omega) (by omega) h13
      have en_bn : nw_nn (nI bn) = bn := nw_nn_nI (by omega)
      refine nw_aload_n C 0 dX4_gates_25 rfl 26 rfl ?_
      refine nw_iload_n C 1 dX4_gates_26 rfl 27 rfl ?_
      refine nw_put C hmX hAy (T := TX4) (ty0 := tyX4) rfl in_X4 tyX4_ok nmX4 4 (by decide) q1626 (Or.inl rfl) rfl rfl rfl (Nat.le_of_ble_eq_true rfl) dX4_gates_27 30 rfl (fun H15 ho16 hz17 hq18 => ?_)
      have ho16 : nwO d y 9 [.int (nI 0), .int (nI (gr_w (sg_gr σ))), .int (nI (gr_h (sg_gr σ))), .ref (am 9), .int (nI an), .int (oI (gaM_t (sg_ga σ))), .ref (am 1), .ref (am 2), .ref (am 3), .ref (am 4), .int (nI (wo_s (sg_wo σ))), .int (nI (wo_m (sg_wo σ))), .int (nI (sp_after (wo_x (sg_wo σ)))), .ref (am 11), .ref (am 12), .int (nI (sg_ri σ)), .ref (am 8), .ref (am 5), .ref (am 6), .int (nI (sg_rf σ))] H15 := ho16
      refine nw_aload_n C 0 dX4_gates_30 rfl 31 rfl ?_
      refine nw_iload_n C 2 dX4_gates_31 rfl 32 rfl ?_
      refine nw_put C ho16 hAy (T := TX4) (ty0 := tyX4) rfl in_X4 tyX4_ok nmX4 5 (by decide) q1627 (Or.inl rfl) rfl rfl rfl (Nat.le_of_ble_eq_true rfl) dX4_gates_32 35 rfl (fun H19 ho20 hz21 hq22 => ?_)
      have ho20 : nwO d y 9 [.int (nI 0), .int (nI (gr_w (sg_gr σ))), .int (nI (gr_h (sg_gr σ))), .ref (am 9), .int (nI an), .int (nI bn), .ref (am 1), .ref (am 2), .ref (am 3), .ref (am 4), .int (nI (wo_s (sg_wo σ))), .int (nI (wo_m (sg_wo σ))), .int (nI (sp_after (wo_x (sg_wo σ)))), .ref (am 11), .ref (am 12), .int (nI (sg_ri σ)), .ref (am 8), .ref (am 5), .ref (am 6), .int (nI (sg_rf σ))] H19 := ho20
      have hz23 : H19.size = H2.size := hz21.trans hz17
      have hq24 : ∀ q9 : Nat, q9 ≠ y → H19[q9]? = H2[q9]? := fun q9 n9 => (hq22 q9 n9).trans (hq18 q9 n9)
      have hRc := hR.ext hext
      have hR1 := nwMW.obj hRc (t := st_ga σ (some (an, bn))) (Nat.le_of_eq hz23.symm) (fun q9 _ n9 _ => hq24 q9 n9) ⟨Or.inr rfl, Or.inr rfl, Or.inr rfl, Or.inr rfl, Or.inr rfl, Or.inr rfl, Or.inr rfl, Or.inr rfl, Or.inr rfl⟩ ho20
      have hAq : ∀ q8, q8 < H2.size → q8 = y → nwAM ro H q8 := fun q8 _ h9 => by rw [h9]; exact hAy
      obtain ⟨σ1, hσ1⟩ : ∃ t9 : spSg, t9 = st_ga σ (some (an, bn)) := ⟨_, rfl⟩
      rw [← hσ1] at hR1
      have hgr9 : sg_gr σ1 = sg_gr σ := by rw [hσ1]; rfl
      replace hE := hE.kept (fun q9 g9 hb9 => (fun q9 _ n9 => hq24 q9 n9) q9 g9 (fun h9 => hb9 (C.hB q9 (hAq q9 g9 h9))))
      have hsz : H.size ≤ H19.size := Nat.le_trans (Nat.le_trans (Nat.le_of_eq hzb.symm) hext.1) (Nat.le_of_eq hz23.symm)
      replace hB := Nat.le_trans hB (Nat.le_of_eq hz23.symm)
      have ok9 : spOk σ1 := by rw [hσ1]; exact ⟨okg, okl, okf, oku, okp, oki, okw, okd, okk, fun a9 b9 e9 => by cases e9; exact ⟨by omega, by omega⟩⟩
      replace ok := ok9
      replace okM := ok.m
      replace hR := hR1
      replace hW := hR.wc
      clear hmX hmKi hmLa hmFo hmGu hmPo hmIn hmWi hmWo hmKe okg okl okf oku okp oki okw okd okk oka hn64 oku1 oki1 okp1 okw1 okl1 okf1
      obtain ⟨hmX, hmKi, hmLa, hmFo, hmGu, hmPo, hmIn, hmWi, hmWo, hmKe⟩ := id hW
      obtain ⟨okg, okl, okf, oku, okp, oki, okw, okd, okk, oka⟩ := id ok
      have hn64 : gr_n (sg_gr σ1) ≤ 64 := okg.n
      have oku1 := oku.1
      have oki1 := oki.1
      have okp1 := okp.1
      have okw1 := okw.1
      have okl1 := okl.1
      have okf1 := okf.1
      refine nw_iconst C (nI 0) dX4_gates_35 (by decide) 36 rfl ?_
      refine nw_istore_n C [(3, .int (nI 0)), (0, .ref y), (1, .int (nI an)), (2, .int (nI bn))] dX4_gates_36 (by decide) rfl 37 rfl ?_
      refine nw_aload_n C 1 dX4_gates_37 rfl 38 rfl ?_
      refine nw_get C hmX (T := TX4) rfl in_X4 3 (by decide) q1625 (Or.inl rfl) rfl dX4_gates_38 41 rfl ?_
      refine nw_astore C [(4, .ref (am 9)), (3, .int (nI 0)), (0, .ref y), (1, .int (nI an)), (2, .int (nI bn))] dX4_gates_41 (by decide) rfl 43 rfl ?_
      refine nw_aload C 0 dX4_gates_43 rfl 45 rfl ?_
      refine nw_alenI C hmKi (by decide) dX4_gates_45 46 rfl ?_
      refine nw_istore C [(5, .int (nI (gr_n (sg_gr σ1)))), (4, .ref (am 9)), (3, .int (nI 0)), (0, .ref y), (1, .int (nI an)), (2, .int (nI bn))] dX4_gates_46 (by decide) rfl 48 rfl ?_
      refine nw_iconst C (nI 0) dX4_gates_48 (by decide) 49 rfl ?_
      refine nw_istore C [(6, .int (nI 0)), (5, .int (nI (gr_n (sg_gr σ1)))), (4, .ref (am 9)), (3, .int (nI 0)), (0, .ref y), (1, .int (nI an)), (2, .int (nI bn))] dX4_gates_49 (by decide) rfl 51 rfl ?_
      have lp1 : ∀ (fu : Nat) (i : Nat) (m : Nat), (i ≤ gr_n (sg_gr σ1)) → (m = sp_cnt (fun c => gr_k (sg_gr σ1) c == 3) i) → gr_n (sg_gr σ1) - i < fu → nwV X (nwAM ro H) (nwQE X (nwMv d ro y (op_gates σ (nI an) (nI bn)) H) nwNo (nwAM ro H) 0 0) 8 H19 0 0 51 [(3, .int (nI m)), (4, .ref (am 9)), (5, .int (nI (gr_n (sg_gr σ1)))), (6, .int (nI i))] [] := by
        intro fu
        induction fu with
        | zero => intro i m _ _ hm; exact absurd hm (Nat.not_lt_zero _)
        | succ fu ih_lp1 =>
          intro i m hi hmm hm
          refine nw_iload C 3 dX4_gates_51 rfl 53 rfl ?_
          refine nw_iload C 2 dX4_gates_53 rfl 55 rfl ?_
          refine nw_icmpgeN C (by omega) 85 dX4_gates_55 (by decide) 58 rfl (fun h25 => ?_) (fun h25 => ?_)
          · refine nw_iload_n C 0 dX4_gates_85 rfl 86 rfl ?_
            have hop : op_gates σ (nI an) (nI bn) = (0, nI (sp_cnt (fun c => gr_k (sg_gr σ) c == 3) (gr_n (sg_gr σ))), σ1) := by rw [hσ1]; simp [op_gates, h6, h13, h25, en_an, en_bn]
            exact nw_iret C dX4_gates_86 (Nat.le_refl _) (Nat.le_refl _) (by rw [hop]; exact ⟨congrArg (fun z => some (Value.int z)) (show nI m = nI (sp_cnt (fun c => gr_k (sg_gr σ) c == 3) (gr_n (sg_gr σ))) by rw [hmm, ← hgr9, show i = gr_n (sg_gr σ1) by omega]), ok, hsz, ro, am, hR, (fun _ _ => rfl)⟩)
          · have hk4 : gr_k (sg_gr σ1) i < 4 := (okg.here (show i < gr_n (sg_gr σ1) by omega)).2 i (by omega)
            refine nw_aload C 1 dX4_gates_58 rfl 60 rfl ?_
            refine nw_iload C 3 dX4_gates_60 rfl 62 rfl ?_
            refine nw_ialdN C (nI (gr_k (sg_gr σ1) i)) hmKi (by omega) rfl dX4_gates_62 63 rfl ?_
            refine nw_istore C [(7, .int (nI (gr_k (sg_gr σ1) i))), (3, .int (nI m)), (4, .ref (am 9)), (5, .int (nI (gr_n (sg_gr σ1)))), (6, .int (nI i))] dX4_gates_63 (by decide) rfl 65 rfl ?_
            refine nw_iload_n C 1 dX4_gates_65 rfl 66 rfl ?_
            refine nw_iload C 0 dX4_gates_66 rfl 68 rfl ?_
            refine nw_iconst C (nI 3) dX4_gates_68 (by decide) 69 rfl ?_
            refine nw_icmpneN C (by omega) 76 dX4_gates_69 (by decide) 72 rfl (fun h26 => ?_) (fun h26 => ?_)
            · refine nw_iconst C (nI 0) dX4_gates_76 (by decide) 77 rfl ?_
              refine nw_iaddN C dX4_gates_77 78 rfl ?_
              refine nw_istore_n C [(3, .int (nI (m + 0))), (7, .int (nI (gr_k (sg_gr σ1) i))), (4, .ref (am 9)), (5, .int (nI (gr_n (sg_gr σ1)))), (6, .int (nI i))] dX4_gates_78 (by decide) rfl 79 rfl ?_
              refine nw_iincN C 4 (c0 := 1) [(6, .int (nI (i + 1))), (3, .int (nI (m + 0))), (7, .int (nI (gr_k (sg_gr σ1) i))), (4, .ref (am 9)), (5, .int (nI (gr_n (sg_gr σ1))))] dX4_gates_79 rfl (by decide) rfl 82 rfl ?_
              refine nw_goto C 51 dX4_gates_82 (by decide) ?_
              exact (nw_sub [1, 3, 4, 0] rfl (ih_lp1 (i + 1) m (by omega) (by rw [sp_cnt_f (p := (fun c => gr_k (sg_gr σ1) c == 3)) (n := i) (by simp [h26])]; omega) (by omega)))
            · refine nw_iconst C (nI 1) dX4_gates_72 (by decide) 73 rfl ?_
              refine nw_goto C 77 dX4_gates_73 (by decide) ?_
              refine nw_iaddN C dX4_gates_77 78 rfl ?_
              refine nw_istore_n C [(3, .int (nI (m + 1))), (7, .int (nI (gr_k (sg_gr σ1) i))), (4, .ref (am 9)), (5, .int (nI (gr_n (sg_gr σ1)))), (6, .int (nI i))] dX4_gates_78 (by decide) rfl 79 rfl ?_
              refine nw_iincN C 4 (c0 := 1) [(6, .int (nI (i + 1))), (3, .int (nI (m + 1))), (7, .int (nI (gr_k (sg_gr σ1) i))), (4, .ref (am 9)), (5, .int (nI (gr_n (sg_gr σ1))))] dX4_gates_79 rfl (by decide) rfl 82 rfl ?_
              refine nw_goto C 51 dX4_gates_82 (by decide) ?_
              exact (nw_sub [1, 3, 4, 0] rfl (ih_lp1 (i + 1) (m + 1) (by omega) (by rw [sp_cnt_t (p := (fun c => gr_k (sg_gr σ1) c == 3)) (n := i) (by simp [h26])]; omega) (by omega)))
      exact (nw_sub [3, 2, 1, 0] rfl (lp1 _ 0 0 (Nat.zero_le _) rfl (Nat.lt_succ_self _)))
    · refine nw_aload_n C 0 dX4_gates_19 rfl 20 rfl ?_
      refine nw_iconst C (nI 1) dX4_gates_20 (by decide) 21 rfl ?_
      refine nw_callV C (mX4_no _ C.hfl d y (.int (nI 0)) (.int (nI (gr_w (sg_gr σ)))) (.int (nI (gr_h (sg_gr σ)))) (.ref (am 9)) (.int (nI (gaM_f (sg_ga σ)))) (.int (oI (gaM_t (sg_ga σ)))) (.ref (am 1)) (.ref (am 2)) (.ref (am 3)) (.ref (am 4)) (.int (nI (wo_s (sg_wo σ)))) (.int (nI (wo_m (sg_wo σ)))) (.int (nI (sp_after (wo_x (sg_wo σ))))) (.ref (am 11)) (.ref (am 12)) (.int (nI (sg_ri σ))) (.ref (am 8)) (.ref (am 5)) (.ref (am 6)) (.int (nI (sg_rf σ))) (nI 1) H2 hB hyB hmX) kX4_no q1694 (hmX.is C (ci := 9) rfl) (As := [.int (nI 1)]) (rest := []) rfl rfl ⟨⟨Nat.le_of_ble_eq_true rfl, Nat.le_of_ble_eq_true rfl⟩, (show 0 + 0 ≤ 0 by omega), (show 0 + 0 ≤ 0 by omega)⟩ (Nat.le_of_ble_eq_true rfl) (fun q8 h8 h9 => h9.elim (fun e9 => by rw [e9]; exact hAy) (fun e9 => absurd h8 (Nat.not_lt.mpr e9))) dX4_gates_21 24 rfl (fun v9 H27 hR28 hz29 hq30 => ?_) nw_noX
      obtain ⟨rfl, ho31⟩ := hR28
      have hR8 := hR.ext hext
      have hR9 : nwMW d ro am y σ (nI 1) H27 := hR8.obj hz29 (fun q9 g9 n9 _ => hq30 q9 g9 (fun e9 => e9.elim n9 (Nat.not_le.mpr g9))) mSame.rfl ho31
      have hle9 : H.size ≤ H27.size := Nat.le_trans (Nat.le_of_eq hzb.symm) (Nat.le_trans hext.1 hz29)
      show nwV X _ _ 8 H27 (0 + 0) (0 + 0) 24 [(0, .ref y), (1, .int (nI an)), (2, .int b)] [.int (nI 0)]
      refine nw_wide (k' := 0) (n' := 0) (by omega) (by omega) ?_
      have hop : op_gates σ (nI an) b = (1, 0, σ) := by simp [op_gates, h6, h13, en_an]
      exact nw_iret C dX4_gates_24 (Nat.le_refl _) (Nat.le_refl _) (by rw [hop]; exact ⟨rfl, ok, hle9, ro, am, hR9, fun _ _ => rfl⟩)
set_option maxHeartbeats 4000000 in
theorem mX4_key (l : Launch) (hf : l.flags = flags0) (d : nwD) (ro am : Nat → Nat) (y : Nat) (σ : spSg) (th : Int32) (k : Int32) (g : Int32) (H : Heap) (hB : nd_B d ≤ H.size) (hR : nwMW d ro am y σ th H) (ok : spOk σ) : nwMt l d yX4_key cX4_key 4 (some .int) 3 63 0 0 [.ref y, .int k, .int g] H (nwMv d ro y (op_key σ k g) H) nwNo (nwAM ro H) := by
  refine nw_start "NightwatchWallModel" "key" hf (by decide +kernel) rfl rfl (fun _ h => Or.inr h) (nwAM_B hR hB) (Nat.le_of_ble_eq_true rfl) ?_
  intro X C
  have hW := hR.wc
  have okM := ok.m
  have hyB := (hR.ok0 (show ro y ≠ 0 by rw [hR.2.1.2]; decide)).1
  have hAy : nwAM ro H y := Or.inl (by rw [hR.2.1.2]; decide +kernel)
  have hW0 := hW
  have hB0 := hB
  have hE := C.E0
  have hext : nwExt H H := nwExt.rfl
  obtain ⟨hmX, hmKi, hmLa, hmFo, hmGu, hmPo, hmIn, hmWi, hmWo, hmKe⟩ := id hW
  obtain ⟨okg, okl, okf, oku, okp, oki, okw, okd, okk, oka⟩ := id ok
  have hn64 : gr_n (sg_gr σ) ≤ 64 := okg.n
  have oku1 := oku.1
  have oki1 := oki.1
  have okp1 := okp.1
  have okw1 := okw.1
  have okl1 := okl.1
  have okf1 := okf.1
  show nwV X _ _ 4 H 0 0 0 [(0, .ref y), (1, .int k), (2, .int g)] []
  refine nw_aload_n C 0 dX4_key_0 rfl 1 rfl ?_
  refine nw_iconst C (nI 0) dX4_key_1 (by decide) 2 rfl ?_
  refine nw_put C hmX hAy (T := TX4) (ty0 := tyX4) rfl in_X4 tyX4_ok nmX4 0 (by decide) q1622 (Or.inl rfl) rfl rfl rfl (Nat.le_of_ble_eq_true rfl) dX4_key_2 5 rfl (fun H1 ho2 hz3 hq4 => ?_)
  have ho2 : nwO d y 9 [.int (nI 0), .int (nI (gr_w (sg_gr σ))), .int (nI (gr_h (sg_gr σ))), .ref (am 9), .int (nI (gaM_f (sg_ga σ))), .int (oI (gaM_t (sg_ga σ))), .ref (am 1), .ref (am 2), .ref (am 3), .ref (am 4), .int (nI (wo_s (sg_wo σ))), .int (nI (wo_m (sg_wo σ))), .int (nI (sp_after (wo_x (sg_wo σ)))), .ref (am 11), .ref (am 12), .int (nI (sg_ri σ)), .ref (am 8), .ref (am 5), .ref (am 6), .int (nI (sg_rf σ))] H1 := ho2
  replace hR := hR.th hz3 hq4 ho2
  have hzb : H1.size = H.size := hz3
  replace hB0 : nd_B d ≤ H1.size := by rw [hz3]; exact hB0
  replace hB := hB0
  replace hE := hE.kept (fun q9 _ hb9 => hq4 q9 (fun e9 => hb9 (by rw [e9]; exact hyB)))
  have hE0 := hE
  replace hW0 := hR.wc
  replace hW := hW0
  replace hext : nwExt H1 H1 := nwExt.rfl
  clear hmX hmKi hmLa hmFo hmGu hmPo hmIn hmWi hmWo hmKe
  obtain ⟨hmX, hmKi, hmLa, hmFo, hmGu, hmPo, hmIn, hmWi, hmWo, hmKe⟩ := id hW
  refine nw_iload_n C 1 dX4_key_5 rfl 6 rfl ?_
  refine nw_iconst C (nI 0) dX4_key_6 (by decide) 7 rfl ?_
  refine nw_iconst C (nI 5) dX4_key_7 (by decide) 8 rfl ?_
  refine nw_callS C (mX4_in05 _ C.hfl d k H1 hB) kX4_in q1691 (As := [.int k, .int (nI 0), .int (nI 5)]) (rest := []) rfl rfl ⟨⟨Nat.le_of_ble_eq_true rfl, Nat.le_of_ble_eq_true rfl⟩, Nat.le_of_ble_eq_true rfl, Nat.le_of_ble_eq_true rfl⟩ (Nat.le_of_ble_eq_true rfl) (fun _ h8 h9 => absurd h9 (Nat.not_le.mpr h8)) dX4_key_8 11 rfl (nw_rdK ?_) nw_noX
  refine nw_ifeqB C 27 dX4_key_11 (by decide) 14 rfl (fun h5 => ?_) (fun h5 => ?_)
  · refine nw_aload_n C 0 dX4_key_27 rfl 28 rfl ?_
    refine nw_iconst C (nI 1) dX4_key_28 (by decide) 29 rfl ?_
    refine nw_callV C (mX4_no _ C.hfl d y (.int (nI 0)) (.int (nI (gr_w (sg_gr σ)))) (.int (nI (gr_h (sg_gr σ)))) (.ref (am 9)) (.int (nI (gaM_f (sg_ga σ)))) (.int (oI (gaM_t (sg_ga σ)))) (.ref (am 1)) (.ref (am 2)) (.ref (am 3)) (.ref (am 4)) (.int (nI (wo_s (sg_wo σ)))) (.int (nI (wo_m (sg_wo σ)))) (.int (nI (sp_after (wo_x (sg_wo σ))))) (.ref (am 11)) (.ref (am 12)) (.int (nI (sg_ri σ))) (.ref (am 8)) (.ref (am 5)) (.ref (am 6)) (.int (nI (sg_rf σ))) (nI 1) H1 hB hyB hmX) kX4_no q1694 (hmX.is C (ci := 9) rfl) (As := [.int (nI 1)]) (rest := []) rfl rfl ⟨⟨Nat.le_of_ble_eq_true rfl, Nat.le_of_ble_eq_true rfl⟩, (show 0 + 0 ≤ 0 by omega), (show 0 + 0 ≤ 0 by omega)⟩ (Nat.le_of_ble_eq_true rfl) (fun q8 h8 h9 => h9.elim (fun e9 => by rw [e9]; exact hAy) (fun e9 => absurd h8 (Nat.not_lt.mpr e9))) dX4_key_29 32 rfl (fun v9 H6 hR7 hz8 hq9 => ?_) nw_noX
    obtain ⟨rfl, ho10⟩ := hR7
    have hR8 := hR.ext hext
    have hR9 : nwMW d ro am y σ (nI 1) H6 := hR8.obj hz8 (fun q9 g9 n9 _ => hq9 q9 g9 (fun e9 => e9.elim n9 (Nat.not_le.mpr g9))) mSame.rfl ho10
    have hle9 : H.size ≤ H6.size := Nat.le_trans (Nat.le_of_eq hzb.symm) (Nat.le_trans hext.1 hz8)
    show nwV X _ _ 4 H6 (0 + 0) (0 + 0) 32 [(0, .ref y), (1, .int k), (2, .int g)] [.int (nI 0)]
    refine nw_wide (k' := 0) (n' := 0) (by omega) (by omega) ?_
    have hop : op_key σ k g = (1, 0, σ) := by simp [op_key, h5]
    exact nw_iret C dX4_key_32 (Nat.le_refl _) (Nat.le_refl _) (by rw [hop]; exact ⟨rfl, ok, hle9, ro, am, hR9, fun _ _ => rfl⟩)
  · obtain ⟨kn, hk11, rfl⟩ := nw_ix_nat (by omega) h5
    have en_kn : nw_nn (nI kn) = kn := nw_nn_nI (by omega)
    refine nw_iload_n C 2 dX4_key_14 rfl 15 rfl ?_
    refine nw_iconst C (oI none) dX4_key_15 (by decide) 16 rfl ?_
    refine nw_icmpeq C 33 dX4_key_16 (by decide) 19 rfl (fun h12 => ?_) (fun h12 => ?_)
    · subst h12
      have hbO := nw_ixO_none (n := (sg_gu σ).1) (by omega)
      have hon : ∀ g9, (none : Option Nat) = some g9 → g9 < (sg_gu σ).1 := fun _ e9 => by cases e9
      refine nw_aload_n C 0 dX4_key_33 rfl 34 rfl ?_
      refine nw_get C hmX (T := TX4) rfl in_X4 16 (by decide) q1638 (Or.inl rfl) rfl dX4_key_34 37 rfl ?_
      refine nw_iload_n C 1 dX4_key_37 rfl 38 rfl ?_
      refine nw_ialdN C (oI (sg_ke σ kn)) hmKe (by omega) rfl dX4_key_38 39 rfl ?_
      refine nw_istore_n C [(3, .int (oI (sg_ke σ kn))), (0, .ref y), (1, .int (nI kn)), (2, .int (oI none))] dX4_key_39 (by decide) rfl 40 rfl ?_
      refine nw_aload_n C 1 dX4_key_40 rfl 41 rfl ?_
      refine nw_get C hmX (T := TX4) rfl in_X4 16 (by decide) q1638 (Or.inl rfl) rfl dX4_key_41 44 rfl ?_
      refine nw_iload_n C 2 dX4_key_44 rfl 45 rfl ?_
      refine nw_iload_n C 3 dX4_key_45 rfl 46 rfl ?_
      refine nw_iastN C hmKe (Or.inl (by rw [hR.2.2.2.2.2.2.2.2.2.2.2]; decide +kernel)) (by omega) dX4_key_46 47 rfl (fun H13 ho14 hz15 hq16 => ?_)
      have hRc := hR.ext hext
      have hR1 := trm_pKe hRc (ke := sp_up (sg_ke σ) kn none) hz15 hq16 (nwI.congr ho14 (fun j _ => nw_upO rfl))
      have hAq : ∀ q8, q8 < H1.size → q8 = am 8 → nwAM ro H q8 := fun q8 _ h9 => by rw [h9]; exact (Or.inl (by rw [hR.2.2.2.2.2.2.2.2.2.2.2]; decide +kernel))
      obtain ⟨σ1, hσ1⟩ : ∃ t9 : spSg, t9 = st_ke σ (sp_up (sg_ke σ) kn none) := ⟨_, rfl⟩
      rw [← hσ1] at hR1
      replace hE := hE.kept (fun q9 g9 hb9 => (fun q9 _ n9 => hq16 q9 n9) q9 g9 (fun h9 => hb9 (C.hB q9 (hAq q9 g9 h9))))
      have hsz : H.size ≤ H13.size := Nat.le_trans (Nat.le_trans (Nat.le_of_eq hzb.symm) hext.1) (Nat.le_of_eq hz15.symm)
      replace hB := Nat.le_trans hB (Nat.le_of_eq hz15.symm)
      have ok9 : spOk σ1 := by rw [hσ1]; exact ⟨okg, okl, okf, oku, okp, oki, okw, okd, fun j hj g9 e9 => (by
              have h9 := sp_up_all (j := kn) (v := none) (Q := fun o => ∀ g, o = some g → g < (sg_gu σ).1) okk hon j hj; exact h9 g9 e9), oka⟩
      replace ok := ok9
      replace okM := ok.m
      replace hR := hR1
      replace hW := hR.wc
      clear hmX hmKi hmLa hmFo hmGu hmPo hmIn hmWi hmWo hmKe okg okl okf oku okp oki okw okd okk oka hn64 oku1 oki1 okp1 okw1 okl1 okf1
      obtain ⟨hmX, hmKi, hmLa, hmFo, hmGu, hmPo, hmIn, hmWi, hmWo, hmKe⟩ := id hW
      obtain ⟨okg, okl, okf, oku, okp, oki, okw, okd, okk, oka⟩ := id ok
      have hn64 : gr_n (sg_gr σ1) ≤ 64 := okg.n
      have oku1 := oku.1
      have oki1 := oki.1
      have okp1 := okp.1
      have okw1 := okw.1
      have okl1 := okl.1
      have okf1 := okf.1
      refine nw_iload_n C 0 dX4_key_47 rfl 48 rfl ?_
      have hop : op_key σ (nI kn) (oI none) = (0, oI (sg_ke σ kn), σ1) := by rw [hσ1]; simp [op_key, h5, en_kn, hbO, sp_oi]
      exact nw_iret C dX4_key_48 (Nat.le_refl _) (Nat.le_refl _) (by rw [hop]; exact ⟨congrArg (fun z => some (Value.int z)) rfl, ok, hsz, ro, am, hR, (fun _ _ => rfl)⟩)
    · refine nw_aload_n C 0 dX4_key_19 rfl 20 rfl ?_
      refine nw_iload_n C 2 dX4_key_20 rfl 21 rfl ?_
      refine nw_callV C (mX4_isGuard _ C.hfl d ro am y σ (nI 0) g H1 hB hW okM ) kX4_isGuard q1808 (hmX.is C (ci := 9) rfl) (As := [.int g]) (rest := []) rfl rfl ⟨⟨Nat.le_of_ble_eq_true rfl, Nat.le_of_ble_eq_true rfl⟩, Nat.le_of_ble_eq_true rfl, Nat.le_of_ble_eq_true rfl⟩ (Nat.le_of_ble_eq_true rfl) (fun _ h8 h9 => absurd h9 (Nat.not_le.mpr h8)) dX4_key_21 24 rfl (nw_rdK ?_) nw_noX
      refine nw_ifneB C 33 dX4_key_24 (by decide) 27 rfl (fun h17 => ?_) (fun h17 => ?_)
      · obtain ⟨gn, hk18, rfl⟩ := nw_ix_nat (by omega) h17
        have en_gn : nw_nn (nI gn) = gn := nw_nn_nI (by omega)
        have hbO := nw_ixO_some (v := gn) (n := (sg_gu σ).1) (by omega) (by assumption)
        have ne_gn : ¬ nI gn = oI none := nI_m1 (by omega)
        have hon : ∀ g9, some gn = some g9 → g9 < (sg_gu σ).1 := fun _ e9 => by cases e9; assumption
        refine nw_aload_n C 0 dX4_key_33 rfl 34 rfl ?_
        refine nw_get C hmX (T := TX4) rfl in_X4 16 (by decide) q1638 (Or.inl rfl) rfl dX4_key_34 37 rfl ?_
        refine nw_iload_n C 1 dX4_key_37 rfl 38 rfl ?_
        refine nw_ialdN C (oI (sg_ke σ kn)) hmKe (by omega) rfl dX4_key_38 39 rfl ?_
        refine nw_istore_n C [(3, .int (oI (sg_ke σ kn))), (0, .ref y), (1, .int (nI kn)), (2, .int (nI gn))] dX4_key_39 (by decide) rfl 40 rfl ?_
        refine nw_aload_n C 1 dX4_key_40 rfl 41 rfl ?_
        refine nw_get C hmX (T := TX4) rfl in_X4 16 (by decide) q1638 (Or.inl rfl) rfl dX4_key_41 44 rfl ?_
        refine nw_iload_n C 2 dX4_key_44 rfl 45 rfl ?_
        refine nw_iload_n C 3 dX4_key_45 rfl 46 rfl ?_
        refine nw_iastN C hmKe (Or.inl (by rw [hR.2.2.2.2.2.2.2.2.2.2.2]; decide +kernel)) (by omega) dX4_key_46 47 rfl (fun H19 ho20 hz21 hq22 => ?_)
        have hRc := hR.ext hext
        have hR1 := trm_pKe hRc (ke := sp_up (sg_ke σ) kn (some gn)) hz21 hq22 (nwI.congr ho20 (fun j _ => nw_upO rfl))
        have hAq : ∀ q8, q8 < H1.size → q8 = am 8 → nwAM ro H q8 := fun q8 _ h9 => by rw [h9]; exact (Or.inl (by rw [hR.2.2.2.2.2.2.2.2.2.2.2]; decide +kernel))
        obtain ⟨σ1, hσ1⟩ : ∃ t9 : spSg, t9 = st_ke σ (sp_up (sg_ke σ) kn (some gn)) := ⟨_, rfl⟩
        rw [← hσ1] at hR1
        replace hE := hE.kept (fun q9 g9 hb9 => (fun q9 _ n9 => hq22 q9 n9) q9 g9 (fun h9 => hb9 (C.hB q9 (hAq q9 g9 h9))))
        have hsz : H.size ≤ H19.size := Nat.le_trans (Nat.le_trans (Nat.le_of_eq hzb.symm) hext.1) (Nat.le_of_eq hz21.symm)
        replace hB := Nat.le_trans hB (Nat.le_of_eq hz21.symm)
        have ok9 : spOk σ1 := by rw [hσ1]; exact ⟨okg, okl, okf, oku, okp, oki, okw, okd, fun j hj g9 e9 => (by
                have h9 := sp_up_all (j := kn) (v := (some gn)) (Q := fun o => ∀ g, o = some g → g < (sg_gu σ).1) okk hon j hj; exact h9 g9 e9), oka⟩
        replace ok := ok9
        replace okM := ok.m
        replace hR := hR1
        replace hW := hR.wc
        clear hmX hmKi hmLa hmFo hmGu hmPo hmIn hmWi hmWo hmKe okg okl okf oku okp oki okw okd okk oka hn64 oku1 oki1 okp1 okw1 okl1 okf1
        obtain ⟨hmX, hmKi, hmLa, hmFo, hmGu, hmPo, hmIn, hmWi, hmWo, hmKe⟩ := id hW
        obtain ⟨okg, okl, okf, oku, okp, oki, okw, okd, okk, oka⟩ := id ok
        have hn64 : gr_n (sg_gr σ1) ≤ 64 := okg.n
        have oku1 := oku.1
        have oki1 := oki.1
        have okp1 := okp.1
        have okw1 := okw.1
        have okl1 := okl.1
        have okf1 := okf.1
        refine nw_iload_n C 0 dX4_key_47 rfl 48 rfl ?_
        have hop : op_key σ (nI kn) (nI gn) = (0, oI (sg_ke σ kn), σ1) := by rw [hσ1]; simp [op_key, h5, h12, h17, en_kn, en_gn, hbO, ne_gn, sp_oi]
        exact nw_iret C dX4_key_48 (Nat.le_refl _) (Nat.le_refl _) (by rw [hop]; exact ⟨congrArg (fun z => some (Value.int z)) rfl, ok, hsz, ro, am, hR, (fun _ _ => rfl)⟩)
      · have hbO := nw_ixOF (n := (sg_gu σ).1) (by omega) h17 h12
        refine nw_aload_n C 0 dX4_key_27 rfl 28 rfl ?_
        refine nw_iconst C (nI 1) dX4_key_28 (by decide) 29 rfl ?_
        refine nw_callV C (mX4_no _ C.hfl d y (.int (nI 0)) (.int (nI (gr_w (sg_gr σ)))) (.int (nI (gr_h (sg_gr σ)))) (.ref (am 9)) (.int (nI (gaM_f (sg_ga σ)))) (.int (oI (gaM_t (sg_ga σ)))) (.ref (am 1)) (.ref (am 2)) (.ref (am 3)) (.ref (am 4)) (.int (nI (wo_s (sg_wo σ)))) (.int (nI (wo_m (sg_wo σ)))) (.int (nI (sp_after (wo_x (sg_wo σ))))) (.ref (am 11)) (.ref (am 12)) (.int (nI (sg_ri σ))) (.ref (am 8)) (.ref (am 5)) (.ref (am 6)) (.int (nI (sg_rf σ))) (nI 1) H1 hB hyB hmX) kX4_no q1694 (hmX.is C (ci := 9) rfl) (As := [.int (nI 1)]) (rest := []) rfl rfl ⟨⟨Nat.le_of_ble_eq_true rfl, Nat.le_of_ble_eq_true rfl⟩, (show 0 + 0 ≤ 0 by omega), (show 0 + 0 ≤ 0 by omega)⟩ (Nat.le_of_ble_eq_true rfl) (fun q8 h8 h9 => h9.elim (fun e9 => by rw [e9]; exact hAy) (fun e9 => absurd h8 (Nat.not_lt.mpr e9))) dX4_key_29 32 rfl (fun v9 H23 hR24 hz25 hq26 => ?_) nw_noX
        obtain ⟨rfl, ho27⟩ := hR24
        have hR8 := hR.ext hext
        have hR9 : nwMW d ro am y σ (nI 1) H23 := hR8.obj hz25 (fun q9 g9 n9 _ => hq26 q9 g9 (fun e9 => e9.elim n9 (Nat.not_le.mpr g9))) mSame.rfl ho27
        have hle9 : H.size ≤ H23.size := Nat.le_trans (Nat.le_of_eq hzb.symm) (Nat.le_trans hext.1 hz25)
        show nwV X _ _ 4 H23 (0 + 0) (0 + 0) 32 [(0, .ref y), (1, .int (nI kn)), (2, .int g)] [.int (nI 0)]
        refine nw_wide (k' := 0) (n' := 0) (by omega) (by omega) ?_
        have hop : op_key σ (nI kn) g = (1, 0, σ) := by simp [op_key, h5, h12, h17, en_kn, hbO]
        exact nw_iret C dX4_key_32 (Nat.le_refl _) (Nat.le_refl _) (by rw [hop]; exact ⟨rfl, ok, hle9, ro, am, hR9, fun _ _ => rfl⟩)
set_option maxHeartbeats 4000000 in
theorem mX4_knock (l : Launch) (hf : l.flags = flags0) (d : nwD) (ro am : Nat → Nat) (y : Nat) (σ : spSg) (th : Int32)  (H : Heap) (hB : nd_B d ≤ H.size) (hR : nwMW d ro am y σ th H) (ok : spOk σ) : nwMt l d yX4_knock cX4_knock 1 (some .int) 1 20 0 0 [.ref y] H (nwMv d ro y (op_knock σ) H) nwNo (nwAM ro H) := by
  refine nw_start "NightwatchWallModel" "knock" hf (by decide +kernel) rfl rfl (fun _ h => Or.inr h) (nwAM_B hR hB) (Nat.le_of_ble_eq_true rfl) ?_
  intro X C
  have hW := hR.wc
  have okM := ok.m
  have hyB := (hR.ok0 (show ro y ≠ 0 by rw [hR.2.1.2]; decide)).1
  have hAy : nwAM ro H y := Or.inl (by rw [hR.2.1.2]; decide +kernel)
  have hW0 := hW
  have hB0 := hB
  have hE := C.E0
  have hext : nwExt H H := nwExt.rfl
  obtain ⟨hmX, hmKi, hmLa, hmFo, hmGu, hmPo, hmIn, hmWi, hmWo, hmKe⟩ := id hW
  obtain ⟨okg, okl, okf, oku, okp, oki, okw, okd, okk, oka⟩ := id ok
  have hn64 : gr_n (sg_gr σ) ≤ 64 := okg.n
  have oku1 := oku.1
  have oki1 := oki.1
  have okp1 := okp.1
  have okw1 := okw.1
  have okl1 := okl.1
  have okf1 := okf.1
  show nwV X _ _ 1 H 0 0 0 [(0, .ref y)] []
  refine nw_aload_n C 0 dX4_knock_0 rfl 1 rfl ?_
  refine nw_iconst C (nI 0) dX4_knock_1 (by decide) 2 rfl ?_
  refine nw_put C hmX hAy (T := TX4) (ty0 := tyX4) rfl in_X4 tyX4_ok nmX4 0 (by decide) q1622 (Or.inl rfl) rfl rfl rfl (Nat.le_of_ble_eq_true rfl) dX4_knock_2 5 rfl (fun H1 ho2 hz3 hq4 => ?_)
  have ho2 : nwO d y 9 [.int (nI 0), .int (nI (gr_w (sg_gr σ))), .int (nI (gr_h (sg_gr σ))), .ref (am 9), .int (nI (gaM_f (sg_ga σ))), .int (oI (gaM_t (sg_ga σ))), .ref (am 1), .ref (am 2), .ref (am 3), .ref (am 4), .int (nI (wo_s (sg_wo σ))), .int (nI (wo_m (sg_wo σ))), .int (nI (sp_after (wo_x (sg_wo σ)))), .ref (am 11), .ref (am 12), .int (nI (sg_ri σ)), .ref (am 8), .ref (am 5), .ref (am 6), .int (nI (sg_rf σ))] H1 := ho2
  replace hR := hR.th hz3 hq4 ho2
  have hzb : H1.size = H.size := hz3
  replace hB0 : nd_B d ≤ H1.size := by rw [hz3]; exact hB0
  replace hB := hB0
  replace hE := hE.kept (fun q9 _ hb9 => hq4 q9 (fun e9 => hb9 (by rw [e9]; exact hyB)))
  have hE0 := hE
  replace hW0 := hR.wc
  replace hW := hW0
  replace hext : nwExt H1 H1 := nwExt.rfl
  clear hmX hmKi hmLa hmFo hmGu hmPo hmIn hmWi hmWo hmKe
  obtain ⟨hmX, hmKi, hmLa, hmFo, hmGu, hmPo, hmIn, hmWi, hmWo, hmKe⟩ := id hW
  refine nw_aload_n C 0 dX4_knock_5 rfl 6 rfl ?_
  refine nw_dup C dX4_knock_6 rfl 7 rfl ?_
  refine nw_get C hmX (T := TX4) rfl in_X4 19 (by decide) q1641 (Or.inl rfl) rfl dX4_knock_7 10 rfl ?_
  refine nw_iconst C (nI 1) dX4_knock_10 (by decide) 11 rfl ?_
  refine nw_iaddN C dX4_knock_11 12 rfl ?_
  refine nw_put C hmX hAy (T := TX4) (ty0 := tyX4) rfl in_X4 tyX4_ok nmX4 19 (by decide) q1641 (Or.inl rfl) rfl rfl rfl (Nat.le_of_ble_eq_true rfl) dX4_knock_12 15 rfl (fun H5 ho6 hz7 hq8 => ?_)
  have ho6 : nwO d y 9 [.int (nI 0), .int (nI (gr_w (sg_gr σ))), .int (nI (gr_h (sg_gr σ))), .ref (am 9), .int (nI (gaM_f (sg_ga σ))), .int (oI (gaM_t (sg_ga σ))), .ref (am 1), .ref (am 2), .ref (am 3), .ref (am 4), .int (nI (wo_s (sg_wo σ))), .int (nI (wo_m (sg_wo σ))), .int (nI (sp_after (wo_x (sg_wo σ)))), .ref (am 11), .ref (am 12), .int (nI (sg_ri σ)), .ref (am 8), .ref (am 5), .ref (am 6), .int (nI (sg_rf σ + 1))] H5 := ho6
  have hRc := hR.ext hext
  have hR1 := nwMW.obj hRc (t := st_rf σ (sg_rf σ + 1)) (Nat.le_of_eq hz7.symm) (fun q9 _ n9 _ => hq8 q9 n9) ⟨Or.inr rfl, Or.inr rfl, Or.inr rfl, Or.inr rfl, Or.inr rfl, Or.inr rfl, Or.inr rfl, Or.inr rfl, Or.inr rfl⟩ ho6
  have hAq : ∀ q8, q8 < H1.size → q8 = y → nwAM ro H q8 := fun q8 _ h9 => by rw [h9]; exact hAy
  obtain ⟨σ1, hσ1⟩ : ∃ t9 : spSg, t9 = st_rf σ (sg_rf σ + 1) := ⟨_, rfl⟩
  rw [← hσ1] at hR1
  have hrf : sg_rf σ1 = sg_rf σ + 1 := by rw [hσ1]; rfl
  replace hE := hE.kept (fun q9 g9 hb9 => (fun q9 _ n9 => hq8 q9 n9) q9 g9 (fun h9 => hb9 (C.hB q9 (hAq q9 g9 h9))))
  have hsz : H.size ≤ H5.size := Nat.le_trans (Nat.le_trans (Nat.le_of_eq hzb.symm) hext.1) (Nat.le_of_eq hz7.symm)
  replace hB := Nat.le_trans hB (Nat.le_of_eq hz7.symm)
  have ok9 : spOk σ1 := by rw [hσ1]; exact ⟨okg, okl, okf, oku, okp, oki, okw, okd, okk, oka⟩
  replace ok := ok9
  replace okM := ok.m
  replace hR := hR1
  replace hW := hR.wc
  clear hmX hmKi hmLa hmFo hmGu hmPo hmIn hmWi hmWo hmKe okg okl okf oku okp oki okw okd okk oka hn64 oku1 oki1 okp1 okw1 okl1 okf1
  obtain ⟨hmX, hmKi, hmLa, hmFo, hmGu, hmPo, hmIn, hmWi, hmWo, hmKe⟩ := id hW
  obtain ⟨okg, okl, okf, oku, okp, oki, okw, okd, okk, oka⟩ := id ok
  have hn64 : gr_n (sg_gr σ1) ≤ 64 := okg.n
  have oku1 := oku.1
  have oki1 := oki.1
  have okp1 := okp.1
  have okw1 := okw.1
  have okl1 := okl.1
  have okf1 := okf.1
  refine nw_aload_n C 0 dX4_knock_15 rfl 16 rfl ?_
  refine nw_get C hmX (T := TX4) rfl in_X4 19 (by decide) q1641 (Or.inl rfl) rfl dX4_knock_16 19 rfl ?_
  have hop : op_knock σ = (0, nI (sg_rf σ + 1), σ1) := by rw [hσ1]; rfl
  exact nw_iret C dX4_knock_19 (Nat.le_refl _) (Nat.le_refl _) (by rw [hop]; exact ⟨congrArg (fun z => some (Value.int z)) (congrArg nI hrf), ok, hsz, ro, am, hR, (fun _ _ => rfl)⟩)
