/-! ===== the reference: intruder ===== -/
theorem nw_ixm {j D : Nat} (hj : j < 2 ^ 31) (hD : D < 2 ^ 31) : nw_ix (nI j - nI 1) D = true ↔ 1 ≤ j ∧ j ≤ D := by
  unfold nw_ix
  cases j with
  | zero =>
    have h : ¬ (0 : Int32) ≤ nI 0 - nI 1 := by decide
    simp [h]
  | succ j =>
    rw [pk_sub (Nat.le_add_left 1 j), Nat.add_sub_cancel]
    have h1 : (0 : Int32) ≤ nI j := nI_pos' (by omega)
    have h2 : nI j < nI D ↔ j < D := nI_ltI (by omega) hD
    simp [h1, h2]
    omega
theorem sp_way_s2 (g : spGr) (mv m k a : Nat) (f : Nat → Nat) : sp_way g mv m (k + 1) (a, f) = if a < m then (match sp_moved g (f (a - 1)) (sp_dig mv k) with
    | none => none
    | some c => if gr_k g c = 1 then none else sp_way g mv m k (a + 1, sp_up f a c)) else some (a, f) := rfl
/-- the loop over the minutes: m is the next one, 'at9' where he is, wz what is written -/
def inI (g : spGr) (c t mv m at9 : Nat) (wz : Nat → Int32) : Prop := (∀ j, j < t → wz j = nI 0) ∧ at9 < gr_n g ∧ ((m = t ∧ at9 = c) ∨ (t < m ∧ ¬ gr_k g at9 = 1 ∧ ∃ (a : Nat) (f : Nat → Nat), a = min (m - t) (sp_digs 32 mv + 1) ∧ at9 = f (a - 1) ∧ sp_wayOf g c t mv = sp_way g mv (240 - t) (sp_digs 32 mv + 1 - a) (a, f) ∧ ∀ j, t ≤ j → j < m → wz j = nI (f (min (j - t) (a - 1)))))
theorem inI_0 {g : spGr} {c t mv : Nat} (h : c < gr_n g) : inI g c t mv t c (fun _ => 0) := ⟨fun _ _ => nI_0.symm, h, Or.inl ⟨rfl, rfl⟩⟩
theorem inI_stay {g : spGr} {c t mv m at9 : Nat} {wz : Nat → Int32} (h : inI g c t mv m at9 wz) (hn : ¬ (1 ≤ m - t ∧ m - t ≤ sp_digs 32 mv)) (hm : t ≤ m) (hw : ¬ gr_k g at9 = 1) : inI g c t mv (m + 1) at9 (upd wz m (nI at9)) := by
  obtain ⟨h0, h1, h2⟩ := h
  refine ⟨fun j hj => by unfold upd; rw [if_neg (by omega)]; exact h0 j hj, h1, Or.inr ⟨by omega, hw, ?_⟩⟩
  rcases h2 with ⟨e1, e2⟩ | ⟨e1, e2, a, f, ha, hat, hsp, hwz⟩
  · refine ⟨1, fun _ => c, by omega, e2, ?_, fun j hj1 hj2 => ?_⟩
    · rw [show sp_digs 32 mv + 1 - 1 = sp_digs 32 mv by omega]
      unfold sp_wayOf
      rw [if_neg (by rw [← e2]; exact hw)]
    · show upd wz m (nI at9) j = nI c
      unfold upd
      rw [if_pos (by omega), e2]
  · refine ⟨a, f, by omega, hat, hsp, fun j hj1 hj2 => ?_⟩
    unfold upd
    by_cases e : j = m
    · rw [if_pos e, hat, show min (j - t) (a - 1) = a - 1 by omega]
    · rw [if_neg e]; exact hwz j hj1 (by omega)
theorem inI_go {g : spGr} {c t mv m at9 c9 : Nat} {wz : Nat → Int32} (h : inI g c t mv m at9 wz) (hr : 1 ≤ m - t ∧ m - t ≤ sp_digs 32 mv) (hm : m < 240) (ho : spGrOk g) (hom : sp_moved g at9 (sp_dig mv (sp_digs 32 mv - 1 - (m - t - 1))) = some c9) (hw : ¬ gr_k g c9 = 1) : inI g c t mv (m + 1) c9 (upd wz m (nI c9)) := by
  obtain ⟨h0, h1, h2⟩ := h
  refine ⟨fun j hj => by unfold upd; rw [if_neg (by omega)]; exact h0 j hj, sp_moved_lt ho h1 hom, Or.inr ⟨by omega, hw, ?_⟩⟩
  rcases h2 with ⟨e1, e2⟩ | ⟨e1, e2, a, f, ha, hat, hsp, hwz⟩
  · omega
  · have ea : a = m - t := by omega
    refine ⟨a + 1, sp_up f a c9, by omega, (sp_up_at f a c9).symm, ?_, fun j hj1 hj2 => ?_⟩
    · rw [hsp, show sp_digs 32 mv + 1 - a = (sp_digs 32 mv - a) + 1 by omega, sp_way_s2, if_pos (by omega), ← hat, show sp_digs 32 mv - a = sp_digs 32 mv - 1 - (m - t - 1) by omega, hom, show sp_digs 32 mv + 1 - (a + 1) = sp_digs 32 mv - 1 - (m - t - 1) by omega]
      exact if_neg hw
    · unfold upd
      by_cases e : j = m
      · rw [if_pos e, show min (j - t) (a + 1 - 1) = a by omega, sp_up_at]
      · rw [if_neg e, hwz j hj1 (by omega), sp_up_ne _ _ (by omega), show min (j - t) (a + 1 - 1) = min (j - t) (a - 1) by omega]
theorem inI_none {g : spGr} {c t mv m at9 : Nat} {wz : Nat → Int32} (h : inI g c t mv m at9 wz) (hr : 1 ≤ m - t ∧ m - t ≤ sp_digs 32 mv) (hm : m < 240) (hom : sp_moved g at9 (sp_dig mv (sp_digs 32 mv - 1 - (m - t - 1))) = none) : sp_wayOf g c t mv = none := by
  obtain ⟨h0, h1, h2⟩ := h
  rcases h2 with ⟨e1, e2⟩ | ⟨e1, e2, a, f, ha, hat, hsp, hwz⟩
  · omega
  · rw [hsp, show sp_digs 32 mv + 1 - a = (sp_digs 32 mv - a) + 1 by omega, sp_way_s2, if_pos (by omega), ← hat, show sp_digs 32 mv - a = sp_digs 32 mv - 1 - (m - t - 1) by omega, hom]
theorem inI_wall {g : spGr} {c t mv m at9 c9 : Nat} {wz : Nat → Int32} (h : inI g c t mv m at9 wz) (hr : 1 ≤ m - t ∧ m - t ≤ sp_digs 32 mv) (hm : m < 240) (hom : sp_moved g at9 (sp_dig mv (sp_digs 32 mv - 1 - (m - t - 1))) = some c9) (hw : gr_k g c9 = 1) : sp_wayOf g c t mv = none := by
  obtain ⟨h0, h1, h2⟩ := h
  rcases h2 with ⟨e1, e2⟩ | ⟨e1, e2, a, f, ha, hat, hsp, hwz⟩
  · omega
  · rw [hsp, show sp_digs 32 mv + 1 - a = (sp_digs 32 mv - a) + 1 by omega, sp_way_s2, if_pos (by omega), ← hat, show sp_digs 32 mv - a = sp_digs 32 mv - 1 - (m - t - 1) by omega, hom]
    exact if_pos hw
theorem inI_start {g : spGr} {c t mv m at9 : Nat} {wz : Nat → Int32} (h : inI g c t mv m at9 wz) (hw : gr_k g at9 = 1) : sp_wayOf g c t mv = none := by
  obtain ⟨h0, h1, h2⟩ := h
  rcases h2 with ⟨e1, e2⟩ | ⟨e1, e2, h3⟩
  · unfold sp_wayOf
    rw [← e2, if_pos hw]
  · exact absurd hw e2
theorem inI_end {g : spGr} {c t mv m at9 : Nat} {wz : Nat → Int32} (h : inI g c t mv m at9 wz) (hm : m = 240) (ht : t < 240) : ∃ (a : Nat) (f : Nat → Nat), sp_wayOf g c t mv = some (a, f) ∧ ∀ j, j < 240 → wz j = sp_wayM (t, (a, f), sp_digs 32 mv, 0, none) j := by
  subst hm
  obtain ⟨h0, h1, h2⟩ := h
  rcases h2 with ⟨e1, e2⟩ | ⟨e1, e2, a, f, ha, hat, hsp, hwz⟩
  · omega
  · refine ⟨a, f, ?_, fun j hj => ?_⟩
    · rw [hsp]
      rcases Nat.eq_zero_or_pos (sp_digs 32 mv + 1 - a) with e | e
      · rw [e]; rfl
      · rw [show sp_digs 32 mv + 1 - a = (sp_digs 32 mv - a) + 1 by omega, sp_way_s2, if_neg (by omega)]
    · show wz j = if j < t then nI 0 else nI (f (min (j - t) (a - 1)))
      by_cases e : j < t
      · rw [if_pos e]; exact h0 j e
      · rw [if_neg e]; exact hwz j (by omega) hj
theorem kX4_digits : nwPS yX4_digits cX4_digits 3 (some .int) 1 := ⟨⟨q1935, q93, q1936⟩, by decide +kernel, by decide +kernel, by decide +kernel⟩
theorem kX13_init : nwPI yX13_init cX13_init 3 2 := ⟨⟨q121, q1938, q1939⟩, rfl, by decide +kernel, by decide +kernel, by decide +kernel⟩
theorem kX4_digit : nwPS yX4_digit cX4_digit 5 (some .int) 3 := ⟨⟨q1962, q93, q1963⟩, by decide +kernel, by decide +kernel, by decide +kernel⟩
set_option maxHeartbeats 4000000 in
theorem mX13_init (l : Launch) (hf : l.flags = flags0) (d : nwD) (g : Nat) (fr mv : Nat) (H : Heap) (hB : nd_B d ≤ H.size) (hgB : nd_B d ≤ g) (hg : nwO d g 11 [.int (nI 0), .int (nI 0), .null, .int (nI 0), .int (nI 0)] H)  : nwMt l d yX13_init cX13_init 3 none 1 20 1 240 [.ref g, .int (nI fr), .int (nI mv)] H (fun v H1 => v = none ∧ ∃ wl : Nat, H.size ≤ wl ∧ nwO d g 11 [.int (nI fr), .int (nI mv), .ref wl, .int (nI 0), .int (oI none)] H1 ∧ nwI d wl 0 240 (fun _ => 0) H1) nwNo (fun q => q = g ∨ H.size ≤ q) := by
  refine nw_start "NightwatchWallModel$Intruder" "<init>" hf (by decide +kernel) rfl rfl (fun _ h => Or.inr h) (fun q h => h.elim (fun e => by rw [e]; exact hgB) (fun h => Nat.le_trans hB h)) (Nat.le_of_ble_eq_true rfl) ?_
  intro X C
  have hE := C.E0
  have hB0 := hB
  have hsz : H.size ≤ H.size := Nat.le_refl _
  show nwV X _ _ 3 H 0 0 0 [(0, .ref g), (1, .int (nI fr)), (2, .int (nI mv))] []
  refine nw_aload_n C 0 dX13_init_0 rfl 1 rfl ?_
  refine nw_objInit C q1940 q133 q134 dX13_init_1 ⟨Nat.le_of_ble_eq_true rfl, Nat.le_of_ble_eq_true rfl⟩ (Nat.le_of_ble_eq_true rfl) 4 rfl ?_
  refine nw_aload_n C 0 dX13_init_4 rfl 5 rfl ?_
  refine nw_sipush C (nI 240) dX13_init_5 (by decide) 8 rfl ?_
  refine nw_newi C (by omega) 1 240 (by omega) (by omega) ⟨(show 1 ≤ 1 by omega), (show 240 ≤ 240 by omega)⟩ dX13_init_8 10 rfl (fun a1 H2 hx3 ho4 hz5 hq6 => ?_)
  have hn7 : H.size ≤ a1 := by rw [hx3]; exact hsz
  have hsz := Nat.le_trans hsz (show _ ≤ H2.size by omega)
  have hB := Nat.le_trans hB0 hsz
  have hne8 : g ≠ a1 := Nat.ne_of_lt (by rw [hx3]; exact hg.lt)
  have ho9 := hg.kept (hq6 _ hg.lt)
  refine nw_putF C ho9 (Or.inl rfl) (T := TX13) (ty0 := tyX13) rfl in_X13 tyX13_ok nmX13 2 (by decide) q1945 rfl rfl rfl rfl (Nat.le_of_ble_eq_true rfl) dX13_init_10 13 rfl (fun H10 ho11 hz12 hq13 => ?_)
  have ho11 : nwO d g 11 [.int (nI 0), .int (nI 0), .ref a1, .int (nI 0), .int (nI 0)] H10 := ho11
  have hsz := Nat.le_trans hsz (Nat.le_of_eq hz12.symm)
  have hB := Nat.le_trans hB0 hsz
  have ho14 := ho4.kept (hq13 _ (Ne.symm hne8))
  refine nw_aload_n C 0 dX13_init_13 rfl 14 rfl ?_
  refine nw_iconst C (oI none) dX13_init_14 (by decide) 15 rfl ?_
  refine nw_put C ho11 (Or.inl rfl) (T := TX13) (ty0 := tyX13) rfl in_X13 tyX13_ok nmX13 4 (by decide) q1948 (Or.inl rfl) rfl rfl rfl (Nat.le_of_ble_eq_true rfl) dX13_init_15 18 rfl (fun H15 ho16 hz17 hq18 => ?_)
  have ho16 : nwO d g 11 [.int (nI 0), .int (nI 0), .ref a1, .int (nI 0), .int (oI none)] H15 := ho16
  have hsz := Nat.le_trans hsz (Nat.le_of_eq hz17.symm)
  have hB := Nat.le_trans hB0 hsz
  have ho19 := ho14.kept (hq18 _ (Ne.symm hne8))
  refine nw_aload_n C 0 dX13_init_18 rfl 19 rfl ?_
  refine nw_iload_n C 1 dX13_init_19 rfl 20 rfl ?_
  refine nw_putF C ho16 (Or.inl rfl) (T := TX13) (ty0 := tyX13) rfl in_X13 tyX13_ok nmX13 0 (by decide) q1941 rfl rfl rfl rfl (Nat.le_of_ble_eq_true rfl) dX13_init_20 23 rfl (fun H20 ho21 hz22 hq23 => ?_)
  have ho21 : nwO d g 11 [.int (nI fr), .int (nI 0), .ref a1, .int (nI 0), .int (oI none)] H20 := ho21
  have hsz := Nat.le_trans hsz (Nat.le_of_eq hz22.symm)
  have hB := Nat.le_trans hB0 hsz
  have ho24 := ho19.kept (hq23 _ (Ne.symm hne8))
  refine nw_aload_n C 0 dX13_init_23 rfl 24 rfl ?_
  refine nw_iload_n C 2 dX13_init_24 rfl 25 rfl ?_
  refine nw_putF C ho21 (Or.inl rfl) (T := TX13) (ty0 := tyX13) rfl in_X13 tyX13_ok nmX13 1 (by decide) q1943 rfl rfl rfl rfl (Nat.le_of_ble_eq_true rfl) dX13_init_25 28 rfl (fun H25 ho26 hz27 hq28 => ?_)
  have ho26 : nwO d g 11 [.int (nI fr), .int (nI mv), .ref a1, .int (nI 0), .int (oI none)] H25 := ho26
  have hsz := Nat.le_trans hsz (Nat.le_of_eq hz27.symm)
  have hB := Nat.le_trans hB0 hsz
  have ho29 := ho24.kept (hq28 _ (Ne.symm hne8))
  exact nw_vret C dX13_init_28 (by omega) (by omega) ⟨rfl, a1, hn7, ho26, ho29⟩
set_option maxHeartbeats 4000000 in
theorem mX4_intruder (l : Launch) (hf : l.flags = flags0) (d : nwD) (ro am : Nat → Nat) (y : Nat) (σ : spSg) (th : Int32) (c : Int32) (t : Int32) (mv : Int32) (H : Heap) (hB : nd_B d ≤ H.size) (hR : nwMW d ro am y σ th H) (ok : spOk σ) : nwMt l d yX4_intruder cX4_intruder 8 (some .int) 5 108 4 260 [.ref y, .int c, .int t, .int mv] H (nwMv d ro y (op_intr σ c t mv) H) nwNo (nwAM ro H) := by
  refine nw_start "NightwatchWallModel" "intruder" hf (by decide +kernel) rfl rfl (fun _ h => Or.inr h) (nwAM_B hR hB) (Nat.le_of_ble_eq_true rfl) ?_
  intro X C
  have hW := hR.wc
  have okM := ok.m
  have hyB := (hR.ok0 (show ro y ≠ 0 by rw [hR.2.1.2]; decide)).1
  have hAy : nwAM ro H y := Or.inl (by rw [hR.2.1.2]; decide +kernel)
  have hW0 := hW
  have hB0 := hB
  have hE := C.E0
  have hext : nwExt H H := nwExt.rfl
  obtain ⟨hmX, hmKi, hmLa, hmFo, hmGu, hmPo, hmIn, hmWi, hmWo, hmKe⟩ := id hW
  obtain ⟨okg, okl, okf, oku, okp, oki, okw, okd, okk, oka⟩ := id ok
  have hn64 : gr_n (sg_gr σ) ≤ 64 := okg.n
  have oku1 := oku.1
  have oki1 := oki.1
  have okp1 := okp.1
  have okw1 := okw.1
  have okl1 := okl.1
  have okf1 := okf.1
  show nwV X _ _ 8 H 0 0 0 [(0, .ref y), (1, .int c), (2, .int t), (3, .int mv)] []
  refine nw_aload_n C 0 dX4_intruder_0 rfl 1 rfl ?_
  refine nw_iconst C (nI 0) dX4_intruder_1 (by decide) 2 rfl ?_
  refine nw_put C hmX hAy (T := TX4) (ty0 := tyX4) rfl in_X4 tyX4_ok nmX4 0 (by decide) q1622 (Or.inl rfl) rfl rfl rfl (Nat.le_of_ble_eq_true rfl) dX4_intruder_2 5 rfl (fun H1 ho2 hz3 hq4 => ?_)
  have ho2 : nwO d y 9 [.int (nI 0), .int (nI (gr_w (sg_gr σ))), .int (nI (gr_h (sg_gr σ))), .ref (am 9), .int (nI (gaM_f (sg_ga σ))), .int (oI (gaM_t (sg_ga σ))), .ref (am 1), .ref (am 2), .ref (am 3), .ref (am 4), .int (nI (wo_s (sg_wo σ))), .int (nI (wo_m (sg_wo σ))), .int (nI (sp_after (wo_x (sg_wo σ)))), .ref (am 11), .ref (am 12), .int (nI (sg_ri σ)), .ref (am 8), .ref (am 5), .ref (am 6), .int (nI (sg_rf σ))] H1 := ho2
  replace hR := hR.th hz3 hq4 ho2
  have hzb : H1.size = H.size := hz3
  replace hB0 : nd_B d ≤ H1.size := by rw [hz3]; exact hB0
  replace hB := hB0
  replace hE := hE.kept (fun q9 _ hb9 => hq4 q9 (fun e9 => hb9 (by rw [e9]; exact hyB)))
  have hE0 := hE
  replace hW0 := hR.wc
  replace hW := hW0
  replace hext : nwExt H1 H1 := nwExt.rfl
  clear hmX hmKi hmLa hmFo hmGu hmPo hmIn hmWi hmWo hmKe
  obtain ⟨hmX, hmKi, hmLa, hmFo, hmGu, hmPo, hmIn, hmWi, hmWo, hmKe⟩ := id hW
  refine nw_aload_n C 0 dX4_intruder_5 rfl 6 rfl ?_
  refine nw_iload_n C 1 dX4_intruder_6 rfl 7 rfl ?_
  refine nw_callV C (mX4_isCell _ C.hfl d ro am y σ (nI 0) c H1 hB hW okM ) kX4_isCell q1702 (hmX.is C (ci := 9) rfl) (As := [.int c]) (rest := []) rfl rfl ⟨⟨Nat.le_of_ble_eq_true rfl, Nat.le_of_ble_eq_true rfl⟩, Nat.le_of_ble_eq_true rfl, Nat.le_of_ble_eq_true rfl⟩ (Nat.le_of_ble_eq_true rfl) (fun _ h8 h9 => absurd h9 (Nat.not_le.mpr h8)) dX4_intruder_7 10 rfl (nw_rdK ?_) nw_noX
  refine nw_ifneB C 19 dX4_intruder_10 (by decide) 13 rfl (fun h5 => ?_) (fun h5 => ?_)
  · obtain ⟨cn, hk6, rfl⟩ := nw_ix_nat (by omega) h5
    have en_cn : nw_nn (nI cn) = cn := nw_nn_nI (by omega)
    refine nw_iload_n C 2 dX4_intruder_19 rfl 20 rfl ?_
    refine nw_callS C (mX4_isMinute _ C.hfl d t H1 hB) kX4_isMinute q1722 (As := [.int t]) (rest := []) rfl rfl ⟨⟨Nat.le_of_ble_eq_true rfl, Nat.le_of_ble_eq_true rfl⟩, Nat.le_of_ble_eq_true rfl, Nat.le_of_ble_eq_true rfl⟩ (Nat.le_of_ble_eq_true rfl) (fun _ h8 h9 => absurd h9 (Nat.not_le.mpr h8)) dX4_intruder_20 23 rfl (nw_rdK ?_) nw_noX
    refine nw_ifeqB C 30 dX4_intruder_23 (by decide) 26 rfl (fun h7 => ?_) (fun h7 => ?_)
    · refine nw_aload_n C 0 dX4_intruder_30 rfl 31 rfl ?_
      refine nw_iconst C (nI 2) dX4_intruder_31 (by decide) 32 rfl ?_
      refine nw_callV C (mX4_no _ C.hfl d y (.int (nI 0)) (.int (nI (gr_w (sg_gr σ)))) (.int (nI (gr_h (sg_gr σ)))) (.ref (am 9)) (.int (nI (gaM_f (sg_ga σ)))) (.int (oI (gaM_t (sg_ga σ)))) (.ref (am 1)) (.ref (am 2)) (.ref (am 3)) (.ref (am 4)) (.int (nI (wo_s (sg_wo σ)))) (.int (nI (wo_m (sg_wo σ)))) (.int (nI (sp_after (wo_x (sg_wo σ))))) (.ref (am 11)) (.ref (am 12)) (.int (nI (sg_ri σ))) (.ref (am 8)) (.ref (am 5)) (.ref (am 6)) (.int (nI (sg_rf σ))) (nI 2) H1 hB hyB hmX) kX4_no q1694 (hmX.is C (ci := 9) rfl) (As := [.int (nI 2)]) (rest := []) rfl rfl ⟨⟨Nat.le_of_ble_eq_true rfl, Nat.le_of_ble_eq_true rfl⟩, (show 0 + 0 ≤ 4 by omega), (show 0 + 0 ≤ 260 by omega)⟩ (Nat.le_of_ble_eq_true rfl) (fun q8 h8 h9 => h9.elim (fun e9 => by rw [e9]; exact hAy) (fun e9 => absurd h8 (Nat.not_lt.mpr e9))) dX4_intruder_32 35 rfl (fun v9 H8 hR9 hz10 hq11 => ?_) nw_noX
      obtain ⟨rfl, ho12⟩ := hR9
      have hR8 := hR.ext hext
      have hR9 : nwMW d ro am y σ (nI 2) H8 := hR8.obj hz10 (fun q9 g9 n9 _ => hq11 q9 g9 (fun e9 => e9.elim n9 (Nat.not_le.mpr g9))) mSame.rfl ho12
      have hle9 : H.size ≤ H8.size := Nat.le_trans (Nat.le_of_eq hzb.symm) (Nat.le_trans hext.1 hz10)
      show nwV X _ _ 8 H8 (0 + 0) (0 + 0) 35 [(0, .ref y), (1, .int (nI cn)), (2, .int t), (3, .int mv)] [.int (nI 0)]
      refine nw_wide (k' := 0) (n' := 0) (by omega) (by omega) ?_
      have hop : op_intr σ (nI cn) t mv = (2, 0, σ) := by simp [op_intr, h5, h7, en_cn]
      exact nw_iret C dX4_intruder_35 (by omega) (by omega) (by rw [hop]; exact ⟨rfl, ok, hle9, ro, am, hR9, fun _ _ => rfl⟩)
    · obtain ⟨tn, hk13, rfl⟩ := nw_rg_nat (by omega) (by omega) h7
      have en_tn : nw_nn (nI tn) = tn := nw_nn_nI (by omega)
      refine nw_iload_n C 3 dX4_intruder_26 rfl 27 rfl ?_
      refine nw_ifge C 36 dX4_intruder_27 (by decide) 30 rfl (fun h14 => ?_) (fun h14 => ?_)
      · have hnn : ¬ mv < 0 := Int32.not_lt.mpr h14
        obtain ⟨mn, hk15, rfl⟩ := nw_nat h14
        have en_mn : nw_nn (nI mn) = mn := nw_nn_nI (by omega)
        refine nw_aload_n C 0 dX4_intruder_36 rfl 37 rfl ?_
        refine nw_get C hmX (T := TX4) rfl in_X4 17 (by decide) q1639 (Or.inl rfl) rfl dX4_intruder_37 40 rfl ?_
        refine nw_callF C (mJ3_size _ C.hfl d (am 5) ((sg_in σ).1) (fun k => am (500 + k)) (fun q => ro q = 7006) H1 hB hmIn.1) kJ3_size (ci := 13) rfl q1607 q1611 (by decide +kernel) fc_List_size (hmIn.1.is C) (As := []) (rest := []) rfl rfl ⟨⟨Nat.le_of_ble_eq_true rfl, Nat.le_of_ble_eq_true rfl⟩, Nat.le_of_ble_eq_true rfl, Nat.le_of_ble_eq_true rfl⟩ (Nat.le_of_ble_eq_true rfl) (fun _ h8 h9 => absurd h9 (Nat.not_le.mpr h8)) dX4_intruder_40 45 rfl (nw_rdK ?_) nw_noX
        refine nw_iconst C (nI 4) dX4_intruder_45 (by decide) 46 rfl ?_
        refine nw_icmpneN C (by omega) 55 dX4_intruder_46 (by decide) 49 rfl (fun h16 => ?_) (fun h16 => ?_)
        · have hfull : ¬ 4 ≤ (sg_in σ).1 := by omega
          refine nw_new C (ci := 11) (T := TX13) (ty0 := tyX13) [.int (nI 0), .int (nI 0), .null, .int (nI 0), .int (nI 0)] rfl in_X13 tyX13_ok q1713 q1933 q121 (fun j hj => by rcases (show j = 0 ∨ j = 1 ∨ j = 2 ∨ j = 3 ∨ j = 4 by omega) with rfl | rfl | rfl | rfl | rfl <;> rfl) 1 5 (by omega) (by omega) ⟨(show 1 ≤ 4 by omega), (show 5 ≤ 260 by omega)⟩ dX4_intruder_55 58 rfl (fun a17 H18 hx19 ho20 hz21 hq22 => ?_)
          have hn23 : H1.size ≤ a17 := (by rw [hx19]; exact hext.1)
          replace hext := hext.made hz21 hq22
          replace hW := hW0.ext hext.2
          replace hE := hE0.ext hext.2
          replace hB := Nat.le_trans hB0 hext.1
          clear hmX hmKi hmLa hmFo hmGu hmPo hmIn hmWi hmWo hmKe
          obtain ⟨hmX, hmKi, hmLa, hmFo, hmGu, hmPo, hmIn, hmWi, hmWo, hmKe⟩ := id hW
          refine nw_dup C dX4_intruder_58 rfl 59 rfl ?_
          refine nw_iload_n C 2 dX4_intruder_59 rfl 60 rfl ?_
          refine nw_iload_n C 3 dX4_intruder_60 rfl 61 rfl ?_
          refine nw_callS C (mX4_digits _ C.hfl d mn H18 hB (by omega)) kX4_digits q1934 (As := [.int (nI mn)]) (rest := [.int (nI tn), .ref a17, .ref a17]) rfl rfl ⟨⟨Nat.le_of_ble_eq_true rfl, Nat.le_of_ble_eq_true rfl⟩, Nat.le_of_ble_eq_true rfl, Nat.le_of_ble_eq_true rfl⟩ (Nat.le_of_ble_eq_true rfl) (fun _ h8 h9 => absurd h9 (Nat.not_le.mpr h8)) dX4_intruder_61 64 rfl (nw_rdK ?_) nw_noX
          have hD14 : sp_digs 32 mn ≤ 14 := sp_digs14 (show mn < 2 ^ 31 by omega)
          have hB9 := (Nat.le_trans hB0 hn23)
          refine nw_callI C (mX13_init _ C.hfl d a17 tn (sp_digs 32 mn) H18 hB (Nat.le_trans hB0 hn23) ho20) kX13_init q1937 (As := [.int (nI tn), .int (nI (sp_digs 32 mn))]) (rest := [.ref a17]) rfl rfl ⟨⟨Nat.le_of_ble_eq_true rfl, Nat.le_of_ble_eq_true rfl⟩, (show 1 + 1 ≤ 4 by omega), (show 5 + 240 ≤ 260 by omega)⟩ (Nat.le_of_ble_eq_true rfl) (fun q8 h8 h9 => h9.elim (fun e9 => by rw [e9]; exact (Or.inr (Nat.le_trans (Nat.le_of_eq hzb.symm) hn23))) (fun e9 => absurd h8 (Nat.not_lt.mpr e9))) dX4_intruder_64 67 rfl (fun v9 H24 hR25 hz26 hq27 => ?_) nw_noX
          obtain ⟨rfl, wl, hwl1, hgo, hwlI⟩ := hR25
          have hxwl : a17 ≠ wl := Nat.ne_of_lt (Nat.lt_of_lt_of_le ho20.lt hwl1)
          have hwl1 := Nat.le_trans hext.1 hwl1
          replace hext := hext.step hz26 hq27 (fun q9 e9 => e9.elim (fun e9 => by rw [e9]; exact hn23) (fun e9 => Nat.le_trans hext.1 e9))
          replace hW := hW0.ext hext.2
          replace hE := hE0.ext hext.2
          replace hB := Nat.le_trans hB0 hext.1
          clear hmX hmKi hmLa hmFo hmGu hmPo hmIn hmWi hmWo hmKe
          obtain ⟨hmX, hmKi, hmLa, hmFo, hmGu, hmPo, hmIn, hmWi, hmWo, hmKe⟩ := id hW
          show nwV X _ _ 8 H24 (1 + 1) (5 + 240) 67 [(0, .ref y), (1, .int (nI cn)), (2, .int (nI tn)), (3, .int (nI mn))] [.ref a17]
          refine nw_wide (k' := 2) (n' := 245) (by omega) (by omega) ?_
          refine nw_astore C [(4, .ref a17), (0, .ref y), (1, .int (nI cn)), (2, .int (nI tn)), (3, .int (nI mn))] dX4_intruder_67 (by decide) rfl 69 rfl ?_
          have hcn9 : cn < gr_n (sg_gr σ) := by omega
          refine nw_iload_n C 2 dX4_intruder_69 rfl 70 rfl ?_
          refine nw_istore C [(5, .int (nI cn)), (4, .ref a17), (0, .ref y), (1, .int (nI cn)), (2, .int (nI tn)), (3, .int (nI mn))] dX4_intruder_70 (by decide) rfl 72 rfl ?_
          refine nw_iload_n C 4 dX4_intruder_72 rfl 73 rfl ?_
          refine nw_istore C [(6, .int (nI tn)), (5, .int (nI cn)), (4, .ref a17), (0, .ref y), (1, .int (nI cn)), (2, .int (nI tn)), (3, .int (nI mn))] dX4_intruder_73 (by decide) rfl 75 rfl ?_
          have lp28 : ∀ (fu : Nat) (H2 : Heap) (m : Nat) (at9 : Nat) (wz : Nat → Int32), (nwExt H1 H2) → (nwO d a17 11 [.int (nI tn), .int (nI (sp_digs 32 mn)), .ref wl, .int (nI 0), .int (oI none)] H2) → (nwI d wl 0 240 wz H2) → (tn ≤ m ∧ m ≤ 240) → (inI (sg_gr σ) cn tn mn m at9 wz) → 240 - m < fu → nwV X (nwAM ro H) (nwQE X (nwMv d ro y (op_intr σ (nI cn) (nI tn) (nI mn)) H) nwNo (nwAM ro H) 4 260) 8 H2 2 245 75 [(0, .ref y), (1, .int (nI cn)), (2, .int (nI tn)), (3, .int (nI mn)), (4, .ref a17), (5, .int (nI at9)), (6, .int (nI m))] [] := by
            intro fu
            induction fu with
            | zero => intro H2 m at9 wz _ _ _ _ _ hm; exact absurd hm (Nat.not_lt_zero _)
            | succ fu ih_lp28 =>
              intro H2 m at9 wz hext hxc hwc hmt hin hm
              replace hW := hW0.ext hext.2
              replace hE := hE0.ext hext.2
              replace hB := Nat.le_trans hB0 hext.1
              clear hmX hmKi hmLa hmFo hmGu hmPo hmIn hmWi hmWo hmKe
              obtain ⟨hmX, hmKi, hmLa, hmFo, hmGu, hmPo, hmIn, hmWi, hmWo, hmKe⟩ := id hW
              refine nw_iload C 6 dX4_intruder_75 rfl 77 rfl ?_
              refine nw_sipush C (nI 239) dX4_intruder_77 (by decide) 80 rfl ?_
              refine nw_icmpgtN C (by omega) 165 dX4_intruder_80 (by decide) 83 rfl (fun h29 => ?_) (fun h29 => ?_)
              · obtain ⟨aw, fw, hwy, hwz⟩ := inI_end hin (by omega) (by omega)
                obtain ⟨hw1, hw15, hwc9⟩ := sp_wayOf_ok (okg.here hcn9) hcn9 (by omega) hwy
                refine nw_aload_n C 0 dX4_intruder_165 rfl 166 rfl ?_
                refine nw_get C hmX (T := TX4) rfl in_X4 17 (by decide) q1639 (Or.inl rfl) rfl dX4_intruder_166 169 rfl ?_
                refine nw_aload C 4 dX4_intruder_169 rfl 171 rfl ?_
                have hRc := hR.ext hext
                obtain ⟨mo9, ar9, cap9, f9, hL9⟩ := nwLi_m hmIn.1
                have hr9 : ro (am 5) = 5006 := hR.2.2.2.2.2.2.2.1.2.2.1
                have hai9 := hR.ok0 (show ro (am 5) ≠ 0 by rw [hr9]; decide)
                have hAq : ∀ q8, q8 < H2.size → (q8 = am 5 ∨ ro q8 = 7006 ∨ H2.size ≤ q8) → nwAM ro H q8 := by
                  intro q8 h8 h9
                  rcases h9 with e9 | e9 | e9
                  · exact Or.inl (by rw [e9, hr9]; decide +kernel)
                  · exact Or.inl (by rw [e9]; decide +kernel)
                  · exact absurd h8 (Nat.not_lt.mpr e9)
                refine nw_callF C (mJ3_add _ C.hfl d (am 5) (sg_in σ).1 (fun k => am (500 + k)) (fun q => ro q = 7006) mo9 ar9 cap9 f9 a17 "NightwatchWallModel$Intruder" H2 hB hai9.1 hL9 (fun q9 e9 => (hR.ok0 (show ro q9 ≠ 0 by rw [show ro q9 = 7006 from e9]; decide)).1) (show ¬ ro (am 5) = 7006 by rw [hr9]; decide) (Or.inl ⟨11, _, _, _, hxc, rfl⟩) q2143 (fun e9 => absurd hai9.2 (Nat.not_lt.mpr (by rw [← e9]; exact hn23))) hxc.lt (by omega)) kJ3_add (ci := 13) rfl q1730 q1733 (by decide +kernel) fc_List_add (nwLi.is hmIn.1 C) (As := [.ref a17]) (rest := []) rfl rfl ⟨⟨Nat.le_of_ble_eq_true rfl, Nat.le_of_ble_eq_true rfl⟩, (show 2 + 1 ≤ 4 by omega), (show 245 + 10 ≤ 260 by omega)⟩ (Nat.le_of_ble_eq_true rfl) hAq dX4_intruder_171 176 rfl (fun v9 H30 hR31 hz32 hq33 => ?_) nw_noX
                obtain ⟨rfl, mo8, ar8, cap8, f8, hL8⟩ := hR31
                obtain ⟨ro1, am1, hR1, hk1⟩ := trm_in hRc (v := (tn, (aw, fw), sp_digs 32 mn, 0, none)) (by omega) ⟨(nwMW.new0 hR hn23), Nat.le_trans hB0 hn23⟩ ⟨nwMW.new0 hR hwl1, Nat.le_trans hB0 hwl1⟩ hxwl ⟨hxc, nwI.congr hwc hwz⟩ hz32 hq33 hL8
                obtain ⟨σ1, hσ1⟩ : ∃ t9 : spSg, t9 = st_in σ ((sg_in σ).1 + 1, sp_up (sg_in σ).2 (sg_in σ).1 (tn, (aw, fw), sp_digs 32 mn, 0, none)) := ⟨_, rfl⟩
                rw [← hσ1] at hR1
                have hlen : (sg_in σ1).1 = (sg_in σ).1 + 1 := by rw [hσ1]; rfl
                replace hE := hE.kept (fun q9 g9 hb9 => hq33 q9 g9 (fun h9 => hb9 (C.hB q9 (hAq q9 g9 h9))))
                have hsz : H.size ≤ H30.size := Nat.le_trans (Nat.le_trans (Nat.le_of_eq hzb.symm) hext.1) hz32
                replace hB := Nat.le_trans hB hz32
                have ok9 : spOk σ1 := by rw [hσ1]; exact ⟨okg, okl, okf, oku, okp, oki.add (by omega) ⟨⟨by show tn < 240; omega, hw1, hw15, by show sp_digs 32 mn ≤ 14; omega, by show 0 ≤ 4; omega, fun v e => by cases e⟩, hwc9⟩, okw, okd, okk, oka⟩
                replace ok := ok9
                replace okM := ok.m
                replace hR := hR1
                replace hW := hR.wc
                clear hmX hmKi hmLa hmFo hmGu hmPo hmIn hmWi hmWo hmKe okg okl okf oku okp oki okw okd okk oka hn64 oku1 oki1 okp1 okw1 okl1 okf1
                obtain ⟨hmX, hmKi, hmLa, hmFo, hmGu, hmPo, hmIn, hmWi, hmWo, hmKe⟩ := id hW
                obtain ⟨okg, okl, okf, oku, okp, oki, okw, okd, okk, oka⟩ := id ok
                have hn64 : gr_n (sg_gr σ1) ≤ 64 := okg.n
                have oku1 := oku.1
                have oki1 := oki.1
                have okp1 := okp.1
                have okw1 := okw.1
                have okl1 := okl.1
                have okf1 := okf.1
                show nwV X _ _ 8 H30 (2 + 1) (245 + 10) 176 [(0, .ref y), (1, .int (nI cn)), (2, .int (nI tn)), (3, .int (nI mn)), (4, .ref a17), (5, .int (nI at9)), (6, .int (nI m))] [.int (b2i true)]
                refine nw_wide (k' := 3) (n' := 255) (by omega) (by omega) ?_
                refine nw_pop C dX4_intruder_176 rfl 177 rfl ?_
                refine nw_aload_n C 0 dX4_intruder_177 rfl 178 rfl ?_
                refine nw_get C hmX (T := TX4) rfl in_X4 17 (by decide) q1639 (Or.inl rfl) rfl dX4_intruder_178 181 rfl ?_
                refine nw_callF C (mJ3_size _ C.hfl d (am1 5) ((sg_in σ1).1) (fun k => am1 (500 + k)) (fun q => ro1 q = 7006) H30 hB hmIn.1) kJ3_size (ci := 13) rfl q1607 q1611 (by decide +kernel) fc_List_size (hmIn.1.is C) (As := []) (rest := []) rfl rfl ⟨⟨Nat.le_of_ble_eq_true rfl, Nat.le_of_ble_eq_true rfl⟩, Nat.le_of_ble_eq_true rfl, Nat.le_of_ble_eq_true rfl⟩ (Nat.le_of_ble_eq_true rfl) (fun _ h8 h9 => absurd h9 (Nat.not_le.mpr h8)) dX4_intruder_181 186 rfl (nw_rdK ?_) nw_noX
                refine nw_iconst C (nI 1) dX4_intruder_186 (by decide) 187 rfl ?_
                refine nw_isubN C (by omega) dX4_intruder_187 188 rfl ?_
                have hop : op_intr σ (nI cn) (nI tn) (nI mn) = (0, nI (sg_in σ).1, σ1) := by rw [hσ1]; simp [op_intr, hwy, h5, h7, en_cn, en_tn, en_mn, hnn, hfull]
                exact nw_iret C dX4_intruder_188 (by omega) (by omega) (by rw [hop]; exact ⟨congrArg (fun z => some (Value.int z)) (show nI ((sg_in σ1).1 - 1) = nI (sg_in σ).1 by rw [hlen]; rfl), ok, hsz, ro1, am1, hR, hk1⟩)
              · have hatn : at9 < gr_n (sg_gr σ) := hin.2.1
                have hgro := okg.here hatn
                refine nw_iload C 6 dX4_intruder_83 rfl 85 rfl ?_
                refine nw_iload_n C 2 dX4_intruder_85 rfl 86 rfl ?_
                refine nw_isubN C (by omega) dX4_intruder_86 87 rfl ?_
                refine nw_iconst C (nI 1) dX4_intruder_87 (by decide) 88 rfl ?_
                refine nw_isub C (nI (m - tn) - nI 1) dX4_intruder_88 rfl 89 rfl ?_
                refine nw_istore C [(7, .int (nI (m - tn) - nI 1)), (0, .ref y), (1, .int (nI cn)), (2, .int (nI tn)), (3, .int (nI mn)), (4, .ref a17), (5, .int (nI at9)), (6, .int (nI m))] dX4_intruder_89 (by decide) rfl 91 rfl ?_
                refine nw_iload C 0 dX4_intruder_91 rfl 93 rfl ?_
                refine nw_iconst C (nI 0) dX4_intruder_93 (by decide) 94 rfl ?_
                refine nw_aload C 5 dX4_intruder_94 rfl 96 rfl ?_
                refine nw_get C hxc (T := TX13) rfl in_X13 1 (by decide) q1944 (Or.inl rfl) rfl dX4_intruder_96 99 rfl ?_
                refine nw_iconst C (nI 1) dX4_intruder_99 (by decide) 100 rfl ?_
                refine nw_isub C (nI (sp_digs 32 mn) - nI 1) dX4_intruder_100 rfl 101 rfl ?_
                refine nw_callS C (mX4_inX _ C.hfl d (nI (m - tn) - nI 1) (sp_digs 32 mn) H2 hB (by omega)) kX4_in q1691 (As := [.int (nI (m - tn) - nI 1), .int (nI 0), .int (nI (sp_digs 32 mn) - nI 1)]) (rest := []) rfl rfl ⟨⟨Nat.le_of_ble_eq_true rfl, Nat.le_of_ble_eq_true rfl⟩, Nat.le_of_ble_eq_true rfl, Nat.le_of_ble_eq_true rfl⟩ (Nat.le_of_ble_eq_true rfl) (fun _ h8 h9 => absurd h9 (Nat.not_le.mpr h8)) dX4_intruder_101 104 rfl (nw_rdK ?_) nw_noX
                refine nw_ifeqB C 126 dX4_intruder_104 (by decide) 107 rfl (fun h34 => ?_) (fun h34 => ?_)
                · have hnr : ¬ (1 ≤ m - tn ∧ m - tn ≤ sp_digs 32 mn) := fun e9 => by rw [(nw_ixm (by omega) (by omega)).mpr e9] at h34; cases h34
                  refine nw_iload C 6 dX4_intruder_126 rfl 128 rfl ?_
                  refine nw_iconst C (oI none) dX4_intruder_128 (by decide) 129 rfl ?_
                  refine nw_icmpeqF C (nI_m1 (by omega)) 143 dX4_intruder_129 (by decide) 132 rfl ?_
                  have hk4 : gr_k (sg_gr σ) at9 < 4 := hgro.2 _ (by omega)
                  refine nw_aload_n C 1 dX4_intruder_132 rfl 133 rfl ?_
                  refine nw_get C hmX (T := TX4) rfl in_X4 3 (by decide) q1625 (Or.inl rfl) rfl dX4_intruder_133 136 rfl ?_
                  refine nw_iload C 6 dX4_intruder_136 rfl 138 rfl ?_
                  refine nw_ialdN C (nI (gr_k (sg_gr σ) at9)) hmKi (by omega) rfl dX4_intruder_138 139 rfl ?_
                  refine nw_iconst C (nI 1) dX4_intruder_139 (by decide) 140 rfl ?_
                  refine nw_icmpneN C (by omega) 149 dX4_intruder_140 (by decide) 143 rfl (fun h36 => ?_) (fun h36 => ?_)
                  · refine nw_aload C 5 dX4_intruder_149 rfl 151 rfl ?_
                    refine nw_get C hxc (T := TX13) rfl in_X13 2 (by decide) q1946 (Or.inl rfl) rfl dX4_intruder_151 154 rfl ?_
                    refine nw_iload C 7 dX4_intruder_154 rfl 156 rfl ?_
                    refine nw_iload C 6 dX4_intruder_156 rfl 158 rfl ?_
                    refine nw_iastN C hwc (Or.inr (Nat.le_trans (Nat.le_of_eq hzb.symm) hwl1)) (by omega) dX4_intruder_158 159 rfl (fun H37 ho38 hz39 hq40 => ?_)
                    have ho41 := hxc.kept (hq40 _ hxwl)
                    replace hext := hext.put hz39 hq40 hwl1
                    replace hW := hW0.ext hext.2
                    replace hE := hE0.ext hext.2
                    replace hB := Nat.le_trans hB0 hext.1
                    clear hmX hmKi hmLa hmFo hmGu hmPo hmIn hmWi hmWo hmKe
                    obtain ⟨hmX, hmKi, hmLa, hmFo, hmGu, hmPo, hmIn, hmWi, hmWo, hmKe⟩ := id hW
                    refine nw_iincN C 7 (c0 := 1) [(6, .int (nI (m + 1))), (7, .int (nI (m - tn) - nI 1)), (0, .ref y), (1, .int (nI cn)), (2, .int (nI tn)), (3, .int (nI mn)), (4, .ref a17), (5, .int (nI at9))] dX4_intruder_159 rfl (by decide) rfl 162 rfl ?_
                    refine nw_goto C 75 dX4_intruder_162 (by decide) ?_
                    exact nw_wide (by omega) (by omega) (nw_sub [2, 3, 4, 5, 6, 7, 0] rfl (ih_lp28 H37 (m + 1) at9 (upd wz m (nI at9)) hext ho41 ho38 ⟨by omega, by omega⟩ (inI_stay hin hnr hmt.1 (by assumption)) (by omega)))
                  · have hwn : sp_wayOf (sg_gr σ) cn tn mn = none := inI_start hin (by assumption)
                    refine nw_aload_n C 1 dX4_intruder_143 rfl 144 rfl ?_
                    refine nw_iconst C (nI 3) dX4_intruder_144 (by decide) 145 rfl ?_
                    refine nw_callV C (mX4_no _ C.hfl d y (.int (nI 0)) (.int (nI (gr_w (sg_gr σ)))) (.int (nI (gr_h (sg_gr σ)))) (.ref (am 9)) (.int (nI (gaM_f (sg_ga σ)))) (.int (oI (gaM_t (sg_ga σ)))) (.ref (am 1)) (.ref (am 2)) (.ref (am 3)) (.ref (am 4)) (.int (nI (wo_s (sg_wo σ)))) (.int (nI (wo_m (sg_wo σ)))) (.int (nI (sp_after (wo_x (sg_wo σ))))) (.ref (am 11)) (.ref (am 12)) (.int (nI (sg_ri σ))) (.ref (am 8)) (.ref (am 5)) (.ref (am 6)) (.int (nI (sg_rf σ))) (nI 3) H2 hB hyB hmX) kX4_no q1694 (hmX.is C (ci := 9) rfl) (As := [.int (nI 3)]) (rest := []) rfl rfl ⟨⟨Nat.le_of_ble_eq_true rfl, Nat.le_of_ble_eq_true rfl⟩, (show 2 + 0 ≤ 4 by omega), (show 245 + 0 ≤ 260 by omega)⟩ (Nat.le_of_ble_eq_true rfl) (fun q8 h8 h9 => h9.elim (fun e9 => by rw [e9]; exact hAy) (fun e9 => absurd h8 (Nat.not_lt.mpr e9))) dX4_intruder_145 148 rfl (fun v9 H42 hR43 hz44 hq45 => ?_) nw_noX
                    obtain ⟨rfl, ho46⟩ := hR43
                    have hR8 := hR.ext hext
                    have hR9 : nwMW d ro am y σ (nI 3) H42 := hR8.obj hz44 (fun q9 g9 n9 _ => hq45 q9 g9 (fun e9 => e9.elim n9 (Nat.not_le.mpr g9))) mSame.rfl ho46
                    have hle9 : H.size ≤ H42.size := Nat.le_trans (Nat.le_of_eq hzb.symm) (Nat.le_trans hext.1 hz44)
                    show nwV X _ _ 8 H42 (2 + 0) (245 + 0) 148 [(7, .int (nI (m - tn) - nI 1)), (0, .ref y), (1, .int (nI cn)), (2, .int (nI tn)), (3, .int (nI mn)), (4, .ref a17), (5, .int (nI at9)), (6, .int (nI m))] [.int (nI 0)]
                    refine nw_wide (k' := 2) (n' := 245) (by omega) (by omega) ?_
                    have hop : op_intr σ (nI cn) (nI tn) (nI mn) = (3, 0, σ) := by simp [op_intr, h5, h7, en_cn, en_tn, en_mn, hnn, hfull, hwn]
                    exact nw_iret C dX4_intruder_148 (by omega) (by omega) (by rw [hop]; exact ⟨rfl, ok, hle9, ro, am, hR9, fun _ _ => rfl⟩)
                · have hrg := (nw_ixm (by omega) (by omega)).mp h34
                  have hdg4 : sp_dig mn (sp_digs 32 mn - 1 - (m - tn - 1)) < 5 := Nat.mod_lt _ (by decide)
                  rw [show nI (m - tn) - nI 1 = nI (m - tn - 1) from pk_sub hrg.1]
                  refine nw_aload_n C 1 dX4_intruder_107 rfl 108 rfl ?_
                  refine nw_iload C 6 dX4_intruder_108 rfl 110 rfl ?_
                  refine nw_iload_n C 4 dX4_intruder_110 rfl 111 rfl ?_
                  refine nw_iload C 0 dX4_intruder_111 rfl 113 rfl ?_
                  refine nw_aload C 5 dX4_intruder_113 rfl 115 rfl ?_
                  refine nw_get C hxc (T := TX13) rfl in_X13 1 (by decide) q1944 (Or.inl rfl) rfl dX4_intruder_115 118 rfl ?_
                  refine nw_callS C (mX4_digit _ C.hfl d mn (m - tn - 1) (sp_digs 32 mn) H2 hB (by omega) (by omega)) kX4_digit q1961 (As := [.int (nI mn), .int (nI (m - tn - 1)), .int (nI (sp_digs 32 mn))]) (rest := [.int (nI at9), .ref y]) rfl rfl ⟨⟨Nat.le_of_ble_eq_true rfl, Nat.le_of_ble_eq_true rfl⟩, Nat.le_of_ble_eq_true rfl, Nat.le_of_ble_eq_true rfl⟩ (Nat.le_of_ble_eq_true rfl) (fun _ h8 h9 => absurd h9 (Nat.not_le.mpr h8)) dX4_intruder_118 121 rfl (nw_rdK ?_) nw_noX
                  refine nw_callV C (mX4_moved _ C.hfl d ro am y σ (nI 0) at9 (sp_dig mn ((sp_digs 32 mn) - 1 - (m - tn - 1))) H2 hB hW okM (by omega) (by omega)) kX4_moved q1964 (hmX.is C (ci := 9) rfl) (As := [.int (nI at9), .int (nI (sp_dig mn ((sp_digs 32 mn) - 1 - (m - tn - 1))))]) (rest := []) rfl rfl ⟨⟨Nat.le_of_ble_eq_true rfl, Nat.le_of_ble_eq_true rfl⟩, Nat.le_of_ble_eq_true rfl, Nat.le_of_ble_eq_true rfl⟩ (Nat.le_of_ble_eq_true rfl) (fun _ h8 h9 => absurd h9 (Nat.not_le.mpr h8)) dX4_intruder_121 124 rfl (nw_rdK ?_) nw_noX
                  refine nw_istore C [(5, .int (oI (sp_moved (sg_gr σ) at9 (sp_dig mn ((sp_digs 32 mn) - 1 - (m - tn - 1)))))), (7, .int (nI (m - tn - 1))), (0, .ref y), (1, .int (nI cn)), (2, .int (nI tn)), (3, .int (nI mn)), (4, .ref a17), (6, .int (nI m))] dX4_intruder_124 (by decide) rfl 126 rfl ?_
                  generalize hom : sp_moved (sg_gr σ) at9 (sp_dig mn ((sp_digs 32 mn) - 1 - (m - tn - 1))) = om9
                  rcases om9 with _ | c9
                  · show nwV X _ _ 8 H2 2 245 126 [(5, .int (oI none)), (7, .int (nI (m - tn - 1))), (0, .ref y), (1, .int (nI cn)), (2, .int (nI tn)), (3, .int (nI mn)), (4, .ref a17), (6, .int (nI m))] []
                    refine nw_iload C 0 dX4_intruder_126 rfl 128 rfl ?_
                    refine nw_iconst C (oI none) dX4_intruder_128 (by decide) 129 rfl ?_
                    refine nw_icmpeqT C rfl 143 dX4_intruder_129 (by decide) ?_
                    have hwn : sp_wayOf (sg_gr σ) cn tn mn = none := inI_none hin hrg (by omega) hom
                    refine nw_aload_n C 2 dX4_intruder_143 rfl 144 rfl ?_
                    refine nw_iconst C (nI 3) dX4_intruder_144 (by decide) 145 rfl ?_
                    refine nw_callV C (mX4_no _ C.hfl d y (.int (nI 0)) (.int (nI (gr_w (sg_gr σ)))) (.int (nI (gr_h (sg_gr σ)))) (.ref (am 9)) (.int (nI (gaM_f (sg_ga σ)))) (.int (oI (gaM_t (sg_ga σ)))) (.ref (am 1)) (.ref (am 2)) (.ref (am 3)) (.ref (am 4)) (.int (nI (wo_s (sg_wo σ)))) (.int (nI (wo_m (sg_wo σ)))) (.int (nI (sp_after (wo_x (sg_wo σ))))) (.ref (am 11)) (.ref (am 12)) (.int (nI (sg_ri σ))) (.ref (am 8)) (.ref (am 5)) (.ref (am 6)) (.int (nI (sg_rf σ))) (nI 3) H2 hB hyB hmX) kX4_no q1694 (hmX.is C (ci := 9) rfl) (As := [.int (nI 3)]) (rest := []) rfl rfl ⟨⟨Nat.le_of_ble_eq_true rfl, Nat.le_of_ble_eq_true rfl⟩, (show 2 + 0 ≤ 4 by omega), (show 245 + 0 ≤ 260 by omega)⟩ (Nat.le_of_ble_eq_true rfl) (fun q8 h8 h9 => h9.elim (fun e9 => by rw [e9]; exact hAy) (fun e9 => absurd h8 (Nat.not_lt.mpr e9))) dX4_intruder_145 148 rfl (fun v9 H48 hR49 hz50 hq51 => ?_) nw_noX
                    obtain ⟨rfl, ho52⟩ := hR49
                    have hR8 := hR.ext hext
                    have hR9 : nwMW d ro am y σ (nI 3) H48 := hR8.obj hz50 (fun q9 g9 n9 _ => hq51 q9 g9 (fun e9 => e9.elim n9 (Nat.not_le.mpr g9))) mSame.rfl ho52
                    have hle9 : H.size ≤ H48.size := Nat.le_trans (Nat.le_of_eq hzb.symm) (Nat.le_trans hext.1 hz50)
                    show nwV X _ _ 8 H48 (2 + 0) (245 + 0) 148 [(5, .int (oI none)), (7, .int (nI (m - tn - 1))), (0, .ref y), (1, .int (nI cn)), (2, .int (nI tn)), (3, .int (nI mn)), (4, .ref a17), (6, .int (nI m))] [.int (nI 0)]
                    refine nw_wide (k' := 2) (n' := 245) (by omega) (by omega) ?_
                    have hop : op_intr σ (nI cn) (nI tn) (nI mn) = (3, 0, σ) := by simp [op_intr, h5, h7, en_cn, en_tn, en_mn, hnn, hfull, hwn]
                    exact nw_iret C dX4_intruder_148 (by omega) (by omega) (by rw [hop]; exact ⟨rfl, ok, hle9, ro, am, hR9, fun _ _ => rfl⟩)
                  · show nwV X _ _ 8 H2 2 245 126 [(5, .int (nI c9)), (7, .int (nI (m - tn - 1))), (0, .ref y), (1, .int (nI cn)), (2, .int (nI tn)), (3, .int (nI mn)), (4, .ref a17), (6, .int (nI m))] []
                    have hc9 := sp_moved_lt hgro hatn hom
                    refine nw_iload C 0 dX4_intruder_126 rfl 128 rfl ?_
                    refine nw_iconst C (oI none) dX4_intruder_128 (by decide) 129 rfl ?_
                    refine nw_icmpeqF C (nI_m1 (by omega)) 143 dX4_intruder_129 (by decide) 132 rfl ?_
                    have hk4 : gr_k (sg_gr σ) c9 < 4 := hgro.2 _ (by omega)
                    refine nw_aload_n C 2 dX4_intruder_132 rfl 133 rfl ?_
                    refine nw_get C hmX (T := TX4) rfl in_X4 3 (by decide) q1625 (Or.inl rfl) rfl dX4_intruder_133 136 rfl ?_
                    refine nw_iload C 0 dX4_intruder_136 rfl 138 rfl ?_
                    refine nw_ialdN C (nI (gr_k (sg_gr σ) c9)) hmKi (by omega) rfl dX4_intruder_138 139 rfl ?_
                    refine nw_iconst C (nI 1) dX4_intruder_139 (by decide) 140 rfl ?_
                    refine nw_icmpneN C (by omega) 149 dX4_intruder_140 (by decide) 143 rfl (fun h54 => ?_) (fun h54 => ?_)
                    · refine nw_aload C 6 dX4_intruder_149 rfl 151 rfl ?_
                      refine nw_get C hxc (T := TX13) rfl in_X13 2 (by decide) q1946 (Or.inl rfl) rfl dX4_intruder_151 154 rfl ?_
                      refine nw_iload C 7 dX4_intruder_154 rfl 156 rfl ?_
                      refine nw_iload C 0 dX4_intruder_156 rfl 158 rfl ?_
                      refine nw_iastN C hwc (Or.inr (Nat.le_trans (Nat.le_of_eq hzb.symm) hwl1)) (by omega) dX4_intruder_158 159 rfl (fun H55 ho56 hz57 hq58 => ?_)
                      have ho59 := hxc.kept (hq58 _ hxwl)
                      replace hext := hext.put hz57 hq58 hwl1
                      replace hW := hW0.ext hext.2
                      replace hE := hE0.ext hext.2
                      replace hB := Nat.le_trans hB0 hext.1
                      clear hmX hmKi hmLa hmFo hmGu hmPo hmIn hmWi hmWo hmKe
                      obtain ⟨hmX, hmKi, hmLa, hmFo, hmGu, hmPo, hmIn, hmWi, hmWo, hmKe⟩ := id hW
                      refine nw_iincN C 7 (c0 := 1) [(6, .int (nI (m + 1))), (5, .int (nI c9)), (7, .int (nI (m - tn - 1))), (0, .ref y), (1, .int (nI cn)), (2, .int (nI tn)), (3, .int (nI mn)), (4, .ref a17)] dX4_intruder_159 rfl (by decide) rfl 162 rfl ?_
                      refine nw_goto C 75 dX4_intruder_162 (by decide) ?_
                      exact nw_wide (by omega) (by omega) (nw_sub [3, 4, 5, 6, 7, 1, 0] rfl (ih_lp28 H55 (m + 1) c9 (upd wz m (nI c9)) hext ho59 ho56 ⟨by omega, by omega⟩ (inI_go hin hrg (by omega) hgro hom (by assumption)) (by omega)))
                    · have hwn : sp_wayOf (sg_gr σ) cn tn mn = none := inI_wall hin hrg (by omega) hom (by assumption)
                      refine nw_aload_n C 2 dX4_intruder_143 rfl 144 rfl ?_
                      refine nw_iconst C (nI 3) dX4_intruder_144 (by decide) 145 rfl ?_
                      refine nw_callV C (mX4_no _ C.hfl d y (.int (nI 0)) (.int (nI (gr_w (sg_gr σ)))) (.int (nI (gr_h (sg_gr σ)))) (.ref (am 9)) (.int (nI (gaM_f (sg_ga σ)))) (.int (oI (gaM_t (sg_ga σ)))) (.ref (am 1)) (.ref (am 2)) (.ref (am 3)) (.ref (am 4)) (.int (nI (wo_s (sg_wo σ)))) (.int (nI (wo_m (sg_wo σ)))) (.int (nI (sp_after (wo_x (sg_wo σ))))) (.ref (am 11)) (.ref (am 12)) (.int (nI (sg_ri σ))) (.ref (am 8)) (.ref (am 5)) (.ref (am 6)) (.int (nI (sg_rf σ))) (nI 3) H2 hB hyB hmX) kX4_no q1694 (hmX.is C (ci := 9) rfl) (As := [.int (nI 3)]) (rest := []) rfl rfl ⟨⟨Nat.le_of_ble_eq_true rfl, Nat.le_of_ble_eq_true rfl⟩, (show 2 + 0 ≤ 4 by omega), (show 245 + 0 ≤ 260 by omega)⟩ (Nat.le_of_ble_eq_true rfl) (fun q8 h8 h9 => h9.elim (fun e9 => by rw [e9]; exact hAy) (fun e9 => absurd h8 (Nat.not_lt.mpr e9))) dX4_intruder_145 148 rfl (fun v9 H60 hR61 hz62 hq63 => ?_) nw_noX
                      obtain ⟨rfl, ho64⟩ := hR61
                      have hR8 := hR.ext hext
                      have hR9 : nwMW d ro am y σ (nI 3) H60 := hR8.obj hz62 (fun q9 g9 n9 _ => hq63 q9 g9 (fun e9 => e9.elim n9 (Nat.not_le.mpr g9))) mSame.rfl ho64
                      have hle9 : H.size ≤ H60.size := Nat.le_trans (Nat.le_of_eq hzb.symm) (Nat.le_trans hext.1 hz62)
                      show nwV X _ _ 8 H60 (2 + 0) (245 + 0) 148 [(5, .int (nI c9)), (7, .int (nI (m - tn - 1))), (0, .ref y), (1, .int (nI cn)), (2, .int (nI tn)), (3, .int (nI mn)), (4, .ref a17), (6, .int (nI m))] [.int (nI 0)]
                      refine nw_wide (k' := 2) (n' := 245) (by omega) (by omega) ?_
                      have hop : op_intr σ (nI cn) (nI tn) (nI mn) = (3, 0, σ) := by simp [op_intr, h5, h7, en_cn, en_tn, en_mn, hnn, hfull, hwn]
                      exact nw_iret C dX4_intruder_148 (by omega) (by omega) (by rw [hop]; exact ⟨rfl, ok, hle9, ro, am, hR9, fun _ _ => rfl⟩)
          exact nw_wide (by omega) (by omega) (nw_sub [3, 4, 5, 6, 2, 1, 0] rfl (lp28 _ H24 tn cn (fun _ => 0) hext hgo hwlI ⟨Nat.le_refl _, by omega⟩ (inI_0 hcn9) (Nat.lt_succ_self _)))
        · have hfull : 4 ≤ (sg_in σ).1 := by omega
          refine nw_aload_n C 0 dX4_intruder_49 rfl 50 rfl ?_
          refine nw_iconst C (nI 3) dX4_intruder_50 (by decide) 51 rfl ?_
          refine nw_callV C (mX4_no _ C.hfl d y (.int (nI 0)) (.int (nI (gr_w (sg_gr σ)))) (.int (nI (gr_h (sg_gr σ)))) (.ref (am 9)) (.int (nI (gaM_f (sg_ga σ)))) (.int (oI (gaM_t (sg_ga σ)))) (.ref (am 1)) (.ref (am 2)) (.ref (am 3)) (.ref (am 4)) (.int (nI (wo_s (sg_wo σ)))) (.int (nI (wo_m (sg_wo σ)))) (.int (nI (sp_after (wo_x (sg_wo σ))))) (.ref (am 11)) (.ref (am 12)) (.int (nI (sg_ri σ))) (.ref (am 8)) (.ref (am 5)) (.ref (am 6)) (.int (nI (sg_rf σ))) (nI 3) H1 hB hyB hmX) kX4_no q1694 (hmX.is C (ci := 9) rfl) (As := [.int (nI 3)]) (rest := []) rfl rfl ⟨⟨Nat.le_of_ble_eq_true rfl, Nat.le_of_ble_eq_true rfl⟩, (show 0 + 0 ≤ 4 by omega), (show 0 + 0 ≤ 260 by omega)⟩ (Nat.le_of_ble_eq_true rfl) (fun q8 h8 h9 => h9.elim (fun e9 => by rw [e9]; exact hAy) (fun e9 => absurd h8 (Nat.not_lt.mpr e9))) dX4_intruder_51 54 rfl (fun v9 H65 hR66 hz67 hq68 => ?_) nw_noX
          obtain ⟨rfl, ho69⟩ := hR66
          have hR8 := hR.ext hext
          have hR9 : nwMW d ro am y σ (nI 3) H65 := hR8.obj hz67 (fun q9 g9 n9 _ => hq68 q9 g9 (fun e9 => e9.elim n9 (Nat.not_le.mpr g9))) mSame.rfl ho69
          have hle9 : H.size ≤ H65.size := Nat.le_trans (Nat.le_of_eq hzb.symm) (Nat.le_trans hext.1 hz67)
          show nwV X _ _ 8 H65 (0 + 0) (0 + 0) 54 [(0, .ref y), (1, .int (nI cn)), (2, .int (nI tn)), (3, .int (nI mn))] [.int (nI 0)]
          refine nw_wide (k' := 0) (n' := 0) (by omega) (by omega) ?_
          have hop : op_intr σ (nI cn) (nI tn) (nI mn) = (3, 0, σ) := by simp [op_intr, h5, h7, en_cn, en_tn, en_mn, hnn, hfull]
          exact nw_iret C dX4_intruder_54 (by omega) (by omega) (by rw [hop]; exact ⟨rfl, ok, hle9, ro, am, hR9, fun _ _ => rfl⟩)
      · have hng : mv < 0 := Int32.not_le.mp h14
        refine nw_aload_n C 0 dX4_intruder_30 rfl 31 rfl ?_
        refine nw_iconst C (nI 2) dX4_intruder_31 (by decide) 32 rfl ?_
        refine nw_callV C (mX4_no _ C.hfl d y (.int (nI 0)) (.int (nI (gr_w (sg_gr σ)))) (.int (nI (gr_h (sg_gr σ)))) (.ref (am 9)) (.int (nI (gaM_f (sg_ga σ)))) (.int (oI (gaM_t (sg_ga σ)))) (.ref (am 1)) (.ref (am 2)) (.ref (am 3)) (.ref (am 4)) (.int (nI (wo_s (sg_wo σ)))) (.int (nI (wo_m (sg_wo σ)))) (.int (nI (sp_after (wo_x (sg_wo σ))))) (.ref (am 11)) (.ref (am 12)) (.int (nI (sg_ri σ))) (.ref (am 8)) (.ref (am 5)) (.ref (am 6)) (.int (nI (sg_rf σ))) (nI 2) H1 hB hyB hmX) kX4_no q1694 (hmX.is C (ci := 9) rfl) (As := [.int (nI 2)]) (rest := []) rfl rfl ⟨⟨Nat.le_of_ble_eq_true rfl, Nat.le_of_ble_eq_true rfl⟩, (show 0 + 0 ≤ 4 by omega), (show 0 + 0 ≤ 260 by omega)⟩ (Nat.le_of_ble_eq_true rfl) (fun q8 h8 h9 => h9.elim (fun e9 => by rw [e9]; exact hAy) (fun e9 => absurd h8 (Nat.not_lt.mpr e9))) dX4_intruder_32 35 rfl (fun v9 H70 hR71 hz72 hq73 => ?_) nw_noX
        obtain ⟨rfl, ho74⟩ := hR71
        have hR8 := hR.ext hext
        have hR9 : nwMW d ro am y σ (nI 2) H70 := hR8.obj hz72 (fun q9 g9 n9 _ => hq73 q9 g9 (fun e9 => e9.elim n9 (Nat.not_le.mpr g9))) mSame.rfl ho74
        have hle9 : H.size ≤ H70.size := Nat.le_trans (Nat.le_of_eq hzb.symm) (Nat.le_trans hext.1 hz72)
        show nwV X _ _ 8 H70 (0 + 0) (0 + 0) 35 [(0, .ref y), (1, .int (nI cn)), (2, .int (nI tn)), (3, .int mv)] [.int (nI 0)]
        refine nw_wide (k' := 0) (n' := 0) (by omega) (by omega) ?_
        have hop : op_intr σ (nI cn) (nI tn) mv = (2, 0, σ) := by simp [op_intr, h5, h7, en_cn, en_tn, hng]
        exact nw_iret C dX4_intruder_35 (by omega) (by omega) (by rw [hop]; exact ⟨rfl, ok, hle9, ro, am, hR9, fun _ _ => rfl⟩)
  · refine nw_aload_n C 0 dX4_intruder_13 rfl 14 rfl ?_
    refine nw_iconst C (nI 1) dX4_intruder_14 (by decide) 15 rfl ?_
    refine nw_callV C (mX4_no _ C.hfl d y (.int (nI 0)) (.int (nI (gr_w (sg_gr σ)))) (.int (nI (gr_h (sg_gr σ)))) (.ref (am 9)) (.int (nI (gaM_f (sg_ga σ)))) (.int (oI (gaM_t (sg_ga σ)))) (.ref (am 1)) (.ref (am 2)) (.ref (am 3)) (.ref (am 4)) (.int (nI (wo_s (sg_wo σ)))) (.int (nI (wo_m (sg_wo σ)))) (.int (nI (sp_after (wo_x (sg_wo σ))))) (.ref (am 11)) (.ref (am 12)) (.int (nI (sg_ri σ))) (.ref (am 8)) (.ref (am 5)) (.ref (am 6)) (.int (nI (sg_rf σ))) (nI 1) H1 hB hyB hmX) kX4_no q1694 (hmX.is C (ci := 9) rfl) (As := [.int (nI 1)]) (rest := []) rfl rfl ⟨⟨Nat.le_of_ble_eq_true rfl, Nat.le_of_ble_eq_true rfl⟩, (show 0 + 0 ≤ 4 by omega), (show 0 + 0 ≤ 260 by omega)⟩ (Nat.le_of_ble_eq_true rfl) (fun q8 h8 h9 => h9.elim (fun e9 => by rw [e9]; exact hAy) (fun e9 => absurd h8 (Nat.not_lt.mpr e9))) dX4_intruder_15 18 rfl (fun v9 H75 hR76 hz77 hq78 => ?_) nw_noX
    obtain ⟨rfl, ho79⟩ := hR76
    have hR8 := hR.ext hext
    have hR9 : nwMW d ro am y σ (nI 1) H75 := hR8.obj hz77 (fun q9 g9 n9 _ => hq78 q9 g9 (fun e9 => e9.elim n9 (Nat.not_le.mpr g9))) mSame.rfl ho79
    have hle9 : H.size ≤ H75.size := Nat.le_trans (Nat.le_of_eq hzb.symm) (Nat.le_trans hext.1 hz77)
    show nwV X _ _ 8 H75 (0 + 0) (0 + 0) 18 [(0, .ref y), (1, .int c), (2, .int t), (3, .int mv)] [.int (nI 0)]
    refine nw_wide (k' := 0) (n' := 0) (by omega) (by omega) ?_
    have hop : op_intr σ c t mv = (1, 0, σ) := by simp [op_intr, h5]
    exact nw_iret C dX4_intruder_18 (by omega) (by omega) (by rw [hop]; exact ⟨rfl, ok, hle9, ro, am, hR9, fun _ _ => rfl⟩)
