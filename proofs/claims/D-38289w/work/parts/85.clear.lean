/-! ===== constructors, clear ===== -/
theorem nw_upG {d : nwD} {f : Nat → Option Nat} {i : Nat} (h : ∀ k, k < i → f k = some (nd_st d 0)) : ∀ k, k < i + 1 → va_up f i (some (nd_st d 0)) k = some (nd_st d 0) := by
  intro k hk
  unfold va_up
  by_cases e : k = i
  · rw [if_pos e]
  · rw [if_neg e]; exact h k (by omega)
theorem nwWR.ke {d : nwD} {ro ad : Nat → Nat} {x : Nat} {s : spSg} {sm : Int64} {H : Heap} {f : Nat → Option Nat} (h : nwWR d ro ad x s sm H) (e : ∀ k, k < 6 → sg_ke s k = f k) : nwWR d ro ad x (st_ke s f) sm H := by
  obtain ⟨h1, r1⟩ := h.2.2.2.2.2.2.2.2.2.2
  exact h.upd (fun p => p == 10) h.1 (fun _ _ => rfl) (fun _ _ => rfl) (fun _ _ _ => rfl) (fun _ _ _ _ => rfl) ⟨Or.inr ⟨rfl, rfl, rfl, rfl⟩, Or.inr rfl, Or.inr rfl, Or.inr rfl, Or.inr rfl, Or.inr rfl, Or.inr rfl, Or.inr rfl, Or.inr rfl, Or.inl rfl⟩ ⟨fun h => absurd h (by decide), fun h => absurd h (by decide), fun h => absurd h (by decide), fun h => absurd h (by decide), fun h => absurd h (by decide), fun h => absurd h (by decide), fun h => absurd h (by decide), fun h => absurd h (by decide), fun h => absurd h (by decide), fun _ => ⟨nwI.congr h1 (fun j hj => congrArg oI (e j hj)), r1⟩⟩
set_option maxHeartbeats 4000000 in
theorem mX6_init (l : Launch) (hf : l.flags = flags0) (d : nwD) (g : Nat) (w h : Nat) (H : Heap) (hB : nd_B d ≤ H.size) (hgB : nd_B d ≤ g) (hg : nwO d g 1 [.int (nI 0), .int (nI 0), .null] H) (hwh : w * h ≤ 64) (hw : w < 2 ^ 20 ∧ h < 2 ^ 20) : nwMt l d yX6_init cX6_init 4 none 1 20 1 64 [.ref g, .int (nI w), .int (nI h)] H (fun v H1 => v = none ∧ ∃ ka : Nat, H.size ≤ ka ∧ nwO d g 1 [.int (nI w), .int (nI h), .ref ka] H1 ∧ nwR d ka 4 (w * h) (fun _ => some (nd_st d 0)) H1) nwNo (fun q => q = g ∨ H.size ≤ q) := by
  refine nw_start "NightwatchWall$Ground" "<init>" hf (by decide +kernel) rfl rfl (fun _ h => Or.inr h) (fun q h => h.elim (fun e => by rw [e]; exact hgB) (fun h => Nat.le_trans hB h)) (Nat.le_of_ble_eq_true rfl) ?_
  intro X C
  have hE := C.E0
  have hB0 := hB
  have hsz : H.size ≤ H.size := Nat.le_refl _
  show nwV X _ _ 4 H 0 0 0 [(0, .ref g), (1, .int (nI w)), (2, .int (nI h))] []
  refine nw_aload_n C 0 dX6_init_0 rfl 1 rfl ?_
  refine nw_objInit C q727 q133 q134 dX6_init_1 ⟨Nat.le_of_ble_eq_true rfl, Nat.le_of_ble_eq_true rfl⟩ (Nat.le_of_ble_eq_true rfl) 4 rfl ?_
  refine nw_aload_n C 0 dX6_init_4 rfl 5 rfl ?_
  refine nw_iload_n C 1 dX6_init_5 rfl 6 rfl ?_
  refine nw_putF C hg (Or.inl rfl) (T := TX6) (ty0 := tyX6) rfl in_X6 tyX6_ok nmX6 0 (by decide) q731 rfl rfl rfl rfl (Nat.le_of_ble_eq_true rfl) dX6_init_6 9 rfl (fun H1 ho2 hz3 hq4 => ?_)
  have ho2 : nwO d g 1 [.int (nI w), .int (nI 0), .null] H1 := ho2
  have hsz := Nat.le_trans hsz (Nat.le_of_eq hz3.symm)
  have hB := Nat.le_trans hB0 hsz
  refine nw_aload_n C 0 dX6_init_9 rfl 10 rfl ?_
  refine nw_iload_n C 2 dX6_init_10 rfl 11 rfl ?_
  refine nw_putF C ho2 (Or.inl rfl) (T := TX6) (ty0 := tyX6) rfl in_X6 tyX6_ok nmX6 1 (by decide) q733 rfl rfl rfl rfl (Nat.le_of_ble_eq_true rfl) dX6_init_11 14 rfl (fun H5 ho6 hz7 hq8 => ?_)
  have ho6 : nwO d g 1 [.int (nI w), .int (nI h), .null] H5 := ho6
  have hsz := Nat.le_trans hsz (Nat.le_of_eq hz7.symm)
  have hB := Nat.le_trans hB0 hsz
  refine nw_aload_n C 0 dX6_init_14 rfl 15 rfl ?_
  refine nw_iload_n C 1 dX6_init_15 rfl 16 rfl ?_
  refine nw_iload_n C 2 dX6_init_16 rfl 17 rfl ?_
  refine nw_imulN C dX6_init_17 18 rfl ?_
  refine nw_newk C (by omega) q728 1 64 (by omega) (by omega) ⟨(show 1 ≤ 1 by omega), (show 64 ≤ 64 by omega)⟩ dX6_init_18 21 rfl (fun a9 H10 hx11 ho12 hz13 hq14 => ?_)
  have hn15 : H.size ≤ a9 := by rw [hx11]; exact hsz
  have hsz := Nat.le_trans hsz (show _ ≤ H10.size by omega)
  have hB := Nat.le_trans hB0 hsz
  have hne16 : g ≠ a9 := Nat.ne_of_lt (by rw [hx11]; exact ho6.lt)
  have ho17 := ho6.kept (hq14 _ ho6.lt)
  refine nw_putF C ho17 (Or.inl rfl) (T := TX6) (ty0 := tyX6) rfl in_X6 tyX6_ok nmX6 2 (by decide) q735 rfl rfl rfl rfl (Nat.le_of_ble_eq_true rfl) dX6_init_21 24 rfl (fun H18 ho19 hz20 hq21 => ?_)
  have ho19 : nwO d g 1 [.int (nI w), .int (nI h), .ref a9] H18 := ho19
  have hsz := Nat.le_trans hsz (Nat.le_of_eq hz20.symm)
  have hB := Nat.le_trans hB0 hsz
  have ho22 := ho12.kept (hq21 _ (Ne.symm hne16))
  refine nw_iconst C (nI 0) dX6_init_24 (by decide) 25 rfl ?_
  refine nw_istore_n C [(3, .int (nI 0)), (0, .ref g), (1, .int (nI w)), (2, .int (nI h))] dX6_init_25 (by decide) rfl 26 rfl ?_
  have lp23 : ∀ (fu : Nat) (H2 : Heap) (i : Nat) (fz : Nat → Option Nat), (i ≤ w * h) → (H.size ≤ H2.size) → (nwO d g 1 [.int (nI w), .int (nI h), .ref a9] H2) → (nwR d a9 4 (w * h) fz H2) → (∀ k, k < i → fz k = some (nd_st d 0)) → w * h - i < fu → nwV X (fun q => q = g ∨ H.size ≤ q) (nwQE X (fun v H1 => v = none ∧ ∃ ka : Nat, H.size ≤ ka ∧ nwO d g 1 [.int (nI w), .int (nI h), .ref ka] H1 ∧ nwR d ka 4 (w * h) (fun _ => some (nd_st d 0)) H1) nwNo (fun q => q = g ∨ H.size ≤ q) 1 64) 4 H2 1 64 26 [(0, .ref g), (1, .int (nI w)), (2, .int (nI h)), (3, .int (nI i))] [] := by
    intro fu
    induction fu with
    | zero => intro H2 i fz _ _ _ _ _ hm; exact absurd hm (Nat.not_lt_zero _)
    | succ fu ih_lp23 =>
      intro H2 i fz hi hsz hg2 hk2 hfz hm
      have hB := Nat.le_trans hB0 hsz
      refine nw_iload_n C 3 dX6_init_26 rfl 27 rfl ?_
      refine nw_aload_n C 0 dX6_init_27 rfl 28 rfl ?_
      refine nw_get C hg2 (T := TX6) rfl in_X6 2 (by decide) q735 (Or.inl rfl) rfl dX6_init_28 31 rfl ?_
      refine nw_alenR C hk2 (by decide) dX6_init_31 32 rfl ?_
      refine nw_icmpgeN C (by omega) 50 dX6_init_32 (by decide) 35 rfl (fun h24 => ?_) (fun h24 => ?_)
      · exact nw_vret C dX6_init_50 (by omega) (by omega) ⟨rfl, a9, hn15, hg2, nwR.congr hk2 (fun j hj => hfz j (by omega))⟩
      · refine nw_aload_n C 0 dX6_init_35 rfl 36 rfl ?_
        refine nw_get C hg2 (T := TX6) rfl in_X6 2 (by decide) q735 (Or.inl rfl) rfl dX6_init_36 39 rfl ?_
        refine nw_iload_n C 3 dX6_init_39 rfl 40 rfl ?_
        refine nw_gets C (v := .ref (nd_st d 0)) (fun _ _ h9 => h9.2.2.1.1) q730 dX6_init_40 43 rfl ?_
        refine nw_aastKk C hB0 hk2 (Or.inr hn15) (by omega) (show 0 < 4 by decide) dX6_init_43 44 rfl (fun H25 ho26 hz27 hq28 => ?_)
        have hsz := Nat.le_trans hsz (Nat.le_of_eq hz27.symm)
        have hB := Nat.le_trans hB0 hsz
        have ho29 := hg2.kept (hq28 _ hne16)
        refine nw_iincN C 3 (c0 := 1) [(3, .int (nI (i + 1))), (0, .ref g), (1, .int (nI w)), (2, .int (nI h))] dX6_init_44 rfl (by decide) rfl 47 rfl ?_
        refine nw_goto C 26 dX6_init_47 (by decide) ?_
        exact nw_wide (by omega) (by omega) (nw_sub [1, 2, 3, 0] rfl (ih_lp23 H25 (i + 1) (va_up fz i (some (nd_st d 0))) (by omega) hsz ho29 ho26 (nw_upG hfz) (by omega)))
  exact nw_wide (by omega) (by omega) (nw_sub [1, 2, 3, 0] rfl (lp23 _ H18 0 (fun _ => none) (Nat.zero_le _) hsz ho19 ho22 (fun k hk => absurd hk (Nat.not_lt_zero k)) (Nat.lt_succ_self _)))
set_option maxHeartbeats 4000000 in
theorem mX2_init (l : Launch) (hf : l.flags = flags0) (d : nwD) (g : Nat)  (H : Heap) (hB : nd_B d ≤ H.size) (hgB : nd_B d ≤ g) (hg : nwO d g 5 [.int (nI 0), .null, .null, .null] H)  : nwMt l d yX2_init cX2_init 1 none 4 80 3 20 [.ref g] H (fun v H1 => v = none ∧ ∃ now old row : Nat, (H.size ≤ now ∧ now < old ∧ old < row) ∧ nwO d g 5 [.int (nI 0), .ref row, .ref now, .ref old] H1 ∧ nwO d row 6 [.int (nI (sp_row 0 4))] H1 ∧ nwI d now 0 4 (fun h => nI (sp_row 0 (h + 1))) H1 ∧ nwLi d old 0 (fun _ => 0) (fun _ => False) H1) nwNo (fun q => q = g ∨ H.size ≤ q) := by
  refine nw_start "NightwatchWall$Words" "<init>" hf (by decide +kernel) rfl rfl (fun _ h => Or.inr h) (fun q h => h.elim (fun e => by rw [e]; exact hgB) (fun h => Nat.le_trans hB h)) (Nat.le_of_ble_eq_true rfl) ?_
  intro X C
  have hE := C.E0
  have hB0 := hB
  have hsz : H.size ≤ H.size := Nat.le_refl _
  show nwV X _ _ 1 H 0 0 0 [(0, .ref g)] []
  refine nw_aload_n C 0 dX2_init_0 rfl 1 rfl ?_
  refine nw_objInit C q174 q133 q134 dX2_init_1 ⟨Nat.le_of_ble_eq_true rfl, Nat.le_of_ble_eq_true rfl⟩ (Nat.le_of_ble_eq_true rfl) 4 rfl ?_
  refine nw_aload_n C 0 dX2_init_4 rfl 5 rfl ?_
  refine nw_iconst C (nI 4) dX2_init_5 (by decide) 6 rfl ?_
  refine nw_newi C (by omega) 1 4 (by omega) (by omega) ⟨(show 1 ≤ 3 by omega), (show 4 ≤ 20 by omega)⟩ dX2_init_6 8 rfl (fun a1 H2 hx3 ho4 hz5 hq6 => ?_)
  have hn7 : H.size ≤ a1 := by rw [hx3]; exact hsz
  have hsz := Nat.le_trans hsz (show _ ≤ H2.size by omega)
  have hB := Nat.le_trans hB0 hsz
  have hne8 : g ≠ a1 := Nat.ne_of_lt (by rw [hx3]; exact hg.lt)
  have ho9 := hg.kept (hq6 _ hg.lt)
  refine nw_putF C ho9 (Or.inl rfl) (T := TX2) (ty0 := tyX2) rfl in_X2 tyX2_ok nmX2 2 (by decide) q203 rfl rfl rfl rfl (Nat.le_of_ble_eq_true rfl) dX2_init_8 11 rfl (fun H10 ho11 hz12 hq13 => ?_)
  have ho11 : nwO d g 5 [.int (nI 0), .null, .ref a1, .null] H10 := ho11
  have hsz := Nat.le_trans hsz (Nat.le_of_eq hz12.symm)
  have hB := Nat.le_trans hB0 hsz
  have ho14 := ho4.kept (hq13 _ (Ne.symm hne8))
  refine nw_aload_n C 0 dX2_init_11 rfl 12 rfl ?_
  have hnlt9 := ho14.lt
  refine nw_new C (ci := 13) (T := TJ3) (ty0 := tyJ3) [.int (nI 0), .null, .int (nI 0)] rfl in_J3 tyJ3_ok q175 q141 q90 (fun j hj => by rcases (show j = 0 ∨ j = 1 ∨ j = 2 by omega) with rfl | rfl | rfl <;> rfl) 2 7 (by omega) (by omega) ⟨(show 2 ≤ 3 by omega), (show 7 ≤ 20 by omega)⟩ dX2_init_12 15 rfl (fun a15 H16 hx17 ho18 hz19 hq20 => ?_)
  have hn21 : H.size ≤ a15 := by rw [hx17]; exact hsz
  have hsz := Nat.le_trans hsz (show _ ≤ H16.size by omega)
  have hB := Nat.le_trans hB0 hsz
  have hne22 : g ≠ a15 := Nat.ne_of_lt (by rw [hx17]; exact ho11.lt)
  have ho23 := ho11.kept (hq20 _ ho11.lt)
  have hne24 : a1 ≠ a15 := Nat.ne_of_lt (by rw [hx17]; exact ho14.lt)
  have ho25 := ho14.kept (hq20 _ ho14.lt)
  have hno9 : a1 < a15 := by rw [hx17]; exact hnlt9
  refine nw_dup C dX2_init_15 rfl 16 rfl ?_
  refine nw_callI C (mJ3_init _ C.hfl d a15  H16 hB (Nat.le_trans hB0 hn21) ho18 ) kJ3_init q176 (As := []) (rest := [.ref a15, .ref g]) rfl rfl ⟨⟨Nat.le_of_ble_eq_true rfl, Nat.le_of_ble_eq_true rfl⟩, (show 2 + 0 ≤ 3 by omega), (show 7 + 0 ≤ 20 by omega)⟩ (Nat.le_of_ble_eq_true rfl) (fun q8 h8 h9 => h9.elim (fun e9 => by rw [e9]; exact (Or.inr hn21)) (fun e9 => absurd h8 (Nat.not_lt.mpr e9))) dX2_init_16 19 rfl (fun v9 H26 hR27 hz28 hq29 => ?_) nw_noX
  obtain ⟨rfl, ho30⟩ := hR27
  have ho31 := ho23.kept (hq29 _ ho23.lt (fun e9 => e9.elim hne22 (Nat.not_le.mpr ho23.lt)))
  have ho32 := ho25.kept (hq29 _ ho25.lt (fun e9 => e9.elim hne24 (Nat.not_le.mpr ho25.lt)))
  have hsz := Nat.le_trans hsz hz28
  have hB := Nat.le_trans hB0 hsz
  show nwV X _ _ 1 H26 (2 + 0) (7 + 0) 19 [(0, .ref g)] [.ref a15, .ref g]
  refine nw_wide (k' := 2) (n' := 7) (by omega) (by omega) ?_
  refine nw_putF C ho31 (Or.inl rfl) (T := TX2) (ty0 := tyX2) rfl in_X2 tyX2_ok nmX2 3 (by decide) q205 rfl rfl rfl rfl (Nat.le_of_ble_eq_true rfl) dX2_init_19 22 rfl (fun H33 ho34 hz35 hq36 => ?_)
  have ho34 : nwO d g 5 [.int (nI 0), .null, .ref a1, .ref a15] H33 := ho34
  have hsz := Nat.le_trans hsz (Nat.le_of_eq hz35.symm)
  have hB := Nat.le_trans hB0 hsz
  have ho37 := ho32.kept (hq36 _ (Ne.symm hne8))
  have ho38 := ho30.kept (hq36 _ (Ne.symm hne22))
  refine nw_aload_n C 0 dX2_init_22 rfl 23 rfl ?_
  refine nw_iconst C (nI 0) dX2_init_23 (by decide) 24 rfl ?_
  refine nw_callV C (mX2_begin _ C.hfl d g a1 a15 (fun _ => False) (nI 0) .null (fun _ => 0) 0 (fun _ => 0) 0 H33 hB ho34 ho37 ⟨nd_st d 5, 0, nI 0, (fun _ => none), ⟨ho38, Nat.le_refl 0, by decide, Or.inl ⟨rfl, rfl⟩⟩, fun h9 => absurd h9 (by decide), fun k hk => absurd hk (Nat.not_lt_zero k)⟩ ⟨hgB, (Nat.le_trans hB0 hn7), (Nat.le_trans hB0 hn21)⟩ (fun _ e9 => e9.elim) (fun _ e9 => e9.elim) ⟨hne8, hne22, hne24⟩ ⟨id, id, id⟩ (by decide)) kX2_begin q177 (ho34.is C (ci := 5) rfl) (As := [.int (nI 0)]) (rest := []) rfl rfl ⟨⟨Nat.le_of_ble_eq_true rfl, Nat.le_of_ble_eq_true rfl⟩, (show 2 + 1 ≤ 3 by omega), (show 7 + 1 ≤ 20 by omega)⟩ (Nat.le_of_ble_eq_true rfl) (fun q8 h8 h9 => by rcases h9 with e9 | e9 | e9 | e9 | e9; (exact Or.inl e9); (exact Or.inr (by rw [e9]; exact hn7)); (exact Or.inr (by rw [e9]; exact hn21)); (exact e9.elim); (exact absurd h8 (Nat.not_lt.mpr e9))) dX2_init_24 27 rfl (fun v9 H39 hR40 hz41 hq42 => ?_) nw_noX
  obtain ⟨rfl, row8, mo8, ar8, cap8, f8, hrow8, h78, hr8, hn8, hL8⟩ := hR40
  have hor9 : a15 < row8 := Nat.lt_of_lt_of_le ho38.lt hrow8
  show nwV X _ _ 1 H39 (2 + 1) (7 + 1) 27 [(0, .ref g)] []
  refine nw_wide (k' := 3) (n' := 8) (by omega) (by omega) ?_
  exact nw_vret C dX2_init_27 (by omega) (by omega) ⟨rfl, a1, a15, row8, ⟨hn7, hno9, hor9⟩, h78, hr8, hn8, hL8.li⟩
set_option maxHeartbeats 4000000 in
theorem mX1_clear (l : Launch) (hf : l.flags = flags0) (d : nwD) (ro ad : Nat → Nat) (x : Nat) (σ : spSg) (sm : Int64) (H : Heap) (hB : nd_B d ≤ H.size) (hR : nwWR d ro ad x σ sm H) : nwMt l d yX1_clear cX1_clear 2 none 2 43 0 0 [.ref x] H (fun v H1 => v = none ∧ nwWR d ro ad x (st_clear σ) sm H1) nwNo (nwAC ro H) := by
  refine nw_start "NightwatchWall" "clear" hf (by decide +kernel) rfl rfl (fun _ h => Or.inr h) (nwAC_B hR hB) (Nat.le_of_ble_eq_true rfl) ?_
  intro X C
  have hrx0 := hR.2.1.2
  have hB0 := hB
  have hE := C.E0
  have hext : nwExt H H := nwExt.rfl
  show nwV X _ _ 2 H 0 0 0 [(0, .ref x)] []
  have hr80 : ro (ad 8) = 9 := hR.2.2.2.2.2.2.2.2.2.2.2
  refine nw_aload_n C 0 dX1_clear_0 rfl 1 rfl ?_
  refine nw_get C hR.2.1.1 (T := TX1) rfl in_X1 1 (by decide) q222 (Or.inl rfl) rfl dX1_clear_1 4 rfl ?_
  have hRc := hR
  obtain ⟨mo9, ar9, cap9, f9, hL9⟩ := nwLi_m hR.2.2.2.1.1.1
  have hr9 : ro (ad 1) = 2 := hR.2.2.2.1.2.2.1
  have hai9 := hR.ok0 (show ro (ad 1) ≠ 0 by rw [hr9]; decide)
  have hAq : ∀ q8, q8 < H.size → (q8 = ad 1 ∨ ro q8 = 2002 ∨ H.size ≤ q8) → nwAC ro H q8 := by
    intro q8 h8 h9
    rcases h9 with e9 | e9 | e9
    · exact Or.inl (by rw [e9, hr9]; decide +kernel)
    · exact Or.inl (by rw [e9]; decide +kernel)
    · exact absurd h8 (Nat.not_lt.mpr e9)
  refine nw_callV C (mJ3_clear _ C.hfl d (ad 1) (sg_la σ).1 (fun k => ad (100 + k)) (fun q => ro q = 2002) mo9 ar9 cap9 f9 H hB hai9.1 hL9 (fun q9 e9 => (hR.ok0 (show ro q9 ≠ 0 by rw [show ro q9 = 2002 from e9]; decide)).1) (show ¬ ro (ad 1) = 2002 by rw [hr9]; decide)) kJ3_clear q220 (nwLi.is hR.2.2.2.1.1.1 C) (As := []) (rest := []) rfl rfl ⟨⟨Nat.le_of_ble_eq_true rfl, Nat.le_of_ble_eq_true rfl⟩, (show 0 + 0 ≤ 0 by omega), (show 0 + 0 ≤ 0 by omega)⟩ (Nat.le_of_ble_eq_true rfl) hAq dX1_clear_4 7 rfl (fun v9 H1 hR2 hz3 hq4 => ?_) nw_noX
  obtain ⟨rfl, mo8, ar8, cap8, f8, hL8⟩ := hR2
  have hR1 := tr_cla hRc hz3 hq4 hL8
  obtain ⟨σ1, hσ1⟩ : ∃ t9 : spSg, t9 = st_la σ (0, (sg_la σ).2) := ⟨_, rfl⟩
  rw [← hσ1] at hR1
  have hE := hE.kept (fun q9 g9 hb9 => hq4 q9 g9 (fun h9 => hb9 (C.hB q9 (hAq q9 g9 h9))))
  have hsz : H.size ≤ H1.size := Nat.le_trans hext.1 hz3
  have hB := Nat.le_trans hB0 hsz
  have hR := hR1
  have hW := hR.wc
  show nwV X _ _ 2 H1 (0 + 0) (0 + 0) 7 [(0, .ref x)] []
  refine nw_wide (k' := 0) (n' := 0) (by omega) (by omega) ?_
  refine nw_aload_n C 0 dX1_clear_7 rfl 8 rfl ?_
  refine nw_get C hR.2.1.1 (T := TX1) rfl in_X1 2 (by decide) q223 (Or.inl rfl) rfl dX1_clear_8 11 rfl ?_
  have hRc := hR
  obtain ⟨mo9, ar9, cap9, f9, hL9⟩ := nwLi_m hR.2.2.2.2.1.1.1
  have hr9 : ro (ad 2) = 3 := hR.2.2.2.2.1.2.2.1
  have hai9 := hR.ok0 (show ro (ad 2) ≠ 0 by rw [hr9]; decide)
  have hAq : ∀ q8, q8 < H1.size → (q8 = ad 2 ∨ ro q8 = 2003 ∨ H1.size ≤ q8) → nwAC ro H q8 := by
    intro q8 h8 h9
    rcases h9 with e9 | e9 | e9
    · exact Or.inl (by rw [e9, hr9]; decide +kernel)
    · exact Or.inl (by rw [e9]; decide +kernel)
    · exact absurd h8 (Nat.not_lt.mpr e9)
  refine nw_callV C (mJ3_clear _ C.hfl d (ad 2) (sg_fo σ1).1 (fun k => ad (200 + k)) (fun q => ro q = 2003) mo9 ar9 cap9 f9 H1 hB hai9.1 hL9 (fun q9 e9 => (hR.ok0 (show ro q9 ≠ 0 by rw [show ro q9 = 2003 from e9]; decide)).1) (show ¬ ro (ad 2) = 2003 by rw [hr9]; decide)) kJ3_clear q220 (nwLi.is hR.2.2.2.2.1.1.1 C) (As := []) (rest := []) rfl rfl ⟨⟨Nat.le_of_ble_eq_true rfl, Nat.le_of_ble_eq_true rfl⟩, (show 0 + 0 ≤ 0 by omega), (show 0 + 0 ≤ 0 by omega)⟩ (Nat.le_of_ble_eq_true rfl) hAq dX1_clear_11 14 rfl (fun v9 H5 hR6 hz7 hq8 => ?_) nw_noX
  obtain ⟨rfl, mo8, ar8, cap8, f8, hL8⟩ := hR6
  have hR2 := tr_cfo hRc hz7 hq8 hL8
  obtain ⟨σ2, hσ2⟩ : ∃ t9 : spSg, t9 = st_fo σ1 (0, (sg_fo σ1).2) := ⟨_, rfl⟩
  rw [← hσ2] at hR2
  have hE := hE.kept (fun q9 g9 hb9 => hq8 q9 g9 (fun h9 => hb9 (C.hB q9 (hAq q9 g9 h9))))
  have hsz : H.size ≤ H5.size := Nat.le_trans hsz hz7
  have hB := Nat.le_trans hB0 hsz
  have hR := hR2
  have hW := hR.wc
  show nwV X _ _ 2 H5 (0 + 0) (0 + 0) 14 [(0, .ref x)] []
  refine nw_wide (k' := 0) (n' := 0) (by omega) (by omega) ?_
  refine nw_aload_n C 0 dX1_clear_14 rfl 15 rfl ?_
  refine nw_get C hR.2.1.1 (T := TX1) rfl in_X1 3 (by decide) q224 (Or.inl rfl) rfl dX1_clear_15 18 rfl ?_
  have hRc := hR
  obtain ⟨mo9, ar9, cap9, f9, hL9⟩ := nwLi_m hR.2.2.2.2.2.1.1.1
  have hr9 : ro (ad 3) = 4 := hR.2.2.2.2.2.1.2.2.1
  have hai9 := hR.ok0 (show ro (ad 3) ≠ 0 by rw [hr9]; decide)
  have hAq : ∀ q8, q8 < H5.size → (q8 = ad 3 ∨ ro q8 = 2004 ∨ H5.size ≤ q8) → nwAC ro H q8 := by
    intro q8 h8 h9
    rcases h9 with e9 | e9 | e9
    · exact Or.inl (by rw [e9, hr9]; decide +kernel)
    · exact Or.inl (by rw [e9]; decide +kernel)
    · exact absurd h8 (Nat.not_lt.mpr e9)
  refine nw_callV C (mJ3_clear _ C.hfl d (ad 3) (sg_gu σ2).1 (fun k => ad (300 + k)) (fun q => ro q = 2004) mo9 ar9 cap9 f9 H5 hB hai9.1 hL9 (fun q9 e9 => (hR.ok0 (show ro q9 ≠ 0 by rw [show ro q9 = 2004 from e9]; decide)).1) (show ¬ ro (ad 3) = 2004 by rw [hr9]; decide)) kJ3_clear q220 (nwLi.is hR.2.2.2.2.2.1.1.1 C) (As := []) (rest := []) rfl rfl ⟨⟨Nat.le_of_ble_eq_true rfl, Nat.le_of_ble_eq_true rfl⟩, (show 0 + 0 ≤ 0 by omega), (show 0 + 0 ≤ 0 by omega)⟩ (Nat.le_of_ble_eq_true rfl) hAq dX1_clear_18 21 rfl (fun v9 H9 hR10 hz11 hq12 => ?_) nw_noX
  obtain ⟨rfl, mo8, ar8, cap8, f8, hL8⟩ := hR10
  have hR3 := tr_cgu hRc hz11 hq12 hL8
  obtain ⟨σ3, hσ3⟩ : ∃ t9 : spSg, t9 = st_gu σ2 (0, (sg_gu σ2).2) := ⟨_, rfl⟩
  rw [← hσ3] at hR3
  have hE := hE.kept (fun q9 g9 hb9 => hq12 q9 g9 (fun h9 => hb9 (C.hB q9 (hAq q9 g9 h9))))
  have hsz : H.size ≤ H9.size := Nat.le_trans hsz hz11
  have hB := Nat.le_trans hB0 hsz
  have hR := hR3
  have hW := hR.wc
  show nwV X _ _ 2 H9 (0 + 0) (0 + 0) 21 [(0, .ref x)] []
  refine nw_wide (k' := 0) (n' := 0) (by omega) (by omega) ?_
  refine nw_aload_n C 0 dX1_clear_21 rfl 22 rfl ?_
  refine nw_get C hR.2.1.1 (T := TX1) rfl in_X1 4 (by decide) q225 (Or.inl rfl) rfl dX1_clear_22 25 rfl ?_
  have hRc := hR
  obtain ⟨mo9, ar9, cap9, f9, hL9⟩ := nwLi_m hR.2.2.2.2.2.2.1.1
  have hr9 : ro (ad 4) = 5 := hR.2.2.2.2.2.2.1.2
  have hai9 := hR.ok0 (show ro (ad 4) ≠ 0 by rw [hr9]; decide)
  have hAq : ∀ q8, q8 < H9.size → (q8 = ad 4 ∨ ro q8 = 2005 ∨ H9.size ≤ q8) → nwAC ro H q8 := by
    intro q8 h8 h9
    rcases h9 with e9 | e9 | e9
    · exact Or.inl (by rw [e9, hr9]; decide +kernel)
    · exact Or.inl (by rw [e9]; decide +kernel)
    · exact absurd h8 (Nat.not_lt.mpr e9)
  refine nw_callV C (mJ3_clear _ C.hfl d (ad 4) (sg_po σ3).1 (fun k => nd_bx d ((sg_po σ3).2 k)) (fun q => ro q = 2005) mo9 ar9 cap9 f9 H9 hB hai9.1 hL9 (fun q9 e9 => (hR.ok0 (show ro q9 ≠ 0 by rw [show ro q9 = 2005 from e9]; decide)).1) (show ¬ ro (ad 4) = 2005 by rw [hr9]; decide)) kJ3_clear q220 (nwLi.is hR.2.2.2.2.2.2.1.1 C) (As := []) (rest := []) rfl rfl ⟨⟨Nat.le_of_ble_eq_true rfl, Nat.le_of_ble_eq_true rfl⟩, (show 0 + 0 ≤ 0 by omega), (show 0 + 0 ≤ 0 by omega)⟩ (Nat.le_of_ble_eq_true rfl) hAq dX1_clear_25 28 rfl (fun v9 H13 hR14 hz15 hq16 => ?_) nw_noX
  obtain ⟨rfl, mo8, ar8, cap8, f8, hL8⟩ := hR14
  have hR4 := tr_cpo hRc hz15 hq16 hL8
  obtain ⟨σ4, hσ4⟩ : ∃ t9 : spSg, t9 = st_po σ3 (0, (sg_po σ3).2) := ⟨_, rfl⟩
  rw [← hσ4] at hR4
  have hE := hE.kept (fun q9 g9 hb9 => hq16 q9 g9 (fun h9 => hb9 (C.hB q9 (hAq q9 g9 h9))))
  have hsz : H.size ≤ H13.size := Nat.le_trans hsz hz15
  have hB := Nat.le_trans hB0 hsz
  have hR := hR4
  have hW := hR.wc
  show nwV X _ _ 2 H13 (0 + 0) (0 + 0) 28 [(0, .ref x)] []
  refine nw_wide (k' := 0) (n' := 0) (by omega) (by omega) ?_
  refine nw_aload_n C 0 dX1_clear_28 rfl 29 rfl ?_
  refine nw_get C hR.2.1.1 (T := TX1) rfl in_X1 5 (by decide) q226 (Or.inl rfl) rfl dX1_clear_29 32 rfl ?_
  have hRc := hR
  obtain ⟨mo9, ar9, cap9, f9, hL9⟩ := nwLi_m hR.2.2.2.2.2.2.2.1.1.1
  have hr9 : ro (ad 5) = 6 := hR.2.2.2.2.2.2.2.1.2.2.1
  have hai9 := hR.ok0 (show ro (ad 5) ≠ 0 by rw [hr9]; decide)
  have hAq : ∀ q8, q8 < H13.size → (q8 = ad 5 ∨ ro q8 = 2006 ∨ H13.size ≤ q8) → nwAC ro H q8 := by
    intro q8 h8 h9
    rcases h9 with e9 | e9 | e9
    · exact Or.inl (by rw [e9, hr9]; decide +kernel)
    · exact Or.inl (by rw [e9]; decide +kernel)
    · exact absurd h8 (Nat.not_lt.mpr e9)
  refine nw_callV C (mJ3_clear _ C.hfl d (ad 5) (sg_in σ4).1 (fun k => ad (500 + k)) (fun q => ro q = 2006) mo9 ar9 cap9 f9 H13 hB hai9.1 hL9 (fun q9 e9 => (hR.ok0 (show ro q9 ≠ 0 by rw [show ro q9 = 2006 from e9]; decide)).1) (show ¬ ro (ad 5) = 2006 by rw [hr9]; decide)) kJ3_clear q220 (nwLi.is hR.2.2.2.2.2.2.2.1.1.1 C) (As := []) (rest := []) rfl rfl ⟨⟨Nat.le_of_ble_eq_true rfl, Nat.le_of_ble_eq_true rfl⟩, (show 0 + 0 ≤ 0 by omega), (show 0 + 0 ≤ 0 by omega)⟩ (Nat.le_of_ble_eq_true rfl) hAq dX1_clear_32 35 rfl (fun v9 H17 hR18 hz19 hq20 => ?_) nw_noX
  obtain ⟨rfl, mo8, ar8, cap8, f8, hL8⟩ := hR18
  have hR5 := tr_cin hRc hz19 hq20 hL8
  obtain ⟨σ5, hσ5⟩ : ∃ t9 : spSg, t9 = st_in σ4 (0, (sg_in σ4).2) := ⟨_, rfl⟩
  rw [← hσ5] at hR5
  have hE := hE.kept (fun q9 g9 hb9 => hq20 q9 g9 (fun h9 => hb9 (C.hB q9 (hAq q9 g9 h9))))
  have hsz : H.size ≤ H17.size := Nat.le_trans hsz hz19
  have hB := Nat.le_trans hB0 hsz
  have hR := hR5
  have hW := hR.wc
  show nwV X _ _ 2 H17 (0 + 0) (0 + 0) 35 [(0, .ref x)] []
  refine nw_wide (k' := 0) (n' := 0) (by omega) (by omega) ?_
  refine nw_aload_n C 0 dX1_clear_35 rfl 36 rfl ?_
  refine nw_get C hR.2.1.1 (T := TX1) rfl in_X1 6 (by decide) q227 (Or.inl rfl) rfl dX1_clear_36 39 rfl ?_
  have hRc := hR
  obtain ⟨mo9, ar9, cap9, f9, hL9⟩ := nwLi_m hR.2.2.2.2.2.2.2.2.1.1.1
  have hr9 : ro (ad 6) = 7 := hR.2.2.2.2.2.2.2.2.1.2.2.1
  have hai9 := hR.ok0 (show ro (ad 6) ≠ 0 by rw [hr9]; decide)
  have hAq : ∀ q8, q8 < H17.size → (q8 = ad 6 ∨ ro q8 = 2007 ∨ H17.size ≤ q8) → nwAC ro H q8 := by
    intro q8 h8 h9
    rcases h9 with e9 | e9 | e9
    · exact Or.inl (by rw [e9, hr9]; decide +kernel)
    · exact Or.inl (by rw [e9]; decide +kernel)
    · exact absurd h8 (Nat.not_lt.mpr e9)
  refine nw_callV C (mJ3_clear _ C.hfl d (ad 6) (sg_wi σ5).1 (fun k => ad (700 + k)) (fun q => ro q = 2007) mo9 ar9 cap9 f9 H17 hB hai9.1 hL9 (fun q9 e9 => (hR.ok0 (show ro q9 ≠ 0 by rw [show ro q9 = 2007 from e9]; decide)).1) (show ¬ ro (ad 6) = 2007 by rw [hr9]; decide)) kJ3_clear q220 (nwLi.is hR.2.2.2.2.2.2.2.2.1.1.1 C) (As := []) (rest := []) rfl rfl ⟨⟨Nat.le_of_ble_eq_true rfl, Nat.le_of_ble_eq_true rfl⟩, (show 0 + 0 ≤ 0 by omega), (show 0 + 0 ≤ 0 by omega)⟩ (Nat.le_of_ble_eq_true rfl) hAq dX1_clear_39 42 rfl (fun v9 H21 hR22 hz23 hq24 => ?_) nw_noX
  obtain ⟨rfl, mo8, ar8, cap8, f8, hL8⟩ := hR22
  have hR6 := tr_cwi hRc hz23 hq24 hL8
  obtain ⟨σ6, hσ6⟩ : ∃ t9 : spSg, t9 = st_wi σ5 (0, (sg_wi σ5).2) := ⟨_, rfl⟩
  rw [← hσ6] at hR6
  have hE := hE.kept (fun q9 g9 hb9 => hq24 q9 g9 (fun h9 => hb9 (C.hB q9 (hAq q9 g9 h9))))
  have hsz : H.size ≤ H21.size := Nat.le_trans hsz hz23
  have hB := Nat.le_trans hB0 hsz
  have hR := hR6
  have hW := hR.wc
  show nwV X _ _ 2 H21 (0 + 0) (0 + 0) 42 [(0, .ref x)] []
  refine nw_wide (k' := 0) (n' := 0) (by omega) (by omega) ?_
  refine nw_iconst C (nI 0) dX1_clear_42 (by decide) 43 rfl ?_
  refine nw_istore_n C [(1, .int (nI 0)), (0, .ref x)] dX1_clear_43 (by decide) rfl 44 rfl ?_
  have lp25 : ∀ (fu : Nat) (H2 : Heap) (i : Nat) (kf : Nat → Option Nat), (i ≤ 6) → (H.size ≤ H2.size) → (nwWR d ro ad x (st_ke σ6 kf) sm H2) → (∀ k, k < i → kf k = none) → 6 - i < fu → nwV X (nwAC ro H) (nwQE X (fun v H1 => v = none ∧ nwWR d ro ad x (st_clear σ) sm H1) nwNo (nwAC ro H) 0 0) 2 H2 0 0 44 [(0, .ref x), (1, .int (nI i))] [] := by
    intro fu
    induction fu with
    | zero => intro H2 i kf _ _ _ _ hm; exact absurd hm (Nat.not_lt_zero _)
    | succ fu ih_lp25 =>
      intro H2 i kf hi hsz hR hkf hm
      have hB := Nat.le_trans hB0 hsz
      refine nw_iload_n C 1 dX1_clear_44 rfl 45 rfl ?_
      refine nw_bipush C (nI 6) dX1_clear_45 (by decide) 47 rfl ?_
      refine nw_icmpgeN C (by omega) 63 dX1_clear_47 (by decide) 50 rfl (fun h26 => ?_) (fun h26 => ?_)
      · refine nw_aload_n C 0 dX1_clear_63 rfl 64 rfl ?_
        refine nw_iconst C (nI 1) dX1_clear_64 (by decide) 65 rfl ?_
        refine nw_put C hR.2.1.1 (Or.inl (by rw [hrx0]; decide +kernel)) (T := TX1) (ty0 := tyX1) rfl in_X1 tyX1_ok nmX1 9 (by decide) q230 (Or.inl rfl) rfl rfl rfl (Nat.le_of_ble_eq_true rfl) dX1_clear_65 68 rfl (fun H27 ho28 hz29 hq30 => ?_)
        have ho28 : nwO d x 0 [.ref (ad 0), .ref (ad 1), .ref (ad 2), .ref (ad 3), .ref (ad 4), .ref (ad 5), .ref (ad 6), .ref (ad 7), .ref (ad 8), .int (nI 1), .int (nI (ga_t (sg_ga σ6))), .int (nI (sg_ri σ6)), .int (nI (sg_rf σ6)), .long sm] H27 := ho28
        have hR := hR.ke (f := fun _ => none) (fun k hk => hkf k (by omega))
        refine nw_aload_n C 0 dX1_clear_68 rfl 69 rfl ?_
        refine nw_iconst C (nI 0) dX1_clear_69 (by decide) 70 rfl ?_
        refine nw_put C ho28 (Or.inl (by rw [hrx0]; decide +kernel)) (T := TX1) (ty0 := tyX1) rfl in_X1 tyX1_ok nmX1 10 (by decide) q231 (Or.inl rfl) rfl rfl rfl (Nat.le_of_ble_eq_true rfl) dX1_clear_70 73 rfl (fun H31 ho32 hz33 hq34 => ?_)
        have ho32 : nwO d x 0 [.ref (ad 0), .ref (ad 1), .ref (ad 2), .ref (ad 3), .ref (ad 4), .ref (ad 5), .ref (ad 6), .ref (ad 7), .ref (ad 8), .int (nI 1), .int (nI 0), .int (nI (sg_ri σ6)), .int (nI (sg_rf σ6)), .long sm] H31 := ho32
        have hz35 : H31.size = H2.size := hz33.trans hz29
        have hq36 : ∀ q9 : Nat, q9 ≠ x → H31[q9]? = H2[q9]? := fun q9 n9 => (hq34 q9 n9).trans (hq30 q9 n9)
        refine nw_aload_n C 0 dX1_clear_73 rfl 74 rfl ?_
        refine nw_iconst C (nI 0) dX1_clear_74 (by decide) 75 rfl ?_
        refine nw_put C ho32 (Or.inl (by rw [hrx0]; decide +kernel)) (T := TX1) (ty0 := tyX1) rfl in_X1 tyX1_ok nmX1 11 (by decide) q232 (Or.inl rfl) rfl rfl rfl (Nat.le_of_ble_eq_true rfl) dX1_clear_75 78 rfl (fun H37 ho38 hz39 hq40 => ?_)
        have ho38 : nwO d x 0 [.ref (ad 0), .ref (ad 1), .ref (ad 2), .ref (ad 3), .ref (ad 4), .ref (ad 5), .ref (ad 6), .ref (ad 7), .ref (ad 8), .int (nI 1), .int (nI 0), .int (nI 0), .int (nI (sg_rf σ6)), .long sm] H37 := ho38
        have hz41 : H37.size = H2.size := hz39.trans hz35
        have hq42 : ∀ q9 : Nat, q9 ≠ x → H37[q9]? = H2[q9]? := fun q9 n9 => (hq40 q9 n9).trans (hq36 q9 n9)
        have ho9 := ho38
        have hrf9 : sg_rf σ6 = sg_rf σ := by rw [hσ6, hσ5, hσ4, hσ3, hσ2, hσ1]; rfl
        have hR := tr_pX hR (t := st_clear σ) (sm' := sm) hz41 hq42 (by rw [hσ6, hσ5, hσ4, hσ3, hσ2, hσ1]; exact ⟨Or.inl rfl, Or.inr rfl, Or.inr rfl, Or.inr rfl, Or.inr rfl, Or.inr rfl, Or.inr rfl, Or.inr rfl, Or.inr rfl, Or.inr rfl⟩) (by show wcX d ad x none 0 (sg_rf σ) sm H37; rw [← hrf9]; exact ho9)
        exact nw_vret C dX1_clear_78 (Nat.le_refl _) (Nat.le_refl _) ⟨rfl, hR⟩
      · refine nw_aload_n C 0 dX1_clear_50 rfl 51 rfl ?_
        refine nw_get C hR.2.1.1 (T := TX1) rfl in_X1 8 (by decide) q229 (Or.inl rfl) rfl dX1_clear_51 54 rfl ?_
        refine nw_iload_n C 1 dX1_clear_54 rfl 55 rfl ?_
        refine nw_iconst C (oI none) dX1_clear_55 (by decide) 56 rfl ?_
        refine nw_iastN C hR.2.2.2.2.2.2.2.2.2.2.1 (Or.inl (by rw [hr80]; decide +kernel)) (by omega) dX1_clear_56 57 rfl (fun H43 ho44 hz45 hq46 => ?_)
        have hR : nwWR d ro ad x (st_ke σ6 (sp_up kf i none)) sm H43 := tr_pKe (s := st_ke σ6 kf) hR (ke := sp_up kf i none) hz45 hq46 (nwI.congr ho44 (fun j _ => nw_upO (o := none) rfl))
        have hsz : H.size ≤ H43.size := by rw [hz45]; exact hsz
        refine nw_iincN C 1 (c0 := 1) [(1, .int (nI (i + 1))), (0, .ref x)] dX1_clear_57 rfl (by decide) rfl 60 rfl ?_
        refine nw_goto C 44 dX1_clear_60 (by decide) ?_
        exact (nw_sub [1, 0] rfl (ih_lp25 H43 (i + 1) (sp_up kf i none) (by omega) hsz hR (sp_up_lt (Q := fun o => o = none) hkf rfl) (by omega)))
  exact (nw_sub [1, 0] rfl (lp25 _ H21 0 (sg_ke σ6) (Nat.zero_le _) hsz hR (fun k hk => absurd hk (Nat.not_lt_zero k)) (Nat.lt_succ_self _)))
