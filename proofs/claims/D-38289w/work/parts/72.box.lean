theorem kJ16_newLength : nwPS yJ16_newLength cJ16_newLength 4 (some .int) 3 := ⟨⟨q905, q111, q906⟩, by decide +kernel, by decide +kernel, by decide +kernel⟩
theorem kJ17_copyOf : nwPS yJ17_copyOf cJ17_copyOf 2 (some (.array (.object "java/lang/Object"))) 2 := ⟨⟨q913, q112, q914⟩, by decide +kernel, by decide +kernel, by decide +kernel⟩
set_option maxHeartbeats 4000000 in
theorem mJ3_growC2 (l : Launch) (hf : l.flags = flags0) (d : nwD) (g : Nat) (mo : Int32) (ar : Nat) (f : Nat → Option Nat) (H : Heap) (hB : nd_B d ≤ H.size) (hgB : nd_B d ≤ g) (hg : nwO d g 13 [.int mo, .ref ar, .int (nI 10)] H) (hLr : nwR d ar 3 10 f H) (hel : ∀ j, j < 10 → ∃ v, v < 128 ∧ f j = some (nd_bx d v)) (hga : g ≠ ar) : nwMt l d yJ3_grow_2 cJ3_grow_2 4 (some (.array (.object "java/lang/Object"))) 4 104 1 15 [.ref g, .int (nI 11)] H (fun v H1 => ∃ x : Nat, v = some (.ref x) ∧ H.size ≤ x ∧ nwO d g 13 [.int mo, .ref x, .int (nI 10)] H1 ∧ nwR d x 3 15 (va_cpy f (fun _ => none) 0 0 10) H1) nwNo (fun q => q = g ∨ H.size ≤ q) := by
  refine nw_start "java/util/ArrayList" "grow" hf (by decide +kernel) rfl rfl (fun _ h => Or.inr h) (fun q h => h.elim (fun e => by rw [e]; exact hgB) (fun h => Nat.le_trans hB h)) (Nat.le_of_ble_eq_true rfl) ?_
  intro X C
  have hE := C.E0
  have hB0 := hB
  have hsz : H.size ≤ H.size := Nat.le_refl _
  show nwV X _ _ 4 H 0 0 0 [(0, .ref g), (1, .int (nI 11))] []
  refine nw_aload_n C 0 dJ3_grow_2_0 rfl 1 rfl ?_
  refine nw_get C hg (T := TJ3) rfl in_J3 1 (by decide) q154 (Or.inl rfl) rfl dJ3_grow_2_1 4 rfl ?_
  refine nw_alenR C hLr (by decide) dJ3_grow_2_4 5 rfl ?_
  refine nw_istore_n C [(2, .int (nI 10)), (0, .ref g), (1, .int (nI 11))] dJ3_grow_2_5 (by decide) rfl 6 rfl ?_
  refine nw_iload_n C 0 dJ3_grow_2_6 rfl 7 rfl ?_
  refine nw_ifgt C 20 dJ3_grow_2_7 (by decide) 10 rfl (fun _ => ?_) (fun h1 => absurd (by decide) h1)
  refine nw_iload_n C 0 dJ3_grow_2_20 rfl 21 rfl ?_
  refine nw_iload_n C 2 dJ3_grow_2_21 rfl 22 rfl ?_
  refine nw_iload_n C 0 dJ3_grow_2_22 rfl 23 rfl ?_
  refine nw_isub C (nI 1) dJ3_grow_2_23 (by decide) 24 rfl ?_
  refine nw_iload_n C 0 dJ3_grow_2_24 rfl 25 rfl ?_
  refine nw_iconst C (nI 1) dJ3_grow_2_25 (by decide) 26 rfl ?_
  refine nw_ishr C (nI 5) dJ3_grow_2_26 (by decide) 27 rfl ?_
  refine nw_callS C (mJ16_newLength _ C.hfl d 10 1 5 H hB (by omega)) kJ16_newLength q904 (As := [.int (nI 10), .int (nI 1), .int (nI 5)]) (rest := []) rfl rfl ⟨⟨Nat.le_of_ble_eq_true rfl, Nat.le_of_ble_eq_true rfl⟩, Nat.le_of_ble_eq_true rfl, Nat.le_of_ble_eq_true rfl⟩ (Nat.le_of_ble_eq_true rfl) (fun _ h8 h9 => absurd h9 (Nat.not_le.mpr h8)) dJ3_grow_2_27 30 rfl (nw_rdK ?_) nw_noX
  show nwV X _ _ 4 H 0 0 30 [(2, .int (nI 10)), (0, .ref g), (1, .int (nI 11))] [.int (nI 15)]
  refine nw_istore_n C [(3, .int (nI 15)), (2, .int (nI 10)), (0, .ref g), (1, .int (nI 11))] dJ3_grow_2_30 (by decide) rfl 31 rfl ?_
  refine nw_aload_n C 2 dJ3_grow_2_31 rfl 32 rfl ?_
  refine nw_aload_n C 2 dJ3_grow_2_32 rfl 33 rfl ?_
  refine nw_get C hg (T := TJ3) rfl in_J3 1 (by decide) q154 (Or.inl rfl) rfl dJ3_grow_2_33 36 rfl ?_
  refine nw_iload_n C 0 dJ3_grow_2_36 rfl 37 rfl ?_
  refine nw_callS C (mJ17_copyOf2 _ C.hfl d ar 10 15 f H hB hLr (by omega) hel) kJ17_copyOf q912 (As := [.ref ar, .int (nI 15)]) (rest := [.ref g]) rfl rfl ⟨⟨Nat.le_of_ble_eq_true rfl, Nat.le_of_ble_eq_true rfl⟩, (show 0 + 1 ≤ 1 by omega), (show 0 + 15 ≤ 15 by omega)⟩ (Nat.le_of_ble_eq_true rfl) (fun _ h8 h9 => absurd h9 (Nat.not_le.mpr h8)) dJ3_grow_2_37 40 rfl (fun v9 H2 hR3 hz4 hq5 => ?_) nw_noX
  obtain ⟨⟨ar6, rfl, hn7, hi8⟩, hx9⟩ := hR3
  have hn10 : H.size ≤ ar6 := Nat.le_trans hsz hn7
  have hne11 : g ≠ ar6 := Nat.ne_of_lt (Nat.lt_of_lt_of_le hg.lt hn7)
  have ho12 := hg.ext hx9.2
  have hne13 : ar ≠ ar6 := Nat.ne_of_lt (Nat.lt_of_lt_of_le hLr.lt hn7)
  have ho14 := hLr.ext hx9.2
  have hsz := Nat.le_trans hsz hz4
  have hB := Nat.le_trans hB0 hsz
  show nwV X _ _ 4 H2 (0 + 1) (0 + 15) 40 [(3, .int (nI 15)), (2, .int (nI 10)), (0, .ref g), (1, .int (nI 11))] [.ref ar6, .ref g]
  refine nw_wide (k' := 1) (n' := 15) (by omega) (by omega) ?_
  refine nw_dup_x1 C dJ3_grow_2_40 rfl rfl 41 rfl ?_
  refine nw_put C ho12 (Or.inl rfl) (T := TJ3) (ty0 := tyJ3) rfl in_J3 tyJ3_ok nmJ3 1 (by decide) q154 (Or.inl rfl) rfl rfl rfl (Nat.le_of_ble_eq_true rfl) dJ3_grow_2_41 44 rfl (fun H15 ho16 hz17 hq18 => ?_)
  have ho16 : nwO d g 13 [.int mo, .ref ar6, .int (nI 10)] H15 := ho16
  have hsz := Nat.le_trans hsz (Nat.le_of_eq hz17.symm)
  have hB := Nat.le_trans hB0 hsz
  have ho19 := ho14.kept (hq18 _ (Ne.symm hga))
  have ho20 := hi8.kept (hq18 _ (Ne.symm hne11))
  exact nw_aret C (Or.inr ⟨_, rfl⟩) dJ3_grow_2_44 (by omega) (by omega) ⟨ar6, rfl, hn10, ho16, ho20⟩
set_option maxHeartbeats 4000000 in
theorem mJ3_growC (l : Launch) (hf : l.flags = flags0) (d : nwD) (g : Nat) (mo : Int32) (ar : Nat) (f : Nat → Option Nat) (H : Heap) (hB : nd_B d ≤ H.size) (hgB : nd_B d ≤ g) (hg : nwO d g 13 [.int mo, .ref ar, .int (nI 10)] H) (hLr : nwR d ar 3 10 f H) (hel : ∀ j, j < 10 → ∃ v, v < 128 ∧ f j = some (nd_bx d v)) (hga : g ≠ ar) : nwMt l d yJ3_grow cJ3_grow 1 (some (.array (.object "java/lang/Object"))) 5 127 1 15 [.ref g] H (fun v H1 => ∃ x : Nat, v = some (.ref x) ∧ H.size ≤ x ∧ nwO d g 13 [.int mo, .ref x, .int (nI 10)] H1 ∧ nwR d x 3 15 (va_cpy f (fun _ => none) 0 0 10) H1) nwNo (fun q => q = g ∨ H.size ≤ q) := by
  refine nw_start "java/util/ArrayList" "grow" hf (by decide +kernel) rfl rfl (fun _ h => Or.inr h) (fun q h => h.elim (fun e => by rw [e]; exact hgB) (fun h => Nat.le_trans hB h)) (Nat.le_of_ble_eq_true rfl) ?_
  intro X C
  have hE := C.E0
  have hB0 := hB
  have hsz : H.size ≤ H.size := Nat.le_refl _
  show nwV X _ _ 1 H 0 0 0 [(0, .ref g)] []
  refine nw_aload_n C 0 dJ3_grow_0 rfl 1 rfl ?_
  refine nw_aload_n C 0 dJ3_grow_1 rfl 2 rfl ?_
  refine nw_get C hg (T := TJ3) rfl in_J3 2 (by decide) q157 (Or.inl rfl) rfl dJ3_grow_2 5 rfl ?_
  refine nw_iconst C (nI 1) dJ3_grow_5 (by decide) 6 rfl ?_
  refine nw_iaddN C dJ3_grow_6 7 rfl ?_
  refine nw_callV C (mJ3_growC2 _ C.hfl d g mo ar f H hB hgB hg hLr hel hga) kJ3_grow_2 q900 (hg.is C (ci := 13) rfl) (As := [.int (nI 11)]) (rest := []) rfl rfl ⟨⟨Nat.le_of_ble_eq_true rfl, Nat.le_of_ble_eq_true rfl⟩, (show 0 + 1 ≤ 1 by omega), (show 0 + 15 ≤ 15 by omega)⟩ (Nat.le_of_ble_eq_true rfl) (fun q8 h8 h9 => h9.elim (fun e9 => by rw [e9]; exact (Or.inl rfl)) (fun e9 => absurd h8 (Nat.not_lt.mpr e9))) dJ3_grow_7 10 rfl (fun v9 H1 hR2 hz3 hq4 => ?_) nw_noX
  obtain ⟨ar5, rfl, hn6, ho7, hr8⟩ := hR2
  have hn9 : H.size ≤ ar5 := Nat.le_trans hsz hn6
  have hne10 : g ≠ ar5 := Nat.ne_of_lt (Nat.lt_of_lt_of_le hg.lt hn6)
  have hne11 : ar ≠ ar5 := Nat.ne_of_lt (Nat.lt_of_lt_of_le hLr.lt hn6)
  have ho12 := hLr.kept (hq4 _ hLr.lt (fun e9 => e9.elim (Ne.symm hga) (Nat.not_le.mpr hLr.lt)))
  have hsz := Nat.le_trans hsz hz3
  have hB := Nat.le_trans hB0 hsz
  show nwV X _ _ 1 H1 (0 + 1) (0 + 15) 10 [(0, .ref g)] [.ref ar5]
  refine nw_wide (k' := 1) (n' := 15) (by omega) (by omega) ?_
  exact nw_aret C (Or.inr ⟨_, rfl⟩) dJ3_grow_10 (by omega) (by omega) ⟨ar5, rfl, hn9, ho7, hr8⟩
set_option maxHeartbeats 4000000 in
theorem mJ3_add3G (l : Launch) (hf : l.flags = flags0) (d : nwD) (g : Nat) (e : Nat) (mo : Int32) (ar : Nat) (f : Nat → Option Nat) (H : Heap) (hB : nd_B d ≤ H.size) (hgB : nd_B d ≤ g) (hg : nwO d g 13 [.int mo, .ref ar, .int (nI 10)] H) (hLr : nwR d ar 3 10 f H) (hel : ∀ j, j < 10 → ∃ v, v < 128 ∧ f j = some (nd_bx d v)) (hga : g ≠ ar) (hEl : nwEl d H e "java/lang/Integer") (hea : e ≠ g) (hel9 : e < H.size) : nwMt l d yJ3_add_2 cJ3_add_2 4 none 6 147 1 15 [.ref g, .ref e, .ref ar, .int (nI 10)] H (fun v H1 => v = none ∧ ∃ x : Nat, H.size ≤ x ∧ nwO d g 13 [.int mo, .ref x, .int (nI 11)] H1 ∧ nwR d x 3 15 (va_up (va_cpy f (fun _ => none) 0 0 10) 10 (some e)) H1) nwNo (fun q => q = g ∨ H.size ≤ q) := by
  refine nw_start "java/util/ArrayList" "add" hf (by decide +kernel) rfl rfl (fun _ h => Or.inr h) (fun q h => h.elim (fun e => by rw [e]; exact hgB) (fun h => Nat.le_trans hB h)) (Nat.le_of_ble_eq_true rfl) ?_
  intro X C
  have hE := C.E0
  have hB0 := hB
  have hsz : H.size ≤ H.size := Nat.le_refl _
  show nwV X _ _ 4 H 0 0 0 [(0, .ref g), (1, .ref e), (2, .ref ar), (3, .int (nI 10))] []
  refine nw_iload_n C 3 dJ3_add_2_0 rfl 1 rfl ?_
  refine nw_aload_n C 2 dJ3_add_2_1 rfl 2 rfl ?_
  refine nw_alenR C hLr (by decide) dJ3_add_2_2 3 rfl ?_
  refine nw_icmpne C 11 dJ3_add_2_3 (by decide) 6 rfl (fun h1 => absurd (by decide) h1) (fun _ => ?_)
  refine nw_aload_n C 0 dJ3_add_2_6 rfl 7 rfl ?_
  refine nw_callV C (mJ3_growC _ C.hfl d g mo ar f H hB hgB hg hLr hel hga) kJ3_grow q896 (hg.is C (ci := 13) rfl) (As := []) (rest := []) rfl rfl ⟨⟨Nat.le_of_ble_eq_true rfl, Nat.le_of_ble_eq_true rfl⟩, (show 0 + 1 ≤ 1 by omega), (show 0 + 15 ≤ 15 by omega)⟩ (Nat.le_of_ble_eq_true rfl) (fun q8 h8 h9 => h9.elim (fun e9 => by rw [e9]; exact (Or.inl rfl)) (fun e9 => absurd h8 (Nat.not_lt.mpr e9))) dJ3_add_2_7 10 rfl (fun v9 H2 hR3 hz4 hq5 => ?_) nw_noX
  obtain ⟨ar6, rfl, hn7, ho8, hr9⟩ := hR3
  have hn10 : H.size ≤ ar6 := Nat.le_trans hsz hn7
  have hne11 : g ≠ ar6 := Nat.ne_of_lt (Nat.lt_of_lt_of_le hg.lt hn7)
  have hne12 : ar ≠ ar6 := Nat.ne_of_lt (Nat.lt_of_lt_of_le hLr.lt hn7)
  have hEl := hEl.kept (hq5 _ (show e < _ from hel9) (fun e9 => e9.elim hea (Nat.not_le.mpr hel9)))
  have ho13 := hLr.kept (hq5 _ hLr.lt (fun e9 => e9.elim (Ne.symm hga) (Nat.not_le.mpr hLr.lt)))
  have hE := hE.kept (fun q9 g9 hb9 => hq5 q9 g9 (fun e9 => hb9 (e9.elim (fun e9 => by rw [e9]; exact hgB) (fun e9 => Nat.le_trans hB e9))))
  have hsz := Nat.le_trans hsz hz4
  have hB := Nat.le_trans hB0 hsz
  show nwV X _ _ 4 H2 (0 + 1) (0 + 15) 10 [(0, .ref g), (1, .ref e), (2, .ref ar), (3, .int (nI 10))] [.ref ar6]
  refine nw_wide (k' := 1) (n' := 15) (by omega) (by omega) ?_
  refine nw_astore_n C [(2, .ref ar6), (0, .ref g), (1, .ref e), (3, .int (nI 10))] dJ3_add_2_10 (by decide) rfl 11 rfl ?_
  refine nw_aload_n C 0 dJ3_add_2_11 rfl 12 rfl ?_
  refine nw_iload_n C 3 dJ3_add_2_12 rfl 13 rfl ?_
  refine nw_aload_n C 2 dJ3_add_2_13 rfl 14 rfl ?_
  refine nw_aastRN C hr9 (Or.inr hn10) (by omega) (hEl.is C hE) q2140 dJ3_add_2_14 15 rfl (fun H14 ho15 hz16 hq17 => ?_)
  have hsz := Nat.le_trans hsz (Nat.le_of_eq hz16.symm)
  have hE := hE.kept (fun q9 _ hb9 => hq17 q9 (fun e9 => hb9 (by rw [e9]; exact (Nat.le_trans hB0 hn10))))
  have hB := Nat.le_trans hB0 hsz
  have ho18 := ho13.kept (hq17 _ hne12)
  have ho19 := ho8.kept (hq17 _ hne11)
  refine nw_aload_n C 1 dJ3_add_2_15 rfl 16 rfl ?_
  refine nw_iload_n C 3 dJ3_add_2_16 rfl 17 rfl ?_
  refine nw_iconst C (nI 1) dJ3_add_2_17 (by decide) 18 rfl ?_
  refine nw_iaddN C dJ3_add_2_18 19 rfl ?_
  refine nw_put C ho19 (Or.inl rfl) (T := TJ3) (ty0 := tyJ3) rfl in_J3 tyJ3_ok nmJ3 2 (by decide) q157 (Or.inl rfl) rfl rfl rfl (Nat.le_of_ble_eq_true rfl) dJ3_add_2_19 22 rfl (fun H20 ho21 hz22 hq23 => ?_)
  have ho21 : nwO d g 13 [.int mo, .ref ar6, .int (nI 11)] H20 := ho21
  have hsz := Nat.le_trans hsz (Nat.le_of_eq hz22.symm)
  have hE := hE.kept (fun q9 _ hb9 => hq23 q9 (fun e9 => hb9 (by rw [e9]; exact hgB)))
  have hB := Nat.le_trans hB0 hsz
  have ho24 := ho18.kept (hq23 _ (Ne.symm hga))
  have ho25 := ho15.kept (hq23 _ (Ne.symm hne11))
  exact nw_vret C dJ3_add_2_22 (by omega) (by omega) ⟨rfl, ar6, hn10, ho21, ho25⟩
set_option maxHeartbeats 4000000 in
theorem mJ3_addB (l : Launch) (hf : l.flags = flags0) (d : nwD) (g n : Nat) (vs : Nat → Nat) (P : Nat → Prop) (mo : Int32) (ar cap : Nat) (f : Nat → Option Nat) (e : Nat) (H : Heap) (hB : nd_B d ≤ H.size) (hgB : nd_B d ≤ g) (hL : nwLm d g n (fun k => nd_bx d (vs k)) P mo ar cap f H) (hPB : ∀ q, P q → nd_B d ≤ q) (hPg : ¬ P g) (hEl : nwEl d H e "java/lang/Integer") (hea : e ≠ g) (hel9 : e < H.size) (hn10 : n < 15) (hcap : cap = 0 ∨ cap = 10 ∨ cap = 15) (hvs : ∀ k, k < n → vs k < 128) : nwMt l d yJ3_add cJ3_add 2 (some .boolean) 7 170 1 15 [.ref g, .ref e] H (fun v H1 => v = some (.int (b2i true)) ∧ ∃ (mo1 : Int32) (ar1 cap1 : Nat) (f1 : Nat → Option Nat), (cap1 = 0 ∨ cap1 = 10 ∨ cap1 = 15) ∧ nwLm d g (n + 1) (fun k => if k = n then e else nd_bx d (vs k)) (fun q => P q ∨ H.size ≤ q) mo1 ar1 cap1 f1 H1) nwNo (fun q => q = g ∨ P q ∨ H.size ≤ q) := by
  refine nw_start "java/util/ArrayList" "add" hf (by decide +kernel) rfl rfl (fun _ h => Or.inr (Or.inr h)) (fun q h => h.elim (fun e => by rw [e]; exact hgB) (fun h => h.elim (hPB q) (fun h => Nat.le_trans hB h))) (Nat.le_of_ble_eq_true rfl) ?_
  intro X C
  have hE := C.E0
  have hB0 := hB
  have hsz : H.size ≤ H.size := Nat.le_refl _
  obtain ⟨⟨hLo, hn1, hn2, hLa⟩, hP, hf⟩ := id hL
  show nwV X _ _ 2 H 0 0 0 [(0, .ref g), (1, .ref e)] []
  rcases (show (cap = 0 ∧ ar = nd_st d 5) ∨ (n < cap ∧ 10 ≤ cap ∧ nwR d ar 3 cap f H) ∨ (n = 10 ∧ cap = 10 ∧ nwR d ar 3 cap f H) by rcases hLa with h | ⟨h1, h2⟩; exact Or.inl h; rcases Nat.lt_or_ge n cap with h | h; exact Or.inr (Or.inl ⟨h, h1, h2⟩); exact Or.inr (Or.inr ⟨by omega, by omega, h2⟩)) with ⟨hc0, har⟩ | ⟨hnc, hc1, hLr⟩ | ⟨hn0, hc0, hLr⟩
  · have hn0 : n = 0 := by omega
    subst hn0
    subst har
    refine nw_aload_n C 0 dJ3_add_0 rfl 1 rfl ?_
    refine nw_dup C dJ3_add_1 rfl 2 rfl ?_
    refine nw_get C hLo (T := TJ3) rfl in_J3 0 (by decide) q161 (Or.inr q160) rfl dJ3_add_2 5 rfl ?_
    refine nw_iconst C (nI 1) dJ3_add_5 (by decide) 6 rfl ?_
    refine nw_iadd C _ dJ3_add_6 rfl 7 rfl ?_
    refine nw_put C hLo (Or.inl rfl) (T := TJ3) (ty0 := tyJ3) rfl in_J3 tyJ3_ok nmJ3 0 (by decide) q161 (Or.inr q160) rfl rfl rfl (Nat.le_of_ble_eq_true rfl) dJ3_add_7 10 rfl (fun H1 ho2 hz3 hq4 => ?_)
    have ho2 : nwO d g 13 [.int (mo + (nI 1)), .ref (nd_st d 5), .int (nI 0)] H1 := ho2
    have hsz := Nat.le_trans hsz (Nat.le_of_eq hz3.symm)
    have hE := hE.kept (fun q9 _ hb9 => hq4 q9 (fun e9 => hb9 (by rw [e9]; exact hgB)))
    have hB := Nat.le_trans hB0 hsz
    have hEl := hEl.kept (hq4 _ hea)
    have hel9 := Nat.lt_of_lt_of_le hel9 hsz
    refine nw_aload_n C 0 dJ3_add_10 rfl 11 rfl ?_
    refine nw_aload_n C 1 dJ3_add_11 rfl 12 rfl ?_
    refine nw_aload_n C 0 dJ3_add_12 rfl 13 rfl ?_
    refine nw_get C ho2 (T := TJ3) rfl in_J3 1 (by decide) q154 (Or.inl rfl) rfl dJ3_add_13 16 rfl ?_
    refine nw_aload_n C 0 dJ3_add_16 rfl 17 rfl ?_
    refine nw_get C ho2 (T := TJ3) rfl in_J3 2 (by decide) q157 (Or.inl rfl) rfl dJ3_add_17 20 rfl ?_
    refine nw_callV C (mJ3_add3E _ C.hfl d g e "java/lang/Integer" (mo + (nI 1)) H1 hB hgB ho2 hEl q2140 hea hel9) kJ3_add_2 q892 (ho2.is C (ci := 13) rfl) (As := [.ref e, .ref (nd_st d 5), .int (nI 0)]) (rest := []) rfl rfl ⟨⟨Nat.le_of_ble_eq_true rfl, Nat.le_of_ble_eq_true rfl⟩, (show 0 + 1 ≤ 1 by omega), (show 0 + 10 ≤ 15 by omega)⟩ (Nat.le_of_ble_eq_true rfl) (fun q8 h8 h9 => h9.elim Or.inl (fun e9 => absurd h8 (Nat.not_lt.mpr e9))) dJ3_add_20 23 rfl (fun v9 H5 hR6 hz7 hq8 => ?_) nw_noX
    obtain ⟨rfl, x9, hn9, ho9, hr9⟩ := hR6
    have hnx : H.size ≤ x9 := Nat.le_trans hsz hn9
    show nwV X _ _ 2 H5 (0 + 1) (0 + 10) 23 [(0, .ref g), (1, .ref e)] []
    refine nw_wide (k' := 1) (n' := 10) (by omega) (by omega) ?_
    refine nw_iconst C (nI 1) dJ3_add_23 (by decide) 24 rfl ?_
    exact nw_nret C dJ3_add_24 (b2i_narrow true) (by omega) (by omega) ⟨rfl, mo + nI 1, x9, 10, _, Or.inr (Or.inl rfl), ⟨⟨ho9, by omega, by decide, Or.inr ⟨Nat.le_refl _, hr9⟩⟩, (fun _ => Or.inr hnx), nw_upE (fun k hk => absurd hk (Nat.not_lt_zero k))⟩⟩
  · have hPar := hP (by omega)
    have harB := hPB ar hPar
    have hga : g ≠ ar := fun e9 => hPg (by rw [e9]; exact hPar)
    refine nw_aload_n C 0 dJ3_add_0 rfl 1 rfl ?_
    refine nw_dup C dJ3_add_1 rfl 2 rfl ?_
    refine nw_get C hLo (T := TJ3) rfl in_J3 0 (by decide) q161 (Or.inr q160) rfl dJ3_add_2 5 rfl ?_
    refine nw_iconst C (nI 1) dJ3_add_5 (by decide) 6 rfl ?_
    refine nw_iadd C _ dJ3_add_6 rfl 7 rfl ?_
    refine nw_put C hLo (Or.inl rfl) (T := TJ3) (ty0 := tyJ3) rfl in_J3 tyJ3_ok nmJ3 0 (by decide) q161 (Or.inr q160) rfl rfl rfl (Nat.le_of_ble_eq_true rfl) dJ3_add_7 10 rfl (fun H9 ho10 hz11 hq12 => ?_)
    have ho10 : nwO d g 13 [.int (mo + (nI 1)), .ref ar, .int (nI n)] H9 := ho10
    have hsz := Nat.le_trans hsz (Nat.le_of_eq hz11.symm)
    have hE := hE.kept (fun q9 _ hb9 => hq12 q9 (fun e9 => hb9 (by rw [e9]; exact hgB)))
    have hB := Nat.le_trans hB0 hsz
    have ho13 := hLr.kept (hq12 _ (Ne.symm hga))
    have hEl := hEl.kept (hq12 _ hea)
    have hel9 := Nat.lt_of_lt_of_le hel9 hsz
    refine nw_aload_n C 0 dJ3_add_10 rfl 11 rfl ?_
    refine nw_aload_n C 1 dJ3_add_11 rfl 12 rfl ?_
    refine nw_aload_n C 0 dJ3_add_12 rfl 13 rfl ?_
    refine nw_get C ho10 (T := TJ3) rfl in_J3 1 (by decide) q154 (Or.inl rfl) rfl dJ3_add_13 16 rfl ?_
    refine nw_aload_n C 0 dJ3_add_16 rfl 17 rfl ?_
    refine nw_get C ho10 (T := TJ3) rfl in_J3 2 (by decide) q157 (Or.inl rfl) rfl dJ3_add_17 20 rfl ?_
    refine nw_callV C (mJ3_add3F _ C.hfl d g e "java/lang/Integer" (mo + (nI 1)) n ar cap f H9 hB hgB harB ho10 hEl q2140 hea ho13 (by omega) hga) kJ3_add_2 q892 (ho10.is C (ci := 13) rfl) (As := [.ref e, .ref ar, .int (nI n)]) (rest := []) rfl rfl ⟨⟨Nat.le_of_ble_eq_true rfl, Nat.le_of_ble_eq_true rfl⟩, (show 0 + 0 ≤ 1 by omega), (show 0 + 0 ≤ 15 by omega)⟩ (Nat.le_of_ble_eq_true rfl) (fun q8 h8 h9 => h9.elim Or.inl (fun e9 => e9.elim (fun e9 => Or.inr (Or.inl (by rw [e9]; exact hPar))) (fun e9 => absurd h8 (Nat.not_lt.mpr e9)))) dJ3_add_20 23 rfl (fun v9 H14 hR15 hz16 hq17 => ?_) nw_noX
    obtain ⟨rfl, ho9, hr9⟩ := hR15
    show nwV X _ _ 2 H14 (0 + 0) (0 + 0) 23 [(0, .ref g), (1, .ref e)] []
    refine nw_wide (k' := 0) (n' := 0) (by omega) (by omega) ?_
    refine nw_iconst C (nI 1) dJ3_add_23 (by decide) 24 rfl ?_
    exact nw_nret C dJ3_add_24 (b2i_narrow true) (by omega) (by omega) ⟨rfl, mo + nI 1, ar, cap, _, hcap, ⟨⟨ho9, by omega, hn2, Or.inr ⟨hc1, hr9⟩⟩, (fun _ => Or.inl hPar), nw_upE hf⟩⟩
  · subst hn0
    subst hc0
    have hPar := hP (by omega)
    have harB := hPB ar hPar
    have hga : g ≠ ar := fun e9 => hPg (by rw [e9]; exact hPar)
    have hel : ∀ j, j < 10 → ∃ v, v < 128 ∧ f j = some (nd_bx d v) := fun j hj => ⟨vs j, hvs j hj, hf j hj⟩
    refine nw_aload_n C 0 dJ3_add_0 rfl 1 rfl ?_
    refine nw_dup C dJ3_add_1 rfl 2 rfl ?_
    refine nw_get C hLo (T := TJ3) rfl in_J3 0 (by decide) q161 (Or.inr q160) rfl dJ3_add_2 5 rfl ?_
    refine nw_iconst C (nI 1) dJ3_add_5 (by decide) 6 rfl ?_
    refine nw_iadd C _ dJ3_add_6 rfl 7 rfl ?_
    refine nw_put C hLo (Or.inl rfl) (T := TJ3) (ty0 := tyJ3) rfl in_J3 tyJ3_ok nmJ3 0 (by decide) q161 (Or.inr q160) rfl rfl rfl (Nat.le_of_ble_eq_true rfl) dJ3_add_7 10 rfl (fun H18 ho19 hz20 hq21 => ?_)
    have ho19 : nwO d g 13 [.int (mo + (nI 1)), .ref ar, .int (nI 10)] H18 := ho19
    have hsz := Nat.le_trans hsz (Nat.le_of_eq hz20.symm)
    have hE := hE.kept (fun q9 _ hb9 => hq21 q9 (fun e9 => hb9 (by rw [e9]; exact hgB)))
    have hB := Nat.le_trans hB0 hsz
    have ho22 := hLr.kept (hq21 _ (Ne.symm hga))
    have hEl := hEl.kept (hq21 _ hea)
    have hel9 := Nat.lt_of_lt_of_le hel9 hsz
    refine nw_aload_n C 0 dJ3_add_10 rfl 11 rfl ?_
    refine nw_aload_n C 1 dJ3_add_11 rfl 12 rfl ?_
    refine nw_aload_n C 0 dJ3_add_12 rfl 13 rfl ?_
    refine nw_get C ho19 (T := TJ3) rfl in_J3 1 (by decide) q154 (Or.inl rfl) rfl dJ3_add_13 16 rfl ?_
    refine nw_aload_n C 0 dJ3_add_16 rfl 17 rfl ?_
    refine nw_get C ho19 (T := TJ3) rfl in_J3 2 (by decide) q157 (Or.inl rfl) rfl dJ3_add_17 20 rfl ?_
    refine nw_callV C (mJ3_add3G _ C.hfl d g e (mo + (nI 1)) ar f H18 hB hgB ho19 ho22 hel hga hEl hea hel9) kJ3_add_2 q892 (ho19.is C (ci := 13) rfl) (As := [.ref e, .ref ar, .int (nI 10)]) (rest := []) rfl rfl ⟨⟨Nat.le_of_ble_eq_true rfl, Nat.le_of_ble_eq_true rfl⟩, (show 0 + 1 ≤ 1 by omega), (show 0 + 15 ≤ 15 by omega)⟩ (Nat.le_of_ble_eq_true rfl) (fun q8 h8 h9 => h9.elim Or.inl (fun e9 => absurd h8 (Nat.not_lt.mpr e9))) dJ3_add_20 23 rfl (fun v9 H23 hR24 hz25 hq26 => ?_) nw_noX
    obtain ⟨rfl, x9, hn9, ho9, hr9⟩ := hR24
    have hnx : H.size ≤ x9 := Nat.le_trans hsz hn9
    show nwV X _ _ 2 H23 (0 + 1) (0 + 15) 23 [(0, .ref g), (1, .ref e)] []
    refine nw_wide (k' := 1) (n' := 15) (by omega) (by omega) ?_
    refine nw_iconst C (nI 1) dJ3_add_23 (by decide) 24 rfl ?_
    exact nw_nret C dJ3_add_24 (b2i_narrow true) (by omega) (by omega) ⟨rfl, mo + nI 1, x9, 15, _, Or.inr (Or.inr rfl), ⟨⟨ho9, by omega, by decide, Or.inr ⟨by decide, hr9⟩⟩, (fun _ => Or.inr hnx), nw_upE (fun k hk => by unfold va_cpy; rw [if_pos (by omega)]; simpa using hf k hk)⟩⟩
