/-! ===== makings ===== -/


theorem kJ4_requireNonNull : nwPS yJ4_requireNonNull cJ4_requireNonNull 1 (some (.object "java/lang/Object")) 1 := ⟨⟨q755, q94, q756⟩, by decide +kernel, by decide +kernel, by decide +kernel⟩
theorem kJ0_init : nwPI yJ0_init cJ0_init 2 1 := ⟨⟨q87, q758, q759⟩, rfl, by decide +kernel, by decide +kernel, by decide +kernel⟩
set_option maxHeartbeats 4000000 in
theorem mJ0_init (l : Launch) (hf : l.flags = flags0) (d : nwD) (g : Nat) (vv : Nat) (H : Heap) (hB : nd_B d ≤ H.size) (hgB : nd_B d ≤ g) (hg : nwO d g 15 [.null] H)  : nwMt l d yJ0_init cJ0_init 2 none 1 20 0 0 [.ref g, .ref vv] H (fun v H1 => v = none ∧ nwO d g 15 [.ref vv] H1) nwNo (fun q => q = g ∨ H.size ≤ q) := by
  refine nw_start "java/util/Optional" "<init>" hf (by decide +kernel) rfl rfl (fun _ h => Or.inr h) (fun q h => h.elim (fun e => by rw [e]; exact hgB) (fun h => Nat.le_trans hB h)) (Nat.le_of_ble_eq_true rfl) ?_
  intro X C
  have hE := C.E0
  have hB0 := hB
  have hsz : H.size ≤ H.size := Nat.le_refl _
  show nwV X _ _ 2 H 0 0 0 [(0, .ref g), (1, .ref vv)] []
  refine nw_aload_n C 0 dJ0_init_0 rfl 1 rfl ?_
  refine nw_objInit C q760 q133 q134 dJ0_init_1 ⟨Nat.le_of_ble_eq_true rfl, Nat.le_of_ble_eq_true rfl⟩ (Nat.le_of_ble_eq_true rfl) 4 rfl ?_
  refine nw_aload_n C 0 dJ0_init_4 rfl 5 rfl ?_
  refine nw_aload_n C 1 dJ0_init_5 rfl 6 rfl ?_
  refine nw_putF C hg (Or.inl rfl) (T := TJ0) (ty0 := tyJ0) rfl in_J0 tyJ0_ok nmJ0 0 (by decide) q761 rfl rfl rfl rfl (Nat.le_of_ble_eq_true rfl) dJ0_init_6 9 rfl (fun H1 ho2 hz3 hq4 => ?_)
  have ho2 : nwO d g 15 [.ref vv] H1 := ho2
  have hsz := Nat.le_trans hsz (Nat.le_of_eq hz3.symm)
  have hB := Nat.le_trans hB0 hsz
  exact nw_vret C dJ0_init_9 (Nat.le_refl _) (Nat.le_refl _) ⟨rfl, ho2⟩
set_option maxHeartbeats 4000000 in
theorem mJ0_of (l : Launch) (hf : l.flags = flags0) (d : nwD) (vv : Nat) (H : Heap) (hB : nd_B d ≤ H.size)  : nwMt l d yJ0_of cJ0_of 1 (some (.object "java/util/Optional")) 2 41 1 1 [.ref vv] H (fun v1 H1 => (∃ o : Nat, v1 = some (.ref o) ∧ H.size ≤ o ∧ nwO d o 15 [.ref vv] H1) ∧ nwExt H H1) nwNo (nwNew H) := by
  refine nw_start "java/util/Optional" "of" hf (by decide +kernel) rfl rfl (fun _ h => h) (fun q h => Nat.le_trans hB h) (Nat.le_of_ble_eq_true rfl) ?_
  intro X C
  have hB0 := hB
  have hE := C.E0
  have hext : nwExt H H := nwExt.rfl
  show nwV X _ _ 1 H 0 0 0 [(0, .ref vv)] []
  refine nw_new C (ci := 15) (T := TJ0) (ty0 := tyJ0) [.null] rfl in_J0 tyJ0_ok q752 q753 q87 (fun j hj => by rcases (show j = 0 by omega) with rfl <;> rfl) 1 1 (by omega) (by omega) ⟨(show 1 ≤ 1 by omega), (show 1 ≤ 1 by omega)⟩ dJ0_of_0 3 rfl (fun a1 H2 hx3 ho4 hz5 hq6 => ?_)
  have hn7 : H.size ≤ a1 := (by rw [hx3]; exact hext.1)
  have hext := hext.made hz5 hq6
  have hE := C.E0.ext hext.2
  have hB := Nat.le_trans hB0 hext.1
  refine nw_dup C dJ0_of_3 rfl 4 rfl ?_
  refine nw_aload_n C 0 dJ0_of_4 rfl 5 rfl ?_
  refine nw_callS C (mJ4_requireNonNull _ C.hfl d vv H2 hB) kJ4_requireNonNull q754 (As := [.ref vv]) (rest := [.ref a1, .ref a1]) rfl rfl ⟨⟨Nat.le_of_ble_eq_true rfl, Nat.le_of_ble_eq_true rfl⟩, Nat.le_of_ble_eq_true rfl, Nat.le_of_ble_eq_true rfl⟩ (Nat.le_of_ble_eq_true rfl) (fun _ h8 h9 => absurd h9 (Nat.not_le.mpr h8)) dJ0_of_5 8 rfl (nw_rdK ?_) nw_noX
  refine nw_callI C (mJ0_init _ C.hfl d a1 vv H2 hB (Nat.le_trans hB0 hn7) ho4 ) kJ0_init q757 (As := [.ref vv]) (rest := [.ref a1]) rfl rfl ⟨⟨Nat.le_of_ble_eq_true rfl, Nat.le_of_ble_eq_true rfl⟩, (show 1 + 0 ≤ 1 by omega), (show 1 + 0 ≤ 1 by omega)⟩ (Nat.le_of_ble_eq_true rfl) (fun q8 h8 h9 => h9.elim (fun e9 => by rw [e9]; exact hn7) (fun e9 => absurd h8 (Nat.not_lt.mpr e9))) dJ0_of_8 11 rfl (fun v9 H8 hR9 hz10 hq11 => ?_) nw_noX
  obtain ⟨rfl, ho12⟩ := hR9
  have hext := hext.step hz10 hq11 (fun q9 e9 => e9.elim (fun e9 => by rw [e9]; exact hn7) (fun e9 => Nat.le_trans hext.1 e9))
  have hE := C.E0.ext hext.2
  have hB := Nat.le_trans hB0 hext.1
  show nwV X _ _ 1 H8 (1 + 0) (1 + 0) 11 [(0, .ref vv)] [.ref a1]
  refine nw_wide (k' := 1) (n' := 1) (by omega) (by omega) ?_
  exact nw_aret C (Or.inl ⟨_, rfl⟩) dJ0_of_11 (by omega) (by omega) ⟨⟨a1, rfl, hn7, ho12⟩, hext⟩
set_option maxHeartbeats 4000000 in
theorem mX3_next (l : Launch) (hf : l.flags = flags0) (d : nwD) (g : Nat) (r : Nat) (H : Heap) (hB : nd_B d ≤ H.size) (hgB : nd_B d ≤ g) (hg : nwO d g 6 [.int (nI r)] H) (hr : r < 2 ^ 20) : nwMt l d yX3_next cX3_next 1 (some .int) 1 20 0 0 [.ref g] H (fun v H1 => v = some (.int (nI (sp_after r))) ∧ nwO d g 6 [.int (nI (sp_after r))] H1) nwNo (fun q => q = g ∨ H.size ≤ q) := by
  refine nw_start "NightwatchWall$Row" "next" hf (by decide +kernel) rfl rfl (fun _ h => Or.inr h) (fun q h => h.elim (fun e => by rw [e]; exact hgB) (fun h => Nat.le_trans hB h)) (Nat.le_of_ble_eq_true rfl) ?_
  intro X C
  have hE := C.E0
  have hB0 := hB
  have hsz : H.size ≤ H.size := Nat.le_refl _
  show nwV X _ _ 1 H 0 0 0 [(0, .ref g)] []
  refine nw_aload_n C 0 dX3_next_0 rfl 1 rfl ?_
  refine nw_bipush C (nI 23) dX3_next_1 (by decide) 3 rfl ?_
  refine nw_aload_n C 0 dX3_next_3 rfl 4 rfl ?_
  refine nw_get C hg (T := TX3) rfl in_X3 0 (by decide) q187 (Or.inl rfl) rfl dX3_next_4 7 rfl ?_
  refine nw_imulN C dX3_next_7 8 rfl ?_
  refine nw_bipush C (nI 15) dX3_next_8 (by decide) 10 rfl ?_
  refine nw_iaddN C dX3_next_10 11 rfl ?_
  refine nw_bipush C (nI 97) dX3_next_11 (by decide) 13 rfl ?_
  refine nw_iremN C (by omega) dX3_next_13 14 rfl ?_
  refine nw_put C hg (Or.inl rfl) (T := TX3) (ty0 := tyX3) rfl in_X3 tyX3_ok nmX3 0 (by decide) q187 (Or.inl rfl) rfl rfl rfl (Nat.le_of_ble_eq_true rfl) dX3_next_14 17 rfl (fun H1 ho2 hz3 hq4 => ?_)
  have ho2 : nwO d g 6 [.int (nI ((23 * r + 15) % 97))] H1 := ho2
  have hsz := Nat.le_trans hsz (Nat.le_of_eq hz3.symm)
  have hB := Nat.le_trans hB0 hsz
  refine nw_aload_n C 0 dX3_next_17 rfl 18 rfl ?_
  refine nw_get C ho2 (T := TX3) rfl in_X3 0 (by decide) q187 (Or.inl rfl) rfl dX3_next_18 21 rfl ?_
  exact nw_iret C dX3_next_21 (Nat.le_refl _) (Nat.le_refl _) ⟨rfl, ho2⟩
set_option maxHeartbeats 4000000 in
theorem mX12_init (l : Launch) (hf : l.flags = flags0) (d : nwD) (g : Nat) (fr wl mv : Nat) (H : Heap) (hB : nd_B d ≤ H.size) (hgB : nd_B d ≤ g) (hg : nwO d g 7 [.int (nI 0), .null, .int (nI 0), .int (nI 0), .int (nI 0)] H)  : nwMt l d yX12_init cX12_init 4 none 1 20 0 0 [.ref g, .int (nI fr), .ref wl, .int (nI mv)] H (fun v H1 => v = none ∧ nwO d g 7 [.int (nI fr), .ref wl, .int (nI mv), .int (nI 0), .int (oI none)] H1) nwNo (fun q => q = g ∨ H.size ≤ q) := by
  refine nw_start "NightwatchWall$Intruder" "<init>" hf (by decide +kernel) rfl rfl (fun _ h => Or.inr h) (fun q h => h.elim (fun e => by rw [e]; exact hgB) (fun h => Nat.le_trans hB h)) (Nat.le_of_ble_eq_true rfl) ?_
  intro X C
  have hE := C.E0
  have hB0 := hB
  have hsz : H.size ≤ H.size := Nat.le_refl _
  show nwV X _ _ 4 H 0 0 0 [(0, .ref g), (1, .int (nI fr)), (2, .ref wl), (3, .int (nI mv))] []
  refine nw_aload_n C 0 dX12_init_0 rfl 1 rfl ?_
  refine nw_objInit C q1194 q133 q134 dX12_init_1 ⟨Nat.le_of_ble_eq_true rfl, Nat.le_of_ble_eq_true rfl⟩ (Nat.le_of_ble_eq_true rfl) 4 rfl ?_
  refine nw_aload_n C 0 dX12_init_4 rfl 5 rfl ?_
  refine nw_iconst C (oI none) dX12_init_5 (by decide) 6 rfl ?_
  refine nw_put C hg (Or.inl rfl) (T := TX12) (ty0 := tyX12) rfl in_X12 tyX12_ok nmX12 4 (by decide) q1201 (Or.inl rfl) rfl rfl rfl (Nat.le_of_ble_eq_true rfl) dX12_init_6 9 rfl (fun H1 ho2 hz3 hq4 => ?_)
  have ho2 : nwO d g 7 [.int (nI 0), .null, .int (nI 0), .int (nI 0), .int (oI none)] H1 := ho2
  have hsz := Nat.le_trans hsz (Nat.le_of_eq hz3.symm)
  have hB := Nat.le_trans hB0 hsz
  refine nw_aload_n C 0 dX12_init_9 rfl 10 rfl ?_
  refine nw_iload_n C 1 dX12_init_10 rfl 11 rfl ?_
  refine nw_putF C ho2 (Or.inl rfl) (T := TX12) (ty0 := tyX12) rfl in_X12 tyX12_ok nmX12 0 (by decide) q1195 rfl rfl rfl rfl (Nat.le_of_ble_eq_true rfl) dX12_init_11 14 rfl (fun H5 ho6 hz7 hq8 => ?_)
  have ho6 : nwO d g 7 [.int (nI fr), .null, .int (nI 0), .int (nI 0), .int (oI none)] H5 := ho6
  have hsz := Nat.le_trans hsz (Nat.le_of_eq hz7.symm)
  have hB := Nat.le_trans hB0 hsz
  refine nw_aload_n C 0 dX12_init_14 rfl 15 rfl ?_
  refine nw_aload_n C 2 dX12_init_15 rfl 16 rfl ?_
  refine nw_putF C ho6 (Or.inl rfl) (T := TX12) (ty0 := tyX12) rfl in_X12 tyX12_ok nmX12 1 (by decide) q1197 rfl rfl rfl rfl (Nat.le_of_ble_eq_true rfl) dX12_init_16 19 rfl (fun H9 ho10 hz11 hq12 => ?_)
  have ho10 : nwO d g 7 [.int (nI fr), .ref wl, .int (nI 0), .int (nI 0), .int (oI none)] H9 := ho10
  have hsz := Nat.le_trans hsz (Nat.le_of_eq hz11.symm)
  have hB := Nat.le_trans hB0 hsz
  refine nw_aload_n C 0 dX12_init_19 rfl 20 rfl ?_
  refine nw_iload_n C 3 dX12_init_20 rfl 21 rfl ?_
  refine nw_putF C ho10 (Or.inl rfl) (T := TX12) (ty0 := tyX12) rfl in_X12 tyX12_ok nmX12 2 (by decide) q1198 rfl rfl rfl rfl (Nat.le_of_ble_eq_true rfl) dX12_init_21 24 rfl (fun H13 ho14 hz15 hq16 => ?_)
  have ho14 : nwO d g 7 [.int (nI fr), .ref wl, .int (nI mv), .int (nI 0), .int (oI none)] H13 := ho14
  have hsz := Nat.le_trans hsz (Nat.le_of_eq hz15.symm)
  have hB := Nat.le_trans hB0 hsz
  exact nw_vret C dX12_init_24 (Nat.le_refl _) (Nat.le_refl _) ⟨rfl, ho14⟩
