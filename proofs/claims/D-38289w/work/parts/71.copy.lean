theorem kJ17_copyOf_2 : nwPS yJ17_copyOf_2 cJ17_copyOf_2 4 (some (.array (.object "java/lang/Object"))) 3 := ⟨⟨q947, q112, q948⟩, by decide +kernel, by decide +kernel, by decide +kernel⟩
set_option maxHeartbeats 4000000 in
theorem mJ17_copyOf3 (l : Launch) (hf : l.flags = flags0) (d : nwD) (a n m : Nat) (f : Nat → Option Nat) (H : Heap) (hB : nd_B d ≤ H.size) (hI : nwR d a 3 n f H) (hnm : n ≤ m ∧ m ≤ 15) (hel : ∀ j, j < n → ∃ v, v < 128 ∧ f j = some (nd_bx d v)) : nwMt l d yJ17_copyOf_2 cJ17_copyOf_2 4 (some (.array (.object "java/lang/Object"))) 2 60 1 15 [.ref a, .int (nI m), .ref (nd_st d 7)] H (fun v H1 => (∃ x : Nat, v = some (.ref x) ∧ H.size ≤ x ∧ nwR d x 3 m (va_cpy f (fun _ => none) 0 0 n) H1) ∧ nwExt H H1) nwNo (nwNew H) := by
  refine nw_start "java/util/Arrays" "copyOf" hf (by decide +kernel) rfl rfl (fun _ h => h) (fun q h => Nat.le_trans hB h) (Nat.le_of_ble_eq_true rfl) ?_
  intro X C
  have hI0 := hI
  have hB0 := hB
  have hE := C.E0
  have hext : nwExt H H := nwExt.rfl
  show nwV X _ _ 4 H 0 0 0 [(0, .ref a), (1, .int (nI m)), (2, .ref (nd_st d 7))] []
  refine nw_aload_n C 2 dJ17_copyOf_2_0 rfl 1 rfl ?_
  refine nw_ldcM C q949 dJ17_copyOf_2_1 3 rfl ?_
  refine nw_acmpne C 13 dJ17_copyOf_2_3 (by decide) 6 rfl (fun h1 => absurd rfl h1) (fun _ => ?_)
  refine nw_iload_n C 1 dJ17_copyOf_2_6 rfl 7 rfl ?_
  refine nw_newq C (by omega) q951 1 15 (by omega) (by omega) ⟨(show 1 ≤ 1 by omega), (show 15 ≤ 15 by omega)⟩ dJ17_copyOf_2_7 10 rfl (fun a2 H3 hx4 ho5 hz6 hq7 => ?_)
  have hn8 : H.size ≤ a2 := (by rw [hx4]; exact hext.1)
  have hext := hext.made hz6 hq7
  have hI := hI0.ext hext.2
  have hE := C.E0.ext hext.2
  have hB := Nat.le_trans hB0 hext.1
  refine nw_goto C 24 dJ17_copyOf_2_10 (by decide) ?_
  refine nw_astore_n C [(3, .ref a2), (0, .ref a), (1, .int (nI m)), (2, .ref (nd_st d 7))] dJ17_copyOf_2_24 (by decide) rfl 25 rfl ?_
  refine nw_aload_n C 1 dJ17_copyOf_2_25 rfl 26 rfl ?_
  refine nw_iconst C (nI 0) dJ17_copyOf_2_26 (by decide) 27 rfl ?_
  refine nw_aload_n C 0 dJ17_copyOf_2_27 rfl 28 rfl ?_
  refine nw_iconst C (nI 0) dJ17_copyOf_2_28 (by decide) 29 rfl ?_
  refine nw_aload_n C 1 dJ17_copyOf_2_29 rfl 30 rfl ?_
  refine nw_alenR C hI (by decide) dJ17_copyOf_2_30 31 rfl ?_
  refine nw_iload_n C 2 dJ17_copyOf_2_31 rfl 32 rfl ?_
  refine nw_mmin C (nI n) q952 q389 q108 q390 ((nw_minN (by omega)).trans (by rw [show min n m = n by omega])) ⟨Nat.le_of_ble_eq_true rfl, Nat.le_of_ble_eq_true rfl, Nat.le_of_ble_eq_true rfl, Nat.le_of_ble_eq_true rfl⟩ (Nat.le_of_ble_eq_true rfl) dJ17_copyOf_2_32 35 rfl ?_
  refine nw_copyB C q953 q955 q954 q113 q2140 hI ho5 hn8 (by omega) hel dJ17_copyOf_2_35 ⟨Nat.le_of_ble_eq_true rfl, (show 8 + (nativeFrameWords "java/lang/System" "arraycopy" 5 + 11) ≤ _ by decide +kernel)⟩ (Nat.le_of_ble_eq_true rfl) 38 rfl (fun H9 ho10 hz11 hq12 => ?_)
  have hext := hext.put hz11 hq12 hn8
  have hI := hI0.ext hext.2
  have hE := C.E0.ext hext.2
  have hB := Nat.le_trans hB0 hext.1
  refine nw_aload_n C 0 dJ17_copyOf_2_38 rfl 39 rfl ?_
  exact nw_aret C (Or.inr ⟨_, rfl⟩) dJ17_copyOf_2_39 (by omega) (by omega) ⟨⟨a2, rfl, hn8, ho10⟩, hext⟩
set_option maxHeartbeats 4000000 in
theorem mJ17_copyOf2 (l : Launch) (hf : l.flags = flags0) (d : nwD) (a n m : Nat) (f : Nat → Option Nat) (H : Heap) (hB : nd_B d ≤ H.size) (hI : nwR d a 3 n f H) (hnm : n ≤ m ∧ m ≤ 15) (hel : ∀ j, j < n → ∃ v, v < 128 ∧ f j = some (nd_bx d v)) : nwMt l d yJ17_copyOf cJ17_copyOf 2 (some (.array (.object "java/lang/Object"))) 3 83 1 15 [.ref a, .int (nI m)] H (fun v H1 => (∃ x : Nat, v = some (.ref x) ∧ H.size ≤ x ∧ nwR d x 3 m (va_cpy f (fun _ => none) 0 0 n) H1) ∧ nwExt H H1) nwNo (nwNew H) := by
  refine nw_start "java/util/Arrays" "copyOf" hf (by decide +kernel) rfl rfl (fun _ h => h) (fun q h => Nat.le_trans hB h) (Nat.le_of_ble_eq_true rfl) ?_
  intro X C
  have hI0 := hI
  have hB0 := hB
  have hE := C.E0
  have hext : nwExt H H := nwExt.rfl
  show nwV X _ _ 2 H 0 0 0 [(0, .ref a), (1, .int (nI m))] []
  refine nw_aload_n C 0 dJ17_copyOf_0 rfl 1 rfl ?_
  refine nw_iload_n C 1 dJ17_copyOf_1 rfl 2 rfl ?_
  refine nw_aload_n C 0 dJ17_copyOf_2 rfl 3 rfl ?_
  refine nw_getC C q915 hI dJ17_copyOf_3 ⟨Nat.le_of_ble_eq_true rfl, Nat.le_of_ble_eq_true rfl⟩ (Nat.le_of_ble_eq_true rfl) 6 rfl ?_
  refine nw_callS C (mJ17_copyOf3 _ C.hfl d a n m f H hB hI hnm hel) kJ17_copyOf_2 q946 (As := [.ref a, .int (nI m), .ref (nd_st d 7)]) (rest := []) rfl rfl ⟨⟨Nat.le_of_ble_eq_true rfl, Nat.le_of_ble_eq_true rfl⟩, (show 0 + 1 ≤ 1 by omega), (show 0 + 15 ≤ 15 by omega)⟩ (Nat.le_of_ble_eq_true rfl) (fun _ h8 h9 => absurd h9 (Nat.not_le.mpr h8)) dJ17_copyOf_6 9 rfl (fun v9 H1 hR2 hz3 hq4 => ?_) nw_noX
  obtain ⟨⟨ar5, rfl, hn6, hi7⟩, -⟩ := hR2
  have hn8 : H.size ≤ ar5 := (Nat.le_trans hext.1 hn6)
  have hext := hext.call hz3 hq4
  have hI := hI0.ext hext.2
  have hE := C.E0.ext hext.2
  have hB := Nat.le_trans hB0 hext.1
  show nwV X _ _ 2 H1 (0 + 1) (0 + 15) 9 [(0, .ref a), (1, .int (nI m))] [.ref ar5]
  refine nw_wide (k' := 1) (n' := 15) (by omega) (by omega) ?_
  exact nw_aret C (Or.inr ⟨_, rfl⟩) dJ17_copyOf_9 (by omega) (by omega) ⟨⟨ar5, rfl, hn8, hi7⟩, hext⟩
