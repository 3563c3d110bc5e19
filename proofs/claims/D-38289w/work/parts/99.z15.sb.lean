/-! ===== StringBuilder, String: the JDK's members ===== -/
theorem nw_neg10 : ∀ c, c < 10 → ¬ -nI c ≤ (-10 : Int32) := by decide +kernel
theorem nw_neg100 : ∀ c, c < 10 → (-100 : Int32) < -nI c := by decide +kernel
theorem nw_neg9 : ∀ c, c < 10 → (-9 : Int32) ≤ -nI c := by decide +kernel
theorem nw_negneg (c : Nat) : -(-nI c) = nI c := Int32.neg_neg
theorem nw_sub0 (x : Int32) : x - nI 0 = x := by rw [nI_0]; exact Int32.sub_zero x
section NWSS
variable {d : nwD} {X : nwX} {A : Nat → Prop} {Q : State → Prop} {nL : Nat} {H H0 : Heap} {k n pc : Nat} {lv : List (Nat × Value)} {rest : List Value} {own mn : String} {cc : ByteArray} {ret : Option FieldType} {rm : Room} {tb : List ExceptionTableEntry}
theorem nwSs.is (C : nwC d X A H0 own mn cc nL ret rm tb) {s v m : Nat} {f : Nat → Int32} (hE : nwE d (nx_s X) H) (h : nwSs d s v m f H) : nwIs (nx_s X) "java/lang/String" s H := by
  rcases nwSs.cs hE h with h | h
  · exact h.1.is
  · exact h.1.is C (ci := 18) rfl
theorem nw_instE (C : nwC d X A H0 own mn cc nL ret rm tb) {i a : Nat} {nm : String} (hlink : Cond.classLink own i nm ∈ lw_all) (hr : nwIs (nx_s X) nm a H) (dd : decode cc pc = .ok (.instanceof i, 3)) (q : Nat) (hq : pc + 3 = q) (K : nwV X A Q nL H k n q lv (.int (nI 1) :: rest)) : nwV X A Q nL H k n pc lv (.ref a :: rest) := by
  subst hq
  exact fun ls locs hl hS => va_instE C.hx C.hb C.ho (C.ht _ hlink) hr dd (K ls locs hl hS)
end NWSS
theorem nwBd.ext {d : nwD} {g ar n : Nat} {f : Nat → Int32} {H H1 : Heap} (h : nwBd d g ar n f H) (hq : ∀ q : Nat, q < H.size → H1[q]? = H[q]?) : nwBd d g ar n f H1 := ⟨nwO.ext h.1 hq, nwI.ext h.2.1 hq, h.2.2⟩
theorem nwSo.ext {d : nwD} {g ar n : Nat} {f : Nat → Int32} {H H1 : Heap} (h : nwSo d g ar n f H) (hq : ∀ q : Nat, q < H.size → H1[q]? = H[q]?) : nwSo d g ar n f H1 := ⟨nwO.ext h.1 hq, nwI.ext h.2.1 hq, h.2.2⟩
theorem kJ20_init : nwPI yJ20_init cJ20_init 2 1 := ⟨⟨q123, q1329, q1330⟩, rfl, by decide +kernel, by decide +kernel, by decide +kernel⟩
theorem zJ20_length : nwPZ "java/lang/StringBuilder" yJ20_length cJ20_length 1 (some .int) 0 := ⟨⟨q1474, q1353, q1473, q123, q1479⟩, by decide +kernel, by decide +kernel⟩
theorem uJ20_ensureCapacityInternal : nwPU "java/lang/StringBuilder" yJ20_ensureCapacityInternal cJ20_ensureCapacityInternal 3 none 1 := ⟨⟨q2109, qx0, q1386, q123, q1387⟩, by decide +kernel, by decide +kernel, by decide +kernel⟩
theorem uJ20_isLatin1 : nwPU "java/lang/StringBuilder" yJ20_isLatin1 cJ20_isLatin1 1 (some .boolean) 0 := ⟨⟨q1406, q1407, q1405, q123, q1408⟩, by decide +kernel, by decide +kernel, by decide +kernel⟩
theorem kJ23_canEncode : nwPS yJ23_canEncode cJ23_canEncode 1 (some .boolean) 1 := ⟨⟨q1410, q126, q1411⟩, by decide +kernel, by decide +kernel, by decide +kernel⟩
theorem zJ20_append : nwPZ "java/lang/StringBuilder" yJ20_append cJ20_append 2 (some (.object "java/lang/AbstractStringBuilder")) 1 := ⟨⟨q2108, q1353, q1382, q123, q1383⟩, by decide +kernel, by decide +kernel⟩
theorem kJ19_stringSize : nwPS yJ19_stringSize cJ19_stringSize 4 (some .int) 1 := ⟨⟨q1501, q115, q1502⟩, by decide +kernel, by decide +kernel, by decide +kernel⟩
theorem kJ19_getChars : nwPS yJ19_getChars cJ19_getChars 7 (some .int) 3 := ⟨⟨q1504, q115, q1505⟩, by decide +kernel, by decide +kernel, by decide +kernel⟩
theorem zJ20_append_2 : nwPZ "java/lang/StringBuilder" yJ20_append_2 cJ20_append_2 4 (some (.object "java/lang/AbstractStringBuilder")) 1 := ⟨⟨q2112, q1353, q1498, q123, q1499⟩, by decide +kernel, by decide +kernel⟩
theorem kJ12_coder : nwPV "java/lang/String" yJ12_coder cJ12_coder 1 (some .byte) 0 := ⟨⟨q1547, q1548, q106, q1549⟩, rfl, by decide +kernel, by decide +kernel, by decide +kernel⟩
theorem uJ20_inflateIfNeededFor : nwPU "java/lang/StringBuilder" yJ20_inflateIfNeededFor cJ20_inflateIfNeededFor 2 none 1 := ⟨⟨q2116, qx2, q1557, q123, q1558⟩, by decide +kernel, by decide +kernel, by decide +kernel⟩
theorem kJ12_getBytes : nwPV "java/lang/String" yJ12_getBytes cJ12_getBytes 4 none 3 := ⟨⟨q1561, q1562, q106, q1563⟩, rfl, by decide +kernel, by decide +kernel, by decide +kernel⟩
theorem kJ12_length : nwPV "java/lang/String" yJ12_length cJ12_length 1 (some .int) 0 := ⟨⟨q1543, q1544, q106, q1545⟩, rfl, by decide +kernel, by decide +kernel, by decide +kernel⟩
theorem uJ20_putStringAt : nwPU "java/lang/StringBuilder" yJ20_putStringAt cJ20_putStringAt 3 none 2 := ⟨⟨q2115, qx1, q1553, q123, q1554⟩, by decide +kernel, by decide +kernel, by decide +kernel⟩
theorem zJ20_append_3 : nwPZ "java/lang/StringBuilder" yJ20_append_3 cJ20_append_3 3 (some (.object "java/lang/AbstractStringBuilder")) 1 := ⟨⟨q2113, q1353, q1533, q123, q1534⟩, by decide +kernel, by decide +kernel⟩
theorem kJ17_checkLength : nwPS yJ17_checkLength cJ17_checkLength 2 none 2 := ⟨⟨q1488, q112, q1489⟩, by decide +kernel, by decide +kernel, by decide +kernel⟩
theorem kJ17_copyOfRangeByte : nwPS yJ17_copyOfRangeByte cJ17_copyOfRangeByte 5 (some (.array .byte)) 3 := ⟨⟨q1485, q112, q1486⟩, by decide +kernel, by decide +kernel, by decide +kernel⟩
theorem uJ20_getValue : nwPU "java/lang/StringBuilder" yJ20_getValue cJ20_getValue 1 (some (.array .byte)) 0 := ⟨⟨q1469, q1470, q1468, q123, q1471⟩, by decide +kernel, by decide +kernel, by decide +kernel⟩
theorem oJ21_length : nwPO "java/lang/StringBuilder" yJ20_length yJ21_length cJ21_length 1 (some .int) 0 := ⟨⟨q1474, q1475, q1473, q1476, q124, q1477, _, _, _, q1479⟩, by decide +kernel, by decide +kernel, by decide +kernel⟩
theorem kJ17_copyOfRange : nwPS yJ17_copyOfRange cJ17_copyOfRange 3 (some (.array .byte)) 3 := ⟨⟨q1482, q112, q1483⟩, by decide +kernel, by decide +kernel, by decide +kernel⟩
theorem kJ12_init_2 : nwPI yJ12_init_2 cJ12_init_2 5 2 := ⟨⟨q106, q1464, q1465⟩, rfl, by decide +kernel, by decide +kernel, by decide +kernel⟩
theorem kJ12_init : nwPI yJ12_init cJ12_init 2 1 := ⟨⟨q106, q1461, q1462⟩, rfl, by decide +kernel, by decide +kernel, by decide +kernel⟩
theorem kJ23_equals : nwPS yJ23_equals cJ23_equals 3 (some .boolean) 2 := ⟨⟨q2105, q126, q2106⟩, by decide +kernel, by decide +kernel, by decide +kernel⟩
set_option maxHeartbeats 4000000 in
theorem mJ20_init (l : Launch) (hf : l.flags = flags0) (d : nwD) (g : Nat)  (H : Heap) (hB : nd_B d ≤ H.size) (hgB : nd_B d ≤ g) (hg : nwO d g 17 [.null, .int (nI 0), .int (b2i false), .int (nI 0)] H)  : nwMt l d yJ20_init cJ20_init 2 none 1 20 1 16 [.ref g, .int (nI 16)] H (fun v H1 => v = none ∧ ∃ ar : Nat, H.size ≤ ar ∧ nwO d g 17 [.ref ar, .int (nI 0), .int (b2i false), .int (nI 0)] H1 ∧ nwI d ar 2 16 (fun _ => 0) H1) nwNo (fun q => q = g ∨ H.size ≤ q) := by
  refine nw_start "java/lang/AbstractStringBuilder" "<init>" hf (by decide +kernel) rfl rfl (fun _ h => Or.inr h) (fun q h => h.elim (fun e => by rw [e]; exact hgB) (fun h => Nat.le_trans hB h)) (Nat.le_of_ble_eq_true rfl) ?_
  intro X C
  have hE := C.E0
  have hB0 := hB
  have hsz : H.size ≤ H.size := Nat.le_refl _
  show nwV X _ _ 2 H 0 0 0 [(0, .ref g), (1, .int (nI 16))] []
  refine nw_aload_n C 0 dJ20_init_0 rfl 1 rfl ?_
  refine nw_objInit C q1331 q133 q134 dJ20_init_1 ⟨Nat.le_of_ble_eq_true rfl, Nat.le_of_ble_eq_true rfl⟩ (Nat.le_of_ble_eq_true rfl) 4 rfl ?_
  refine nw_gets C (v := .int (b2i true)) (fun _ _ h9 => h9.2.2.2.2.2.2.1.1) q1332 dJ20_init_4 7 rfl ?_
  refine nw_ifeq C 25 dJ20_init_7 (by decide) 10 rfl (fun h1 => absurd h1 (by decide)) (fun _ => ?_)
  refine nw_aload_n C 0 dJ20_init_10 rfl 11 rfl ?_
  refine nw_iload_n C 1 dJ20_init_11 rfl 12 rfl ?_
  refine nw_newb C (by omega) 1 16 (by omega) (by omega) ⟨(show 1 ≤ 1 by omega), (show 16 ≤ 16 by omega)⟩ dJ20_init_12 14 rfl (fun a2 H3 hx4 ho5 hz6 hq7 => ?_)
  have hn8 : H.size ≤ a2 := by rw [hx4]; exact hsz
  have hsz := Nat.le_trans hsz (show _ ≤ H3.size by omega)
  have hB := Nat.le_trans hB0 hsz
  have hne9 : g ≠ a2 := Nat.ne_of_lt (by rw [hx4]; exact hg.lt)
  have ho10 := hg.kept (hq7 _ hg.lt)
  refine nw_put C ho10 (Or.inl rfl) (T := TJ21) (ty0 := tyJ21) rfl in_J21 tyJ21_ok nmJ21 0 (by decide) q1341 (Or.inl rfl) rfl rfl rfl (Nat.le_of_ble_eq_true rfl) dJ20_init_14 17 rfl (fun H11 ho12 hz13 hq14 => ?_)
  have ho12 : nwO d g 17 [.ref a2, .int (nI 0), .int (b2i false), .int (nI 0)] H11 := ho12
  have hsz := Nat.le_trans hsz (Nat.le_of_eq hz13.symm)
  have hB := Nat.le_trans hB0 hsz
  have ho15 := ho5.kept (hq14 _ (Ne.symm hne9))
  refine nw_aload_n C 0 dJ20_init_17 rfl 18 rfl ?_
  refine nw_iconst C (nI 0) dJ20_init_18 (by decide) 19 rfl ?_
  refine nw_put C ho12 (Or.inl rfl) (T := TJ21) (ty0 := tyJ21) rfl in_J21 tyJ21_ok nmJ21 1 (by decide) q1342 (Or.inl rfl) rfl rfl rfl (Nat.le_of_ble_eq_true rfl) dJ20_init_19 22 rfl (fun H16 ho17 hz18 hq19 => ?_)
  have ho17 : nwO d g 17 [.ref a2, .int (nI 0), .int (b2i false), .int (nI 0)] H16 := ho17
  have hsz := Nat.le_trans hsz (Nat.le_of_eq hz18.symm)
  have hB := Nat.le_trans hB0 hsz
  have ho20 := ho15.kept (hq19 _ (Ne.symm hne9))
  refine nw_goto C 38 dJ20_init_22 (by decide) ?_
  exact nw_vret C dJ20_init_38 (by omega) (by omega) ⟨rfl, a2, hn8, ho17, ho20⟩
set_option maxHeartbeats 4000000 in
theorem mJ21_init (l : Launch) (hf : l.flags = flags0) (d : nwD) (g : Nat)  (H : Heap) (hB : nd_B d ≤ H.size) (hgB : nd_B d ≤ g) (hg : nwO d g 17 [.null, .int (nI 0), .int (b2i false), .int (nI 0)] H)  : nwMt l d yJ21_init cJ21_init 1 none 2 41 1 16 [.ref g] H (fun v H1 => v = none ∧ ∃ ar : Nat, H.size ≤ ar ∧ nwO d g 17 [.ref ar, .int (nI 0), .int (b2i false), .int (nI 0)] H1 ∧ nwI d ar 2 16 (fun _ => 0) H1) nwNo (fun q => q = g ∨ H.size ≤ q) := by
  refine nw_start "java/lang/StringBuilder" "<init>" hf (by decide +kernel) rfl rfl (fun _ h => Or.inr h) (fun q h => h.elim (fun e => by rw [e]; exact hgB) (fun h => Nat.le_trans hB h)) (Nat.le_of_ble_eq_true rfl) ?_
  intro X C
  have hE := C.E0
  have hB0 := hB
  have hsz : H.size ≤ H.size := Nat.le_refl _
  show nwV X _ _ 1 H 0 0 0 [(0, .ref g)] []
  refine nw_aload_n C 0 dJ21_init_0 rfl 1 rfl ?_
  refine nw_bipush C (nI 16) dJ21_init_1 (by decide) 3 rfl ?_
  refine nw_callI C (mJ20_init _ C.hfl d g H hB hgB hg) kJ20_init q1328 (As := [.int (nI 16)]) (rest := []) rfl rfl ⟨⟨Nat.le_of_ble_eq_true rfl, Nat.le_of_ble_eq_true rfl⟩, (show 0 + 1 ≤ 1 by omega), (show 0 + 16 ≤ 16 by omega)⟩ (Nat.le_of_ble_eq_true rfl) (fun q8 h8 h9 => h9.elim (fun e9 => by rw [e9]; exact (Or.inl rfl)) (fun e9 => absurd h8 (Nat.not_lt.mpr e9))) dJ21_init_3 6 rfl (fun v9 H1 hR2 hz3 hq4 => ?_) nw_noX
  obtain ⟨rfl, ar5, hn6, ho7, hi8⟩ := hR2
  have hne9 : g ≠ ar5 := Nat.ne_of_lt (Nat.lt_of_lt_of_le hg.lt hn6)
  have hn10 : H.size ≤ ar5 := Nat.le_trans hsz hn6
  have hsz := Nat.le_trans hsz hz3
  have hB := Nat.le_trans hB0 hsz
  show nwV X _ _ 1 H1 (0 + 1) (0 + 16) 6 [(0, .ref g)] []
  refine nw_wide (k' := 1) (n' := 16) (by omega) (by omega) ?_
  exact nw_vret C dJ21_init_6 (by omega) (by omega) ⟨rfl, ar5, hn10, ho7, hi8⟩
set_option maxHeartbeats 4000000 in
theorem mJ20_ensureCapacityInternal (l : Launch) (hf : l.flags = flags0) (d : nwD) (g ar n : Nat) (f : Nat → Int32) (q : Nat) (H : Heap) (hB : nd_B d ≤ H.size) (hb : nwBd d g ar n f H) (hq : q ≤ 16) : nwRd l d yJ20_ensureCapacityInternal cJ20_ensureCapacityInternal 3 none 1 20 [.ref g, .int (nI q)] H (none) := by
  refine nw_rd "java/lang/AbstractStringBuilder" "ensureCapacityInternal" hf (by decide +kernel) rfl rfl hB (Nat.le_of_ble_eq_true rfl) ?_
  intro X C
  show nwV X _ _ 3 H 0 0 0 [(0, .ref g), (1, .int (nI q))] []
  refine nw_aload_n C 0 dJ20_ensureCapacityInternal_0 rfl 1 rfl ?_
  refine nw_get C hb.1 (T := TJ21) rfl in_J21 0 (by decide) q1341 (Or.inl rfl) rfl dJ20_ensureCapacityInternal_1 4 rfl ?_
  refine nw_alenI C hb.2.1 (by decide) dJ20_ensureCapacityInternal_4 5 rfl ?_
  refine nw_aload_n C 0 dJ20_ensureCapacityInternal_5 rfl 6 rfl ?_
  refine nw_get C hb.1 (T := TJ21) rfl in_J21 1 (by decide) q1342 (Or.inl rfl) rfl dJ20_ensureCapacityInternal_6 9 rfl ?_
  refine nw_ishr C (nI 16) dJ20_ensureCapacityInternal_9 (nw_shr0 _) 10 rfl ?_
  refine nw_istore_n C [(2, .int (nI 16)), (0, .ref g), (1, .int (nI q))] dJ20_ensureCapacityInternal_10 (by decide) rfl 11 rfl ?_
  refine nw_iload_n C 2 dJ20_ensureCapacityInternal_11 rfl 12 rfl ?_
  refine nw_iload_n C 0 dJ20_ensureCapacityInternal_12 rfl 13 rfl ?_
  refine nw_isub C _ dJ20_ensureCapacityInternal_13 rfl 14 rfl ?_
  refine nw_ifle C 38 dJ20_ensureCapacityInternal_14 (by decide) 17 rfl (fun _ => ?_) (fun h1 => absurd (nw_subLe (by omega)) h1)
  exact nw_vret C dJ20_ensureCapacityInternal_38 (Nat.le_refl _) (Nat.le_refl _) ⟨rfl, rfl⟩
set_option maxHeartbeats 4000000 in
theorem mJ20_isLatin1 (l : Launch) (hf : l.flags = flags0) (d : nwD) (g ar n : Nat) (f : Nat → Int32) (H : Heap) (hB : nd_B d ≤ H.size) (hb : nwBd d g ar n f H) : nwRd l d yJ20_isLatin1 cJ20_isLatin1 1 (some .boolean) 1 20 [.ref g] H (some (.int (b2i true))) := by
  refine nw_rd "java/lang/AbstractStringBuilder" "isLatin1" hf (by decide +kernel) rfl rfl hB (Nat.le_of_ble_eq_true rfl) ?_
  intro X C
  show nwV X _ _ 1 H 0 0 0 [(0, .ref g)] []
  refine nw_gets C (v := .int (b2i true)) (fun _ _ h9 => h9.2.2.2.2.2.2.1.1) q1332 dJ20_isLatin1_0 3 rfl ?_
  refine nw_ifeq C 17 dJ20_isLatin1_3 (by decide) 6 rfl (fun h1 => absurd h1 (by decide)) (fun _ => ?_)
  refine nw_aload_n C 0 dJ20_isLatin1_6 rfl 7 rfl ?_
  refine nw_get C hb.1 (T := TJ21) rfl in_J21 1 (by decide) q1342 (Or.inl rfl) rfl dJ20_isLatin1_7 10 rfl ?_
  refine nw_ifne C 17 dJ20_isLatin1_10 (by decide) 13 rfl (fun h2 => absurd (by decide) h2) (fun _ => ?_)
  refine nw_iconst C (nI 1) dJ20_isLatin1_13 (by decide) 14 rfl ?_
  refine nw_goto C 18 dJ20_isLatin1_14 (by decide) ?_
  exact nw_nret C dJ20_isLatin1_18 (b2i_narrow true) (Nat.le_refl _) (Nat.le_refl _) ⟨congrArg (fun z => some (Value.int (b2i z))) (show (true) = (true) from rfl), rfl⟩
set_option maxHeartbeats 4000000 in
theorem mJ20_length (l : Launch) (hf : l.flags = flags0) (d : nwD) (g ar n : Nat) (f : Nat → Int32) (H : Heap) (hB : nd_B d ≤ H.size) (hb : nwBd d g ar n f H) : nwRd l d yJ20_length cJ20_length 1 (some .int) 1 20 [.ref g] H (some (.int (nI n))) := by
  refine nw_rd "java/lang/AbstractStringBuilder" "length" hf (by decide +kernel) rfl rfl hB (Nat.le_of_ble_eq_true rfl) ?_
  intro X C
  show nwV X _ _ 1 H 0 0 0 [(0, .ref g)] []
  refine nw_aload_n C 0 dJ20_length_0 rfl 1 rfl ?_
  refine nw_get C hb.1 (T := TJ21) rfl in_J21 3 (by decide) q1344 (Or.inl rfl) rfl dJ20_length_1 4 rfl ?_
  exact nw_iret C dJ20_length_4 (Nat.le_refl _) (Nat.le_refl _) ⟨congrArg (fun z => some (Value.int (nI z))) (show (n) = (n) from rfl), rfl⟩
set_option maxHeartbeats 4000000 in
theorem mJ21_length (l : Launch) (hf : l.flags = flags0) (d : nwD) (g ar n : Nat) (f : Nat → Int32) (H : Heap) (hB : nd_B d ≤ H.size) (hb : nwBd d g ar n f H) : nwRd l d yJ21_length cJ21_length 1 (some .int) 2 40 [.ref g] H (some (.int (nI n))) := by
  refine nw_rd "java/lang/StringBuilder" "length" hf (by decide +kernel) rfl rfl hB (Nat.le_of_ble_eq_true rfl) ?_
  intro X C
  show nwV X _ _ 1 H 0 0 0 [(0, .ref g)] []
  refine nw_aload_n C 0 dJ21_length_0 rfl 1 rfl ?_
  refine nw_callZ C (mJ20_length _ C.hfl d g ar n f H hB hb) zJ20_length (ci := 17) rfl q1478 (hb.1.is C (ci := 17) rfl) (As := []) (rest := []) rfl rfl ⟨⟨Nat.le_of_ble_eq_true rfl, Nat.le_of_ble_eq_true rfl⟩, Nat.le_of_ble_eq_true rfl, Nat.le_of_ble_eq_true rfl⟩ (Nat.le_of_ble_eq_true rfl) (fun _ h8 h9 => absurd h9 (Nat.not_le.mpr h8)) dJ21_length_1 4 rfl (nw_rdK ?_) nw_noX
  exact nw_iret C dJ21_length_4 (Nat.le_refl _) (Nat.le_refl _) ⟨congrArg (fun z => some (Value.int (nI z))) (show (n) = (n) from rfl), rfl⟩
set_option maxHeartbeats 4000000 in
theorem mJ20_getValue (l : Launch) (hf : l.flags = flags0) (d : nwD) (g ar n : Nat) (f : Nat → Int32) (H : Heap) (hB : nd_B d ≤ H.size) (hb : nwBd d g ar n f H) : nwRd l d yJ20_getValue cJ20_getValue 1 (some (.array .byte)) 1 20 [.ref g] H (some (.ref ar)) := by
  refine nw_rd "java/lang/AbstractStringBuilder" "getValue" hf (by decide +kernel) rfl rfl hB (Nat.le_of_ble_eq_true rfl) ?_
  intro X C
  show nwV X _ _ 1 H 0 0 0 [(0, .ref g)] []
  refine nw_aload_n C 0 dJ20_getValue_0 rfl 1 rfl ?_
  refine nw_get C hb.1 (T := TJ21) rfl in_J21 0 (by decide) q1341 (Or.inl rfl) rfl dJ20_getValue_1 4 rfl ?_
  exact nw_aret C (Or.inr ⟨_, rfl⟩) dJ20_getValue_4 (Nat.le_refl _) (Nat.le_refl _) ⟨congrArg (fun z => some (Value.ref z)) (show (ar) = (ar) from rfl), rfl⟩
set_option maxHeartbeats 4000000 in
theorem mJ23_canEncode (l : Launch) (hf : l.flags = flags0) (d : nwD) (c : Nat) (H : Heap) (hB : nd_B d ≤ H.size) (hc : c < 128) : nwRd l d yJ23_canEncode cJ23_canEncode 1 (some .boolean) 1 20 [.int (nI c)] H (some (.int (b2i true))) := by
  refine nw_rd "java/lang/StringLatin1" "canEncode" hf (by decide +kernel) rfl rfl hB (Nat.le_of_ble_eq_true rfl) ?_
  intro X C
  show nwV X _ _ 1 H 0 0 0 [(0, .int (nI c))] []
  refine nw_iload_n C 0 dJ23_canEncode_0 rfl 1 rfl ?_
  refine nw_sipush C (nI 255) dJ23_canEncode_1 (by decide) 4 rfl ?_
  refine nw_icmpgt C 11 dJ23_canEncode_4 (by decide) 7 rfl (fun h1 => absurd h1 (fun e9 => absurd ((nI_ltI (by decide) (by omega)).mp e9) (by omega))) (fun _ => ?_)
  refine nw_iconst C (nI 1) dJ23_canEncode_7 (by decide) 8 rfl ?_
  refine nw_goto C 12 dJ23_canEncode_8 (by decide) ?_
  exact nw_nret C dJ23_canEncode_12 (b2i_narrow true) (Nat.le_refl _) (Nat.le_refl _) ⟨congrArg (fun z => some (Value.int (b2i z))) (show (true) = (true) from rfl), rfl⟩
set_option maxHeartbeats 4000000 in
theorem mJ20_appendC (l : Launch) (hf : l.flags = flags0) (d : nwD) (g ar n : Nat) (f : Nat → Int32) (c : Nat) (H : Heap) (hB : nd_B d ≤ H.size) (hgB : nd_B d ≤ g) (harB : nd_B d ≤ ar) (hga : g ≠ ar) (hb : nwBd d g ar n f H) (hc : c < 128) (hn : n < 16) : nwMt l d yJ20_append cJ20_append 2 (some (.object "java/lang/AbstractStringBuilder")) 2 42 0 0 [.ref g, .int (nI c)] H (fun v H1 => v = some (.ref g) ∧ ∃ f2 : Nat → Int32, nwBd d g ar (n + 1) f2 H1 ∧ (∀ j, j < n → f2 j = f j) ∧ f2 n = nI c) nwNo (fun q => q = g ∨ q = ar ∨ H.size ≤ q) := by
  refine nw_start "java/lang/AbstractStringBuilder" "append" hf (by decide +kernel) rfl rfl (fun _ h => Or.inr (Or.inr h)) (fun q h => h.elim (fun e => by rw [e]; exact hgB) (fun h => h.elim (fun e => by rw [e]; exact harB) (fun h => Nat.le_trans hB h))) (Nat.le_of_ble_eq_true rfl) ?_
  intro X C
  have hE := C.E0
  have hB0 := hB
  have hsz : H.size ≤ H.size := Nat.le_refl _
  show nwV X _ _ 2 H 0 0 0 [(0, .ref g), (1, .int (nI c))] []
  refine nw_aload_n C 0 dJ20_append_0 rfl 1 rfl ?_
  refine nw_aload_n C 0 dJ20_append_1 rfl 2 rfl ?_
  refine nw_get C hb.1 (T := TJ21) rfl in_J21 3 (by decide) q1344 (Or.inl rfl) rfl dJ20_append_2 5 rfl ?_
  refine nw_iconst C (nI 1) dJ20_append_5 (by decide) 6 rfl ?_
  refine nw_iaddN C dJ20_append_6 7 rfl ?_
  refine nw_callU C (mJ20_ensureCapacityInternal _ C.hfl d g ar n f (n + 1) H hB ⟨hb.1, hb.2.1, hb.2.2⟩ (by omega)) uJ20_ensureCapacityInternal q1384 (hb.1.is C (ci := 17) rfl) (As := [.int (nI (n + 1))]) (rest := []) rfl rfl ⟨⟨Nat.le_of_ble_eq_true rfl, Nat.le_of_ble_eq_true rfl⟩, Nat.le_of_ble_eq_true rfl, Nat.le_of_ble_eq_true rfl⟩ (Nat.le_of_ble_eq_true rfl) (fun _ h8 h9 => absurd h9 (Nat.not_le.mpr h8)) dJ20_append_7 10 rfl (nw_rdK ?_) nw_noX
  refine nw_aload_n C 0 dJ20_append_10 rfl 11 rfl ?_
  refine nw_callU C (mJ20_isLatin1 _ C.hfl d g ar n f H hB ⟨hb.1, hb.2.1, hb.2.2⟩) uJ20_isLatin1 q1404 (hb.1.is C (ci := 17) rfl) (As := []) (rest := []) rfl rfl ⟨⟨Nat.le_of_ble_eq_true rfl, Nat.le_of_ble_eq_true rfl⟩, Nat.le_of_ble_eq_true rfl, Nat.le_of_ble_eq_true rfl⟩ (Nat.le_of_ble_eq_true rfl) (fun _ h8 h9 => absurd h9 (Nat.not_le.mpr h8)) dJ20_append_11 14 rfl (nw_rdK ?_) nw_noX
  refine nw_ifeq C 45 dJ20_append_14 (by decide) 17 rfl (fun h1 => absurd h1 (by decide)) (fun _ => ?_)
  refine nw_iload_n C 1 dJ20_append_17 rfl 18 rfl ?_
  refine nw_callS C (mJ23_canEncode _ C.hfl d c H hB (by omega)) kJ23_canEncode q1409 (As := [.int (nI c)]) (rest := []) rfl rfl ⟨⟨Nat.le_of_ble_eq_true rfl, Nat.le_of_ble_eq_true rfl⟩, Nat.le_of_ble_eq_true rfl, Nat.le_of_ble_eq_true rfl⟩ (Nat.le_of_ble_eq_true rfl) (fun _ h8 h9 => absurd h9 (Nat.not_le.mpr h8)) dJ20_append_18 21 rfl (nw_rdK ?_) nw_noX
  refine nw_ifeq C 45 dJ20_append_21 (by decide) 24 rfl (fun h2 => absurd h2 (by decide)) (fun _ => ?_)
  refine nw_aload_n C 0 dJ20_append_24 rfl 25 rfl ?_
  refine nw_get C hb.1 (T := TJ21) rfl in_J21 0 (by decide) q1341 (Or.inl rfl) rfl dJ20_append_25 28 rfl ?_
  refine nw_aload_n C 0 dJ20_append_28 rfl 29 rfl ?_
  refine nw_dup C dJ20_append_29 rfl 30 rfl ?_
  refine nw_get C hb.1 (T := TJ21) rfl in_J21 3 (by decide) q1344 (Or.inl rfl) rfl dJ20_append_30 33 rfl ?_
  refine nw_dup_x1 C dJ20_append_33 rfl rfl 34 rfl ?_
  refine nw_iconst C (nI 1) dJ20_append_34 (by decide) 35 rfl ?_
  refine nw_iaddN C dJ20_append_35 36 rfl ?_
  refine nw_put C hb.1 (Or.inl rfl) (T := TJ21) (ty0 := tyJ21) rfl in_J21 tyJ21_ok nmJ21 3 (by decide) q1344 (Or.inl rfl) rfl rfl rfl (Nat.le_of_ble_eq_true rfl) dJ20_append_36 39 rfl (fun H3 ho4 hz5 hq6 => ?_)
  have ho4 : nwO d g 17 [.ref ar, .int (nI 0), .int (b2i false), .int (nI (n + 1))] H3 := ho4
  have hsz := Nat.le_trans hsz (Nat.le_of_eq hz5.symm)
  have hB := Nat.le_trans hB0 hsz
  have ho7 := hb.2.1.kept (hq6 _ (Ne.symm hga))
  refine nw_iload_n C 1 dJ20_append_39 rfl 40 rfl ?_
  refine nw_i2b C (nI c) dJ20_append_40 (nw_i2bB _ hc) 41 rfl ?_
  refine nw_bastN C ho7 (Or.inr (Or.inl rfl)) (by omega) (nw_narB _ hc) dJ20_append_41 42 rfl (fun H8 ho9 hz10 hq11 => ?_)
  have hsz := Nat.le_trans hsz (Nat.le_of_eq hz10.symm)
  have hB := Nat.le_trans hB0 hsz
  have ho12 := ho4.kept (hq11 _ hga)
  refine nw_goto C 75 dJ20_append_42 (by decide) ?_
  refine nw_aload_n C 0 dJ20_append_75 rfl 76 rfl ?_
  exact nw_aret C (Or.inl ⟨_, rfl⟩) dJ20_append_76 (Nat.le_refl _) (Nat.le_refl _) ⟨rfl, _, ⟨ho12, ho9, hb.2.2.push (fun j hj => by unfold upd; rw [if_neg (by omega)]) ⟨c, hc, by unfold upd; rw [if_pos rfl]⟩⟩, (fun j hj => by unfold upd; rw [if_neg (by omega)]), (by unfold upd; rw [if_pos rfl])⟩
set_option maxHeartbeats 4000000 in
theorem mJ21_appendC (l : Launch) (hf : l.flags = flags0) (d : nwD) (g ar n : Nat) (f : Nat → Int32) (c : Nat) (H : Heap) (hB : nd_B d ≤ H.size) (hgB : nd_B d ≤ g) (harB : nd_B d ≤ ar) (hga : g ≠ ar) (hb : nwBd d g ar n f H) (hc : c < 128) (hn : n < 16) : nwMt l d yJ21_append cJ21_append 2 (some (.object "java/lang/StringBuilder")) 3 63 0 0 [.ref g, .int (nI c)] H (fun v H1 => v = some (.ref g) ∧ ∃ f2 : Nat → Int32, nwBd d g ar (n + 1) f2 H1 ∧ (∀ j, j < n → f2 j = f j) ∧ f2 n = nI c) nwNo (fun q => q = g ∨ q = ar ∨ H.size ≤ q) := by
  refine nw_start "java/lang/StringBuilder" "append" hf (by decide +kernel) rfl rfl (fun _ h => Or.inr (Or.inr h)) (fun q h => h.elim (fun e => by rw [e]; exact hgB) (fun h => h.elim (fun e => by rw [e]; exact harB) (fun h => Nat.le_trans hB h))) (Nat.le_of_ble_eq_true rfl) ?_
  intro X C
  have hE := C.E0
  have hB0 := hB
  have hsz : H.size ≤ H.size := Nat.le_refl _
  show nwV X _ _ 2 H 0 0 0 [(0, .ref g), (1, .int (nI c))] []
  refine nw_aload_n C 0 dJ21_append_0 rfl 1 rfl ?_
  refine nw_iload_n C 1 dJ21_append_1 rfl 2 rfl ?_
  refine nw_callZ C (mJ20_appendC _ C.hfl d g ar n f c H hB hgB harB hga ⟨hb.1, hb.2.1, hb.2.2⟩ hc hn) zJ20_append (ci := 17) rfl q1381 (hb.1.is C (ci := 17) rfl) (As := [.int (nI c)]) (rest := []) rfl rfl ⟨⟨Nat.le_of_ble_eq_true rfl, Nat.le_of_ble_eq_true rfl⟩, (show 0 + 0 ≤ 0 by omega), (show 0 + 0 ≤ 0 by omega)⟩ (Nat.le_of_ble_eq_true rfl) (fun q8 h8 h9 => h9.elim Or.inl (fun e9 => e9.elim (fun e9 => Or.inr (Or.inl e9)) (fun e9 => absurd h8 (Nat.not_lt.mpr e9)))) dJ21_append_2 5 rfl (fun v9 H1 hR2 hz3 hq4 => ?_) nw_noX
  obtain ⟨rfl, f2, hb2, hk2, he2⟩ := hR2
  show nwV X _ _ 2 H1 (0 + 0) (0 + 0) 5 [(0, .ref g), (1, .int (nI c))] [.ref g]
  refine nw_wide (k' := 0) (n' := 0) (by omega) (by omega) ?_
  refine nw_pop C dJ21_append_5 rfl 6 rfl ?_
  refine nw_aload_n C 0 dJ21_append_6 rfl 7 rfl ?_
  exact nw_aret C (Or.inl ⟨_, rfl⟩) dJ21_append_7 (Nat.le_refl _) (Nat.le_refl _) ⟨rfl, f2, hb2, hk2, he2⟩
set_option maxHeartbeats 4000000 in
theorem mJ19_stringSize (l : Launch) (hf : l.flags = flags0) (d : nwD) (c : Nat) (H : Heap) (hB : nd_B d ≤ H.size) (hc : c < 10) : nwRd l d yJ19_stringSize cJ19_stringSize 4 (some .int) 1 20 [.int (nI c)] H (some (.int (nI 1))) := by
  refine nw_rd "java/lang/Integer" "stringSize" hf (by decide +kernel) rfl rfl hB (Nat.le_of_ble_eq_true rfl) ?_
  intro X C
  show nwV X _ _ 4 H 0 0 0 [(0, .int (nI c))] []
  refine nw_iconst C (nI 1) dJ19_stringSize_0 (by decide) 1 rfl ?_
  refine nw_istore_n C [(1, .int (nI 1)), (0, .int (nI c))] dJ19_stringSize_1 (by decide) rfl 2 rfl ?_
  refine nw_iload_n C 1 dJ19_stringSize_2 rfl 3 rfl ?_
  refine nw_ifltN C (by omega) 11 dJ19_stringSize_3 (by decide) 6 rfl ?_
  refine nw_iconst C (nI 0) dJ19_stringSize_6 (by decide) 7 rfl ?_
  refine nw_istore_n C [(1, .int (nI 0)), (0, .int (nI c))] dJ19_stringSize_7 (by decide) rfl 8 rfl ?_
  refine nw_iload_n C 1 dJ19_stringSize_8 rfl 9 rfl ?_
  refine nw_ineg C (-(nI c)) dJ19_stringSize_9 rfl 10 rfl ?_
  refine nw_istore_n C [(0, .int (-(nI c))), (1, .int (nI 0))] dJ19_stringSize_10 (by decide) rfl 11 rfl ?_
  refine nw_bipush C ((-10)) dJ19_stringSize_11 (by decide) 13 rfl ?_
  refine nw_istore_n C [(2, .int (-10)), (0, .int (-(nI c))), (1, .int (nI 0))] dJ19_stringSize_13 (by decide) rfl 14 rfl ?_
  refine nw_iconst C (nI 1) dJ19_stringSize_14 (by decide) 15 rfl ?_
  refine nw_istore_n C [(3, .int (nI 1)), (2, .int (-10)), (0, .int (-(nI c))), (1, .int (nI 0))] dJ19_stringSize_15 (by decide) rfl 16 rfl ?_
  refine nw_iload_n C 0 dJ19_stringSize_16 rfl 17 rfl ?_
  refine nw_bipush C (nI 10) dJ19_stringSize_17 (by decide) 19 rfl ?_
  refine nw_icmpge C 42 dJ19_stringSize_19 (by decide) 22 rfl (fun h2 => absurd h2 (by decide)) (fun _ => ?_)
  refine nw_iload_n C 2 dJ19_stringSize_22 rfl 23 rfl ?_
  refine nw_iload_n C 1 dJ19_stringSize_23 rfl 24 rfl ?_
  refine nw_icmple C 31 dJ19_stringSize_24 (by decide) 27 rfl (fun h3 => absurd h3 (nw_neg10 _ hc)) (fun _ => ?_)
  refine nw_iload_n C 0 dJ19_stringSize_27 rfl 28 rfl ?_
  refine nw_iload_n C 3 dJ19_stringSize_28 rfl 29 rfl ?_
  refine nw_iaddN C dJ19_stringSize_29 30 rfl ?_
  exact nw_iret C dJ19_stringSize_30 (Nat.le_refl _) (Nat.le_refl _) ⟨congrArg (fun z => some (Value.int (nI z))) (show (1) = (1) from rfl), rfl⟩
set_option maxHeartbeats 4000000 in
theorem mJ19_getChars (l : Launch) (hf : l.flags = flags0) (d : nwD) (ar n c : Nat) (f : Nat → Int32) (H : Heap) (hB : nd_B d ≤ H.size) (harB : nd_B d ≤ ar) (hr : nwI d ar 2 16 f H) (hn : n < 16) (hc : c < 10) : nwMt l d yJ19_getChars cJ19_getChars 7 (some .int) 1 20 0 0 [.int (nI c), .int (nI (n + 1)), .ref ar] H (fun v H1 => v = some (.int (nI n)) ∧ nwI d ar 2 16 (upd f n (nI (48 + c))) H1) nwNo (fun q => q = ar ∨ H.size ≤ q) := by
  refine nw_start "java/lang/Integer" "getChars" hf (by decide +kernel) rfl rfl (fun _ h => Or.inr h) (fun q h => h.elim (fun e => by rw [e]; exact harB) (fun h => Nat.le_trans hB h)) (Nat.le_of_ble_eq_true rfl) ?_
  intro X C
  have hE := C.E0
  have hB0 := hB
  have hsz : H.size ≤ H.size := Nat.le_refl _
  show nwV X _ _ 7 H 0 0 0 [(0, .int (nI c)), (1, .int (nI (n + 1))), (2, .ref ar)] []
  refine nw_iload_n C 1 dJ19_getChars_0 rfl 1 rfl ?_
  refine nw_istore C [(5, .int (nI (n + 1))), (0, .int (nI c)), (1, .int (nI (n + 1))), (2, .ref ar)] dJ19_getChars_1 (by decide) rfl 3 rfl ?_
  refine nw_iload_n C 1 dJ19_getChars_3 rfl 4 rfl ?_
  refine nw_ifgeN C (by omega) 11 dJ19_getChars_4 (by decide) ?_
  refine nw_iconst C (nI 0) dJ19_getChars_11 (by decide) 12 rfl ?_
  refine nw_istore C [(6, .int (nI 0)), (5, .int (nI (n + 1))), (0, .int (nI c)), (1, .int (nI (n + 1))), (2, .ref ar)] dJ19_getChars_12 (by decide) rfl 14 rfl ?_
  refine nw_iload C 0 dJ19_getChars_14 rfl 16 rfl ?_
  refine nw_ifne C 22 dJ19_getChars_16 (by decide) 19 rfl (fun h2 => absurd (by decide) h2) (fun _ => ?_)
  refine nw_iload_n C 2 dJ19_getChars_19 rfl 20 rfl ?_
  refine nw_ineg C (-(nI c)) dJ19_getChars_20 rfl 21 rfl ?_
  refine nw_istore_n C [(0, .int (-(nI c))), (6, .int (nI 0)), (5, .int (nI (n + 1))), (1, .int (nI (n + 1))), (2, .ref ar)] dJ19_getChars_21 (by decide) rfl 22 rfl ?_
  refine nw_iload_n C 0 dJ19_getChars_22 rfl 23 rfl ?_
  refine nw_bipush C ((-100)) dJ19_getChars_23 (by decide) 25 rfl ?_
  refine nw_icmpgt C 72 dJ19_getChars_25 (by decide) 28 rfl (fun _ => ?_) (fun h3 => absurd (nw_neg100 _ hc) h3)
  refine nw_aload_n C 4 dJ19_getChars_72 rfl 73 rfl ?_
  refine nw_iinc C 2 (nI n) [(5, .int (nI n)), (0, .int (-(nI c))), (6, .int (nI 0)), (1, .int (nI (n + 1))), (2, .ref ar)] dJ19_getChars_73 rfl (nw_dec _) (by decide) rfl 76 rfl ?_
  refine nw_iload C 0 dJ19_getChars_76 rfl 78 rfl ?_
  refine nw_gets C (v := .ref (nd_st d 8)) (fun _ _ h9 => h9.2.2.2.2.2.2.1.2.2.1) q1506 dJ19_getChars_78 81 rfl ?_
  refine nw_iload_n C 1 dJ19_getChars_81 rfl 82 rfl ?_
  refine nw_ineg C (nI c) dJ19_getChars_82 (nw_negneg c) 83 rfl ?_
  refine nw_baldT C (nI (48 + c)) (fun _ _ h9 => h9.2.2.2.2.2.2.1.2.2.2) (by omega) (by show nI (48 + c % 10) = nI (48 + c); rw [Nat.mod_eq_of_lt hc]) dJ19_getChars_83 84 rfl ?_
  refine nw_bastN C hr (Or.inl rfl) (by omega) (nw_narB _ (by omega)) dJ19_getChars_84 85 rfl (fun H4 ho5 hz6 hq7 => ?_)
  have hsz := Nat.le_trans hsz (Nat.le_of_eq hz6.symm)
  have hB := Nat.le_trans hB0 hsz
  refine nw_iload_n C 1 dJ19_getChars_85 rfl 86 rfl ?_
  refine nw_bipush C ((-9)) dJ19_getChars_86 (by decide) 88 rfl ?_
  refine nw_icmpge C 104 dJ19_getChars_88 (by decide) 91 rfl (fun _ => ?_) (fun h8 => absurd (nw_neg9 _ hc) h8)
  refine nw_iload C 2 dJ19_getChars_104 rfl 106 rfl ?_
  refine nw_ifeq C 118 dJ19_getChars_106 (by decide) 109 rfl (fun _ => ?_) (fun h9 => absurd (by decide) h9)
  refine nw_iload C 0 dJ19_getChars_118 rfl 120 rfl ?_
  exact nw_iret C dJ19_getChars_120 (Nat.le_refl _) (Nat.le_refl _) ⟨rfl, ho5⟩
set_option maxHeartbeats 4000000 in
theorem mJ20_appendI (l : Launch) (hf : l.flags = flags0) (d : nwD) (g ar n : Nat) (f : Nat → Int32) (c : Nat) (H : Heap) (hB : nd_B d ≤ H.size) (hgB : nd_B d ≤ g) (harB : nd_B d ≤ ar) (hga : g ≠ ar) (hb : nwBd d g ar n f H) (hc : c < 10) (hn : n < 16) : nwMt l d yJ20_append_2 cJ20_append_2 4 (some (.object "java/lang/AbstractStringBuilder")) 2 46 0 0 [.ref g, .int (nI c)] H (fun v H1 => v = some (.ref g) ∧ ∃ f2 : Nat → Int32, nwBd d g ar (n + 1) f2 H1 ∧ (∀ j, j < n → f2 j = f j) ∧ f2 n = nI (48 + c)) nwNo (fun q => q = g ∨ q = ar ∨ H.size ≤ q) := by
  refine nw_start "java/lang/AbstractStringBuilder" "append" hf (by decide +kernel) rfl rfl (fun _ h => Or.inr (Or.inr h)) (fun q h => h.elim (fun e => by rw [e]; exact hgB) (fun h => h.elim (fun e => by rw [e]; exact harB) (fun h => Nat.le_trans hB h))) (Nat.le_of_ble_eq_true rfl) ?_
  intro X C
  have hE := C.E0
  have hB0 := hB
  have hsz : H.size ≤ H.size := Nat.le_refl _
  show nwV X _ _ 4 H 0 0 0 [(0, .ref g), (1, .int (nI c))] []
  refine nw_aload_n C 0 dJ20_append_2_0 rfl 1 rfl ?_
  refine nw_get C hb.1 (T := TJ21) rfl in_J21 3 (by decide) q1344 (Or.inl rfl) rfl dJ20_append_2_1 4 rfl ?_
  refine nw_istore_n C [(2, .int (nI n)), (0, .ref g), (1, .int (nI c))] dJ20_append_2_4 (by decide) rfl 5 rfl ?_
  refine nw_iload_n C 0 dJ20_append_2_5 rfl 6 rfl ?_
  refine nw_iload_n C 2 dJ20_append_2_6 rfl 7 rfl ?_
  refine nw_callS C (mJ19_stringSize _ C.hfl d c H hB (by omega)) kJ19_stringSize q1500 (As := [.int (nI c)]) (rest := [.int (nI n)]) rfl rfl ⟨⟨Nat.le_of_ble_eq_true rfl, Nat.le_of_ble_eq_true rfl⟩, Nat.le_of_ble_eq_true rfl, Nat.le_of_ble_eq_true rfl⟩ (Nat.le_of_ble_eq_true rfl) (fun _ h8 h9 => absurd h9 (Nat.not_le.mpr h8)) dJ20_append_2_7 10 rfl (nw_rdK ?_) nw_noX
  refine nw_iaddN C dJ20_append_2_10 11 rfl ?_
  refine nw_istore_n C [(3, .int (nI (n + 1))), (2, .int (nI n)), (0, .ref g), (1, .int (nI c))] dJ20_append_2_11 (by decide) rfl 12 rfl ?_
  refine nw_aload_n C 2 dJ20_append_2_12 rfl 13 rfl ?_
  refine nw_iload_n C 0 dJ20_append_2_13 rfl 14 rfl ?_
  refine nw_callU C (mJ20_ensureCapacityInternal _ C.hfl d g ar n f (n + 1) H hB ⟨hb.1, hb.2.1, hb.2.2⟩ (by omega)) uJ20_ensureCapacityInternal q1384 (hb.1.is C (ci := 17) rfl) (As := [.int (nI (n + 1))]) (rest := []) rfl rfl ⟨⟨Nat.le_of_ble_eq_true rfl, Nat.le_of_ble_eq_true rfl⟩, Nat.le_of_ble_eq_true rfl, Nat.le_of_ble_eq_true rfl⟩ (Nat.le_of_ble_eq_true rfl) (fun _ h8 h9 => absurd h9 (Nat.not_le.mpr h8)) dJ20_append_2_14 17 rfl (nw_rdK ?_) nw_noX
  refine nw_aload_n C 2 dJ20_append_2_17 rfl 18 rfl ?_
  refine nw_callU C (mJ20_isLatin1 _ C.hfl d g ar n f H hB ⟨hb.1, hb.2.1, hb.2.2⟩) uJ20_isLatin1 q1404 (hb.1.is C (ci := 17) rfl) (As := []) (rest := []) rfl rfl ⟨⟨Nat.le_of_ble_eq_true rfl, Nat.le_of_ble_eq_true rfl⟩, Nat.le_of_ble_eq_true rfl, Nat.le_of_ble_eq_true rfl⟩ (Nat.le_of_ble_eq_true rfl) (fun _ h8 h9 => absurd h9 (Nat.not_le.mpr h8)) dJ20_append_2_18 21 rfl (nw_rdK ?_) nw_noX
  refine nw_ifeq C 37 dJ20_append_2_21 (by decide) 24 rfl (fun h1 => absurd h1 (by decide)) (fun _ => ?_)
  refine nw_iload_n C 3 dJ20_append_2_24 rfl 25 rfl ?_
  refine nw_iload_n C 0 dJ20_append_2_25 rfl 26 rfl ?_
  refine nw_aload_n C 2 dJ20_append_2_26 rfl 27 rfl ?_
  refine nw_get C hb.1 (T := TJ21) rfl in_J21 0 (by decide) q1341 (Or.inl rfl) rfl dJ20_append_2_27 30 rfl ?_
  refine nw_callS C (mJ19_getChars _ C.hfl d ar n c f H hB harB hb.2.1 hn hc) kJ19_getChars q1503 (As := [.int (nI c), .int (nI (n + 1)), .ref ar]) (rest := []) rfl rfl ⟨⟨Nat.le_of_ble_eq_true rfl, Nat.le_of_ble_eq_true rfl⟩, (show 0 + 0 ≤ 0 by omega), (show 0 + 0 ≤ 0 by omega)⟩ (Nat.le_of_ble_eq_true rfl) (fun q8 h8 h9 => h9.elim (fun e9 => Or.inr (Or.inl e9)) (fun e9 => absurd h8 (Nat.not_lt.mpr e9))) dJ20_append_2_30 33 rfl (fun v9 H2 hR3 hz4 hq5 => ?_) nw_noX
  obtain ⟨rfl, ho6⟩ := hR3
  have ho7 := hb.1.kept (hq5 _ hb.1.lt (fun e9 => e9.elim hga (Nat.not_le.mpr hb.1.lt)))
  have hsz := Nat.le_trans hsz hz4
  have hB := Nat.le_trans hB0 hsz
  show nwV X _ _ 4 H2 (0 + 0) (0 + 0) 33 [(3, .int (nI (n + 1))), (2, .int (nI n)), (0, .ref g), (1, .int (nI c))] [.int (nI n)]
  refine nw_wide (k' := 0) (n' := 0) (by omega) (by omega) ?_
  refine nw_pop C dJ20_append_2_33 rfl 34 rfl ?_
  refine nw_goto C 48 dJ20_append_2_34 (by decide) ?_
  refine nw_aload_n C 2 dJ20_append_2_48 rfl 49 rfl ?_
  refine nw_iload_n C 0 dJ20_append_2_49 rfl 50 rfl ?_
  refine nw_put C ho7 (Or.inl rfl) (T := TJ21) (ty0 := tyJ21) rfl in_J21 tyJ21_ok nmJ21 3 (by decide) q1344 (Or.inl rfl) rfl rfl rfl (Nat.le_of_ble_eq_true rfl) dJ20_append_2_50 53 rfl (fun H8 ho9 hz10 hq11 => ?_)
  have ho9 : nwO d g 17 [.ref ar, .int (nI 0), .int (b2i false), .int (nI (n + 1))] H8 := ho9
  have hsz := Nat.le_trans hsz (Nat.le_of_eq hz10.symm)
  have hB := Nat.le_trans hB0 hsz
  have ho12 := ho6.kept (hq11 _ (Ne.symm hga))
  refine nw_aload_n C 2 dJ20_append_2_53 rfl 54 rfl ?_
  exact nw_aret C (Or.inl ⟨_, rfl⟩) dJ20_append_2_54 (Nat.le_refl _) (Nat.le_refl _) ⟨rfl, _, ⟨ho9, ho12, hb.2.2.push (fun j hj => by unfold upd; rw [if_neg (by omega)]) ⟨48 + c, by omega, by unfold upd; rw [if_pos rfl]⟩⟩, (fun j hj => by unfold upd; rw [if_neg (by omega)]), (by unfold upd; rw [if_pos rfl])⟩
set_option maxHeartbeats 4000000 in
theorem mJ21_appendI (l : Launch) (hf : l.flags = flags0) (d : nwD) (g ar n : Nat) (f : Nat → Int32) (c : Nat) (H : Heap) (hB : nd_B d ≤ H.size) (hgB : nd_B d ≤ g) (harB : nd_B d ≤ ar) (hga : g ≠ ar) (hb : nwBd d g ar n f H) (hc : c < 10) (hn : n < 16) : nwMt l d yJ21_append_2 cJ21_append_2 2 (some (.object "java/lang/StringBuilder")) 3 69 0 0 [.ref g, .int (nI c)] H (fun v H1 => v = some (.ref g) ∧ ∃ f2 : Nat → Int32, nwBd d g ar (n + 1) f2 H1 ∧ (∀ j, j < n → f2 j = f j) ∧ f2 n = nI (48 + c)) nwNo (fun q => q = g ∨ q = ar ∨ H.size ≤ q) := by
  refine nw_start "java/lang/StringBuilder" "append" hf (by decide +kernel) rfl rfl (fun _ h => Or.inr (Or.inr h)) (fun q h => h.elim (fun e => by rw [e]; exact hgB) (fun h => h.elim (fun e => by rw [e]; exact harB) (fun h => Nat.le_trans hB h))) (Nat.le_of_ble_eq_true rfl) ?_
  intro X C
  have hE := C.E0
  have hB0 := hB
  have hsz : H.size ≤ H.size := Nat.le_refl _
  show nwV X _ _ 2 H 0 0 0 [(0, .ref g), (1, .int (nI c))] []
  refine nw_aload_n C 0 dJ21_append_2_0 rfl 1 rfl ?_
  refine nw_iload_n C 1 dJ21_append_2_1 rfl 2 rfl ?_
  refine nw_callZ C (mJ20_appendI _ C.hfl d g ar n f c H hB hgB harB hga ⟨hb.1, hb.2.1, hb.2.2⟩ hc hn) zJ20_append_2 (ci := 17) rfl q1497 (hb.1.is C (ci := 17) rfl) (As := [.int (nI c)]) (rest := []) rfl rfl ⟨⟨Nat.le_of_ble_eq_true rfl, Nat.le_of_ble_eq_true rfl⟩, (show 0 + 0 ≤ 0 by omega), (show 0 + 0 ≤ 0 by omega)⟩ (Nat.le_of_ble_eq_true rfl) (fun q8 h8 h9 => h9.elim Or.inl (fun e9 => e9.elim (fun e9 => Or.inr (Or.inl e9)) (fun e9 => absurd h8 (Nat.not_lt.mpr e9)))) dJ21_append_2_2 5 rfl (fun v9 H1 hR2 hz3 hq4 => ?_) nw_noX
  obtain ⟨rfl, f2, hb2, hk2, he2⟩ := hR2
  show nwV X _ _ 2 H1 (0 + 0) (0 + 0) 5 [(0, .ref g), (1, .int (nI c))] [.ref g]
  refine nw_wide (k' := 0) (n' := 0) (by omega) (by omega) ?_
  refine nw_pop C dJ21_append_2_5 rfl 6 rfl ?_
  refine nw_aload_n C 0 dJ21_append_2_6 rfl 7 rfl ?_
  exact nw_aret C (Or.inl ⟨_, rfl⟩) dJ21_append_2_7 (Nat.le_refl _) (Nat.le_refl _) ⟨rfl, f2, hb2, hk2, he2⟩
set_option maxHeartbeats 4000000 in
theorem mJ12_coder (l : Launch) (hf : l.flags = flags0) (d : nwD) (s v m : Nat) (fs : Nat → Int32) (H : Heap) (hB : nd_B d ≤ H.size) (hS : nwSs d s v m fs H) (hm20 : m < 2 ^ 20) : nwRd l d yJ12_coder cJ12_coder 1 (some .byte) 1 20 [.ref s] H (some (.int (nI 0))) := by
  refine nw_rd "java/lang/String" "coder" hf (by decide +kernel) rfl rfl hB (Nat.le_of_ble_eq_true rfl) ?_
  intro X C
  have hE := C.E0
  show nwV X _ _ 1 H 0 0 0 [(0, .ref s)] []
  rcases nwSs.cs hE hS with hc | ho
  · refine nw_gets C (v := .int (b2i true)) (fun _ _ h9 => h9.2.2.2.2.2.2.1.1) q1550 dJ12_coder_0 3 rfl ?_
    refine nw_ifeq C 13 dJ12_coder_3 (by decide) 6 rfl (fun h1 => absurd h1 (by decide)) (fun _ => ?_)
    refine nw_aload_n C 0 dJ12_coder_6 rfl 7 rfl ?_
    refine nw_getF C hc.2.1 q1585 dJ12_coder_7 10 rfl ?_
    refine nw_goto C 14 dJ12_coder_10 (by decide) ?_
    exact nw_nret C dJ12_coder_14 (by decide) (Nat.le_refl _) (Nat.le_refl _) ⟨congrArg (fun z => some (Value.int (nI z))) (show (0) = (0) from rfl), rfl⟩
  · refine nw_gets C (v := .int (b2i true)) (fun _ _ h9 => h9.2.2.2.2.2.2.1.1) q1550 dJ12_coder_0 3 rfl ?_
    refine nw_ifeq C 13 dJ12_coder_3 (by decide) 6 rfl (fun h2 => absurd h2 (by decide)) (fun _ => ?_)
    refine nw_aload_n C 0 dJ12_coder_6 rfl 7 rfl ?_
    refine nw_get C ho.1 (T := TJ12) rfl in_J12 1 (by decide) q1585 (Or.inl rfl) rfl dJ12_coder_7 10 rfl ?_
    refine nw_goto C 14 dJ12_coder_10 (by decide) ?_
    exact nw_nret C dJ12_coder_14 (by decide) (Nat.le_refl _) (Nat.le_refl _) ⟨congrArg (fun z => some (Value.int (nI z))) (show (0) = (0) from rfl), rfl⟩
set_option maxHeartbeats 4000000 in
theorem mJ12_length (l : Launch) (hf : l.flags = flags0) (d : nwD) (s v m : Nat) (fs : Nat → Int32) (H : Heap) (hB : nd_B d ≤ H.size) (hS : nwSs d s v m fs H) (hm20 : m < 2 ^ 20) : nwRd l d yJ12_length cJ12_length 1 (some .int) 2 40 [.ref s] H (some (.int (nI m))) := by
  refine nw_rd "java/lang/String" "length" hf (by decide +kernel) rfl rfl hB (Nat.le_of_ble_eq_true rfl) ?_
  intro X C
  have hE := C.E0
  show nwV X _ _ 1 H 0 0 0 [(0, .ref s)] []
  rcases nwSs.cs hE hS with hc | ho
  · refine nw_aload_n C 0 dJ12_length_0 rfl 1 rfl ?_
    refine nw_getF C hc.2.2.1 q1584 dJ12_length_1 4 rfl ?_
    refine nw_alenC C hc.2.2.2 dJ12_length_4 5 rfl ?_
    refine nw_aload_n C 0 dJ12_length_5 rfl 6 rfl ?_
    refine nw_callV C (mJ12_coder _ C.hfl d s v m fs H hB hS hm20) kJ12_coder q1546 (nwSs.is C hE hS) (As := []) (rest := [.int (nI m)]) rfl rfl ⟨⟨Nat.le_of_ble_eq_true rfl, Nat.le_of_ble_eq_true rfl⟩, Nat.le_of_ble_eq_true rfl, Nat.le_of_ble_eq_true rfl⟩ (Nat.le_of_ble_eq_true rfl) (fun _ h8 h9 => absurd h9 (Nat.not_le.mpr h8)) dJ12_length_6 9 rfl (nw_rdK ?_) nw_noX
    refine nw_ishr C (nI m) dJ12_length_9 (nw_shr0 _) 10 rfl ?_
    exact nw_iret C dJ12_length_10 (Nat.le_refl _) (Nat.le_refl _) ⟨congrArg (fun z => some (Value.int (nI z))) (show (m) = (m) from rfl), rfl⟩
  · refine nw_aload_n C 0 dJ12_length_0 rfl 1 rfl ?_
    refine nw_get C ho.1 (T := TJ12) rfl in_J12 0 (by decide) q1584 (Or.inl rfl) rfl dJ12_length_1 4 rfl ?_
    refine nw_alenI C ho.2.1 (by decide) dJ12_length_4 5 rfl ?_
    refine nw_aload_n C 0 dJ12_length_5 rfl 6 rfl ?_
    refine nw_callV C (mJ12_coder _ C.hfl d s v m fs H hB hS hm20) kJ12_coder q1546 (nwSs.is C hE hS) (As := []) (rest := [.int (nI m)]) rfl rfl ⟨⟨Nat.le_of_ble_eq_true rfl, Nat.le_of_ble_eq_true rfl⟩, Nat.le_of_ble_eq_true rfl, Nat.le_of_ble_eq_true rfl⟩ (Nat.le_of_ble_eq_true rfl) (fun _ h8 h9 => absurd h9 (Nat.not_le.mpr h8)) dJ12_length_6 9 rfl (nw_rdK ?_) nw_noX
    refine nw_ishr C (nI m) dJ12_length_9 (nw_shr0 _) 10 rfl ?_
    exact nw_iret C dJ12_length_10 (Nat.le_refl _) (Nat.le_refl _) ⟨congrArg (fun z => some (Value.int (nI z))) (show (m) = (m) from rfl), rfl⟩
set_option maxHeartbeats 4000000 in
theorem mJ20_inflateIfNeededFor (l : Launch) (hf : l.flags = flags0) (d : nwD) (g ar n : Nat) (f : Nat → Int32) (s v m : Nat) (fs : Nat → Int32) (H : Heap) (hB : nd_B d ≤ H.size) (hb : nwBd d g ar n f H) (hS : nwSs d s v m fs H) (hm20 : m < 2 ^ 20) : nwRd l d yJ20_inflateIfNeededFor cJ20_inflateIfNeededFor 2 none 2 40 [.ref g, .ref s] H (none) := by
  refine nw_rd "java/lang/AbstractStringBuilder" "inflateIfNeededFor" hf (by decide +kernel) rfl rfl hB (Nat.le_of_ble_eq_true rfl) ?_
  intro X C
  have hE := C.E0
  show nwV X _ _ 2 H 0 0 0 [(0, .ref g), (1, .ref s)] []
  refine nw_gets C (v := .int (b2i true)) (fun _ _ h9 => h9.2.2.2.2.2.2.1.1) q1332 dJ20_inflateIfNeededFor_0 3 rfl ?_
  refine nw_ifeq C 21 dJ20_inflateIfNeededFor_3 (by decide) 6 rfl (fun h1 => absurd h1 (by decide)) (fun _ => ?_)
  refine nw_aload_n C 0 dJ20_inflateIfNeededFor_6 rfl 7 rfl ?_
  refine nw_get C hb.1 (T := TJ21) rfl in_J21 1 (by decide) q1342 (Or.inl rfl) rfl dJ20_inflateIfNeededFor_7 10 rfl ?_
  refine nw_aload_n C 1 dJ20_inflateIfNeededFor_10 rfl 11 rfl ?_
  refine nw_callV C (mJ12_coder _ C.hfl d s v m fs H hB hS hm20) kJ12_coder q1559 (nwSs.is C hE hS) (As := []) (rest := [.int (nI 0)]) rfl rfl ⟨⟨Nat.le_of_ble_eq_true rfl, Nat.le_of_ble_eq_true rfl⟩, Nat.le_of_ble_eq_true rfl, Nat.le_of_ble_eq_true rfl⟩ (Nat.le_of_ble_eq_true rfl) (fun _ h8 h9 => absurd h9 (Nat.not_le.mpr h8)) dJ20_inflateIfNeededFor_11 14 rfl (nw_rdK ?_) nw_noX
  refine nw_icmpeq C 21 dJ20_inflateIfNeededFor_14 (by decide) 17 rfl (fun _ => ?_) (fun h2 => absurd (by decide) h2)
  exact nw_vret C dJ20_inflateIfNeededFor_21 (Nat.le_refl _) (Nat.le_refl _) ⟨rfl, rfl⟩
set_option maxHeartbeats 4000000 in
theorem mJ12_getBytes (l : Launch) (hf : l.flags = flags0) (d : nwD) (ar off : Nat) (f : Nat → Int32) (s v m : Nat) (fs : Nat → Int32) (H : Heap) (hB : nd_B d ≤ H.size) (harB : nd_B d ≤ ar) (hr : nwI d ar 2 16 f H) (hS : nwSs d s v m fs H) (hm20 : m < 2 ^ 20) (hom : off + m ≤ 16) : nwMt l d yJ12_getBytes cJ12_getBytes 4 none 2 60 0 0 [.ref s, .ref ar, .int (nI off), .int (nI 0)] H (fun v9 H1 => v9 = none ∧ nwI d ar 2 16 (va_cpy fs f 0 off m) H1) nwNo (fun q => q = ar ∨ H.size ≤ q) := by
  refine nw_start "java/lang/String" "getBytes" hf (by decide +kernel) rfl rfl (fun _ h => Or.inr h) (fun q h => h.elim (fun e => by rw [e]; exact harB) (fun h => Nat.le_trans hB h)) (Nat.le_of_ble_eq_true rfl) ?_
  intro X C
  have hE := C.E0
  have hB0 := hB
  have hsz : H.size ≤ H.size := Nat.le_refl _
  show nwV X _ _ 4 H 0 0 0 [(0, .ref s), (1, .ref ar), (2, .int (nI off)), (3, .int (nI 0))] []
  rcases nwSs.cs hE hS with hc | ho
  · refine nw_aload_n C 0 dJ12_getBytes_0 rfl 1 rfl ?_
    refine nw_callV C (mJ12_coder _ C.hfl d s v m fs H hB hS hm20) kJ12_coder q1546 (nwSs.is C hE hS) (As := []) (rest := []) rfl rfl ⟨⟨Nat.le_of_ble_eq_true rfl, Nat.le_of_ble_eq_true rfl⟩, Nat.le_of_ble_eq_true rfl, Nat.le_of_ble_eq_true rfl⟩ (Nat.le_of_ble_eq_true rfl) (fun _ h8 h9 => absurd h9 (Nat.not_le.mpr h8)) dJ12_getBytes_1 4 rfl (nw_rdK ?_) nw_noX
    refine nw_iload_n C 3 dJ12_getBytes_4 rfl 5 rfl ?_
    refine nw_icmpne C 28 dJ12_getBytes_5 (by decide) 8 rfl (fun h1 => absurd (by decide) h1) (fun _ => ?_)
    refine nw_aload_n C 0 dJ12_getBytes_8 rfl 9 rfl ?_
    refine nw_getF C hc.2.2.1 q1584 dJ12_getBytes_9 12 rfl ?_
    refine nw_iconst C (nI 0) dJ12_getBytes_12 (by decide) 13 rfl ?_
    refine nw_aload_n C 1 dJ12_getBytes_13 rfl 14 rfl ?_
    refine nw_iload_n C 2 dJ12_getBytes_14 rfl 15 rfl ?_
    refine nw_iload_n C 3 dJ12_getBytes_15 rfl 16 rfl ?_
    refine nw_ishl C (nI off) dJ12_getBytes_16 (nw_shl0 _) 17 rfl ?_
    refine nw_aload_n C 0 dJ12_getBytes_17 rfl 18 rfl ?_
    refine nw_getF C hc.2.2.1 q1584 dJ12_getBytes_18 21 rfl ?_
    refine nw_alenC C hc.2.2.2 dJ12_getBytes_21 22 rfl ?_
    refine nw_copyG C q1564 q955 q954 q113 (nwSrcB.ofT hc.2.2.2) hr (Or.inl rfl) (by omega) hS.by.fit dJ12_getBytes_22 ⟨Nat.le_of_ble_eq_true rfl, (show 8 + (nativeFrameWords "java/lang/System" "arraycopy" 5 + 11) ≤ _ by decide +kernel)⟩ (Nat.le_of_ble_eq_true rfl) 25 rfl (fun H2 ho3 hz4 hq5 => ?_)
    have hsz := Nat.le_trans hsz (Nat.le_of_eq hz4.symm)
    have hB := Nat.le_trans hB0 hsz
    refine nw_goto C 43 dJ12_getBytes_25 (by decide) ?_
    exact nw_vret C dJ12_getBytes_43 (Nat.le_refl _) (Nat.le_refl _) ⟨rfl, ho3⟩
  · refine nw_aload_n C 0 dJ12_getBytes_0 rfl 1 rfl ?_
    refine nw_callV C (mJ12_coder _ C.hfl d s v m fs H hB hS hm20) kJ12_coder q1546 (nwSs.is C hE hS) (As := []) (rest := []) rfl rfl ⟨⟨Nat.le_of_ble_eq_true rfl, Nat.le_of_ble_eq_true rfl⟩, Nat.le_of_ble_eq_true rfl, Nat.le_of_ble_eq_true rfl⟩ (Nat.le_of_ble_eq_true rfl) (fun _ h8 h9 => absurd h9 (Nat.not_le.mpr h8)) dJ12_getBytes_1 4 rfl (nw_rdK ?_) nw_noX
    refine nw_iload_n C 3 dJ12_getBytes_4 rfl 5 rfl ?_
    refine nw_icmpne C 28 dJ12_getBytes_5 (by decide) 8 rfl (fun h6 => absurd (by decide) h6) (fun _ => ?_)
    refine nw_aload_n C 0 dJ12_getBytes_8 rfl 9 rfl ?_
    refine nw_get C ho.1 (T := TJ12) rfl in_J12 0 (by decide) q1584 (Or.inl rfl) rfl dJ12_getBytes_9 12 rfl ?_
    refine nw_iconst C (nI 0) dJ12_getBytes_12 (by decide) 13 rfl ?_
    refine nw_aload_n C 1 dJ12_getBytes_13 rfl 14 rfl ?_
    refine nw_iload_n C 2 dJ12_getBytes_14 rfl 15 rfl ?_
    refine nw_iload_n C 3 dJ12_getBytes_15 rfl 16 rfl ?_
    refine nw_ishl C (nI off) dJ12_getBytes_16 (nw_shl0 _) 17 rfl ?_
    refine nw_aload_n C 0 dJ12_getBytes_17 rfl 18 rfl ?_
    refine nw_get C ho.1 (T := TJ12) rfl in_J12 0 (by decide) q1584 (Or.inl rfl) rfl dJ12_getBytes_18 21 rfl ?_
    refine nw_alenI C ho.2.1 (by decide) dJ12_getBytes_21 22 rfl ?_
    refine nw_copyG C q1564 q955 q954 q113 (nwSrcB.ofI C ho.2.1) hr (Or.inl rfl) (by omega) hS.by.fit dJ12_getBytes_22 ⟨Nat.le_of_ble_eq_true rfl, (show 8 + (nativeFrameWords "java/lang/System" "arraycopy" 5 + 11) ≤ _ by decide +kernel)⟩ (Nat.le_of_ble_eq_true rfl) 25 rfl (fun H7 ho8 hz9 hq10 => ?_)
    have hsz := Nat.le_trans hsz (Nat.le_of_eq hz9.symm)
    have hB := Nat.le_trans hB0 hsz
    refine nw_goto C 43 dJ12_getBytes_25 (by decide) ?_
    exact nw_vret C dJ12_getBytes_43 (Nat.le_refl _) (Nat.le_refl _) ⟨rfl, ho8⟩
set_option maxHeartbeats 4000000 in
theorem mJ20_putStringAt (l : Launch) (hf : l.flags = flags0) (d : nwD) (g ar n : Nat) (f : Nat → Int32) (s v m : Nat) (fs : Nat → Int32) (H : Heap) (hB : nd_B d ≤ H.size) (hgB : nd_B d ≤ g) (harB : nd_B d ≤ ar) (hga : g ≠ ar) (hb : nwBd d g ar n f H) (hS : nwSs d s v m fs H) (hm20 : m < 2 ^ 20) (hnm : n + m ≤ 16) : nwMt l d yJ20_putStringAt cJ20_putStringAt 3 none 3 83 0 0 [.ref g, .int (nI n), .ref s] H (fun v9 H1 => v9 = none ∧ nwO d g 17 [.ref ar, .int (nI 0), .int (b2i false), .int (nI n)] H1 ∧ nwI d ar 2 16 (va_cpy fs f 0 n m) H1) nwNo (fun q => q = g ∨ q = ar ∨ H.size ≤ q) := by
  refine nw_start "java/lang/AbstractStringBuilder" "putStringAt" hf (by decide +kernel) rfl rfl (fun _ h => Or.inr (Or.inr h)) (fun q h => h.elim (fun e => by rw [e]; exact hgB) (fun h => h.elim (fun e => by rw [e]; exact harB) (fun h => Nat.le_trans hB h))) (Nat.le_of_ble_eq_true rfl) ?_
  intro X C
  have hE := C.E0
  have hB0 := hB
  have hsz : H.size ≤ H.size := Nat.le_refl _
  show nwV X _ _ 3 H 0 0 0 [(0, .ref g), (1, .int (nI n)), (2, .ref s)] []
  refine nw_aload_n C 0 dJ20_putStringAt_0 rfl 1 rfl ?_
  refine nw_aload_n C 2 dJ20_putStringAt_1 rfl 2 rfl ?_
  refine nw_callU C (mJ20_inflateIfNeededFor _ C.hfl d g ar n f s v m fs H hB ⟨hb.1, hb.2.1, hb.2.2⟩ hS hm20) uJ20_inflateIfNeededFor q1555 (hb.1.is C (ci := 17) rfl) (As := [.ref s]) (rest := []) rfl rfl ⟨⟨Nat.le_of_ble_eq_true rfl, Nat.le_of_ble_eq_true rfl⟩, Nat.le_of_ble_eq_true rfl, Nat.le_of_ble_eq_true rfl⟩ (Nat.le_of_ble_eq_true rfl) (fun _ h8 h9 => absurd h9 (Nat.not_le.mpr h8)) dJ20_putStringAt_2 5 rfl (nw_rdK ?_) nw_noX
  refine nw_aload_n C 2 dJ20_putStringAt_5 rfl 6 rfl ?_
  refine nw_aload_n C 0 dJ20_putStringAt_6 rfl 7 rfl ?_
  refine nw_get C hb.1 (T := TJ21) rfl in_J21 0 (by decide) q1341 (Or.inl rfl) rfl dJ20_putStringAt_7 10 rfl ?_
  refine nw_iload_n C 1 dJ20_putStringAt_10 rfl 11 rfl ?_
  refine nw_aload_n C 0 dJ20_putStringAt_11 rfl 12 rfl ?_
  refine nw_get C hb.1 (T := TJ21) rfl in_J21 1 (by decide) q1342 (Or.inl rfl) rfl dJ20_putStringAt_12 15 rfl ?_
  refine nw_callV C (mJ12_getBytes _ C.hfl d ar n f s v m fs H hB harB hb.2.1 hS hm20 hnm) kJ12_getBytes q1560 (nwSs.is C hE hS) (As := [.ref ar, .int (nI n), .int (nI 0)]) (rest := []) rfl rfl ⟨⟨Nat.le_of_ble_eq_true rfl, Nat.le_of_ble_eq_true rfl⟩, (show 0 + 0 ≤ 0 by omega), (show 0 + 0 ≤ 0 by omega)⟩ (Nat.le_of_ble_eq_true rfl) (fun q8 h8 h9 => h9.elim (fun e9 => Or.inr (Or.inl e9)) (fun e9 => absurd h8 (Nat.not_lt.mpr e9))) dJ20_putStringAt_15 18 rfl (fun v9 H1 hR2 hz3 hq4 => ?_) nw_noX
  obtain ⟨rfl, ho5⟩ := hR2
  have ho6 := hb.1.kept (hq4 _ hb.1.lt (fun e9 => e9.elim hga (Nat.not_le.mpr hb.1.lt)))
  have hsz := Nat.le_trans hsz hz3
  have hB := Nat.le_trans hB0 hsz
  show nwV X _ _ 3 H1 (0 + 0) (0 + 0) 18 [(0, .ref g), (1, .int (nI n)), (2, .ref s)] []
  refine nw_wide (k' := 0) (n' := 0) (by omega) (by omega) ?_
  exact nw_vret C dJ20_putStringAt_18 (Nat.le_refl _) (Nat.le_refl _) ⟨rfl, ho6, ho5⟩
set_option maxHeartbeats 4000000 in
theorem mJ20_appendS (l : Launch) (hf : l.flags = flags0) (d : nwD) (g ar n : Nat) (f : Nat → Int32) (s v m : Nat) (fs : Nat → Int32) (H : Heap) (hB : nd_B d ≤ H.size) (hgB : nd_B d ≤ g) (harB : nd_B d ≤ ar) (hga : g ≠ ar) (hb : nwBd d g ar n f H) (hS : nwSs d s v m fs H) (hm20 : m < 2 ^ 20) (hnm : n + m ≤ 16) : nwMt l d yJ20_append_3 cJ20_append_3 3 (some (.object "java/lang/AbstractStringBuilder")) 4 105 0 0 [.ref g, .ref s] H (fun v H1 => v = some (.ref g) ∧ ∃ f2 : Nat → Int32, nwBd d g ar (n + m) f2 H1 ∧ (∀ j, j < n → f2 j = f j) ∧ ∀ j, j < m → f2 (n + j) = fs j) nwNo (fun q => q = g ∨ q = ar ∨ H.size ≤ q) := by
  refine nw_start "java/lang/AbstractStringBuilder" "append" hf (by decide +kernel) rfl rfl (fun _ h => Or.inr (Or.inr h)) (fun q h => h.elim (fun e => by rw [e]; exact hgB) (fun h => h.elim (fun e => by rw [e]; exact harB) (fun h => Nat.le_trans hB h))) (Nat.le_of_ble_eq_true rfl) ?_
  intro X C
  have hE := C.E0
  have hB0 := hB
  have hsz : H.size ≤ H.size := Nat.le_refl _
  show nwV X _ _ 3 H 0 0 0 [(0, .ref g), (1, .ref s)] []
  refine nw_aload_n C 1 dJ20_append_3_0 rfl 1 rfl ?_
  refine nw_ifnonnull C 9 dJ20_append_3_1 (by decide) ?_
  refine nw_aload_n C 1 dJ20_append_3_9 rfl 10 rfl ?_
  refine nw_callV C (mJ12_length _ C.hfl d s v m fs H hB hS hm20) kJ12_length q1542 (nwSs.is C hE hS) (As := []) (rest := []) rfl rfl ⟨⟨Nat.le_of_ble_eq_true rfl, Nat.le_of_ble_eq_true rfl⟩, Nat.le_of_ble_eq_true rfl, Nat.le_of_ble_eq_true rfl⟩ (Nat.le_of_ble_eq_true rfl) (fun _ h8 h9 => absurd h9 (Nat.not_le.mpr h8)) dJ20_append_3_10 13 rfl (nw_rdK ?_) nw_noX
  refine nw_istore_n C [(2, .int (nI m)), (0, .ref g), (1, .ref s)] dJ20_append_3_13 (by decide) rfl 14 rfl ?_
  refine nw_aload_n C 1 dJ20_append_3_14 rfl 15 rfl ?_
  refine nw_aload_n C 1 dJ20_append_3_15 rfl 16 rfl ?_
  refine nw_get C hb.1 (T := TJ21) rfl in_J21 3 (by decide) q1344 (Or.inl rfl) rfl dJ20_append_3_16 19 rfl ?_
  refine nw_iload_n C 0 dJ20_append_3_19 rfl 20 rfl ?_
  refine nw_iaddN C dJ20_append_3_20 21 rfl ?_
  refine nw_callU C (mJ20_ensureCapacityInternal _ C.hfl d g ar n f (n + m) H hB ⟨hb.1, hb.2.1, hb.2.2⟩ (by omega)) uJ20_ensureCapacityInternal q1384 (hb.1.is C (ci := 17) rfl) (As := [.int (nI (n + m))]) (rest := []) rfl rfl ⟨⟨Nat.le_of_ble_eq_true rfl, Nat.le_of_ble_eq_true rfl⟩, Nat.le_of_ble_eq_true rfl, Nat.le_of_ble_eq_true rfl⟩ (Nat.le_of_ble_eq_true rfl) (fun _ h8 h9 => absurd h9 (Nat.not_le.mpr h8)) dJ20_append_3_21 24 rfl (nw_rdK ?_) nw_noX
  refine nw_aload_n C 1 dJ20_append_3_24 rfl 25 rfl ?_
  refine nw_aload_n C 1 dJ20_append_3_25 rfl 26 rfl ?_
  refine nw_get C hb.1 (T := TJ21) rfl in_J21 3 (by decide) q1344 (Or.inl rfl) rfl dJ20_append_3_26 29 rfl ?_
  refine nw_aload_n C 2 dJ20_append_3_29 rfl 30 rfl ?_
  refine nw_callU C (mJ20_putStringAt _ C.hfl d g ar n f s v m fs H hB hgB harB hga ⟨hb.1, hb.2.1, hb.2.2⟩ hS hm20 hnm) uJ20_putStringAt q1551 (hb.1.is C (ci := 17) rfl) (As := [.int (nI n), .ref s]) (rest := []) rfl rfl ⟨⟨Nat.le_of_ble_eq_true rfl, Nat.le_of_ble_eq_true rfl⟩, (show 0 + 0 ≤ 0 by omega), (show 0 + 0 ≤ 0 by omega)⟩ (Nat.le_of_ble_eq_true rfl) (fun q8 h8 h9 => h9.elim Or.inl (fun e9 => e9.elim (fun e9 => Or.inr (Or.inl e9)) (fun e9 => absurd h8 (Nat.not_lt.mpr e9)))) dJ20_append_3_30 33 rfl (fun v9 H1 hR2 hz3 hq4 => ?_) nw_noX
  obtain ⟨rfl, ho5, ho6⟩ := hR2
  have hsz := Nat.le_trans hsz hz3
  have hB := Nat.le_trans hB0 hsz
  show nwV X _ _ 3 H1 (0 + 0) (0 + 0) 33 [(2, .int (nI m)), (0, .ref g), (1, .ref s)] []
  refine nw_wide (k' := 0) (n' := 0) (by omega) (by omega) ?_
  have h1c : ∀ j, j < n → va_cpy fs f 0 n m j = f j := fun j hj => if_neg (by omega)
  have h2c : ∀ j, j < m → va_cpy fs f 0 n m (n + j) = fs j := fun j hj => (if_pos ⟨by omega, by omega⟩).trans (by rw [show 0 + (n + j - n) = j by omega])
  refine nw_aload_n C 1 dJ20_append_3_33 rfl 34 rfl ?_
  refine nw_dup C dJ20_append_3_34 rfl 35 rfl ?_
  refine nw_get C ho5 (T := TJ21) rfl in_J21 3 (by decide) q1344 (Or.inl rfl) rfl dJ20_append_3_35 38 rfl ?_
  refine nw_iload_n C 0 dJ20_append_3_38 rfl 39 rfl ?_
  refine nw_iaddN C dJ20_append_3_39 40 rfl ?_
  refine nw_put C ho5 (Or.inl rfl) (T := TJ21) (ty0 := tyJ21) rfl in_J21 tyJ21_ok nmJ21 3 (by decide) q1344 (Or.inl rfl) rfl rfl rfl (Nat.le_of_ble_eq_true rfl) dJ20_append_3_40 43 rfl (fun H7 ho8 hz9 hq10 => ?_)
  have ho8 : nwO d g 17 [.ref ar, .int (nI 0), .int (b2i false), .int (nI (n + m))] H7 := ho8
  have hsz := Nat.le_trans hsz (Nat.le_of_eq hz9.symm)
  have hB := Nat.le_trans hB0 hsz
  have ho11 := ho6.kept (hq10 _ (Ne.symm hga))
  refine nw_aload_n C 1 dJ20_append_3_43 rfl 44 rfl ?_
  exact nw_aret C (Or.inl ⟨_, rfl⟩) dJ20_append_3_44 (Nat.le_refl _) (Nat.le_refl _) ⟨rfl, _, ⟨ho8, ho11, hb.2.2.cat hS.by h1c h2c⟩, h1c, h2c⟩
set_option maxHeartbeats 4000000 in
theorem mJ21_appendS (l : Launch) (hf : l.flags = flags0) (d : nwD) (g ar n : Nat) (f : Nat → Int32) (s v m : Nat) (fs : Nat → Int32) (H : Heap) (hB : nd_B d ≤ H.size) (hgB : nd_B d ≤ g) (harB : nd_B d ≤ ar) (hga : g ≠ ar) (hb : nwBd d g ar n f H) (hS : nwSs d s v m fs H) (hm20 : m < 2 ^ 20) (hnm : n + m ≤ 16) : nwMt l d yJ21_append_3 cJ21_append_3 2 (some (.object "java/lang/StringBuilder")) 5 127 0 0 [.ref g, .ref s] H (fun v H1 => v = some (.ref g) ∧ ∃ f2 : Nat → Int32, nwBd d g ar (n + m) f2 H1 ∧ (∀ j, j < n → f2 j = f j) ∧ ∀ j, j < m → f2 (n + j) = fs j) nwNo (fun q => q = g ∨ q = ar ∨ H.size ≤ q) := by
  refine nw_start "java/lang/StringBuilder" "append" hf (by decide +kernel) rfl rfl (fun _ h => Or.inr (Or.inr h)) (fun q h => h.elim (fun e => by rw [e]; exact hgB) (fun h => h.elim (fun e => by rw [e]; exact harB) (fun h => Nat.le_trans hB h))) (Nat.le_of_ble_eq_true rfl) ?_
  intro X C
  have hE := C.E0
  have hB0 := hB
  have hsz : H.size ≤ H.size := Nat.le_refl _
  show nwV X _ _ 2 H 0 0 0 [(0, .ref g), (1, .ref s)] []
  refine nw_aload_n C 0 dJ21_append_3_0 rfl 1 rfl ?_
  refine nw_aload_n C 1 dJ21_append_3_1 rfl 2 rfl ?_
  refine nw_callZ C (mJ20_appendS _ C.hfl d g ar n f s v m fs H hB hgB harB hga ⟨hb.1, hb.2.1, hb.2.2⟩ hS hm20 hnm) zJ20_append_3 (ci := 17) rfl q1532 (hb.1.is C (ci := 17) rfl) (As := [.ref s]) (rest := []) rfl rfl ⟨⟨Nat.le_of_ble_eq_true rfl, Nat.le_of_ble_eq_true rfl⟩, (show 0 + 0 ≤ 0 by omega), (show 0 + 0 ≤ 0 by omega)⟩ (Nat.le_of_ble_eq_true rfl) (fun q8 h8 h9 => h9.elim Or.inl (fun e9 => e9.elim (fun e9 => Or.inr (Or.inl e9)) (fun e9 => absurd h8 (Nat.not_lt.mpr e9)))) dJ21_append_3_2 5 rfl (fun v9 H1 hR2 hz3 hq4 => ?_) nw_noX
  obtain ⟨rfl, f2, hb2, hk2, he2⟩ := hR2
  show nwV X _ _ 2 H1 (0 + 0) (0 + 0) 5 [(0, .ref g), (1, .ref s)] [.ref g]
  refine nw_wide (k' := 0) (n' := 0) (by omega) (by omega) ?_
  refine nw_pop C dJ21_append_3_5 rfl 6 rfl ?_
  refine nw_aload_n C 0 dJ21_append_3_6 rfl 7 rfl ?_
  exact nw_aret C (Or.inl ⟨_, rfl⟩) dJ21_append_3_7 (Nat.le_refl _) (Nat.le_refl _) ⟨rfl, f2, hb2, hk2, he2⟩
set_option maxHeartbeats 4000000 in
theorem mJ17_checkLength (l : Launch) (hf : l.flags = flags0) (d : nwD) (n : Nat) (H : Heap) (hB : nd_B d ≤ H.size) (hn : n < 2 ^ 31) : nwRd l d yJ17_checkLength cJ17_checkLength 2 none 1 20 [.int (nI 0), .int (nI n)] H (none) := by
  refine nw_rd "java/util/Arrays" "checkLength" hf (by decide +kernel) rfl rfl hB (Nat.le_of_ble_eq_true rfl) ?_
  intro X C
  show nwV X _ _ 2 H 0 0 0 [(0, .int (nI 0)), (1, .int (nI n))] []
  refine nw_iload_n C 1 dJ17_checkLength_0 rfl 1 rfl ?_
  refine nw_iload_n C 0 dJ17_checkLength_1 rfl 2 rfl ?_
  refine nw_icmpge C 37 dJ17_checkLength_2 (by decide) 5 rfl (fun _ => ?_) (fun h1 => absurd ((nI_leI' (by decide) (by omega)).mpr (Nat.zero_le _)) h1)
  exact nw_vret C dJ17_checkLength_37 (Nat.le_refl _) (Nat.le_refl _) ⟨rfl, rfl⟩
set_option maxHeartbeats 4000000 in
theorem mJ17_copyOfRangeByte (l : Launch) (hf : l.flags = flags0) (d : nwD) (a n : Nat) (f : Nat → Int32) (H : Heap) (hB : nd_B d ≤ H.size) (hI : nwI d a 2 16 f H) (hn : n < 16) (hby : nwBy n f) : nwMt l d yJ17_copyOfRangeByte cJ17_copyOfRangeByte 5 (some (.array .byte)) 2 60 1 16 [.ref a, .int (nI 0), .int (nI n)] H (fun v H1 => (∃ x : Nat, v = some (.ref x) ∧ H.size ≤ x ∧ nwI d x 2 n f H1) ∧ nwExt H H1) nwNo (nwNew H) := by
  refine nw_start "java/util/Arrays" "copyOfRangeByte" hf (by decide +kernel) rfl rfl (fun _ h => h) (fun q h => Nat.le_trans hB h) (Nat.le_of_ble_eq_true rfl) ?_
  intro X C
  have hI0 := hI
  have hB0 := hB
  have hE := C.E0
  have hext : nwExt H H := nwExt.rfl
  show nwV X _ _ 5 H 0 0 0 [(0, .ref a), (1, .int (nI 0)), (2, .int (nI n))] []
  refine nw_iload_n C 1 dJ17_copyOfRangeByte_0 rfl 1 rfl ?_
  refine nw_iload_n C 2 dJ17_copyOfRangeByte_1 rfl 2 rfl ?_
  refine nw_callS C (mJ17_checkLength _ C.hfl d n H hB (by omega)) kJ17_checkLength q1487 (As := [.int (nI 0), .int (nI n)]) (rest := []) rfl rfl ⟨⟨Nat.le_of_ble_eq_true rfl, Nat.le_of_ble_eq_true rfl⟩, Nat.le_of_ble_eq_true rfl, Nat.le_of_ble_eq_true rfl⟩ (Nat.le_of_ble_eq_true rfl) (fun _ h8 h9 => absurd h9 (Nat.not_le.mpr h8)) dJ17_copyOfRangeByte_2 5 rfl (nw_rdK ?_) nw_noX
  refine nw_iload_n C 2 dJ17_copyOfRangeByte_5 rfl 6 rfl ?_
  refine nw_iload_n C 1 dJ17_copyOfRangeByte_6 rfl 7 rfl ?_
  refine nw_isub C (nI n) dJ17_copyOfRangeByte_7 (nw_sub0 _) 8 rfl ?_
  refine nw_istore_n C [(3, .int (nI n)), (0, .ref a), (1, .int (nI 0)), (2, .int (nI n))] dJ17_copyOfRangeByte_8 (by decide) rfl 9 rfl ?_
  refine nw_iload_n C 0 dJ17_copyOfRangeByte_9 rfl 10 rfl ?_
  refine nw_newb C (by omega) 1 16 (by omega) (by omega) ⟨(show 1 ≤ 1 by omega), (show 16 ≤ 16 by omega)⟩ dJ17_copyOfRangeByte_10 12 rfl (fun a1 H2 hx3 ho4 hz5 hq6 => ?_)
  have hn7 : H.size ≤ a1 := (by rw [hx3]; exact hext.1)
  have hext := hext.made hz5 hq6
  have hI := hI0.ext hext.2
  have hE := C.E0.ext hext.2
  have hB := Nat.le_trans hB0 hext.1
  refine nw_astore C [(4, .ref a1), (3, .int (nI n)), (0, .ref a), (1, .int (nI 0)), (2, .int (nI n))] dJ17_copyOfRangeByte_12 (by decide) rfl 14 rfl ?_
  refine nw_aload_n C 2 dJ17_copyOfRangeByte_14 rfl 15 rfl ?_
  refine nw_iload_n C 3 dJ17_copyOfRangeByte_15 rfl 16 rfl ?_
  refine nw_aload C 0 dJ17_copyOfRangeByte_16 rfl 18 rfl ?_
  refine nw_iconst C (nI 0) dJ17_copyOfRangeByte_18 (by decide) 19 rfl ?_
  refine nw_aload_n C 2 dJ17_copyOfRangeByte_19 rfl 20 rfl ?_
  refine nw_alenI C hI (by decide) dJ17_copyOfRangeByte_20 21 rfl ?_
  refine nw_iload_n C 3 dJ17_copyOfRangeByte_21 rfl 22 rfl ?_
  refine nw_isubN C (by omega) dJ17_copyOfRangeByte_22 23 rfl ?_
  refine nw_iload_n C 1 dJ17_copyOfRangeByte_23 rfl 24 rfl ?_
  refine nw_mmin C (nI n) q952 q389 q108 q390 ((nw_minN (by omega)).trans (by rw [show min (16 - 0) n = n by omega])) ⟨Nat.le_of_ble_eq_true rfl, Nat.le_of_ble_eq_true rfl, Nat.le_of_ble_eq_true rfl, Nat.le_of_ble_eq_true rfl⟩ (Nat.le_of_ble_eq_true rfl) dJ17_copyOfRangeByte_24 27 rfl ?_
  refine nw_copyG C q953 q955 q954 q113 (nwSrcB.ofI C hI) ho4 hn7 (by omega) hby.fit dJ17_copyOfRangeByte_27 ⟨Nat.le_of_ble_eq_true rfl, (show 8 + (nativeFrameWords "java/lang/System" "arraycopy" 5 + 11) ≤ _ by decide +kernel)⟩ (Nat.le_of_ble_eq_true rfl) 30 rfl (fun H8 ho9 hz10 hq11 => ?_)
  have hext := hext.put hz10 hq11 hn7
  have hI := hI0.ext hext.2
  have hE := C.E0.ext hext.2
  have hB := Nat.le_trans hB0 hext.1
  refine nw_aload C 0 dJ17_copyOfRangeByte_30 rfl 32 rfl ?_
  exact nw_aret C (Or.inr ⟨_, rfl⟩) dJ17_copyOfRangeByte_32 (by omega) (by omega) ⟨⟨a1, rfl, hn7, nwI.congr ho9 (fun j hj => (if_pos ⟨Nat.zero_le _, by omega⟩).trans (by rw [show 0 + (j - 0) = j by omega]))⟩, hext⟩
set_option maxHeartbeats 4000000 in
theorem mJ17_copyOfRange (l : Launch) (hf : l.flags = flags0) (d : nwD) (a n : Nat) (f : Nat → Int32) (H : Heap) (hB : nd_B d ≤ H.size) (hI : nwI d a 2 16 f H) (hn : n < 16) (hby : nwBy n f) : nwMt l d yJ17_copyOfRange cJ17_copyOfRange 3 (some (.array .byte)) 3 84 1 16 [.ref a, .int (nI 0), .int (nI n)] H (fun v H1 => (∃ x : Nat, v = some (.ref x) ∧ H.size ≤ x ∧ nwI d x 2 n f H1) ∧ nwExt H H1) nwNo (nwNew H) := by
  refine nw_start "java/util/Arrays" "copyOfRange" hf (by decide +kernel) rfl rfl (fun _ h => h) (fun q h => Nat.le_trans hB h) (Nat.le_of_ble_eq_true rfl) ?_
  intro X C
  have hI0 := hI
  have hB0 := hB
  have hE := C.E0
  have hext : nwExt H H := nwExt.rfl
  show nwV X _ _ 3 H 0 0 0 [(0, .ref a), (1, .int (nI 0)), (2, .int (nI n))] []
  refine nw_iload_n C 1 dJ17_copyOfRange_0 rfl 1 rfl ?_
  refine nw_ifne C 10 dJ17_copyOfRange_1 (by decide) 4 rfl (fun h1 => absurd (by decide) h1) (fun _ => ?_)
  refine nw_iload_n C 2 dJ17_copyOfRange_4 rfl 5 rfl ?_
  refine nw_aload_n C 0 dJ17_copyOfRange_5 rfl 6 rfl ?_
  refine nw_alenI C hI (by decide) dJ17_copyOfRange_6 7 rfl ?_
  refine nw_icmpeq C 17 dJ17_copyOfRange_7 (by decide) 10 rfl (fun h2 => absurd h2 (fun e9 => absurd ((nI_eq (by omega) (by decide)).mp e9) (by omega))) (fun _ => ?_)
  refine nw_aload_n C 0 dJ17_copyOfRange_10 rfl 11 rfl ?_
  refine nw_iload_n C 1 dJ17_copyOfRange_11 rfl 12 rfl ?_
  refine nw_iload_n C 2 dJ17_copyOfRange_12 rfl 13 rfl ?_
  refine nw_callS C (mJ17_copyOfRangeByte _ C.hfl d a n f H hB hI hn hby) kJ17_copyOfRangeByte q1484 (As := [.ref a, .int (nI 0), .int (nI n)]) (rest := []) rfl rfl ⟨⟨Nat.le_of_ble_eq_true rfl, Nat.le_of_ble_eq_true rfl⟩, (show 0 + 1 ≤ 1 by omega), (show 0 + 16 ≤ 16 by omega)⟩ (Nat.le_of_ble_eq_true rfl) (fun _ h8 h9 => absurd h9 (Nat.not_le.mpr h8)) dJ17_copyOfRange_13 16 rfl (fun v9 H3 hR4 hz5 hq6 => ?_) nw_noX
  obtain ⟨⟨ar7, rfl, hn8, hi9⟩, hx10⟩ := hR4
  have hres := hx10
  show nwV X _ _ 3 H3 (0 + 1) (0 + 16) 16 [(0, .ref a), (1, .int (nI 0)), (2, .int (nI n))] [.ref ar7]
  refine nw_wide (k' := 1) (n' := 16) (by omega) (by omega) ?_
  exact nw_aret C (Or.inr ⟨_, rfl⟩) dJ17_copyOfRange_16 (by omega) (by omega) ⟨⟨ar7, rfl, hn8, hi9⟩, hres⟩
set_option maxHeartbeats 4000000 in
theorem mJ12_init2 (l : Launch) (hf : l.flags = flags0) (d : nwD) (g : Nat) (b ar n : Nat) (f : Nat → Int32) (H : Heap) (hB : nd_B d ≤ H.size) (hgB : nd_B d ≤ g) (hg : nwO d g 18 [.null, .int (nI 0), .int (nI 0), .int (b2i false)] H) (hb : nwBd d b ar n f H) (hn : n < 16) (hbg : b ≠ g) (harg : ar ≠ g) : nwMt l d yJ12_init_2 cJ12_init_2 5 none 4 106 1 16 [.ref g, .ref b, .null] H (fun v H1 => v = none ∧ ∃ v9 : Nat, H.size ≤ v9 ∧ nwSo d g v9 n f H1) nwNo (fun q => q = g ∨ H.size ≤ q) := by
  refine nw_start "java/lang/String" "<init>" hf (by decide +kernel) rfl rfl (fun _ h => Or.inr h) (fun q h => h.elim (fun e => by rw [e]; exact hgB) (fun h => Nat.le_trans hB h)) (Nat.le_of_ble_eq_true rfl) ?_
  intro X C
  have hE := C.E0
  have hB0 := hB
  have hsz : H.size ≤ H.size := Nat.le_refl _
  show nwV X _ _ 5 H 0 0 0 [(0, .ref g), (1, .ref b), (2, .null)] []
  have hby := hb.2.2
  refine nw_aload_n C 0 dJ12_init_2_0 rfl 1 rfl ?_
  refine nw_objInit C q1466 q133 q134 dJ12_init_2_1 ⟨Nat.le_of_ble_eq_true rfl, Nat.le_of_ble_eq_true rfl⟩ (Nat.le_of_ble_eq_true rfl) 4 rfl ?_
  refine nw_aload_n C 1 dJ12_init_2_4 rfl 5 rfl ?_
  refine nw_callU C (mJ20_getValue _ C.hfl d b ar n f H hB ⟨hb.1, hb.2.1, hby⟩) uJ20_getValue q1467 (hb.1.is C (ci := 17) rfl) (As := []) (rest := []) rfl rfl ⟨⟨Nat.le_of_ble_eq_true rfl, Nat.le_of_ble_eq_true rfl⟩, Nat.le_of_ble_eq_true rfl, Nat.le_of_ble_eq_true rfl⟩ (Nat.le_of_ble_eq_true rfl) (fun _ h8 h9 => absurd h9 (Nat.not_le.mpr h8)) dJ12_init_2_5 8 rfl (nw_rdK ?_) nw_noX
  refine nw_astore_n C [(3, .ref ar), (0, .ref g), (1, .ref b), (2, .null)] dJ12_init_2_8 (by decide) rfl 9 rfl ?_
  refine nw_aload_n C 2 dJ12_init_2_9 rfl 10 rfl ?_
  refine nw_callO C (mJ21_length _ C.hfl d b ar n f H hB ⟨hb.1, hb.2.1, hby⟩) oJ21_length q1472 (hb.1.is C (ci := 17) rfl) (As := []) (rest := []) rfl rfl ⟨⟨Nat.le_of_ble_eq_true rfl, Nat.le_of_ble_eq_true rfl⟩, Nat.le_of_ble_eq_true rfl, Nat.le_of_ble_eq_true rfl⟩ (Nat.le_of_ble_eq_true rfl) (fun _ h8 h9 => absurd h9 (Nat.not_le.mpr h8)) dJ12_init_2_10 13 rfl (nw_rdK ?_) nw_noX
  refine nw_istore C [(4, .int (nI n)), (3, .ref ar), (0, .ref g), (1, .ref b), (2, .null)] dJ12_init_2_13 (by decide) rfl 15 rfl ?_
  refine nw_aload_n C 3 dJ12_init_2_15 rfl 16 rfl ?_
  refine nw_callU C (mJ20_isLatin1 _ C.hfl d b ar n f H hB ⟨hb.1, hb.2.1, hby⟩) uJ20_isLatin1 q1480 (hb.1.is C (ci := 17) rfl) (As := []) (rest := []) rfl rfl ⟨⟨Nat.le_of_ble_eq_true rfl, Nat.le_of_ble_eq_true rfl⟩, Nat.le_of_ble_eq_true rfl, Nat.le_of_ble_eq_true rfl⟩ (Nat.le_of_ble_eq_true rfl) (fun _ h8 h9 => absurd h9 (Nat.not_le.mpr h8)) dJ12_init_2_16 19 rfl (nw_rdK ?_) nw_noX
  refine nw_ifeq C 41 dJ12_init_2_19 (by decide) 22 rfl (fun h1 => absurd h1 (by decide)) (fun _ => ?_)
  refine nw_aload_n C 2 dJ12_init_2_22 rfl 23 rfl ?_
  refine nw_iconst C (nI 0) dJ12_init_2_23 (by decide) 24 rfl ?_
  refine nw_putF C hg (Or.inl rfl) (T := TJ12) (ty0 := tyJ12) rfl in_J12 tyJ12_ok nmJ12 1 (by decide) q1585 rfl rfl rfl rfl (Nat.le_of_ble_eq_true rfl) dJ12_init_2_24 27 rfl (fun H2 ho3 hz4 hq5 => ?_)
  have ho3 : nwO d g 18 [.null, .int (nI 0), .int (nI 0), .int (b2i false)] H2 := ho3
  have hsz := Nat.le_trans hsz (Nat.le_of_eq hz4.symm)
  have hB := Nat.le_trans hB0 hsz
  have ho6 := hb.1.kept (hq5 _ hbg)
  have ho7 := hb.2.1.kept (hq5 _ harg)
  refine nw_aload_n C 2 dJ12_init_2_27 rfl 28 rfl ?_
  refine nw_aload_n C 1 dJ12_init_2_28 rfl 29 rfl ?_
  refine nw_iconst C (nI 0) dJ12_init_2_29 (by decide) 30 rfl ?_
  refine nw_iload C 0 dJ12_init_2_30 rfl 32 rfl ?_
  refine nw_callS C (mJ17_copyOfRange _ C.hfl d ar n f H2 hB ho7 hn hby) kJ17_copyOfRange q1481 (As := [.ref ar, .int (nI 0), .int (nI n)]) (rest := [.ref g]) rfl rfl ⟨⟨Nat.le_of_ble_eq_true rfl, Nat.le_of_ble_eq_true rfl⟩, (show 0 + 1 ≤ 1 by omega), (show 0 + 16 ≤ 16 by omega)⟩ (Nat.le_of_ble_eq_true rfl) (fun _ h8 h9 => absurd h9 (Nat.not_le.mpr h8)) dJ12_init_2_32 35 rfl (fun v9 H8 hR9 hz10 hq11 => ?_) nw_noX
  obtain ⟨⟨ar12, rfl, hn13, hi14⟩, hx15⟩ := hR9
  have hn16 : H.size ≤ ar12 := Nat.le_trans hsz hn13
  have hne17 : g ≠ ar12 := Nat.ne_of_lt (Nat.lt_of_lt_of_le ho3.lt hn13)
  have ho18 := ho3.kept (hx15.2 _ ho3.lt)
  have hsz := Nat.le_trans hsz hz10
  have hB := Nat.le_trans hB0 hsz
  show nwV X _ _ 5 H8 (0 + 1) (0 + 16) 35 [(4, .int (nI n)), (3, .ref ar), (0, .ref g), (1, .ref b), (2, .null)] [.ref ar12, .ref g]
  refine nw_wide (k' := 1) (n' := 16) (by omega) (by omega) ?_
  refine nw_putF C ho18 (Or.inl rfl) (T := TJ12) (ty0 := tyJ12) rfl in_J12 tyJ12_ok nmJ12 0 (by decide) q1584 rfl rfl rfl rfl (Nat.le_of_ble_eq_true rfl) dJ12_init_2_35 38 rfl (fun H19 ho20 hz21 hq22 => ?_)
  have ho20 : nwO d g 18 [.ref ar12, .int (nI 0), .int (nI 0), .int (b2i false)] H19 := ho20
  have hsz := Nat.le_trans hsz (Nat.le_of_eq hz21.symm)
  have hB := Nat.le_trans hB0 hsz
  have ho23 := hi14.kept (hq22 _ (Ne.symm hne17))
  refine nw_goto C 97 dJ12_init_2_38 (by decide) ?_
  exact nw_vret C dJ12_init_2_97 (by omega) (by omega) ⟨rfl, ar12, hn16, ho20, ho23, hby⟩
set_option maxHeartbeats 4000000 in
theorem mJ12_init1 (l : Launch) (hf : l.flags = flags0) (d : nwD) (g : Nat) (b ar n : Nat) (f : Nat → Int32) (H : Heap) (hB : nd_B d ≤ H.size) (hgB : nd_B d ≤ g) (hg : nwO d g 18 [.null, .int (nI 0), .int (nI 0), .int (b2i false)] H) (hb : nwBd d b ar n f H) (hn : n < 16) (hbg : b ≠ g) (harg : ar ≠ g) : nwMt l d yJ12_init cJ12_init 2 none 5 130 1 16 [.ref g, .ref b] H (fun v H1 => v = none ∧ ∃ v9 : Nat, H.size ≤ v9 ∧ nwSo d g v9 n f H1) nwNo (fun q => q = g ∨ H.size ≤ q) := by
  refine nw_start "java/lang/String" "<init>" hf (by decide +kernel) rfl rfl (fun _ h => Or.inr h) (fun q h => h.elim (fun e => by rw [e]; exact hgB) (fun h => Nat.le_trans hB h)) (Nat.le_of_ble_eq_true rfl) ?_
  intro X C
  have hE := C.E0
  have hB0 := hB
  have hsz : H.size ≤ H.size := Nat.le_refl _
  show nwV X _ _ 2 H 0 0 0 [(0, .ref g), (1, .ref b)] []
  refine nw_aload_n C 0 dJ12_init_0 rfl 1 rfl ?_
  refine nw_aload_n C 1 dJ12_init_1 rfl 2 rfl ?_
  refine nw_null C dJ12_init_2 3 rfl ?_
  refine nw_callI C (mJ12_init2 _ C.hfl d g b ar n f H hB hgB hg hb hn hbg harg) kJ12_init_2 q1463 (As := [.ref b, .null]) (rest := []) rfl rfl ⟨⟨Nat.le_of_ble_eq_true rfl, Nat.le_of_ble_eq_true rfl⟩, (show 0 + 1 ≤ 1 by omega), (show 0 + 16 ≤ 16 by omega)⟩ (Nat.le_of_ble_eq_true rfl) (fun _ _ h => h) dJ12_init_3 6 rfl (fun v9 H1 hR2 hz3 hq4 => ?_) nw_noX
  obtain ⟨rfl, v9, hn9, hso9⟩ := hR2
  show nwV X _ _ 2 H1 (0 + 1) (0 + 16) 6 [(0, .ref g), (1, .ref b)] []
  refine nw_wide (k' := 1) (n' := 16) (by omega) (by omega) ?_
  exact nw_vret C dJ12_init_6 (by omega) (by omega) ⟨rfl, v9, hn9, hso9⟩
set_option maxHeartbeats 4000000 in
theorem mJ21_toString (l : Launch) (hf : l.flags = flags0) (d : nwD) (g ar n : Nat) (f : Nat → Int32) (H : Heap) (hB : nd_B d ≤ H.size) (hb : nwBd d g ar n f H) (hn : n < 16) : nwMt l d yJ21_toString cJ21_toString 1 (some (.object "java/lang/String")) 6 151 2 20 [.ref g] H (fun v H1 => (∃ s v9 : Nat, v = some (.ref s) ∧ H.size ≤ s ∧ H.size ≤ v9 ∧ nwSo d s v9 n f H1) ∧ nwExt H H1) nwNo (nwNew H) := by
  refine nw_start "java/lang/StringBuilder" "toString" hf (by decide +kernel) rfl rfl (fun _ h => h) (fun q h => Nat.le_trans hB h) (Nat.le_of_ble_eq_true rfl) ?_
  intro X C
  have hb0 := hb
  have hB0 := hB
  have hE := C.E0
  have hext : nwExt H H := nwExt.rfl
  show nwV X _ _ 1 H 0 0 0 [(0, .ref g)] []
  refine nw_new C (ci := 18) (T := TJ12) (ty0 := tyJ12) [.null, .int (nI 0), .int (nI 0), .int (b2i false)] rfl in_J12 tyJ12_ok q1459 q799 q106 (fun j hj => by rcases (show j = 0 ∨ j = 1 ∨ j = 2 ∨ j = 3 by omega) with rfl | rfl | rfl | rfl <;> rfl) 1 4 (by omega) (by omega) ⟨(show 1 ≤ 2 by omega), (show 4 ≤ 20 by omega)⟩ dJ21_toString_0 3 rfl (fun a1 H2 hx3 ho4 hz5 hq6 => ?_)
  have hn7 : H.size ≤ a1 := (by rw [hx3]; exact hext.1)
  have hext := hext.made hz5 hq6
  have hb := hb0.ext hext.2
  have hE := C.E0.ext hext.2
  have hB := Nat.le_trans hB0 hext.1
  refine nw_dup C dJ21_toString_3 rfl 4 rfl ?_
  refine nw_aload_n C 0 dJ21_toString_4 rfl 5 rfl ?_
  have hbx : g ≠ a1 ∧ ar ≠ a1 := ⟨Nat.ne_of_lt (Nat.lt_of_lt_of_le hb0.1.lt hn7), Nat.ne_of_lt (Nat.lt_of_lt_of_le hb0.2.1.lt hn7)⟩
  refine nw_callI C (mJ12_init1 _ C.hfl d a1 g ar n f H2 hB (Nat.le_trans hB0 hn7) ho4 hb hn hbx.1 hbx.2) kJ12_init q1460 (As := [.ref g]) (rest := [.ref a1]) rfl rfl ⟨⟨Nat.le_of_ble_eq_true rfl, Nat.le_of_ble_eq_true rfl⟩, (show 1 + 1 ≤ 2 by omega), (show 4 + 16 ≤ 20 by omega)⟩ (Nat.le_of_ble_eq_true rfl) (fun q8 h8 h9 => h9.elim (fun e9 => by rw [e9]; exact hn7) (fun e9 => absurd h8 (Nat.not_lt.mpr e9))) dJ21_toString_5 8 rfl (fun v9 H8 hR9 hz10 hq11 => ?_) nw_noX
  obtain ⟨rfl, v9, hn9, hso9⟩ := hR9
  have hext9 := hext.step hz10 hq11 (fun q9 e9 => e9.elim (fun e9 => by rw [e9]; exact hn7) (fun e9 => Nat.le_trans hext.1 e9))
  have hvN := Nat.le_trans hext.1 hn9
  show nwV X _ _ 1 H8 (1 + 1) (4 + 16) 8 [(0, .ref g)] [.ref a1]
  refine nw_wide (k' := 2) (n' := 20) (by omega) (by omega) ?_
  exact nw_aret C (Or.inl ⟨_, rfl⟩) dJ21_toString_8 (by omega) (by omega) ⟨⟨a1, v9, rfl, hn7, hvN, hso9⟩, hext9⟩
set_option maxHeartbeats 4000000 in
theorem mJ23_equals (l : Launch) (hf : l.flags = flags0) (d : nwD) (va vb n : Nat) (f f2 : Nat → Int32) (H : Heap) (hB : nd_B d ≤ H.size) (ha : nwI d va 2 n f H) (hb2 : nwI d vb 2 n f2 H) (hn : n < 2 ^ 20) (hff : ∀ j, j < n → f j = f2 j) : nwRd l d yJ23_equals cJ23_equals 3 (some .boolean) 1 20 [.ref va, .ref vb] H (some (.int (b2i true))) := by
  refine nw_rd "java/lang/StringLatin1" "equals" hf (by decide +kernel) rfl rfl hB (Nat.le_of_ble_eq_true rfl) ?_
  intro X C
  show nwV X _ _ 3 H 0 0 0 [(0, .ref va), (1, .ref vb)] []
  refine nw_aload_n C 0 dJ23_equals_0 rfl 1 rfl ?_
  refine nw_alenI C ha (by decide) dJ23_equals_1 2 rfl ?_
  refine nw_aload_n C 1 dJ23_equals_2 rfl 3 rfl ?_
  refine nw_alenI C hb2 (by decide) dJ23_equals_3 4 rfl ?_
  refine nw_icmpne C 34 dJ23_equals_4 (by decide) 7 rfl (fun h2 => absurd rfl h2) (fun _ => ?_)
  refine nw_iconst C (nI 0) dJ23_equals_7 (by decide) 8 rfl ?_
  refine nw_istore_n C [(2, .int (nI 0)), (0, .ref va), (1, .ref vb)] dJ23_equals_8 (by decide) rfl 9 rfl ?_
  have lp1 : ∀ (fu : Nat) (i : Nat), (i ≤ n) → n - i < fu → nwV X (nwNew H) (nwQE X (fun v H1 => v = some (.int (b2i true)) ∧ H1 = H) nwNo (nwNew H) 0 0) 3 H 0 0 9 [(0, .ref va), (1, .ref vb), (2, .int (nI i))] [] := by
    intro fu
    induction fu with
    | zero => intro i _ hm; exact absurd hm (Nat.not_lt_zero _)
    | succ fu ih_lp1 =>
      intro i hi hm
      refine nw_iload_n C 2 dJ23_equals_9 rfl 10 rfl ?_
      refine nw_aload_n C 0 dJ23_equals_10 rfl 11 rfl ?_
      refine nw_alenI C ha (by decide) dJ23_equals_11 12 rfl ?_
      refine nw_icmpgeN C (by omega) 32 dJ23_equals_12 (by decide) 15 rfl (fun h3 => ?_) (fun h3 => ?_)
      · refine nw_iconst C (nI 1) dJ23_equals_32 (by decide) 33 rfl ?_
        exact nw_nret C dJ23_equals_33 (b2i_narrow true) (Nat.le_refl _) (Nat.le_refl _) ⟨congrArg (fun z => some (Value.int (b2i z))) (show (true) = (true) from rfl), rfl⟩
      · refine nw_aload_n C 0 dJ23_equals_15 rfl 16 rfl ?_
        refine nw_iload_n C 2 dJ23_equals_16 rfl 17 rfl ?_
        refine nw_baldN C (f i) ha (by omega) rfl dJ23_equals_17 18 rfl ?_
        refine nw_aload_n C 1 dJ23_equals_18 rfl 19 rfl ?_
        refine nw_iload_n C 2 dJ23_equals_19 rfl 20 rfl ?_
        refine nw_baldN C (f2 i) hb2 (by omega) rfl dJ23_equals_20 21 rfl ?_
        refine nw_icmpeq C 26 dJ23_equals_21 (by decide) 24 rfl (fun _ => ?_) (fun h4 => absurd (hff i (by omega)) h4)
        refine nw_iincN C 2 (c0 := 1) [(2, .int (nI (i + 1))), (0, .ref va), (1, .ref vb)] dJ23_equals_26 rfl (by decide) rfl 29 rfl ?_
        refine nw_goto C 9 dJ23_equals_29 (by decide) ?_
        exact (nw_sub [1, 2, 0] rfl (ih_lp1 (i + 1) (by omega) (by omega)))
  exact (nw_sub [1, 2, 0] rfl (lp1 _ 0 (Nat.zero_le _) (Nat.lt_succ_self _)))
set_option maxHeartbeats 4000000 in
theorem mJ12_equals (l : Launch) (hf : l.flags = flags0) (d : nwD) (s1 s2 va vb n : Nat) (f f2 : Nat → Int32) (H : Heap) (hB : nd_B d ≤ H.size) (h1 : nwSo d s1 va n f H) (h2 : nwSo d s2 vb n f2 H) (hne : s1 ≠ s2) (hn : n < 2 ^ 20) (hff : ∀ j, j < n → f j = f2 j) : nwRd l d yJ12_equals cJ12_equals 3 (some .boolean) 2 42 [.ref s1, .ref s2] H (some (.int (b2i true))) := by
  refine nw_rd "java/lang/String" "equals" hf (by decide +kernel) rfl rfl hB (Nat.le_of_ble_eq_true rfl) ?_
  intro X C
  show nwV X _ _ 3 H 0 0 0 [(0, .ref s1), (1, .ref s2)] []
  refine nw_aload_n C 0 dJ12_equals_0 rfl 1 rfl ?_
  refine nw_aload_n C 1 dJ12_equals_1 rfl 2 rfl ?_
  refine nw_acmpne C 7 dJ12_equals_2 (by decide) 5 rfl (fun _ => ?_) (fun h1 => absurd h1 hne)
  refine nw_aload_n C 1 dJ12_equals_7 rfl 8 rfl ?_
  refine nw_instE C q2103 (h2.1.is C (ci := 18) rfl) dJ12_equals_8 11 rfl ?_
  refine nw_ifeq C 54 dJ12_equals_11 (by decide) 14 rfl (fun h2 => absurd h2 (by decide)) (fun _ => ?_)
  refine nw_aload_n C 1 dJ12_equals_14 rfl 15 rfl ?_
  refine nw_cast C (ci := 18) rfl (h2.1.is C (ci := 18) rfl) q2103 dJ12_equals_15 18 rfl ?_
  refine nw_astore_n C [(2, .ref s2), (0, .ref s1), (1, .ref s2)] dJ12_equals_18 (by decide) rfl 19 rfl ?_
  refine nw_gets C (v := .int (b2i true)) (fun _ _ h9 => h9.2.2.2.2.2.2.1.1) q1550 dJ12_equals_19 22 rfl ?_
  refine nw_ifeq C 36 dJ12_equals_22 (by decide) 25 rfl (fun h3 => absurd h3 (by decide)) (fun _ => ?_)
  refine nw_aload_n C 1 dJ12_equals_25 rfl 26 rfl ?_
  refine nw_get C h1.1 (T := TJ12) rfl in_J12 1 (by decide) q1585 (Or.inl rfl) rfl dJ12_equals_26 29 rfl ?_
  refine nw_aload_n C 0 dJ12_equals_29 rfl 30 rfl ?_
  refine nw_get C h2.1 (T := TJ12) rfl in_J12 1 (by decide) q1585 (Or.inl rfl) rfl dJ12_equals_30 33 rfl ?_
  refine nw_icmpne C 54 dJ12_equals_33 (by decide) 36 rfl (fun h4 => absurd (by decide) h4) (fun _ => ?_)
  refine nw_aload_n C 1 dJ12_equals_36 rfl 37 rfl ?_
  refine nw_get C h1.1 (T := TJ12) rfl in_J12 0 (by decide) q1584 (Or.inl rfl) rfl dJ12_equals_37 40 rfl ?_
  refine nw_aload_n C 0 dJ12_equals_40 rfl 41 rfl ?_
  refine nw_get C h2.1 (T := TJ12) rfl in_J12 0 (by decide) q1584 (Or.inl rfl) rfl dJ12_equals_41 44 rfl ?_
  refine nw_callS C (mJ23_equals _ C.hfl d va vb n f f2 H hB h1.2.1 h2.2.1 hn hff) kJ23_equals q2104 (As := [.ref va, .ref vb]) (rest := []) rfl rfl ⟨⟨Nat.le_of_ble_eq_true rfl, Nat.le_of_ble_eq_true rfl⟩, Nat.le_of_ble_eq_true rfl, Nat.le_of_ble_eq_true rfl⟩ (Nat.le_of_ble_eq_true rfl) (fun _ h8 h9 => absurd h9 (Nat.not_le.mpr h8)) dJ12_equals_44 47 rfl (nw_rdK ?_) nw_noX
  refine nw_ifeq C 54 dJ12_equals_47 (by decide) 50 rfl (fun h5 => absurd h5 (by decide)) (fun _ => ?_)
  refine nw_iconst C (nI 1) dJ12_equals_50 (by decide) 51 rfl ?_
  refine nw_goto C 55 dJ12_equals_51 (by decide) ?_
  exact nw_nret C dJ12_equals_55 (b2i_narrow true) (Nat.le_refl _) (Nat.le_refl _) ⟨congrArg (fun z => some (Value.int (b2i z))) (show (true) = (true) from rfl), rfl⟩
