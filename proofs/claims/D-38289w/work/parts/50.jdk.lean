theorem nwLi.is {d : nwD} {X : nwX} {A : Nat → Prop} {nL : Nat} {H H0 : Heap} {own mn : String} {cc : ByteArray} {ret : Option FieldType} {rm : Room} {tb : List ExceptionTableEntry} {a n : Nat} {es : Nat → Nat} {P : Nat → Prop} (h : nwLi d a n es P H) (C : nwC d X A H0 own mn cc nL ret rm tb) : nwIs (nx_s X) "java/util/ArrayList" a H := by
  obtain ⟨ar, cap, mo, f, ⟨hLo, -⟩, -⟩ := h
  exact hLo.is C (ci := 13) rfl
theorem kJ5_checkIndex : nwPS yJ5_checkIndex cJ5_checkIndex 3 (some .int) 3 := ⟨⟨q358, q95, q359⟩, by decide +kernel, by decide +kernel, by decide +kernel⟩
theorem kJ4_checkIndex : nwPS yJ4_checkIndex cJ4_checkIndex 2 (some .int) 2 := ⟨⟨q355, q94, q356⟩, by decide +kernel, by decide +kernel, by decide +kernel⟩
theorem kJ3_elementData : nwPV "java/util/ArrayList" yJ3_elementData cJ3_elementData 2 (some (.object "java/lang/Object")) 1 := ⟨⟨q361, q362, q90, q363⟩, rfl, by decide +kernel, by decide +kernel, by decide +kernel⟩
theorem kJ3_get : nwPV "java/util/ArrayList" yJ3_get cJ3_get 2 (some (.object "java/lang/Object")) 1 := ⟨⟨q351, q352, q90, q353⟩, rfl, by decide +kernel, by decide +kernel, by decide +kernel⟩
theorem kJ3_size : nwPV "java/util/ArrayList" yJ3_size cJ3_size 1 (some .int) 0 := ⟨⟨q347, q348, q90, q349⟩, rfl, by decide +kernel, by decide +kernel, by decide +kernel⟩
theorem fc_List_size : (⟨"java/util/List", "size", "()I"⟩ : MethodName).cls ≠ "java/lang/invoke/MethodHandle" ∧ (⟨"java/util/List", "size", "()I"⟩ : MethodName).cls ≠ "java/lang/invoke/VarHandle" ∧ (parseMethodDescriptor (⟨"java/util/List", "size", "()I"⟩ : MethodName).desc).map (fun d => d.parameters.length) = some 0 := by decide +kernel
theorem fc_List_get : (⟨"java/util/List", "get", "(I)Ljava/lang/Object;"⟩ : MethodName).cls ≠ "java/lang/invoke/MethodHandle" ∧ (⟨"java/util/List", "get", "(I)Ljava/lang/Object;"⟩ : MethodName).cls ≠ "java/lang/invoke/VarHandle" ∧ (parseMethodDescriptor (⟨"java/util/List", "get", "(I)Ljava/lang/Object;"⟩ : MethodName).desc).map (fun d => d.parameters.length) = some 1 := by decide +kernel
set_option maxHeartbeats 4000000 in
theorem mJ5_checkIndex (l : Launch) (hf : l.flags = flags0) (d : nwD) (i n : Nat) (H : Heap) (hB : nd_B d ≤ H.size) (hi : i < n) (hn : n < 2 ^ 31) : nwRd l d yJ5_checkIndex cJ5_checkIndex 3 (some .int) 1 20 [.int (nI i), .int (nI n), .null] H (some (.int (nI i))) := by
  refine nw_rd "jdk/internal/util/Preconditions" "checkIndex" hf (by decide +kernel) rfl rfl hB (Nat.le_of_ble_eq_true rfl) ?_
  intro X C
  show nwV X _ _ 3 H 0 0 0 [(0, .int (nI i)), (1, .int (nI n)), (2, .null)] []
  refine nw_iload_n C 0 dJ5_checkIndex_0 rfl 1 rfl ?_
  refine nw_ifltN C (by omega) 9 dJ5_checkIndex_1 (by decide) 4 rfl ?_
  refine nw_iload_n C 0 dJ5_checkIndex_4 rfl 5 rfl ?_
  refine nw_iload_n C 1 dJ5_checkIndex_5 rfl 6 rfl ?_
  refine nw_icmplt C 16 dJ5_checkIndex_6 (by decide) 9 rfl (fun _ => ?_) (fun h2 => absurd ((nI_ltI (by omega) hn).mpr hi) h2)
  refine nw_iload_n C 0 dJ5_checkIndex_16 rfl 17 rfl ?_
  exact nw_iret C dJ5_checkIndex_17 (Nat.le_refl _) (Nat.le_refl _) ⟨congrArg (fun z => some (Value.int (nI z))) (show (i) = (i) from rfl), rfl⟩
set_option maxHeartbeats 4000000 in
theorem mJ4_checkIndex (l : Launch) (hf : l.flags = flags0) (d : nwD) (i n : Nat) (H : Heap) (hB : nd_B d ≤ H.size) (hi : i < n) (hn : n < 2 ^ 31) : nwRd l d yJ4_checkIndex cJ4_checkIndex 2 (some .int) 2 42 [.int (nI i), .int (nI n)] H (some (.int (nI i))) := by
  refine nw_rd "java/util/Objects" "checkIndex" hf (by decide +kernel) rfl rfl hB (Nat.le_of_ble_eq_true rfl) ?_
  intro X C
  show nwV X _ _ 2 H 0 0 0 [(0, .int (nI i)), (1, .int (nI n))] []
  refine nw_iload_n C 0 dJ4_checkIndex_0 rfl 1 rfl ?_
  refine nw_iload_n C 1 dJ4_checkIndex_1 rfl 2 rfl ?_
  refine nw_null C dJ4_checkIndex_2 3 rfl ?_
  refine nw_callS C (mJ5_checkIndex _ C.hfl d i n H hB (by omega) (by omega)) kJ5_checkIndex q357 (As := [.int (nI i), .int (nI n), .null]) (rest := []) rfl rfl ⟨⟨Nat.le_of_ble_eq_true rfl, Nat.le_of_ble_eq_true rfl⟩, Nat.le_of_ble_eq_true rfl, Nat.le_of_ble_eq_true rfl⟩ (Nat.le_of_ble_eq_true rfl) (fun _ h8 h9 => absurd h9 (Nat.not_le.mpr h8)) dJ4_checkIndex_3 6 rfl (nw_rdK ?_) nw_noX
  exact nw_iret C dJ4_checkIndex_6 (Nat.le_refl _) (Nat.le_refl _) ⟨congrArg (fun z => some (Value.int (nI z))) (show (i) = (i) from rfl), rfl⟩
set_option maxHeartbeats 4000000 in
theorem mJ4_requireNonNull (l : Launch) (hf : l.flags = flags0) (d : nwD) (a : Nat) (H : Heap) (hB : nd_B d ≤ H.size)  : nwRd l d yJ4_requireNonNull cJ4_requireNonNull 1 (some (.object "java/lang/Object")) 1 20 [.ref a] H (some (.ref a)) := by
  refine nw_rd "java/util/Objects" "requireNonNull" hf (by decide +kernel) rfl rfl hB (Nat.le_of_ble_eq_true rfl) ?_
  intro X C
  show nwV X _ _ 1 H 0 0 0 [(0, .ref a)] []
  refine nw_aload_n C 0 dJ4_requireNonNull_0 rfl 1 rfl ?_
  refine nw_ifnonnull C 12 dJ4_requireNonNull_1 (by decide) ?_
  refine nw_aload_n C 0 dJ4_requireNonNull_12 rfl 13 rfl ?_
  exact nw_aret C (Or.inl ⟨_, rfl⟩) dJ4_requireNonNull_13 (Nat.le_refl _) (Nat.le_refl _) ⟨congrArg (fun z => some (Value.ref z)) (show (a) = (a) from rfl), rfl⟩
set_option maxHeartbeats 4000000 in
theorem mJ19_intValue (l : Launch) (hf : l.flags = flags0) (d : nwD) (v : Nat) (H : Heap) (hB : nd_B d ≤ H.size) (hv : v < 128) : nwRd l d yJ19_intValue cJ19_intValue 1 (some .int) 1 20 [.ref (nd_bx d v)] H (some (.int (nI v))) := by
  refine nw_rd "java/lang/Integer" "intValue" hf (by decide +kernel) rfl rfl hB (Nat.le_of_ble_eq_true rfl) ?_
  intro X C
  have hE := C.E0
  show nwV X _ _ 1 H 0 0 0 [(0, .ref (nd_bx d v))] []
  refine nw_aload_n C 0 dJ19_intValue_0 rfl 1 rfl ?_
  refine nw_getF C (hE.box hv) q1016 dJ19_intValue_1 4 rfl ?_
  exact nw_iret C dJ19_intValue_4 (Nat.le_refl _) (Nat.le_refl _) ⟨congrArg (fun z => some (Value.int (nI z))) (show (v) = (v) from rfl), rfl⟩
set_option maxHeartbeats 4000000 in
theorem mJ19_valueOf (l : Launch) (hf : l.flags = flags0) (d : nwD) (v : Nat) (H : Heap) (hB : nd_B d ≤ H.size) (hv : v < 128) : nwRd l d yJ19_valueOf cJ19_valueOf 1 (some (.object "java/lang/Integer")) 1 20 [.int (nI v)] H (some (.ref (nd_bx d v))) := by
  refine nw_rd "java/lang/Integer" "valueOf" hf (by decide +kernel) rfl rfl hB (Nat.le_of_ble_eq_true rfl) ?_
  intro X C
  show nwV X _ _ 1 H 0 0 0 [(0, .int (nI v))] []
  refine nw_iload_n C 0 dJ19_valueOf_0 rfl 1 rfl ?_
  refine nw_bipush C ((-128)) dJ19_valueOf_1 (by decide) 3 rfl ?_
  refine nw_icmplt C 23 dJ19_valueOf_3 (by decide) 6 rfl (fun h1 => absurd h1 (nw_m128 (by omega))) (fun _ => ?_)
  refine nw_iload_n C 0 dJ19_valueOf_6 rfl 7 rfl ?_
  refine nw_gets C (v := .int (nI 127)) (fun _ _ h9 => h9.2.1.1) q1003 dJ19_valueOf_7 10 rfl ?_
  refine nw_icmpgt C 23 dJ19_valueOf_10 (by decide) 13 rfl (fun h2 => absurd h2 (fun e9 => absurd ((nI_ltI (by decide) (by omega)).mp e9) (by omega))) (fun _ => ?_)
  refine nw_gets C (v := .ref (nd_st d 6)) (fun _ _ h9 => h9.2.1.2.1) q1005 dJ19_valueOf_13 16 rfl ?_
  refine nw_iload_n C 0 dJ19_valueOf_16 rfl 17 rfl ?_
  refine nw_sipush C (nI 128) dJ19_valueOf_17 (by decide) 20 rfl ?_
  refine nw_iaddN C dJ19_valueOf_20 21 rfl ?_
  refine nw_aaldT C (nd_st d (1000 + (v + 128))) (N := 256) (f := fun j => .ref (nd_st d (1000 + j))) (fun _ _ h9 => h9.2.1.2.2.1) (by omega) rfl dJ19_valueOf_21 22 rfl ?_
  exact nw_aret C (Or.inl ⟨_, rfl⟩) dJ19_valueOf_22 (Nat.le_refl _) (Nat.le_refl _) ⟨congrArg (fun z => some (Value.ref z)) (show (nd_st d (1000 + (v + 128))) = (nd_bx d v) from by show nd_st d _ = nd_st d _; congr 1; omega), rfl⟩
set_option maxHeartbeats 4000000 in
theorem mJ0_isPresent (l : Launch) (hf : l.flags = flags0) (d : nwD) (o g : Nat) (H : Heap) (hB : nd_B d ≤ H.size) (hO : nwO d o 15 [.ref g] H) : nwRd l d yJ0_isPresent cJ0_isPresent 1 (some .boolean) 1 20 [.ref o] H (some (.int (b2i true))) := by
  refine nw_rd "java/util/Optional" "isPresent" hf (by decide +kernel) rfl rfl hB (Nat.le_of_ble_eq_true rfl) ?_
  intro X C
  show nwV X _ _ 1 H 0 0 0 [(0, .ref o)] []
  refine nw_aload_n C 0 dJ0_isPresent_0 rfl 1 rfl ?_
  refine nw_get C hO (T := TJ0) rfl in_J0 0 (by decide) q761 (Or.inl rfl) rfl dJ0_isPresent_1 4 rfl ?_
  refine nw_ifnull C dJ0_isPresent_4 7 rfl ?_
  refine nw_iconst C (nI 1) dJ0_isPresent_7 (by decide) 8 rfl ?_
  refine nw_goto C 12 dJ0_isPresent_8 (by decide) ?_
  exact nw_nret C dJ0_isPresent_12 (b2i_narrow true) (Nat.le_refl _) (Nat.le_refl _) ⟨congrArg (fun z => some (Value.int (b2i z))) (show (true) = (true) from rfl), rfl⟩
set_option maxHeartbeats 4000000 in
theorem mJ0_get (l : Launch) (hf : l.flags = flags0) (d : nwD) (o g : Nat) (H : Heap) (hB : nd_B d ≤ H.size) (hO : nwO d o 15 [.ref g] H) : nwRd l d yJ0_get cJ0_get 1 (some (.object "java/lang/Object")) 1 20 [.ref o] H (some (.ref g)) := by
  refine nw_rd "java/util/Optional" "get" hf (by decide +kernel) rfl rfl hB (Nat.le_of_ble_eq_true rfl) ?_
  intro X C
  show nwV X _ _ 1 H 0 0 0 [(0, .ref o)] []
  refine nw_aload_n C 0 dJ0_get_0 rfl 1 rfl ?_
  refine nw_get C hO (T := TJ0) rfl in_J0 0 (by decide) q761 (Or.inl rfl) rfl dJ0_get_1 4 rfl ?_
  refine nw_ifnonnull C 17 dJ0_get_4 (by decide) ?_
  refine nw_aload_n C 0 dJ0_get_17 rfl 18 rfl ?_
  refine nw_get C hO (T := TJ0) rfl in_J0 0 (by decide) q761 (Or.inl rfl) rfl dJ0_get_18 21 rfl ?_
  exact nw_aret C (Or.inl ⟨_, rfl⟩) dJ0_get_21 (Nat.le_refl _) (Nat.le_refl _) ⟨congrArg (fun z => some (Value.ref z)) (show (g) = (g) from rfl), rfl⟩
set_option maxHeartbeats 4000000 in
theorem mJ0_isPresentE (l : Launch) (hf : l.flags = flags0) (d : nwD)  (H : Heap) (hB : nd_B d ≤ H.size)  : nwRd l d yJ0_isPresent cJ0_isPresent 1 (some .boolean) 1 20 [.ref (nd_st d 4)] H (some (.int (b2i false))) := by
  refine nw_rd "java/util/Optional" "isPresent" hf (by decide +kernel) rfl rfl hB (Nat.le_of_ble_eq_true rfl) ?_
  intro X C
  have hE := C.E0
  show nwV X _ _ 1 H 0 0 0 [(0, .ref (nd_st d 4))] []
  refine nw_aload_n C 0 dJ0_isPresent_0 rfl 1 rfl ?_
  refine nw_getF C hE.2.2.2.2.1.2.2 q761 dJ0_isPresent_1 4 rfl ?_
  refine nw_ifnullN C 11 dJ0_isPresent_4 (by decide) ?_
  refine nw_iconst C (nI 0) dJ0_isPresent_11 (by decide) 12 rfl ?_
  exact nw_nret C dJ0_isPresent_12 (b2i_narrow false) (Nat.le_refl _) (Nat.le_refl _) ⟨congrArg (fun z => some (Value.int (b2i z))) (show (false) = (false) from rfl), rfl⟩
set_option maxHeartbeats 4000000 in
theorem mJ0_empty (l : Launch) (hf : l.flags = flags0) (d : nwD)  (H : Heap) (hB : nd_B d ≤ H.size)  : nwRd l d yJ0_empty cJ0_empty 1 (some (.object "java/util/Optional")) 1 20 [] H (some (.ref (nd_st d 4))) := by
  refine nw_rd "java/util/Optional" "empty" hf (by decide +kernel) rfl rfl hB (Nat.le_of_ble_eq_true rfl) ?_
  intro X C
  show nwV X _ _ 1 H 0 0 0 [] []
  refine nw_gets C (v := .ref (nd_st d 4)) (fun _ _ h9 => h9.2.2.2.2.1.1) q138 dJ0_empty_0 3 rfl ?_
  refine nw_astore_n C [(0, .ref (nd_st d 4))] dJ0_empty_3 (by decide) rfl 4 rfl ?_
  refine nw_aload_n C 0 dJ0_empty_4 rfl 5 rfl ?_
  exact nw_aret C (Or.inl ⟨_, rfl⟩) dJ0_empty_5 (Nat.le_refl _) (Nat.le_refl _) ⟨congrArg (fun z => some (Value.ref z)) (show (nd_st d 4) = (nd_st d 4) from rfl), rfl⟩
set_option maxHeartbeats 4000000 in
theorem mJ3_size (l : Launch) (hf : l.flags = flags0) (d : nwD) (a n : Nat) (es : Nat → Nat) (P : Nat → Prop) (H : Heap) (hB : nd_B d ≤ H.size) (hL : nwLi d a n es P H) : nwRd l d yJ3_size cJ3_size 1 (some .int) 1 20 [.ref a] H (some (.int (nI n))) := by
  refine nw_rd "java/util/ArrayList" "size" hf (by decide +kernel) rfl rfl hB (Nat.le_of_ble_eq_true rfl) ?_
  intro X C
  obtain ⟨ar, cap, mo, f, ⟨hLo, hn1, hn2, hLa⟩, hP, hf⟩ := id hL
  show nwV X _ _ 1 H 0 0 0 [(0, .ref a)] []
  refine nw_aload_n C 0 dJ3_size_0 rfl 1 rfl ?_
  refine nw_get C hLo (T := TJ3) rfl in_J3 2 (by decide) q157 (Or.inl rfl) rfl dJ3_size_1 4 rfl ?_
  exact nw_iret C dJ3_size_4 (Nat.le_refl _) (Nat.le_refl _) ⟨congrArg (fun z => some (Value.int (nI z))) (show (n) = (n) from rfl), rfl⟩
set_option maxHeartbeats 4000000 in
theorem mJ3_elementData (l : Launch) (hf : l.flags = flags0) (d : nwD) (a n : Nat) (es : Nat → Nat) (P : Nat → Prop) (k : Nat) (H : Heap) (hB : nd_B d ≤ H.size) (hL : nwLi d a n es P H) (hk : k < n) : nwRd l d yJ3_elementData cJ3_elementData 2 (some (.object "java/lang/Object")) 1 20 [.ref a, .int (nI k)] H (some (.ref (es k))) := by
  refine nw_rd "java/util/ArrayList" "elementData" hf (by decide +kernel) rfl rfl hB (Nat.le_of_ble_eq_true rfl) ?_
  intro X C
  obtain ⟨ar, cap, mo, f, ⟨hLo, hn1, hn2, hLa⟩, hP, hf⟩ := id hL
  have hLr : nwR d ar 3 cap f H := by rcases hLa with ⟨h, -⟩ | ⟨-, h⟩; omega; exact h
  show nwV X _ _ 2 H 0 0 0 [(0, .ref a), (1, .int (nI k))] []
  refine nw_aload_n C 0 dJ3_elementData_0 rfl 1 rfl ?_
  refine nw_get C hLo (T := TJ3) rfl in_J3 1 (by decide) q154 (Or.inl rfl) rfl dJ3_elementData_1 4 rfl ?_
  refine nw_iload_n C 1 dJ3_elementData_4 rfl 5 rfl ?_
  refine nw_aaldN C (es k) hLr (by omega) (hf _ hk) dJ3_elementData_5 6 rfl ?_
  exact nw_aret C (Or.inl ⟨_, rfl⟩) dJ3_elementData_6 (Nat.le_refl _) (Nat.le_refl _) ⟨congrArg (fun z => some (Value.ref z)) (show (es k) = (es k) from rfl), rfl⟩
set_option maxHeartbeats 4000000 in
theorem mJ3_get (l : Launch) (hf : l.flags = flags0) (d : nwD) (a n : Nat) (es : Nat → Nat) (P : Nat → Prop) (k : Nat) (H : Heap) (hB : nd_B d ≤ H.size) (hL : nwLi d a n es P H) (hk : k < n) : nwRd l d yJ3_get cJ3_get 2 (some (.object "java/lang/Object")) 3 63 [.ref a, .int (nI k)] H (some (.ref (es k))) := by
  refine nw_rd "java/util/ArrayList" "get" hf (by decide +kernel) rfl rfl hB (Nat.le_of_ble_eq_true rfl) ?_
  intro X C
  obtain ⟨ar, cap, mo, f, ⟨hLo, hn1, hn2, hLa⟩, hP, hf⟩ := id hL
  show nwV X _ _ 2 H 0 0 0 [(0, .ref a), (1, .int (nI k))] []
  refine nw_iload_n C 1 dJ3_get_0 rfl 1 rfl ?_
  refine nw_aload_n C 0 dJ3_get_1 rfl 2 rfl ?_
  refine nw_get C hLo (T := TJ3) rfl in_J3 2 (by decide) q157 (Or.inl rfl) rfl dJ3_get_2 5 rfl ?_
  refine nw_callS C (mJ4_checkIndex _ C.hfl d k n H hB (by omega) (by omega)) kJ4_checkIndex q354 (As := [.int (nI k), .int (nI n)]) (rest := []) rfl rfl ⟨⟨Nat.le_of_ble_eq_true rfl, Nat.le_of_ble_eq_true rfl⟩, Nat.le_of_ble_eq_true rfl, Nat.le_of_ble_eq_true rfl⟩ (Nat.le_of_ble_eq_true rfl) (fun _ h8 h9 => absurd h9 (Nat.not_le.mpr h8)) dJ3_get_5 8 rfl (nw_rdK ?_) nw_noX
  refine nw_pop C dJ3_get_8 rfl 9 rfl ?_
  refine nw_aload_n C 0 dJ3_get_9 rfl 10 rfl ?_
  refine nw_iload_n C 1 dJ3_get_10 rfl 11 rfl ?_
  refine nw_callV C (mJ3_elementData _ C.hfl d a n es P k H hB hL (by omega)) kJ3_elementData q360 (hLo.is C (ci := 13) rfl) (As := [.int (nI k)]) (rest := []) rfl rfl ⟨⟨Nat.le_of_ble_eq_true rfl, Nat.le_of_ble_eq_true rfl⟩, Nat.le_of_ble_eq_true rfl, Nat.le_of_ble_eq_true rfl⟩ (Nat.le_of_ble_eq_true rfl) (fun _ h8 h9 => absurd h9 (Nat.not_le.mpr h8)) dJ3_get_11 14 rfl (nw_rdK ?_) nw_noX
  exact nw_aret C (Or.inl ⟨_, rfl⟩) dJ3_get_14 (Nat.le_refl _) (Nat.le_refl _) ⟨congrArg (fun z => some (Value.ref z)) (show (es k) = (es k) from rfl), rfl⟩
