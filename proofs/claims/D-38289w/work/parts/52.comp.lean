/-! ===== the component's readers ===== -/
theorem nw_inR1 {a b c : Int32} (h : c < a) : false = (decide (a ≤ c) && decide (c ≤ b)) := by
  have h1 : ¬ a ≤ c := Int32.not_le.mpr h
  simp [h1]
theorem nw_inR2 {a b c : Int32} (h : c > b) : false = (decide (a ≤ c) && decide (c ≤ b)) := by
  have h1 : ¬ c ≤ b := Int32.not_le.mpr h
  simp [h1]
theorem nw_inR3 {a b c : Int32} (h : ¬ c < a) (h2 : ¬ c > b) : true = (decide (a ≤ c) && decide (c ≤ b)) := by
  have h1 : a ≤ c := Int32.not_lt.mp h
  have h3 : c ≤ b := Int32.not_lt.mp h2
  simp [h1, h3]
theorem kJ0_isPresent : nwPV "java/util/Optional" yJ0_isPresent cJ0_isPresent 1 (some .boolean) 0 := ⟨⟨q277, q278, q87, q279⟩, rfl, by decide +kernel, by decide +kernel, by decide +kernel⟩
theorem kJ0_get : nwPV "java/util/Optional" yJ0_get cJ0_get 1 (some (.object "java/lang/Object")) 0 := ⟨⟨q281, q282, q87, q283⟩, rfl, by decide +kernel, by decide +kernel, by decide +kernel⟩
theorem kX6_size : nwPV "NightwatchWall$Ground" yX6_size cX6_size 1 (some .int) 0 := ⟨⟨q286, q287, q101, q288⟩, rfl, by decide +kernel, by decide +kernel, by decide +kernel⟩
theorem kX6_isClear : nwPV "NightwatchWall$Ground" yX6_isClear cX6_isClear 5 (some .boolean) 2 := ⟨⟨q441, q442, q101, q443⟩, rfl, by decide +kernel, by decide +kernel, by decide +kernel⟩
theorem kX6_apart : nwPV "NightwatchWall$Ground" yX6_apart cX6_apart 3 (some .int) 2 := ⟨⟨q479, q480, q101, q481⟩, rfl, by decide +kernel, by decide +kernel, by decide +kernel⟩
theorem kX8_lights : nwPV "NightwatchWall$Lamp" yX8_lights cX8_lights 3 (some .boolean) 2 := ⟨⟨q502, q503, q110, q504⟩, rfl, by decide +kernel, by decide +kernel, by decide +kernel⟩
theorem kX1_size : nwPV "NightwatchWall" yX1_size cX1_size 1 (some .int) 0 := ⟨⟨q274, qs2, q86, q275⟩, rfl, by decide +kernel, by decide +kernel, by decide +kernel⟩
theorem kX1_isBright : nwPV "NightwatchWall" yX1_isBright cX1_isBright 3 (some .boolean) 1 := ⟨⟨q499, qs12, q86, q500⟩, rfl, by decide +kernel, by decide +kernel, by decide +kernel⟩
set_option maxHeartbeats 4000000 in
theorem mX1_isFrom (l : Launch) (hf : l.flags = flags0) (d : nwD) (a b c : Nat) (H : Heap) (hB : nd_B d ≤ H.size) (hb : a < 2 ^ 31 ∧ b < 2 ^ 31 ∧ c < 2 ^ 31) : nwRd l d yX1_isFrom cX1_isFrom 3 (some .boolean) 1 20 [.int (nI a), .int (nI b), .int (nI c)] H (some (.int (b2i (decide (a ≤ c) && decide (c ≤ b))))) := by
  refine nw_rd "NightwatchWall" "isFrom" hf (by decide +kernel) rfl rfl hB (Nat.le_of_ble_eq_true rfl) ?_
  intro X C
  show nwV X _ _ 3 H 0 0 0 [(0, .int (nI a)), (1, .int (nI b)), (2, .int (nI c))] []
  refine nw_iload_n C 2 dX1_isFrom_0 rfl 1 rfl ?_
  refine nw_iload_n C 0 dX1_isFrom_1 rfl 2 rfl ?_
  refine nw_icmpltN C (by omega) 14 dX1_isFrom_2 (by decide) 5 rfl (fun h1 => ?_) (fun h1 => ?_)
  · refine nw_iconst C (nI 0) dX1_isFrom_14 (by decide) 15 rfl ?_
    exact nw_nret C dX1_isFrom_15 (b2i_narrow false) (Nat.le_refl _) (Nat.le_refl _) ⟨congrArg (fun z => some (Value.int (b2i z))) (show (false) = (decide (a ≤ c) && decide (c ≤ b)) from (by simp; omega)), rfl⟩
  · refine nw_iload_n C 2 dX1_isFrom_5 rfl 6 rfl ?_
    refine nw_iload_n C 1 dX1_isFrom_6 rfl 7 rfl ?_
    refine nw_icmpgtN C (by omega) 14 dX1_isFrom_7 (by decide) 10 rfl (fun h2 => ?_) (fun h2 => ?_)
    · refine nw_iconst C (nI 0) dX1_isFrom_14 (by decide) 15 rfl ?_
      exact nw_nret C dX1_isFrom_15 (b2i_narrow false) (Nat.le_refl _) (Nat.le_refl _) ⟨congrArg (fun z => some (Value.int (b2i z))) (show (false) = (decide (a ≤ c) && decide (c ≤ b)) from (by simp; omega)), rfl⟩
    · refine nw_iconst C (nI 1) dX1_isFrom_10 (by decide) 11 rfl ?_
      refine nw_goto C 15 dX1_isFrom_11 (by decide) ?_
      exact nw_nret C dX1_isFrom_15 (b2i_narrow true) (Nat.le_refl _) (Nat.le_refl _) ⟨congrArg (fun z => some (Value.int (b2i z))) (show (true) = (decide (a ≤ c) && decide (c ≤ b)) from (by simp; omega)), rfl⟩
set_option maxHeartbeats 4000000 in
theorem mX1_isFromR (l : Launch) (hf : l.flags = flags0) (d : nwD) (a b c : Int32) (H : Heap) (hB : nd_B d ≤ H.size)  : nwRd l d yX1_isFrom cX1_isFrom 3 (some .boolean) 1 20 [.int a, .int b, .int c] H (some (.int (b2i (decide (a ≤ c) && decide (c ≤ b))))) := by
  refine nw_rd "NightwatchWall" "isFrom" hf (by decide +kernel) rfl rfl hB (Nat.le_of_ble_eq_true rfl) ?_
  intro X C
  show nwV X _ _ 3 H 0 0 0 [(0, .int a), (1, .int b), (2, .int c)] []
  refine nw_iload_n C 2 dX1_isFrom_0 rfl 1 rfl ?_
  refine nw_iload_n C 0 dX1_isFrom_1 rfl 2 rfl ?_
  refine nw_icmplt C 14 dX1_isFrom_2 (by decide) 5 rfl (fun h1 => ?_) (fun h1 => ?_)
  · refine nw_iconst C (nI 0) dX1_isFrom_14 (by decide) 15 rfl ?_
    exact nw_nret C dX1_isFrom_15 (b2i_narrow false) (Nat.le_refl _) (Nat.le_refl _) ⟨congrArg (fun z => some (Value.int (b2i z))) (show (false) = (decide (a ≤ c) && decide (c ≤ b)) from (nw_inR1 h1)), rfl⟩
  · refine nw_iload_n C 2 dX1_isFrom_5 rfl 6 rfl ?_
    refine nw_iload_n C 1 dX1_isFrom_6 rfl 7 rfl ?_
    refine nw_icmpgt C 14 dX1_isFrom_7 (by decide) 10 rfl (fun h2 => ?_) (fun h2 => ?_)
    · refine nw_iconst C (nI 0) dX1_isFrom_14 (by decide) 15 rfl ?_
      exact nw_nret C dX1_isFrom_15 (b2i_narrow false) (Nat.le_refl _) (Nat.le_refl _) ⟨congrArg (fun z => some (Value.int (b2i z))) (show (false) = (decide (a ≤ c) && decide (c ≤ b)) from (nw_inR2 h2)), rfl⟩
    · refine nw_iconst C (nI 1) dX1_isFrom_10 (by decide) 11 rfl ?_
      refine nw_goto C 15 dX1_isFrom_11 (by decide) ?_
      exact nw_nret C dX1_isFrom_15 (b2i_narrow true) (Nat.le_refl _) (Nat.le_refl _) ⟨congrArg (fun z => some (Value.int (b2i z))) (show (true) = (decide (a ≤ c) && decide (c ≤ b)) from (nw_inR3 h1 h2)), rfl⟩
set_option maxHeartbeats 4000000 in
theorem mX1_size (l : Launch) (hf : l.flags = flags0) (d : nwD) (ro ad : Nat → Nat) (x : Nat) (σ : spSg) (sm : Int64)  (H : Heap) (hB : nd_B d ≤ H.size) (hW : nwWC d ro ad x σ sm H) (ok : spOk σ)  : nwRd l d yX1_size cX1_size 1 (some .int) 2 40 [.ref x] H (some (.int (nI (gr_n (sg_gr σ))))) := by
  refine nw_rd "NightwatchWall" "size" hf (by decide +kernel) rfl rfl hB (Nat.le_of_ble_eq_true rfl) ?_
  intro X C
  obtain ⟨hx, hcG, hcLa, hcFo, hcGu, hcPo, hcIn, hcWi, hcWo, hcKe⟩ := id hW
  obtain ⟨okg, okl, okf, oku, okp, oki, okw, okd, okk, oka⟩ := id ok
  have hn64 : gr_n (sg_gr σ) ≤ 64 := okg.n
  have hE := C.E0
  show nwV X _ _ 1 H 0 0 0 [(0, .ref x)] []
  rcases hcG with ⟨hg0, hg1, hg2⟩ | ⟨hgro, hgrl, hgrg⟩
  · rw [hg2] at hx
    refine nw_aload_n C 0 dX1_size_0 rfl 1 rfl ?_
    refine nw_get C hx (T := TX1) rfl in_X1 0 (by decide) q221 (Or.inl rfl) rfl dX1_size_1 4 rfl ?_
    refine nw_callV C (mJ0_isPresentE _ C.hfl d H hB) kJ0_isPresent q276 (va_O.is C.E0.2.2.2.2.1.2.1) (As := []) (rest := []) rfl rfl ⟨⟨Nat.le_of_ble_eq_true rfl, Nat.le_of_ble_eq_true rfl⟩, Nat.le_of_ble_eq_true rfl, Nat.le_of_ble_eq_true rfl⟩ (Nat.le_of_ble_eq_true rfl) (fun _ h8 h9 => absurd h9 (Nat.not_le.mpr h8)) dX1_size_4 7 rfl (nw_rdK ?_) nw_noX
    refine nw_ifeq C 26 dX1_size_7 (by decide) 10 rfl (fun _ => ?_) (fun h1 => absurd (by decide) h1)
    refine nw_iconst C (nI 0) dX1_size_26 (by decide) 27 rfl ?_
    exact nw_iret C dX1_size_27 (Nat.le_refl _) (Nat.le_refl _) ⟨congrArg (fun z => some (Value.int (nI z))) (show (0) = (gr_n (sg_gr σ)) from (by show 0 = (sg_gr σ).1 * (sg_gr σ).2.1; rw [hg0, Nat.zero_mul])), rfl⟩
  · refine nw_aload_n C 0 dX1_size_0 rfl 1 rfl ?_
    refine nw_get C hx (T := TX1) rfl in_X1 0 (by decide) q221 (Or.inl rfl) rfl dX1_size_1 4 rfl ?_
    refine nw_callV C (mJ0_isPresent _ C.hfl d (ad 0) (ad 9) H hB hgrl) kJ0_isPresent q276 (hgrl.is C (ci := 15) rfl) (As := []) (rest := []) rfl rfl ⟨⟨Nat.le_of_ble_eq_true rfl, Nat.le_of_ble_eq_true rfl⟩, Nat.le_of_ble_eq_true rfl, Nat.le_of_ble_eq_true rfl⟩ (Nat.le_of_ble_eq_true rfl) (fun _ h8 h9 => absurd h9 (Nat.not_le.mpr h8)) dX1_size_4 7 rfl (nw_rdK ?_) nw_noX
    refine nw_ifeq C 26 dX1_size_7 (by decide) 10 rfl (fun h2 => absurd h2 (by decide)) (fun _ => ?_)
    refine nw_aload_n C 0 dX1_size_10 rfl 11 rfl ?_
    refine nw_get C hx (T := TX1) rfl in_X1 0 (by decide) q221 (Or.inl rfl) rfl dX1_size_11 14 rfl ?_
    refine nw_callV C (mJ0_get _ C.hfl d (ad 0) (ad 9) H hB hgrl) kJ0_get q280 (hgrl.is C (ci := 15) rfl) (As := []) (rest := []) rfl rfl ⟨⟨Nat.le_of_ble_eq_true rfl, Nat.le_of_ble_eq_true rfl⟩, Nat.le_of_ble_eq_true rfl, Nat.le_of_ble_eq_true rfl⟩ (Nat.le_of_ble_eq_true rfl) (fun _ h8 h9 => absurd h9 (Nat.not_le.mpr h8)) dX1_size_14 17 rfl (nw_rdK ?_) nw_noX
    refine nw_cast C (ci := 1) rfl (hgrg.1.is C (ci := 1) rfl) q284 dX1_size_17 20 rfl ?_
    refine nw_callV C (mX6_size _ C.hfl d (ad 9) (ad 10) (sg_gr σ)  H hB hgrg hgro ) kX6_size q285 (hgrg.1.is C (ci := 1) rfl) (As := []) (rest := []) rfl rfl ⟨⟨Nat.le_of_ble_eq_true rfl, Nat.le_of_ble_eq_true rfl⟩, Nat.le_of_ble_eq_true rfl, Nat.le_of_ble_eq_true rfl⟩ (Nat.le_of_ble_eq_true rfl) (fun _ h8 h9 => absurd h9 (Nat.not_le.mpr h8)) dX1_size_20 23 rfl (nw_rdK ?_) nw_noX
    refine nw_goto C 27 dX1_size_23 (by decide) ?_
    exact nw_iret C dX1_size_27 (Nat.le_refl _) (Nat.le_refl _) ⟨congrArg (fun z => some (Value.int (nI z))) (show (gr_n (sg_gr σ)) = (gr_n (sg_gr σ)) from rfl), rfl⟩
set_option maxHeartbeats 4000000 in
theorem mX8_lights (l : Launch) (hf : l.flags = flags0) (d : nwD) (lp g ka : Nat) (gr : spGr) (lm : Nat × Nat × Bool) (c : Nat) (H : Heap) (hB : nd_B d ≤ H.size) (hl : nwO d lp 2 [.int (nI lm.1), .int (nI lm.2.1), .int (b2i lm.2.2)] H) (hG : nwGr d g ka gr H) (ho : spGrOk gr) (hlc : lm.1 < gr_n gr) (hlr : lm.2.1 < 2 ^ 31) (hc : c < gr_n gr) : nwRd l d yX8_lights cX8_lights 3 (some .boolean) 4 89 [.ref lp, .ref g, .int (nI c)] H (some (.int (b2i (sp_lights gr lm c)))) := by
  refine nw_rd "NightwatchWall$Lamp" "lights" hf (by decide +kernel) rfl rfl hB (Nat.le_of_ble_eq_true rfl) ?_
  intro X C
  have hn64 := ho.n
  have ha8 : sp_apart (gr_w gr) lm.1 c < 8 := by
    have h1 := ho.row hlc
    have h2 := ho.row hc
    have h3 := ho.col lm.1
    have h4 := ho.col c
    have h5 := ho.1
    have h6 := sp_dist_lt h1 h2
    have h7 := sp_dist_lt h3 h4
    unfold sp_apart
    omega
  show nwV X _ _ 3 H 0 0 0 [(0, .ref lp), (1, .ref g), (2, .int (nI c))] []
  refine nw_aload_n C 0 dX8_lights_0 rfl 1 rfl ?_
  refine nw_get C hl (T := TX8) rfl in_X8 2 (by decide) q879 (Or.inl rfl) rfl dX8_lights_1 4 rfl ?_
  refine nw_ifeqB C 39 dX8_lights_4 (by decide) 7 rfl (fun h1 => ?_) (fun h1 => ?_)
  · refine nw_iconst C (nI 0) dX8_lights_39 (by decide) 40 rfl ?_
    exact nw_nret C dX8_lights_40 (b2i_narrow false) (Nat.le_refl _) (Nat.le_refl _) ⟨congrArg (fun z => some (Value.int (b2i z))) (show (false) = (sp_lights gr lm c) from (by unfold sp_lights; simp [h1])), rfl⟩
  · refine nw_aload_n C 1 dX8_lights_7 rfl 8 rfl ?_
    refine nw_aload_n C 0 dX8_lights_8 rfl 9 rfl ?_
    refine nw_get C hl (T := TX8) rfl in_X8 0 (by decide) q876 (Or.inl rfl) rfl dX8_lights_9 12 rfl ?_
    refine nw_iload_n C 2 dX8_lights_12 rfl 13 rfl ?_
    refine nw_callV C (mX6_isClear _ C.hfl d g ka gr lm.1 c H hB hG ho (by omega) (by omega)) kX6_isClear q505 (hG.1.is C (ci := 1) rfl) (As := [.int (nI lm.1), .int (nI c)]) (rest := []) rfl rfl ⟨⟨Nat.le_of_ble_eq_true rfl, Nat.le_of_ble_eq_true rfl⟩, Nat.le_of_ble_eq_true rfl, Nat.le_of_ble_eq_true rfl⟩ (Nat.le_of_ble_eq_true rfl) (fun _ h8 h9 => absurd h9 (Nat.not_le.mpr h8)) dX8_lights_13 16 rfl (nw_rdK ?_) nw_noX
    refine nw_ifeqB C 39 dX8_lights_16 (by decide) 19 rfl (fun h2 => ?_) (fun h2 => ?_)
    · refine nw_iconst C (nI 0) dX8_lights_39 (by decide) 40 rfl ?_
      exact nw_nret C dX8_lights_40 (b2i_narrow false) (Nat.le_refl _) (Nat.le_refl _) ⟨congrArg (fun z => some (Value.int (b2i z))) (show (false) = (sp_lights gr lm c) from (by unfold sp_lights; simp [h1, h2])), rfl⟩
    · refine nw_aload_n C 1 dX8_lights_19 rfl 20 rfl ?_
      refine nw_aload_n C 0 dX8_lights_20 rfl 21 rfl ?_
      refine nw_get C hl (T := TX8) rfl in_X8 0 (by decide) q876 (Or.inl rfl) rfl dX8_lights_21 24 rfl ?_
      refine nw_iload_n C 2 dX8_lights_24 rfl 25 rfl ?_
      refine nw_callV C (mX6_apart _ C.hfl d g ka gr lm.1 c H hB hG ho (by omega) (by omega)) kX6_apart q506 (hG.1.is C (ci := 1) rfl) (As := [.int (nI lm.1), .int (nI c)]) (rest := []) rfl rfl ⟨⟨Nat.le_of_ble_eq_true rfl, Nat.le_of_ble_eq_true rfl⟩, Nat.le_of_ble_eq_true rfl, Nat.le_of_ble_eq_true rfl⟩ (Nat.le_of_ble_eq_true rfl) (fun _ h8 h9 => absurd h9 (Nat.not_le.mpr h8)) dX8_lights_25 28 rfl (nw_rdK ?_) nw_noX
      refine nw_aload_n C 0 dX8_lights_28 rfl 29 rfl ?_
      refine nw_get C hl (T := TX8) rfl in_X8 1 (by decide) q878 (Or.inl rfl) rfl dX8_lights_29 32 rfl ?_
      refine nw_icmpgtN C (by omega) 39 dX8_lights_32 (by decide) 35 rfl (fun h3 => ?_) (fun h3 => ?_)
      · refine nw_iconst C (nI 0) dX8_lights_39 (by decide) 40 rfl ?_
        exact nw_nret C dX8_lights_40 (b2i_narrow false) (Nat.le_refl _) (Nat.le_refl _) ⟨congrArg (fun z => some (Value.int (b2i z))) (show (false) = (sp_lights gr lm c) from (by unfold sp_lights; simp [h1, h2]; omega)), rfl⟩
      · refine nw_iconst C (nI 1) dX8_lights_35 (by decide) 36 rfl ?_
        refine nw_goto C 40 dX8_lights_36 (by decide) ?_
        exact nw_nret C dX8_lights_40 (b2i_narrow true) (Nat.le_refl _) (Nat.le_refl _) ⟨congrArg (fun z => some (Value.int (b2i z))) (show (true) = (sp_lights gr lm c) from (by unfold sp_lights; simp [h1, h2]; omega)), rfl⟩
set_option maxHeartbeats 4000000 in
theorem mX1_isBright (l : Launch) (hf : l.flags = flags0) (d : nwD) (ro ad : Nat → Nat) (x : Nat) (σ : spSg) (sm : Int64) (c : Nat) (H : Heap) (hB : nd_B d ≤ H.size) (hW : nwWC d ro ad x σ sm H) (ok : spOk σ) (hc : c < gr_n (sg_gr σ)) : nwRd l d yX1_isBright cX1_isBright 3 (some .boolean) 5 111 [.ref x, .int (nI c)] H (some (.int (b2i (sp_bright (sg_gr σ) (sg_la σ) c)))) := by
  refine nw_rd "NightwatchWall" "isBright" hf (by decide +kernel) rfl rfl hB (Nat.le_of_ble_eq_true rfl) ?_
  intro X C
  obtain ⟨hx, hcG, hcLa, hcFo, hcGu, hcPo, hcIn, hcWi, hcWo, hcKe⟩ := id hW
  obtain ⟨okg, okl, okf, oku, okp, oki, okw, okd, okk, oka⟩ := id ok
  have hn64 : gr_n (sg_gr σ) ≤ 64 := okg.n
  have hE := C.E0
  obtain ⟨hgro, hgrl, hgrg⟩ := hcG.here hc
  have okl1 := okl.1
  show nwV X _ _ 3 H 0 0 0 [(0, .ref x), (1, .int (nI c))] []
  refine nw_iconst C (nI 0) dX1_isBright_0 (by decide) 1 rfl ?_
  refine nw_istore_n C [(2, .int (nI 0)), (0, .ref x), (1, .int (nI c))] dX1_isBright_1 (by decide) rfl 2 rfl ?_
  have lp1 : ∀ (fu : Nat) (i : Nat), (i ≤ (sg_la σ).1) → (∀ k, k < i → sp_lights (sg_gr σ) ((sg_la σ).2 k) c = false) → (sg_la σ).1 - i < fu → nwV X (nwNew H) (nwQE X (fun v H1 => v = some (.int (b2i (sp_bright (sg_gr σ) (sg_la σ) c))) ∧ H1 = H) nwNo (nwNew H) 0 0) 3 H 0 0 2 [(0, .ref x), (1, .int (nI c)), (2, .int (nI i))] [] := by
    intro fu
    induction fu with
    | zero => intro i _ _ hm; exact absurd hm (Nat.not_lt_zero _)
    | succ fu ih_lp1 =>
      intro i hi hno hm
      refine nw_iload_n C 2 dX1_isBright_2 rfl 3 rfl ?_
      refine nw_aload_n C 0 dX1_isBright_3 rfl 4 rfl ?_
      refine nw_get C hx (T := TX1) rfl in_X1 1 (by decide) q222 (Or.inl rfl) rfl dX1_isBright_4 7 rfl ?_
      refine nw_callV C (mJ3_size _ C.hfl d (ad 1) ((sg_la σ).1) (fun k => ad (100 + k)) (fun q => ro q = 2002) H hB hcLa.1) kJ3_size q346 (hcLa.1.is C) (As := []) (rest := [.int (nI i)]) rfl rfl ⟨⟨Nat.le_of_ble_eq_true rfl, Nat.le_of_ble_eq_true rfl⟩, Nat.le_of_ble_eq_true rfl, Nat.le_of_ble_eq_true rfl⟩ (Nat.le_of_ble_eq_true rfl) (fun _ h8 h9 => absurd h9 (Nat.not_le.mpr h8)) dX1_isBright_7 10 rfl (nw_rdK ?_) nw_noX
      refine nw_icmpgeN C (by omega) 49 dX1_isBright_10 (by decide) 13 rfl (fun h2 => ?_) (fun h2 => ?_)
      · refine nw_iconst C (nI 0) dX1_isBright_49 (by decide) 50 rfl ?_
        exact nw_nret C dX1_isBright_50 (b2i_narrow false) (Nat.le_refl _) (Nat.le_refl _) ⟨congrArg (fun z => some (Value.int (b2i z))) (show (false) = (sp_bright (sg_gr σ) (sg_la σ) c) from (sp_any_false.mpr (fun k hk => hno k (by omega))).symm), rfl⟩
      · refine nw_aload_n C 0 dX1_isBright_13 rfl 14 rfl ?_
        refine nw_get C hx (T := TX1) rfl in_X1 1 (by decide) q222 (Or.inl rfl) rfl dX1_isBright_14 17 rfl ?_
        refine nw_iload_n C 2 dX1_isBright_17 rfl 18 rfl ?_
        refine nw_callV C (mJ3_get _ C.hfl d (ad 1) ((sg_la σ).1) (fun k => ad (100 + k)) (fun q => ro q = 2002) i H hB hcLa.1 (by omega)) kJ3_get q350 (hcLa.1.is C) (As := [.int (nI i)]) (rest := []) rfl rfl ⟨⟨Nat.le_of_ble_eq_true rfl, Nat.le_of_ble_eq_true rfl⟩, Nat.le_of_ble_eq_true rfl, Nat.le_of_ble_eq_true rfl⟩ (Nat.le_of_ble_eq_true rfl) (fun _ h8 h9 => absurd h9 (Nat.not_le.mpr h8)) dX1_isBright_18 21 rfl (nw_rdK ?_) nw_noX
        have hg3 : nwO d (ad (100 + i)) 2 [.int (nI (((sg_la σ).2 i).1)), .int (nI (((sg_la σ).2 i).2.1)), .int (b2i (((sg_la σ).2 i).2.2))] H := (hcLa.2 i (by omega))
        refine nw_cast C (ci := 2) rfl (hg3.is C (ci := 2) rfl) q345 dX1_isBright_21 24 rfl ?_
        refine nw_aload_n C 0 dX1_isBright_24 rfl 25 rfl ?_
        refine nw_get C hx (T := TX1) rfl in_X1 0 (by decide) q221 (Or.inl rfl) rfl dX1_isBright_25 28 rfl ?_
        refine nw_callV C (mJ0_get _ C.hfl d (ad 0) (ad 9) H hB hgrl) kJ0_get q280 (hgrl.is C (ci := 15) rfl) (As := []) (rest := [.ref (ad (100 + i))]) rfl rfl ⟨⟨Nat.le_of_ble_eq_true rfl, Nat.le_of_ble_eq_true rfl⟩, Nat.le_of_ble_eq_true rfl, Nat.le_of_ble_eq_true rfl⟩ (Nat.le_of_ble_eq_true rfl) (fun _ h8 h9 => absurd h9 (Nat.not_le.mpr h8)) dX1_isBright_28 31 rfl (nw_rdK ?_) nw_noX
        refine nw_cast C (ci := 1) rfl (hgrg.1.is C (ci := 1) rfl) q284 dX1_isBright_31 34 rfl ?_
        refine nw_iload_n C 1 dX1_isBright_34 rfl 35 rfl ?_
        refine nw_callV C (mX8_lights _ C.hfl d (ad (100 + i)) (ad 9) (ad 10) (sg_gr σ) ((sg_la σ).2 i) c H hB hg3 hgrg hgro (okl.2 i (by omega)).1 (by have := (okl.2 i (by omega)).2; omega) (by omega)) kX8_lights q501 (hg3.is C (ci := 2) rfl) (As := [.ref (ad 9), .int (nI c)]) (rest := []) rfl rfl ⟨⟨Nat.le_of_ble_eq_true rfl, Nat.le_of_ble_eq_true rfl⟩, Nat.le_of_ble_eq_true rfl, Nat.le_of_ble_eq_true rfl⟩ (Nat.le_of_ble_eq_true rfl) (fun _ h8 h9 => absurd h9 (Nat.not_le.mpr h8)) dX1_isBright_35 38 rfl (nw_rdK ?_) nw_noX
        refine nw_ifeqB C 43 dX1_isBright_38 (by decide) 41 rfl (fun h4 => ?_) (fun h4 => ?_)
        · refine nw_iincN C 2 (c0 := 1) [(2, .int (nI (i + 1))), (0, .ref x), (1, .int (nI c))] dX1_isBright_43 rfl (by decide) rfl 46 rfl ?_
          refine nw_goto C 2 dX1_isBright_46 (by decide) ?_
          exact (nw_sub [1, 2, 0] rfl (ih_lp1 (i + 1) (by omega) (fun k hk => (Nat.lt_or_ge k i).elim (fun g5 => hno k g5) (fun g5 => by rw [show k = i by omega]; exact h4)) (by omega)))
        · refine nw_iconst C (nI 1) dX1_isBright_41 (by decide) 42 rfl ?_
          exact nw_nret C dX1_isBright_42 (b2i_narrow true) (Nat.le_refl _) (Nat.le_refl _) ⟨congrArg (fun z => some (Value.int (b2i z))) (show (true) = (sp_bright (sg_gr σ) (sg_la σ) c) from (sp_any_iff.mpr ⟨i, by omega, h4⟩).symm), rfl⟩
  exact (nw_sub [1, 2, 0] rfl (lp1 _ 0 (Nat.zero_le _) (fun k hk => absurd hk (Nat.not_lt_zero k)) (Nat.lt_succ_self _)))
set_option maxHeartbeats 4000000 in
theorem mX1_bright (l : Launch) (hf : l.flags = flags0) (d : nwD) (ro ad : Nat → Nat) (x : Nat) (σ : spSg) (sm : Int64)  (H : Heap) (hB : nd_B d ≤ H.size) (hW : nwWC d ro ad x σ sm H) (ok : spOk σ)  : nwRd l d yX1_bright cX1_bright 3 (some .int) 6 133 [.ref x] H (some (.int (nI (sp_brights (sg_gr σ) (sg_la σ))))) := by
  refine nw_rd "NightwatchWall" "bright" hf (by decide +kernel) rfl rfl hB (Nat.le_of_ble_eq_true rfl) ?_
  intro X C
  obtain ⟨hx, hcG, hcLa, hcFo, hcGu, hcPo, hcIn, hcWi, hcWo, hcKe⟩ := id hW
  obtain ⟨okg, okl, okf, oku, okp, oki, okw, okd, okk, oka⟩ := id ok
  have hn64 : gr_n (sg_gr σ) ≤ 64 := okg.n
  have hE := C.E0
  show nwV X _ _ 3 H 0 0 0 [(0, .ref x)] []
  refine nw_iconst C (nI 0) dX1_bright_0 (by decide) 1 rfl ?_
  refine nw_istore_n C [(1, .int (nI 0)), (0, .ref x)] dX1_bright_1 (by decide) rfl 2 rfl ?_
  refine nw_iconst C (nI 0) dX1_bright_2 (by decide) 3 rfl ?_
  refine nw_istore_n C [(2, .int (nI 0)), (1, .int (nI 0)), (0, .ref x)] dX1_bright_3 (by decide) rfl 4 rfl ?_
  have lp1 : ∀ (fu : Nat) (i : Nat) (m : Nat), (i ≤ gr_n (sg_gr σ)) → (m = sp_cnt (fun k => sp_bright (sg_gr σ) (sg_la σ) k) i) → gr_n (sg_gr σ) - i < fu → nwV X (nwNew H) (nwQE X (fun v H1 => v = some (.int (nI (sp_brights (sg_gr σ) (sg_la σ)))) ∧ H1 = H) nwNo (nwNew H) 0 0) 3 H 0 0 4 [(0, .ref x), (1, .int (nI m)), (2, .int (nI i))] [] := by
    intro fu
    induction fu with
    | zero => intro i m _ _ hm; exact absurd hm (Nat.not_lt_zero _)
    | succ fu ih_lp1 =>
      intro i m hi hmm hm
      refine nw_iload_n C 2 dX1_bright_4 rfl 5 rfl ?_
      refine nw_aload_n C 0 dX1_bright_5 rfl 6 rfl ?_
      refine nw_callV C (mX1_size _ C.hfl d ro ad x σ sm  H hB hW ok ) kX1_size q272 (hx.is C (ci := 0) rfl) (As := []) (rest := [.int (nI i)]) rfl rfl ⟨⟨Nat.le_of_ble_eq_true rfl, Nat.le_of_ble_eq_true rfl⟩, Nat.le_of_ble_eq_true rfl, Nat.le_of_ble_eq_true rfl⟩ (Nat.le_of_ble_eq_true rfl) (fun _ h8 h9 => absurd h9 (Nat.not_le.mpr h8)) dX1_bright_6 9 rfl (nw_rdK ?_) nw_noX
      refine nw_icmpgeN C (by omega) 34 dX1_bright_9 (by decide) 12 rfl (fun h2 => ?_) (fun h2 => ?_)
      · refine nw_iload_n C 1 dX1_bright_34 rfl 35 rfl ?_
        exact nw_iret C dX1_bright_35 (Nat.le_refl _) (Nat.le_refl _) ⟨congrArg (fun z => some (Value.int (nI z))) (show (m) = (sp_brights (sg_gr σ) (sg_la σ)) from (by rw [hmm, show i = gr_n (sg_gr σ) by omega]; rfl)), rfl⟩
      · refine nw_iload_n C 1 dX1_bright_12 rfl 13 rfl ?_
        refine nw_aload_n C 0 dX1_bright_13 rfl 14 rfl ?_
        refine nw_iload_n C 2 dX1_bright_14 rfl 15 rfl ?_
        refine nw_callV C (mX1_isBright _ C.hfl d ro ad x σ sm i H hB hW ok (by omega)) kX1_isBright q497 (hx.is C (ci := 0) rfl) (As := [.int (nI i)]) (rest := [.int (nI m)]) rfl rfl ⟨⟨Nat.le_of_ble_eq_true rfl, Nat.le_of_ble_eq_true rfl⟩, Nat.le_of_ble_eq_true rfl, Nat.le_of_ble_eq_true rfl⟩ (Nat.le_of_ble_eq_true rfl) (fun _ h8 h9 => absurd h9 (Nat.not_le.mpr h8)) dX1_bright_15 18 rfl (nw_rdK ?_) nw_noX
        refine nw_ifeqB C 25 dX1_bright_18 (by decide) 21 rfl (fun h3 => ?_) (fun h3 => ?_)
        · refine nw_iconst C (nI 0) dX1_bright_25 (by decide) 26 rfl ?_
          refine nw_iaddN C dX1_bright_26 27 rfl ?_
          refine nw_istore_n C [(1, .int (nI (m + 0))), (0, .ref x), (2, .int (nI i))] dX1_bright_27 (by decide) rfl 28 rfl ?_
          refine nw_iincN C 2 (c0 := 1) [(2, .int (nI (i + 1))), (1, .int (nI (m + 0))), (0, .ref x)] dX1_bright_28 rfl (by decide) rfl 31 rfl ?_
          refine nw_goto C 4 dX1_bright_31 (by decide) ?_
          exact (nw_sub [2, 1, 0] rfl (ih_lp1 (i + 1) m (by omega) (by rw [sp_cnt_f (p := fun k => sp_bright (sg_gr σ) (sg_la σ) k) (n := i) (by simp [h3])]; omega) (by omega)))
        · refine nw_iconst C (nI 1) dX1_bright_21 (by decide) 22 rfl ?_
          refine nw_goto C 26 dX1_bright_22 (by decide) ?_
          refine nw_iaddN C dX1_bright_26 27 rfl ?_
          refine nw_istore_n C [(1, .int (nI (m + 1))), (0, .ref x), (2, .int (nI i))] dX1_bright_27 (by decide) rfl 28 rfl ?_
          refine nw_iincN C 2 (c0 := 1) [(2, .int (nI (i + 1))), (1, .int (nI (m + 1))), (0, .ref x)] dX1_bright_28 rfl (by decide) rfl 31 rfl ?_
          refine nw_goto C 4 dX1_bright_31 (by decide) ?_
          exact (nw_sub [2, 1, 0] rfl (ih_lp1 (i + 1) (m + 1) (by omega) (by rw [sp_cnt_t (p := fun k => sp_bright (sg_gr σ) (sg_la σ) k) (n := i) (by simp [h3])]; omega) (by omega)))
  exact (nw_sub [2, 1, 0] rfl (lp1 _ 0 0 (Nat.zero_le _) rfl (Nat.lt_succ_self _)))
set_option maxHeartbeats 4000000 in
theorem mX1_fogAt (l : Launch) (hf : l.flags = flags0) (d : nwD) (ro ad : Nat → Nat) (x : Nat) (σ : spSg) (sm : Int64) (t : Nat) (H : Heap) (hB : nd_B d ≤ H.size) (hW : nwWC d ro ad x σ sm H) (ok : spOk σ) (ht : t < 2 ^ 31) : nwRd l d yX1_fogAt cX1_fogAt 5 (some .int) 4 84 [.ref x, .int (nI t)] H (some (.int (nI (sp_fog (sg_fo σ) t)))) := by
  refine nw_rd "NightwatchWall" "fogAt" hf (by decide +kernel) rfl rfl hB (Nat.le_of_ble_eq_true rfl) ?_
  intro X C
  obtain ⟨hx, hcG, hcLa, hcFo, hcGu, hcPo, hcIn, hcWi, hcWo, hcKe⟩ := id hW
  obtain ⟨okg, okl, okf, oku, okp, oki, okw, okd, okk, oka⟩ := id ok
  have hn64 : gr_n (sg_gr σ) ≤ 64 := okg.n
  have hE := C.E0
  have okf1 := okf.1
  show nwV X _ _ 5 H 0 0 0 [(0, .ref x), (1, .int (nI t))] []
  refine nw_iconst C (oI none) dX1_fogAt_0 (by decide) 1 rfl ?_
  refine nw_istore_n C [(2, .int (oI none)), (0, .ref x), (1, .int (nI t))] dX1_fogAt_1 (by decide) rfl 2 rfl ?_
  refine nw_iconst C (nI 0) dX1_fogAt_2 (by decide) 3 rfl ?_
  refine nw_istore_n C [(3, .int (nI 0)), (2, .int (oI none)), (0, .ref x), (1, .int (nI t))] dX1_fogAt_3 (by decide) rfl 4 rfl ?_
  have lp1 : ∀ (fu : Nat) (i : Nat) (o : Option Nat), (i ≤ (sg_fo σ).1) → (o = sp_fogI (sg_fo σ) t i) → (∀ v, o = some v → v < i) → (sg_fo σ).1 - i < fu → nwV X (nwNew H) (nwQE X (fun v H1 => v = some (.int (nI (sp_fog (sg_fo σ) t))) ∧ H1 = H) nwNo (nwNew H) 0 0) 5 H 0 0 4 [(0, .ref x), (1, .int (nI t)), (2, .int (oI o)), (3, .int (nI i))] [] := by
    intro fu
    induction fu with
    | zero => intro i o _ _ _ hm; exact absurd hm (Nat.not_lt_zero _)
    | succ fu ih_lp1 =>
      intro i o hi ho hob hm
      refine nw_iload_n C 3 dX1_fogAt_4 rfl 5 rfl ?_
      refine nw_aload_n C 0 dX1_fogAt_5 rfl 6 rfl ?_
      refine nw_get C hx (T := TX1) rfl in_X1 2 (by decide) q223 (Or.inl rfl) rfl dX1_fogAt_6 9 rfl ?_
      refine nw_callV C (mJ3_size _ C.hfl d (ad 2) ((sg_fo σ).1) (fun k => ad (200 + k)) (fun q => ro q = 2003) H hB hcFo.1) kJ3_size q346 (hcFo.1.is C) (As := []) (rest := [.int (nI i)]) rfl rfl ⟨⟨Nat.le_of_ble_eq_true rfl, Nat.le_of_ble_eq_true rfl⟩, Nat.le_of_ble_eq_true rfl, Nat.le_of_ble_eq_true rfl⟩ (Nat.le_of_ble_eq_true rfl) (fun _ h8 h9 => absurd h9 (Nat.not_le.mpr h8)) dX1_fogAt_9 12 rfl (nw_rdK ?_) nw_noX
      refine nw_icmpgeN C (by omega) 72 dX1_fogAt_12 (by decide) 15 rfl (fun h2 => ?_) (fun h2 => ?_)
      · rcases o with _ | b
        · show nwV X _ _ 5 H 0 0 72 [(0, .ref x), (1, .int (nI t)), (2, .int (oI none)), (3, .int (nI i))] []
          refine nw_iload_n C 2 dX1_fogAt_72 rfl 73 rfl ?_
          refine nw_iconst C (oI none) dX1_fogAt_73 (by decide) 74 rfl ?_
          refine nw_icmpneF C rfl 81 dX1_fogAt_74 (by decide) 77 rfl ?_
          refine nw_iconst C (nI 0) dX1_fogAt_77 (by decide) 78 rfl ?_
          refine nw_goto C 95 dX1_fogAt_78 (by decide) ?_
          exact nw_iret C dX1_fogAt_95 (Nat.le_refl _) (Nat.le_refl _) ⟨congrArg (fun z => some (Value.int (nI z))) (show (0) = (sp_fog (sg_fo σ) t) from (by unfold sp_fog; rw [← show i = (sg_fo σ).1 by omega, ← ho])), rfl⟩
        · show nwV X _ _ 5 H 0 0 72 [(0, .ref x), (1, .int (nI t)), (2, .int (nI b)), (3, .int (nI i))] []
          refine nw_iload_n C 2 dX1_fogAt_72 rfl 73 rfl ?_
          have hbi := hob b rfl
          have hfb := okf.2 b (by omega)
          refine nw_iconst C (oI none) dX1_fogAt_73 (by decide) 74 rfl ?_
          refine nw_icmpneT C (nI_m1 (by omega)) 81 dX1_fogAt_74 (by decide) ?_
          refine nw_aload_n C 0 dX1_fogAt_81 rfl 82 rfl ?_
          refine nw_get C hx (T := TX1) rfl in_X1 2 (by decide) q223 (Or.inl rfl) rfl dX1_fogAt_82 85 rfl ?_
          refine nw_iload_n C 2 dX1_fogAt_85 rfl 86 rfl ?_
          refine nw_callV C (mJ3_get _ C.hfl d (ad 2) ((sg_fo σ).1) (fun k => ad (200 + k)) (fun q => ro q = 2003) b H hB hcFo.1 (by omega)) kJ3_get q350 (hcFo.1.is C) (As := [.int (nI b)]) (rest := []) rfl rfl ⟨⟨Nat.le_of_ble_eq_true rfl, Nat.le_of_ble_eq_true rfl⟩, Nat.le_of_ble_eq_true rfl, Nat.le_of_ble_eq_true rfl⟩ (Nat.le_of_ble_eq_true rfl) (fun _ h8 h9 => absurd h9 (Nat.not_le.mpr h8)) dX1_fogAt_86 89 rfl (nw_rdK ?_) nw_noX
          have hg5 : nwO d (ad (200 + b)) 3 [.int (nI (((sg_fo σ).2 b).1)), .int (nI (((sg_fo σ).2 b).2))] H := (hcFo.2 b (by omega))
          refine nw_cast C (ci := 3) rfl (hg5.is C (ci := 3) rfl) q424 dX1_fogAt_89 92 rfl ?_
          refine nw_getN C hg5 (T := TX9) rfl in_X9 1 (by decide) q980 rfl rfl dX1_fogAt_92 95 rfl ?_
          exact nw_iret C dX1_fogAt_95 (Nat.le_refl _) (Nat.le_refl _) ⟨congrArg (fun z => some (Value.int (nI z))) (show (((sg_fo σ).2 b).2) = (sp_fog (sg_fo σ) t) from (by unfold sp_fog; rw [← show i = (sg_fo σ).1 by omega, ← ho])), rfl⟩
      · refine nw_aload_n C 0 dX1_fogAt_15 rfl 16 rfl ?_
        refine nw_get C hx (T := TX1) rfl in_X1 2 (by decide) q223 (Or.inl rfl) rfl dX1_fogAt_16 19 rfl ?_
        refine nw_iload_n C 3 dX1_fogAt_19 rfl 20 rfl ?_
        refine nw_callV C (mJ3_get _ C.hfl d (ad 2) ((sg_fo σ).1) (fun k => ad (200 + k)) (fun q => ro q = 2003) i H hB hcFo.1 (by omega)) kJ3_get q350 (hcFo.1.is C) (As := [.int (nI i)]) (rest := []) rfl rfl ⟨⟨Nat.le_of_ble_eq_true rfl, Nat.le_of_ble_eq_true rfl⟩, Nat.le_of_ble_eq_true rfl, Nat.le_of_ble_eq_true rfl⟩ (Nat.le_of_ble_eq_true rfl) (fun _ h8 h9 => absurd h9 (Nat.not_le.mpr h8)) dX1_fogAt_20 23 rfl (nw_rdK ?_) nw_noX
        have hg6 : nwO d (ad (200 + i)) 3 [.int (nI (((sg_fo σ).2 i).1)), .int (nI (((sg_fo σ).2 i).2))] H := (hcFo.2 i (by omega))
        refine nw_cast C (ci := 3) rfl (hg6.is C (ci := 3) rfl) q424 dX1_fogAt_23 26 rfl ?_
        refine nw_astore C [(4, .ref (ad (200 + i))), (0, .ref x), (1, .int (nI t)), (2, .int (oI o)), (3, .int (nI i))] dX1_fogAt_26 (by decide) rfl 28 rfl ?_
        have hfi := okf.2 i (by omega)
        refine nw_aload C 0 dX1_fogAt_28 rfl 30 rfl ?_
        refine nw_getN C hg6 (T := TX9) rfl in_X9 0 (by decide) q978 rfl rfl dX1_fogAt_30 33 rfl ?_
        refine nw_iload_n C 2 dX1_fogAt_33 rfl 34 rfl ?_
        refine nw_icmpgtN C (by omega) 66 dX1_fogAt_34 (by decide) 37 rfl (fun h7 => ?_) (fun h7 => ?_)
        · refine nw_iincN C 4 (c0 := 1) [(3, .int (nI (i + 1))), (4, .ref (ad (200 + i))), (0, .ref x), (1, .int (nI t)), (2, .int (oI o))] dX1_fogAt_66 rfl (by decide) rfl 69 rfl ?_
          refine nw_goto C 4 dX1_fogAt_69 (by decide) ?_
          exact (nw_sub [2, 3, 4, 0] rfl (ih_lp1 (i + 1) o (by omega) (by unfold sp_fogI; rw [← ho]; (try dsimp only); (repeat' split) <;> first | rfl | omega | (exfalso; omega)) (fun v hv => Nat.lt_succ_of_lt (hob v hv)) (by omega)))
        · rcases o with _ | b
          · show nwV X _ _ 5 H 0 0 37 [(4, .ref (ad (200 + i))), (0, .ref x), (1, .int (nI t)), (2, .int (oI none)), (3, .int (nI i))] []
            refine nw_iload_n C 3 dX1_fogAt_37 rfl 38 rfl ?_
            refine nw_iconst C (oI none) dX1_fogAt_38 (by decide) 39 rfl ?_
            refine nw_icmpeqT C rfl 64 dX1_fogAt_39 (by decide) ?_
            refine nw_iload_n C 4 dX1_fogAt_64 rfl 65 rfl ?_
            refine nw_istore_n C [(2, .int (nI i)), (4, .ref (ad (200 + i))), (0, .ref x), (1, .int (nI t)), (3, .int (nI i))] dX1_fogAt_65 (by decide) rfl 66 rfl ?_
            refine nw_iincN C 4 (c0 := 1) [(3, .int (nI (i + 1))), (2, .int (nI i)), (4, .ref (ad (200 + i))), (0, .ref x), (1, .int (nI t))] dX1_fogAt_66 rfl (by decide) rfl 69 rfl ?_
            refine nw_goto C 4 dX1_fogAt_69 (by decide) ?_
            exact (nw_sub [3, 4, 1, 0] rfl (ih_lp1 (i + 1) (some i) (by omega) (by unfold sp_fogI; rw [← ho]; (try dsimp only); (repeat' split) <;> first | rfl | omega | (exfalso; omega)) (fun v hv => by cases hv; omega) (by omega)))
          · show nwV X _ _ 5 H 0 0 37 [(4, .ref (ad (200 + i))), (0, .ref x), (1, .int (nI t)), (2, .int (nI b)), (3, .int (nI i))] []
            refine nw_iload_n C 3 dX1_fogAt_37 rfl 38 rfl ?_
            have hbi := hob b rfl
            have hfb := okf.2 b (by omega)
            refine nw_iconst C (oI none) dX1_fogAt_38 (by decide) 39 rfl ?_
            refine nw_icmpeqF C (nI_m1 (by omega)) 64 dX1_fogAt_39 (by decide) 42 rfl ?_
            refine nw_aload C 0 dX1_fogAt_42 rfl 44 rfl ?_
            refine nw_getN C hg6 (T := TX9) rfl in_X9 0 (by decide) q978 rfl rfl dX1_fogAt_44 47 rfl ?_
            refine nw_aload_n C 1 dX1_fogAt_47 rfl 48 rfl ?_
            refine nw_get C hx (T := TX1) rfl in_X1 2 (by decide) q223 (Or.inl rfl) rfl dX1_fogAt_48 51 rfl ?_
            refine nw_iload_n C 3 dX1_fogAt_51 rfl 52 rfl ?_
            refine nw_callV C (mJ3_get _ C.hfl d (ad 2) ((sg_fo σ).1) (fun k => ad (200 + k)) (fun q => ro q = 2003) b H hB hcFo.1 (by omega)) kJ3_get q350 (hcFo.1.is C) (As := [.int (nI b)]) (rest := [.int (nI (((sg_fo σ).2 i).1))]) rfl rfl ⟨⟨Nat.le_of_ble_eq_true rfl, Nat.le_of_ble_eq_true rfl⟩, Nat.le_of_ble_eq_true rfl, Nat.le_of_ble_eq_true rfl⟩ (Nat.le_of_ble_eq_true rfl) (fun _ h8 h9 => absurd h9 (Nat.not_le.mpr h8)) dX1_fogAt_52 55 rfl (nw_rdK ?_) nw_noX
            have hg10 : nwO d (ad (200 + b)) 3 [.int (nI (((sg_fo σ).2 b).1)), .int (nI (((sg_fo σ).2 b).2))] H := (hcFo.2 b (by omega))
            refine nw_cast C (ci := 3) rfl (hg10.is C (ci := 3) rfl) q424 dX1_fogAt_55 58 rfl ?_
            refine nw_getN C hg10 (T := TX9) rfl in_X9 0 (by decide) q978 rfl rfl dX1_fogAt_58 61 rfl ?_
            refine nw_icmpltN C (by omega) 66 dX1_fogAt_61 (by decide) 64 rfl (fun h11 => ?_) (fun h11 => ?_)
            · refine nw_iincN C 4 (c0 := 1) [(3, .int (nI (i + 1))), (4, .ref (ad (200 + i))), (0, .ref x), (1, .int (nI t)), (2, .int (nI b))] dX1_fogAt_66 rfl (by decide) rfl 69 rfl ?_
              refine nw_goto C 4 dX1_fogAt_69 (by decide) ?_
              exact (nw_sub [2, 3, 4, 0] rfl (ih_lp1 (i + 1) (some b) (by omega) (by unfold sp_fogI; rw [← ho]; (try dsimp only); (repeat' split) <;> first | rfl | omega | (exfalso; omega)) (fun v hv => by cases hv; omega) (by omega)))
            · refine nw_iload_n C 4 dX1_fogAt_64 rfl 65 rfl ?_
              refine nw_istore_n C [(2, .int (nI i)), (4, .ref (ad (200 + i))), (0, .ref x), (1, .int (nI t)), (3, .int (nI i))] dX1_fogAt_65 (by decide) rfl 66 rfl ?_
              refine nw_iincN C 4 (c0 := 1) [(3, .int (nI (i + 1))), (2, .int (nI i)), (4, .ref (ad (200 + i))), (0, .ref x), (1, .int (nI t))] dX1_fogAt_66 rfl (by decide) rfl 69 rfl ?_
              refine nw_goto C 4 dX1_fogAt_69 (by decide) ?_
              exact (nw_sub [3, 4, 1, 0] rfl (ih_lp1 (i + 1) (some i) (by omega) (by unfold sp_fogI; rw [← ho]; (try dsimp only); (repeat' split) <;> first | rfl | omega | (exfalso; omega)) (fun v hv => by cases hv; omega) (by omega)))
  exact (nw_sub [2, 3, 1, 0] rfl (lp1 _ 0 none (Nat.zero_le _) rfl (fun v hv => by cases hv) (Nat.lt_succ_self _)))
