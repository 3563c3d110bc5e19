/-! ===== the component: what is now ===== -/
theorem kX6_isWall : nwPV "NightwatchWall$Ground" yX6_isWall cX6_isWall 2 (some .boolean) 1 := ⟨⟨q290, q291, q101, q292⟩, rfl, by decide +kernel, by decide +kernel, by decide +kernel⟩
theorem kX1_isWatched : nwPV "NightwatchWall" yX1_isWatched cX1_isWatched 3 (some .boolean) 2 := ⟨⟨q414, qs6, q86, q415⟩, rfl, by decide +kernel, by decide +kernel, by decide +kernel⟩
theorem kX1_guardsOn : nwPV "NightwatchWall" yX1_guardsOn cX1_guardsOn 5 (some .int) 2 := ⟨⟨q527, qs16, q86, q528⟩, rfl, by decide +kernel, by decide +kernel, by decide +kernel⟩
theorem kX1_blind : nwPV "NightwatchWall" yX1_blind cX1_blind 4 (some .int) 1 := ⟨⟨q540, qs19, q86, q541⟩, rfl, by decide +kernel, by decide +kernel, by decide +kernel⟩
theorem kX1_onDuty : nwPV "NightwatchWall" yX1_onDuty cX1_onDuty 5 (some .int) 2 := ⟨⟨q544, qs20, q86, q545⟩, rfl, by decide +kernel, by decide +kernel, by decide +kernel⟩
theorem kX1_emptyPosts : nwPV "NightwatchWall" yX1_emptyPosts cX1_emptyPosts 4 (some .int) 1 := ⟨⟨q523, qs15, q86, q524⟩, rfl, by decide +kernel, by decide +kernel, by decide +kernel⟩
theorem kX1_bright : nwPV "NightwatchWall" yX1_bright cX1_bright 3 (some .int) 0 := ⟨⟨q549, qs21, q86, q550⟩, rfl, by decide +kernel, by decide +kernel, by decide +kernel⟩
theorem kX1_keysAway : nwPV "NightwatchWall" yX1_keysAway cX1_keysAway 7 (some .int) 1 := ⟨⟨q553, qs22, q86, q554⟩, rfl, by decide +kernel, by decide +kernel, by decide +kernel⟩
theorem kX1_isWalkable : nwPV "NightwatchWall" yX1_isWalkable cX1_isWalkable 4 (some .boolean) 2 := ⟨⟨q574, qs24, q86, q575⟩, rfl, by decide +kernel, by decide +kernel, by decide +kernel⟩
theorem kX10_isBarred : nwPV "NightwatchWall$Guard" yX10_isBarred cX10_isBarred 1 (some .boolean) 0 := ⟨⟨q585, q586, q117, q587⟩, rfl, by decide +kernel, by decide +kernel, by decide +kernel⟩
theorem kX1_keysOf : nwPV "NightwatchWall" yX1_keysOf cX1_keysOf 4 (some .int) 1 := ⟨⟨q509, qs13, q86, q510⟩, rfl, by decide +kernel, by decide +kernel, by decide +kernel⟩
theorem kX10_tiredMinutes : nwPV "NightwatchWall$Guard" yX10_tiredMinutes cX10_tiredMinutes 1 (some .int) 0 := ⟨⟨q589, q590, q117, q591⟩, rfl, by decide +kernel, by decide +kernel, by decide +kernel⟩
set_option maxHeartbeats 4000000 in
theorem mX1_guardsOn (l : Launch) (hf : l.flags = flags0) (d : nwD) (ro ad : Nat → Nat) (x : Nat) (σ : spSg) (sm : Int64) (c t : Nat) (H : Heap) (hB : nd_B d ≤ H.size) (hW : nwWC d ro ad x σ sm H) (ok : spOk σ) (hc : c < 2 ^ 31) (ht : t < 2 ^ 31) : nwRd l d yX1_guardsOn cX1_guardsOn 5 (some .int) 5 105 [.ref x, .int (nI c), .int (nI t)] H (some (.int (sp_guardsOn (sg_gu σ) c t))) := by
  refine nw_rd "NightwatchWall" "guardsOn" hf (by decide +kernel) rfl rfl hB (Nat.le_of_ble_eq_true rfl) ?_
  intro X C
  obtain ⟨hx, hcG, hcLa, hcFo, hcGu, hcPo, hcIn, hcWi, hcWo, hcKe⟩ := id hW
  obtain ⟨okg, okl, okf, oku, okp, oki, okw, okd, okk, oka⟩ := id ok
  have hn64 : gr_n (sg_gr σ) ≤ 64 := okg.n
  have hE := C.E0
  have oku1 := oku.1
  show nwV X _ _ 5 H 0 0 0 [(0, .ref x), (1, .int (nI c)), (2, .int (nI t))] []
  refine nw_iconst C (nI 0) dX1_guardsOn_0 (by decide) 1 rfl ?_
  refine nw_istore_n C [(3, .int (nI 0)), (0, .ref x), (1, .int (nI c)), (2, .int (nI t))] dX1_guardsOn_1 (by decide) rfl 2 rfl ?_
  refine nw_iconst C (nI 0) dX1_guardsOn_2 (by decide) 3 rfl ?_
  refine nw_istore C [(4, .int (nI 0)), (3, .int (nI 0)), (0, .ref x), (1, .int (nI c)), (2, .int (nI t))] dX1_guardsOn_3 (by decide) rfl 5 rfl ?_
  have lp1 : ∀ (fu : Nat) (i : Nat) (mm : Int32), (i ≤ (sg_gu σ).1) → (mm = sp_bits (sp_onc (sg_gu σ) c t) i) → (sg_gu σ).1 - i < fu → nwV X (nwNew H) (nwQE X (fun v H1 => v = some (.int (sp_guardsOn (sg_gu σ) c t)) ∧ H1 = H) nwNo (nwNew H) 0 0) 5 H 0 0 5 [(0, .ref x), (1, .int (nI c)), (2, .int (nI t)), (3, .int mm), (4, .int (nI i))] [] := by
    intro fu
    induction fu with
    | zero => intro i mm _ _ hm; exact absurd hm (Nat.not_lt_zero _)
    | succ fu ih_lp1 =>
      intro i mm hi hmm hm
      refine nw_iload C 4 dX1_guardsOn_5 rfl 7 rfl ?_
      refine nw_aload_n C 0 dX1_guardsOn_7 rfl 8 rfl ?_
      refine nw_get C hx (T := TX1) rfl in_X1 3 (by decide) q224 (Or.inl rfl) rfl dX1_guardsOn_8 11 rfl ?_
      refine nw_callV C (mJ3_size _ C.hfl d (ad 3) ((sg_gu σ).1) (fun k => ad (300 + k)) (fun q => ro q = 2004) H hB hcGu.1) kJ3_size q346 (hcGu.1.is C) (As := []) (rest := [.int (nI i)]) rfl rfl ⟨⟨Nat.le_of_ble_eq_true rfl, Nat.le_of_ble_eq_true rfl⟩, Nat.le_of_ble_eq_true rfl, Nat.le_of_ble_eq_true rfl⟩ (Nat.le_of_ble_eq_true rfl) (fun _ h8 h9 => absurd h9 (Nat.not_le.mpr h8)) dX1_guardsOn_11 14 rfl (nw_rdK ?_) nw_noX
      refine nw_icmpgeN C (by omega) 54 dX1_guardsOn_14 (by decide) 17 rfl (fun h2 => ?_) (fun h2 => ?_)
      · refine nw_iload_n C 3 dX1_guardsOn_54 rfl 55 rfl ?_
        exact nw_iret C dX1_guardsOn_55 (Nat.le_refl _) (Nat.le_refl _) ⟨congrArg (fun z => some (Value.int z)) (show (mm) = (sp_guardsOn (sg_gu σ) c t) from (by rw [hmm, show i = (sg_gu σ).1 by omega]; rfl)), rfl⟩
      · refine nw_iload_n C 3 dX1_guardsOn_17 rfl 18 rfl ?_
        refine nw_aload_n C 0 dX1_guardsOn_18 rfl 19 rfl ?_
        refine nw_get C hx (T := TX1) rfl in_X1 3 (by decide) q224 (Or.inl rfl) rfl dX1_guardsOn_19 22 rfl ?_
        refine nw_iload C 4 dX1_guardsOn_22 rfl 24 rfl ?_
        refine nw_callV C (mJ3_get _ C.hfl d (ad 3) ((sg_gu σ).1) (fun k => ad (300 + k)) (fun q => ro q = 2004) i H hB hcGu.1 (by omega)) kJ3_get q350 (hcGu.1.is C) (As := [.int (nI i)]) (rest := [.int mm]) rfl rfl ⟨⟨Nat.le_of_ble_eq_true rfl, Nat.le_of_ble_eq_true rfl⟩, Nat.le_of_ble_eq_true rfl, Nat.le_of_ble_eq_true rfl⟩ (Nat.le_of_ble_eq_true rfl) (fun _ h8 h9 => absurd h9 (Nat.not_le.mpr h8)) dX1_guardsOn_24 27 rfl (nw_rdK ?_) nw_noX
        have hg3 : nwGd d (ad (300 + i)) (ad (400 + i)) (fun q => ro q = 2401 + i) ((sg_gu σ).2 i) H := hcGu.2 i (by omega)
        have hk4 : okGd (sg_gr σ) ((sg_gu σ).2 i) := oku.2 i (by omega)
        have hg5 : nwO d (ad (300 + i)) 4 [.int (nI (gd_a ((sg_gu σ).2 i))), .int (nI (gd_b ((sg_gu σ).2 i))), .int (nI (gd_s ((sg_gu σ).2 i))), .ref (ad (400 + i)), .int (nI (gd_k ((sg_gu σ).2 i))), .int (gd_h ((sg_gu σ).2 i))] H := hg3.1
        refine nw_cast C (ci := 4) rfl (hg5.is C (ci := 4) rfl) q369 dX1_guardsOn_27 30 rfl ?_
        refine nw_iload_n C 2 dX1_guardsOn_30 rfl 31 rfl ?_
        refine nw_callV C (mX10_place _ C.hfl d (ad (300 + i)) (ad (400 + i)) (fun q => ro q = 2401 + i) ((sg_gu σ).2 i) (sg_gr σ) t H hB hg3 hk4 (by omega) (by omega)) kX10_place q429 (hg5.is C (ci := 4) rfl) (As := [.int (nI t)]) (rest := [.int mm]) rfl rfl ⟨⟨Nat.le_of_ble_eq_true rfl, Nat.le_of_ble_eq_true rfl⟩, Nat.le_of_ble_eq_true rfl, Nat.le_of_ble_eq_true rfl⟩ (Nat.le_of_ble_eq_true rfl) (fun _ h8 h9 => absurd h9 (Nat.not_le.mpr h8)) dX1_guardsOn_31 34 rfl (nw_rdK ?_) nw_noX
        refine nw_iload_n C 1 dX1_guardsOn_34 rfl 35 rfl ?_
        refine nw_icmpneO C (sp_place ((sg_gu σ).2 i) t) (some c) (fun v hv => by have := (oku.2 i (by omega)).cell hv; omega) (fun v hv => by cases hv; omega) 45 dX1_guardsOn_35 (by decide) 38 rfl (fun h6 => ?_) (fun h6 => ?_)
        · refine nw_iconst C (nI 0) dX1_guardsOn_45 (by decide) 46 rfl ?_
          refine nw_ior C (mm ||| (nI 0)) dX1_guardsOn_46 rfl 47 rfl ?_
          refine nw_istore_n C [(3, .int (mm ||| (nI 0))), (0, .ref x), (1, .int (nI c)), (2, .int (nI t)), (4, .int (nI i))] dX1_guardsOn_47 (by decide) rfl 48 rfl ?_
          refine nw_iincN C 4 (c0 := 1) [(4, .int (nI (i + 1))), (3, .int (mm ||| (nI 0))), (0, .ref x), (1, .int (nI c)), (2, .int (nI t))] dX1_guardsOn_48 rfl (by decide) rfl 51 rfl ?_
          refine nw_goto C 5 dX1_guardsOn_51 (by decide) ?_
          exact (nw_sub [2, 3, 4, 1, 0] rfl (ih_lp1 (i + 1) (mm ||| (nI 0)) (by omega) (by rw [sp_bits_f0 (p := sp_onc (sg_gu σ) c t) (n := i) (by unfold sp_onc; simp [h6]), ← hmm]) (by omega)))
        · refine nw_iconst C (nI 1) dX1_guardsOn_38 (by decide) 39 rfl ?_
          refine nw_iload C 4 dX1_guardsOn_39 rfl 41 rfl ?_
          refine nw_ishl C ((nI 1) <<< ((nI i) &&& 31)) dX1_guardsOn_41 rfl 42 rfl ?_
          refine nw_goto C 46 dX1_guardsOn_42 (by decide) ?_
          refine nw_ior C (mm ||| ((nI 1) <<< ((nI i) &&& 31))) dX1_guardsOn_46 rfl 47 rfl ?_
          refine nw_istore_n C [(3, .int (mm ||| ((nI 1) <<< ((nI i) &&& 31)))), (0, .ref x), (1, .int (nI c)), (2, .int (nI t)), (4, .int (nI i))] dX1_guardsOn_47 (by decide) rfl 48 rfl ?_
          refine nw_iincN C 4 (c0 := 1) [(4, .int (nI (i + 1))), (3, .int (mm ||| ((nI 1) <<< ((nI i) &&& 31)))), (0, .ref x), (1, .int (nI c)), (2, .int (nI t))] dX1_guardsOn_48 rfl (by decide) rfl 51 rfl ?_
          refine nw_goto C 5 dX1_guardsOn_51 (by decide) ?_
          exact (nw_sub [2, 3, 4, 1, 0] rfl (ih_lp1 (i + 1) (mm ||| ((nI 1) <<< ((nI i) &&& 31))) (by omega) (by rw [sp_bits_t (p := sp_onc (sg_gu σ) c t) (n := i) (by unfold sp_onc; simp [h6]), ← hmm]) (by omega)))
  exact (nw_sub [2, 3, 4, 1, 0] rfl (lp1 _ 0 (nI 0) (Nat.zero_le _) rfl (Nat.lt_succ_self _)))
set_option maxHeartbeats 4000000 in
theorem mX1_isWalkable (l : Launch) (hf : l.flags = flags0) (d : nwD) (ro ad : Nat → Nat) (x : Nat) (σ : spSg) (sm : Int64) (c t : Nat) (H : Heap) (hB : nd_B d ≤ H.size) (hW : nwWC d ro ad x σ sm H) (ok : spOk σ) (hc : c < gr_n (sg_gr σ)) (ht : t < 2 ^ 31) : nwRd l d yX1_isWalkable cX1_isWalkable 4 (some .boolean) 2 42 [.ref x, .int (nI c), .int (nI t)] H (some (.int (b2i (sp_walk (sg_gr σ) (sg_ga σ) c t)))) := by
  refine nw_rd "NightwatchWall" "isWalkable" hf (by decide +kernel) rfl rfl hB (Nat.le_of_ble_eq_true rfl) ?_
  intro X C
  obtain ⟨hx, hcG, hcLa, hcFo, hcGu, hcPo, hcIn, hcWi, hcWo, hcKe⟩ := id hW
  obtain ⟨okg, okl, okf, oku, okp, oki, okw, okd, okk, oka⟩ := id ok
  have hn64 : gr_n (sg_gr σ) ≤ 64 := okg.n
  have hE := C.E0
  obtain ⟨hgro, hgrl, hgrg⟩ := hcG.here hc
  have hk4 : gr_k (sg_gr σ) c < 4 := hgro.2 c hc
  have hga := ga_lt oka
  show nwV X _ _ 4 H 0 0 0 [(0, .ref x), (1, .int (nI c)), (2, .int (nI t))] []
  refine nw_aload_n C 0 dX1_isWalkable_0 rfl 1 rfl ?_
  refine nw_get C hx (T := TX1) rfl in_X1 0 (by decide) q221 (Or.inl rfl) rfl dX1_isWalkable_1 4 rfl ?_
  refine nw_callV C (mJ0_get _ C.hfl d (ad 0) (ad 9) H hB hgrl) kJ0_get q280 (hgrl.is C (ci := 15) rfl) (As := []) (rest := []) rfl rfl ⟨⟨Nat.le_of_ble_eq_true rfl, Nat.le_of_ble_eq_true rfl⟩, Nat.le_of_ble_eq_true rfl, Nat.le_of_ble_eq_true rfl⟩ (Nat.le_of_ble_eq_true rfl) (fun _ h8 h9 => absurd h9 (Nat.not_le.mpr h8)) dX1_isWalkable_4 7 rfl (nw_rdK ?_) nw_noX
  refine nw_cast C (ci := 1) rfl (hgrg.1.is C (ci := 1) rfl) q284 dX1_isWalkable_7 10 rfl ?_
  refine nw_getN C hgrg.1 (T := TX6) rfl in_X6 2 (by decide) q736 rfl rfl dX1_isWalkable_10 13 rfl ?_
  refine nw_iload_n C 1 dX1_isWalkable_13 rfl 14 rfl ?_
  refine nw_aaldKN C (nd_st d (gr_k (sg_gr σ) c)) hgrg.2 (by omega) rfl dX1_isWalkable_14 15 rfl ?_
  refine nw_astore_n C [(3, .ref (nd_st d (gr_k (sg_gr σ) c))), (0, .ref x), (1, .int (nI c)), (2, .int (nI t))] dX1_isWalkable_15 (by decide) rfl 16 rfl ?_
  refine nw_aload_n C 0 dX1_isWalkable_16 rfl 17 rfl ?_
  refine nw_gets C (v := .ref (nd_st d 1)) (fun _ _ h9 => h9.2.2.1.2.1) q576 dX1_isWalkable_17 20 rfl ?_
  refine nw_acmpeq C 49 dX1_isWalkable_20 (by decide) 23 rfl (fun h1 => ?_) (fun h1 => ?_)
  · refine nw_iconst C (nI 0) dX1_isWalkable_49 (by decide) 50 rfl ?_
    exact nw_nret C dX1_isWalkable_50 (b2i_narrow false) (Nat.le_refl _) (Nat.le_refl _) ⟨congrArg (fun z => some (Value.int (b2i z))) (show (false) = (sp_walk (sg_gr σ) (sg_ga σ) c t) from (by have z0 := (nw_kT C hk4 (by decide) h1).symm; unfold sp_walk; simp [z0])), rfl⟩
  · refine nw_aload_n C 0 dX1_isWalkable_23 rfl 24 rfl ?_
    refine nw_gets C (v := .ref (nd_st d 3)) (fun _ _ h9 => h9.2.2.1.2.2.2) q577 dX1_isWalkable_24 27 rfl ?_
    refine nw_acmpne C 45 dX1_isWalkable_27 (by decide) 30 rfl (fun h2 => ?_) (fun h2 => ?_)
    · refine nw_iconst C (nI 1) dX1_isWalkable_45 (by decide) 46 rfl ?_
      refine nw_goto C 50 dX1_isWalkable_46 (by decide) ?_
      exact nw_nret C dX1_isWalkable_50 (b2i_narrow true) (Nat.le_refl _) (Nat.le_refl _) ⟨congrArg (fun z => some (Value.int (b2i z))) (show (true) = (sp_walk (sg_gr σ) (sg_ga σ) c t) from (by have z0 := (nw_kF h1).symm; have z1 := (nw_kF h2).symm; unfold sp_walk; simp [z0, z1])), rfl⟩
    · refine nw_aload_n C 1 dX1_isWalkable_30 rfl 31 rfl ?_
      refine nw_get C hx (T := TX1) rfl in_X1 9 (by decide) q230 (Or.inl rfl) rfl dX1_isWalkable_31 34 rfl ?_
      refine nw_aload_n C 1 dX1_isWalkable_34 rfl 35 rfl ?_
      refine nw_get C hx (T := TX1) rfl in_X1 10 (by decide) q231 (Or.inl rfl) rfl dX1_isWalkable_35 38 rfl ?_
      refine nw_iload_n C 3 dX1_isWalkable_38 rfl 39 rfl ?_
      refine nw_callS C (mX1_isFrom _ C.hfl d (ga_f (sg_ga σ)) (ga_t (sg_ga σ)) t H hB (by omega)) kX1_isFrom q579 (As := [.int (nI (ga_f (sg_ga σ))), .int (nI (ga_t (sg_ga σ))), .int (nI t)]) (rest := []) rfl rfl ⟨⟨Nat.le_of_ble_eq_true rfl, Nat.le_of_ble_eq_true rfl⟩, Nat.le_of_ble_eq_true rfl, Nat.le_of_ble_eq_true rfl⟩ (Nat.le_of_ble_eq_true rfl) (fun _ h8 h9 => absurd h9 (Nat.not_le.mpr h8)) dX1_isWalkable_39 42 rfl (nw_rdK ?_) nw_noX
      refine nw_ifeqB C 49 dX1_isWalkable_42 (by decide) 45 rfl (fun h3 => ?_) (fun h3 => ?_)
      · refine nw_iconst C (nI 0) dX1_isWalkable_49 (by decide) 50 rfl ?_
        exact nw_nret C dX1_isWalkable_50 (b2i_narrow false) (Nat.le_refl _) (Nat.le_refl _) ⟨congrArg (fun z => some (Value.int (b2i z))) (show (false) = (sp_walk (sg_gr σ) (sg_ga σ) c t) from (by have z0 := (nw_kF h1).symm; have z1 := (nw_kT C hk4 (by decide) h2).symm; have z9 := h3; rw [ga_is] at z9; unfold sp_walk; simp [z0, z1, z9])), rfl⟩
      · refine nw_iconst C (nI 1) dX1_isWalkable_45 (by decide) 46 rfl ?_
        refine nw_goto C 50 dX1_isWalkable_46 (by decide) ?_
        exact nw_nret C dX1_isWalkable_50 (b2i_narrow true) (Nat.le_refl _) (Nat.le_refl _) ⟨congrArg (fun z => some (Value.int (b2i z))) (show (true) = (sp_walk (sg_gr σ) (sg_ga σ) c t) from (by have z0 := (nw_kF h1).symm; have z1 := (nw_kT C hk4 (by decide) h2).symm; have z9 := h3; rw [ga_is] at z9; unfold sp_walk; simp [z0, z1, z9])), rfl⟩
set_option maxHeartbeats 4000000 in
theorem mX1_blind (l : Launch) (hf : l.flags = flags0) (d : nwD) (ro ad : Nat → Nat) (x : Nat) (σ : spSg) (sm : Int64) (t : Nat) (H : Heap) (hB : nd_B d ≤ H.size) (hW : nwWC d ro ad x σ sm H) (ok : spOk σ) (ht : t < 2 ^ 31) : nwRd l d yX1_blind cX1_blind 4 (some .int) 8 182 [.ref x, .int (nI t)] H (some (.int (nI (sp_blind σ t)))) := by
  refine nw_rd "NightwatchWall" "blind" hf (by decide +kernel) rfl rfl hB (Nat.le_of_ble_eq_true rfl) ?_
  intro X C
  obtain ⟨hx, hcG, hcLa, hcFo, hcGu, hcPo, hcIn, hcWi, hcWo, hcKe⟩ := id hW
  obtain ⟨okg, okl, okf, oku, okp, oki, okw, okd, okk, oka⟩ := id ok
  have hn64 : gr_n (sg_gr σ) ≤ 64 := okg.n
  have hE := C.E0
  show nwV X _ _ 4 H 0 0 0 [(0, .ref x), (1, .int (nI t))] []
  refine nw_iconst C (nI 0) dX1_blind_0 (by decide) 1 rfl ?_
  refine nw_istore_n C [(2, .int (nI 0)), (0, .ref x), (1, .int (nI t))] dX1_blind_1 (by decide) rfl 2 rfl ?_
  refine nw_iconst C (nI 0) dX1_blind_2 (by decide) 3 rfl ?_
  refine nw_istore_n C [(3, .int (nI 0)), (2, .int (nI 0)), (0, .ref x), (1, .int (nI t))] dX1_blind_3 (by decide) rfl 4 rfl ?_
  have lp1 : ∀ (fu : Nat) (i : Nat) (m : Nat), (i ≤ gr_n (sg_gr σ)) → (m = sp_cnt (fun c => !(gr_k (sg_gr σ) c == 1) && !sp_watched (sg_gr σ) (sg_la σ) (sg_fo σ) (sg_gu σ) c t) i) → gr_n (sg_gr σ) - i < fu → nwV X (nwNew H) (nwQE X (fun v H1 => v = some (.int (nI (sp_blind σ t))) ∧ H1 = H) nwNo (nwNew H) 0 0) 4 H 0 0 4 [(0, .ref x), (1, .int (nI t)), (2, .int (nI m)), (3, .int (nI i))] [] := by
    intro fu
    induction fu with
    | zero => intro i m _ _ hm; exact absurd hm (Nat.not_lt_zero _)
    | succ fu ih_lp1 =>
      intro i m hi hmm hm
      refine nw_iload_n C 3 dX1_blind_4 rfl 5 rfl ?_
      refine nw_aload_n C 0 dX1_blind_5 rfl 6 rfl ?_
      refine nw_callV C (mX1_size _ C.hfl d ro ad x σ sm  H hB hW ok ) kX1_size q272 (hx.is C (ci := 0) rfl) (As := []) (rest := [.int (nI i)]) rfl rfl ⟨⟨Nat.le_of_ble_eq_true rfl, Nat.le_of_ble_eq_true rfl⟩, Nat.le_of_ble_eq_true rfl, Nat.le_of_ble_eq_true rfl⟩ (Nat.le_of_ble_eq_true rfl) (fun _ h8 h9 => absurd h9 (Nat.not_le.mpr h8)) dX1_blind_6 9 rfl (nw_rdK ?_) nw_noX
      refine nw_icmpgeN C (by omega) 52 dX1_blind_9 (by decide) 12 rfl (fun h2 => ?_) (fun h2 => ?_)
      · refine nw_iload_n C 2 dX1_blind_52 rfl 53 rfl ?_
        exact nw_iret C dX1_blind_53 (Nat.le_refl _) (Nat.le_refl _) ⟨congrArg (fun z => some (Value.int (nI z))) (show (m) = (sp_blind σ t) from (by rw [hmm, show i = gr_n (sg_gr σ) by omega]; rfl)), rfl⟩
      · obtain ⟨hgr3o, hgr3l, hgr3g⟩ := hcG.here (by omega)
        refine nw_iload_n C 2 dX1_blind_12 rfl 13 rfl ?_
        refine nw_aload_n C 0 dX1_blind_13 rfl 14 rfl ?_
        refine nw_get C hx (T := TX1) rfl in_X1 0 (by decide) q221 (Or.inl rfl) rfl dX1_blind_14 17 rfl ?_
        refine nw_callV C (mJ0_get _ C.hfl d (ad 0) (ad 9) H hB hgr3l) kJ0_get q280 (hgr3l.is C (ci := 15) rfl) (As := []) (rest := [.int (nI m)]) rfl rfl ⟨⟨Nat.le_of_ble_eq_true rfl, Nat.le_of_ble_eq_true rfl⟩, Nat.le_of_ble_eq_true rfl, Nat.le_of_ble_eq_true rfl⟩ (Nat.le_of_ble_eq_true rfl) (fun _ h8 h9 => absurd h9 (Nat.not_le.mpr h8)) dX1_blind_17 20 rfl (nw_rdK ?_) nw_noX
        refine nw_cast C (ci := 1) rfl (hgr3g.1.is C (ci := 1) rfl) q284 dX1_blind_20 23 rfl ?_
        refine nw_iload_n C 3 dX1_blind_23 rfl 24 rfl ?_
        refine nw_callV C (mX6_isWall _ C.hfl d (ad 9) (ad 10) (sg_gr σ) i H hB hgr3g hgr3o (by omega)) kX6_isWall q289 (hgr3g.1.is C (ci := 1) rfl) (As := [.int (nI i)]) (rest := [.int (nI m)]) rfl rfl ⟨⟨Nat.le_of_ble_eq_true rfl, Nat.le_of_ble_eq_true rfl⟩, Nat.le_of_ble_eq_true rfl, Nat.le_of_ble_eq_true rfl⟩ (Nat.le_of_ble_eq_true rfl) (fun _ h8 h9 => absurd h9 (Nat.not_le.mpr h8)) dX1_blind_24 27 rfl (nw_rdK ?_) nw_noX
        refine nw_ifneB C 43 dX1_blind_27 (by decide) 30 rfl (fun h4 => ?_) (fun h4 => ?_)
        · refine nw_iconst C (nI 0) dX1_blind_43 (by decide) 44 rfl ?_
          refine nw_iaddN C dX1_blind_44 45 rfl ?_
          refine nw_istore_n C [(2, .int (nI (m + 0))), (0, .ref x), (1, .int (nI t)), (3, .int (nI i))] dX1_blind_45 (by decide) rfl 46 rfl ?_
          refine nw_iincN C 3 (c0 := 1) [(3, .int (nI (i + 1))), (2, .int (nI (m + 0))), (0, .ref x), (1, .int (nI t))] dX1_blind_46 rfl (by decide) rfl 49 rfl ?_
          refine nw_goto C 4 dX1_blind_49 (by decide) ?_
          exact (nw_sub [2, 3, 1, 0] rfl (ih_lp1 (i + 1) m (by omega) (by rw [sp_cnt_f (p := fun c => !(gr_k (sg_gr σ) c == 1) && !sp_watched (sg_gr σ) (sg_la σ) (sg_fo σ) (sg_gu σ) c t) (n := i) (by simp [h4])]; omega) (by omega)))
        · refine nw_aload_n C 0 dX1_blind_30 rfl 31 rfl ?_
          refine nw_iload_n C 3 dX1_blind_31 rfl 32 rfl ?_
          refine nw_iload_n C 1 dX1_blind_32 rfl 33 rfl ?_
          refine nw_callV C (mX1_isWatched _ C.hfl d ro ad x σ sm i t H hB hW ok (by omega) (by omega)) kX1_isWatched q412 (hx.is C (ci := 0) rfl) (As := [.int (nI i), .int (nI t)]) (rest := [.int (nI m)]) rfl rfl ⟨⟨Nat.le_of_ble_eq_true rfl, Nat.le_of_ble_eq_true rfl⟩, Nat.le_of_ble_eq_true rfl, Nat.le_of_ble_eq_true rfl⟩ (Nat.le_of_ble_eq_true rfl) (fun _ h8 h9 => absurd h9 (Nat.not_le.mpr h8)) dX1_blind_33 36 rfl (nw_rdK ?_) nw_noX
          refine nw_ifneB C 43 dX1_blind_36 (by decide) 39 rfl (fun h5 => ?_) (fun h5 => ?_)
          · refine nw_iconst C (nI 0) dX1_blind_43 (by decide) 44 rfl ?_
            refine nw_iaddN C dX1_blind_44 45 rfl ?_
            refine nw_istore_n C [(2, .int (nI (m + 0))), (0, .ref x), (1, .int (nI t)), (3, .int (nI i))] dX1_blind_45 (by decide) rfl 46 rfl ?_
            refine nw_iincN C 3 (c0 := 1) [(3, .int (nI (i + 1))), (2, .int (nI (m + 0))), (0, .ref x), (1, .int (nI t))] dX1_blind_46 rfl (by decide) rfl 49 rfl ?_
            refine nw_goto C 4 dX1_blind_49 (by decide) ?_
            exact (nw_sub [2, 3, 1, 0] rfl (ih_lp1 (i + 1) m (by omega) (by rw [sp_cnt_f (p := fun c => !(gr_k (sg_gr σ) c == 1) && !sp_watched (sg_gr σ) (sg_la σ) (sg_fo σ) (sg_gu σ) c t) (n := i) (by simp [h4, h5])]; omega) (by omega)))
          · refine nw_iconst C (nI 1) dX1_blind_39 (by decide) 40 rfl ?_
            refine nw_goto C 44 dX1_blind_40 (by decide) ?_
            refine nw_iaddN C dX1_blind_44 45 rfl ?_
            refine nw_istore_n C [(2, .int (nI (m + 1))), (0, .ref x), (1, .int (nI t)), (3, .int (nI i))] dX1_blind_45 (by decide) rfl 46 rfl ?_
            refine nw_iincN C 3 (c0 := 1) [(3, .int (nI (i + 1))), (2, .int (nI (m + 1))), (0, .ref x), (1, .int (nI t))] dX1_blind_46 rfl (by decide) rfl 49 rfl ?_
            refine nw_goto C 4 dX1_blind_49 (by decide) ?_
            exact (nw_sub [2, 3, 1, 0] rfl (ih_lp1 (i + 1) (m + 1) (by omega) (by rw [sp_cnt_t (p := fun c => !(gr_k (sg_gr σ) c == 1) && !sp_watched (sg_gr σ) (sg_la σ) (sg_fo σ) (sg_gu σ) c t) (n := i) (by simp [h4, h5])]; omega) (by omega)))
  exact (nw_sub [2, 3, 1, 0] rfl (lp1 _ 0 0 (Nat.zero_le _) rfl (Nat.lt_succ_self _)))
set_option maxHeartbeats 4000000 in
theorem mX1_onDuty (l : Launch) (hf : l.flags = flags0) (d : nwD) (ro ad : Nat → Nat) (x : Nat) (σ : spSg) (sm : Int64) (t : Nat) (ti : Bool) (H : Heap) (hB : nd_B d ≤ H.size) (hW : nwWC d ro ad x σ sm H) (ok : spOk σ) (ht : t < 2 ^ 31) : nwRd l d yX1_onDuty cX1_onDuty 5 (some .int) 4 84 [.ref x, .int (nI t), .int (b2i ti)] H (some (.int (nI (sp_duty (sg_gu σ) t ti)))) := by
  refine nw_rd "NightwatchWall" "onDuty" hf (by decide +kernel) rfl rfl hB (Nat.le_of_ble_eq_true rfl) ?_
  intro X C
  obtain ⟨hx, hcG, hcLa, hcFo, hcGu, hcPo, hcIn, hcWi, hcWo, hcKe⟩ := id hW
  obtain ⟨okg, okl, okf, oku, okp, oki, okw, okd, okk, oka⟩ := id ok
  have hn64 : gr_n (sg_gr σ) ≤ 64 := okg.n
  have hE := C.E0
  have oku1 := oku.1
  show nwV X _ _ 5 H 0 0 0 [(0, .ref x), (1, .int (nI t)), (2, .int (b2i ti))] []
  refine nw_iconst C (nI 0) dX1_onDuty_0 (by decide) 1 rfl ?_
  refine nw_istore_n C [(3, .int (nI 0)), (0, .ref x), (1, .int (nI t)), (2, .int (b2i ti))] dX1_onDuty_1 (by decide) rfl 2 rfl ?_
  refine nw_iconst C (nI 0) dX1_onDuty_2 (by decide) 3 rfl ?_
  refine nw_istore C [(4, .int (nI 0)), (3, .int (nI 0)), (0, .ref x), (1, .int (nI t)), (2, .int (b2i ti))] dX1_onDuty_3 (by decide) rfl 5 rfl ?_
  have lp1 : ∀ (fu : Nat) (i : Nat) (m : Nat), (i ≤ (sg_gu σ).1) → (m = sp_cnt (fun k => if ti then sp_tired ((sg_gu σ).2 k) t else sp_on ((sg_gu σ).2 k) t) i) → (sg_gu σ).1 - i < fu → nwV X (nwNew H) (nwQE X (fun v H1 => v = some (.int (nI (sp_duty (sg_gu σ) t ti))) ∧ H1 = H) nwNo (nwNew H) 0 0) 5 H 0 0 5 [(0, .ref x), (1, .int (nI t)), (2, .int (b2i ti)), (3, .int (nI m)), (4, .int (nI i))] [] := by
    intro fu
    induction fu with
    | zero => intro i m _ _ hm; exact absurd hm (Nat.not_lt_zero _)
    | succ fu ih_lp1 =>
      intro i m hi hmm hm
      refine nw_iload C 4 dX1_onDuty_5 rfl 7 rfl ?_
      refine nw_aload_n C 0 dX1_onDuty_7 rfl 8 rfl ?_
      refine nw_get C hx (T := TX1) rfl in_X1 3 (by decide) q224 (Or.inl rfl) rfl dX1_onDuty_8 11 rfl ?_
      refine nw_callV C (mJ3_size _ C.hfl d (ad 3) ((sg_gu σ).1) (fun k => ad (300 + k)) (fun q => ro q = 2004) H hB hcGu.1) kJ3_size q346 (hcGu.1.is C) (As := []) (rest := [.int (nI i)]) rfl rfl ⟨⟨Nat.le_of_ble_eq_true rfl, Nat.le_of_ble_eq_true rfl⟩, Nat.le_of_ble_eq_true rfl, Nat.le_of_ble_eq_true rfl⟩ (Nat.le_of_ble_eq_true rfl) (fun _ h8 h9 => absurd h9 (Nat.not_le.mpr h8)) dX1_onDuty_11 14 rfl (nw_rdK ?_) nw_noX
      refine nw_icmpgeN C (by omega) 81 dX1_onDuty_14 (by decide) 17 rfl (fun h2 => ?_) (fun h2 => ?_)
      · refine nw_iload_n C 3 dX1_onDuty_81 rfl 82 rfl ?_
        exact nw_iret C dX1_onDuty_82 (Nat.le_refl _) (Nat.le_refl _) ⟨congrArg (fun z => some (Value.int (nI z))) (show (m) = (sp_duty (sg_gu σ) t ti) from (by rw [hmm, show i = (sg_gu σ).1 by omega]; rfl)), rfl⟩
      · refine nw_iload_n C 3 dX1_onDuty_17 rfl 18 rfl ?_
        refine nw_iload_n C 2 dX1_onDuty_18 rfl 19 rfl ?_
        refine nw_ifeqB C 49 dX1_onDuty_19 (by decide) 22 rfl (fun h3 => ?_) (fun h3 => ?_)
        · refine nw_aload_n C 0 dX1_onDuty_49 rfl 50 rfl ?_
          refine nw_get C hx (T := TX1) rfl in_X1 3 (by decide) q224 (Or.inl rfl) rfl dX1_onDuty_50 53 rfl ?_
          refine nw_iload C 4 dX1_onDuty_53 rfl 55 rfl ?_
          refine nw_callV C (mJ3_get _ C.hfl d (ad 3) ((sg_gu σ).1) (fun k => ad (300 + k)) (fun q => ro q = 2004) i H hB hcGu.1 (by omega)) kJ3_get q350 (hcGu.1.is C) (As := [.int (nI i)]) (rest := [.int (nI m)]) rfl rfl ⟨⟨Nat.le_of_ble_eq_true rfl, Nat.le_of_ble_eq_true rfl⟩, Nat.le_of_ble_eq_true rfl, Nat.le_of_ble_eq_true rfl⟩ (Nat.le_of_ble_eq_true rfl) (fun _ h8 h9 => absurd h9 (Nat.not_le.mpr h8)) dX1_onDuty_55 58 rfl (nw_rdK ?_) nw_noX
          have hg4 : nwGd d (ad (300 + i)) (ad (400 + i)) (fun q => ro q = 2401 + i) ((sg_gu σ).2 i) H := hcGu.2 i (by omega)
          have hk5 : okGd (sg_gr σ) ((sg_gu σ).2 i) := oku.2 i (by omega)
          have hg6 : nwO d (ad (300 + i)) 4 [.int (nI (gd_a ((sg_gu σ).2 i))), .int (nI (gd_b ((sg_gu σ).2 i))), .int (nI (gd_s ((sg_gu σ).2 i))), .ref (ad (400 + i)), .int (nI (gd_k ((sg_gu σ).2 i))), .int (gd_h ((sg_gu σ).2 i))] H := hg4.1
          refine nw_cast C (ci := 4) rfl (hg6.is C (ci := 4) rfl) q369 dX1_onDuty_58 61 rfl ?_
          refine nw_iload_n C 1 dX1_onDuty_61 rfl 62 rfl ?_
          refine nw_callV C (mX10_isOn _ C.hfl d (ad (300 + i)) (ad (400 + i)) (fun q => ro q = 2401 + i) ((sg_gu σ).2 i) (sg_gr σ) t H hB hg4 hk5 (by omega)) kX10_isOn q546 (hg6.is C (ci := 4) rfl) (As := [.int (nI t)]) (rest := [.int (nI m)]) rfl rfl ⟨⟨Nat.le_of_ble_eq_true rfl, Nat.le_of_ble_eq_true rfl⟩, Nat.le_of_ble_eq_true rfl, Nat.le_of_ble_eq_true rfl⟩ (Nat.le_of_ble_eq_true rfl) (fun _ h8 h9 => absurd h9 (Nat.not_le.mpr h8)) dX1_onDuty_62 65 rfl (nw_rdK ?_) nw_noX
          refine nw_ifeqB C 72 dX1_onDuty_65 (by decide) 68 rfl (fun h7 => ?_) (fun h7 => ?_)
          · refine nw_iconst C (nI 0) dX1_onDuty_72 (by decide) 73 rfl ?_
            refine nw_iaddN C dX1_onDuty_73 74 rfl ?_
            refine nw_istore_n C [(3, .int (nI (m + 0))), (0, .ref x), (1, .int (nI t)), (2, .int (b2i ti)), (4, .int (nI i))] dX1_onDuty_74 (by decide) rfl 75 rfl ?_
            refine nw_iincN C 4 (c0 := 1) [(4, .int (nI (i + 1))), (3, .int (nI (m + 0))), (0, .ref x), (1, .int (nI t)), (2, .int (b2i ti))] dX1_onDuty_75 rfl (by decide) rfl 78 rfl ?_
            refine nw_goto C 5 dX1_onDuty_78 (by decide) ?_
            exact (nw_sub [2, 3, 4, 1, 0] rfl (ih_lp1 (i + 1) m (by omega) (by rw [sp_cnt_f (p := fun k => if ti then sp_tired ((sg_gu σ).2 k) t else sp_on ((sg_gu σ).2 k) t) (n := i) (by simp [h3, h7])]; omega) (by omega)))
          · refine nw_iconst C (nI 1) dX1_onDuty_68 (by decide) 69 rfl ?_
            refine nw_goto C 73 dX1_onDuty_69 (by decide) ?_
            refine nw_iaddN C dX1_onDuty_73 74 rfl ?_
            refine nw_istore_n C [(3, .int (nI (m + 1))), (0, .ref x), (1, .int (nI t)), (2, .int (b2i ti)), (4, .int (nI i))] dX1_onDuty_74 (by decide) rfl 75 rfl ?_
            refine nw_iincN C 4 (c0 := 1) [(4, .int (nI (i + 1))), (3, .int (nI (m + 1))), (0, .ref x), (1, .int (nI t)), (2, .int (b2i ti))] dX1_onDuty_75 rfl (by decide) rfl 78 rfl ?_
            refine nw_goto C 5 dX1_onDuty_78 (by decide) ?_
            exact (nw_sub [2, 3, 4, 1, 0] rfl (ih_lp1 (i + 1) (m + 1) (by omega) (by rw [sp_cnt_t (p := fun k => if ti then sp_tired ((sg_gu σ).2 k) t else sp_on ((sg_gu σ).2 k) t) (n := i) (by simp [h3, h7])]; omega) (by omega)))
        · refine nw_aload_n C 0 dX1_onDuty_22 rfl 23 rfl ?_
          refine nw_get C hx (T := TX1) rfl in_X1 3 (by decide) q224 (Or.inl rfl) rfl dX1_onDuty_23 26 rfl ?_
          refine nw_iload C 4 dX1_onDuty_26 rfl 28 rfl ?_
          refine nw_callV C (mJ3_get _ C.hfl d (ad 3) ((sg_gu σ).1) (fun k => ad (300 + k)) (fun q => ro q = 2004) i H hB hcGu.1 (by omega)) kJ3_get q350 (hcGu.1.is C) (As := [.int (nI i)]) (rest := [.int (nI m)]) rfl rfl ⟨⟨Nat.le_of_ble_eq_true rfl, Nat.le_of_ble_eq_true rfl⟩, Nat.le_of_ble_eq_true rfl, Nat.le_of_ble_eq_true rfl⟩ (Nat.le_of_ble_eq_true rfl) (fun _ h8 h9 => absurd h9 (Nat.not_le.mpr h8)) dX1_onDuty_28 31 rfl (nw_rdK ?_) nw_noX
          have hg8 : nwGd d (ad (300 + i)) (ad (400 + i)) (fun q => ro q = 2401 + i) ((sg_gu σ).2 i) H := hcGu.2 i (by omega)
          have hk9 : okGd (sg_gr σ) ((sg_gu σ).2 i) := oku.2 i (by omega)
          have hg10 : nwO d (ad (300 + i)) 4 [.int (nI (gd_a ((sg_gu σ).2 i))), .int (nI (gd_b ((sg_gu σ).2 i))), .int (nI (gd_s ((sg_gu σ).2 i))), .ref (ad (400 + i)), .int (nI (gd_k ((sg_gu σ).2 i))), .int (gd_h ((sg_gu σ).2 i))] H := hg8.1
          refine nw_cast C (ci := 4) rfl (hg10.is C (ci := 4) rfl) q369 dX1_onDuty_31 34 rfl ?_
          refine nw_iload_n C 1 dX1_onDuty_34 rfl 35 rfl ?_
          refine nw_callV C (mX10_isTired _ C.hfl d (ad (300 + i)) (ad (400 + i)) (fun q => ro q = 2401 + i) ((sg_gu σ).2 i) (sg_gr σ) t H hB hg8 hk9 (by omega)) kX10_isTired q492 (hg10.is C (ci := 4) rfl) (As := [.int (nI t)]) (rest := [.int (nI m)]) rfl rfl ⟨⟨Nat.le_of_ble_eq_true rfl, Nat.le_of_ble_eq_true rfl⟩, Nat.le_of_ble_eq_true rfl, Nat.le_of_ble_eq_true rfl⟩ (Nat.le_of_ble_eq_true rfl) (fun _ h8 h9 => absurd h9 (Nat.not_le.mpr h8)) dX1_onDuty_35 38 rfl (nw_rdK ?_) nw_noX
          refine nw_ifeqB C 45 dX1_onDuty_38 (by decide) 41 rfl (fun h11 => ?_) (fun h11 => ?_)
          · refine nw_iconst C (nI 0) dX1_onDuty_45 (by decide) 46 rfl ?_
            refine nw_goto C 73 dX1_onDuty_46 (by decide) ?_
            refine nw_iaddN C dX1_onDuty_73 74 rfl ?_
            refine nw_istore_n C [(3, .int (nI (m + 0))), (0, .ref x), (1, .int (nI t)), (2, .int (b2i ti)), (4, .int (nI i))] dX1_onDuty_74 (by decide) rfl 75 rfl ?_
            refine nw_iincN C 4 (c0 := 1) [(4, .int (nI (i + 1))), (3, .int (nI (m + 0))), (0, .ref x), (1, .int (nI t)), (2, .int (b2i ti))] dX1_onDuty_75 rfl (by decide) rfl 78 rfl ?_
            refine nw_goto C 5 dX1_onDuty_78 (by decide) ?_
            exact (nw_sub [2, 3, 4, 1, 0] rfl (ih_lp1 (i + 1) m (by omega) (by rw [sp_cnt_f (p := fun k => if ti then sp_tired ((sg_gu σ).2 k) t else sp_on ((sg_gu σ).2 k) t) (n := i) (by simp [h3, h11])]; omega) (by omega)))
          · refine nw_iconst C (nI 1) dX1_onDuty_41 (by decide) 42 rfl ?_
            refine nw_goto C 73 dX1_onDuty_42 (by decide) ?_
            refine nw_iaddN C dX1_onDuty_73 74 rfl ?_
            refine nw_istore_n C [(3, .int (nI (m + 1))), (0, .ref x), (1, .int (nI t)), (2, .int (b2i ti)), (4, .int (nI i))] dX1_onDuty_74 (by decide) rfl 75 rfl ?_
            refine nw_iincN C 4 (c0 := 1) [(4, .int (nI (i + 1))), (3, .int (nI (m + 1))), (0, .ref x), (1, .int (nI t)), (2, .int (b2i ti))] dX1_onDuty_75 rfl (by decide) rfl 78 rfl ?_
            refine nw_goto C 5 dX1_onDuty_78 (by decide) ?_
            exact (nw_sub [2, 3, 4, 1, 0] rfl (ih_lp1 (i + 1) (m + 1) (by omega) (by rw [sp_cnt_t (p := fun k => if ti then sp_tired ((sg_gu σ).2 k) t else sp_on ((sg_gu σ).2 k) t) (n := i) (by simp [h3, h11])]; omega) (by omega)))
  exact (nw_sub [2, 3, 4, 1, 0] rfl (lp1 _ 0 0 (Nat.zero_le _) rfl (Nat.lt_succ_self _)))
set_option maxHeartbeats 4000000 in
theorem mX1_emptyPosts (l : Launch) (hf : l.flags = flags0) (d : nwD) (ro ad : Nat → Nat) (x : Nat) (σ : spSg) (sm : Int64) (t : Nat) (H : Heap) (hB : nd_B d ≤ H.size) (hW : nwWC d ro ad x σ sm H) (ok : spOk σ) (ht : t < 2 ^ 31) : nwRd l d yX1_emptyPosts cX1_emptyPosts 4 (some .int) 6 129 [.ref x, .int (nI t)] H (some (.int (nI (sp_emptyPosts (sg_gu σ) (sg_po σ) t)))) := by
  refine nw_rd "NightwatchWall" "emptyPosts" hf (by decide +kernel) rfl rfl hB (Nat.le_of_ble_eq_true rfl) ?_
  intro X C
  obtain ⟨hx, hcG, hcLa, hcFo, hcGu, hcPo, hcIn, hcWi, hcWo, hcKe⟩ := id hW
  obtain ⟨okg, okl, okf, oku, okp, oki, okw, okd, okk, oka⟩ := id ok
  have hn64 : gr_n (sg_gr σ) ≤ 64 := okg.n
  have hE := C.E0
  have oku1 := oku.1
  have okp1 := okp.1
  show nwV X _ _ 4 H 0 0 0 [(0, .ref x), (1, .int (nI t))] []
  refine nw_iconst C (nI 0) dX1_emptyPosts_0 (by decide) 1 rfl ?_
  refine nw_istore_n C [(2, .int (nI 0)), (0, .ref x), (1, .int (nI t))] dX1_emptyPosts_1 (by decide) rfl 2 rfl ?_
  refine nw_iconst C (nI 0) dX1_emptyPosts_2 (by decide) 3 rfl ?_
  refine nw_istore_n C [(3, .int (nI 0)), (2, .int (nI 0)), (0, .ref x), (1, .int (nI t))] dX1_emptyPosts_3 (by decide) rfl 4 rfl ?_
  have lp1 : ∀ (fu : Nat) (i : Nat) (m : Nat), (i ≤ (sg_po σ).1) → (m = sp_cnt (fun k => sp_empty (sg_gu σ) ((sg_po σ).2 k) t) i) → (sg_po σ).1 - i < fu → nwV X (nwNew H) (nwQE X (fun v H1 => v = some (.int (nI (sp_emptyPosts (sg_gu σ) (sg_po σ) t))) ∧ H1 = H) nwNo (nwNew H) 0 0) 4 H 0 0 4 [(0, .ref x), (1, .int (nI t)), (2, .int (nI m)), (3, .int (nI i))] [] := by
    intro fu
    induction fu with
    | zero => intro i m _ _ hm; exact absurd hm (Nat.not_lt_zero _)
    | succ fu ih_lp1 =>
      intro i m hi hmm hm
      refine nw_iload_n C 3 dX1_emptyPosts_4 rfl 5 rfl ?_
      refine nw_aload_n C 0 dX1_emptyPosts_5 rfl 6 rfl ?_
      refine nw_get C hx (T := TX1) rfl in_X1 4 (by decide) q225 (Or.inl rfl) rfl dX1_emptyPosts_6 9 rfl ?_
      refine nw_callV C (mJ3_size _ C.hfl d (ad 4) ((sg_po σ).1) (fun k => nd_bx d ((sg_po σ).2 k)) (fun q => ro q = 2005) H hB hcPo) kJ3_size q346 (hcPo.is C) (As := []) (rest := [.int (nI i)]) rfl rfl ⟨⟨Nat.le_of_ble_eq_true rfl, Nat.le_of_ble_eq_true rfl⟩, Nat.le_of_ble_eq_true rfl, Nat.le_of_ble_eq_true rfl⟩ (Nat.le_of_ble_eq_true rfl) (fun _ h8 h9 => absurd h9 (Nat.not_le.mpr h8)) dX1_emptyPosts_9 12 rfl (nw_rdK ?_) nw_noX
      refine nw_icmpgeN C (by omega) 51 dX1_emptyPosts_12 (by decide) 15 rfl (fun h2 => ?_) (fun h2 => ?_)
      · refine nw_iload_n C 2 dX1_emptyPosts_51 rfl 52 rfl ?_
        exact nw_iret C dX1_emptyPosts_52 (Nat.le_refl _) (Nat.le_refl _) ⟨congrArg (fun z => some (Value.int (nI z))) (show (m) = (sp_emptyPosts (sg_gu σ) (sg_po σ) t) from (by rw [hmm, show i = (sg_po σ).1 by omega]; rfl)), rfl⟩
      · refine nw_iload_n C 2 dX1_emptyPosts_15 rfl 16 rfl ?_
        refine nw_aload_n C 0 dX1_emptyPosts_16 rfl 17 rfl ?_
        refine nw_aload_n C 0 dX1_emptyPosts_17 rfl 18 rfl ?_
        refine nw_get C hx (T := TX1) rfl in_X1 4 (by decide) q225 (Or.inl rfl) rfl dX1_emptyPosts_18 21 rfl ?_
        refine nw_iload_n C 3 dX1_emptyPosts_21 rfl 22 rfl ?_
        refine nw_callV C (mJ3_get _ C.hfl d (ad 4) ((sg_po σ).1) (fun k => nd_bx d ((sg_po σ).2 k)) (fun q => ro q = 2005) i H hB hcPo (by omega)) kJ3_get q350 (hcPo.is C) (As := [.int (nI i)]) (rest := [.ref x, .int (nI m)]) rfl rfl ⟨⟨Nat.le_of_ble_eq_true rfl, Nat.le_of_ble_eq_true rfl⟩, Nat.le_of_ble_eq_true rfl, Nat.le_of_ble_eq_true rfl⟩ (Nat.le_of_ble_eq_true rfl) (fun _ h8 h9 => absurd h9 (Nat.not_le.mpr h8)) dX1_emptyPosts_22 25 rfl (nw_rdK ?_) nw_noX
        have hb3 : (sg_po σ).2 i < 128 := (by have := okp.2 i (by omega); omega)
        refine nw_cast C (ci := 16) rfl (C.E0.boxIs hb3) q364 dX1_emptyPosts_25 28 rfl ?_
        refine nw_callV C (mJ19_intValue _ C.hfl d ((sg_po σ).2 i) H hB (by omega)) kJ19_intValue q365 (C.E0.boxIs (by omega)) (As := []) (rest := [.ref x, .int (nI m)]) rfl rfl ⟨⟨Nat.le_of_ble_eq_true rfl, Nat.le_of_ble_eq_true rfl⟩, Nat.le_of_ble_eq_true rfl, Nat.le_of_ble_eq_true rfl⟩ (Nat.le_of_ble_eq_true rfl) (fun _ h8 h9 => absurd h9 (Nat.not_le.mpr h8)) dX1_emptyPosts_28 31 rfl (nw_rdK ?_) nw_noX
        refine nw_iload_n C 1 dX1_emptyPosts_31 rfl 32 rfl ?_
        refine nw_callV C (mX1_guardsOn _ C.hfl d ro ad x σ sm ((sg_po σ).2 i) t H hB hW ok (by omega) (by omega)) kX1_guardsOn q525 (hx.is C (ci := 0) rfl) (As := [.int (nI ((sg_po σ).2 i)), .int (nI t)]) (rest := [.int (nI m)]) rfl rfl ⟨⟨Nat.le_of_ble_eq_true rfl, Nat.le_of_ble_eq_true rfl⟩, Nat.le_of_ble_eq_true rfl, Nat.le_of_ble_eq_true rfl⟩ (Nat.le_of_ble_eq_true rfl) (fun _ h8 h9 => absurd h9 (Nat.not_le.mpr h8)) dX1_emptyPosts_32 35 rfl (nw_rdK ?_) nw_noX
        refine nw_ifne C 42 dX1_emptyPosts_35 (by decide) 38 rfl (fun h4 => ?_) (fun h4 => ?_)
        · refine nw_iconst C (nI 0) dX1_emptyPosts_42 (by decide) 43 rfl ?_
          refine nw_iaddN C dX1_emptyPosts_43 44 rfl ?_
          refine nw_istore_n C [(2, .int (nI (m + 0))), (0, .ref x), (1, .int (nI t)), (3, .int (nI i))] dX1_emptyPosts_44 (by decide) rfl 45 rfl ?_
          refine nw_iincN C 3 (c0 := 1) [(3, .int (nI (i + 1))), (2, .int (nI (m + 0))), (0, .ref x), (1, .int (nI t))] dX1_emptyPosts_45 rfl (by decide) rfl 48 rfl ?_
          refine nw_goto C 4 dX1_emptyPosts_48 (by decide) ?_
          exact (nw_sub [2, 3, 1, 0] rfl (ih_lp1 (i + 1) m (by omega) (by rw [sp_cnt_f (p := fun k => sp_empty (sg_gu σ) ((sg_po σ).2 k) t) (n := i) (sp_emp1 oku1 h4)]; omega) (by omega)))
        · refine nw_iconst C (nI 1) dX1_emptyPosts_38 (by decide) 39 rfl ?_
          refine nw_goto C 43 dX1_emptyPosts_39 (by decide) ?_
          refine nw_iaddN C dX1_emptyPosts_43 44 rfl ?_
          refine nw_istore_n C [(2, .int (nI (m + 1))), (0, .ref x), (1, .int (nI t)), (3, .int (nI i))] dX1_emptyPosts_44 (by decide) rfl 45 rfl ?_
          refine nw_iincN C 3 (c0 := 1) [(3, .int (nI (i + 1))), (2, .int (nI (m + 1))), (0, .ref x), (1, .int (nI t))] dX1_emptyPosts_45 rfl (by decide) rfl 48 rfl ?_
          refine nw_goto C 4 dX1_emptyPosts_48 (by decide) ?_
          exact (nw_sub [2, 3, 1, 0] rfl (ih_lp1 (i + 1) (m + 1) (by omega) (by rw [sp_cnt_t (p := fun k => sp_empty (sg_gu σ) ((sg_po σ).2 k) t) (n := i) (sp_emp0 oku1 h4)]; omega) (by omega)))
  exact (nw_sub [2, 3, 1, 0] rfl (lp1 _ 0 0 (Nat.zero_le _) rfl (Nat.lt_succ_self _)))
set_option maxHeartbeats 4000000 in
theorem mX1_keysAway (l : Launch) (hf : l.flags = flags0) (d : nwD) (ro ad : Nat → Nat) (x : Nat) (σ : spSg) (sm : Int64) (t : Nat) (H : Heap) (hB : nd_B d ≤ H.size) (hW : nwWC d ro ad x σ sm H) (ok : spOk σ) (ht : t < 2 ^ 31) : nwRd l d yX1_keysAway cX1_keysAway 7 (some .int) 4 84 [.ref x, .int (nI t)] H (some (.int (nI (sp_keysAway (sg_gu σ) (sg_ke σ) t)))) := by
  refine nw_rd "NightwatchWall" "keysAway" hf (by decide +kernel) rfl rfl hB (Nat.le_of_ble_eq_true rfl) ?_
  intro X C
  obtain ⟨hx, hcG, hcLa, hcFo, hcGu, hcPo, hcIn, hcWi, hcWo, hcKe⟩ := id hW
  obtain ⟨okg, okl, okf, oku, okp, oki, okw, okd, okk, oka⟩ := id ok
  have hn64 : gr_n (sg_gr σ) ≤ 64 := okg.n
  have hE := C.E0
  have oku1 := oku.1
  show nwV X _ _ 7 H 0 0 0 [(0, .ref x), (1, .int (nI t))] []
  refine nw_iconst C (nI 0) dX1_keysAway_0 (by decide) 1 rfl ?_
  refine nw_istore_n C [(2, .int (nI 0)), (0, .ref x), (1, .int (nI t))] dX1_keysAway_1 (by decide) rfl 2 rfl ?_
  refine nw_aload_n C 1 dX1_keysAway_2 rfl 3 rfl ?_
  refine nw_get C hx (T := TX1) rfl in_X1 8 (by decide) q229 (Or.inl rfl) rfl dX1_keysAway_3 6 rfl ?_
  refine nw_astore_n C [(3, .ref (ad 8)), (2, .int (nI 0)), (0, .ref x), (1, .int (nI t))] dX1_keysAway_6 (by decide) rfl 7 rfl ?_
  refine nw_aload_n C 0 dX1_keysAway_7 rfl 8 rfl ?_
  refine nw_alenI C hcKe (by decide) dX1_keysAway_8 9 rfl ?_
  refine nw_istore C [(4, .int (nI 6)), (3, .ref (ad 8)), (2, .int (nI 0)), (0, .ref x), (1, .int (nI t))] dX1_keysAway_9 (by decide) rfl 11 rfl ?_
  refine nw_iconst C (nI 0) dX1_keysAway_11 (by decide) 12 rfl ?_
  refine nw_istore C [(5, .int (nI 0)), (4, .int (nI 6)), (3, .ref (ad 8)), (2, .int (nI 0)), (0, .ref x), (1, .int (nI t))] dX1_keysAway_12 (by decide) rfl 14 rfl ?_
  have lp1 : ∀ (fu : Nat) (i : Nat) (m : Nat), (i ≤ 6) → (m = sp_cnt (sp_keyAway (sg_gu σ) (sg_ke σ) t) i) → 6 - i < fu → nwV X (nwNew H) (nwQE X (fun v H1 => v = some (.int (nI (sp_keysAway (sg_gu σ) (sg_ke σ) t))) ∧ H1 = H) nwNo (nwNew H) 0 0) 7 H 0 0 14 [(0, .ref x), (1, .int (nI t)), (2, .int (nI m)), (3, .ref (ad 8)), (4, .int (nI 6)), (5, .int (nI i))] [] := by
    intro fu
    induction fu with
    | zero => intro i m _ _ hm; exact absurd hm (Nat.not_lt_zero _)
    | succ fu ih_lp1 =>
      intro i m hi hmm hm
      refine nw_iload C 5 dX1_keysAway_14 rfl 16 rfl ?_
      refine nw_iload C 4 dX1_keysAway_16 rfl 18 rfl ?_
      refine nw_icmpgeN C (by omega) 66 dX1_keysAway_18 (by decide) 21 rfl (fun h2 => ?_) (fun h2 => ?_)
      · refine nw_iload_n C 2 dX1_keysAway_66 rfl 67 rfl ?_
        exact nw_iret C dX1_keysAway_67 (Nat.le_refl _) (Nat.le_refl _) ⟨congrArg (fun z => some (Value.int (nI z))) (show (m) = (sp_keysAway (sg_gu σ) (sg_ke σ) t) from (by rw [hmm, show i = 6 by omega]; rfl)), rfl⟩
      · refine nw_aload_n C 3 dX1_keysAway_21 rfl 22 rfl ?_
        refine nw_iload C 5 dX1_keysAway_22 rfl 24 rfl ?_
        refine nw_ialdN C (oI (sg_ke σ i)) hcKe (by omega) rfl dX1_keysAway_24 25 rfl ?_
        refine nw_istore C [(6, .int (oI (sg_ke σ i))), (0, .ref x), (1, .int (nI t)), (2, .int (nI m)), (3, .ref (ad 8)), (4, .int (nI 6)), (5, .int (nI i))] dX1_keysAway_25 (by decide) rfl 27 rfl ?_
        generalize hke : sg_ke σ i = o
        rcases o with _ | g
        · show nwV X _ _ 7 H 0 0 27 [(6, .int (oI none)), (0, .ref x), (1, .int (nI t)), (2, .int (nI m)), (3, .ref (ad 8)), (4, .int (nI 6)), (5, .int (nI i))] []
          refine nw_iload_n C 3 dX1_keysAway_27 rfl 28 rfl ?_
          refine nw_iload C 0 dX1_keysAway_28 rfl 30 rfl ?_
          refine nw_iconst C (oI none) dX1_keysAway_30 (by decide) 31 rfl ?_
          refine nw_icmpeqT C rfl 57 dX1_keysAway_31 (by decide) ?_
          refine nw_iconst C (nI 0) dX1_keysAway_57 (by decide) 58 rfl ?_
          refine nw_iaddN C dX1_keysAway_58 59 rfl ?_
          refine nw_istore_n C [(2, .int (nI (m + 0))), (6, .int (oI none)), (0, .ref x), (1, .int (nI t)), (3, .ref (ad 8)), (4, .int (nI 6)), (5, .int (nI i))] dX1_keysAway_59 (by decide) rfl 60 rfl ?_
          refine nw_iincN C 6 (c0 := 1) [(5, .int (nI (i + 1))), (2, .int (nI (m + 0))), (6, .int (oI none)), (0, .ref x), (1, .int (nI t)), (3, .ref (ad 8)), (4, .int (nI 6))] dX1_keysAway_60 rfl (by decide) rfl 63 rfl ?_
          refine nw_goto C 14 dX1_keysAway_63 (by decide) ?_
          exact (nw_sub [3, 4, 1, 5, 6, 0] rfl (ih_lp1 (i + 1) m (by omega) (by rw [sp_cnt_f (p := sp_keyAway (sg_gu σ) (sg_ke σ) t) (n := i) (by unfold sp_keyAway; simp [hke])]; omega) (by omega)))
        · show nwV X _ _ 7 H 0 0 27 [(6, .int (nI g)), (0, .ref x), (1, .int (nI t)), (2, .int (nI m)), (3, .ref (ad 8)), (4, .int (nI 6)), (5, .int (nI i))] []
          have hgk := okk i (by omega) g hke
          refine nw_iload_n C 3 dX1_keysAway_27 rfl 28 rfl ?_
          refine nw_iload C 0 dX1_keysAway_28 rfl 30 rfl ?_
          refine nw_iconst C (oI none) dX1_keysAway_30 (by decide) 31 rfl ?_
          refine nw_icmpeqF C (nI_m1 (by omega)) 57 dX1_keysAway_31 (by decide) 34 rfl ?_
          refine nw_aload_n C 1 dX1_keysAway_34 rfl 35 rfl ?_
          refine nw_get C hx (T := TX1) rfl in_X1 3 (by decide) q224 (Or.inl rfl) rfl dX1_keysAway_35 38 rfl ?_
          refine nw_iload C 0 dX1_keysAway_38 rfl 40 rfl ?_
          refine nw_callV C (mJ3_get _ C.hfl d (ad 3) ((sg_gu σ).1) (fun k => ad (300 + k)) (fun q => ro q = 2004) g H hB hcGu.1 (by omega)) kJ3_get q350 (hcGu.1.is C) (As := [.int (nI g)]) (rest := [.int (nI m)]) rfl rfl ⟨⟨Nat.le_of_ble_eq_true rfl, Nat.le_of_ble_eq_true rfl⟩, Nat.le_of_ble_eq_true rfl, Nat.le_of_ble_eq_true rfl⟩ (Nat.le_of_ble_eq_true rfl) (fun _ h8 h9 => absurd h9 (Nat.not_le.mpr h8)) dX1_keysAway_40 43 rfl (nw_rdK ?_) nw_noX
          have hg5 : nwGd d (ad (300 + g)) (ad (400 + g)) (fun q => ro q = 2401 + g) ((sg_gu σ).2 g) H := hcGu.2 g (by omega)
          have hk6 : okGd (sg_gr σ) ((sg_gu σ).2 g) := oku.2 g (by omega)
          have hg7 : nwO d (ad (300 + g)) 4 [.int (nI (gd_a ((sg_gu σ).2 g))), .int (nI (gd_b ((sg_gu σ).2 g))), .int (nI (gd_s ((sg_gu σ).2 g))), .ref (ad (400 + g)), .int (nI (gd_k ((sg_gu σ).2 g))), .int (gd_h ((sg_gu σ).2 g))] H := hg5.1
          refine nw_cast C (ci := 4) rfl (hg7.is C (ci := 4) rfl) q369 dX1_keysAway_43 46 rfl ?_
          refine nw_iload_n C 2 dX1_keysAway_46 rfl 47 rfl ?_
          refine nw_callV C (mX10_isOn _ C.hfl d (ad (300 + g)) (ad (400 + g)) (fun q => ro q = 2401 + g) ((sg_gu σ).2 g) (sg_gr σ) t H hB hg5 hk6 (by omega)) kX10_isOn q546 (hg7.is C (ci := 4) rfl) (As := [.int (nI t)]) (rest := [.int (nI m)]) rfl rfl ⟨⟨Nat.le_of_ble_eq_true rfl, Nat.le_of_ble_eq_true rfl⟩, Nat.le_of_ble_eq_true rfl, Nat.le_of_ble_eq_true rfl⟩ (Nat.le_of_ble_eq_true rfl) (fun _ h8 h9 => absurd h9 (Nat.not_le.mpr h8)) dX1_keysAway_47 50 rfl (nw_rdK ?_) nw_noX
          refine nw_ifneB C 57 dX1_keysAway_50 (by decide) 53 rfl (fun h8 => ?_) (fun h8 => ?_)
          · refine nw_iconst C (nI 0) dX1_keysAway_57 (by decide) 58 rfl ?_
            refine nw_iaddN C dX1_keysAway_58 59 rfl ?_
            refine nw_istore_n C [(2, .int (nI (m + 0))), (6, .int (nI g)), (0, .ref x), (1, .int (nI t)), (3, .ref (ad 8)), (4, .int (nI 6)), (5, .int (nI i))] dX1_keysAway_59 (by decide) rfl 60 rfl ?_
            refine nw_iincN C 6 (c0 := 1) [(5, .int (nI (i + 1))), (2, .int (nI (m + 0))), (6, .int (nI g)), (0, .ref x), (1, .int (nI t)), (3, .ref (ad 8)), (4, .int (nI 6))] dX1_keysAway_60 rfl (by decide) rfl 63 rfl ?_
            refine nw_goto C 14 dX1_keysAway_63 (by decide) ?_
            exact (nw_sub [3, 4, 1, 5, 6, 0] rfl (ih_lp1 (i + 1) m (by omega) (by rw [sp_cnt_f (p := sp_keyAway (sg_gu σ) (sg_ke σ) t) (n := i) (by unfold sp_keyAway; simp [hke, h8])]; omega) (by omega)))
          · refine nw_iconst C (nI 1) dX1_keysAway_53 (by decide) 54 rfl ?_
            refine nw_goto C 58 dX1_keysAway_54 (by decide) ?_
            refine nw_iaddN C dX1_keysAway_58 59 rfl ?_
            refine nw_istore_n C [(2, .int (nI (m + 1))), (6, .int (nI g)), (0, .ref x), (1, .int (nI t)), (3, .ref (ad 8)), (4, .int (nI 6)), (5, .int (nI i))] dX1_keysAway_59 (by decide) rfl 60 rfl ?_
            refine nw_iincN C 6 (c0 := 1) [(5, .int (nI (i + 1))), (2, .int (nI (m + 1))), (6, .int (nI g)), (0, .ref x), (1, .int (nI t)), (3, .ref (ad 8)), (4, .int (nI 6))] dX1_keysAway_60 rfl (by decide) rfl 63 rfl ?_
            refine nw_goto C 14 dX1_keysAway_63 (by decide) ?_
            exact (nw_sub [3, 4, 1, 5, 6, 0] rfl (ih_lp1 (i + 1) (m + 1) (by omega) (by rw [sp_cnt_t (p := sp_keyAway (sg_gu σ) (sg_ke σ) t) (n := i) (by unfold sp_keyAway; simp [hke, h8])]; omega) (by omega)))
  exact (nw_sub [4, 5, 3, 2, 1, 0] rfl (lp1 _ 0 0 (Nat.zero_le _) rfl (Nat.lt_succ_self _)))
set_option maxHeartbeats 4000000 in
theorem mX1_ofMinuteNow (l : Launch) (hf : l.flags = flags0) (d : nwD) (ro ad : Nat → Nat) (x : Nat) (σ : spSg) (sm : Int64) (t q : Nat) (H : Heap) (hB : nd_B d ≤ H.size) (hW : nwWC d ro ad x σ sm H) (ok : spOk σ) (ht : t < 2 ^ 31) (hq6 : q ≤ 6) : nwRd l d yX1_ofMinuteNow cX1_ofMinuteNow 3 (some .int) 9 205 [.ref x, .int (nI t), .int (nI q)] H (some (.int (nI (sp_minuteNow σ t q)))) := by
  refine nw_rd "NightwatchWall" "ofMinuteNow" hf (by decide +kernel) rfl rfl hB (Nat.le_of_ble_eq_true rfl) ?_
  intro X C
  obtain ⟨hx, hcG, hcLa, hcFo, hcGu, hcPo, hcIn, hcWi, hcWo, hcKe⟩ := id hW
  obtain ⟨okg, okl, okf, oku, okp, oki, okw, okd, okk, oka⟩ := id ok
  have hn64 : gr_n (sg_gr σ) ≤ 64 := okg.n
  have hE := C.E0
  show nwV X _ _ 3 H 0 0 0 [(0, .ref x), (1, .int (nI t)), (2, .int (nI q))] []
  refine nw_iload_n C 2 dX1_ofMinuteNow_0 rfl 1 rfl ?_
  rcases Nat.decEq q 0 with h1 | h1
  rotate_left
  · have h1s := h1
    refine nw_tabInN C (off := 39) h1 (by decide) 40 dX1_ofMinuteNow_1 (by decide) (by decide) rfl (by decide) ?_
    refine nw_aload_n C 0 dX1_ofMinuteNow_40 rfl 41 rfl ?_
    refine nw_iload_n C 1 dX1_ofMinuteNow_41 rfl 42 rfl ?_
    refine nw_callV C (mX1_fogAt _ C.hfl d ro ad x σ sm t H hB hW ok (by omega)) kX1_fogAt q420 (hx.is C (ci := 0) rfl) (As := [.int (nI t)]) (rest := []) rfl rfl ⟨⟨Nat.le_of_ble_eq_true rfl, Nat.le_of_ble_eq_true rfl⟩, Nat.le_of_ble_eq_true rfl, Nat.le_of_ble_eq_true rfl⟩ (Nat.le_of_ble_eq_true rfl) (fun _ h8 h9 => absurd h9 (Nat.not_le.mpr h8)) dX1_ofMinuteNow_42 45 rfl (nw_rdK ?_) nw_noX
    exact nw_iret C dX1_ofMinuteNow_45 (Nat.le_refl _) (Nat.le_refl _) ⟨congrArg (fun z => some (Value.int (nI z))) (show (sp_fog (sg_fo σ) t) = (sp_minuteNow σ t q) from (by unfold sp_minuteNow; simp [h1])), rfl⟩
  rcases Nat.decEq q 1 with h2 | h2
  rotate_left
  · have h2s := h2
    refine nw_tabInN C (off := 45) h2 (by decide) 46 dX1_ofMinuteNow_1 (by decide) (by decide) rfl (by decide) ?_
    refine nw_aload_n C 0 dX1_ofMinuteNow_46 rfl 47 rfl ?_
    refine nw_iload_n C 1 dX1_ofMinuteNow_47 rfl 48 rfl ?_
    refine nw_callV C (mX1_blind _ C.hfl d ro ad x σ sm t H hB hW ok (by omega)) kX1_blind q538 (hx.is C (ci := 0) rfl) (As := [.int (nI t)]) (rest := []) rfl rfl ⟨⟨Nat.le_of_ble_eq_true rfl, Nat.le_of_ble_eq_true rfl⟩, Nat.le_of_ble_eq_true rfl, Nat.le_of_ble_eq_true rfl⟩ (Nat.le_of_ble_eq_true rfl) (fun _ h8 h9 => absurd h9 (Nat.not_le.mpr h8)) dX1_ofMinuteNow_48 51 rfl (nw_rdK ?_) nw_noX
    exact nw_iret C dX1_ofMinuteNow_51 (Nat.le_refl _) (Nat.le_refl _) ⟨congrArg (fun z => some (Value.int (nI z))) (show (sp_blind σ t) = (sp_minuteNow σ t q) from (by unfold sp_minuteNow; simp [h1, h2])), rfl⟩
  rcases Nat.decEq q 2 with h3 | h3
  rotate_left
  · have h3s := h3
    refine nw_tabInN C (off := 51) h3 (by decide) 52 dX1_ofMinuteNow_1 (by decide) (by decide) rfl (by decide) ?_
    refine nw_aload_n C 0 dX1_ofMinuteNow_52 rfl 53 rfl ?_
    refine nw_iload_n C 1 dX1_ofMinuteNow_53 rfl 54 rfl ?_
    refine nw_iconst C (nI 0) dX1_ofMinuteNow_54 (by decide) 55 rfl ?_
    refine nw_callV C (mX1_onDuty _ C.hfl d ro ad x σ sm t false H hB hW ok (by omega)) kX1_onDuty q542 (hx.is C (ci := 0) rfl) (As := [.int (nI t), .int (b2i false)]) (rest := []) rfl rfl ⟨⟨Nat.le_of_ble_eq_true rfl, Nat.le_of_ble_eq_true rfl⟩, Nat.le_of_ble_eq_true rfl, Nat.le_of_ble_eq_true rfl⟩ (Nat.le_of_ble_eq_true rfl) (fun _ h8 h9 => absurd h9 (Nat.not_le.mpr h8)) dX1_ofMinuteNow_55 58 rfl (nw_rdK ?_) nw_noX
    exact nw_iret C dX1_ofMinuteNow_58 (Nat.le_refl _) (Nat.le_refl _) ⟨congrArg (fun z => some (Value.int (nI z))) (show (sp_duty (sg_gu σ) t false) = (sp_minuteNow σ t q) from (by unfold sp_minuteNow; simp [h1, h2, h3])), rfl⟩
  rcases Nat.decEq q 3 with h4 | h4
  rotate_left
  · have h4s := h4
    refine nw_tabInN C (off := 58) h4 (by decide) 59 dX1_ofMinuteNow_1 (by decide) (by decide) rfl (by decide) ?_
    refine nw_aload_n C 0 dX1_ofMinuteNow_59 rfl 60 rfl ?_
    refine nw_iload_n C 1 dX1_ofMinuteNow_60 rfl 61 rfl ?_
    refine nw_iconst C (nI 1) dX1_ofMinuteNow_61 (by decide) 62 rfl ?_
    refine nw_callV C (mX1_onDuty _ C.hfl d ro ad x σ sm t true H hB hW ok (by omega)) kX1_onDuty q542 (hx.is C (ci := 0) rfl) (As := [.int (nI t), .int (b2i true)]) (rest := []) rfl rfl ⟨⟨Nat.le_of_ble_eq_true rfl, Nat.le_of_ble_eq_true rfl⟩, Nat.le_of_ble_eq_true rfl, Nat.le_of_ble_eq_true rfl⟩ (Nat.le_of_ble_eq_true rfl) (fun _ h8 h9 => absurd h9 (Nat.not_le.mpr h8)) dX1_ofMinuteNow_62 65 rfl (nw_rdK ?_) nw_noX
    exact nw_iret C dX1_ofMinuteNow_65 (Nat.le_refl _) (Nat.le_refl _) ⟨congrArg (fun z => some (Value.int (nI z))) (show (sp_duty (sg_gu σ) t true) = (sp_minuteNow σ t q) from (by unfold sp_minuteNow; simp [h1, h2, h3, h4])), rfl⟩
  rcases Nat.decEq q 4 with h5 | h5
  rotate_left
  · have h5s := h5
    refine nw_tabInN C (off := 65) h5 (by decide) 66 dX1_ofMinuteNow_1 (by decide) (by decide) rfl (by decide) ?_
    refine nw_aload_n C 0 dX1_ofMinuteNow_66 rfl 67 rfl ?_
    refine nw_iload_n C 1 dX1_ofMinuteNow_67 rfl 68 rfl ?_
    refine nw_callV C (mX1_emptyPosts _ C.hfl d ro ad x σ sm t H hB hW ok (by omega)) kX1_emptyPosts q521 (hx.is C (ci := 0) rfl) (As := [.int (nI t)]) (rest := []) rfl rfl ⟨⟨Nat.le_of_ble_eq_true rfl, Nat.le_of_ble_eq_true rfl⟩, Nat.le_of_ble_eq_true rfl, Nat.le_of_ble_eq_true rfl⟩ (Nat.le_of_ble_eq_true rfl) (fun _ h8 h9 => absurd h9 (Nat.not_le.mpr h8)) dX1_ofMinuteNow_68 71 rfl (nw_rdK ?_) nw_noX
    exact nw_iret C dX1_ofMinuteNow_71 (Nat.le_refl _) (Nat.le_refl _) ⟨congrArg (fun z => some (Value.int (nI z))) (show (sp_emptyPosts (sg_gu σ) (sg_po σ) t) = (sp_minuteNow σ t q) from (by unfold sp_minuteNow; simp [h1, h2, h3, h4, h5])), rfl⟩
  rcases Nat.decEq q 5 with h6 | h6
  rotate_left
  · have h6s := h6
    refine nw_tabInN C (off := 71) h6 (by decide) 72 dX1_ofMinuteNow_1 (by decide) (by decide) rfl (by decide) ?_
    refine nw_aload_n C 0 dX1_ofMinuteNow_72 rfl 73 rfl ?_
    refine nw_callV C (mX1_bright _ C.hfl d ro ad x σ sm  H hB hW ok ) kX1_bright q547 (hx.is C (ci := 0) rfl) (As := []) (rest := []) rfl rfl ⟨⟨Nat.le_of_ble_eq_true rfl, Nat.le_of_ble_eq_true rfl⟩, Nat.le_of_ble_eq_true rfl, Nat.le_of_ble_eq_true rfl⟩ (Nat.le_of_ble_eq_true rfl) (fun _ h8 h9 => absurd h9 (Nat.not_le.mpr h8)) dX1_ofMinuteNow_73 76 rfl (nw_rdK ?_) nw_noX
    exact nw_iret C dX1_ofMinuteNow_76 (Nat.le_refl _) (Nat.le_refl _) ⟨congrArg (fun z => some (Value.int (nI z))) (show (sp_brights (sg_gr σ) (sg_la σ)) = (sp_minuteNow σ t q) from (by unfold sp_minuteNow; simp [h1, h2, h3, h4, h5, h6])), rfl⟩
  refine nw_tabOutN C (lo := 0) (hi := 5) (by omega) (by omega) 77 dX1_ofMinuteNow_1 (by decide) ?_
  refine nw_aload_n C 0 dX1_ofMinuteNow_77 rfl 78 rfl ?_
  refine nw_iload_n C 1 dX1_ofMinuteNow_78 rfl 79 rfl ?_
  refine nw_callV C (mX1_keysAway _ C.hfl d ro ad x σ sm t H hB hW ok (by omega)) kX1_keysAway q551 (hx.is C (ci := 0) rfl) (As := [.int (nI t)]) (rest := []) rfl rfl ⟨⟨Nat.le_of_ble_eq_true rfl, Nat.le_of_ble_eq_true rfl⟩, Nat.le_of_ble_eq_true rfl, Nat.le_of_ble_eq_true rfl⟩ (Nat.le_of_ble_eq_true rfl) (fun _ h8 h9 => absurd h9 (Nat.not_le.mpr h8)) dX1_ofMinuteNow_79 82 rfl (nw_rdK ?_) nw_noX
  exact nw_iret C dX1_ofMinuteNow_82 (Nat.le_refl _) (Nat.le_refl _) ⟨congrArg (fun z => some (Value.int (nI z))) (show (sp_keysAway (sg_gu σ) (sg_ke σ) t) = (sp_minuteNow σ t q) from (by unfold sp_minuteNow; simp [h1, h2, h3, h4, h5, h6])), rfl⟩
set_option maxHeartbeats 4000000 in
theorem mX1_ofCellNow (l : Launch) (hf : l.flags = flags0) (d : nwD) (ro ad : Nat → Nat) (x : Nat) (σ : spSg) (sm : Int64) (c t q : Nat) (H : Heap) (hB : nd_B d ≤ H.size) (hW : nwWC d ro ad x σ sm H) (ok : spOk σ) (hc : c < gr_n (sg_gr σ)) (ht : t < 2 ^ 31) (hq4 : q ≤ 4) : nwRd l d yX1_ofCellNow cX1_ofCellNow 4 (some .int) 7 160 [.ref x, .int (nI c), .int (nI t), .int (nI q)] H (some (.int (sp_cellNow σ c t q))) := by
  refine nw_rd "NightwatchWall" "ofCellNow" hf (by decide +kernel) rfl rfl hB (Nat.le_of_ble_eq_true rfl) ?_
  intro X C
  obtain ⟨hx, hcG, hcLa, hcFo, hcGu, hcPo, hcIn, hcWi, hcWo, hcKe⟩ := id hW
  obtain ⟨okg, okl, okf, oku, okp, oki, okw, okd, okk, oka⟩ := id ok
  have hn64 : gr_n (sg_gr σ) ≤ 64 := okg.n
  have hE := C.E0
  obtain ⟨hgro, hgrl, hgrg⟩ := hcG.here hc
  have hk4 : gr_k (sg_gr σ) c < 4 := hgro.2 c hc
  show nwV X _ _ 4 H 0 0 0 [(0, .ref x), (1, .int (nI c)), (2, .int (nI t)), (3, .int (nI q))] []
  refine nw_iload_n C 3 dX1_ofCellNow_0 rfl 1 rfl ?_
  rcases Nat.decEq q 0 with h1 | h1
  rotate_left
  · have h1s := h1
    refine nw_tabInN C (off := 31) h1 (by decide) 32 dX1_ofCellNow_1 (by decide) (by decide) rfl (by decide) ?_
    refine nw_aload_n C 0 dX1_ofCellNow_32 rfl 33 rfl ?_
    refine nw_get C hx (T := TX1) rfl in_X1 0 (by decide) q221 (Or.inl rfl) rfl dX1_ofCellNow_33 36 rfl ?_
    refine nw_callV C (mJ0_get _ C.hfl d (ad 0) (ad 9) H hB hgrl) kJ0_get q280 (hgrl.is C (ci := 15) rfl) (As := []) (rest := []) rfl rfl ⟨⟨Nat.le_of_ble_eq_true rfl, Nat.le_of_ble_eq_true rfl⟩, Nat.le_of_ble_eq_true rfl, Nat.le_of_ble_eq_true rfl⟩ (Nat.le_of_ble_eq_true rfl) (fun _ h8 h9 => absurd h9 (Nat.not_le.mpr h8)) dX1_ofCellNow_36 39 rfl (nw_rdK ?_) nw_noX
    refine nw_cast C (ci := 1) rfl (hgrg.1.is C (ci := 1) rfl) q284 dX1_ofCellNow_39 42 rfl ?_
    refine nw_getN C hgrg.1 (T := TX6) rfl in_X6 2 (by decide) q736 rfl rfl dX1_ofCellNow_42 45 rfl ?_
    refine nw_iload_n C 1 dX1_ofCellNow_45 rfl 46 rfl ?_
    refine nw_aaldKN C (nd_st d (gr_k (sg_gr σ) c)) hgrg.2 (by omega) rfl dX1_ofCellNow_46 47 rfl ?_
    refine nw_number C hB hk4 q559 ⟨⟨Nat.le_of_ble_eq_true rfl, Nat.le_of_ble_eq_true rfl⟩, Nat.le_of_ble_eq_true rfl, Nat.le_of_ble_eq_true rfl⟩ (Nat.le_of_ble_eq_true rfl) dX1_ofCellNow_47 50 rfl ?_
    exact nw_iret C dX1_ofCellNow_50 (Nat.le_refl _) (Nat.le_refl _) ⟨congrArg (fun z => some (Value.int z)) (show (nI (gr_k (sg_gr σ) c)) = (sp_cellNow σ c t q) from (by unfold sp_cellNow; simp [b2i, h1])), rfl⟩
  rcases Nat.decEq q 1 with h2 | h2
  rotate_left
  · have h2s := h2
    refine nw_tabInN C (off := 50) h2 (by decide) 51 dX1_ofCellNow_1 (by decide) (by decide) rfl (by decide) ?_
    refine nw_aload_n C 0 dX1_ofCellNow_51 rfl 52 rfl ?_
    refine nw_iload_n C 1 dX1_ofCellNow_52 rfl 53 rfl ?_
    refine nw_callV C (mX1_isBright _ C.hfl d ro ad x σ sm c H hB hW ok (by omega)) kX1_isBright q497 (hx.is C (ci := 0) rfl) (As := [.int (nI c)]) (rest := []) rfl rfl ⟨⟨Nat.le_of_ble_eq_true rfl, Nat.le_of_ble_eq_true rfl⟩, Nat.le_of_ble_eq_true rfl, Nat.le_of_ble_eq_true rfl⟩ (Nat.le_of_ble_eq_true rfl) (fun _ h8 h9 => absurd h9 (Nat.not_le.mpr h8)) dX1_ofCellNow_53 56 rfl (nw_rdK ?_) nw_noX
    refine nw_ifeqB C 63 dX1_ofCellNow_56 (by decide) 59 rfl (fun h3 => ?_) (fun h3 => ?_)
    · refine nw_iconst C (nI 0) dX1_ofCellNow_63 (by decide) 64 rfl ?_
      exact nw_iret C dX1_ofCellNow_64 (Nat.le_refl _) (Nat.le_refl _) ⟨congrArg (fun z => some (Value.int z)) (show (nI 0) = (sp_cellNow σ c t q) from (by unfold sp_cellNow; simp [b2i, h1, h2, h3])), rfl⟩
    · refine nw_iconst C (nI 1) dX1_ofCellNow_59 (by decide) 60 rfl ?_
      refine nw_goto C 64 dX1_ofCellNow_60 (by decide) ?_
      exact nw_iret C dX1_ofCellNow_64 (Nat.le_refl _) (Nat.le_refl _) ⟨congrArg (fun z => some (Value.int z)) (show (nI 1) = (sp_cellNow σ c t q) from (by unfold sp_cellNow; simp [b2i, h1, h2, h3])), rfl⟩
  rcases Nat.decEq q 2 with h4 | h4
  rotate_left
  · have h4s := h4
    refine nw_tabInN C (off := 64) h4 (by decide) 65 dX1_ofCellNow_1 (by decide) (by decide) rfl (by decide) ?_
    refine nw_aload_n C 0 dX1_ofCellNow_65 rfl 66 rfl ?_
    refine nw_iload_n C 1 dX1_ofCellNow_66 rfl 67 rfl ?_
    refine nw_iload_n C 2 dX1_ofCellNow_67 rfl 68 rfl ?_
    refine nw_callV C (mX1_watchers _ C.hfl d ro ad x σ sm c t H hB hW ok (by omega) (by omega)) kX1_watchers q416 (hx.is C (ci := 0) rfl) (As := [.int (nI c), .int (nI t)]) (rest := []) rfl rfl ⟨⟨Nat.le_of_ble_eq_true rfl, Nat.le_of_ble_eq_true rfl⟩, Nat.le_of_ble_eq_true rfl, Nat.le_of_ble_eq_true rfl⟩ (Nat.le_of_ble_eq_true rfl) (fun _ h8 h9 => absurd h9 (Nat.not_le.mpr h8)) dX1_ofCellNow_68 71 rfl (nw_rdK ?_) nw_noX
    exact nw_iret C dX1_ofCellNow_71 (Nat.le_refl _) (Nat.le_refl _) ⟨congrArg (fun z => some (Value.int z)) (show (sp_watchers (sg_gr σ) (sg_la σ) (sg_fo σ) (sg_gu σ) c t) = (sp_cellNow σ c t q) from (by unfold sp_cellNow; simp [b2i, h1, h2, h4])), rfl⟩
  rcases Nat.decEq q 3 with h5 | h5
  rotate_left
  · have h5s := h5
    refine nw_tabInN C (off := 71) h5 (by decide) 72 dX1_ofCellNow_1 (by decide) (by decide) rfl (by decide) ?_
    refine nw_aload_n C 0 dX1_ofCellNow_72 rfl 73 rfl ?_
    refine nw_iload_n C 1 dX1_ofCellNow_73 rfl 74 rfl ?_
    refine nw_iload_n C 2 dX1_ofCellNow_74 rfl 75 rfl ?_
    refine nw_callV C (mX1_guardsOn _ C.hfl d ro ad x σ sm c t H hB hW ok (by omega) (by omega)) kX1_guardsOn q525 (hx.is C (ci := 0) rfl) (As := [.int (nI c), .int (nI t)]) (rest := []) rfl rfl ⟨⟨Nat.le_of_ble_eq_true rfl, Nat.le_of_ble_eq_true rfl⟩, Nat.le_of_ble_eq_true rfl, Nat.le_of_ble_eq_true rfl⟩ (Nat.le_of_ble_eq_true rfl) (fun _ h8 h9 => absurd h9 (Nat.not_le.mpr h8)) dX1_ofCellNow_75 78 rfl (nw_rdK ?_) nw_noX
    exact nw_iret C dX1_ofCellNow_78 (Nat.le_refl _) (Nat.le_refl _) ⟨congrArg (fun z => some (Value.int z)) (show (sp_guardsOn (sg_gu σ) c t) = (sp_cellNow σ c t q) from (by unfold sp_cellNow; simp [b2i, h1, h2, h4, h5])), rfl⟩
  refine nw_tabOutN C (lo := 0) (hi := 3) (by omega) (by omega) 79 dX1_ofCellNow_1 (by decide) ?_
  refine nw_aload_n C 0 dX1_ofCellNow_79 rfl 80 rfl ?_
  refine nw_iload_n C 1 dX1_ofCellNow_80 rfl 81 rfl ?_
  refine nw_iload_n C 2 dX1_ofCellNow_81 rfl 82 rfl ?_
  refine nw_callV C (mX1_isWalkable _ C.hfl d ro ad x σ sm c t H hB hW ok (by omega) (by omega)) kX1_isWalkable q572 (hx.is C (ci := 0) rfl) (As := [.int (nI c), .int (nI t)]) (rest := []) rfl rfl ⟨⟨Nat.le_of_ble_eq_true rfl, Nat.le_of_ble_eq_true rfl⟩, Nat.le_of_ble_eq_true rfl, Nat.le_of_ble_eq_true rfl⟩ (Nat.le_of_ble_eq_true rfl) (fun _ h8 h9 => absurd h9 (Nat.not_le.mpr h8)) dX1_ofCellNow_82 85 rfl (nw_rdK ?_) nw_noX
  refine nw_ifeqB C 92 dX1_ofCellNow_85 (by decide) 88 rfl (fun h6 => ?_) (fun h6 => ?_)
  · refine nw_iconst C (nI 0) dX1_ofCellNow_92 (by decide) 93 rfl ?_
    exact nw_iret C dX1_ofCellNow_93 (Nat.le_refl _) (Nat.le_refl _) ⟨congrArg (fun z => some (Value.int z)) (show (nI 0) = (sp_cellNow σ c t q) from (by unfold sp_cellNow; simp [b2i, h1, h2, h4, h5, h6])), rfl⟩
  · refine nw_iconst C (nI 1) dX1_ofCellNow_88 (by decide) 89 rfl ?_
    refine nw_goto C 93 dX1_ofCellNow_89 (by decide) ?_
    exact nw_iret C dX1_ofCellNow_93 (Nat.le_refl _) (Nat.le_refl _) ⟨congrArg (fun z => some (Value.int z)) (show (nI 1) = (sp_cellNow σ c t q) from (by unfold sp_cellNow; simp [b2i, h1, h2, h4, h5, h6])), rfl⟩
set_option maxHeartbeats 4000000 in
theorem mX1_emptyNow (l : Launch) (hf : l.flags = flags0) (d : nwD) (ro ad : Nat → Nat) (x : Nat) (σ : spSg) (sm : Int64) (c : Nat) (b : Bool) (H : Heap) (hB : nd_B d ≤ H.size) (hW : nwWC d ro ad x σ sm H) (ok : spOk σ) (hc : c < 2 ^ 31) : nwRd l d yX1_emptyNow cX1_emptyNow 5 (some .int) 6 129 [.ref x, .int (nI c), .int (b2i b)] H (some (.int (sp_emptyNow (sg_gu σ) c b))) := by
  refine nw_rd "NightwatchWall" "emptyNow" hf (by decide +kernel) rfl rfl hB (Nat.le_of_ble_eq_true rfl) ?_
  intro X C
  obtain ⟨hx, hcG, hcLa, hcFo, hcGu, hcPo, hcIn, hcWi, hcWo, hcKe⟩ := id hW
  obtain ⟨okg, okl, okf, oku, okp, oki, okw, okd, okk, oka⟩ := id ok
  have hn64 : gr_n (sg_gr σ) ≤ 64 := okg.n
  have hE := C.E0
  have oku1 := oku.1
  show nwV X _ _ 5 H 0 0 0 [(0, .ref x), (1, .int (nI c)), (2, .int (b2i b))] []
  refine nw_iconst C (nI 0) dX1_emptyNow_0 (by decide) 1 rfl ?_
  refine nw_istore_n C [(3, .int (nI 0)), (0, .ref x), (1, .int (nI c)), (2, .int (b2i b))] dX1_emptyNow_1 (by decide) rfl 2 rfl ?_
  refine nw_iconst C (nI 0) dX1_emptyNow_2 (by decide) 3 rfl ?_
  refine nw_istore C [(4, .int (nI 0)), (3, .int (nI 0)), (0, .ref x), (1, .int (nI c)), (2, .int (b2i b))] dX1_emptyNow_3 (by decide) rfl 5 rfl ?_
  have lp1 : ∀ (fu : Nat) (i : Nat) (m : Nat), (i ≤ 240) → (m = sp_cnt (fun t => sp_empty (sg_gu σ) c t) i) → (b = true → ∀ k, k < i → sp_empty (sg_gu σ) c k = false) → 240 - i < fu → nwV X (nwNew H) (nwQE X (fun v H1 => v = some (.int (sp_emptyNow (sg_gu σ) c b)) ∧ H1 = H) nwNo (nwNew H) 0 0) 5 H 0 0 5 [(0, .ref x), (1, .int (nI c)), (2, .int (b2i b)), (3, .int (nI m)), (4, .int (nI i))] [] := by
    intro fu
    induction fu with
    | zero => intro i m _ _ _ hm; exact absurd hm (Nat.not_lt_zero _)
    | succ fu ih_lp1 =>
      intro i m hi hmm hno hm
      refine nw_iload C 4 dX1_emptyNow_5 rfl 7 rfl ?_
      refine nw_sipush C (nI 240) dX1_emptyNow_7 (by decide) 10 rfl ?_
      refine nw_icmpgeN C (by omega) 42 dX1_emptyNow_10 (by decide) 13 rfl (fun h2 => ?_) (fun h2 => ?_)
      · refine nw_iload_n C 2 dX1_emptyNow_42 rfl 43 rfl ?_
        refine nw_ifeqB C 50 dX1_emptyNow_43 (by decide) 46 rfl (fun h3 => ?_) (fun h3 => ?_)
        · refine nw_iload_n C 3 dX1_emptyNow_50 rfl 51 rfl ?_
          exact nw_iret C dX1_emptyNow_51 (Nat.le_refl _) (Nat.le_refl _) ⟨congrArg (fun z => some (Value.int z)) (show (nI m) = (sp_emptyNow (sg_gu σ) c b) from (by unfold sp_emptyNow; rw [h3, hmm, show i = 240 by omega]; rfl)), rfl⟩
        · refine nw_iconst C (oI none) dX1_emptyNow_46 (by decide) 47 rfl ?_
          refine nw_goto C 51 dX1_emptyNow_47 (by decide) ?_
          exact nw_iret C dX1_emptyNow_51 (Nat.le_refl _) (Nat.le_refl _) ⟨congrArg (fun z => some (Value.int z)) (show (oI none) = (sp_emptyNow (sg_gu σ) c b) from (by unfold sp_emptyNow; rw [h3, if_pos rfl, sp_fst_no (fun k _ hk => hno h3 k (by omega))])), rfl⟩
      · refine nw_aload_n C 0 dX1_emptyNow_13 rfl 14 rfl ?_
        refine nw_iload_n C 1 dX1_emptyNow_14 rfl 15 rfl ?_
        refine nw_iload C 4 dX1_emptyNow_15 rfl 17 rfl ?_
        refine nw_callV C (mX1_guardsOn _ C.hfl d ro ad x σ sm c i H hB hW ok (by omega) (by omega)) kX1_guardsOn q525 (hx.is C (ci := 0) rfl) (As := [.int (nI c), .int (nI i)]) (rest := []) rfl rfl ⟨⟨Nat.le_of_ble_eq_true rfl, Nat.le_of_ble_eq_true rfl⟩, Nat.le_of_ble_eq_true rfl, Nat.le_of_ble_eq_true rfl⟩ (Nat.le_of_ble_eq_true rfl) (fun _ h8 h9 => absurd h9 (Nat.not_le.mpr h8)) dX1_emptyNow_17 20 rfl (nw_rdK ?_) nw_noX
        refine nw_ifeq C 26 dX1_emptyNow_20 (by decide) 23 rfl (fun h4 => ?_) (fun h4 => ?_)
        · refine nw_iload_n C 2 dX1_emptyNow_26 rfl 27 rfl ?_
          refine nw_ifeqB C 33 dX1_emptyNow_27 (by decide) 30 rfl (fun h5 => ?_) (fun h5 => ?_)
          · refine nw_iincN C 3 (c0 := 1) [(3, .int (nI (m + 1))), (0, .ref x), (1, .int (nI c)), (2, .int (b2i b)), (4, .int (nI i))] dX1_emptyNow_33 rfl (by decide) rfl 36 rfl ?_
            refine nw_iincN C 4 (c0 := 1) [(4, .int (nI (i + 1))), (3, .int (nI (m + 1))), (0, .ref x), (1, .int (nI c)), (2, .int (b2i b))] dX1_emptyNow_36 rfl (by decide) rfl 39 rfl ?_
            refine nw_goto C 5 dX1_emptyNow_39 (by decide) ?_
            exact (nw_sub [2, 3, 4, 1, 0] rfl (ih_lp1 (i + 1) (m + 1) (by omega) (by rw [sp_cnt_t (p := fun t => sp_empty (sg_gu σ) c t) (n := i) (sp_emp0 oku1 h4)]; omega) (fun hb => by rw [hb] at h5; cases h5) (by omega)))
          · refine nw_iload C 4 dX1_emptyNow_30 rfl 32 rfl ?_
            exact nw_iret C dX1_emptyNow_32 (Nat.le_refl _) (Nat.le_refl _) ⟨congrArg (fun z => some (Value.int z)) (show (nI i) = (sp_emptyNow (sg_gu σ) c b) from (by unfold sp_emptyNow; rw [h5, if_pos rfl, sp_fst_at (fun k _ hk => hno h5 k hk) (Nat.zero_le _) (by omega) (sp_emp0 oku1 h4)]; rfl)), rfl⟩
        · refine nw_goto C 36 dX1_emptyNow_23 (by decide) ?_
          refine nw_iincN C 4 (c0 := 1) [(4, .int (nI (i + 1))), (0, .ref x), (1, .int (nI c)), (2, .int (b2i b)), (3, .int (nI m))] dX1_emptyNow_36 rfl (by decide) rfl 39 rfl ?_
          refine nw_goto C 5 dX1_emptyNow_39 (by decide) ?_
          exact (nw_sub [1, 2, 3, 4, 0] rfl (ih_lp1 (i + 1) m (by omega) (by rw [sp_cnt_f (p := fun t => sp_empty (sg_gu σ) c t) (n := i) (sp_emp1 oku1 h4)]; omega) (fun hb k hk => (Nat.lt_or_ge k i).elim (fun g5 => hno hb k g5) (fun g5 => by rw [show k = i by omega]; exact (sp_emp1 oku1 h4))) (by omega)))
  exact (nw_sub [2, 3, 4, 1, 0] rfl (lp1 _ 0 0 (Nat.zero_le _) rfl (fun _ k hk => absurd hk (Nat.not_lt_zero k)) (Nat.lt_succ_self _)))
set_option maxHeartbeats 4000000 in
theorem mX1_keysOf (l : Launch) (hf : l.flags = flags0) (d : nwD) (ro ad : Nat → Nat) (x : Nat) (σ : spSg) (sm : Int64) (o : Option Nat) (H : Heap) (hB : nd_B d ≤ H.size) (hW : nwWC d ro ad x σ sm H) (ok : spOk σ) (hob : ∀ v, o = some v → v < 2 ^ 31) : nwRd l d yX1_keysOf cX1_keysOf 4 (some .int) 1 20 [.ref x, .int (oI o)] H (some (.int (sp_keysOf (sg_ke σ) o))) := by
  refine nw_rd "NightwatchWall" "keysOf" hf (by decide +kernel) rfl rfl hB (Nat.le_of_ble_eq_true rfl) ?_
  intro X C
  obtain ⟨hx, hcG, hcLa, hcFo, hcGu, hcPo, hcIn, hcWi, hcWo, hcKe⟩ := id hW
  obtain ⟨okg, okl, okf, oku, okp, oki, okw, okd, okk, oka⟩ := id ok
  have hn64 : gr_n (sg_gr σ) ≤ 64 := okg.n
  have hE := C.E0
  have oku1 := oku.1
  show nwV X _ _ 4 H 0 0 0 [(0, .ref x), (1, .int (oI o))] []
  refine nw_iconst C (nI 0) dX1_keysOf_0 (by decide) 1 rfl ?_
  refine nw_istore_n C [(2, .int (nI 0)), (0, .ref x), (1, .int (oI o))] dX1_keysOf_1 (by decide) rfl 2 rfl ?_
  refine nw_iconst C (nI 0) dX1_keysOf_2 (by decide) 3 rfl ?_
  refine nw_istore_n C [(3, .int (nI 0)), (2, .int (nI 0)), (0, .ref x), (1, .int (oI o))] dX1_keysOf_3 (by decide) rfl 4 rfl ?_
  have lp1 : ∀ (fu : Nat) (i : Nat) (mm : Int32), (i ≤ 6) → (mm = sp_bits (fun k => sg_ke σ k == o) i) → 6 - i < fu → nwV X (nwNew H) (nwQE X (fun v H1 => v = some (.int (sp_keysOf (sg_ke σ) o)) ∧ H1 = H) nwNo (nwNew H) 0 0) 4 H 0 0 4 [(0, .ref x), (1, .int (oI o)), (2, .int mm), (3, .int (nI i))] [] := by
    intro fu
    induction fu with
    | zero => intro i mm _ _ hm; exact absurd hm (Nat.not_lt_zero _)
    | succ fu ih_lp1 =>
      intro i mm hi hmm hm
      refine nw_iload_n C 3 dX1_keysOf_4 rfl 5 rfl ?_
      refine nw_bipush C (nI 6) dX1_keysOf_5 (by decide) 7 rfl ?_
      refine nw_icmpgeN C (by omega) 36 dX1_keysOf_7 (by decide) 10 rfl (fun h2 => ?_) (fun h2 => ?_)
      · refine nw_iload_n C 2 dX1_keysOf_36 rfl 37 rfl ?_
        exact nw_iret C dX1_keysOf_37 (Nat.le_refl _) (Nat.le_refl _) ⟨congrArg (fun z => some (Value.int z)) (show (mm) = (sp_keysOf (sg_ke σ) o) from (by rw [hmm, show i = 6 by omega]; rfl)), rfl⟩
      · refine nw_iload_n C 2 dX1_keysOf_10 rfl 11 rfl ?_
        refine nw_aload_n C 0 dX1_keysOf_11 rfl 12 rfl ?_
        refine nw_get C hx (T := TX1) rfl in_X1 8 (by decide) q229 (Or.inl rfl) rfl dX1_keysOf_12 15 rfl ?_
        refine nw_iload_n C 3 dX1_keysOf_15 rfl 16 rfl ?_
        refine nw_ialdN C (oI (sg_ke σ i)) hcKe (by omega) rfl dX1_keysOf_16 17 rfl ?_
        refine nw_iload_n C 1 dX1_keysOf_17 rfl 18 rfl ?_
        refine nw_icmpneO C (sg_ke σ i) o (fun v hv => by have := okk i (by omega) v hv; omega) hob 27 dX1_keysOf_18 (by decide) 21 rfl (fun h3 => ?_) (fun h3 => ?_)
        · refine nw_iconst C (nI 0) dX1_keysOf_27 (by decide) 28 rfl ?_
          refine nw_ior C (mm ||| (nI 0)) dX1_keysOf_28 rfl 29 rfl ?_
          refine nw_istore_n C [(2, .int (mm ||| (nI 0))), (0, .ref x), (1, .int (oI o)), (3, .int (nI i))] dX1_keysOf_29 (by decide) rfl 30 rfl ?_
          refine nw_iincN C 3 (c0 := 1) [(3, .int (nI (i + 1))), (2, .int (mm ||| (nI 0))), (0, .ref x), (1, .int (oI o))] dX1_keysOf_30 rfl (by decide) rfl 33 rfl ?_
          refine nw_goto C 4 dX1_keysOf_33 (by decide) ?_
          exact (nw_sub [2, 3, 1, 0] rfl (ih_lp1 (i + 1) (mm ||| (nI 0)) (by omega) (by rw [sp_bits_f0 (p := fun k => sg_ke σ k == o) (n := i) (by simp [h3]), ← hmm]) (by omega)))
        · refine nw_iconst C (nI 1) dX1_keysOf_21 (by decide) 22 rfl ?_
          refine nw_iload_n C 3 dX1_keysOf_22 rfl 23 rfl ?_
          refine nw_ishl C ((nI 1) <<< ((nI i) &&& 31)) dX1_keysOf_23 rfl 24 rfl ?_
          refine nw_goto C 28 dX1_keysOf_24 (by decide) ?_
          refine nw_ior C (mm ||| ((nI 1) <<< ((nI i) &&& 31))) dX1_keysOf_28 rfl 29 rfl ?_
          refine nw_istore_n C [(2, .int (mm ||| ((nI 1) <<< ((nI i) &&& 31)))), (0, .ref x), (1, .int (oI o)), (3, .int (nI i))] dX1_keysOf_29 (by decide) rfl 30 rfl ?_
          refine nw_iincN C 3 (c0 := 1) [(3, .int (nI (i + 1))), (2, .int (mm ||| ((nI 1) <<< ((nI i) &&& 31)))), (0, .ref x), (1, .int (oI o))] dX1_keysOf_30 rfl (by decide) rfl 33 rfl ?_
          refine nw_goto C 4 dX1_keysOf_33 (by decide) ?_
          exact (nw_sub [2, 3, 1, 0] rfl (ih_lp1 (i + 1) (mm ||| ((nI 1) <<< ((nI i) &&& 31))) (by omega) (by rw [sp_bits_t (p := fun k => sg_ke σ k == o) (n := i) (by simp [h3]), ← hmm]) (by omega)))
  exact (nw_sub [2, 3, 1, 0] rfl (lp1 _ 0 (nI 0) (Nat.zero_le _) rfl (Nat.lt_succ_self _)))
set_option maxHeartbeats 4000000 in
theorem mX1_ofGuardNow (l : Launch) (hf : l.flags = flags0) (d : nwD) (ro ad : Nat → Nat) (x : Nat) (σ : spSg) (sm : Int64) (g q : Nat) (H : Heap) (hB : nd_B d ≤ H.size) (hW : nwWC d ro ad x σ sm H) (ok : spOk σ) (hg : g < (sg_gu σ).1) (hq8 : q ≤ 8) : nwRd l d yX1_ofGuardNow cX1_ofGuardNow 4 (some .int) 4 84 [.ref x, .int (nI g), .int (nI q)] H (some (.int (sp_guardNow σ g q))) := by
  refine nw_rd "NightwatchWall" "ofGuardNow" hf (by decide +kernel) rfl rfl hB (Nat.le_of_ble_eq_true rfl) ?_
  intro X C
  obtain ⟨hx, hcG, hcLa, hcFo, hcGu, hcPo, hcIn, hcWi, hcWo, hcKe⟩ := id hW
  obtain ⟨okg, okl, okf, oku, okp, oki, okw, okd, okk, oka⟩ := id ok
  have hn64 : gr_n (sg_gr σ) ≤ 64 := okg.n
  have hE := C.E0
  have oku1 := oku.1
  show nwV X _ _ 4 H 0 0 0 [(0, .ref x), (1, .int (nI g)), (2, .int (nI q))] []
  refine nw_aload_n C 0 dX1_ofGuardNow_0 rfl 1 rfl ?_
  refine nw_get C hx (T := TX1) rfl in_X1 3 (by decide) q224 (Or.inl rfl) rfl dX1_ofGuardNow_1 4 rfl ?_
  refine nw_iload_n C 1 dX1_ofGuardNow_4 rfl 5 rfl ?_
  refine nw_callV C (mJ3_get _ C.hfl d (ad 3) ((sg_gu σ).1) (fun k => ad (300 + k)) (fun q => ro q = 2004) g H hB hcGu.1 (by omega)) kJ3_get q350 (hcGu.1.is C) (As := [.int (nI g)]) (rest := []) rfl rfl ⟨⟨Nat.le_of_ble_eq_true rfl, Nat.le_of_ble_eq_true rfl⟩, Nat.le_of_ble_eq_true rfl, Nat.le_of_ble_eq_true rfl⟩ (Nat.le_of_ble_eq_true rfl) (fun _ h8 h9 => absurd h9 (Nat.not_le.mpr h8)) dX1_ofGuardNow_5 8 rfl (nw_rdK ?_) nw_noX
  have hg1 : nwGd d (ad (300 + g)) (ad (400 + g)) (fun q => ro q = 2401 + g) ((sg_gu σ).2 g) H := hcGu.2 g (by omega)
  have hk2 : okGd (sg_gr σ) ((sg_gu σ).2 g) := oku.2 g (by omega)
  have hg3 : nwO d (ad (300 + g)) 4 [.int (nI (gd_a ((sg_gu σ).2 g))), .int (nI (gd_b ((sg_gu σ).2 g))), .int (nI (gd_s ((sg_gu σ).2 g))), .ref (ad (400 + g)), .int (nI (gd_k ((sg_gu σ).2 g))), .int (gd_h ((sg_gu σ).2 g))] H := hg1.1
  refine nw_cast C (ci := 4) rfl (hg3.is C (ci := 4) rfl) q369 dX1_ofGuardNow_8 11 rfl ?_
  refine nw_astore_n C [(3, .ref (ad (300 + g))), (0, .ref x), (1, .int (nI g)), (2, .int (nI q))] dX1_ofGuardNow_11 (by decide) rfl 12 rfl ?_
  refine nw_iload_n C 3 dX1_ofGuardNow_12 rfl 13 rfl ?_
  rcases Nat.decEq q 0 with h4 | h4
  rotate_left
  · have h4s := h4
    refine nw_tabInN C (off := 47) h4 (by decide) 60 dX1_ofGuardNow_13 (by decide) (by decide) rfl (by decide) ?_
    refine nw_aload_n C 0 dX1_ofGuardNow_60 rfl 61 rfl ?_
    refine nw_getN C hg3 (T := TX10) rfl in_X10 0 (by decide) q1022 rfl rfl dX1_ofGuardNow_61 64 rfl ?_
    exact nw_iret C dX1_ofGuardNow_64 (Nat.le_refl _) (Nat.le_refl _) ⟨congrArg (fun z => some (Value.int z)) (show (nI (gd_a ((sg_gu σ).2 g))) = (sp_guardNow σ g q) from (by unfold sp_guardNow; simp [b2i, h4])), rfl⟩
  rcases Nat.decEq q 1 with h5 | h5
  rotate_left
  · have h5s := h5
    refine nw_tabInN C (off := 52) h5 (by decide) 65 dX1_ofGuardNow_13 (by decide) (by decide) rfl (by decide) ?_
    refine nw_aload_n C 0 dX1_ofGuardNow_65 rfl 66 rfl ?_
    refine nw_getN C hg3 (T := TX10) rfl in_X10 1 (by decide) q1024 rfl rfl dX1_ofGuardNow_66 69 rfl ?_
    exact nw_iret C dX1_ofGuardNow_69 (Nat.le_refl _) (Nat.le_refl _) ⟨congrArg (fun z => some (Value.int z)) (show (nI (gd_b ((sg_gu σ).2 g))) = (sp_guardNow σ g q) from (by unfold sp_guardNow; simp [b2i, h4, h5])), rfl⟩
  rcases Nat.decEq q 2 with h6 | h6
  rotate_left
  · have h6s := h6
    refine nw_tabInN C (off := 57) h6 (by decide) 70 dX1_ofGuardNow_13 (by decide) (by decide) rfl (by decide) ?_
    refine nw_aload_n C 0 dX1_ofGuardNow_70 rfl 71 rfl ?_
    refine nw_getN C hg3 (T := TX10) rfl in_X10 2 (by decide) q1026 rfl rfl dX1_ofGuardNow_71 74 rfl ?_
    exact nw_iret C dX1_ofGuardNow_74 (Nat.le_refl _) (Nat.le_refl _) ⟨congrArg (fun z => some (Value.int z)) (show (nI (gd_s ((sg_gu σ).2 g))) = (sp_guardNow σ g q) from (by unfold sp_guardNow; simp [b2i, h4, h5, h6])), rfl⟩
  rcases Nat.decEq q 3 with h7 | h7
  rotate_left
  · have h7s := h7
    refine nw_tabInN C (off := 62) h7 (by decide) 75 dX1_ofGuardNow_13 (by decide) (by decide) rfl (by decide) ?_
    refine nw_aload_n C 0 dX1_ofGuardNow_75 rfl 76 rfl ?_
    refine nw_getN C hg3 (T := TX10) rfl in_X10 3 (by decide) q1028 rfl rfl dX1_ofGuardNow_76 79 rfl ?_
    refine nw_callV C (mJ3_size _ C.hfl d (ad (400 + g)) (gd_m ((sg_gu σ).2 g)) (fun j => nd_bx d (gd_c ((sg_gu σ).2 g) j)) (fun q => ro q = 2401 + g) H hB hg1.2) kJ3_size q346 (hg1.2.is C) (As := []) (rest := []) rfl rfl ⟨⟨Nat.le_of_ble_eq_true rfl, Nat.le_of_ble_eq_true rfl⟩, Nat.le_of_ble_eq_true rfl, Nat.le_of_ble_eq_true rfl⟩ (Nat.le_of_ble_eq_true rfl) (fun _ h8 h9 => absurd h9 (Nat.not_le.mpr h8)) dX1_ofGuardNow_79 82 rfl (nw_rdK ?_) nw_noX
    exact nw_iret C dX1_ofGuardNow_82 (Nat.le_refl _) (Nat.le_refl _) ⟨congrArg (fun z => some (Value.int z)) (show (nI (gd_m ((sg_gu σ).2 g))) = (sp_guardNow σ g q) from (by unfold sp_guardNow; simp [b2i, h4, h5, h6, h7])), rfl⟩
  rcases Nat.decEq q 4 with h8 | h8
  rotate_left
  · have h8s := h8
    refine nw_tabInN C (off := 70) h8 (by decide) 83 dX1_ofGuardNow_13 (by decide) (by decide) rfl (by decide) ?_
    refine nw_aload_n C 0 dX1_ofGuardNow_83 rfl 84 rfl ?_
    refine nw_getN C hg3 (T := TX10) rfl in_X10 4 (by decide) q1030 rfl rfl dX1_ofGuardNow_84 87 rfl ?_
    exact nw_iret C dX1_ofGuardNow_87 (Nat.le_refl _) (Nat.le_refl _) ⟨congrArg (fun z => some (Value.int z)) (show (nI (gd_k ((sg_gu σ).2 g))) = (sp_guardNow σ g q) from (by unfold sp_guardNow; simp [b2i, h4, h5, h6, h7, h8])), rfl⟩
  rcases Nat.decEq q 5 with h9 | h9
  rotate_left
  · have h9s := h9
    refine nw_tabInN C (off := 75) h9 (by decide) 88 dX1_ofGuardNow_13 (by decide) (by decide) rfl (by decide) ?_
    refine nw_aload_n C 0 dX1_ofGuardNow_88 rfl 89 rfl ?_
    refine nw_callV C (mX10_isBarred _ C.hfl d (ad (300 + g)) (ad (400 + g)) (fun q => ro q = 2401 + g) ((sg_gu σ).2 g) (sg_gr σ)  H hB hg1 hk2 ) kX10_isBarred q584 (hg3.is C (ci := 4) rfl) (As := []) (rest := []) rfl rfl ⟨⟨Nat.le_of_ble_eq_true rfl, Nat.le_of_ble_eq_true rfl⟩, Nat.le_of_ble_eq_true rfl, Nat.le_of_ble_eq_true rfl⟩ (Nat.le_of_ble_eq_true rfl) (fun _ h8 h9 => absurd h9 (Nat.not_le.mpr h8)) dX1_ofGuardNow_89 92 rfl (nw_rdK ?_) nw_noX
    refine nw_ifeqB C 99 dX1_ofGuardNow_92 (by decide) 95 rfl (fun h10 => ?_) (fun h10 => ?_)
    · refine nw_iconst C (nI 0) dX1_ofGuardNow_99 (by decide) 100 rfl ?_
      exact nw_iret C dX1_ofGuardNow_100 (Nat.le_refl _) (Nat.le_refl _) ⟨congrArg (fun z => some (Value.int z)) (show (nI 0) = (sp_guardNow σ g q) from (by unfold sp_guardNow; simp [b2i, h4, h5, h6, h7, h8, h9, h10])), rfl⟩
    · refine nw_iconst C (nI 1) dX1_ofGuardNow_95 (by decide) 96 rfl ?_
      refine nw_goto C 100 dX1_ofGuardNow_96 (by decide) ?_
      exact nw_iret C dX1_ofGuardNow_100 (Nat.le_refl _) (Nat.le_refl _) ⟨congrArg (fun z => some (Value.int z)) (show (nI 1) = (sp_guardNow σ g q) from (by unfold sp_guardNow; simp [b2i, h4, h5, h6, h7, h8, h9, h10])), rfl⟩
  rcases Nat.decEq q 6 with h11 | h11
  rotate_left
  · have h11s := h11
    refine nw_tabInN C (off := 88) h11 (by decide) 101 dX1_ofGuardNow_13 (by decide) (by decide) rfl (by decide) ?_
    refine nw_aload_n C 1 dX1_ofGuardNow_101 rfl 102 rfl ?_
    refine nw_iload_n C 2 dX1_ofGuardNow_102 rfl 103 rfl ?_
    refine nw_callV C (mX1_keysOf _ C.hfl d ro ad x σ sm (some g) H hB hW ok (fun v hv => by cases hv; omega)) kX1_keysOf q507 (hx.is C (ci := 0) rfl) (As := [.int (nI g)]) (rest := []) rfl rfl ⟨⟨Nat.le_of_ble_eq_true rfl, Nat.le_of_ble_eq_true rfl⟩, Nat.le_of_ble_eq_true rfl, Nat.le_of_ble_eq_true rfl⟩ (Nat.le_of_ble_eq_true rfl) (fun _ h8 h9 => absurd h9 (Nat.not_le.mpr h8)) dX1_ofGuardNow_103 106 rfl (nw_rdK ?_) nw_noX
    exact nw_iret C dX1_ofGuardNow_106 (Nat.le_refl _) (Nat.le_refl _) ⟨congrArg (fun z => some (Value.int z)) (show (sp_keysOf (sg_ke σ) (some g)) = (sp_guardNow σ g q) from (by unfold sp_guardNow; simp [b2i, h4, h5, h6, h7, h8, h9, h11])), rfl⟩
  rcases Nat.decEq q 7 with h12 | h12
  rotate_left
  · have h12s := h12
    refine nw_tabInN C (off := 94) h12 (by decide) 107 dX1_ofGuardNow_13 (by decide) (by decide) rfl (by decide) ?_
    refine nw_aload_n C 0 dX1_ofGuardNow_107 rfl 108 rfl ?_
    refine nw_getN C hg3 (T := TX10) rfl in_X10 5 (by decide) q1032 rfl rfl dX1_ofGuardNow_108 111 rfl ?_
    exact nw_iret C dX1_ofGuardNow_111 (Nat.le_refl _) (Nat.le_refl _) ⟨congrArg (fun z => some (Value.int z)) (show (gd_h ((sg_gu σ).2 g)) = (sp_guardNow σ g q) from (by unfold sp_guardNow; simp [b2i, h4, h5, h6, h7, h8, h9, h11, h12])), rfl⟩
  refine nw_tabOutN C (lo := 0) (hi := 7) (by omega) (by omega) 112 dX1_ofGuardNow_13 (by decide) ?_
  refine nw_aload_n C 0 dX1_ofGuardNow_112 rfl 113 rfl ?_
  refine nw_callV C (mX10_tiredMinutes _ C.hfl d (ad (300 + g)) (ad (400 + g)) (fun q => ro q = 2401 + g) ((sg_gu σ).2 g) (sg_gr σ)  H hB hg1 hk2 ) kX10_tiredMinutes q588 (hg3.is C (ci := 4) rfl) (As := []) (rest := []) rfl rfl ⟨⟨Nat.le_of_ble_eq_true rfl, Nat.le_of_ble_eq_true rfl⟩, Nat.le_of_ble_eq_true rfl, Nat.le_of_ble_eq_true rfl⟩ (Nat.le_of_ble_eq_true rfl) (fun _ h8 h9 => absurd h9 (Nat.not_le.mpr h8)) dX1_ofGuardNow_113 116 rfl (nw_rdK ?_) nw_noX
  exact nw_iret C dX1_ofGuardNow_116 (Nat.le_refl _) (Nat.le_refl _) ⟨congrArg (fun z => some (Value.int z)) (show (nI (gd_b ((sg_gu σ).2 g) - gd_a ((sg_gu σ).2 g) - 89)) = (sp_guardNow σ g q) from (by unfold sp_guardNow; simp [b2i, h4, h5, h6, h7, h8, h9, h11, h12])), rfl⟩
