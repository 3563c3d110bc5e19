/-! ===== the reference's readers: ways, wires, what is taken ===== -/
theorem nw_dv1 {a b : Nat} (h : 0 < b) : 0 < a / b ↔ b ≤ a := by
  constructor
  · intro h1
    apply Nat.le_of_not_lt
    intro h2
    rw [Nat.div_eq_of_lt h2] at h1
    omega
  · intro h1
    exact Nat.div_pos h1 h
theorem nw_dv3 {a w h : Nat} (h0 : 0 < w) (h1 : 1 ≤ h) : a / w < h - 1 ↔ a < w * h - w := by
  rw [Nat.div_lt_iff_lt_mul h0]
  have : (h - 1) * w = w * h - w := by rw [Nat.mul_comm, Nat.mul_sub, Nat.mul_one]
  rw [this]
theorem nw_whn {i : spI1} {t c : Nat} (h : ¬ sp_where i t = some c) : (decide (in_a i ≤ t) && (sp_at i t == c)) = false := by
  by_cases h0 : in_a i ≤ t
  · rw [sp_where_at h0] at h
    simp [h0]
    intro e
    exact h (by rw [e])
  · simp [h0]
theorem nw_whs {i : spI1} {t c : Nat} (h : sp_where i t = some c) : (decide (in_a i ≤ t) && (sp_at i t == c)) = true := by
  by_cases h0 : in_a i ≤ t
  · rw [sp_where_at h0] at h
    cases h
    simp [h0]
  · unfold sp_where at h
    rw [if_pos (by omega)] at h
    cases h
theorem nw_isg {g n : Nat} (h : g < n) (hn : n < 2 ^ 31) : ¬ b2i (nw_ix (nI g) n) = 0 := by
  rw [show nw_ix (nI g) n = true by
    unfold nw_ix
    have h0 : (0 : Int32) ≤ nI g := by rw [← nI_0, nI_leI' (by omega) (by omega)]; omega
    have h1 : nI g < nI n := (nI_ltI (by omega) (by omega)).mpr h
    simp [h0, h1]]
  decide
theorem nw_bit1' (x : Int32) : (x &&& nI 1) = 0 ∨ (x &&& nI 1) = nI 1 := by
  have h : (x.toBitVec &&& 1#32) = 0#32 ∨ (x.toBitVec &&& 1#32) = 1#32 := by
    rw [BitVec.and_one_eq_setWidth_ofBool_getLsbD]
    cases x.toBitVec.getLsbD 0
    · exact Or.inl (by decide)
    · exact Or.inr (by decide)
  rcases h with h | h
  · exact Or.inl (Int32.toBitVec_inj.mp h)
  · exact Or.inr (Int32.toBitVec_inj.mp h)
theorem nw_bit1 {x : Int32} (h : ¬ (x &&& nI 1) = 0) : (x &&& nI 1) = nI 1 := (nw_bit1' x).elim (fun e => absurd e h) id
theorem nw_bit0 {x : Int32} (h : (x &&& nI 1) = 0) : ¬ (x &&& nI 1) = nI 1 := by
  rw [h]
  decide
theorem kX13_where : nwPV "NightwatchWallModel$Intruder" yX13_where cX13_where 2 (some .int) 1 := ⟨⟨q1715, q1716, q121, q1717⟩, rfl, by decide +kernel, by decide +kernel, by decide +kernel⟩
theorem kX4_thereAt : nwPV "NightwatchWallModel" yX4_thereAt cX4_thereAt 5 (some .int) 2 := ⟨⟨q2018, qs78, q93, q2019⟩, rfl, by decide +kernel, by decide +kernel, by decide +kernel⟩
theorem kX4_isGuard : nwPV "NightwatchWallModel" yX4_isGuard cX4_isGuard 2 (some .boolean) 1 := ⟨⟨q1810, qs57, q93, q1811⟩, rfl, by decide +kernel, by decide +kernel, by decide +kernel⟩
theorem kX4_isTaken : nwPV "NightwatchWallModel" yX4_isTaken cX4_isTaken 4 (some .boolean) 1 := ⟨⟨q1708, qs51, q93, q1709⟩, rfl, by decide +kernel, by decide +kernel, by decide +kernel⟩
set_option maxHeartbeats 4000000 in
theorem mX4_moved (l : Launch) (hf : l.flags = flags0) (d : nwD) (ro am : Nat → Nat) (y : Nat) (σ : spSg) (th : Int32) (c m : Nat) (H : Heap) (hB : nd_B d ≤ H.size) (hW : nwMC d ro am y σ th H) (okM : spOkM σ) (hc : c < gr_n (sg_gr σ)) (hm : m ≤ 4) : nwRd l d yX4_moved cX4_moved 3 (some .int) 1 20 [.ref y, .int (nI c), .int (nI m)] H (some (.int (oI (sp_moved (sg_gr σ) c m)))) := by
  refine nw_rd "NightwatchWallModel" "moved" hf (by decide +kernel) rfl rfl hB (Nat.le_of_ble_eq_true rfl) ?_
  intro X C
  obtain ⟨hmX, hmKi, hmLa, hmFo, hmGu, hmPo, hmIn, hmWi, hmWo, hmKe⟩ := id hW
  obtain ⟨okg, okl, okf, oku, okp, oki, okw, okd, okk, oka⟩ := id okM
  have hn64 : gr_n (sg_gr σ) ≤ 64 := okg.n
  have oku1 := oku.1
  have oki1 := oki.1
  have okp1 := okp.1
  have okw1 := okw.1
  have okl1 := okl.1
  have okf1 := okf.1
  have hE := C.E0
  have hgro := okg.here hc
  have hc0 := hgro.1
  show nwV X _ _ 3 H 0 0 0 [(0, .ref y), (1, .int (nI c)), (2, .int (nI m))] []
  have hv1 := nw_dv1 (a := c) (b := (gr_w (sg_gr σ))) (by omega)
  have hv3 := nw_dv3 (a := c) (w := (gr_w (sg_gr σ))) (h := gr_h (sg_gr σ)) (by omega) (by omega)
  have hnn : gr_n (sg_gr σ) = (gr_w (sg_gr σ)) * gr_h (sg_gr σ) := rfl
  have hnw : (gr_w (sg_gr σ)) ≤ gr_n (sg_gr σ) := Nat.le_mul_of_pos_right _ (by omega)
  have hmd : c % (gr_w (sg_gr σ)) ≤ c := Nat.mod_le _ _
  refine nw_iload_n C 2 dX4_moved_0 rfl 1 rfl ?_
  refine nw_iconst C (nI 1) dX4_moved_1 (by decide) 2 rfl ?_
  refine nw_icmpneN C (by omega) 24 dX4_moved_2 (by decide) 5 rfl (fun h1 => ?_) (fun h1 => ?_)
  · refine nw_iload_n C 2 dX4_moved_24 rfl 25 rfl ?_
    refine nw_iconst C (nI 2) dX4_moved_25 (by decide) 26 rfl ?_
    refine nw_icmpneN C (by omega) 52 dX4_moved_26 (by decide) 29 rfl (fun h2 => ?_) (fun h2 => ?_)
    · refine nw_iload_n C 2 dX4_moved_52 rfl 53 rfl ?_
      refine nw_iconst C (nI 3) dX4_moved_53 (by decide) 54 rfl ?_
      refine nw_icmpneN C (by omega) 82 dX4_moved_54 (by decide) 57 rfl (fun h3 => ?_) (fun h3 => ?_)
      · refine nw_iload_n C 2 dX4_moved_82 rfl 83 rfl ?_
        refine nw_iconst C (nI 4) dX4_moved_83 (by decide) 84 rfl ?_
        refine nw_icmpneN C (by omega) 104 dX4_moved_84 (by decide) 87 rfl (fun h4 => ?_) (fun h4 => ?_)
        · refine nw_iload_n C 1 dX4_moved_104 rfl 105 rfl ?_
          exact nw_iret C dX4_moved_105 (Nat.le_refl _) (Nat.le_refl _) ⟨congrArg (fun z => some (Value.int (oI z))) (show (some c) = (sp_moved (sg_gr σ) c m) from by
                simp only [sp_moved]
                (repeat' split) <;> first | rfl | omega | (exfalso; omega)), rfl⟩
        · refine nw_iload_n C 1 dX4_moved_87 rfl 88 rfl ?_
          refine nw_aload_n C 0 dX4_moved_88 rfl 89 rfl ?_
          refine nw_get C hmX (T := TX4) rfl in_X4 1 (by decide) q1623 (Or.inl rfl) rfl dX4_moved_89 92 rfl ?_
          refine nw_iremN C (by omega) dX4_moved_92 93 rfl ?_
          refine nw_ifleN C (by omega) 102 dX4_moved_93 (by decide) 96 rfl (fun h5 => ?_) (fun h5 => ?_)
          · refine nw_iconst C (oI none) dX4_moved_102 (by decide) 103 rfl ?_
            exact nw_iret C dX4_moved_103 (Nat.le_refl _) (Nat.le_refl _) ⟨congrArg (fun z => some (Value.int (oI z))) (show (none) = (sp_moved (sg_gr σ) c m) from by
                  simp only [sp_moved]
                  (repeat' split) <;> first | rfl | omega | (exfalso; omega)), rfl⟩
          · refine nw_iload_n C 1 dX4_moved_96 rfl 97 rfl ?_
            refine nw_iconst C (nI 1) dX4_moved_97 (by decide) 98 rfl ?_
            refine nw_isubN C (by omega) dX4_moved_98 99 rfl ?_
            refine nw_goto C 103 dX4_moved_99 (by decide) ?_
            exact nw_iret C dX4_moved_103 (Nat.le_refl _) (Nat.le_refl _) ⟨congrArg (fun z => some (Value.int (oI z))) (show (some (c - 1)) = (sp_moved (sg_gr σ) c m) from by
                  simp only [sp_moved]
                  (repeat' split) <;> first | rfl | omega | (exfalso; omega)), rfl⟩
      · refine nw_iload_n C 1 dX4_moved_57 rfl 58 rfl ?_
        refine nw_aload_n C 0 dX4_moved_58 rfl 59 rfl ?_
        refine nw_get C hmX (T := TX4) rfl in_X4 3 (by decide) q1625 (Or.inl rfl) rfl dX4_moved_59 62 rfl ?_
        refine nw_alenI C hmKi (by decide) dX4_moved_62 63 rfl ?_
        refine nw_aload_n C 0 dX4_moved_63 rfl 64 rfl ?_
        refine nw_get C hmX (T := TX4) rfl in_X4 1 (by decide) q1623 (Or.inl rfl) rfl dX4_moved_64 67 rfl ?_
        refine nw_isubN C (by omega) dX4_moved_67 68 rfl ?_
        refine nw_icmpgeN C (by omega) 80 dX4_moved_68 (by decide) 71 rfl (fun h6 => ?_) (fun h6 => ?_)
        · refine nw_iconst C (oI none) dX4_moved_80 (by decide) 81 rfl ?_
          exact nw_iret C dX4_moved_81 (Nat.le_refl _) (Nat.le_refl _) ⟨congrArg (fun z => some (Value.int (oI z))) (show (none) = (sp_moved (sg_gr σ) c m) from by
                simp only [sp_moved]
                (repeat' split) <;> first | rfl | omega | (exfalso; omega)), rfl⟩
        · refine nw_iload_n C 1 dX4_moved_71 rfl 72 rfl ?_
          refine nw_aload_n C 0 dX4_moved_72 rfl 73 rfl ?_
          refine nw_get C hmX (T := TX4) rfl in_X4 1 (by decide) q1623 (Or.inl rfl) rfl dX4_moved_73 76 rfl ?_
          refine nw_iaddN C dX4_moved_76 77 rfl ?_
          refine nw_goto C 81 dX4_moved_77 (by decide) ?_
          exact nw_iret C dX4_moved_81 (Nat.le_refl _) (Nat.le_refl _) ⟨congrArg (fun z => some (Value.int (oI z))) (show (some (c + (gr_w (sg_gr σ)))) = (sp_moved (sg_gr σ) c m) from by
                simp only [sp_moved]
                (repeat' split) <;> first | rfl | omega | (exfalso; omega)), rfl⟩
    · refine nw_iload_n C 1 dX4_moved_29 rfl 30 rfl ?_
      refine nw_aload_n C 0 dX4_moved_30 rfl 31 rfl ?_
      refine nw_get C hmX (T := TX4) rfl in_X4 1 (by decide) q1623 (Or.inl rfl) rfl dX4_moved_31 34 rfl ?_
      refine nw_iremN C (by omega) dX4_moved_34 35 rfl ?_
      refine nw_aload_n C 0 dX4_moved_35 rfl 36 rfl ?_
      refine nw_get C hmX (T := TX4) rfl in_X4 1 (by decide) q1623 (Or.inl rfl) rfl dX4_moved_36 39 rfl ?_
      refine nw_iconst C (nI 1) dX4_moved_39 (by decide) 40 rfl ?_
      refine nw_isubN C (by omega) dX4_moved_40 41 rfl ?_
      refine nw_icmpgeN C (by omega) 50 dX4_moved_41 (by decide) 44 rfl (fun h7 => ?_) (fun h7 => ?_)
      · refine nw_iconst C (oI none) dX4_moved_50 (by decide) 51 rfl ?_
        exact nw_iret C dX4_moved_51 (Nat.le_refl _) (Nat.le_refl _) ⟨congrArg (fun z => some (Value.int (oI z))) (show (none) = (sp_moved (sg_gr σ) c m) from by
              simp only [sp_moved]
              (repeat' split) <;> first | rfl | omega | (exfalso; omega)), rfl⟩
      · refine nw_iload_n C 1 dX4_moved_44 rfl 45 rfl ?_
        refine nw_iconst C (nI 1) dX4_moved_45 (by decide) 46 rfl ?_
        refine nw_iaddN C dX4_moved_46 47 rfl ?_
        refine nw_goto C 51 dX4_moved_47 (by decide) ?_
        exact nw_iret C dX4_moved_51 (Nat.le_refl _) (Nat.le_refl _) ⟨congrArg (fun z => some (Value.int (oI z))) (show (some (c + 1)) = (sp_moved (sg_gr σ) c m) from by
              simp only [sp_moved]
              (repeat' split) <;> first | rfl | omega | (exfalso; omega)), rfl⟩
  · refine nw_iload_n C 1 dX4_moved_5 rfl 6 rfl ?_
    refine nw_aload_n C 0 dX4_moved_6 rfl 7 rfl ?_
    refine nw_get C hmX (T := TX4) rfl in_X4 1 (by decide) q1623 (Or.inl rfl) rfl dX4_moved_7 10 rfl ?_
    refine nw_icmpltN C (by omega) 22 dX4_moved_10 (by decide) 13 rfl (fun h8 => ?_) (fun h8 => ?_)
    · refine nw_iconst C (oI none) dX4_moved_22 (by decide) 23 rfl ?_
      exact nw_iret C dX4_moved_23 (Nat.le_refl _) (Nat.le_refl _) ⟨congrArg (fun z => some (Value.int (oI z))) (show (none) = (sp_moved (sg_gr σ) c m) from by
            simp only [sp_moved]
            (repeat' split) <;> first | rfl | omega | (exfalso; omega)), rfl⟩
    · refine nw_iload_n C 1 dX4_moved_13 rfl 14 rfl ?_
      refine nw_aload_n C 0 dX4_moved_14 rfl 15 rfl ?_
      refine nw_get C hmX (T := TX4) rfl in_X4 1 (by decide) q1623 (Or.inl rfl) rfl dX4_moved_15 18 rfl ?_
      refine nw_isubN C (by omega) dX4_moved_18 19 rfl ?_
      refine nw_goto C 23 dX4_moved_19 (by decide) ?_
      exact nw_iret C dX4_moved_23 (Nat.le_refl _) (Nat.le_refl _) ⟨congrArg (fun z => some (Value.int (oI z))) (show (some (c - (gr_w (sg_gr σ)))) = (sp_moved (sg_gr σ) c m) from by
            simp only [sp_moved]
            (repeat' split) <;> first | rfl | omega | (exfalso; omega)), rfl⟩
set_option maxHeartbeats 4000000 in
theorem mX13_where (l : Launch) (hf : l.flags = flags0) (d : nwD) (g wl : Nat) (i : spI1) (gr : spGr) (t : Nat) (H : Heap) (hB : nd_B d ≤ H.size) (hg : nwMIn d g wl i H) (hk : okI1 gr i) (hn : gr_n gr ≤ 64) (ht : t < 240) : nwRd l d yX13_where cX13_where 2 (some .int) 1 20 [.ref g, .int (nI t)] H (some (.int (oI (sp_where i t)))) := by
  refine nw_rd "NightwatchWallModel$Intruder" "where" hf (by decide +kernel) rfl rfl hB (Nat.le_of_ble_eq_true rfl) ?_
  intro X C
  obtain ⟨⟨hia, him1, him2, hiv, his, hil⟩, hcs⟩ := id hk
  obtain ⟨hgo, hgl⟩ := id hg
  show nwV X _ _ 2 H 0 0 0 [(0, .ref g), (1, .int (nI t))] []
  refine nw_iload_n C 1 dX13_where_0 rfl 1 rfl ?_
  refine nw_aload_n C 0 dX13_where_1 rfl 2 rfl ?_
  refine nw_get C hgo (T := TX13) rfl in_X13 0 (by decide) q1941 (Or.inl rfl) rfl dX13_where_2 5 rfl ?_
  refine nw_icmpgeN C (by omega) 12 dX13_where_5 (by decide) 8 rfl (fun h1 => ?_) (fun h1 => ?_)
  · refine nw_aload_n C 0 dX13_where_12 rfl 13 rfl ?_
    refine nw_get C hgo (T := TX13) rfl in_X13 2 (by decide) q1945 (Or.inl rfl) rfl dX13_where_13 16 rfl ?_
    refine nw_iload_n C 1 dX13_where_16 rfl 17 rfl ?_
    refine nw_ialdN C (nI (sp_at i t)) hgl (by omega) (if_neg (by omega)) dX13_where_17 18 rfl ?_
    exact nw_iret C dX13_where_18 (Nat.le_refl _) (Nat.le_refl _) ⟨congrArg (fun z => some (Value.int (oI z))) (show (some (sp_at i t)) = (sp_where i t) from (by unfold sp_where; rw [if_neg (by omega)]; rfl)), rfl⟩
  · refine nw_iconst C (oI none) dX13_where_8 (by decide) 9 rfl ?_
    refine nw_goto C 18 dX13_where_9 (by decide) ?_
    exact nw_iret C dX13_where_18 (Nat.le_refl _) (Nat.le_refl _) ⟨congrArg (fun z => some (Value.int (oI z))) (show (none) = (sp_where i t) from (by unfold sp_where; simp [h1])), rfl⟩
set_option maxHeartbeats 4000000 in
theorem mX4_foundNow (l : Launch) (hf : l.flags = flags0) (d : nwD) (ro am : Nat → Nat) (y : Nat) (σ : spSg) (th : Int32) (g wl : Nat) (i : spI1) (H : Heap) (hB : nd_B d ≤ H.size) (hW : nwMC d ro am y σ th H) (okM : spOkM σ) (hg : nwMIn d g wl i H) (hk : okI1 (sg_gr σ) i) : nwRd l d yX4_foundNow cX4_foundNow 3 (some .int) 7 157 [.ref y, .ref g] H (some (.int (oI (sp_foundS σ i)))) := by
  refine nw_rd "NightwatchWallModel" "foundNow" hf (by decide +kernel) rfl rfl hB (Nat.le_of_ble_eq_true rfl) ?_
  intro X C
  obtain ⟨hmX, hmKi, hmLa, hmFo, hmGu, hmPo, hmIn, hmWi, hmWo, hmKe⟩ := id hW
  obtain ⟨okg, okl, okf, oku, okp, oki, okw, okd, okk, oka⟩ := id okM
  have hn64 : gr_n (sg_gr σ) ≤ 64 := okg.n
  have oku1 := oku.1
  have oki1 := oki.1
  have okp1 := okp.1
  have okw1 := okw.1
  have okl1 := okl.1
  have okf1 := okf.1
  have hE := C.E0
  obtain ⟨⟨hia, him1, him2, hiv, his, hil⟩, hcs⟩ := id hk
  obtain ⟨hgo, hgl⟩ := id hg
  show nwV X _ _ 3 H 0 0 0 [(0, .ref y), (1, .ref g)] []
  refine nw_aload_n C 1 dX4_foundNow_0 rfl 1 rfl ?_
  refine nw_get C hgo (T := TX13) rfl in_X13 0 (by decide) q1942 (Or.inl rfl) rfl dX4_foundNow_1 4 rfl ?_
  refine nw_istore_n C [(2, .int (nI (in_a i))), (0, .ref y), (1, .ref g)] dX4_foundNow_4 (by decide) rfl 5 rfl ?_
  have lp1 : ∀ (fu : Nat) (m : Nat), (in_a i ≤ m) → (m ≤ 240) → (∀ k, in_a i ≤ k → k < m → (fun t => sp_watched (sg_gr σ) (sg_la σ) (sg_fo σ) (sg_gu σ) (sp_at i t) t) k = false) → 240 - m < fu → nwV X (nwNew H) (nwQE X (fun v H1 => v = some (.int (oI (sp_foundS σ i))) ∧ H1 = H) nwNo (nwNew H) 0 0) 3 H 0 0 5 [(0, .ref y), (1, .ref g), (2, .int (nI m))] [] := by
    intro fu
    induction fu with
    | zero => intro m _ _ _ hm; exact absurd hm (Nat.not_lt_zero _)
    | succ fu ih_lp1 =>
      intro m h1 hi hno hm
      refine nw_iload_n C 2 dX4_foundNow_5 rfl 6 rfl ?_
      refine nw_sipush C (nI 239) dX4_foundNow_6 (by decide) 9 rfl ?_
      refine nw_icmpgtN C (by omega) 34 dX4_foundNow_9 (by decide) 12 rfl (fun h2 => ?_) (fun h2 => ?_)
      · refine nw_iconst C (oI none) dX4_foundNow_34 (by decide) 35 rfl ?_
        exact nw_iret C dX4_foundNow_35 (Nat.le_refl _) (Nat.le_refl _) ⟨congrArg (fun z => some (Value.int (oI z))) (show (none) = (sp_foundS σ i) from (sp_fst_no (fun k h5 h6 => hno k h5 (by omega))).symm), rfl⟩
      · have hat := hk.at m
        refine nw_aload_n C 0 dX4_foundNow_12 rfl 13 rfl ?_
        refine nw_aload_n C 1 dX4_foundNow_13 rfl 14 rfl ?_
        refine nw_get C hgo (T := TX13) rfl in_X13 2 (by decide) q1946 (Or.inl rfl) rfl dX4_foundNow_14 17 rfl ?_
        refine nw_iload_n C 2 dX4_foundNow_17 rfl 18 rfl ?_
        refine nw_ialdN C (nI (sp_at i m)) hgl (by omega) (if_neg (by omega)) dX4_foundNow_18 19 rfl ?_
        refine nw_iload_n C 2 dX4_foundNow_19 rfl 20 rfl ?_
        refine nw_callV C (mX4_isWatched _ C.hfl d ro am y σ th (sp_at i m) m H hB hW okM (by omega) (by omega)) kX4_isWatched q1840 (hmX.is C (ci := 9) rfl) (As := [.int (nI (sp_at i m)), .int (nI m)]) (rest := []) rfl rfl ⟨⟨Nat.le_of_ble_eq_true rfl, Nat.le_of_ble_eq_true rfl⟩, Nat.le_of_ble_eq_true rfl, Nat.le_of_ble_eq_true rfl⟩ (Nat.le_of_ble_eq_true rfl) (fun _ h8 h9 => absurd h9 (Nat.not_le.mpr h8)) dX4_foundNow_20 23 rfl (nw_rdK ?_) nw_noX
        refine nw_ifeqB C 28 dX4_foundNow_23 (by decide) 26 rfl (fun h3 => ?_) (fun h3 => ?_)
        · refine nw_iincN C 2 (c0 := 1) [(2, .int (nI (m + 1))), (0, .ref y), (1, .ref g)] dX4_foundNow_28 rfl (by decide) rfl 31 rfl ?_
          refine nw_goto C 5 dX4_foundNow_31 (by decide) ?_
          exact (nw_sub [1, 2, 0] rfl (ih_lp1 (m + 1) (by omega) (by omega) (fun k h5 h6 => (Nat.lt_or_ge k m).elim (fun g5 => hno k h5 g5) (fun g5 => by rw [show k = m by omega]; exact h3)) (by omega)))
        · refine nw_iload_n C 2 dX4_foundNow_26 rfl 27 rfl ?_
          exact nw_iret C dX4_foundNow_27 (Nat.le_refl _) (Nat.le_refl _) ⟨congrArg (fun z => some (Value.int (oI z))) (show (some m) = (sp_foundS σ i) from (sp_fst_at hno h1 (by omega) h3).symm), rfl⟩
  exact (nw_sub [1, 2, 0] rfl (lp1 _ (in_a i) (Nat.le_refl _) (by omega) (fun k h5 h6 => absurd h6 (Nat.not_lt.mpr h5)) (Nat.lt_succ_self _)))
set_option maxHeartbeats 4000000 in
theorem mX4_thereAt (l : Launch) (hf : l.flags = flags0) (d : nwD) (ro am : Nat → Nat) (y : Nat) (σ : spSg) (th : Int32) (c t : Nat) (H : Heap) (hB : nd_B d ≤ H.size) (hW : nwMC d ro am y σ th H) (okM : spOkM σ) (hc : c < 2 ^ 31) (ht : t < 240) : nwRd l d yX4_thereAt cX4_thereAt 5 (some .int) 4 84 [.ref y, .int (nI c), .int (nI t)] H (some (.int (nI (sp_there (sg_in σ) c t)))) := by
  refine nw_rd "NightwatchWallModel" "thereAt" hf (by decide +kernel) rfl rfl hB (Nat.le_of_ble_eq_true rfl) ?_
  intro X C
  obtain ⟨hmX, hmKi, hmLa, hmFo, hmGu, hmPo, hmIn, hmWi, hmWo, hmKe⟩ := id hW
  obtain ⟨okg, okl, okf, oku, okp, oki, okw, okd, okk, oka⟩ := id okM
  have hn64 : gr_n (sg_gr σ) ≤ 64 := okg.n
  have oku1 := oku.1
  have oki1 := oki.1
  have okp1 := okp.1
  have okw1 := okw.1
  have okl1 := okl.1
  have okf1 := okf.1
  have hE := C.E0
  show nwV X _ _ 5 H 0 0 0 [(0, .ref y), (1, .int (nI c)), (2, .int (nI t))] []
  refine nw_iconst C (nI 0) dX4_thereAt_0 (by decide) 1 rfl ?_
  refine nw_istore_n C [(3, .int (nI 0)), (0, .ref y), (1, .int (nI c)), (2, .int (nI t))] dX4_thereAt_1 (by decide) rfl 2 rfl ?_
  refine nw_iconst C (nI 0) dX4_thereAt_2 (by decide) 3 rfl ?_
  refine nw_istore C [(4, .int (nI 0)), (3, .int (nI 0)), (0, .ref y), (1, .int (nI c)), (2, .int (nI t))] dX4_thereAt_3 (by decide) rfl 5 rfl ?_
  have lp1 : ∀ (fu : Nat) (i : Nat) (m : Nat), (i ≤ (sg_in σ).1) → (m = sp_cnt (fun k => sp_where ((sg_in σ).2 k) t == some c) i) → (sg_in σ).1 - i < fu → nwV X (nwNew H) (nwQE X (fun v H1 => v = some (.int (nI (sp_there (sg_in σ) c t))) ∧ H1 = H) nwNo (nwNew H) 0 0) 5 H 0 0 5 [(0, .ref y), (1, .int (nI c)), (2, .int (nI t)), (3, .int (nI m)), (4, .int (nI i))] [] := by
    intro fu
    induction fu with
    | zero => intro i m _ _ hm; exact absurd hm (Nat.not_lt_zero _)
    | succ fu ih_lp1 =>
      intro i m hi hmm hm
      refine nw_iload C 4 dX4_thereAt_5 rfl 7 rfl ?_
      refine nw_aload_n C 0 dX4_thereAt_7 rfl 8 rfl ?_
      refine nw_get C hmX (T := TX4) rfl in_X4 17 (by decide) q1639 (Or.inl rfl) rfl dX4_thereAt_8 11 rfl ?_
      refine nw_callF C (mJ3_size _ C.hfl d (am 5) ((sg_in σ).1) (fun k => am (500 + k)) (fun q => ro q = 7006) H hB hmIn.1) kJ3_size (ci := 13) rfl q1607 q1611 (by decide +kernel) fc_List_size (hmIn.1.is C) (As := []) (rest := [.int (nI i)]) rfl rfl ⟨⟨Nat.le_of_ble_eq_true rfl, Nat.le_of_ble_eq_true rfl⟩, Nat.le_of_ble_eq_true rfl, Nat.le_of_ble_eq_true rfl⟩ (Nat.le_of_ble_eq_true rfl) (fun _ h8 h9 => absurd h9 (Nat.not_le.mpr h8)) dX4_thereAt_11 16 rfl (nw_rdK ?_) nw_noX
      refine nw_icmpgeN C (by omega) 55 dX4_thereAt_16 (by decide) 19 rfl (fun h2 => ?_) (fun h2 => ?_)
      · refine nw_iload_n C 3 dX4_thereAt_55 rfl 56 rfl ?_
        exact nw_iret C dX4_thereAt_56 (Nat.le_refl _) (Nat.le_refl _) ⟨congrArg (fun z => some (Value.int (nI z))) (show (m) = (sp_there (sg_in σ) c t) from (by rw [hmm, show i = (sg_in σ).1 by omega]; rfl)), rfl⟩
      · refine nw_iload_n C 3 dX4_thereAt_19 rfl 20 rfl ?_
        refine nw_aload_n C 0 dX4_thereAt_20 rfl 21 rfl ?_
        refine nw_get C hmX (T := TX4) rfl in_X4 17 (by decide) q1639 (Or.inl rfl) rfl dX4_thereAt_21 24 rfl ?_
        refine nw_iload C 4 dX4_thereAt_24 rfl 26 rfl ?_
        refine nw_callF C (mJ3_get _ C.hfl d (am 5) ((sg_in σ).1) (fun k => am (500 + k)) (fun q => ro q = 7006) i H hB hmIn.1 (by omega)) kJ3_get (ci := 13) rfl q1615 q1618 (by decide +kernel) fc_List_get (hmIn.1.is C) (As := [.int (nI i)]) (rest := [.int (nI m)]) rfl rfl ⟨⟨Nat.le_of_ble_eq_true rfl, Nat.le_of_ble_eq_true rfl⟩, Nat.le_of_ble_eq_true rfl, Nat.le_of_ble_eq_true rfl⟩ (Nat.le_of_ble_eq_true rfl) (fun _ h8 h9 => absurd h9 (Nat.not_le.mpr h8)) dX4_thereAt_26 31 rfl (nw_rdK ?_) nw_noX
        have hg3 : nwMIn d (am (500 + i)) (am (600 + i)) ((sg_in σ).2 i) H := hmIn.2 i (by omega)
        have hk4 : okI1 (sg_gr σ) ((sg_in σ).2 i) := oki.2 i (by omega)
        have hg5 : nwO d (am (500 + i)) 11 [.int (nI (in_a ((sg_in σ).2 i))), .int (nI (in_v ((sg_in σ).2 i))), .ref (am (600 + i)), .int (nI (in_s ((sg_in σ).2 i))), .int (oI (in_l ((sg_in σ).2 i)))] H := hg3.1
        refine nw_cast C (ci := 11) rfl (hg5.is C (ci := 11) rfl) q1713 dX4_thereAt_31 34 rfl ?_
        refine nw_iload_n C 2 dX4_thereAt_34 rfl 35 rfl ?_
        refine nw_callV C (mX13_where _ C.hfl d (am (500 + i)) (am (600 + i)) ((sg_in σ).2 i) (sg_gr σ) t H hB hg3 hk4 hn64 (by omega)) kX13_where q1714 (hg5.is C (ci := 11) rfl) (As := [.int (nI t)]) (rest := [.int (nI m)]) rfl rfl ⟨⟨Nat.le_of_ble_eq_true rfl, Nat.le_of_ble_eq_true rfl⟩, Nat.le_of_ble_eq_true rfl, Nat.le_of_ble_eq_true rfl⟩ (Nat.le_of_ble_eq_true rfl) (fun _ h8 h9 => absurd h9 (Nat.not_le.mpr h8)) dX4_thereAt_35 38 rfl (nw_rdK ?_) nw_noX
        refine nw_iload_n C 1 dX4_thereAt_38 rfl 39 rfl ?_
        refine nw_icmpneO C (sp_where ((sg_in σ).2 i) t) (some c) (fun v hv => by have := (oki.2 i (by omega)).wh hv; omega) (fun v hv => by cases hv; omega) 46 dX4_thereAt_39 (by decide) 42 rfl (fun h6 => ?_) (fun h6 => ?_)
        · refine nw_iconst C (nI 0) dX4_thereAt_46 (by decide) 47 rfl ?_
          refine nw_iaddN C dX4_thereAt_47 48 rfl ?_
          refine nw_istore_n C [(3, .int (nI (m + 0))), (0, .ref y), (1, .int (nI c)), (2, .int (nI t)), (4, .int (nI i))] dX4_thereAt_48 (by decide) rfl 49 rfl ?_
          refine nw_iincN C 4 (c0 := 1) [(4, .int (nI (i + 1))), (3, .int (nI (m + 0))), (0, .ref y), (1, .int (nI c)), (2, .int (nI t))] dX4_thereAt_49 rfl (by decide) rfl 52 rfl ?_
          refine nw_goto C 5 dX4_thereAt_52 (by decide) ?_
          exact (nw_sub [2, 3, 4, 1, 0] rfl (ih_lp1 (i + 1) m (by omega) (by rw [sp_cnt_f (p := fun k => sp_where ((sg_in σ).2 k) t == some c) (n := i) (by simp [h6])]; omega) (by omega)))
        · refine nw_iconst C (nI 1) dX4_thereAt_42 (by decide) 43 rfl ?_
          refine nw_goto C 47 dX4_thereAt_43 (by decide) ?_
          refine nw_iaddN C dX4_thereAt_47 48 rfl ?_
          refine nw_istore_n C [(3, .int (nI (m + 1))), (0, .ref y), (1, .int (nI c)), (2, .int (nI t)), (4, .int (nI i))] dX4_thereAt_48 (by decide) rfl 49 rfl ?_
          refine nw_iincN C 4 (c0 := 1) [(4, .int (nI (i + 1))), (3, .int (nI (m + 1))), (0, .ref y), (1, .int (nI c)), (2, .int (nI t))] dX4_thereAt_49 rfl (by decide) rfl 52 rfl ?_
          refine nw_goto C 5 dX4_thereAt_52 (by decide) ?_
          exact (nw_sub [2, 3, 4, 1, 0] rfl (ih_lp1 (i + 1) (m + 1) (by omega) (by rw [sp_cnt_t (p := fun k => sp_where ((sg_in σ).2 k) t == some c) (n := i) (by simp [h6])]; omega) (by omega)))
  exact (nw_sub [2, 3, 4, 1, 0] rfl (lp1 _ 0 0 (Nat.zero_le _) rfl (Nat.lt_succ_self _)))
set_option maxHeartbeats 4000000 in
theorem mX4_wireNow (l : Launch) (hf : l.flags = flags0) (d : nwD) (ro am : Nat → Nat) (y : Nat) (σ : spSg) (th : Int32) (k q : Nat) (H : Heap) (hB : nd_B d ≤ H.size) (hW : nwMC d ro am y σ th H) (okM : spOkM σ) (hk : k < (sg_wi σ).1) (hq4 : q ≤ 4) : nwRd l d yX4_wireNow cX4_wireNow 9 (some .int) 5 108 [.ref y, .int (nI k), .int (nI q)] H (some (.int (sp_wireNow (sg_in σ) ((sg_wi σ).2 k) q))) := by
  refine nw_rd "NightwatchWallModel" "wireNow" hf (by decide +kernel) rfl rfl hB (Nat.le_of_ble_eq_true rfl) ?_
  intro X C
  obtain ⟨hmX, hmKi, hmLa, hmFo, hmGu, hmPo, hmIn, hmWi, hmWo, hmKe⟩ := id hW
  obtain ⟨okg, okl, okf, oku, okp, oki, okw, okd, okk, oka⟩ := id okM
  have hn64 : gr_n (sg_gr σ) ≤ 64 := okg.n
  have oku1 := oku.1
  have oki1 := oki.1
  have okp1 := okp.1
  have okw1 := okw.1
  have okl1 := okl.1
  have okf1 := okf.1
  have hE := C.E0
  show nwV X _ _ 9 H 0 0 0 [(0, .ref y), (1, .int (nI k)), (2, .int (nI q))] []
  have hwk := okw.2 k (by omega)
  refine nw_aload_n C 0 dX4_wireNow_0 rfl 1 rfl ?_
  refine nw_get C hmX (T := TX4) rfl in_X4 18 (by decide) q1640 (Or.inl rfl) rfl dX4_wireNow_1 4 rfl ?_
  refine nw_iload_n C 1 dX4_wireNow_4 rfl 5 rfl ?_
  refine nw_callF C (mJ3_get _ C.hfl d (am 6) ((sg_wi σ).1) (fun k => am (700 + k)) (fun q => ro q = 7007) k H hB hmWi.1 (by omega)) kJ3_get (ci := 13) rfl q1615 q1618 (by decide +kernel) fc_List_get (hmWi.1.is C) (As := [.int (nI k)]) (rest := []) rfl rfl ⟨⟨Nat.le_of_ble_eq_true rfl, Nat.le_of_ble_eq_true rfl⟩, Nat.le_of_ble_eq_true rfl, Nat.le_of_ble_eq_true rfl⟩ (Nat.le_of_ble_eq_true rfl) (fun _ h8 h9 => absurd h9 (Nat.not_le.mpr h8)) dX4_wireNow_5 10 rfl (nw_rdK ?_) nw_noX
  have hg1 : nwI d (am (700 + k)) 0 2 (fn2 (nI (((sg_wi σ).2 k).1)) (nI (((sg_wi σ).2 k).2))) H := hmWi.2 k (by omega)
  refine nw_castI C hg1 q1710 dX4_wireNow_10 13 rfl ?_
  refine nw_astore_n C [(3, .ref (am (700 + k))), (0, .ref y), (1, .int (nI k)), (2, .int (nI q))] dX4_wireNow_13 (by decide) rfl 14 rfl ?_
  refine nw_iload_n C 3 dX4_wireNow_14 rfl 15 rfl ?_
  refine nw_iconst C (nI 2) dX4_wireNow_15 (by decide) 16 rfl ?_
  refine nw_icmpgeN C (by omega) 23 dX4_wireNow_16 (by decide) 19 rfl (fun h2 => ?_) (fun h2 => ?_)
  · refine nw_iconst C (nI 0) dX4_wireNow_23 (by decide) 24 rfl ?_
    refine nw_istore C [(4, .int (nI 0)), (3, .ref (am (700 + k))), (0, .ref y), (1, .int (nI k)), (2, .int (nI q))] dX4_wireNow_24 (by decide) rfl 26 rfl ?_
    refine nw_iconst C (nI 0) dX4_wireNow_26 (by decide) 27 rfl ?_
    refine nw_istore C [(5, .int (nI 0)), (4, .int (nI 0)), (3, .ref (am (700 + k))), (0, .ref y), (1, .int (nI k)), (2, .int (nI q))] dX4_wireNow_27 (by decide) rfl 29 rfl ?_
    refine nw_iconst C (oI none) dX4_wireNow_29 (by decide) 30 rfl ?_
    refine nw_istore C [(6, .int (oI none)), (5, .int (nI 0)), (4, .int (nI 0)), (3, .ref (am (700 + k))), (0, .ref y), (1, .int (nI k)), (2, .int (nI q))] dX4_wireNow_30 (by decide) rfl 32 rfl ?_
    refine nw_iconst C (nI 0) dX4_wireNow_32 (by decide) 33 rfl ?_
    refine nw_istore C [(7, .int (nI 0)), (6, .int (oI none)), (5, .int (nI 0)), (4, .int (nI 0)), (3, .ref (am (700 + k))), (0, .ref y), (1, .int (nI k)), (2, .int (nI q))] dX4_wireNow_33 (by decide) rfl 35 rfl ?_
    have lp3 : ∀ (fu : Nat) (i : Nat) (m : Nat) (f : Nat) (o : Option Nat), (i ≤ 240) → (m = sp_cnt (sp_ring (sg_in σ) ((sg_wi σ).2 k)) i) → (f = sp_cnt (fun t => sp_ring (sg_in σ) ((sg_wi σ).2 k) t && decide (sp_there (sg_in σ) ((sg_wi σ).2 k).1 t = 0)) i) → (o = sp_fst (fun t => sp_ring (sg_in σ) ((sg_wi σ).2 k) t && decide (0 < sp_there (sg_in σ) ((sg_wi σ).2 k).1 t)) 0 i) → (∀ v, o = some v → v < i) → 240 - i < fu → nwV X (nwNew H) (nwQE X (fun v H1 => v = some (.int (sp_wireNow (sg_in σ) ((sg_wi σ).2 k) q)) ∧ H1 = H) nwNo (nwNew H) 0 0) 9 H 0 0 35 [(0, .ref y), (2, .int (nI q)), (3, .ref (am (700 + k))), (4, .int (nI m)), (5, .int (nI f)), (6, .int (oI o)), (7, .int (nI i))] [] := by
      intro fu
      induction fu with
      | zero => intro i m f o _ _ _ _ _ hm; exact absurd hm (Nat.not_lt_zero _)
      | succ fu ih_lp3 =>
        intro i m f o hi hmm hff ho hob hm
        refine nw_iload C 6 dX4_wireNow_35 rfl 37 rfl ?_
        refine nw_sipush C (nI 239) dX4_wireNow_37 (by decide) 40 rfl ?_
        refine nw_icmpgtN C (by omega) 127 dX4_wireNow_40 (by decide) 43 rfl (fun h4 => ?_) (fun h4 => ?_)
        · refine nw_iload_n C 1 dX4_wireNow_127 rfl 128 rfl ?_
          refine nw_iconst C (nI 2) dX4_wireNow_128 (by decide) 129 rfl ?_
          refine nw_icmpneN C (by omega) 137 dX4_wireNow_129 (by decide) 132 rfl (fun h5 => ?_) (fun h5 => ?_)
          · refine nw_iload_n C 1 dX4_wireNow_137 rfl 138 rfl ?_
            refine nw_iconst C (nI 3) dX4_wireNow_138 (by decide) 139 rfl ?_
            refine nw_icmpneN C (by omega) 147 dX4_wireNow_139 (by decide) 142 rfl (fun h6 => ?_) (fun h6 => ?_)
            · refine nw_iload C 5 dX4_wireNow_147 rfl 149 rfl ?_
              exact nw_iret C dX4_wireNow_149 (Nat.le_refl _) (Nat.le_refl _) ⟨congrArg (fun z => some (Value.int z)) (show (oI o) = (sp_wireNow (sg_in σ) ((sg_wi σ).2 k) q) from (by rw [show i = 240 by omega] at hmm hff ho; unfold sp_wireNow; rw [if_neg (by omega), if_neg (by omega), if_neg (by omega), if_neg (by omega), ho])), rfl⟩
            · refine nw_iload C 4 dX4_wireNow_142 rfl 144 rfl ?_
              refine nw_goto C 149 dX4_wireNow_144 (by decide) ?_
              exact nw_iret C dX4_wireNow_149 (Nat.le_refl _) (Nat.le_refl _) ⟨congrArg (fun z => some (Value.int z)) (show (nI f) = (sp_wireNow (sg_in σ) ((sg_wi σ).2 k) q) from (by rw [show i = 240 by omega] at hmm hff ho; unfold sp_wireNow; rw [if_neg (by omega), if_neg (by omega), if_neg (by omega), if_pos (by omega), hff])), rfl⟩
          · refine nw_iload C 3 dX4_wireNow_132 rfl 134 rfl ?_
            refine nw_goto C 149 dX4_wireNow_134 (by decide) ?_
            exact nw_iret C dX4_wireNow_149 (Nat.le_refl _) (Nat.le_refl _) ⟨congrArg (fun z => some (Value.int z)) (show (nI m) = (sp_wireNow (sg_in σ) ((sg_wi σ).2 k) q) from (by rw [show i = 240 by omega] at hmm hff ho; unfold sp_wireNow; rw [if_neg (by omega), if_neg (by omega), if_pos (by omega), hmm])), rfl⟩
        · refine nw_aload_n C 0 dX4_wireNow_43 rfl 44 rfl ?_
          refine nw_aload_n C 2 dX4_wireNow_44 rfl 45 rfl ?_
          refine nw_iconst C (nI 0) dX4_wireNow_45 (by decide) 46 rfl ?_
          refine nw_ialdN C (nI (((sg_wi σ).2 k).1)) hg1 (by omega) rfl dX4_wireNow_46 47 rfl ?_
          refine nw_iload C 6 dX4_wireNow_47 rfl 49 rfl ?_
          refine nw_callV C (mX4_thereAt _ C.hfl d ro am y σ th (((sg_wi σ).2 k).1) i H hB hW okM (by omega) (by omega)) kX4_thereAt q2016 (hmX.is C (ci := 9) rfl) (As := [.int (nI (((sg_wi σ).2 k).1)), .int (nI i)]) (rest := []) rfl rfl ⟨⟨Nat.le_of_ble_eq_true rfl, Nat.le_of_ble_eq_true rfl⟩, Nat.le_of_ble_eq_true rfl, Nat.le_of_ble_eq_true rfl⟩ (Nat.le_of_ble_eq_true rfl) (fun _ h8 h9 => absurd h9 (Nat.not_le.mpr h8)) dX4_wireNow_49 52 rfl (nw_rdK ?_) nw_noX
          have hth : sp_there (sg_in σ) ((sg_wi σ).2 k).1 i ≤ 4 := by have := sp_cnt_le (fun j => sp_where ((sg_in σ).2 j) i == some ((sg_wi σ).2 k).1) (sg_in σ).1; have h8 := oki.1; unfold sp_there; omega
          refine nw_istore C [(8, .int (nI (sp_there (sg_in σ) (((sg_wi σ).2 k).1) i))), (0, .ref y), (2, .int (nI q)), (3, .ref (am (700 + k))), (4, .int (nI m)), (5, .int (nI f)), (6, .int (oI o)), (7, .int (nI i))] dX4_wireNow_52 (by decide) rfl 54 rfl ?_
          refine nw_bipush C (nI 29) dX4_wireNow_54 (by decide) 56 rfl ?_
          refine nw_iload C 7 dX4_wireNow_56 rfl 58 rfl ?_
          refine nw_imulN C dX4_wireNow_58 59 rfl ?_
          refine nw_bipush C (nI 7) dX4_wireNow_59 (by decide) 61 rfl ?_
          refine nw_aload_n C 3 dX4_wireNow_61 rfl 62 rfl ?_
          refine nw_iconst C (nI 0) dX4_wireNow_62 (by decide) 63 rfl ?_
          refine nw_ialdN C (nI (((sg_wi σ).2 k).1)) hg1 (by omega) rfl dX4_wireNow_63 64 rfl ?_
          refine nw_imulN C dX4_wireNow_64 65 rfl ?_
          refine nw_iaddN C dX4_wireNow_65 66 rfl ?_
          refine nw_bipush C (nI 11) dX4_wireNow_66 (by decide) 68 rfl ?_
          refine nw_iremN C (by omega) dX4_wireNow_68 69 rfl ?_
          refine nw_iconst C (nI 5) dX4_wireNow_69 (by decide) 70 rfl ?_
          refine nw_iload C 0 dX4_wireNow_70 rfl 72 rfl ?_
          refine nw_imulN C dX4_wireNow_72 73 rfl ?_
          refine nw_iaddN C dX4_wireNow_73 74 rfl ?_
          refine nw_aload_n C 3 dX4_wireNow_74 rfl 75 rfl ?_
          refine nw_iconst C (nI 1) dX4_wireNow_75 (by decide) 76 rfl ?_
          refine nw_ialdN C (nI (((sg_wi σ).2 k).2)) hg1 (by omega) rfl dX4_wireNow_76 77 rfl ?_
          refine nw_icmpgeN C (by omega) 83 dX4_wireNow_77 (by decide) 80 rfl (fun h7 => ?_) (fun h7 => ?_)
          · refine nw_iincN C 4 (c0 := 1) [(4, .int (nI (m + 1))), (8, .int (nI (sp_there (sg_in σ) (((sg_wi σ).2 k).1) i))), (0, .ref y), (2, .int (nI q)), (3, .ref (am (700 + k))), (5, .int (nI f)), (6, .int (oI o)), (7, .int (nI i))] dX4_wireNow_83 rfl (by decide) rfl 86 rfl ?_
            refine nw_iload C 5 dX4_wireNow_86 rfl 88 rfl ?_
            refine nw_iload C 1 dX4_wireNow_88 rfl 90 rfl ?_
            refine nw_ifneN C (by omega) 97 dX4_wireNow_90 (by decide) 93 rfl (fun h8 => ?_) (fun h8 => ?_)
            · refine nw_iconst C (nI 0) dX4_wireNow_97 (by decide) 98 rfl ?_
              refine nw_iaddN C dX4_wireNow_98 99 rfl ?_
              refine nw_istore C [(5, .int (nI (f + 0))), (4, .int (nI (m + 1))), (8, .int (nI (sp_there (sg_in σ) (((sg_wi σ).2 k).1) i))), (0, .ref y), (2, .int (nI q)), (3, .ref (am (700 + k))), (6, .int (oI o)), (7, .int (nI i))] dX4_wireNow_99 (by decide) rfl 101 rfl ?_
              refine nw_iload C 2 dX4_wireNow_101 rfl 103 rfl ?_
              refine nw_ifleN C (by omega) 117 dX4_wireNow_103 (by decide) 106 rfl (fun h9 => ?_) (fun h9 => ?_)
              · refine nw_iload C 6 dX4_wireNow_117 rfl 119 rfl ?_
                refine nw_istore C [(6, .int (oI o)), (5, .int (nI (f + 0))), (4, .int (nI (m + 1))), (8, .int (nI (sp_there (sg_in σ) (((sg_wi σ).2 k).1) i))), (0, .ref y), (2, .int (nI q)), (3, .ref (am (700 + k))), (7, .int (nI i))] dX4_wireNow_119 (by decide) rfl 121 rfl ?_
                refine nw_iincN C 7 (c0 := 1) [(7, .int (nI (i + 1))), (6, .int (oI o)), (5, .int (nI (f + 0))), (4, .int (nI (m + 1))), (8, .int (nI (sp_there (sg_in σ) (((sg_wi σ).2 k).1) i))), (0, .ref y), (2, .int (nI q)), (3, .ref (am (700 + k)))] dX4_wireNow_121 rfl (by decide) rfl 124 rfl ?_
                refine nw_goto C 35 dX4_wireNow_124 (by decide) ?_
                have hr : sp_ring (sg_in σ) ((sg_wi σ).2 k) i = true := by unfold sp_ring; simp; unfold sp_noise; omega
                exact (nw_sub [5, 6, 7, 3, 2, 1, 0] rfl (ih_lp3 (i + 1) (m + 1) f o (by omega) (by rw [sp_cnt_t (p := sp_ring (sg_in σ) ((sg_wi σ).2 k)) (n := i) hr]; omega) (by rw [sp_cnt_f (p := (fun t => sp_ring (sg_in σ) ((sg_wi σ).2 k) t && decide (sp_there (sg_in σ) ((sg_wi σ).2 k).1 t = 0))) (n := i) (by simp [hr, h8, h9]; try omega)]; omega) (sp_fst_keep ho (Or.inl (by simp [hr, h8, h9]; try omega))) (fun v hv => Nat.lt_succ_of_lt (hob v hv)) (by omega)))
              · refine nw_iload C 6 dX4_wireNow_106 rfl 108 rfl ?_
                refine nw_iconst C (oI none) dX4_wireNow_108 (by decide) 109 rfl ?_
                refine nw_icmpneO C o none (fun v hv => by have := hob v hv; omega) (fun v hv => by cases hv) 117 dX4_wireNow_109 (by decide) 112 rfl (fun h10 => ?_) (fun h10 => ?_)
                · refine nw_iload C 6 dX4_wireNow_117 rfl 119 rfl ?_
                  refine nw_istore C [(6, .int (oI o)), (5, .int (nI (f + 0))), (4, .int (nI (m + 1))), (8, .int (nI (sp_there (sg_in σ) (((sg_wi σ).2 k).1) i))), (0, .ref y), (2, .int (nI q)), (3, .ref (am (700 + k))), (7, .int (nI i))] dX4_wireNow_119 (by decide) rfl 121 rfl ?_
                  refine nw_iincN C 7 (c0 := 1) [(7, .int (nI (i + 1))), (6, .int (oI o)), (5, .int (nI (f + 0))), (4, .int (nI (m + 1))), (8, .int (nI (sp_there (sg_in σ) (((sg_wi σ).2 k).1) i))), (0, .ref y), (2, .int (nI q)), (3, .ref (am (700 + k)))] dX4_wireNow_121 rfl (by decide) rfl 124 rfl ?_
                  refine nw_goto C 35 dX4_wireNow_124 (by decide) ?_
                  have hr : sp_ring (sg_in σ) ((sg_wi σ).2 k) i = true := by unfold sp_ring; simp; unfold sp_noise; omega
                  exact (nw_sub [5, 6, 7, 3, 2, 1, 0] rfl (ih_lp3 (i + 1) (m + 1) f o (by omega) (by rw [sp_cnt_t (p := sp_ring (sg_in σ) ((sg_wi σ).2 k)) (n := i) hr]; omega) (by rw [sp_cnt_f (p := (fun t => sp_ring (sg_in σ) ((sg_wi σ).2 k) t && decide (sp_there (sg_in σ) ((sg_wi σ).2 k).1 t = 0))) (n := i) (by simp [hr, h8, h9, h10]; try omega)]; omega) (sp_fst_keep ho (Or.inr h10)) (fun v hv => Nat.lt_succ_of_lt (hob v hv)) (by omega)))
                · refine nw_iload C 7 dX4_wireNow_112 rfl 114 rfl ?_
                  refine nw_goto C 119 dX4_wireNow_114 (by decide) ?_
                  refine nw_istore C [(6, .int (nI i)), (5, .int (nI (f + 0))), (4, .int (nI (m + 1))), (8, .int (nI (sp_there (sg_in σ) (((sg_wi σ).2 k).1) i))), (0, .ref y), (2, .int (nI q)), (3, .ref (am (700 + k))), (7, .int (nI i))] dX4_wireNow_119 (by decide) rfl 121 rfl ?_
                  refine nw_iincN C 7 (c0 := 1) [(7, .int (nI (i + 1))), (6, .int (nI i)), (5, .int (nI (f + 0))), (4, .int (nI (m + 1))), (8, .int (nI (sp_there (sg_in σ) (((sg_wi σ).2 k).1) i))), (0, .ref y), (2, .int (nI q)), (3, .ref (am (700 + k)))] dX4_wireNow_121 rfl (by decide) rfl 124 rfl ?_
                  refine nw_goto C 35 dX4_wireNow_124 (by decide) ?_
                  have hr : sp_ring (sg_in σ) ((sg_wi σ).2 k) i = true := by unfold sp_ring; simp; unfold sp_noise; omega
                  exact (nw_sub [5, 6, 7, 3, 2, 1, 0] rfl (ih_lp3 (i + 1) (m + 1) f (some i) (by omega) (by rw [sp_cnt_t (p := sp_ring (sg_in σ) ((sg_wi σ).2 k)) (n := i) hr]; omega) (by rw [sp_cnt_f (p := (fun t => sp_ring (sg_in σ) ((sg_wi σ).2 k) t && decide (sp_there (sg_in σ) ((sg_wi σ).2 k).1 t = 0))) (n := i) (by simp [hr, h8, h9, h10]; try omega)]; omega) (sp_fst_hit ho h10 (by simp [hr, h8, h9, h10]; try omega)) (fun v hv => by cases hv; omega) (by omega)))
            · refine nw_iconst C (nI 1) dX4_wireNow_93 (by decide) 94 rfl ?_
              refine nw_goto C 98 dX4_wireNow_94 (by decide) ?_
              refine nw_iaddN C dX4_wireNow_98 99 rfl ?_
              refine nw_istore C [(5, .int (nI (f + 1))), (4, .int (nI (m + 1))), (8, .int (nI (sp_there (sg_in σ) (((sg_wi σ).2 k).1) i))), (0, .ref y), (2, .int (nI q)), (3, .ref (am (700 + k))), (6, .int (oI o)), (7, .int (nI i))] dX4_wireNow_99 (by decide) rfl 101 rfl ?_
              refine nw_iload C 2 dX4_wireNow_101 rfl 103 rfl ?_
              refine nw_ifleN C (by omega) 117 dX4_wireNow_103 (by decide) 106 rfl (fun h11 => ?_) (fun h11 => ?_)
              · refine nw_iload C 6 dX4_wireNow_117 rfl 119 rfl ?_
                refine nw_istore C [(6, .int (oI o)), (5, .int (nI (f + 1))), (4, .int (nI (m + 1))), (8, .int (nI (sp_there (sg_in σ) (((sg_wi σ).2 k).1) i))), (0, .ref y), (2, .int (nI q)), (3, .ref (am (700 + k))), (7, .int (nI i))] dX4_wireNow_119 (by decide) rfl 121 rfl ?_
                refine nw_iincN C 7 (c0 := 1) [(7, .int (nI (i + 1))), (6, .int (oI o)), (5, .int (nI (f + 1))), (4, .int (nI (m + 1))), (8, .int (nI (sp_there (sg_in σ) (((sg_wi σ).2 k).1) i))), (0, .ref y), (2, .int (nI q)), (3, .ref (am (700 + k)))] dX4_wireNow_121 rfl (by decide) rfl 124 rfl ?_
                refine nw_goto C 35 dX4_wireNow_124 (by decide) ?_
                have hr : sp_ring (sg_in σ) ((sg_wi σ).2 k) i = true := by unfold sp_ring; simp; unfold sp_noise; omega
                exact (nw_sub [5, 6, 7, 3, 2, 1, 0] rfl (ih_lp3 (i + 1) (m + 1) (f + 1) o (by omega) (by rw [sp_cnt_t (p := sp_ring (sg_in σ) ((sg_wi σ).2 k)) (n := i) hr]; omega) (by rw [sp_cnt_t (p := (fun t => sp_ring (sg_in σ) ((sg_wi σ).2 k) t && decide (sp_there (sg_in σ) ((sg_wi σ).2 k).1 t = 0))) (n := i) (by simp [hr, h8, h11]; try omega)]; omega) (sp_fst_keep ho (Or.inl (by simp [hr, h8, h11]; try omega))) (fun v hv => Nat.lt_succ_of_lt (hob v hv)) (by omega)))
              · refine nw_iload C 6 dX4_wireNow_106 rfl 108 rfl ?_
                refine nw_iconst C (oI none) dX4_wireNow_108 (by decide) 109 rfl ?_
                refine nw_icmpneO C o none (fun v hv => by have := hob v hv; omega) (fun v hv => by cases hv) 117 dX4_wireNow_109 (by decide) 112 rfl (fun h12 => ?_) (fun h12 => ?_)
                · refine nw_iload C 6 dX4_wireNow_117 rfl 119 rfl ?_
                  refine nw_istore C [(6, .int (oI o)), (5, .int (nI (f + 1))), (4, .int (nI (m + 1))), (8, .int (nI (sp_there (sg_in σ) (((sg_wi σ).2 k).1) i))), (0, .ref y), (2, .int (nI q)), (3, .ref (am (700 + k))), (7, .int (nI i))] dX4_wireNow_119 (by decide) rfl 121 rfl ?_
                  refine nw_iincN C 7 (c0 := 1) [(7, .int (nI (i + 1))), (6, .int (oI o)), (5, .int (nI (f + 1))), (4, .int (nI (m + 1))), (8, .int (nI (sp_there (sg_in σ) (((sg_wi σ).2 k).1) i))), (0, .ref y), (2, .int (nI q)), (3, .ref (am (700 + k)))] dX4_wireNow_121 rfl (by decide) rfl 124 rfl ?_
                  refine nw_goto C 35 dX4_wireNow_124 (by decide) ?_
                  have hr : sp_ring (sg_in σ) ((sg_wi σ).2 k) i = true := by unfold sp_ring; simp; unfold sp_noise; omega
                  exact (nw_sub [5, 6, 7, 3, 2, 1, 0] rfl (ih_lp3 (i + 1) (m + 1) (f + 1) o (by omega) (by rw [sp_cnt_t (p := sp_ring (sg_in σ) ((sg_wi σ).2 k)) (n := i) hr]; omega) (by rw [sp_cnt_t (p := (fun t => sp_ring (sg_in σ) ((sg_wi σ).2 k) t && decide (sp_there (sg_in σ) ((sg_wi σ).2 k).1 t = 0))) (n := i) (by simp [hr, h8, h11, h12]; try omega)]; omega) (sp_fst_keep ho (Or.inr h12)) (fun v hv => Nat.lt_succ_of_lt (hob v hv)) (by omega)))
                · refine nw_iload C 7 dX4_wireNow_112 rfl 114 rfl ?_
                  refine nw_goto C 119 dX4_wireNow_114 (by decide) ?_
                  refine nw_istore C [(6, .int (nI i)), (5, .int (nI (f + 1))), (4, .int (nI (m + 1))), (8, .int (nI (sp_there (sg_in σ) (((sg_wi σ).2 k).1) i))), (0, .ref y), (2, .int (nI q)), (3, .ref (am (700 + k))), (7, .int (nI i))] dX4_wireNow_119 (by decide) rfl 121 rfl ?_
                  refine nw_iincN C 7 (c0 := 1) [(7, .int (nI (i + 1))), (6, .int (nI i)), (5, .int (nI (f + 1))), (4, .int (nI (m + 1))), (8, .int (nI (sp_there (sg_in σ) (((sg_wi σ).2 k).1) i))), (0, .ref y), (2, .int (nI q)), (3, .ref (am (700 + k)))] dX4_wireNow_121 rfl (by decide) rfl 124 rfl ?_
                  refine nw_goto C 35 dX4_wireNow_124 (by decide) ?_
                  have hr : sp_ring (sg_in σ) ((sg_wi σ).2 k) i = true := by unfold sp_ring; simp; unfold sp_noise; omega
                  exact (nw_sub [5, 6, 7, 3, 2, 1, 0] rfl (ih_lp3 (i + 1) (m + 1) (f + 1) (some i) (by omega) (by rw [sp_cnt_t (p := sp_ring (sg_in σ) ((sg_wi σ).2 k)) (n := i) hr]; omega) (by rw [sp_cnt_t (p := (fun t => sp_ring (sg_in σ) ((sg_wi σ).2 k) t && decide (sp_there (sg_in σ) ((sg_wi σ).2 k).1 t = 0))) (n := i) (by simp [hr, h8, h11, h12]; try omega)]; omega) (sp_fst_hit ho h12 (by simp [hr, h8, h11, h12]; try omega)) (fun v hv => by cases hv; omega) (by omega)))
          · refine nw_goto C 121 dX4_wireNow_80 (by decide) ?_
            refine nw_iincN C 7 (c0 := 1) [(7, .int (nI (i + 1))), (8, .int (nI (sp_there (sg_in σ) (((sg_wi σ).2 k).1) i))), (0, .ref y), (2, .int (nI q)), (3, .ref (am (700 + k))), (4, .int (nI m)), (5, .int (nI f)), (6, .int (oI o))] dX4_wireNow_121 rfl (by decide) rfl 124 rfl ?_
            refine nw_goto C 35 dX4_wireNow_124 (by decide) ?_
            have hr : sp_ring (sg_in σ) ((sg_wi σ).2 k) i = false := by unfold sp_ring; simp; unfold sp_noise; omega
            exact (nw_sub [2, 3, 4, 5, 6, 7, 0] rfl (ih_lp3 (i + 1) m f o (by omega) (by rw [sp_cnt_f (p := sp_ring (sg_in σ) ((sg_wi σ).2 k)) (n := i) hr]; omega) (by rw [sp_cnt_f (p := (fun t => sp_ring (sg_in σ) ((sg_wi σ).2 k) t && decide (sp_there (sg_in σ) ((sg_wi σ).2 k).1 t = 0))) (n := i) (by simp [hr]; try omega)]; omega) (sp_fst_keep ho (Or.inl (by simp [hr]))) (fun v hv => Nat.lt_succ_of_lt (hob v hv)) (by omega)))
    exact (nw_sub [5, 7, 4, 3, 2, 1, 0] rfl (lp3 _ 0 0 0 none (Nat.zero_le _) rfl rfl rfl (fun v hv => by cases hv) (Nat.lt_succ_self _)))
  · refine nw_aload_n C 0 dX4_wireNow_19 rfl 20 rfl ?_
    refine nw_iload_n C 3 dX4_wireNow_20 rfl 21 rfl ?_
    rcases (show q = 0 ∨ q = 1 by omega) with rfl | rfl
    · refine nw_ialdN C (nI (((sg_wi σ).2 k).1)) hg1 (by omega) rfl dX4_wireNow_21 22 rfl ?_
      exact nw_iret C dX4_wireNow_22 (Nat.le_refl _) (Nat.le_refl _) ⟨rfl, rfl⟩
    · refine nw_ialdN C (nI (((sg_wi σ).2 k).2)) hg1 (by omega) rfl dX4_wireNow_21 22 rfl ?_
      exact nw_iret C dX4_wireNow_22 (Nat.le_refl _) (Nat.le_refl _) ⟨rfl, rfl⟩
set_option maxHeartbeats 4000000 in
theorem mX4_isUnseen (l : Launch) (hf : l.flags = flags0) (d : nwD) (ro am : Nat → Nat) (y : Nat) (σ : spSg) (th : Int32) (c t : Nat) (H : Heap) (hB : nd_B d ≤ H.size) (hW : nwMC d ro am y σ th H) (okM : spOkM σ) (hc : c < gr_n (sg_gr σ)) (ht : t < 240) : nwRd l d yX4_isUnseen cX4_isUnseen 3 (some .boolean) 7 157 [.ref y, .int (nI c), .int (nI t)] H (some (.int (b2i (sp_hidden σ c t)))) := by
  refine nw_rd "NightwatchWallModel" "isUnseen" hf (by decide +kernel) rfl rfl hB (Nat.le_of_ble_eq_true rfl) ?_
  intro X C
  obtain ⟨hmX, hmKi, hmLa, hmFo, hmGu, hmPo, hmIn, hmWi, hmWo, hmKe⟩ := id hW
  obtain ⟨okg, okl, okf, oku, okp, oki, okw, okd, okk, oka⟩ := id okM
  have hn64 : gr_n (sg_gr σ) ≤ 64 := okg.n
  have oku1 := oku.1
  have oki1 := oki.1
  have okp1 := okp.1
  have okw1 := okw.1
  have okl1 := okl.1
  have okf1 := okf.1
  have hE := C.E0
  show nwV X _ _ 3 H 0 0 0 [(0, .ref y), (1, .int (nI c)), (2, .int (nI t))] []
  refine nw_aload_n C 0 dX4_isUnseen_0 rfl 1 rfl ?_
  refine nw_iload_n C 1 dX4_isUnseen_1 rfl 2 rfl ?_
  refine nw_iload_n C 2 dX4_isUnseen_2 rfl 3 rfl ?_
  refine nw_callV C (mX4_isWalked _ C.hfl d ro am y σ th c t H hB hW okM (by omega) (by omega)) kX4_isWalked q1872 (hmX.is C (ci := 9) rfl) (As := [.int (nI c), .int (nI t)]) (rest := []) rfl rfl ⟨⟨Nat.le_of_ble_eq_true rfl, Nat.le_of_ble_eq_true rfl⟩, Nat.le_of_ble_eq_true rfl, Nat.le_of_ble_eq_true rfl⟩ (Nat.le_of_ble_eq_true rfl) (fun _ h8 h9 => absurd h9 (Nat.not_le.mpr h8)) dX4_isUnseen_3 6 rfl (nw_rdK ?_) nw_noX
  refine nw_ifeqB C 22 dX4_isUnseen_6 (by decide) 9 rfl (fun h1 => ?_) (fun h1 => ?_)
  · refine nw_iconst C (nI 0) dX4_isUnseen_22 (by decide) 23 rfl ?_
    exact nw_nret C dX4_isUnseen_23 (b2i_narrow false) (Nat.le_refl _) (Nat.le_refl _) ⟨congrArg (fun z => some (Value.int (b2i z))) (show (false) = (sp_hidden σ c t) from (by unfold sp_hidden; simp [h1])), rfl⟩
  · refine nw_aload_n C 0 dX4_isUnseen_9 rfl 10 rfl ?_
    refine nw_iload_n C 1 dX4_isUnseen_10 rfl 11 rfl ?_
    refine nw_iload_n C 2 dX4_isUnseen_11 rfl 12 rfl ?_
    refine nw_callV C (mX4_isWatched _ C.hfl d ro am y σ th c t H hB hW okM (by omega) (by omega)) kX4_isWatched q1840 (hmX.is C (ci := 9) rfl) (As := [.int (nI c), .int (nI t)]) (rest := []) rfl rfl ⟨⟨Nat.le_of_ble_eq_true rfl, Nat.le_of_ble_eq_true rfl⟩, Nat.le_of_ble_eq_true rfl, Nat.le_of_ble_eq_true rfl⟩ (Nat.le_of_ble_eq_true rfl) (fun _ h8 h9 => absurd h9 (Nat.not_le.mpr h8)) dX4_isUnseen_12 15 rfl (nw_rdK ?_) nw_noX
    refine nw_ifneB C 22 dX4_isUnseen_15 (by decide) 18 rfl (fun h2 => ?_) (fun h2 => ?_)
    · refine nw_iconst C (nI 0) dX4_isUnseen_22 (by decide) 23 rfl ?_
      exact nw_nret C dX4_isUnseen_23 (b2i_narrow false) (Nat.le_refl _) (Nat.le_refl _) ⟨congrArg (fun z => some (Value.int (b2i z))) (show (false) = (sp_hidden σ c t) from (by unfold sp_hidden; simp [h1, h2])), rfl⟩
    · refine nw_iconst C (nI 1) dX4_isUnseen_18 (by decide) 19 rfl ?_
      refine nw_goto C 23 dX4_isUnseen_19 (by decide) ?_
      exact nw_nret C dX4_isUnseen_23 (b2i_narrow true) (Nat.le_refl _) (Nat.le_refl _) ⟨congrArg (fun z => some (Value.int (b2i z))) (show (true) = (sp_hidden σ c t) from (by unfold sp_hidden; simp [h1, h2])), rfl⟩
set_option maxHeartbeats 4000000 in
theorem mX4_isTaken (l : Launch) (hf : l.flags = flags0) (d : nwD) (ro am : Nat → Nat) (y : Nat) (σ : spSg) (th : Int32) (c : Nat) (H : Heap) (hB : nd_B d ≤ H.size) (hW : nwMC d ro am y σ th H) (okM : spOkM σ) (hc : c < 2 ^ 31) : nwRd l d yX4_isTaken cX4_isTaken 4 (some .boolean) 4 84 [.ref y, .int (nI c)] H (some (.int (b2i (sp_taken σ c)))) := by
  refine nw_rd "NightwatchWallModel" "isTaken" hf (by decide +kernel) rfl rfl hB (Nat.le_of_ble_eq_true rfl) ?_
  intro X C
  obtain ⟨hmX, hmKi, hmLa, hmFo, hmGu, hmPo, hmIn, hmWi, hmWo, hmKe⟩ := id hW
  obtain ⟨okg, okl, okf, oku, okp, oki, okw, okd, okk, oka⟩ := id okM
  have hn64 : gr_n (sg_gr σ) ≤ 64 := okg.n
  have oku1 := oku.1
  have oki1 := oki.1
  have okp1 := okp.1
  have okw1 := okw.1
  have okl1 := okl.1
  have okf1 := okf.1
  have hE := C.E0
  show nwV X _ _ 4 H 0 0 0 [(0, .ref y), (1, .int (nI c))] []
  refine nw_iconst C (nI 0) dX4_isTaken_0 (by decide) 1 rfl ?_
  refine nw_istore_n C [(2, .int (nI 0)), (0, .ref y), (1, .int (nI c))] dX4_isTaken_1 (by decide) rfl 2 rfl ?_
  have lp1 : ∀ (fu : Nat) (ia : Nat), (ia ≤ (sg_la σ).1) → (∀ k, k < ia → (fun k => ((sg_la σ).2 k).1 == c) k = false) → (sg_la σ).1 - ia < fu → nwV X (nwNew H) (nwQE X (fun v H1 => v = some (.int (b2i (sp_taken σ c))) ∧ H1 = H) nwNo (nwNew H) 0 0) 4 H 0 0 2 [(0, .ref y), (1, .int (nI c)), (2, .int (nI ia))] [] := by
    intro fu
    induction fu with
    | zero => intro ia _ _ hm; exact absurd hm (Nat.not_lt_zero _)
    | succ fu ih_lp1 =>
      intro ia h1a hnoa hm
      refine nw_iload_n C 2 dX4_isTaken_2 rfl 3 rfl ?_
      refine nw_aload_n C 0 dX4_isTaken_3 rfl 4 rfl ?_
      refine nw_get C hmX (T := TX4) rfl in_X4 6 (by decide) q1628 (Or.inl rfl) rfl dX4_isTaken_4 7 rfl ?_
      refine nw_callF C (mJ3_size _ C.hfl d (am 1) ((sg_la σ).1) (fun k => am (100 + k)) (fun q => ro q = 7002) H hB hmLa.1) kJ3_size (ci := 13) rfl q1607 q1611 (by decide +kernel) fc_List_size (hmLa.1.is C) (As := []) (rest := [.int (nI ia)]) rfl rfl ⟨⟨Nat.le_of_ble_eq_true rfl, Nat.le_of_ble_eq_true rfl⟩, Nat.le_of_ble_eq_true rfl, Nat.le_of_ble_eq_true rfl⟩ (Nat.le_of_ble_eq_true rfl) (fun _ h8 h9 => absurd h9 (Nat.not_le.mpr h8)) dX4_isTaken_7 12 rfl (nw_rdK ?_) nw_noX
      refine nw_icmpgeN C (by omega) 42 dX4_isTaken_12 (by decide) 15 rfl (fun h7 => ?_) (fun h7 => ?_)
      · have hfa := sp_any_false.mpr (fun k hk => hnoa k (show k < ia by omega))
        rw [show ia = (sg_la σ).1 by omega] at hfa
        refine nw_iconst C (nI 0) dX4_isTaken_42 (by decide) 43 rfl ?_
        refine nw_istore_n C [(2, .int (nI 0)), (0, .ref y), (1, .int (nI c))] dX4_isTaken_43 (by decide) rfl 44 rfl ?_
        have lp2 : ∀ (fu : Nat) (ib : Nat), (ib ≤ (sg_po σ).1) → (∀ k, k < ib → (fun k => (sg_po σ).2 k == c) k = false) → (sg_po σ).1 - ib < fu → nwV X (nwNew H) (nwQE X (fun v H1 => v = some (.int (b2i (sp_taken σ c))) ∧ H1 = H) nwNo (nwNew H) 0 0) 4 H 0 0 44 [(0, .ref y), (1, .int (nI c)), (2, .int (nI ib))] [] := by
          intro fu
          induction fu with
          | zero => intro ib _ _ hm; exact absurd hm (Nat.not_lt_zero _)
          | succ fu ih_lp2 =>
            intro ib h1b hnob hm
            refine nw_iload_n C 2 dX4_isTaken_44 rfl 45 rfl ?_
            refine nw_aload_n C 0 dX4_isTaken_45 rfl 46 rfl ?_
            refine nw_get C hmX (T := TX4) rfl in_X4 9 (by decide) q1631 (Or.inl rfl) rfl dX4_isTaken_46 49 rfl ?_
            refine nw_callF C (mJ3_size _ C.hfl d (am 4) ((sg_po σ).1) (fun k => nd_bx d ((sg_po σ).2 k)) (fun q => ro q = 7005) H hB hmPo) kJ3_size (ci := 13) rfl q1607 q1611 (by decide +kernel) fc_List_size (hmPo.is C) (As := []) (rest := [.int (nI ib)]) rfl rfl ⟨⟨Nat.le_of_ble_eq_true rfl, Nat.le_of_ble_eq_true rfl⟩, Nat.le_of_ble_eq_true rfl, Nat.le_of_ble_eq_true rfl⟩ (Nat.le_of_ble_eq_true rfl) (fun _ h8 h9 => absurd h9 (Nat.not_le.mpr h8)) dX4_isTaken_49 54 rfl (nw_rdK ?_) nw_noX
            refine nw_icmpgeN C (by omega) 85 dX4_isTaken_54 (by decide) 57 rfl (fun h8 => ?_) (fun h8 => ?_)
            · have hfb := sp_any_false.mpr (fun k hk => hnob k (show k < ib by omega))
              rw [show ib = (sg_po σ).1 by omega] at hfb
              refine nw_iconst C (nI 0) dX4_isTaken_85 (by decide) 86 rfl ?_
              refine nw_istore_n C [(2, .int (nI 0)), (0, .ref y), (1, .int (nI c))] dX4_isTaken_86 (by decide) rfl 87 rfl ?_
              have lp3 : ∀ (fu : Nat) (ic : Nat), (ic ≤ (sg_gu σ).1) → (∀ k, k < ic → (fun k => sp_any (fun j => gd_c ((sg_gu σ).2 k) j == c) (gd_m ((sg_gu σ).2 k))) k = false) → (sg_gu σ).1 - ic < fu → nwV X (nwNew H) (nwQE X (fun v H1 => v = some (.int (b2i (sp_taken σ c))) ∧ H1 = H) nwNo (nwNew H) 0 0) 4 H 0 0 87 [(0, .ref y), (1, .int (nI c)), (2, .int (nI ic))] [] := by
                intro fu
                induction fu with
                | zero => intro ic _ _ hm; exact absurd hm (Nat.not_lt_zero _)
                | succ fu ih_lp3 =>
                  intro ic h1c hnoc hm
                  refine nw_iload_n C 2 dX4_isTaken_87 rfl 88 rfl ?_
                  refine nw_aload_n C 0 dX4_isTaken_88 rfl 89 rfl ?_
                  refine nw_get C hmX (T := TX4) rfl in_X4 8 (by decide) q1630 (Or.inl rfl) rfl dX4_isTaken_89 92 rfl ?_
                  refine nw_callF C (mJ3_size _ C.hfl d (am 3) ((sg_gu σ).1) (fun k => am (300 + k)) (fun q => ro q = 7004) H hB hmGu.1) kJ3_size (ci := 13) rfl q1607 q1611 (by decide +kernel) fc_List_size (hmGu.1.is C) (As := []) (rest := [.int (nI ic)]) rfl rfl ⟨⟨Nat.le_of_ble_eq_true rfl, Nat.le_of_ble_eq_true rfl⟩, Nat.le_of_ble_eq_true rfl, Nat.le_of_ble_eq_true rfl⟩ (Nat.le_of_ble_eq_true rfl) (fun _ h8 h9 => absurd h9 (Nat.not_le.mpr h8)) dX4_isTaken_92 97 rfl (nw_rdK ?_) nw_noX
                  refine nw_icmpgeN C (by omega) 173 dX4_isTaken_97 (by decide) 100 rfl (fun h9 => ?_) (fun h9 => ?_)
                  · have hfc := sp_any_false.mpr (fun k hk => hnoc k (show k < ic by omega))
                    rw [show ic = (sg_gu σ).1 by omega] at hfc
                    refine nw_iconst C (nI 0) dX4_isTaken_173 (by decide) 174 rfl ?_
                    refine nw_istore_n C [(2, .int (nI 0)), (0, .ref y), (1, .int (nI c))] dX4_isTaken_174 (by decide) rfl 175 rfl ?_
                    have lp4 : ∀ (fu : Nat) (ie : Nat), (ie ≤ (sg_in σ).1) → (∀ k, k < ie → (fun k => sp_walks ((sg_in σ).2 k) c) k = false) → (sg_in σ).1 - ie < fu → nwV X (nwNew H) (nwQE X (fun v H1 => v = some (.int (b2i (sp_taken σ c))) ∧ H1 = H) nwNo (nwNew H) 0 0) 4 H 0 0 175 [(0, .ref y), (1, .int (nI c)), (2, .int (nI ie))] [] := by
                      intro fu
                      induction fu with
                      | zero => intro ie _ _ hm; exact absurd hm (Nat.not_lt_zero _)
                      | succ fu ih_lp4 =>
                        intro ie h1d hnod hm
                        refine nw_iload_n C 2 dX4_isTaken_175 rfl 176 rfl ?_
                        refine nw_aload_n C 0 dX4_isTaken_176 rfl 177 rfl ?_
                        refine nw_get C hmX (T := TX4) rfl in_X4 17 (by decide) q1639 (Or.inl rfl) rfl dX4_isTaken_177 180 rfl ?_
                        refine nw_callF C (mJ3_size _ C.hfl d (am 5) ((sg_in σ).1) (fun k => am (500 + k)) (fun q => ro q = 7006) H hB hmIn.1) kJ3_size (ci := 13) rfl q1607 q1611 (by decide +kernel) fc_List_size (hmIn.1.is C) (As := []) (rest := [.int (nI ie)]) rfl rfl ⟨⟨Nat.le_of_ble_eq_true rfl, Nat.le_of_ble_eq_true rfl⟩, Nat.le_of_ble_eq_true rfl, Nat.le_of_ble_eq_true rfl⟩ (Nat.le_of_ble_eq_true rfl) (fun _ h8 h9 => absurd h9 (Nat.not_le.mpr h8)) dX4_isTaken_180 185 rfl (nw_rdK ?_) nw_noX
                        refine nw_icmpgeN C (by omega) 232 dX4_isTaken_185 (by decide) 188 rfl (fun h10 => ?_) (fun h10 => ?_)
                        · have hfd := sp_any_false.mpr (fun k hk => hnod k (show k < ie by omega))
                          rw [show ie = (sg_in σ).1 by omega] at hfd
                          refine nw_iconst C (nI 0) dX4_isTaken_232 (by decide) 233 rfl ?_
                          exact nw_nret C dX4_isTaken_233 (b2i_narrow false) (Nat.le_refl _) (Nat.le_refl _) ⟨congrArg (fun z => some (Value.int (b2i z))) (show (false) = (sp_taken σ c) from (by unfold sp_taken; rw [hfa, hfb, hfc, hfd]; rfl)), rfl⟩
                        · have hik9 := oki.2 ie (by omega)
                          refine nw_iconst C (nI 0) dX4_isTaken_188 (by decide) 189 rfl ?_
                          refine nw_istore_n C [(3, .int (nI 0)), (0, .ref y), (1, .int (nI c)), (2, .int (nI ie))] dX4_isTaken_189 (by decide) rfl 190 rfl ?_
                          have lp6 : ∀ (fu : Nat) (j : Nat), (j ≤ 240) → (∀ k, k < j → (fun t => decide (in_a ((sg_in σ).2 ie) ≤ t) && (sp_at ((sg_in σ).2 ie) t == c)) k = false) → 240 - j < fu → nwV X (nwNew H) (nwQE X (fun v H1 => v = some (.int (b2i (sp_taken σ c))) ∧ H1 = H) nwNo (nwNew H) 0 0) 4 H 0 0 190 [(0, .ref y), (1, .int (nI c)), (2, .int (nI ie)), (3, .int (nI j))] [] := by
                            intro fu
                            induction fu with
                            | zero => intro j _ _ hm; exact absurd hm (Nat.not_lt_zero _)
                            | succ fu ih_lp6 =>
                              intro j hj1 hjno hm
                              refine nw_iload_n C 3 dX4_isTaken_190 rfl 191 rfl ?_
                              refine nw_sipush C (nI 239) dX4_isTaken_191 (by decide) 194 rfl ?_
                              refine nw_icmpgtN C (by omega) 226 dX4_isTaken_194 (by decide) 197 rfl (fun h11 => ?_) (fun h11 => ?_)
                              · have hjn : (fun k => sp_walks ((sg_in σ).2 k) c) ie = false := sp_any_false.mpr (fun k hk => hjno k (show k < j by omega))
                                refine nw_iincN C 2 (c0 := 1) [(2, .int (nI (ie + 1))), (0, .ref y), (1, .int (nI c)), (3, .int (nI j))] dX4_isTaken_226 rfl (by decide) rfl 229 rfl ?_
                                refine nw_goto C 175 dX4_isTaken_229 (by decide) ?_
                                exact (nw_sub [1, 2, 0] rfl (ih_lp4 (ie + 1) (by omega) (fun k hk => (Nat.lt_or_ge k ie).elim (fun g5 => hnod k g5) (fun g5 => by rw [show k = ie by omega]; exact hjn)) (by omega)))
                              · refine nw_aload_n C 0 dX4_isTaken_197 rfl 198 rfl ?_
                                refine nw_get C hmX (T := TX4) rfl in_X4 17 (by decide) q1639 (Or.inl rfl) rfl dX4_isTaken_198 201 rfl ?_
                                refine nw_iload_n C 2 dX4_isTaken_201 rfl 202 rfl ?_
                                refine nw_callF C (mJ3_get _ C.hfl d (am 5) ((sg_in σ).1) (fun k => am (500 + k)) (fun q => ro q = 7006) ie H hB hmIn.1 (by omega)) kJ3_get (ci := 13) rfl q1615 q1618 (by decide +kernel) fc_List_get (hmIn.1.is C) (As := [.int (nI ie)]) (rest := []) rfl rfl ⟨⟨Nat.le_of_ble_eq_true rfl, Nat.le_of_ble_eq_true rfl⟩, Nat.le_of_ble_eq_true rfl, Nat.le_of_ble_eq_true rfl⟩ (Nat.le_of_ble_eq_true rfl) (fun _ h8 h9 => absurd h9 (Nat.not_le.mpr h8)) dX4_isTaken_202 207 rfl (nw_rdK ?_) nw_noX
                                have hg12 : nwMIn d (am (500 + ie)) (am (600 + ie)) ((sg_in σ).2 ie) H := hmIn.2 ie (by omega)
                                have hk13 : okI1 (sg_gr σ) ((sg_in σ).2 ie) := oki.2 ie (by omega)
                                have hg14 : nwO d (am (500 + ie)) 11 [.int (nI (in_a ((sg_in σ).2 ie))), .int (nI (in_v ((sg_in σ).2 ie))), .ref (am (600 + ie)), .int (nI (in_s ((sg_in σ).2 ie))), .int (oI (in_l ((sg_in σ).2 ie)))] H := hg12.1
                                refine nw_cast C (ci := 11) rfl (hg14.is C (ci := 11) rfl) q1713 dX4_isTaken_207 210 rfl ?_
                                refine nw_iload_n C 3 dX4_isTaken_210 rfl 211 rfl ?_
                                refine nw_callV C (mX13_where _ C.hfl d (am (500 + ie)) (am (600 + ie)) ((sg_in σ).2 ie) (sg_gr σ) j H hB hg12 hk13 hn64 (by omega)) kX13_where q1714 (hg14.is C (ci := 11) rfl) (As := [.int (nI j)]) (rest := []) rfl rfl ⟨⟨Nat.le_of_ble_eq_true rfl, Nat.le_of_ble_eq_true rfl⟩, Nat.le_of_ble_eq_true rfl, Nat.le_of_ble_eq_true rfl⟩ (Nat.le_of_ble_eq_true rfl) (fun _ h8 h9 => absurd h9 (Nat.not_le.mpr h8)) dX4_isTaken_211 214 rfl (nw_rdK ?_) nw_noX
                                refine nw_iload_n C 1 dX4_isTaken_214 rfl 215 rfl ?_
                                refine nw_icmpneO C (sp_where ((sg_in σ).2 ie) j) (some c) (fun v hv => by have := hik9.wh hv; omega) (fun v hv => by cases hv; omega) 220 dX4_isTaken_215 (by decide) 218 rfl (fun h15 => ?_) (fun h15 => ?_)
                                · refine nw_iincN C 3 (c0 := 1) [(3, .int (nI (j + 1))), (0, .ref y), (1, .int (nI c)), (2, .int (nI ie))] dX4_isTaken_220 rfl (by decide) rfl 223 rfl ?_
                                  refine nw_goto C 190 dX4_isTaken_223 (by decide) ?_
                                  exact (nw_sub [1, 2, 3, 0] rfl (ih_lp6 (j + 1) (by omega) (fun k hk => (Nat.lt_or_ge k j).elim (fun g5 => hjno k g5) (fun g5 => by rw [show k = j by omega]; exact (nw_whn h15))) (by omega)))
                                · refine nw_iconst C (nI 1) dX4_isTaken_218 (by decide) 219 rfl ?_
                                  exact nw_nret C dX4_isTaken_219 (b2i_narrow true) (Nat.le_refl _) (Nat.le_refl _) ⟨congrArg (fun z => some (Value.int (b2i z))) (show (true) = (sp_taken σ c) from (by have z9 := (sp_any_iff (p := (fun k => sp_walks ((sg_in σ).2 k) c)) (n := (sg_in σ).1)).mpr ⟨ie, by omega, (sp_any_iff (p := fun t => decide (in_a ((sg_in σ).2 ie) ≤ t) && (sp_at ((sg_in σ).2 ie) t == c)) (n := 240)).mpr ⟨j, by omega, nw_whs h15⟩⟩; unfold sp_taken; rw [z9]; simp)), rfl⟩
                          exact (nw_sub [1, 2, 3, 0] rfl (lp6 _ 0 (Nat.zero_le _) (fun k hk => absurd hk (Nat.not_lt_zero k)) (Nat.lt_succ_self _)))
                    exact (nw_sub [1, 2, 0] rfl (lp4 _ 0 (Nat.zero_le _) (fun k hk => absurd hk (Nat.not_lt_zero k)) (Nat.lt_succ_self _)))
                  · have hgk9 := (oku.2 ic (by omega)).1
                    refine nw_iconst C (nI 0) dX4_isTaken_100 (by decide) 101 rfl ?_
                    refine nw_istore_n C [(3, .int (nI 0)), (0, .ref y), (1, .int (nI c)), (2, .int (nI ic))] dX4_isTaken_101 (by decide) rfl 102 rfl ?_
                    have lp5 : ∀ (fu : Nat) (j : Nat), (j ≤ gd_m ((sg_gu σ).2 ic)) → (∀ k, k < j → (fun j => gd_c ((sg_gu σ).2 ic) j == c) k = false) → gd_m ((sg_gu σ).2 ic) - j < fu → nwV X (nwNew H) (nwQE X (fun v H1 => v = some (.int (b2i (sp_taken σ c))) ∧ H1 = H) nwNo (nwNew H) 0 0) 4 H 0 0 102 [(0, .ref y), (1, .int (nI c)), (2, .int (nI ic)), (3, .int (nI j))] [] := by
                      intro fu
                      induction fu with
                      | zero => intro j _ _ hm; exact absurd hm (Nat.not_lt_zero _)
                      | succ fu ih_lp5 =>
                        intro j hj1 hjno hm
                        refine nw_iload_n C 3 dX4_isTaken_102 rfl 103 rfl ?_
                        refine nw_aload_n C 0 dX4_isTaken_103 rfl 104 rfl ?_
                        refine nw_get C hmX (T := TX4) rfl in_X4 8 (by decide) q1630 (Or.inl rfl) rfl dX4_isTaken_104 107 rfl ?_
                        refine nw_iload_n C 2 dX4_isTaken_107 rfl 108 rfl ?_
                        refine nw_callF C (mJ3_get _ C.hfl d (am 3) ((sg_gu σ).1) (fun k => am (300 + k)) (fun q => ro q = 7004) ic H hB hmGu.1 (by omega)) kJ3_get (ci := 13) rfl q1615 q1618 (by decide +kernel) fc_List_get (hmGu.1.is C) (As := [.int (nI ic)]) (rest := [.int (nI j)]) rfl rfl ⟨⟨Nat.le_of_ble_eq_true rfl, Nat.le_of_ble_eq_true rfl⟩, Nat.le_of_ble_eq_true rfl, Nat.le_of_ble_eq_true rfl⟩ (Nat.le_of_ble_eq_true rfl) (fun _ h8 h9 => absurd h9 (Nat.not_le.mpr h8)) dX4_isTaken_108 113 rfl (nw_rdK ?_) nw_noX
                        have hg16 : nwMGd d (am (300 + ic)) (am (400 + ic)) (fun q => ro q = 7401 + ic) ((sg_gu σ).2 ic) H := hmGu.2 ic (by omega)
                        have hk17 : okGd (sg_gr σ) ((sg_gu σ).2 ic) := oku.2 ic (by omega)
                        have hg18 : nwO d (am (300 + ic)) 10 [.int (nI (gd_a ((sg_gu σ).2 ic))), .int (nI (gd_b ((sg_gu σ).2 ic))), .int (nI (gd_s ((sg_gu σ).2 ic))), .ref (am (400 + ic)), .int (nI (gd_k ((sg_gu σ).2 ic))), .int (gd_h ((sg_gu σ).2 ic))] H := hg16.1
                        refine nw_cast C (ci := 10) rfl (hg18.is C (ci := 10) rfl) q1621 dX4_isTaken_113 116 rfl ?_
                        refine nw_get C hg18 (T := TX11) rfl in_X11 3 (by decide) q1788 (Or.inl rfl) rfl dX4_isTaken_116 119 rfl ?_
                        refine nw_callF C (mJ3_size _ C.hfl d (am (400 + ic)) (gd_m ((sg_gu σ).2 ic)) (fun j => nd_bx d (gd_c ((sg_gu σ).2 ic) j)) (fun q => ro q = 7401 + ic) H hB hg16.2) kJ3_size (ci := 13) rfl q1607 q1611 (by decide +kernel) fc_List_size (hg16.2.is C) (As := []) (rest := [.int (nI j)]) rfl rfl ⟨⟨Nat.le_of_ble_eq_true rfl, Nat.le_of_ble_eq_true rfl⟩, Nat.le_of_ble_eq_true rfl, Nat.le_of_ble_eq_true rfl⟩ (Nat.le_of_ble_eq_true rfl) (fun _ h8 h9 => absurd h9 (Nat.not_le.mpr h8)) dX4_isTaken_119 124 rfl (nw_rdK ?_) nw_noX
                        refine nw_icmpgeN C (by omega) 167 dX4_isTaken_124 (by decide) 127 rfl (fun h19 => ?_) (fun h19 => ?_)
                        · have hjn : (fun k => sp_any (fun j => gd_c ((sg_gu σ).2 k) j == c) (gd_m ((sg_gu σ).2 k))) ic = false := sp_any_false.mpr (fun k hk => hjno k (show k < j by omega))
                          refine nw_iincN C 2 (c0 := 1) [(2, .int (nI (ic + 1))), (0, .ref y), (1, .int (nI c)), (3, .int (nI j))] dX4_isTaken_167 rfl (by decide) rfl 170 rfl ?_
                          refine nw_goto C 87 dX4_isTaken_170 (by decide) ?_
                          exact (nw_sub [1, 2, 0] rfl (ih_lp3 (ic + 1) (by omega) (fun k hk => (Nat.lt_or_ge k ic).elim (fun g5 => hnoc k g5) (fun g5 => by rw [show k = ic by omega]; exact hjn)) (by omega)))
                        · refine nw_aload_n C 0 dX4_isTaken_127 rfl 128 rfl ?_
                          refine nw_get C hmX (T := TX4) rfl in_X4 8 (by decide) q1630 (Or.inl rfl) rfl dX4_isTaken_128 131 rfl ?_
                          refine nw_iload_n C 2 dX4_isTaken_131 rfl 132 rfl ?_
                          refine nw_callF C (mJ3_get _ C.hfl d (am 3) ((sg_gu σ).1) (fun k => am (300 + k)) (fun q => ro q = 7004) ic H hB hmGu.1 (by omega)) kJ3_get (ci := 13) rfl q1615 q1618 (by decide +kernel) fc_List_get (hmGu.1.is C) (As := [.int (nI ic)]) (rest := []) rfl rfl ⟨⟨Nat.le_of_ble_eq_true rfl, Nat.le_of_ble_eq_true rfl⟩, Nat.le_of_ble_eq_true rfl, Nat.le_of_ble_eq_true rfl⟩ (Nat.le_of_ble_eq_true rfl) (fun _ h8 h9 => absurd h9 (Nat.not_le.mpr h8)) dX4_isTaken_132 137 rfl (nw_rdK ?_) nw_noX
                          refine nw_cast C (ci := 10) rfl (hg18.is C (ci := 10) rfl) q1621 dX4_isTaken_137 140 rfl ?_
                          refine nw_get C hg18 (T := TX11) rfl in_X11 3 (by decide) q1788 (Or.inl rfl) rfl dX4_isTaken_140 143 rfl ?_
                          refine nw_iload_n C 3 dX4_isTaken_143 rfl 144 rfl ?_
                          refine nw_callF C (mJ3_get _ C.hfl d (am (400 + ic)) (gd_m ((sg_gu σ).2 ic)) (fun j => nd_bx d (gd_c ((sg_gu σ).2 ic) j)) (fun q => ro q = 7401 + ic) j H hB hg16.2 (by omega)) kJ3_get (ci := 13) rfl q1615 q1618 (by decide +kernel) fc_List_get (hg16.2.is C) (As := [.int (nI j)]) (rest := []) rfl rfl ⟨⟨Nat.le_of_ble_eq_true rfl, Nat.le_of_ble_eq_true rfl⟩, Nat.le_of_ble_eq_true rfl, Nat.le_of_ble_eq_true rfl⟩ (Nat.le_of_ble_eq_true rfl) (fun _ h8 h9 => absurd h9 (Nat.not_le.mpr h8)) dX4_isTaken_144 149 rfl (nw_rdK ?_) nw_noX
                          have hb20 : gd_c ((sg_gu σ).2 ic) j < 128 := (by have := hk17.2 j (by omega); omega)
                          refine nw_cast C (ci := 16) rfl (C.E0.boxIs hb20) q1711 dX4_isTaken_149 152 rfl ?_
                          refine nw_callV C (mJ19_intValue _ C.hfl d (gd_c ((sg_gu σ).2 ic) j) H hB (by omega)) kJ19_intValue q1712 (C.E0.boxIs (by omega)) (As := []) (rest := []) rfl rfl ⟨⟨Nat.le_of_ble_eq_true rfl, Nat.le_of_ble_eq_true rfl⟩, Nat.le_of_ble_eq_true rfl, Nat.le_of_ble_eq_true rfl⟩ (Nat.le_of_ble_eq_true rfl) (fun _ h8 h9 => absurd h9 (Nat.not_le.mpr h8)) dX4_isTaken_152 155 rfl (nw_rdK ?_) nw_noX
                          refine nw_iload_n C 1 dX4_isTaken_155 rfl 156 rfl ?_
                          refine nw_icmpneN C (by omega) 161 dX4_isTaken_156 (by decide) 159 rfl (fun h21 => ?_) (fun h21 => ?_)
                          · refine nw_iincN C 3 (c0 := 1) [(3, .int (nI (j + 1))), (0, .ref y), (1, .int (nI c)), (2, .int (nI ic))] dX4_isTaken_161 rfl (by decide) rfl 164 rfl ?_
                            refine nw_goto C 102 dX4_isTaken_164 (by decide) ?_
                            exact (nw_sub [1, 2, 3, 0] rfl (ih_lp5 (j + 1) (by omega) (fun k hk => (Nat.lt_or_ge k j).elim (fun g5 => hjno k g5) (fun g5 => by rw [show k = j by omega]; exact (by simp [h21]))) (by omega)))
                          · refine nw_iconst C (nI 1) dX4_isTaken_159 (by decide) 160 rfl ?_
                            exact nw_nret C dX4_isTaken_160 (b2i_narrow true) (Nat.le_refl _) (Nat.le_refl _) ⟨congrArg (fun z => some (Value.int (b2i z))) (show (true) = (sp_taken σ c) from (by have z9 := (sp_any_iff (p := (fun k => sp_any (fun j => gd_c ((sg_gu σ).2 k) j == c) (gd_m ((sg_gu σ).2 k)))) (n := (sg_gu σ).1)).mpr ⟨ic, by omega, (sp_any_iff (p := fun j => gd_c ((sg_gu σ).2 ic) j == c) (n := gd_m ((sg_gu σ).2 ic))).mpr ⟨j, by omega, by simp [h21]⟩⟩; unfold sp_taken; rw [z9]; simp)), rfl⟩
                    exact (nw_sub [1, 2, 3, 0] rfl (lp5 _ 0 (Nat.zero_le _) (fun k hk => absurd hk (Nat.not_lt_zero k)) (Nat.lt_succ_self _)))
              exact (nw_sub [1, 2, 0] rfl (lp3 _ 0 (Nat.zero_le _) (fun k hk => absurd hk (Nat.not_lt_zero k)) (Nat.lt_succ_self _)))
            · refine nw_aload_n C 0 dX4_isTaken_57 rfl 58 rfl ?_
              refine nw_get C hmX (T := TX4) rfl in_X4 9 (by decide) q1631 (Or.inl rfl) rfl dX4_isTaken_58 61 rfl ?_
              refine nw_iload_n C 2 dX4_isTaken_61 rfl 62 rfl ?_
              refine nw_callF C (mJ3_get _ C.hfl d (am 4) ((sg_po σ).1) (fun k => nd_bx d ((sg_po σ).2 k)) (fun q => ro q = 7005) ib H hB hmPo (by omega)) kJ3_get (ci := 13) rfl q1615 q1618 (by decide +kernel) fc_List_get (hmPo.is C) (As := [.int (nI ib)]) (rest := []) rfl rfl ⟨⟨Nat.le_of_ble_eq_true rfl, Nat.le_of_ble_eq_true rfl⟩, Nat.le_of_ble_eq_true rfl, Nat.le_of_ble_eq_true rfl⟩ (Nat.le_of_ble_eq_true rfl) (fun _ h8 h9 => absurd h9 (Nat.not_le.mpr h8)) dX4_isTaken_62 67 rfl (nw_rdK ?_) nw_noX
              have hb22 : (sg_po σ).2 ib < 128 := (by have := okp.2 ib (by omega); omega)
              refine nw_cast C (ci := 16) rfl (C.E0.boxIs hb22) q1711 dX4_isTaken_67 70 rfl ?_
              refine nw_callV C (mJ19_intValue _ C.hfl d ((sg_po σ).2 ib) H hB (by omega)) kJ19_intValue q1712 (C.E0.boxIs (by omega)) (As := []) (rest := []) rfl rfl ⟨⟨Nat.le_of_ble_eq_true rfl, Nat.le_of_ble_eq_true rfl⟩, Nat.le_of_ble_eq_true rfl, Nat.le_of_ble_eq_true rfl⟩ (Nat.le_of_ble_eq_true rfl) (fun _ h8 h9 => absurd h9 (Nat.not_le.mpr h8)) dX4_isTaken_70 73 rfl (nw_rdK ?_) nw_noX
              refine nw_iload_n C 1 dX4_isTaken_73 rfl 74 rfl ?_
              refine nw_icmpneN C (by omega) 79 dX4_isTaken_74 (by decide) 77 rfl (fun h23 => ?_) (fun h23 => ?_)
              · refine nw_iincN C 2 (c0 := 1) [(2, .int (nI (ib + 1))), (0, .ref y), (1, .int (nI c))] dX4_isTaken_79 rfl (by decide) rfl 82 rfl ?_
                refine nw_goto C 44 dX4_isTaken_82 (by decide) ?_
                exact (nw_sub [1, 2, 0] rfl (ih_lp2 (ib + 1) (by omega) (fun k hk => (Nat.lt_or_ge k ib).elim (fun g5 => hnob k g5) (fun g5 => by rw [show k = ib by omega]; exact (by simp [h23]))) (by omega)))
              · refine nw_iconst C (nI 1) dX4_isTaken_77 (by decide) 78 rfl ?_
                exact nw_nret C dX4_isTaken_78 (b2i_narrow true) (Nat.le_refl _) (Nat.le_refl _) ⟨congrArg (fun z => some (Value.int (b2i z))) (show (true) = (sp_taken σ c) from (by have z9 := (sp_any_iff (p := (fun k => (sg_po σ).2 k == c)) (n := (sg_po σ).1)).mpr ⟨ib, by omega, by simp [h23]⟩; unfold sp_taken; rw [z9]; simp)), rfl⟩
        exact (nw_sub [1, 2, 0] rfl (lp2 _ 0 (Nat.zero_le _) (fun k hk => absurd hk (Nat.not_lt_zero k)) (Nat.lt_succ_self _)))
      · have hlk := okl.2 ia (by omega)
        refine nw_aload_n C 0 dX4_isTaken_15 rfl 16 rfl ?_
        refine nw_get C hmX (T := TX4) rfl in_X4 6 (by decide) q1628 (Or.inl rfl) rfl dX4_isTaken_16 19 rfl ?_
        refine nw_iload_n C 2 dX4_isTaken_19 rfl 20 rfl ?_
        refine nw_callF C (mJ3_get _ C.hfl d (am 1) ((sg_la σ).1) (fun k => am (100 + k)) (fun q => ro q = 7002) ia H hB hmLa.1 (by omega)) kJ3_get (ci := 13) rfl q1615 q1618 (by decide +kernel) fc_List_get (hmLa.1.is C) (As := [.int (nI ia)]) (rest := []) rfl rfl ⟨⟨Nat.le_of_ble_eq_true rfl, Nat.le_of_ble_eq_true rfl⟩, Nat.le_of_ble_eq_true rfl, Nat.le_of_ble_eq_true rfl⟩ (Nat.le_of_ble_eq_true rfl) (fun _ h8 h9 => absurd h9 (Nat.not_le.mpr h8)) dX4_isTaken_20 25 rfl (nw_rdK ?_) nw_noX
        have hg24 : nwI d (am (100 + ia)) 0 3 (fn3 (nI (((sg_la σ).2 ia).1)) (nI (((sg_la σ).2 ia).2.1)) (b2i (((sg_la σ).2 ia).2.2))) H := hmLa.2 ia (by omega)
        refine nw_castI C hg24 q1710 dX4_isTaken_25 28 rfl ?_
        refine nw_iconst C (nI 0) dX4_isTaken_28 (by decide) 29 rfl ?_
        refine nw_ialdN C (nI (((sg_la σ).2 ia).1)) hg24 (by omega) rfl dX4_isTaken_29 30 rfl ?_
        refine nw_iload_n C 1 dX4_isTaken_30 rfl 31 rfl ?_
        refine nw_icmpneN C (by omega) 36 dX4_isTaken_31 (by decide) 34 rfl (fun h25 => ?_) (fun h25 => ?_)
        · refine nw_iincN C 2 (c0 := 1) [(2, .int (nI (ia + 1))), (0, .ref y), (1, .int (nI c))] dX4_isTaken_36 rfl (by decide) rfl 39 rfl ?_
          refine nw_goto C 2 dX4_isTaken_39 (by decide) ?_
          exact (nw_sub [1, 2, 0] rfl (ih_lp1 (ia + 1) (by omega) (fun k hk => (Nat.lt_or_ge k ia).elim (fun g5 => hnoa k g5) (fun g5 => by rw [show k = ia by omega]; exact (by simp [h25]))) (by omega)))
        · refine nw_iconst C (nI 1) dX4_isTaken_34 (by decide) 35 rfl ?_
          exact nw_nret C dX4_isTaken_35 (b2i_narrow true) (Nat.le_refl _) (Nat.le_refl _) ⟨congrArg (fun z => some (Value.int (b2i z))) (show (true) = (sp_taken σ c) from (by have z9 := (sp_any_iff (p := (fun k => ((sg_la σ).2 k).1 == c)) (n := (sg_la σ).1)).mpr ⟨ia, by omega, by simp [h25]⟩; unfold sp_taken; rw [z9]; simp)), rfl⟩
  exact (nw_sub [1, 2, 0] rfl (lp1 _ 0 (Nat.zero_le _) (fun k hk => absurd hk (Nat.not_lt_zero k)) (Nat.lt_succ_self _)))
set_option maxHeartbeats 4000000 in
theorem mX4_isSoundNow (l : Launch) (hf : l.flags = flags0) (d : nwD) (ro am : Nat → Nat) (y : Nat) (σ : spSg) (th : Int32)  (H : Heap) (hB : nd_B d ≤ H.size) (hW : nwMC d ro am y σ th H) (okM : spOkM σ)  : nwRd l d yX4_isSoundNow cX4_isSoundNow 5 (some .boolean) 5 107 [.ref y] H (some (.int (b2i (sp_sound σ)))) := by
  refine nw_rd "NightwatchWallModel" "isSoundNow" hf (by decide +kernel) rfl rfl hB (Nat.le_of_ble_eq_true rfl) ?_
  intro X C
  obtain ⟨hmX, hmKi, hmLa, hmFo, hmGu, hmPo, hmIn, hmWi, hmWo, hmKe⟩ := id hW
  obtain ⟨okg, okl, okf, oku, okp, oki, okw, okd, okk, oka⟩ := id okM
  have hn64 : gr_n (sg_gr σ) ≤ 64 := okg.n
  have oku1 := oku.1
  have oki1 := oki.1
  have okp1 := okp.1
  have okw1 := okw.1
  have okl1 := okl.1
  have okf1 := okf.1
  have hE := C.E0
  show nwV X _ _ 5 H 0 0 0 [(0, .ref y)] []
  refine nw_iconst C (nI 0) dX4_isSoundNow_0 (by decide) 1 rfl ?_
  refine nw_istore_n C [(1, .int (nI 0)), (0, .ref y)] dX4_isSoundNow_1 (by decide) rfl 2 rfl ?_
  have lp1 : ∀ (fu : Nat) (i : Nat), (i ≤ gr_n (sg_gr σ)) → (∀ k, k < i → (fun c => gr_k (sg_gr σ) c == 1 && sp_taken σ c) k = false) → gr_n (sg_gr σ) - i < fu → nwV X (nwNew H) (nwQE X (fun v H1 => v = some (.int (b2i (sp_sound σ))) ∧ H1 = H) nwNo (nwNew H) 0 0) 5 H 0 0 2 [(0, .ref y), (1, .int (nI i))] [] := by
    intro fu
    induction fu with
    | zero => intro i _ _ hm; exact absurd hm (Nat.not_lt_zero _)
    | succ fu ih_lp1 =>
      intro i hi hno hm
      refine nw_iload_n C 1 dX4_isSoundNow_2 rfl 3 rfl ?_
      refine nw_aload_n C 0 dX4_isSoundNow_3 rfl 4 rfl ?_
      refine nw_get C hmX (T := TX4) rfl in_X4 3 (by decide) q1625 (Or.inl rfl) rfl dX4_isSoundNow_4 7 rfl ?_
      refine nw_alenI C hmKi (by decide) dX4_isSoundNow_7 8 rfl ?_
      refine nw_icmpgeN C (by omega) 37 dX4_isSoundNow_8 (by decide) 11 rfl (fun h5 => ?_) (fun h5 => ?_)
      · have hsf := sp_any_false.mpr (fun k hk => hno k (show k < i by omega))
        rw [show i = gr_n (sg_gr σ) by omega] at hsf
        refine nw_aload_n C 0 dX4_isSoundNow_37 rfl 38 rfl ?_
        refine nw_get C hmX (T := TX4) rfl in_X4 16 (by decide) q1638 (Or.inl rfl) rfl dX4_isSoundNow_38 41 rfl ?_
        refine nw_astore_n C [(1, .ref (am 8)), (0, .ref y)] dX4_isSoundNow_41 (by decide) rfl 42 rfl ?_
        refine nw_aload_n C 0 dX4_isSoundNow_42 rfl 43 rfl ?_
        refine nw_alenI C hmKe (by decide) dX4_isSoundNow_43 44 rfl ?_
        refine nw_istore_n C [(2, .int (nI 6)), (1, .ref (am 8)), (0, .ref y)] dX4_isSoundNow_44 (by decide) rfl 45 rfl ?_
        refine nw_iconst C (nI 0) dX4_isSoundNow_45 (by decide) 46 rfl ?_
        refine nw_istore_n C [(3, .int (nI 0)), (2, .int (nI 6)), (1, .ref (am 8)), (0, .ref y)] dX4_isSoundNow_46 (by decide) rfl 47 rfl ?_
        have lp2 : ∀ (fu : Nat) (j : Nat), (j ≤ 6) → 6 - j < fu → nwV X (nwNew H) (nwQE X (fun v H1 => v = some (.int (b2i (sp_sound σ))) ∧ H1 = H) nwNo (nwNew H) 0 0) 5 H 0 0 47 [(0, .ref y), (1, .ref (am 8)), (2, .int (nI 6)), (3, .int (nI j))] [] := by
          intro fu
          induction fu with
          | zero => intro j _ hm; exact absurd hm (Nat.not_lt_zero _)
          | succ fu ih_lp2 =>
            intro j hj hm
            refine nw_iload_n C 3 dX4_isSoundNow_47 rfl 48 rfl ?_
            refine nw_iload_n C 2 dX4_isSoundNow_48 rfl 49 rfl ?_
            refine nw_icmpgeN C (by omega) 80 dX4_isSoundNow_49 (by decide) 52 rfl (fun h6 => ?_) (fun h6 => ?_)
            · refine nw_iconst C (nI 0) dX4_isSoundNow_80 (by decide) 81 rfl ?_
              refine nw_istore_n C [(1, .int (nI 0)), (0, .ref y), (2, .int (nI 6)), (3, .int (nI j))] dX4_isSoundNow_81 (by decide) rfl 82 rfl ?_
              have lp3 : ∀ (fu : Nat) (u : Nat), (u ≤ (sg_gu σ).1) → (sg_gu σ).1 - u < fu → nwV X (nwNew H) (nwQE X (fun v H1 => v = some (.int (b2i (sp_sound σ))) ∧ H1 = H) nwNo (nwNew H) 0 0) 5 H 0 0 82 [(0, .ref y), (1, .int (nI u))] [] := by
                intro fu
                induction fu with
                | zero => intro u _ hm; exact absurd hm (Nat.not_lt_zero _)
                | succ fu ih_lp3 =>
                  intro u hu hm
                  refine nw_iload_n C 1 dX4_isSoundNow_82 rfl 83 rfl ?_
                  refine nw_aload_n C 0 dX4_isSoundNow_83 rfl 84 rfl ?_
                  refine nw_get C hmX (T := TX4) rfl in_X4 8 (by decide) q1630 (Or.inl rfl) rfl dX4_isSoundNow_84 87 rfl ?_
                  refine nw_callF C (mJ3_size _ C.hfl d (am 3) ((sg_gu σ).1) (fun k => am (300 + k)) (fun q => ro q = 7004) H hB hmGu.1) kJ3_size (ci := 13) rfl q1607 q1611 (by decide +kernel) fc_List_size (hmGu.1.is C) (As := []) (rest := [.int (nI u)]) rfl rfl ⟨⟨Nat.le_of_ble_eq_true rfl, Nat.le_of_ble_eq_true rfl⟩, Nat.le_of_ble_eq_true rfl, Nat.le_of_ble_eq_true rfl⟩ (Nat.le_of_ble_eq_true rfl) (fun _ h8 h9 => absurd h9 (Nat.not_le.mpr h8)) dX4_isSoundNow_87 92 rfl (nw_rdK ?_) nw_noX
                  refine nw_icmpgeN C (by omega) 123 dX4_isSoundNow_92 (by decide) 95 rfl (fun h7 => ?_) (fun h7 => ?_)
                  · refine nw_iconst C (nI 0) dX4_isSoundNow_123 (by decide) 124 rfl ?_
                    refine nw_istore_n C [(1, .int (nI 0)), (0, .ref y)] dX4_isSoundNow_124 (by decide) rfl 125 rfl ?_
                    have lp4 : ∀ (fu : Nat) (z : Nat), (z ≤ (sg_in σ).1) → (sg_in σ).1 - z < fu → nwV X (nwNew H) (nwQE X (fun v H1 => v = some (.int (b2i (sp_sound σ))) ∧ H1 = H) nwNo (nwNew H) 0 0) 5 H 0 0 125 [(0, .ref y), (1, .int (nI z))] [] := by
                      intro fu
                      induction fu with
                      | zero => intro z _ hm; exact absurd hm (Nat.not_lt_zero _)
                      | succ fu ih_lp4 =>
                        intro z hz hm
                        refine nw_iload_n C 1 dX4_isSoundNow_125 rfl 126 rfl ?_
                        refine nw_aload_n C 0 dX4_isSoundNow_126 rfl 127 rfl ?_
                        refine nw_get C hmX (T := TX4) rfl in_X4 17 (by decide) q1639 (Or.inl rfl) rfl dX4_isSoundNow_127 130 rfl ?_
                        refine nw_callF C (mJ3_size _ C.hfl d (am 5) ((sg_in σ).1) (fun k => am (500 + k)) (fun q => ro q = 7006) H hB hmIn.1) kJ3_size (ci := 13) rfl q1607 q1611 (by decide +kernel) fc_List_size (hmIn.1.is C) (As := []) (rest := [.int (nI z)]) rfl rfl ⟨⟨Nat.le_of_ble_eq_true rfl, Nat.le_of_ble_eq_true rfl⟩, Nat.le_of_ble_eq_true rfl, Nat.le_of_ble_eq_true rfl⟩ (Nat.le_of_ble_eq_true rfl) (fun _ h8 h9 => absurd h9 (Nat.not_le.mpr h8)) dX4_isSoundNow_130 135 rfl (nw_rdK ?_) nw_noX
                        refine nw_icmpgeN C (by omega) 166 dX4_isSoundNow_135 (by decide) 138 rfl (fun h8 => ?_) (fun h8 => ?_)
                        · refine nw_iconst C (nI 1) dX4_isSoundNow_166 (by decide) 167 rfl ?_
                          exact nw_nret C dX4_isSoundNow_167 (b2i_narrow true) (Nat.le_refl _) (Nat.le_refl _) ⟨congrArg (fun z => some (Value.int (b2i z))) (show (true) = (sp_sound σ) from (by unfold sp_sound; rw [hsf]; rfl)), rfl⟩
                        · have hik9 := (oki.2 z (by omega)).1
                          refine nw_aload_n C 0 dX4_isSoundNow_138 rfl 139 rfl ?_
                          refine nw_get C hmX (T := TX4) rfl in_X4 17 (by decide) q1639 (Or.inl rfl) rfl dX4_isSoundNow_139 142 rfl ?_
                          refine nw_iload_n C 1 dX4_isSoundNow_142 rfl 143 rfl ?_
                          refine nw_callF C (mJ3_get _ C.hfl d (am 5) ((sg_in σ).1) (fun k => am (500 + k)) (fun q => ro q = 7006) z H hB hmIn.1 (by omega)) kJ3_get (ci := 13) rfl q1615 q1618 (by decide +kernel) fc_List_get (hmIn.1.is C) (As := [.int (nI z)]) (rest := []) rfl rfl ⟨⟨Nat.le_of_ble_eq_true rfl, Nat.le_of_ble_eq_true rfl⟩, Nat.le_of_ble_eq_true rfl, Nat.le_of_ble_eq_true rfl⟩ (Nat.le_of_ble_eq_true rfl) (fun _ h8 h9 => absurd h9 (Nat.not_le.mpr h8)) dX4_isSoundNow_143 148 rfl (nw_rdK ?_) nw_noX
                          have hg9 : nwMIn d (am (500 + z)) (am (600 + z)) ((sg_in σ).2 z) H := hmIn.2 z (by omega)
                          have hk10 : okI1 (sg_gr σ) ((sg_in σ).2 z) := oki.2 z (by omega)
                          have hg11 : nwO d (am (500 + z)) 11 [.int (nI (in_a ((sg_in σ).2 z))), .int (nI (in_v ((sg_in σ).2 z))), .ref (am (600 + z)), .int (nI (in_s ((sg_in σ).2 z))), .int (oI (in_l ((sg_in σ).2 z)))] H := hg9.1
                          refine nw_cast C (ci := 11) rfl (hg11.is C (ci := 11) rfl) q1713 dX4_isSoundNow_148 151 rfl ?_
                          refine nw_get C hg11 (T := TX13) rfl in_X13 3 (by decide) q1947 (Or.inl rfl) rfl dX4_isSoundNow_151 154 rfl ?_
                          refine nw_iconst C (nI 4) dX4_isSoundNow_154 (by decide) 155 rfl ?_
                          refine nw_icmpleN C (by omega) 160 dX4_isSoundNow_155 (by decide) 158 rfl (fun h12 => ?_) (fun h12 => ?_)
                          · refine nw_iincN C 1 (c0 := 1) [(1, .int (nI (z + 1))), (0, .ref y)] dX4_isSoundNow_160 rfl (by decide) rfl 163 rfl ?_
                            refine nw_goto C 125 dX4_isSoundNow_163 (by decide) ?_
                            exact (nw_sub [1, 0] rfl (ih_lp4 (z + 1) (by omega) (by omega)))
                          · exfalso
                            omega
                    exact (nw_sub [1, 0] rfl (lp4 _ 0 (Nat.zero_le _) (Nat.lt_succ_self _)))
                  · have hgk9 := (oku.2 u (by omega)).1
                    refine nw_aload_n C 0 dX4_isSoundNow_95 rfl 96 rfl ?_
                    refine nw_get C hmX (T := TX4) rfl in_X4 8 (by decide) q1630 (Or.inl rfl) rfl dX4_isSoundNow_96 99 rfl ?_
                    refine nw_iload_n C 1 dX4_isSoundNow_99 rfl 100 rfl ?_
                    refine nw_callF C (mJ3_get _ C.hfl d (am 3) ((sg_gu σ).1) (fun k => am (300 + k)) (fun q => ro q = 7004) u H hB hmGu.1 (by omega)) kJ3_get (ci := 13) rfl q1615 q1618 (by decide +kernel) fc_List_get (hmGu.1.is C) (As := [.int (nI u)]) (rest := []) rfl rfl ⟨⟨Nat.le_of_ble_eq_true rfl, Nat.le_of_ble_eq_true rfl⟩, Nat.le_of_ble_eq_true rfl, Nat.le_of_ble_eq_true rfl⟩ (Nat.le_of_ble_eq_true rfl) (fun _ h8 h9 => absurd h9 (Nat.not_le.mpr h8)) dX4_isSoundNow_100 105 rfl (nw_rdK ?_) nw_noX
                    have hg13 : nwMGd d (am (300 + u)) (am (400 + u)) (fun q => ro q = 7401 + u) ((sg_gu σ).2 u) H := hmGu.2 u (by omega)
                    have hk14 : okGd (sg_gr σ) ((sg_gu σ).2 u) := oku.2 u (by omega)
                    have hg15 : nwO d (am (300 + u)) 10 [.int (nI (gd_a ((sg_gu σ).2 u))), .int (nI (gd_b ((sg_gu σ).2 u))), .int (nI (gd_s ((sg_gu σ).2 u))), .ref (am (400 + u)), .int (nI (gd_k ((sg_gu σ).2 u))), .int (gd_h ((sg_gu σ).2 u))] H := hg13.1
                    refine nw_cast C (ci := 10) rfl (hg15.is C (ci := 10) rfl) q1621 dX4_isSoundNow_105 108 rfl ?_
                    refine nw_get C hg15 (T := TX11) rfl in_X11 4 (by decide) q1789 (Or.inl rfl) rfl dX4_isSoundNow_108 111 rfl ?_
                    refine nw_iconst C (nI 3) dX4_isSoundNow_111 (by decide) 112 rfl ?_
                    refine nw_icmpleN C (by omega) 117 dX4_isSoundNow_112 (by decide) 115 rfl (fun h16 => ?_) (fun h16 => ?_)
                    · refine nw_iincN C 1 (c0 := 1) [(1, .int (nI (u + 1))), (0, .ref y)] dX4_isSoundNow_117 rfl (by decide) rfl 120 rfl ?_
                      refine nw_goto C 82 dX4_isSoundNow_120 (by decide) ?_
                      exact (nw_sub [1, 0] rfl (ih_lp3 (u + 1) (by omega) (by omega)))
                    · exfalso
                      omega
              exact (nw_sub [1, 0] rfl (lp3 _ 0 (Nat.zero_le _) (Nat.lt_succ_self _)))
            · refine nw_aload_n C 1 dX4_isSoundNow_52 rfl 53 rfl ?_
              refine nw_iload_n C 3 dX4_isSoundNow_53 rfl 54 rfl ?_
              refine nw_ialdN C (oI (sg_ke σ j)) hmKe (by omega) rfl dX4_isSoundNow_54 55 rfl ?_
              refine nw_istore C [(4, .int (oI (sg_ke σ j))), (0, .ref y), (1, .ref (am 8)), (2, .int (nI 6)), (3, .int (nI j))] dX4_isSoundNow_55 (by decide) rfl 57 rfl ?_
              generalize hke : sg_ke σ j = o
              rcases o with _ | g
              · show nwV X _ _ 5 H 0 0 57 [(4, .int (oI none)), (0, .ref y), (1, .ref (am 8)), (2, .int (nI 6)), (3, .int (nI j))] []
                refine nw_iload C 0 dX4_isSoundNow_57 rfl 59 rfl ?_
                refine nw_iconst C (oI none) dX4_isSoundNow_59 (by decide) 60 rfl ?_
                refine nw_icmpeqT C rfl 74 dX4_isSoundNow_60 (by decide) ?_
                refine nw_iincN C 4 (c0 := 1) [(3, .int (nI (j + 1))), (4, .int (oI none)), (0, .ref y), (1, .ref (am 8)), (2, .int (nI 6))] dX4_isSoundNow_74 rfl (by decide) rfl 77 rfl ?_
                refine nw_goto C 47 dX4_isSoundNow_77 (by decide) ?_
                exact (nw_sub [2, 3, 4, 0] rfl (ih_lp2 (j + 1) (by omega) (by omega)))
              · show nwV X _ _ 5 H 0 0 57 [(4, .int (nI g)), (0, .ref y), (1, .ref (am 8)), (2, .int (nI 6)), (3, .int (nI j))] []
                have hgk := okk j (by omega) g hke
                refine nw_iload C 0 dX4_isSoundNow_57 rfl 59 rfl ?_
                refine nw_iconst C (oI none) dX4_isSoundNow_59 (by decide) 60 rfl ?_
                refine nw_icmpeqF C (nI_m1 (by omega)) 74 dX4_isSoundNow_60 (by decide) 63 rfl ?_
                refine nw_aload_n C 1 dX4_isSoundNow_63 rfl 64 rfl ?_
                refine nw_iload C 0 dX4_isSoundNow_64 rfl 66 rfl ?_
                refine nw_callV C (mX4_isGuard _ C.hfl d ro am y σ th (nI g) H hB hW okM ) kX4_isGuard q1808 (hmX.is C (ci := 9) rfl) (As := [.int (nI g)]) (rest := []) rfl rfl ⟨⟨Nat.le_of_ble_eq_true rfl, Nat.le_of_ble_eq_true rfl⟩, Nat.le_of_ble_eq_true rfl, Nat.le_of_ble_eq_true rfl⟩ (Nat.le_of_ble_eq_true rfl) (fun _ h8 h9 => absurd h9 (Nat.not_le.mpr h8)) dX4_isSoundNow_66 69 rfl (nw_rdK ?_) nw_noX
                refine nw_ifne C 74 dX4_isSoundNow_69 (by decide) 72 rfl (fun _ => ?_) (fun h19 => absurd h19 (nw_isg hgk (by omega)))
                refine nw_iincN C 4 (c0 := 1) [(3, .int (nI (j + 1))), (4, .int (nI g)), (0, .ref y), (1, .ref (am 8)), (2, .int (nI 6))] dX4_isSoundNow_74 rfl (by decide) rfl 77 rfl ?_
                refine nw_goto C 47 dX4_isSoundNow_77 (by decide) ?_
                exact (nw_sub [2, 3, 4, 0] rfl (ih_lp2 (j + 1) (by omega) (by omega)))
        exact (nw_sub [3, 2, 1, 0] rfl (lp2 _ 0 (by omega) (Nat.lt_succ_self _)))
      · have hk4 : gr_k (sg_gr σ) i < 4 := (okg.here (show i < gr_n (sg_gr σ) by omega)).2 i (by omega)
        refine nw_aload_n C 0 dX4_isSoundNow_11 rfl 12 rfl ?_
        refine nw_get C hmX (T := TX4) rfl in_X4 3 (by decide) q1625 (Or.inl rfl) rfl dX4_isSoundNow_12 15 rfl ?_
        refine nw_iload_n C 1 dX4_isSoundNow_15 rfl 16 rfl ?_
        refine nw_ialdN C (nI (gr_k (sg_gr σ) i)) hmKi (by omega) rfl dX4_isSoundNow_16 17 rfl ?_
        refine nw_iconst C (nI 1) dX4_isSoundNow_17 (by decide) 18 rfl ?_
        refine nw_icmpneN C (by omega) 31 dX4_isSoundNow_18 (by decide) 21 rfl (fun h20 => ?_) (fun h20 => ?_)
        · refine nw_iincN C 1 (c0 := 1) [(1, .int (nI (i + 1))), (0, .ref y)] dX4_isSoundNow_31 rfl (by decide) rfl 34 rfl ?_
          refine nw_goto C 2 dX4_isSoundNow_34 (by decide) ?_
          exact (nw_sub [1, 0] rfl (ih_lp1 (i + 1) (by omega) (fun k hk => (Nat.lt_or_ge k i).elim (fun g5 => hno k g5) (fun g5 => by rw [show k = i by omega]; exact (by simp [h20]))) (by omega)))
        · refine nw_aload_n C 0 dX4_isSoundNow_21 rfl 22 rfl ?_
          refine nw_iload_n C 1 dX4_isSoundNow_22 rfl 23 rfl ?_
          refine nw_callV C (mX4_isTaken _ C.hfl d ro am y σ th i H hB hW okM (by omega)) kX4_isTaken q1706 (hmX.is C (ci := 9) rfl) (As := [.int (nI i)]) (rest := []) rfl rfl ⟨⟨Nat.le_of_ble_eq_true rfl, Nat.le_of_ble_eq_true rfl⟩, Nat.le_of_ble_eq_true rfl, Nat.le_of_ble_eq_true rfl⟩ (Nat.le_of_ble_eq_true rfl) (fun _ h8 h9 => absurd h9 (Nat.not_le.mpr h8)) dX4_isSoundNow_23 26 rfl (nw_rdK ?_) nw_noX
          refine nw_ifeqB C 31 dX4_isSoundNow_26 (by decide) 29 rfl (fun h21 => ?_) (fun h21 => ?_)
          · refine nw_iincN C 1 (c0 := 1) [(1, .int (nI (i + 1))), (0, .ref y)] dX4_isSoundNow_31 rfl (by decide) rfl 34 rfl ?_
            refine nw_goto C 2 dX4_isSoundNow_34 (by decide) ?_
            exact (nw_sub [1, 0] rfl (ih_lp1 (i + 1) (by omega) (fun k hk => (Nat.lt_or_ge k i).elim (fun g5 => hno k g5) (fun g5 => by rw [show k = i by omega]; exact (by simp [h20, h21]))) (by omega)))
          · refine nw_iconst C (nI 0) dX4_isSoundNow_29 (by decide) 30 rfl ?_
            exact nw_nret C dX4_isSoundNow_30 (b2i_narrow false) (Nat.le_refl _) (Nat.le_refl _) ⟨congrArg (fun z => some (Value.int (b2i z))) (show (false) = (sp_sound σ) from (by unfold sp_sound; rw [sp_any_iff.mpr ⟨i, by omega, (by simp [h20, h21] : (fun c => gr_k (sg_gr σ) c == 1 && sp_taken σ c) i = true)⟩]; rfl)), rfl⟩
  exact (nw_sub [1, 0] rfl (lp1 _ 0 (Nat.zero_le _) (fun k hk => absurd hk (Nat.not_lt_zero k)) (Nat.lt_succ_self _)))
set_option maxHeartbeats 4000000 in
theorem mX4_judged (l : Launch) (hf : l.flags = flags0) (d : nwD) (ro am : Nat → Nat) (y : Nat) (σ : spSg) (th : Int32) (g cl : Nat) (P : Nat → Prop) (u : spGd) (h : Nat) (v9 : Int32) (H : Heap) (hB : nd_B d ≤ H.size) (hW : nwMC d ro am y σ th H) (okM : spOkM σ) (hg : nwMGd d g cl P u H) (hk : okGd (sg_gr σ) u) (hh : h < 4) : nwRd l d yX4_judged cX4_judged 8 (some .int) 4 84 [.ref y, .ref g, .int (nI h), .int v9] H (some (.int (nI (sp_judge (sg_wo σ) u h v9)))) := by
  refine nw_rd "NightwatchWallModel" "judged" hf (by decide +kernel) rfl rfl hB (Nat.le_of_ble_eq_true rfl) ?_
  intro X C
  obtain ⟨hmX, hmKi, hmLa, hmFo, hmGu, hmPo, hmIn, hmWi, hmWo, hmKe⟩ := id hW
  obtain ⟨okg, okl, okf, oku, okp, oki, okw, okd, okk, oka⟩ := id okM
  have hn64 : gr_n (sg_gr σ) ≤ 64 := okg.n
  have oku1 := oku.1
  have oki1 := oki.1
  have okp1 := okp.1
  have okw1 := okw.1
  have okl1 := okl.1
  have okf1 := okf.1
  have hE := C.E0
  have hm8 := okd.1.2.2
  show nwV X _ _ 8 H 0 0 0 [(0, .ref y), (1, .ref g), (2, .int (nI h)), (3, .int v9)] []
  refine nw_iload_n C 3 dX4_judged_0 rfl 1 rfl ?_
  refine nw_aload_n C 0 dX4_judged_1 rfl 2 rfl ?_
  refine nw_get C hmX (T := TX4) rfl in_X4 13 (by decide) q1635 (Or.inl rfl) rfl dX4_judged_2 5 rfl ?_
  refine nw_iload_n C 2 dX4_judged_5 rfl 6 rfl ?_
  refine nw_ialdN C (nI (wo_n (sg_wo σ) h)) hmWo.1 (by omega) rfl dX4_judged_6 7 rfl ?_
  refine nw_icmpne C 27 dX4_judged_7 (by decide) 10 rfl (fun h3 => ?_) (fun h3 => ?_)
  · refine nw_aload_n C 0 dX4_judged_27 rfl 28 rfl ?_
    refine nw_get C hmX (T := TX4) rfl in_X4 13 (by decide) q1635 (Or.inl rfl) rfl dX4_judged_28 31 rfl ?_
    refine nw_astore C [(4, .ref (am 11)), (0, .ref y), (1, .ref g), (2, .int (nI h)), (3, .int v9)] dX4_judged_31 (by decide) rfl 33 rfl ?_
    refine nw_aload C 0 dX4_judged_33 rfl 35 rfl ?_
    refine nw_alenI C hmWo.1 (by decide) dX4_judged_35 36 rfl ?_
    refine nw_istore C [(5, .int (nI 4)), (4, .ref (am 11)), (0, .ref y), (1, .ref g), (2, .int (nI h)), (3, .int v9)] dX4_judged_36 (by decide) rfl 38 rfl ?_
    refine nw_iconst C (nI 0) dX4_judged_38 (by decide) 39 rfl ?_
    refine nw_istore C [(6, .int (nI 0)), (5, .int (nI 4)), (4, .ref (am 11)), (0, .ref y), (1, .ref g), (2, .int (nI h)), (3, .int v9)] dX4_judged_39 (by decide) rfl 41 rfl ?_
    have lp1 : ∀ (fu : Nat) (a : Nat), (a ≤ 4) → (∀ k, k < a → (fun h => nI (wo_n (sg_wo σ) h) == v9) k = false) → 4 - a < fu → nwV X (nwNew H) (nwQE X (fun v H1 => v = some (.int (nI (sp_judge (sg_wo σ) u h v9))) ∧ H1 = H) nwNo (nwNew H) 0 0) 8 H 0 0 41 [(0, .ref y), (3, .int v9), (4, .ref (am 11)), (5, .int (nI 4)), (6, .int (nI a))] [] := by
      intro fu
      induction fu with
      | zero => intro a _ _ hm; exact absurd hm (Nat.not_lt_zero _)
      | succ fu ih_lp1 =>
        intro a ha hna hm
        refine nw_iload C 4 dX4_judged_41 rfl 43 rfl ?_
        refine nw_iload C 3 dX4_judged_43 rfl 45 rfl ?_
        refine nw_icmpgeN C (by omega) 69 dX4_judged_45 (by decide) 48 rfl (fun h4 => ?_) (fun h4 => ?_)
        · have hfa := sp_any_false.mpr (fun k hk => hna k (show k < a by omega))
          rw [show a = 4 by omega] at hfa
          refine nw_iconst C (nI 0) dX4_judged_69 (by decide) 70 rfl ?_
          refine nw_istore C [(4, .int (nI 0)), (0, .ref y), (3, .int v9), (5, .int (nI 4)), (6, .int (nI a))] dX4_judged_70 (by decide) rfl 72 rfl ?_
          have lp2 : ∀ (fu : Nat) (b : Nat), (b ≤ wo_m (sg_wo σ)) → (∀ k, k < b → (fun k => nI (wo_o (sg_wo σ) k) == v9) k = false) → wo_m (sg_wo σ) - b < fu → nwV X (nwNew H) (nwQE X (fun v H1 => v = some (.int (nI (sp_judge (sg_wo σ) u h v9))) ∧ H1 = H) nwNo (nwNew H) 0 0) 8 H 0 0 72 [(0, .ref y), (3, .int v9), (4, .int (nI b))] [] := by
            intro fu
            induction fu with
            | zero => intro b _ _ hm; exact absurd hm (Nat.not_lt_zero _)
            | succ fu ih_lp2 =>
              intro b hb hnb hm
              refine nw_iload C 2 dX4_judged_72 rfl 74 rfl ?_
              refine nw_aload_n C 0 dX4_judged_74 rfl 75 rfl ?_
              refine nw_get C hmX (T := TX4) rfl in_X4 14 (by decide) q1636 (Or.inl rfl) rfl dX4_judged_75 78 rfl ?_
              refine nw_callF C (mJ3_size _ C.hfl d (am 12) (wo_m (sg_wo σ)) (fun k => nd_bx d (wo_o (sg_wo σ) k)) (fun q => ro q = 7013) H hB hmWo.2) kJ3_size (ci := 13) rfl q1607 q1611 (by decide +kernel) fc_List_size (hmWo.2.is C) (As := []) (rest := [.int (nI b)]) rfl rfl ⟨⟨Nat.le_of_ble_eq_true rfl, Nat.le_of_ble_eq_true rfl⟩, Nat.le_of_ble_eq_true rfl, Nat.le_of_ble_eq_true rfl⟩ (Nat.le_of_ble_eq_true rfl) (fun _ h8 h9 => absurd h9 (Nat.not_le.mpr h8)) dX4_judged_78 83 rfl (nw_rdK ?_) nw_noX
              refine nw_icmpgeN C (by omega) 115 dX4_judged_83 (by decide) 86 rfl (fun h5 => ?_) (fun h5 => ?_)
              · have hfb := sp_any_false.mpr (fun k hk => hnb k (show k < b by omega))
                rw [show b = wo_m (sg_wo σ) by omega] at hfb
                refine nw_iconst C (nI 3) dX4_judged_115 (by decide) 116 rfl ?_
                exact nw_iret C dX4_judged_116 (Nat.le_refl _) (Nat.le_refl _) ⟨congrArg (fun z => some (Value.int (nI z))) (show (3) = (sp_judge (sg_wo σ) u h v9) from (by unfold sp_judge sp_known; rw [if_neg (fun e => h3 e.symm), hfa, hfb]; rfl)), rfl⟩
              · refine nw_aload_n C 0 dX4_judged_86 rfl 87 rfl ?_
                refine nw_get C hmX (T := TX4) rfl in_X4 14 (by decide) q1636 (Or.inl rfl) rfl dX4_judged_87 90 rfl ?_
                refine nw_iload C 2 dX4_judged_90 rfl 92 rfl ?_
                refine nw_callF C (mJ3_get _ C.hfl d (am 12) (wo_m (sg_wo σ)) (fun k => nd_bx d (wo_o (sg_wo σ) k)) (fun q => ro q = 7013) b H hB hmWo.2 (by omega)) kJ3_get (ci := 13) rfl q1615 q1618 (by decide +kernel) fc_List_get (hmWo.2.is C) (As := [.int (nI b)]) (rest := []) rfl rfl ⟨⟨Nat.le_of_ble_eq_true rfl, Nat.le_of_ble_eq_true rfl⟩, Nat.le_of_ble_eq_true rfl, Nat.le_of_ble_eq_true rfl⟩ (Nat.le_of_ble_eq_true rfl) (fun _ h8 h9 => absurd h9 (Nat.not_le.mpr h8)) dX4_judged_92 97 rfl (nw_rdK ?_) nw_noX
                have hb6 : wo_o (sg_wo σ) b < 128 := (by have := okd.2.2 b (by omega); omega)
                refine nw_cast C (ci := 16) rfl (C.E0.boxIs hb6) q1711 dX4_judged_97 100 rfl ?_
                refine nw_callV C (mJ19_intValue _ C.hfl d (wo_o (sg_wo σ) b) H hB (by omega)) kJ19_intValue q1712 (C.E0.boxIs (by omega)) (As := []) (rest := []) rfl rfl ⟨⟨Nat.le_of_ble_eq_true rfl, Nat.le_of_ble_eq_true rfl⟩, Nat.le_of_ble_eq_true rfl, Nat.le_of_ble_eq_true rfl⟩ (Nat.le_of_ble_eq_true rfl) (fun _ h8 h9 => absurd h9 (Nat.not_le.mpr h8)) dX4_judged_100 103 rfl (nw_rdK ?_) nw_noX
                refine nw_iload_n C 1 dX4_judged_103 rfl 104 rfl ?_
                refine nw_icmpne C 109 dX4_judged_104 (by decide) 107 rfl (fun h7 => ?_) (fun h7 => ?_)
                · refine nw_iincN C 2 (c0 := 1) [(4, .int (nI (b + 1))), (0, .ref y), (3, .int v9)] dX4_judged_109 rfl (by decide) rfl 112 rfl ?_
                  refine nw_goto C 72 dX4_judged_112 (by decide) ?_
                  exact (nw_sub [1, 2, 0] rfl (ih_lp2 (b + 1) (by omega) (fun k hk => (Nat.lt_or_ge k b).elim (fun g5 => hnb k g5) (fun g5 => by rw [show k = b by omega]; exact (by simp [h7]))) (by omega)))
                · refine nw_iconst C (nI 2) dX4_judged_107 (by decide) 108 rfl ?_
                  exact nw_iret C dX4_judged_108 (Nat.le_refl _) (Nat.le_refl _) ⟨congrArg (fun z => some (Value.int (nI z))) (show (2) = (sp_judge (sg_wo σ) u h v9) from (by unfold sp_judge sp_known; rw [if_neg (fun e => h3 e.symm), hfa, sp_any_iff.mpr ⟨b, by omega, (by simp [h7] : (fun k => nI (wo_o (sg_wo σ) k) == v9) b = true)⟩]; rfl)), rfl⟩
          exact (nw_sub [1, 2, 0] rfl (lp2 _ 0 (by omega) (fun k hk => absurd hk (Nat.not_lt_zero k)) (Nat.lt_succ_self _)))
        · refine nw_aload C 2 dX4_judged_48 rfl 50 rfl ?_
          refine nw_iload C 4 dX4_judged_50 rfl 52 rfl ?_
          refine nw_ialdN C (nI (wo_n (sg_wo σ) a)) hmWo.1 (by omega) rfl dX4_judged_52 53 rfl ?_
          refine nw_istore C [(7, .int (nI (wo_n (sg_wo σ) a))), (0, .ref y), (3, .int v9), (4, .ref (am 11)), (5, .int (nI 4)), (6, .int (nI a))] dX4_judged_53 (by decide) rfl 55 rfl ?_
          refine nw_iload C 0 dX4_judged_55 rfl 57 rfl ?_
          refine nw_iload_n C 2 dX4_judged_57 rfl 58 rfl ?_
          refine nw_icmpne C 63 dX4_judged_58 (by decide) 61 rfl (fun h8 => ?_) (fun h8 => ?_)
          · refine nw_iincN C 5 (c0 := 1) [(6, .int (nI (a + 1))), (7, .int (nI (wo_n (sg_wo σ) a))), (0, .ref y), (3, .int v9), (4, .ref (am 11)), (5, .int (nI 4))] dX4_judged_63 rfl (by decide) rfl 66 rfl ?_
            refine nw_goto C 41 dX4_judged_66 (by decide) ?_
            exact (nw_sub [2, 3, 4, 5, 0] rfl (ih_lp1 (a + 1) (by omega) (fun k hk => (Nat.lt_or_ge k a).elim (fun g5 => hna k g5) (fun g5 => by rw [show k = a by omega]; exact (by simp [h8]))) (by omega)))
          · refine nw_iconst C (nI 2) dX4_judged_61 (by decide) 62 rfl ?_
            exact nw_iret C dX4_judged_62 (Nat.le_refl _) (Nat.le_refl _) ⟨congrArg (fun z => some (Value.int (nI z))) (show (2) = (sp_judge (sg_wo σ) u h v9) from (by unfold sp_judge sp_known; rw [if_neg (fun e => h3 e.symm), sp_any_iff.mpr ⟨a, by omega, (by simp [h8] : (fun h => nI (wo_n (sg_wo σ) h) == v9) a = true)⟩]; rfl)), rfl⟩
    exact (nw_sub [3, 6, 2, 1, 0] rfl (lp1 _ 0 (by omega) (fun k hk => absurd hk (Nat.not_lt_zero k)) (Nat.lt_succ_self _)))
  · refine nw_aload_n C 1 dX4_judged_10 rfl 11 rfl ?_
    refine nw_get C hg.1 (T := TX11) rfl in_X11 5 (by decide) q1790 (Or.inl rfl) rfl dX4_judged_11 14 rfl ?_
    refine nw_iload_n C 2 dX4_judged_14 rfl 15 rfl ?_
    refine nw_ishr C ((gd_h u) >>> ((nI h) &&& 31)) dX4_judged_15 rfl 16 rfl ?_
    refine nw_iconst C (nI 1) dX4_judged_16 (by decide) 17 rfl ?_
    refine nw_iand C (((gd_h u) >>> ((nI h) &&& 31)) &&& (nI 1)) dX4_judged_17 rfl 18 rfl ?_
    refine nw_ifne C 25 dX4_judged_18 (by decide) 21 rfl (fun h9 => ?_) (fun h9 => ?_)
    · refine nw_iconst C (nI 1) dX4_judged_25 (by decide) 26 rfl ?_
      exact nw_iret C dX4_judged_26 (Nat.le_refl _) (Nat.le_refl _) ⟨congrArg (fun z => some (Value.int (nI z))) (show (1) = (sp_judge (sg_wo σ) u h v9) from (by unfold sp_judge; rw [if_pos h3.symm, if_pos (nw_bit1 h9)])), rfl⟩
    · refine nw_iconst C (nI 0) dX4_judged_21 (by decide) 22 rfl ?_
      refine nw_goto C 26 dX4_judged_22 (by decide) ?_
      exact nw_iret C dX4_judged_26 (Nat.le_refl _) (Nat.le_refl _) ⟨congrArg (fun z => some (Value.int (nI z))) (show (0) = (sp_judge (sg_wo σ) u h v9) from (by unfold sp_judge; rw [if_pos h3.symm, if_neg (nw_bit0 h9)])), rfl⟩
