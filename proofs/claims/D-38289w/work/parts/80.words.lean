/-! ===== words ===== -/
theorem nwLm.kp {d : nwD} {a n ar cap : Nat} {es : Nat → Nat} {P : Nat → Prop} {mo : Int32} {f : Nat → Option Nat} {H H1 : Heap} (h : nwLm d a n es P mo ar cap f H) (ha : H1[a]? = H[a]?) (hq : ∀ q, P q → q < H.size → H1[q]? = H[q]?) : nwLm d a n es P mo ar cap f H1 := by
  obtain ⟨⟨h1, h2, h3, h4⟩, h5, h6⟩ := h
  exact ⟨⟨h1.kept ha, h2, h3, h4.imp id (fun h => ⟨h.1, h.2.kept (hq ar (h5 (by omega)) h.2.lt)⟩)⟩, h5, h6⟩
theorem nwLm.lt' {d : nwD} {a n ar cap : Nat} {es : Nat → Nat} {P : Nat → Prop} {mo : Int32} {f : Nat → Option Nat} {H : Heap} (h : nwLm d a n es P mo ar cap f H) : a < H.size := h.1.1.lt
theorem nw_upN {f : Nat → Nat} {k j v : Nat} : upd (fun k => nI (f k)) k (nI v) j = nI (sp_up f k v j) := by
  unfold upd sp_up
  by_cases e : j = k
  · rw [if_pos e, if_pos e]
  · rw [if_neg e, if_neg e]
theorem sp_row_b {sd : Nat} (h : sd < 2 ^ 20) : ∀ i, sp_row sd i < 2 ^ 20
  | 0 => h
  | i + 1 => by have := sp_row_lt sd i; omega
theorem kX10_strike : nwPV "NightwatchWall$Guard" yX10_strike cX10_strike 2 (some .int) 1 := ⟨⟨q1162, q1163, q117, q1164⟩, rfl, by decide +kernel, by decide +kernel, by decide +kernel⟩
theorem kX2_isKnown : nwPV "NightwatchWall$Words" yX2_isKnown cX2_isKnown 3 (some .boolean) 1 := ⟨⟨q1155, q1156, q91, q1157⟩, rfl, by decide +kernel, by decide +kernel, by decide +kernel⟩
theorem kX3_next : nwPV "NightwatchWall$Row" yX3_next cX3_next 1 (some .int) 0 := ⟨⟨q197, q198, q92, q199⟩, rfl, by decide +kernel, by decide +kernel, by decide +kernel⟩
theorem kX3_init : nwPI yX3_init cX3_init 2 1 := ⟨⟨q92, q184, q185⟩, rfl, by decide +kernel, by decide +kernel, by decide +kernel⟩
theorem kJ3_clear : nwPV "java/util/ArrayList" yJ3_clear cJ3_clear 4 none 0 := ⟨⟨q193, q194, q90, q195⟩, rfl, by decide +kernel, by decide +kernel, by decide +kernel⟩
set_option maxHeartbeats 4000000 in
theorem mX10_strike (l : Launch) (hf : l.flags = flags0) (d : nwD) (g : Nat) (v0 v1 v2 v3 : Value) (kk : Nat) (hh : Int32) (why : Nat) (H : Heap) (hB : nd_B d ≤ H.size) (hgB : nd_B d ≤ g) (hg : nwO d g 4 [v0, v1, v2, v3, .int (nI kk), .int hh] H)  : nwMt l d yX10_strike cX10_strike 2 (some .int) 1 20 0 0 [.ref g, .int (nI why)] H (fun v H1 => v = some (.int (nI why)) ∧ nwO d g 4 [v0, v1, v2, v3, .int (nI (kk + 1)), .int hh] H1) nwNo (fun q => q = g ∨ H.size ≤ q) := by
  refine nw_start "NightwatchWall$Guard" "strike" hf (by decide +kernel) rfl rfl (fun _ h => Or.inr h) (fun q h => h.elim (fun e => by rw [e]; exact hgB) (fun h => Nat.le_trans hB h)) (Nat.le_of_ble_eq_true rfl) ?_
  intro X C
  have hE := C.E0
  have hB0 := hB
  have hsz : H.size ≤ H.size := Nat.le_refl _
  show nwV X _ _ 2 H 0 0 0 [(0, .ref g), (1, .int (nI why))] []
  refine nw_aload_n C 0 dX10_strike_0 rfl 1 rfl ?_
  refine nw_dup C dX10_strike_1 rfl 2 rfl ?_
  refine nw_get C hg (T := TX10) rfl in_X10 4 (by decide) q1029 (Or.inl rfl) rfl dX10_strike_2 5 rfl ?_
  refine nw_iconst C (nI 1) dX10_strike_5 (by decide) 6 rfl ?_
  refine nw_iaddN C dX10_strike_6 7 rfl ?_
  refine nw_put C hg (Or.inl rfl) (T := TX10) (ty0 := tyX10) rfl in_X10 tyX10_ok nmX10 4 (by decide) q1029 (Or.inl rfl) rfl rfl rfl (Nat.le_of_ble_eq_true rfl) dX10_strike_7 10 rfl (fun H1 ho2 hz3 hq4 => ?_)
  have ho2 : nwO d g 4 [v0, v1, v2, v3, .int (nI (kk + 1)), .int hh] H1 := ho2
  have hsz := Nat.le_trans hsz (Nat.le_of_eq hz3.symm)
  have hB := Nat.le_trans hB0 hsz
  refine nw_iload_n C 1 dX10_strike_10 rfl 11 rfl ?_
  exact nw_iret C dX10_strike_11 (Nat.le_refl _) (Nat.le_refl _) ⟨rfl, ho2⟩
set_option maxHeartbeats 4000000 in
theorem mX2_isSpent (l : Launch) (hf : l.flags = flags0) (d : nwD) (g row now old : Nat) (P : Nat → Prop) (wo : spWo)  (H : Heap) (hB : nd_B d ≤ H.size) (hg : nwO d g 5 [.int (nI (wo_s wo)), .ref row, .ref now, .ref old] H) (hr : nwO d row 6 [.int (nI (wo_x wo))] H) (hn : nwI d now 0 4 (fun h => nI (wo_n wo h)) H) (hL : nwLi d old (wo_m wo) (fun k => nd_bx d (wo_o wo k)) P H) (hk : okWo wo)  : nwRd l d yX2_isSpent cX2_isSpent 1 (some .boolean) 2 40 [.ref g] H (some (.int (b2i (decide (wo_m wo = 8))))) := by
  refine nw_rd "NightwatchWall$Words" "isSpent" hf (by decide +kernel) rfl rfl hB (Nat.le_of_ble_eq_true rfl) ?_
  intro X C
  have hE := C.E0
  obtain ⟨⟨hk1, hk2, hk3⟩, hk4, hk5⟩ := id hk
  show nwV X _ _ 1 H 0 0 0 [(0, .ref g)] []
  refine nw_aload_n C 0 dX2_isSpent_0 rfl 1 rfl ?_
  refine nw_get C hg (T := TX2) rfl in_X2 3 (by decide) q205 (Or.inl rfl) rfl dX2_isSpent_1 4 rfl ?_
  refine nw_callV C (mJ3_size _ C.hfl d old (wo_m wo) (fun k => nd_bx d (wo_o wo k)) P H hB hL) kJ3_size q1132 (hL.is C) (As := []) (rest := []) rfl rfl ⟨⟨Nat.le_of_ble_eq_true rfl, Nat.le_of_ble_eq_true rfl⟩, Nat.le_of_ble_eq_true rfl, Nat.le_of_ble_eq_true rfl⟩ (Nat.le_of_ble_eq_true rfl) (fun _ h8 h9 => absurd h9 (Nat.not_le.mpr h8)) dX2_isSpent_4 7 rfl (nw_rdK ?_) nw_noX
  refine nw_bipush C (nI 8) dX2_isSpent_7 (by decide) 9 rfl ?_
  refine nw_icmpneN C (by omega) 16 dX2_isSpent_9 (by decide) 12 rfl (fun h1 => ?_) (fun h1 => ?_)
  · refine nw_iconst C (nI 0) dX2_isSpent_16 (by decide) 17 rfl ?_
    exact nw_nret C dX2_isSpent_17 (b2i_narrow false) (Nat.le_refl _) (Nat.le_refl _) ⟨congrArg (fun z => some (Value.int (b2i z))) (show (false) = (decide (wo_m wo = 8)) from (by simp [h1])), rfl⟩
  · refine nw_iconst C (nI 1) dX2_isSpent_12 (by decide) 13 rfl ?_
    refine nw_goto C 17 dX2_isSpent_13 (by decide) ?_
    exact nw_nret C dX2_isSpent_17 (b2i_narrow true) (Nat.le_refl _) (Nat.le_refl _) ⟨congrArg (fun z => some (Value.int (b2i z))) (show (true) = (decide (wo_m wo = 8)) from (by simp [h1])), rfl⟩
set_option maxHeartbeats 4000000 in
theorem mX2_isKnown (l : Launch) (hf : l.flags = flags0) (d : nwD) (g row now old : Nat) (P : Nat → Prop) (wo : spWo) (wv : Int32) (H : Heap) (hB : nd_B d ≤ H.size) (hg : nwO d g 5 [.int (nI (wo_s wo)), .ref row, .ref now, .ref old] H) (hr : nwO d row 6 [.int (nI (wo_x wo))] H) (hn : nwI d now 0 4 (fun h => nI (wo_n wo h)) H) (hL : nwLi d old (wo_m wo) (fun k => nd_bx d (wo_o wo k)) P H) (hk : okWo wo)  : nwRd l d yX2_isKnown cX2_isKnown 3 (some .boolean) 4 84 [.ref g, .int wv] H (some (.int (b2i (sp_known wo wv)))) := by
  refine nw_rd "NightwatchWall$Words" "isKnown" hf (by decide +kernel) rfl rfl hB (Nat.le_of_ble_eq_true rfl) ?_
  intro X C
  have hE := C.E0
  obtain ⟨⟨hk1, hk2, hk3⟩, hk4, hk5⟩ := id hk
  show nwV X _ _ 3 H 0 0 0 [(0, .ref g), (1, .int wv)] []
  refine nw_iconst C (nI 0) dX2_isKnown_0 (by decide) 1 rfl ?_
  refine nw_istore_n C [(2, .int (nI 0)), (0, .ref g), (1, .int wv)] dX2_isKnown_1 (by decide) rfl 2 rfl ?_
  have lp1 : ∀ (fu : Nat) (i : Nat), (i ≤ 4) → (∀ k, k < i → (fun h => nI (wo_n wo h) == wv) k = false) → 4 - i < fu → nwV X (nwNew H) (nwQE X (fun v H1 => v = some (.int (b2i (sp_known wo wv))) ∧ H1 = H) nwNo (nwNew H) 0 0) 3 H 0 0 2 [(0, .ref g), (1, .int wv), (2, .int (nI i))] [] := by
    intro fu
    induction fu with
    | zero => intro i _ _ hm; exact absurd hm (Nat.not_lt_zero _)
    | succ fu ih_lp1 =>
      intro i hi hno hm
      refine nw_iload_n C 2 dX2_isKnown_2 rfl 3 rfl ?_
      refine nw_iconst C (nI 4) dX2_isKnown_3 (by decide) 4 rfl ?_
      refine nw_icmpgeN C (by omega) 25 dX2_isKnown_4 (by decide) 7 rfl (fun h2 => ?_) (fun h2 => ?_)
      · have ha1 : sp_any (fun h => nI (wo_n wo h) == wv) 4 = false := sp_any_false.mpr (fun k hk => hno k (by omega))
        refine nw_iconst C (nI 0) dX2_isKnown_25 (by decide) 26 rfl ?_
        refine nw_istore_n C [(2, .int (nI 0)), (0, .ref g), (1, .int wv)] dX2_isKnown_26 (by decide) rfl 27 rfl ?_
        have lp3 : ∀ (fu : Nat) (j : Nat), (j ≤ wo_m wo) → (∀ k, k < j → (fun k => nI (wo_o wo k) == wv) k = false) → wo_m wo - j < fu → nwV X (nwNew H) (nwQE X (fun v H1 => v = some (.int (b2i (sp_known wo wv))) ∧ H1 = H) nwNo (nwNew H) 0 0) 3 H 0 0 27 [(0, .ref g), (1, .int wv), (2, .int (nI j))] [] := by
          intro fu
          induction fu with
          | zero => intro j _ _ hm; exact absurd hm (Nat.not_lt_zero _)
          | succ fu ih_lp3 =>
            intro j hj hno2 hm
            refine nw_iload_n C 2 dX2_isKnown_27 rfl 28 rfl ?_
            refine nw_aload_n C 0 dX2_isKnown_28 rfl 29 rfl ?_
            refine nw_get C hg (T := TX2) rfl in_X2 3 (by decide) q205 (Or.inl rfl) rfl dX2_isKnown_29 32 rfl ?_
            refine nw_callV C (mJ3_size _ C.hfl d old (wo_m wo) (fun k => nd_bx d (wo_o wo k)) P H hB hL) kJ3_size q1132 (hL.is C) (As := []) (rest := [.int (nI j)]) rfl rfl ⟨⟨Nat.le_of_ble_eq_true rfl, Nat.le_of_ble_eq_true rfl⟩, Nat.le_of_ble_eq_true rfl, Nat.le_of_ble_eq_true rfl⟩ (Nat.le_of_ble_eq_true rfl) (fun _ h8 h9 => absurd h9 (Nat.not_le.mpr h8)) dX2_isKnown_32 35 rfl (nw_rdK ?_) nw_noX
            refine nw_icmpgeN C (by omega) 64 dX2_isKnown_35 (by decide) 38 rfl (fun h4 => ?_) (fun h4 => ?_)
            · have hb9 : sp_known wo wv = false := by unfold sp_known; rw [ha1, (sp_any_false (p := (fun k => nI (wo_o wo k) == wv))).mpr (fun k hk => hno2 k (by omega))]; rfl
              refine nw_iconst C (nI 0) dX2_isKnown_64 (by decide) 65 rfl ?_
              exact nw_nret C dX2_isKnown_65 (b2i_narrow false) (Nat.le_refl _) (Nat.le_refl _) ⟨congrArg (fun z => some (Value.int (b2i z))) (show (false) = (sp_known wo wv) from hb9.symm), rfl⟩
            · refine nw_aload_n C 0 dX2_isKnown_38 rfl 39 rfl ?_
              refine nw_get C hg (T := TX2) rfl in_X2 3 (by decide) q205 (Or.inl rfl) rfl dX2_isKnown_39 42 rfl ?_
              refine nw_iload_n C 2 dX2_isKnown_42 rfl 43 rfl ?_
              refine nw_callV C (mJ3_get _ C.hfl d old (wo_m wo) (fun k => nd_bx d (wo_o wo k)) P j H hB hL (by omega)) kJ3_get q1158 (hL.is C) (As := [.int (nI j)]) (rest := []) rfl rfl ⟨⟨Nat.le_of_ble_eq_true rfl, Nat.le_of_ble_eq_true rfl⟩, Nat.le_of_ble_eq_true rfl, Nat.le_of_ble_eq_true rfl⟩ (Nat.le_of_ble_eq_true rfl) (fun _ h8 h9 => absurd h9 (Nat.not_le.mpr h8)) dX2_isKnown_43 46 rfl (nw_rdK ?_) nw_noX
              have hb5 : wo_o wo j < 128 := (by have := hk5 j (by omega); omega)
              refine nw_cast C (ci := 16) rfl (C.E0.boxIs hb5) q1159 dX2_isKnown_46 49 rfl ?_
              refine nw_callV C (mJ19_intValue _ C.hfl d (wo_o wo j) H hB (by omega)) kJ19_intValue q1160 (C.E0.boxIs (by omega)) (As := []) (rest := []) rfl rfl ⟨⟨Nat.le_of_ble_eq_true rfl, Nat.le_of_ble_eq_true rfl⟩, Nat.le_of_ble_eq_true rfl, Nat.le_of_ble_eq_true rfl⟩ (Nat.le_of_ble_eq_true rfl) (fun _ h8 h9 => absurd h9 (Nat.not_le.mpr h8)) dX2_isKnown_49 52 rfl (nw_rdK ?_) nw_noX
              refine nw_iload_n C 1 dX2_isKnown_52 rfl 53 rfl ?_
              refine nw_icmpne C 58 dX2_isKnown_53 (by decide) 56 rfl (fun h6 => ?_) (fun h6 => ?_)
              · refine nw_iincN C 2 (c0 := 1) [(2, .int (nI (j + 1))), (0, .ref g), (1, .int wv)] dX2_isKnown_58 rfl (by decide) rfl 61 rfl ?_
                refine nw_goto C 27 dX2_isKnown_61 (by decide) ?_
                exact (nw_sub [1, 2, 0] rfl (ih_lp3 (j + 1) (by omega) (sp_no hno2 (by simp [h6])) (by omega)))
              · have hb9 : sp_known wo wv = true := by unfold sp_known; rw [(sp_any_iff (p := (fun k => nI (wo_o wo k) == wv))).mpr ⟨j, by omega, by simp [h6]⟩]; simp
                refine nw_iconst C (nI 1) dX2_isKnown_56 (by decide) 57 rfl ?_
                exact nw_nret C dX2_isKnown_57 (b2i_narrow true) (Nat.le_refl _) (Nat.le_refl _) ⟨congrArg (fun z => some (Value.int (b2i z))) (show (true) = (sp_known wo wv) from hb9.symm), rfl⟩
        exact (nw_sub [1, 2, 0] rfl (lp3 _ 0 (Nat.zero_le _) (fun k hk => absurd hk (Nat.not_lt_zero k)) (Nat.lt_succ_self _)))
      · refine nw_aload_n C 0 dX2_isKnown_7 rfl 8 rfl ?_
        refine nw_get C hg (T := TX2) rfl in_X2 2 (by decide) q203 (Or.inl rfl) rfl dX2_isKnown_8 11 rfl ?_
        refine nw_iload_n C 2 dX2_isKnown_11 rfl 12 rfl ?_
        refine nw_ialdN C (nI (wo_n wo i)) hn (by omega) rfl dX2_isKnown_12 13 rfl ?_
        refine nw_iload_n C 1 dX2_isKnown_13 rfl 14 rfl ?_
        refine nw_icmpne C 19 dX2_isKnown_14 (by decide) 17 rfl (fun h7 => ?_) (fun h7 => ?_)
        · refine nw_iincN C 2 (c0 := 1) [(2, .int (nI (i + 1))), (0, .ref g), (1, .int wv)] dX2_isKnown_19 rfl (by decide) rfl 22 rfl ?_
          refine nw_goto C 2 dX2_isKnown_22 (by decide) ?_
          exact (nw_sub [1, 2, 0] rfl (ih_lp1 (i + 1) (by omega) (sp_no hno (by simp [h7])) (by omega)))
        · have hb9 : sp_known wo wv = true := by unfold sp_known; rw [(sp_any_iff (p := (fun h => nI (wo_n wo h) == wv))).mpr ⟨i, by omega, by simp [h7]⟩]; rfl
          refine nw_iconst C (nI 1) dX2_isKnown_17 (by decide) 18 rfl ?_
          exact nw_nret C dX2_isKnown_18 (b2i_narrow true) (Nat.le_refl _) (Nat.le_refl _) ⟨congrArg (fun z => some (Value.int (b2i z))) (show (true) = (sp_known wo wv) from hb9.symm), rfl⟩
  exact (nw_sub [1, 2, 0] rfl (lp1 _ 0 (Nat.zero_le _) (fun k hk => absurd hk (Nat.not_lt_zero k)) (Nat.lt_succ_self _)))
set_option maxHeartbeats 4000000 in
theorem mX2_answer (l : Launch) (hf : l.flags = flags0) (d : nwD) (g row now old : Nat) (P : Nat → Prop) (wo : spWo) (own cl : Nat) (P2 : Nat → Prop) (u : spGd) (gr : spGr) (h : Nat) (v : Int32) (H : Heap) (hB : nd_B d ≤ H.size) (hg : nwO d g 5 [.int (nI (wo_s wo)), .ref row, .ref now, .ref old] H) (hr : nwO d row 6 [.int (nI (wo_x wo))] H) (hn : nwI d now 0 4 (fun h => nI (wo_n wo h)) H) (hL : nwLi d old (wo_m wo) (fun k => nd_bx d (wo_o wo k)) P H) (hk : okWo wo) (hu : nwGd d own cl P2 u H) (hku : okGd gr u) (huB : nd_B d ≤ own) (hgo : g ≠ own) (hh : h < 4) : nwMt l d yX2_answer cX2_answer 4 (some .int) 5 106 0 0 [.ref g, .ref own, .int (nI h), .int v] H (fun v9 H1 => v9 = some (.int (nI (wo_answer wo u h v).1)) ∧ nwO d own 4 [.int (nI (gd_a (wo_answer wo u h v).2)), .int (nI (gd_b (wo_answer wo u h v).2)), .int (nI (gd_s (wo_answer wo u h v).2)), .ref cl, .int (nI (gd_k (wo_answer wo u h v).2)), .int (gd_h (wo_answer wo u h v).2)] H1) nwNo (fun q => q = own ∨ H.size ≤ q) := by
  refine nw_start "NightwatchWall$Words" "answer" hf (by decide +kernel) rfl rfl (fun _ h => Or.inr h) (fun q h => h.elim (fun e => by rw [e]; exact huB) (fun h => Nat.le_trans hB h)) (Nat.le_of_ble_eq_true rfl) ?_
  intro X C
  have hE := C.E0
  have hB0 := hB
  have hsz : H.size ≤ H.size := Nat.le_refl _
  obtain ⟨⟨hk1, hk2, hk3⟩, hk4, hk5⟩ := id hk
  show nwV X _ _ 4 H 0 0 0 [(0, .ref g), (1, .ref own), (2, .int (nI h)), (3, .int v)] []
  refine nw_aload_n C 1 dX2_answer_0 rfl 1 rfl ?_
  refine nw_callV C (mX10_isBarred _ C.hfl d own cl P2 u gr H hB hu hku) kX10_isBarred q1153 (hu.1.is C (ci := 4) rfl) (As := []) (rest := []) rfl rfl ⟨⟨Nat.le_of_ble_eq_true rfl, Nat.le_of_ble_eq_true rfl⟩, Nat.le_of_ble_eq_true rfl, Nat.le_of_ble_eq_true rfl⟩ (Nat.le_of_ble_eq_true rfl) (fun _ h8 h9 => absurd h9 (Nat.not_le.mpr h8)) dX2_answer_1 4 rfl (nw_rdK ?_) nw_noX
  refine nw_ifeqB C 9 dX2_answer_4 (by decide) 7 rfl (fun h1 => ?_) (fun h1 => ?_)
  · have h1 := of_decide_eq_false h1
    refine nw_aload_n C 0 dX2_answer_9 rfl 10 rfl ?_
    refine nw_get C hg (T := TX2) rfl in_X2 2 (by decide) q203 (Or.inl rfl) rfl dX2_answer_10 13 rfl ?_
    refine nw_iload_n C 2 dX2_answer_13 rfl 14 rfl ?_
    refine nw_ialdN C (nI (wo_n wo h)) hn (by omega) rfl dX2_answer_14 15 rfl ?_
    refine nw_iload_n C 3 dX2_answer_15 rfl 16 rfl ?_
    refine nw_icmpeq C 37 dX2_answer_16 (by decide) 19 rfl (fun h2 => ?_) (fun h2 => ?_)
    · refine nw_aload_n C 1 dX2_answer_37 rfl 38 rfl ?_
      refine nw_getN C hu.1 (T := TX10) rfl in_X10 5 (by decide) q1031 rfl rfl dX2_answer_38 41 rfl ?_
      refine nw_iload_n C 2 dX2_answer_41 rfl 42 rfl ?_
      refine nw_ishr C ((gd_h u) >>> ((nI h) &&& 31)) dX2_answer_42 rfl 43 rfl ?_
      refine nw_iconst C (nI 1) dX2_answer_43 (by decide) 44 rfl ?_
      refine nw_iand C (((gd_h u) >>> ((nI h) &&& 31)) &&& (nI 1)) dX2_answer_44 rfl 45 rfl ?_
      refine nw_iconst C (nI 1) dX2_answer_45 (by decide) 46 rfl ?_
      refine nw_icmpne C 55 dX2_answer_46 (by decide) 49 rfl (fun h3 => ?_) (fun h3 => ?_)
      · refine nw_aload_n C 1 dX2_answer_55 rfl 56 rfl ?_
        refine nw_dup C dX2_answer_56 rfl 57 rfl ?_
        refine nw_getN C hu.1 (T := TX10) rfl in_X10 5 (by decide) q1031 rfl rfl dX2_answer_57 60 rfl ?_
        refine nw_iconst C (nI 1) dX2_answer_60 (by decide) 61 rfl ?_
        refine nw_iload_n C 2 dX2_answer_61 rfl 62 rfl ?_
        refine nw_ishl C ((nI 1) <<< ((nI h) &&& 31)) dX2_answer_62 rfl 63 rfl ?_
        refine nw_ior C ((gd_h u) ||| ((nI 1) <<< ((nI h) &&& 31))) dX2_answer_63 rfl 64 rfl ?_
        refine nw_putN C hu.1 (Or.inl rfl) (T := TX10) (ty0 := tyX10) rfl in_X10 tyX10_ok nmX10 5 (by decide) q1031 rfl rfl rfl rfl (Nat.le_of_ble_eq_true rfl) dX2_answer_64 67 rfl (fun H4 ho5 hz6 hq7 => ?_)
        have ho5 : nwO d own 4 [.int (nI (gd_a u)), .int (nI (gd_b u)), .int (nI (gd_s u)), .ref cl, .int (nI (gd_k u)), .int ((gd_h u) ||| ((nI 1) <<< ((nI h) &&& 31)))] H4 := ho5
        refine nw_iconst C (nI 0) dX2_answer_67 (by decide) 68 rfl ?_
        have hop : wo_answer wo u h v = (0, gd_told u h) := by simp [wo_answer, sp_judge, h1, h2, h3]
        exact nw_iret C dX2_answer_68 (Nat.le_refl _) (Nat.le_refl _) (by rw [hop]; exact ⟨rfl, ho5⟩)
      · refine nw_aload_n C 1 dX2_answer_49 rfl 50 rfl ?_
        refine nw_iconst C (nI 1) dX2_answer_50 (by decide) 51 rfl ?_
        refine nw_callV C (mX10_strike _ C.hfl d own (.int (nI (gd_a u))) (.int (nI (gd_b u))) (.int (nI (gd_s u))) (.ref cl) (gd_k u) (gd_h u) 1 H hB huB hu.1) kX10_strike q1161 (hu.1.is C (ci := 4) rfl) (As := [.int (nI 1)]) (rest := []) rfl rfl ⟨⟨Nat.le_of_ble_eq_true rfl, Nat.le_of_ble_eq_true rfl⟩, (show 0 + 0 ≤ 0 by omega), (show 0 + 0 ≤ 0 by omega)⟩ (Nat.le_of_ble_eq_true rfl) (fun q8 h8 h9 => h9.elim (fun e9 => by rw [e9]; exact (Or.inl rfl)) (fun e9 => absurd h8 (Nat.not_lt.mpr e9))) dX2_answer_51 54 rfl (fun v9 H8 hR9 hz10 hq11 => ?_) nw_noX
        obtain ⟨rfl, ho12⟩ := hR9
        show nwV X _ _ 4 H8 (0 + 0) (0 + 0) 54 [(0, .ref g), (1, .ref own), (2, .int (nI h)), (3, .int v)] [.int (nI 1)]
        refine nw_wide (k' := 0) (n' := 0) (by omega) (by omega) ?_
        have hop : wo_answer wo u h v = (1, gd_strike u) := by simp [wo_answer, sp_judge, h1, h2, h3]
        exact nw_iret C dX2_answer_54 (Nat.le_refl _) (Nat.le_refl _) (by rw [hop]; exact ⟨rfl, ho12⟩)
    · refine nw_aload_n C 1 dX2_answer_19 rfl 20 rfl ?_
      refine nw_aload_n C 0 dX2_answer_20 rfl 21 rfl ?_
      refine nw_iload_n C 3 dX2_answer_21 rfl 22 rfl ?_
      refine nw_callV C (mX2_isKnown _ C.hfl d g row now old P wo v H hB hg hr hn hL hk) kX2_isKnown q1154 (hg.is C (ci := 5) rfl) (As := [.int v]) (rest := [.ref own]) rfl rfl ⟨⟨Nat.le_of_ble_eq_true rfl, Nat.le_of_ble_eq_true rfl⟩, Nat.le_of_ble_eq_true rfl, Nat.le_of_ble_eq_true rfl⟩ (Nat.le_of_ble_eq_true rfl) (fun _ h8 h9 => absurd h9 (Nat.not_le.mpr h8)) dX2_answer_22 25 rfl (nw_rdK ?_) nw_noX
      refine nw_ifeqB C 32 dX2_answer_25 (by decide) 28 rfl (fun h13 => ?_) (fun h13 => ?_)
      · refine nw_iconst C (nI 3) dX2_answer_32 (by decide) 33 rfl ?_
        refine nw_callV C (mX10_strike _ C.hfl d own (.int (nI (gd_a u))) (.int (nI (gd_b u))) (.int (nI (gd_s u))) (.ref cl) (gd_k u) (gd_h u) 3 H hB huB hu.1) kX10_strike q1161 (hu.1.is C (ci := 4) rfl) (As := [.int (nI 3)]) (rest := []) rfl rfl ⟨⟨Nat.le_of_ble_eq_true rfl, Nat.le_of_ble_eq_true rfl⟩, (show 0 + 0 ≤ 0 by omega), (show 0 + 0 ≤ 0 by omega)⟩ (Nat.le_of_ble_eq_true rfl) (fun q8 h8 h9 => h9.elim (fun e9 => by rw [e9]; exact (Or.inl rfl)) (fun e9 => absurd h8 (Nat.not_lt.mpr e9))) dX2_answer_33 36 rfl (fun v9 H14 hR15 hz16 hq17 => ?_) nw_noX
        obtain ⟨rfl, ho18⟩ := hR15
        show nwV X _ _ 4 H14 (0 + 0) (0 + 0) 36 [(0, .ref g), (1, .ref own), (2, .int (nI h)), (3, .int v)] [.int (nI 3)]
        refine nw_wide (k' := 0) (n' := 0) (by omega) (by omega) ?_
        have hop : wo_answer wo u h v = (3, gd_strike u) := by simp [wo_answer, sp_judge, h1, h2, h13]
        exact nw_iret C dX2_answer_36 (Nat.le_refl _) (Nat.le_refl _) (by rw [hop]; exact ⟨rfl, ho18⟩)
      · refine nw_iconst C (nI 2) dX2_answer_28 (by decide) 29 rfl ?_
        refine nw_goto C 33 dX2_answer_29 (by decide) ?_
        refine nw_callV C (mX10_strike _ C.hfl d own (.int (nI (gd_a u))) (.int (nI (gd_b u))) (.int (nI (gd_s u))) (.ref cl) (gd_k u) (gd_h u) 2 H hB huB hu.1) kX10_strike q1161 (hu.1.is C (ci := 4) rfl) (As := [.int (nI 2)]) (rest := []) rfl rfl ⟨⟨Nat.le_of_ble_eq_true rfl, Nat.le_of_ble_eq_true rfl⟩, (show 0 + 0 ≤ 0 by omega), (show 0 + 0 ≤ 0 by omega)⟩ (Nat.le_of_ble_eq_true rfl) (fun q8 h8 h9 => h9.elim (fun e9 => by rw [e9]; exact (Or.inl rfl)) (fun e9 => absurd h8 (Nat.not_lt.mpr e9))) dX2_answer_33 36 rfl (fun v9 H19 hR20 hz21 hq22 => ?_) nw_noX
        obtain ⟨rfl, ho23⟩ := hR20
        show nwV X _ _ 4 H19 (0 + 0) (0 + 0) 36 [(0, .ref g), (1, .ref own), (2, .int (nI h)), (3, .int v)] [.int (nI 2)]
        refine nw_wide (k' := 0) (n' := 0) (by omega) (by omega) ?_
        have hop : wo_answer wo u h v = (2, gd_strike u) := by simp [wo_answer, sp_judge, h1, h2, h13]
        exact nw_iret C dX2_answer_36 (Nat.le_refl _) (Nat.le_refl _) (by rw [hop]; exact ⟨rfl, ho23⟩)
  · have h1 := of_decide_eq_true h1
    refine nw_iconst C (nI 4) dX2_answer_7 (by decide) 8 rfl ?_
    have hop : wo_answer wo u h v = (4, u) := by simp [wo_answer, sp_judge, h1]
    exact nw_iret C dX2_answer_8 (Nat.le_refl _) (Nat.le_refl _) (by rw [hop]; exact ⟨rfl, hu.1⟩)
set_option maxHeartbeats 4000000 in
theorem mX2_leak (l : Launch) (hf : l.flags = flags0) (d : nwD) (g row now old : Nat) (P : Nat → Prop) (wo : spWo) (h : Nat) (H : Heap) (hB : nd_B d ≤ H.size) (hg : nwO d g 5 [.int (nI (wo_s wo)), .ref row, .ref now, .ref old] H) (hr : nwO d row 6 [.int (nI (wo_x wo))] H) (hn : nwI d now 0 4 (fun h => nI (wo_n wo h)) H) (hL : nwLi d old (wo_m wo) (fun k => nd_bx d (wo_o wo k)) P H) (hk : okWo wo) (hm8 : wo_m wo < 8) (hB3 : nd_B d ≤ now ∧ nd_B d ≤ row ∧ nd_B d ≤ old) (hPB : ∀ q, P q → nd_B d ≤ q) (hPlt : ∀ q, P q → q < H.size) (hd : g ≠ now ∧ g ≠ row ∧ g ≠ old ∧ now ≠ row ∧ now ≠ old ∧ row ≠ old) (hP4 : ¬ P g ∧ ¬ P now ∧ ¬ P row ∧ ¬ P old) (hh : h < 4) : nwMt l d yX2_leak cX2_leak 2 (some .int) 5 108 1 10 [.ref g, .int (nI h)] H (fun v9 H1 => v9 = some (.int (nI (sp_after (wo_x wo)))) ∧ nwO d row 6 [.int (nI (sp_after (wo_x wo)))] H1 ∧ nwI d now 0 4 (fun k => nI (sp_up (wo_n wo) h (sp_after (wo_x wo)) k)) H1 ∧ ∃ (mo : Int32) (ar cap : Nat) (f : Nat → Option Nat), nwLm d old (wo_m wo + 1) (fun k => if k = wo_m wo then nd_bx d (wo_n wo h) else nd_bx d (wo_o wo k)) (fun q => P q ∨ H.size ≤ q) mo ar cap f H1) nwNo (fun q => q = now ∨ q = row ∨ q = old ∨ P q ∨ H.size ≤ q) := by
  refine nw_start "NightwatchWall$Words" "leak" hf (by decide +kernel) rfl rfl (fun _ h => Or.inr (Or.inr (Or.inr (Or.inr h)))) (fun q h => h.elim (fun e => by rw [e]; exact hB3.1) (fun h => h.elim (fun e => by rw [e]; exact hB3.2.1) (fun h => h.elim (fun e => by rw [e]; exact hB3.2.2) (fun h => h.elim (hPB q) (fun h => Nat.le_trans hB h))))) (Nat.le_of_ble_eq_true rfl) ?_
  intro X C
  have hE := C.E0
  have hB0 := hB
  have hsz : H.size ≤ H.size := Nat.le_refl _
  obtain ⟨⟨hk1, hk2, hk3⟩, hk4, hk5⟩ := id hk
  obtain ⟨mo9, ar9, cap9, f9, hLm⟩ := nwLi_m hL
  show nwV X _ _ 2 H 0 0 0 [(0, .ref g), (1, .int (nI h))] []
  have hb97 := hk4 h hh
  refine nw_aload_n C 0 dX2_leak_0 rfl 1 rfl ?_
  refine nw_get C hg (T := TX2) rfl in_X2 3 (by decide) q205 (Or.inl rfl) rfl dX2_leak_1 4 rfl ?_
  refine nw_aload_n C 0 dX2_leak_4 rfl 5 rfl ?_
  refine nw_get C hg (T := TX2) rfl in_X2 2 (by decide) q203 (Or.inl rfl) rfl dX2_leak_5 8 rfl ?_
  refine nw_iload_n C 1 dX2_leak_8 rfl 9 rfl ?_
  refine nw_ialdN C (nI (wo_n wo h)) hn (by omega) rfl dX2_leak_9 10 rfl ?_
  refine nw_callS C (mJ19_valueOf _ C.hfl d (wo_n wo h) H hB (by omega)) kJ19_valueOf q1137 (As := [.int (nI (wo_n wo h))]) (rest := [.ref old]) rfl rfl ⟨⟨Nat.le_of_ble_eq_true rfl, Nat.le_of_ble_eq_true rfl⟩, Nat.le_of_ble_eq_true rfl, Nat.le_of_ble_eq_true rfl⟩ (Nat.le_of_ble_eq_true rfl) (fun _ h8 h9 => absurd h9 (Nat.not_le.mpr h8)) dX2_leak_10 13 rfl (nw_rdK ?_) nw_noX
  refine nw_callV C (mJ3_add _ C.hfl d old (wo_m wo) (fun k => nd_bx d (wo_o wo k)) P mo9 ar9 cap9 f9 (nd_bx d (wo_n wo h)) "java/lang/Integer" H hB hB3.2.2 hLm hPB hP4.2.2.2 (nwEl.box (by omega)) q2140 (nwE.bxne hE (by omega) hB3.2.2) (nwE.bxlt hE (by omega)) (by omega)) kJ3_add q1138 (hL.is C) (As := [.ref (nd_bx d (wo_n wo h))]) (rest := []) rfl rfl ⟨⟨Nat.le_of_ble_eq_true rfl, Nat.le_of_ble_eq_true rfl⟩, (show 0 + 1 ≤ 1 by omega), (show 0 + 10 ≤ 10 by omega)⟩ (Nat.le_of_ble_eq_true rfl) (fun q8 h8 h9 => h9.elim (fun e9 => Or.inr (Or.inr (Or.inl e9))) (fun e9 => e9.elim (fun e9 => Or.inr (Or.inr (Or.inr (Or.inl e9)))) (fun e9 => absurd h8 (Nat.not_lt.mpr e9)))) dX2_leak_13 16 rfl (fun v9 H1 hR2 hz3 hq4 => ?_) nw_noX
  obtain ⟨rfl, mo8, ar8, cap8, f8, hL8⟩ := hR2
  have hlr := hr.lt
  have hln := hn.lt
  have ho5 := hg.kept (hq4 _ hg.lt (fun e9 => e9.elim hd.2.2.1 (fun e9 => e9.elim hP4.1 (Nat.not_le.mpr hg.lt))))
  have ho6 := hr.kept (hq4 _ hr.lt (fun e9 => e9.elim hd.2.2.2.2.2 (fun e9 => e9.elim hP4.2.2.1 (Nat.not_le.mpr hr.lt))))
  have ho7 := hn.kept (hq4 _ hn.lt (fun e9 => e9.elim hd.2.2.2.2.1 (fun e9 => e9.elim hP4.2.1 (Nat.not_le.mpr hn.lt))))
  have hE := hE.kept (fun q9 g9 hb9 => hq4 q9 g9 (fun e9 => hb9 (e9.elim (fun e9 => by rw [e9]; exact hB3.2.2) (fun e9 => e9.elim (hPB q9) (fun e9 => Nat.le_trans hB e9)))))
  have hsz := Nat.le_trans hsz hz3
  have hB := Nat.le_trans hB0 hsz
  have hNr : ¬ (P row ∨ H.size ≤ row) := fun p9 => p9.elim hP4.2.2.1 (Nat.not_le.mpr hlr)
  have hNn : ¬ (P now ∨ H.size ≤ now) := fun p9 => p9.elim hP4.2.1 (Nat.not_le.mpr hln)
  show nwV X _ _ 2 H1 (0 + 1) (0 + 10) 16 [(0, .ref g), (1, .int (nI h))] [.int (b2i true)]
  refine nw_wide (k' := 1) (n' := 10) (by omega) (by omega) ?_
  refine nw_pop C dX2_leak_16 rfl 17 rfl ?_
  refine nw_aload_n C 0 dX2_leak_17 rfl 18 rfl ?_
  refine nw_get C ho5 (T := TX2) rfl in_X2 2 (by decide) q203 (Or.inl rfl) rfl dX2_leak_18 21 rfl ?_
  refine nw_iload_n C 1 dX2_leak_21 rfl 22 rfl ?_
  refine nw_aload_n C 0 dX2_leak_22 rfl 23 rfl ?_
  refine nw_get C ho5 (T := TX2) rfl in_X2 1 (by decide) q202 (Or.inl rfl) rfl dX2_leak_23 26 rfl ?_
  refine nw_callV C (mX3_next _ C.hfl d row (wo_x wo) H1 hB hB3.2.1 ho6 (by omega)) kX3_next q196 (ho6.is C (ci := 6) rfl) (As := []) (rest := [.int (nI h), .ref now]) rfl rfl ⟨⟨Nat.le_of_ble_eq_true rfl, Nat.le_of_ble_eq_true rfl⟩, (show 1 + 0 ≤ 1 by omega), (show 10 + 0 ≤ 10 by omega)⟩ (Nat.le_of_ble_eq_true rfl) (fun q8 h8 h9 => h9.elim (fun e9 => by rw [e9]; exact (Or.inr (Or.inl rfl))) (fun e9 => absurd h8 (Nat.not_lt.mpr e9))) dX2_leak_26 29 rfl (fun v9 H8 hR9 hz10 hq11 => ?_) nw_noX
  obtain ⟨rfl, ho12⟩ := hR9
  have ho13 := ho5.kept (hq11 _ ho5.lt (fun e9 => e9.elim hd.2.1 (Nat.not_le.mpr ho5.lt)))
  have ho14 := ho7.kept (hq11 _ ho7.lt (fun e9 => e9.elim hd.2.2.2.1 (Nat.not_le.mpr ho7.lt)))
  have hL15 := hL8.kp (hq11 _ hL8.lt (fun e9 => e9.elim (Ne.symm hd.2.2.2.2.2) (Nat.not_le.mpr hL8.lt))) (fun q9 p9 g9 => hq11 q9 g9 (fun e9 => e9.elim (fun e9 => hNr (by rw [← e9]; exact p9)) (Nat.not_le.mpr g9)))
  have hE := hE.kept (fun q9 g9 hb9 => hq11 q9 g9 (fun e9 => hb9 (e9.elim (fun e9 => by rw [e9]; exact hB3.2.1) (fun e9 => Nat.le_trans hB e9))))
  have hsz := Nat.le_trans hsz hz10
  have hB := Nat.le_trans hB0 hsz
  show nwV X _ _ 2 H8 (1 + 0) (10 + 0) 29 [(0, .ref g), (1, .int (nI h))] [.int (nI (sp_after (wo_x wo))), .int (nI h), .ref now]
  refine nw_wide (k' := 1) (n' := 10) (by omega) (by omega) ?_
  refine nw_iastN C ho14 (Or.inl rfl) (by omega) dX2_leak_29 30 rfl (fun H16 ho17 hz18 hq19 => ?_)
  have hsz := Nat.le_trans hsz (Nat.le_of_eq hz18.symm)
  have hE := hE.kept (fun q9 _ hb9 => hq19 q9 (fun e9 => hb9 (by rw [e9]; exact hB3.1)))
  have hB := Nat.le_trans hB0 hsz
  have ho20 := ho13.kept (hq19 _ hd.1)
  have hL21 := hL15.kp (hq19 _ (Ne.symm hd.2.2.2.2.1)) (fun q9 p9 _ => hq19 q9 (fun e9 => hNn (by rw [← e9]; exact p9)))
  have ho22 := ho12.kept (hq19 _ (Ne.symm hd.2.2.2.1))
  refine nw_aload_n C 0 dX2_leak_30 rfl 31 rfl ?_
  refine nw_get C ho20 (T := TX2) rfl in_X2 2 (by decide) q203 (Or.inl rfl) rfl dX2_leak_31 34 rfl ?_
  refine nw_iload_n C 1 dX2_leak_34 rfl 35 rfl ?_
  refine nw_ialdN C ((upd (fun h => nI (wo_n wo h)) h (nI (sp_after (wo_x wo)))) h) ho17 (by omega) rfl dX2_leak_35 36 rfl ?_
  exact nw_iret C dX2_leak_36 (by omega) (by omega) ⟨congrArg (fun z => some (Value.int z)) (by unfold upd; rw [if_pos rfl]), ho22, nwI.congr ho17 (fun j _ => nw_upN), _, _, _, _, hL21⟩
set_option maxHeartbeats 4000000 in
theorem mX2_begin (l : Launch) (hf : l.flags = flags0) (d : nwD) (g now old : Nat) (P : Nat → Prop) (s0 : Int32) (rv : Value) (fn : Nat → Int32) (n : Nat) (es : Nat → Nat) (sd : Nat) (H : Heap) (hB : nd_B d ≤ H.size) (hg : nwO d g 5 [.int s0, rv, .ref now, .ref old] H) (hn : nwI d now 0 4 fn H) (hL : nwLi d old n es P H) (hB3 : nd_B d ≤ g ∧ nd_B d ≤ now ∧ nd_B d ≤ old) (hPB : ∀ q, P q → nd_B d ≤ q) (hPlt : ∀ q, P q → q < H.size) (hd : g ≠ now ∧ g ≠ old ∧ now ≠ old) (hP3 : ¬ P g ∧ ¬ P now ∧ ¬ P old) (hsd : sd < 2 ^ 20) : nwMt l d yX2_begin cX2_begin 3 none 2 43 1 1 [.ref g, .int (nI sd)] H (fun v9 H1 => v9 = none ∧ ∃ (row : Nat) (mo1 : Int32) (ar1 cap1 : Nat) (f1 : Nat → Option Nat), H.size ≤ row ∧ nwO d g 5 [.int (nI sd), .ref row, .ref now, .ref old] H1 ∧ nwO d row 6 [.int (nI (sp_row sd 4))] H1 ∧ nwI d now 0 4 (fun h => nI (sp_row sd (h + 1))) H1 ∧ nwLm d old 0 es P mo1 ar1 cap1 f1 H1) nwNo (fun q => q = g ∨ q = now ∨ q = old ∨ P q ∨ H.size ≤ q) := by
  refine nw_start "NightwatchWall$Words" "begin" hf (by decide +kernel) rfl rfl (fun _ h => Or.inr (Or.inr (Or.inr (Or.inr h)))) (fun q h => h.elim (fun e => by rw [e]; exact hB3.1) (fun h => h.elim (fun e => by rw [e]; exact hB3.2.1) (fun h => h.elim (fun e => by rw [e]; exact hB3.2.2) (fun h => h.elim (hPB q) (fun h => Nat.le_trans hB h))))) (Nat.le_of_ble_eq_true rfl) ?_
  intro X C
  have hE := C.E0
  have hB0 := hB
  have hsz : H.size ≤ H.size := Nat.le_refl _
  obtain ⟨mo9, ar9, cap9, f9, hLm⟩ := nwLi_m hL
  show nwV X _ _ 3 H 0 0 0 [(0, .ref g), (1, .int (nI sd))] []
  refine nw_aload_n C 0 dX2_begin_0 rfl 1 rfl ?_
  refine nw_iload_n C 1 dX2_begin_1 rfl 2 rfl ?_
  refine nw_put C hg (Or.inl rfl) (T := TX2) (ty0 := tyX2) rfl in_X2 tyX2_ok nmX2 0 (by decide) q200 (Or.inl rfl) rfl rfl rfl (Nat.le_of_ble_eq_true rfl) dX2_begin_2 5 rfl (fun H1 ho2 hz3 hq4 => ?_)
  have ho2 : nwO d g 5 [.int (nI sd), rv, .ref now, .ref old] H1 := ho2
  have hsz := Nat.le_trans hsz (Nat.le_of_eq hz3.symm)
  have hB := Nat.le_trans hB0 hsz
  have ho5 := hn.kept (hq4 _ (Ne.symm hd.1))
  have hL6 := hLm.kp (hq4 _ (Ne.symm hd.2.1)) (fun q9 p9 _ => hq4 q9 (fun e9 => hP3.1 (by rw [← e9]; exact p9)))
  refine nw_aload_n C 0 dX2_begin_5 rfl 6 rfl ?_
  refine nw_new C (ci := 6) (T := TX3) (ty0 := tyX3) [.int (nI 0)] rfl in_X3 tyX3_ok q181 q182 q92 (fun j hj => by rcases (show j = 0 by omega) with rfl <;> rfl) 1 1 (by omega) (by omega) ⟨(show 1 ≤ 1 by omega), (show 1 ≤ 1 by omega)⟩ dX2_begin_6 9 rfl (fun a7 H8 hx9 ho10 hz11 hq12 => ?_)
  have hn13 : H.size ≤ a7 := by rw [hx9]; exact hsz
  have hsz := Nat.le_trans hsz (show _ ≤ H8.size by omega)
  have hB := Nat.le_trans hB0 hsz
  have hne14 : g ≠ a7 := Nat.ne_of_lt (by rw [hx9]; exact ho2.lt)
  have ho15 := ho2.kept (hq12 _ ho2.lt)
  have hne16 : now ≠ a7 := Nat.ne_of_lt (by rw [hx9]; exact ho5.lt)
  have ho17 := ho5.kept (hq12 _ ho5.lt)
  have hne18 : old ≠ a7 := Nat.ne_of_lt (by rw [hx9]; exact hL6.lt)
  have ho19 := hL6.ext hq12
  refine nw_dup C dX2_begin_9 rfl 10 rfl ?_
  refine nw_iload_n C 1 dX2_begin_10 rfl 11 rfl ?_
  refine nw_callI C (mX3_init _ C.hfl d a7 sd H8 hB (Nat.le_trans hB0 hn13) ho10 ) kX3_init q183 (As := [.int (nI sd)]) (rest := [.ref a7, .ref g]) rfl rfl ⟨⟨Nat.le_of_ble_eq_true rfl, Nat.le_of_ble_eq_true rfl⟩, (show 1 + 0 ≤ 1 by omega), (show 1 + 0 ≤ 1 by omega)⟩ (Nat.le_of_ble_eq_true rfl) (fun q8 h8 h9 => h9.elim (fun e9 => by rw [e9]; exact (Or.inr (Or.inr (Or.inr (Or.inr hn13))))) (fun e9 => absurd h8 (Nat.not_lt.mpr e9))) dX2_begin_11 14 rfl (fun v9 H20 hR21 hz22 hq23 => ?_) nw_noX
  obtain ⟨rfl, ho24⟩ := hR21
  have ho25 := ho15.kept (hq23 _ ho15.lt (fun e9 => e9.elim hne14 (Nat.not_le.mpr ho15.lt)))
  have ho26 := ho17.kept (hq23 _ ho17.lt (fun e9 => e9.elim hne16 (Nat.not_le.mpr ho17.lt)))
  have hL27 := ho19.kp (hq23 _ ho19.lt (fun e9 => e9.elim hne18 (Nat.not_le.mpr ho19.lt))) (fun q9 p9 g9 => hq23 q9 g9 (fun e9 => e9.elim (fun e9 => (fun p9 => absurd (hPlt _ p9) (Nat.not_lt.mpr hn13)) (by rw [← e9]; exact p9)) (Nat.not_le.mpr g9)))
  have hsz := Nat.le_trans hsz hz22
  have hB := Nat.le_trans hB0 hsz
  show nwV X _ _ 3 H20 (1 + 0) (1 + 0) 14 [(0, .ref g), (1, .int (nI sd))] [.ref a7, .ref g]
  refine nw_wide (k' := 1) (n' := 1) (by omega) (by omega) ?_
  refine nw_put C ho25 (Or.inl rfl) (T := TX2) (ty0 := tyX2) rfl in_X2 tyX2_ok nmX2 1 (by decide) q202 (Or.inl rfl) rfl rfl rfl (Nat.le_of_ble_eq_true rfl) dX2_begin_14 17 rfl (fun H28 ho29 hz30 hq31 => ?_)
  have ho29 : nwO d g 5 [.int (nI sd), .ref a7, .ref now, .ref old] H28 := ho29
  have hsz := Nat.le_trans hsz (Nat.le_of_eq hz30.symm)
  have hB := Nat.le_trans hB0 hsz
  have ho32 := ho26.kept (hq31 _ (Ne.symm hd.1))
  have hL33 := hL27.kp (hq31 _ (Ne.symm hd.2.1)) (fun q9 p9 _ => hq31 q9 (fun e9 => hP3.1 (by rw [← e9]; exact p9)))
  have ho34 := ho24.kept (hq31 _ (Ne.symm hne14))
  refine nw_aload_n C 0 dX2_begin_17 rfl 18 rfl ?_
  refine nw_get C ho29 (T := TX2) rfl in_X2 3 (by decide) q205 (Or.inl rfl) rfl dX2_begin_18 21 rfl ?_
  refine nw_callV C (mJ3_clear _ C.hfl d old n es P mo9 ar9 cap9 f9 H28 hB hB3.2.2 hL33 hPB hP3.2.2) kJ3_clear q192 (hL33.li.is C) (As := []) (rest := []) rfl rfl ⟨⟨Nat.le_of_ble_eq_true rfl, Nat.le_of_ble_eq_true rfl⟩, (show 1 + 0 ≤ 1 by omega), (show 1 + 0 ≤ 1 by omega)⟩ (Nat.le_of_ble_eq_true rfl) (fun q8 h8 h9 => h9.elim (fun e9 => Or.inr (Or.inr (Or.inl e9))) (fun e9 => e9.elim (fun e9 => Or.inr (Or.inr (Or.inr (Or.inl e9)))) (fun e9 => absurd h8 (Nat.not_lt.mpr e9)))) dX2_begin_21 24 rfl (fun v9 H35 hR36 hz37 hq38 => ?_) nw_noX
  obtain ⟨rfl, mo8, ar8, cap8, f8, hL8⟩ := hR36
  have ho39 := ho29.kept (hq38 _ ho29.lt (fun e9 => e9.elim hd.2.1 (fun e9 => e9.elim hP3.1 (Nat.not_le.mpr ho29.lt))))
  have ho40 := ho32.kept (hq38 _ ho32.lt (fun e9 => e9.elim hd.2.2 (fun e9 => e9.elim hP3.2.1 (Nat.not_le.mpr ho32.lt))))
  have ho41 := ho34.kept (hq38 _ ho34.lt (fun e9 => e9.elim (Ne.symm hne18) (fun e9 => e9.elim (fun p9 => absurd (hPlt _ p9) (Nat.not_lt.mpr hn13)) (Nat.not_le.mpr ho34.lt))))
  have hsz := Nat.le_trans hsz hz37
  have hB := Nat.le_trans hB0 hsz
  show nwV X _ _ 3 H35 (1 + 0) (1 + 0) 24 [(0, .ref g), (1, .int (nI sd))] []
  refine nw_wide (k' := 1) (n' := 1) (by omega) (by omega) ?_
  refine nw_iconst C (nI 0) dX2_begin_24 (by decide) 25 rfl ?_
  refine nw_istore_n C [(2, .int (nI 0)), (0, .ref g), (1, .int (nI sd))] dX2_begin_25 (by decide) rfl 26 rfl ?_
  have lp42 : ∀ (fu : Nat) (H2 : Heap) (i : Nat) (fz : Nat → Int32), (i ≤ 4) → (H.size ≤ H2.size) → (nwO d g 5 [.int (nI sd), .ref a7, .ref now, .ref old] H2) → (nwO d a7 6 [.int (nI (sp_row sd i))] H2) → (nwI d now 0 4 fz H2) → (nwLm d old 0 es P mo8 ar8 cap8 f8 H2) → (∀ k, k < i → fz k = (fun k => nI (sp_row sd (k + 1))) k) → 4 - i < fu → nwV X (fun q => q = g ∨ q = now ∨ q = old ∨ P q ∨ H.size ≤ q) (nwQE X (fun v9 H1 => v9 = none ∧ ∃ (row : Nat) (mo1 : Int32) (ar1 cap1 : Nat) (f1 : Nat → Option Nat), H.size ≤ row ∧ nwO d g 5 [.int (nI sd), .ref row, .ref now, .ref old] H1 ∧ nwO d row 6 [.int (nI (sp_row sd 4))] H1 ∧ nwI d now 0 4 (fun h => nI (sp_row sd (h + 1))) H1 ∧ nwLm d old 0 es P mo1 ar1 cap1 f1 H1) nwNo (fun q => q = g ∨ q = now ∨ q = old ∨ P q ∨ H.size ≤ q) 1 1) 3 H2 1 1 26 [(0, .ref g), (1, .int (nI sd)), (2, .int (nI i))] [] := by
    intro fu
    induction fu with
    | zero => intro H2 i fz _ _ _ _ _ _ _ hm; exact absurd hm (Nat.not_lt_zero _)
    | succ fu ih_lp42 =>
      intro H2 i fz hi hsz hg2 ha2 hn2 hL2 hfz hm
      have hB := Nat.le_trans hB0 hsz
      refine nw_iload_n C 2 dX2_begin_26 rfl 27 rfl ?_
      refine nw_iconst C (nI 4) dX2_begin_27 (by decide) 28 rfl ?_
      refine nw_icmpgeN C (by omega) 50 dX2_begin_28 (by decide) 31 rfl (fun h43 => ?_) (fun h43 => ?_)
      · exact nw_vret C dX2_begin_50 (by omega) (by omega) ⟨rfl, a7, mo8, ar8, cap8, f8, hn13, hg2, (by rw [show i = 4 by omega] at ha2; exact ha2), nwI.congr hn2 (fun j hj => hfz j (by omega)), hL2⟩
      · refine nw_aload_n C 0 dX2_begin_31 rfl 32 rfl ?_
        refine nw_get C hg2 (T := TX2) rfl in_X2 2 (by decide) q203 (Or.inl rfl) rfl dX2_begin_32 35 rfl ?_
        refine nw_iload_n C 2 dX2_begin_35 rfl 36 rfl ?_
        refine nw_aload_n C 0 dX2_begin_36 rfl 37 rfl ?_
        refine nw_get C hg2 (T := TX2) rfl in_X2 1 (by decide) q202 (Or.inl rfl) rfl dX2_begin_37 40 rfl ?_
        refine nw_callV C (mX3_next _ C.hfl d a7 (sp_row sd i) H2 hB (Nat.le_trans hB0 hn13) ha2 (sp_row_b hsd _)) kX3_next q196 (ha2.is C (ci := 6) rfl) (As := []) (rest := [.int (nI i), .ref now]) rfl rfl ⟨⟨Nat.le_of_ble_eq_true rfl, Nat.le_of_ble_eq_true rfl⟩, (show 1 + 0 ≤ 1 by omega), (show 1 + 0 ≤ 1 by omega)⟩ (Nat.le_of_ble_eq_true rfl) (fun q8 h8 h9 => h9.elim (fun e9 => by rw [e9]; exact (Or.inr (Or.inr (Or.inr (Or.inr hn13))))) (fun e9 => absurd h8 (Nat.not_lt.mpr e9))) dX2_begin_40 43 rfl (fun v9 H44 hR45 hz46 hq47 => ?_) nw_noX
        obtain ⟨rfl, ho48⟩ := hR45
        have ho49 := hg2.kept (hq47 _ hg2.lt (fun e9 => e9.elim hne14 (Nat.not_le.mpr hg2.lt)))
        have ho50 := hn2.kept (hq47 _ hn2.lt (fun e9 => e9.elim hne16 (Nat.not_le.mpr hn2.lt)))
        have hL51 := hL2.kp (hq47 _ hL2.lt (fun e9 => e9.elim hne18 (Nat.not_le.mpr hL2.lt))) (fun q9 p9 g9 => hq47 q9 g9 (fun e9 => e9.elim (fun e9 => (fun p9 => absurd (hPlt _ p9) (Nat.not_lt.mpr hn13)) (by rw [← e9]; exact p9)) (Nat.not_le.mpr g9)))
        have hsz := Nat.le_trans hsz hz46
        have hB := Nat.le_trans hB0 hsz
        show nwV X _ _ 3 H44 (1 + 0) (1 + 0) 43 [(0, .ref g), (1, .int (nI sd)), (2, .int (nI i))] [.int (nI (sp_after (sp_row sd i))), .int (nI i), .ref now]
        refine nw_wide (k' := 1) (n' := 1) (by omega) (by omega) ?_
        refine nw_iastN C ho50 (Or.inr (Or.inl rfl)) (by omega) dX2_begin_43 44 rfl (fun H52 ho53 hz54 hq55 => ?_)
        have hsz := Nat.le_trans hsz (Nat.le_of_eq hz54.symm)
        have hB := Nat.le_trans hB0 hsz
        have ho56 := ho49.kept (hq55 _ hd.1)
        have hL57 := hL51.kp (hq55 _ (Ne.symm hd.2.2)) (fun q9 p9 _ => hq55 q9 (fun e9 => hP3.2.1 (by rw [← e9]; exact p9)))
        have ho58 := ho48.kept (hq55 _ (Ne.symm hne16))
        refine nw_iincN C 2 (c0 := 1) [(2, .int (nI (i + 1))), (0, .ref g), (1, .int (nI sd))] dX2_begin_44 rfl (by decide) rfl 47 rfl ?_
        refine nw_goto C 26 dX2_begin_47 (by decide) ?_
        exact nw_wide (by omega) (by omega) (nw_sub [1, 2, 0] rfl (ih_lp42 H52 (i + 1) (upd fz i (nI (sp_after (sp_row sd i)))) (by omega) hsz ho56 ho58 ho53 hL57 (nw_hfz (fun k hk => by unfold upd; rw [if_neg (by omega)]; exact hfz k hk) (by unfold upd; rw [if_pos rfl]; rfl)) (by omega)))
  exact nw_wide (by omega) (by omega) (nw_sub [1, 2, 0] rfl (lp42 _ H35 0 fn (Nat.zero_le _) hsz ho39 ho41 ho40 hL8 (fun k hk => absurd hk (Nat.not_lt_zero k)) (Nat.lt_succ_self _)))
