/-! ===== the ground: what lies between two cells; counting ===== -/
theorem to_end (x y : Nat) : sp_toward x y (sp_dist x y) = y := by unfold sp_toward sp_dist; split <;> (try split) <;> omega
theorem to_ne {x y j : Nat} (h : j < sp_dist x y) : sp_toward x y j ≠ y := by unfold sp_toward; unfold sp_dist at h; split <;> (try split) <;> omega
theorem to_lt {x y j m : Nat} (hx : x < m) (hy : y < m) (h : j ≤ sp_dist x y) : sp_toward x y j < m := by unfold sp_toward; unfold sp_dist at h; split <;> (try split) <;> omega
theorem to_same {x y : Nat} (j : Nat) (h : sp_dist x y = 0) : sp_toward x y j = y ∧ x = y := by unfold sp_toward; unfold sp_dist at h; split <;> (try split) <;> omega
theorem to_next {x y j : Nat} (h : sp_dist x y = 0 ∨ j < sp_dist x y) (hx : x < 8) (hy : y < 8) : nI (sp_toward x y (j + 1)) = nI (sp_toward x y j) + nw_sgn x y := by
  unfold sp_toward nw_sgn
  unfold sp_dist at h
  split
  · rw [show x + (j + 1) = (x + j) + 1 by omega, ← nI_add]; rfl
  · split
    · have e : x - j = (x - (j + 1)) + 1 := by omega
      rw [e, ← nI_add]
      show nI (x - (j + 1)) = nI (x - (j + 1)) + 1 + -1
      grind
    · grind
theorem ln_cases {w a b : Nat} (h : sp_line w a b = true) : (sp_dist (a / w) (b / w) = 0 ∨ sp_dist (a / w) (b / w) = sp_apart w a b) ∧ (sp_dist (a % w) (b % w) = 0 ∨ sp_dist (a % w) (b % w) = sp_apart w a b) := by
  unfold sp_line at h
  unfold sp_apart
  simp only [Bool.or_eq_true, decide_eq_true_eq] at h
  omega
theorem on_end {w a b : Nat} (h : sp_line w a b = true) : sp_onway w a b (sp_apart w a b) = b := by
  obtain ⟨h1, h2⟩ := ln_cases h
  have e1 : sp_toward (a / w) (b / w) (sp_apart w a b) = b / w := by
    rcases h1 with h1 | h1
    · exact (to_same _ h1).1
    · rw [← h1]; exact to_end _ _
  have e2 : sp_toward (a % w) (b % w) (sp_apart w a b) = b % w := by
    rcases h2 with h2 | h2
    · exact (to_same _ h2).1
    · rw [← h2]; exact to_end _ _
  unfold sp_onway
  rw [e1, e2, Nat.mul_comm]
  exact Nat.div_add_mod _ _
theorem on_rc {w x y r c : Nat} (hy : y < w) (hc : c < w) (h : x * w + y = r * w + c) : x = r ∧ y = c := by
  have h1 : (x * w + y) / w = x := by rw [Nat.mul_comm, Nat.mul_add_div (by omega), Nat.div_eq_of_lt hy]; omega
  have h2 : (r * w + c) / w = r := by rw [Nat.mul_comm, Nat.mul_add_div (by omega), Nat.div_eq_of_lt hc]; omega
  have h3 : x = r := by rw [← h1, ← h2, h]
  subst h3
  omega
theorem on_col {g : spGr} (ho : spGrOk g) {a b j : Nat} (h : sp_line (gr_w g) a b = true) (hj : j ≤ sp_apart (gr_w g) a b) : sp_toward (a % gr_w g) (b % gr_w g) j < gr_w g := by
  obtain ⟨-, h2⟩ := ln_cases h
  rcases h2 with h2 | h2
  · rw [(to_same j h2).1]; exact ho.col b
  · exact to_lt (ho.col a) (ho.col b) (by omega)
theorem on_ne {g : spGr} (ho : spGrOk g) {a b j : Nat} (h : sp_line (gr_w g) a b = true) (hj : j < sp_apart (gr_w g) a b) : ¬ sp_onway (gr_w g) a b j = b := by
  intro e
  have hc := on_col ho h (Nat.le_of_lt hj)
  have e2 : sp_toward (a / gr_w g) (b / gr_w g) j * gr_w g + sp_toward (a % gr_w g) (b % gr_w g) j = (b / gr_w g) * gr_w g + b % gr_w g := by
    rw [Nat.mul_comm (b / gr_w g), Nat.div_add_mod]; exact e
  obtain ⟨e3, e4⟩ := on_rc hc (ho.col b) e2
  obtain ⟨h1, h2⟩ := ln_cases h
  have hm : sp_dist (a / gr_w g) (b / gr_w g) = sp_apart (gr_w g) a b ∨ sp_dist (a % gr_w g) (b % gr_w g) = sp_apart (gr_w g) a b := by unfold sp_apart; omega
  rcases hm with hm | hm
  · exact to_ne (by rw [hm]; exact hj) e3
  · exact to_ne (by rw [hm]; exact hj) e4
theorem on_lt {g : spGr} (ho : spGrOk g) {a b j : Nat} (ha : a < gr_n g) (hb : b < gr_n g) (h : sp_line (gr_w g) a b = true) (hj : j ≤ sp_apart (gr_w g) a b) : sp_onway (gr_w g) a b j < gr_n g := by
  have hc := on_col ho h hj
  obtain ⟨h1, -⟩ := ln_cases h
  have hr : sp_toward (a / gr_w g) (b / gr_w g) j < gr_h g := by
    rcases h1 with h1 | h1
    · rw [(to_same j h1).1]; exact ho.row hb
    · exact to_lt (ho.row ha) (ho.row hb) (by omega)
  unfold sp_onway
  have h5 : (sp_toward (a / gr_w g) (b / gr_w g) j + 1) * gr_w g ≤ gr_h g * gr_w g := Nat.mul_le_mul_right _ hr
  rw [Nat.add_mul, Nat.one_mul] at h5
  show _ < gr_w g * gr_h g
  rw [Nat.mul_comm (gr_w g)]
  omega
theorem on_step {g : spGr} (ho : spGrOk g) {a b j : Nat} (ha : a < gr_n g) (hb : b < gr_n g) (h : sp_line (gr_w g) a b = true) (hj : j < sp_apart (gr_w g) a b ∨ sp_apart (gr_w g) a b = 0) : nI (sp_onway (gr_w g) a b j) + (nw_sig (nI (b / gr_w g) - nI (a / gr_w g)) * nI (gr_w g) + nw_sig (nI (b % gr_w g) - nI (a % gr_w g))) = nI (sp_onway (gr_w g) a b (j + 1)) := by
  obtain ⟨⟨-, hw, -, hh⟩, -⟩ := id ho
  have r1 := ho.row ha
  have r2 := ho.row hb
  have c1 := ho.col a
  have c2 := ho.col b
  obtain ⟨h1, h2⟩ := ln_cases h
  have e1 := to_next (x := a / gr_w g) (y := b / gr_w g) (j := j) (by omega) (by omega) (by omega)
  have e2 := to_next (x := a % gr_w g) (y := b % gr_w g) (j := j) (by omega) (by omega) (by omega)
  rw [nw_sig8 _ (by omega) _ (by omega), nw_sig8 _ (by omega) _ (by omega)]
  unfold sp_onway
  rw [← nI_add, ← pk_mul, ← nI_add, ← pk_mul, e1, e2]
  grind
theorem on_0 (w a b : Nat) : sp_onway w a b 0 = a := by
  unfold sp_onway sp_toward
  simp only [Nat.add_zero, Nat.sub_zero, ite_self]
  rw [Nat.mul_comm]
  exact Nat.div_add_mod _ _
theorem ap_pos {g : spGr} {a b : Nat} (h : ¬ a = b) : 0 < sp_apart (gr_w g) a b := by
  rcases Nat.eq_zero_or_pos (sp_apart (gr_w g) a b) with e | e
  · exfalso
    unfold sp_apart at e
    have e1 := (to_same 0 (show sp_dist (a / gr_w g) (b / gr_w g) = 0 by omega)).2
    have e2 := (to_same 0 (show sp_dist (a % gr_w g) (b % gr_w g) = 0 by omega)).2
    apply h
    rw [← Nat.div_add_mod a (gr_w g), ← Nat.div_add_mod b (gr_w g), e1, e2]
  · exact e
theorem ap_self (w a : Nat) : sp_apart w a a = 0 := by unfold sp_apart sp_dist; omega
theorem cl_true {g : spGr} {a b : Nat} (h : sp_line (gr_w g) a b = true) (h2 : ∀ i, 0 < i → i < sp_apart (gr_w g) a b → sp_opq (gr_k g (sp_onway (gr_w g) a b i)) = false) : true = sp_clear g a b := by
  unfold sp_clear
  rw [h, sp_any_false.mpr]
  · rfl
  · intro k hk
    rcases Nat.eq_zero_or_pos k with e | e
    · simp [e]
    · rw [h2 k e hk, Bool.and_false]
theorem cl_false {g : spGr} {a b i : Nat} (h0 : 0 < i) (h1 : i < sp_apart (gr_w g) a b) (h2 : sp_opq (gr_k g (sp_onway (gr_w g) a b i)) = true) : false = sp_clear g a b := by
  unfold sp_clear
  rw [show sp_any (fun j => decide (0 < j) && sp_opq (gr_k g (sp_onway (gr_w g) a b j))) (sp_apart (gr_w g) a b) = true from sp_any_iff.mpr ⟨i, h1, by simp [h0, h2]⟩]
  simp
theorem cl_line {g : spGr} {a b : Nat} (h : sp_line (gr_w g) a b = false) : false = sp_clear g a b := by unfold sp_clear; rw [h]; rfl
theorem kX6_isInLine : nwPV "NightwatchWall$Ground" yX6_isInLine cX6_isInLine 5 (some .boolean) 2 := ⟨⟨q446, qs10, q101, q448⟩, rfl, by decide +kernel, by decide +kernel, by decide +kernel⟩
theorem kJ19_signum : nwPS yJ19_signum cJ19_signum 1 (some .int) 1 := ⟨⟨q461, q115, q462⟩, by decide +kernel, by decide +kernel, by decide +kernel⟩
set_option maxHeartbeats 4000000 in
theorem mX6_isClear (l : Launch) (hf : l.flags = flags0) (d : nwD) (g ka : Nat) (gr : spGr) (a b : Nat) (H : Heap) (hB : nd_B d ≤ H.size) (hG : nwGr d g ka gr H) (ho : spGrOk gr) (hp : a < gr_n gr) (hq : b < gr_n gr) : nwRd l d yX6_isClear cX6_isClear 5 (some .boolean) 3 65 [.ref g, .int (nI a), .int (nI b)] H (some (.int (b2i (sp_clear gr a b)))) := by
  refine nw_rd "NightwatchWall$Ground" "isClear" hf (by decide +kernel) rfl rfl hB (Nat.le_of_ble_eq_true rfl) ?_
  intro X C
  obtain ⟨⟨hw1, hw2, hh1, hh2⟩, hk4⟩ := id ho
  have hn64 := ho.n
  have hr1 := ho.row hp
  have hc1 := ho.col a
  have hr2 := ho.row hq
  have hc2 := ho.col b
  have hd1 : sp_dist (a / gr_w gr) (b / gr_w gr) < 8 := sp_dist_lt (by omega) (by omega)
  have hd2 : sp_dist (a % gr_w gr) (b % gr_w gr) < 8 := sp_dist_lt (by omega) (by omega)
  have h98 : sp_apart (gr_w gr) a b < 8 := by unfold sp_apart; omega
  show nwV X _ _ 5 H 0 0 0 [(0, .ref g), (1, .int (nI a)), (2, .int (nI b))] []
  refine nw_aload_n C 0 dX6_isClear_0 rfl 1 rfl ?_
  refine nw_iload_n C 1 dX6_isClear_1 rfl 2 rfl ?_
  refine nw_iload_n C 2 dX6_isClear_2 rfl 3 rfl ?_
  refine nw_callV C (mX6_isInLine _ C.hfl d g ka gr a b H hB hG ho (by omega) (by omega)) kX6_isInLine q444 (hG.1.is C (ci := 1) rfl) (As := [.int (nI a), .int (nI b)]) (rest := []) rfl rfl ⟨⟨Nat.le_of_ble_eq_true rfl, Nat.le_of_ble_eq_true rfl⟩, Nat.le_of_ble_eq_true rfl, Nat.le_of_ble_eq_true rfl⟩ (Nat.le_of_ble_eq_true rfl) (fun _ h8 h9 => absurd h9 (Nat.not_le.mpr h8)) dX6_isClear_3 6 rfl (nw_rdK ?_) nw_noX
  refine nw_ifneB C 11 dX6_isClear_6 (by decide) 9 rfl (fun h2 => ?_) (fun h2 => ?_)
  · have hln : sp_line (gr_w gr) a b = true := h2
    refine nw_aload_n C 0 dX6_isClear_11 rfl 12 rfl ?_
    refine nw_iload_n C 2 dX6_isClear_12 rfl 13 rfl ?_
    refine nw_callV C (mX6_row _ C.hfl d g ka gr b H hB hG ho (by omega)) kX6_row q449 (hG.1.is C (ci := 1) rfl) (As := [.int (nI b)]) (rest := []) rfl rfl ⟨⟨Nat.le_of_ble_eq_true rfl, Nat.le_of_ble_eq_true rfl⟩, Nat.le_of_ble_eq_true rfl, Nat.le_of_ble_eq_true rfl⟩ (Nat.le_of_ble_eq_true rfl) (fun _ h8 h9 => absurd h9 (Nat.not_le.mpr h8)) dX6_isClear_13 16 rfl (nw_rdK ?_) nw_noX
    refine nw_aload_n C 0 dX6_isClear_16 rfl 17 rfl ?_
    refine nw_iload_n C 1 dX6_isClear_17 rfl 18 rfl ?_
    refine nw_callV C (mX6_row _ C.hfl d g ka gr a H hB hG ho (by omega)) kX6_row q449 (hG.1.is C (ci := 1) rfl) (As := [.int (nI a)]) (rest := [.int (nI (b / gr_w gr))]) rfl rfl ⟨⟨Nat.le_of_ble_eq_true rfl, Nat.le_of_ble_eq_true rfl⟩, Nat.le_of_ble_eq_true rfl, Nat.le_of_ble_eq_true rfl⟩ (Nat.le_of_ble_eq_true rfl) (fun _ h8 h9 => absurd h9 (Nat.not_le.mpr h8)) dX6_isClear_18 21 rfl (nw_rdK ?_) nw_noX
    refine nw_isub C _ dX6_isClear_21 rfl 22 rfl ?_
    refine nw_callS C (mJ19_signum _ C.hfl d ((nI (b / gr_w gr)) - (nI (a / gr_w gr))) H hB) kJ19_signum q460 (As := [.int ((nI (b / gr_w gr)) - (nI (a / gr_w gr)))]) (rest := []) rfl rfl ⟨⟨Nat.le_of_ble_eq_true rfl, Nat.le_of_ble_eq_true rfl⟩, Nat.le_of_ble_eq_true rfl, Nat.le_of_ble_eq_true rfl⟩ (Nat.le_of_ble_eq_true rfl) (fun _ h8 h9 => absurd h9 (Nat.not_le.mpr h8)) dX6_isClear_22 25 rfl (nw_rdK ?_) nw_noX
    refine nw_aload_n C 0 dX6_isClear_25 rfl 26 rfl ?_
    refine nw_get C hG.1 (T := TX6) rfl in_X6 0 (by decide) q731 (Or.inl rfl) rfl dX6_isClear_26 29 rfl ?_
    refine nw_imul C (nw_sig (nI (b / gr_w gr) - nI (a / gr_w gr)) * nI (gr_w gr)) dX6_isClear_29 rfl 30 rfl ?_
    refine nw_aload_n C 0 dX6_isClear_30 rfl 31 rfl ?_
    refine nw_iload_n C 2 dX6_isClear_31 rfl 32 rfl ?_
    refine nw_callV C (mX6_column _ C.hfl d g ka gr b H hB hG ho (by omega)) kX6_column q456 (hG.1.is C (ci := 1) rfl) (As := [.int (nI b)]) (rest := [.int (nw_sig (nI (b / gr_w gr) - nI (a / gr_w gr)) * nI (gr_w gr))]) rfl rfl ⟨⟨Nat.le_of_ble_eq_true rfl, Nat.le_of_ble_eq_true rfl⟩, Nat.le_of_ble_eq_true rfl, Nat.le_of_ble_eq_true rfl⟩ (Nat.le_of_ble_eq_true rfl) (fun _ h8 h9 => absurd h9 (Nat.not_le.mpr h8)) dX6_isClear_32 35 rfl (nw_rdK ?_) nw_noX
    refine nw_aload_n C 0 dX6_isClear_35 rfl 36 rfl ?_
    refine nw_iload_n C 1 dX6_isClear_36 rfl 37 rfl ?_
    refine nw_callV C (mX6_column _ C.hfl d g ka gr a H hB hG ho (by omega)) kX6_column q456 (hG.1.is C (ci := 1) rfl) (As := [.int (nI a)]) (rest := [.int (nI (b % gr_w gr)), .int (nw_sig (nI (b / gr_w gr) - nI (a / gr_w gr)) * nI (gr_w gr))]) rfl rfl ⟨⟨Nat.le_of_ble_eq_true rfl, Nat.le_of_ble_eq_true rfl⟩, Nat.le_of_ble_eq_true rfl, Nat.le_of_ble_eq_true rfl⟩ (Nat.le_of_ble_eq_true rfl) (fun _ h8 h9 => absurd h9 (Nat.not_le.mpr h8)) dX6_isClear_37 40 rfl (nw_rdK ?_) nw_noX
    refine nw_isub C _ dX6_isClear_40 rfl 41 rfl ?_
    refine nw_callS C (mJ19_signum _ C.hfl d ((nI (b % gr_w gr)) - (nI (a % gr_w gr))) H hB) kJ19_signum q460 (As := [.int ((nI (b % gr_w gr)) - (nI (a % gr_w gr)))]) (rest := [.int (nw_sig (nI (b / gr_w gr) - nI (a / gr_w gr)) * nI (gr_w gr))]) rfl rfl ⟨⟨Nat.le_of_ble_eq_true rfl, Nat.le_of_ble_eq_true rfl⟩, Nat.le_of_ble_eq_true rfl, Nat.le_of_ble_eq_true rfl⟩ (Nat.le_of_ble_eq_true rfl) (fun _ h8 h9 => absurd h9 (Nat.not_le.mpr h8)) dX6_isClear_41 44 rfl (nw_rdK ?_) nw_noX
    refine nw_iadd C (nw_sig (nI (b / gr_w gr) - nI (a / gr_w gr)) * nI (gr_w gr) + nw_sig (nI (b % gr_w gr) - nI (a % gr_w gr))) dX6_isClear_44 rfl 45 rfl ?_
    refine nw_istore_n C [(3, .int (nw_sig (nI (b / gr_w gr) - nI (a / gr_w gr)) * nI (gr_w gr) + nw_sig (nI (b % gr_w gr) - nI (a % gr_w gr)))), (0, .ref g), (1, .int (nI a)), (2, .int (nI b))] dX6_isClear_45 (by decide) rfl 46 rfl ?_
    refine nw_iload_n C 2 dX6_isClear_46 rfl 47 rfl ?_
    refine nw_iload_n C 0 dX6_isClear_47 rfl 48 rfl ?_
    refine nw_iadd C (nI (sp_onway (gr_w gr) a b (0 + 1))) dX6_isClear_48 (by rw [← on_step ho hp hq (by assumption) (by omega), on_0]) 49 rfl ?_
    refine nw_istore C [(4, .int (nI (sp_onway (gr_w gr) a b (0 + 1)))), (3, .int (nw_sig (nI (b / gr_w gr) - nI (a / gr_w gr)) * nI (gr_w gr) + nw_sig (nI (b % gr_w gr) - nI (a % gr_w gr)))), (0, .ref g), (1, .int (nI a)), (2, .int (nI b))] dX6_isClear_49 (by decide) rfl 51 rfl ?_
    have lp1 : ∀ (fu : Nat) (j : Nat), (1 ≤ j) → (¬ a = b → j ≤ sp_apart (gr_w gr) a b) → (∀ i, 0 < i → i < j → sp_opq (gr_k gr (sp_onway (gr_w gr) a b i)) = false) → 9 - j < fu → nwV X (nwNew H) (nwQE X (fun v H1 => v = some (.int (b2i (sp_clear gr a b))) ∧ H1 = H) nwNo (nwNew H) 0 0) 5 H 0 0 51 [(0, .ref g), (1, .int (nI a)), (2, .int (nI b)), (3, .int (nw_sig (nI (b / gr_w gr) - nI (a / gr_w gr)) * nI (gr_w gr) + nw_sig (nI (b % gr_w gr) - nI (a % gr_w gr)))), (4, .int (nI (sp_onway (gr_w gr) a b j)))] [] := by
      intro fu
      induction fu with
      | zero => intro j _ _ _ hm; exact absurd hm (Nat.not_lt_zero _)
      | succ fu ih_lp1 =>
        intro j hj1 hj2 hop hm
        refine nw_iload_n C 1 dX6_isClear_51 rfl 52 rfl ?_
        refine nw_iload_n C 2 dX6_isClear_52 rfl 53 rfl ?_
        refine nw_icmpeqN C (by omega) 86 dX6_isClear_53 (by decide) 56 rfl (fun h3 => ?_) (fun h3 => ?_)
        · refine nw_iconst C (nI 1) dX6_isClear_86 (by decide) 87 rfl ?_
          exact nw_nret C dX6_isClear_87 (b2i_narrow true) (Nat.le_refl _) (Nat.le_refl _) ⟨congrArg (fun z => some (Value.int (b2i z))) (show (true) = (sp_clear gr a b) from cl_true hln (fun i h1 h2 => by rw [h3, ap_self] at h2; omega)), rfl⟩
        · have hja := hj2 h3
          have hol := on_lt ho hp hq hln hja
          refine nw_iload C 4 dX6_isClear_56 rfl 58 rfl ?_
          refine nw_iload_n C 2 dX6_isClear_58 rfl 59 rfl ?_
          refine nw_icmpeqN C (by omega) 86 dX6_isClear_59 (by decide) 62 rfl (fun h4 => ?_) (fun h4 => ?_)
          · refine nw_iconst C (nI 1) dX6_isClear_86 (by decide) 87 rfl ?_
            exact nw_nret C dX6_isClear_87 (b2i_narrow true) (Nat.le_refl _) (Nat.le_refl _) ⟨congrArg (fun z => some (Value.int (b2i z))) (show (true) = (sp_clear gr a b) from cl_true hln (fun i h1 h2 => hop i h1 (by
                    rcases Nat.lt_or_ge j (sp_apart (gr_w gr) a b) with h5 | h5
                    · exact absurd h4 (on_ne ho hln h5)
                    · omega))), rfl⟩
          · have hjl : j < sp_apart (gr_w gr) a b := by
              rcases Nat.lt_or_ge j (sp_apart (gr_w gr) a b) with h5 | h5
              · exact h5
              · exact absurd (by rw [show j = sp_apart (gr_w gr) a b by omega]; exact on_end hln) h4
            have hak : gr_k gr (sp_onway (gr_w gr) a b j) < 4 := hk4 _ hol
            have ha7 : sp_apart (gr_w gr) a b < 8 := by unfold sp_apart; omega
            refine nw_aload_n C 0 dX6_isClear_62 rfl 63 rfl ?_
            refine nw_get C hG.1 (T := TX6) rfl in_X6 2 (by decide) q735 (Or.inl rfl) rfl dX6_isClear_63 66 rfl ?_
            refine nw_iload C 4 dX6_isClear_66 rfl 68 rfl ?_
            refine nw_aaldKN C (nd_st d (gr_k gr (sp_onway (gr_w gr) a b j))) hG.2 (by omega) rfl dX6_isClear_68 69 rfl ?_
            refine nw_isOpaque C hB hak q463 ⟨⟨Nat.le_of_ble_eq_true rfl, Nat.le_of_ble_eq_true rfl⟩, Nat.le_of_ble_eq_true rfl, Nat.le_of_ble_eq_true rfl⟩ (Nat.le_of_ble_eq_true rfl) dX6_isClear_69 72 rfl ?_
            refine nw_ifeqB C 77 dX6_isClear_72 (by decide) 75 rfl (fun h5 => ?_) (fun h5 => ?_)
            · refine nw_iload C 4 dX6_isClear_77 rfl 79 rfl ?_
              refine nw_iload_n C 3 dX6_isClear_79 rfl 80 rfl ?_
              refine nw_iadd C (nI (sp_onway (gr_w gr) a b (j + 1))) dX6_isClear_80 (on_step ho hp hq hln (Or.inl (by omega))) 81 rfl ?_
              refine nw_istore C [(4, .int (nI (sp_onway (gr_w gr) a b (j + 1)))), (0, .ref g), (1, .int (nI a)), (2, .int (nI b)), (3, .int (nw_sig (nI (b / gr_w gr) - nI (a / gr_w gr)) * nI (gr_w gr) + nw_sig (nI (b % gr_w gr) - nI (a % gr_w gr))))] dX6_isClear_81 (by decide) rfl 83 rfl ?_
              refine nw_goto C 51 dX6_isClear_83 (by decide) ?_
              exact (nw_sub [1, 2, 3, 4, 0] rfl (ih_lp1 (j + 1) (by omega) (fun _ => by omega) (fun i h1 h2 => (Nat.lt_or_ge i j).elim (fun g5 => hop i h1 g5) (fun g5 => by rw [show i = j by omega]; exact h5)) (by omega)))
            · refine nw_iconst C (nI 0) dX6_isClear_75 (by decide) 76 rfl ?_
              exact nw_nret C dX6_isClear_76 (b2i_narrow false) (Nat.le_refl _) (Nat.le_refl _) ⟨congrArg (fun z => some (Value.int (b2i z))) (show (false) = (sp_clear gr a b) from cl_false (by omega) hjl h5), rfl⟩
    exact (nw_sub [2, 3, 4, 1, 0] rfl (lp1 _ (0 + 1) (by omega) (fun h => ap_pos h) (fun i h1 h2 => by omega) (Nat.lt_succ_self _)))
  · refine nw_iconst C (nI 0) dX6_isClear_9 (by decide) 10 rfl ?_
    exact nw_nret C dX6_isClear_10 (b2i_narrow false) (Nat.le_refl _) (Nat.le_refl _) ⟨congrArg (fun z => some (Value.int (b2i z))) (show (false) = (sp_clear gr a b) from cl_line h2), rfl⟩
set_option maxHeartbeats 4000000 in
theorem mX6_count (l : Launch) (hf : l.flags = flags0) (d : nwD) (g ka : Nat) (gr : spGr) (kk : Nat) (H : Heap) (hB : nd_B d ≤ H.size) (hG : nwGr d g ka gr H) (ho : spGrOk gr) (hkk : kk < 4) : nwRd l d yX6_count cX6_count 4 (some .int) 1 20 [.ref g, .ref (nd_st d kk)] H (some (.int (nI (sp_cnt (fun c => gr_k gr c == kk) (gr_n gr))))) := by
  refine nw_rd "NightwatchWall$Ground" "count" hf (by decide +kernel) rfl rfl hB (Nat.le_of_ble_eq_true rfl) ?_
  intro X C
  obtain ⟨⟨hw1, hw2, hh1, hh2⟩, hk4⟩ := id ho
  have hn64 := ho.n
  show nwV X _ _ 4 H 0 0 0 [(0, .ref g), (1, .ref (nd_st d kk))] []
  refine nw_iconst C (nI 0) dX6_count_0 (by decide) 1 rfl ?_
  refine nw_istore_n C [(2, .int (nI 0)), (0, .ref g), (1, .ref (nd_st d kk))] dX6_count_1 (by decide) rfl 2 rfl ?_
  refine nw_iconst C (nI 0) dX6_count_2 (by decide) 3 rfl ?_
  refine nw_istore_n C [(3, .int (nI 0)), (2, .int (nI 0)), (0, .ref g), (1, .ref (nd_st d kk))] dX6_count_3 (by decide) rfl 4 rfl ?_
  have lp1 : ∀ (fu : Nat) (i : Nat) (m : Nat), (i ≤ gr_n gr) → (m = sp_cnt (fun c => gr_k gr c == kk) i) → gr_n gr - i < fu → nwV X (nwNew H) (nwQE X (fun v H1 => v = some (.int (nI (sp_cnt (fun c => gr_k gr c == kk) (gr_n gr)))) ∧ H1 = H) nwNo (nwNew H) 0 0) 4 H 0 0 4 [(0, .ref g), (1, .ref (nd_st d kk)), (2, .int (nI m)), (3, .int (nI i))] [] := by
    intro fu
    induction fu with
    | zero => intro i m _ _ hm; exact absurd hm (Nat.not_lt_zero _)
    | succ fu ih_lp1 =>
      intro i m hi hmm hm
      refine nw_iload_n C 3 dX6_count_4 rfl 5 rfl ?_
      refine nw_aload_n C 0 dX6_count_5 rfl 6 rfl ?_
      refine nw_get C hG.1 (T := TX6) rfl in_X6 2 (by decide) q735 (Or.inl rfl) rfl dX6_count_6 9 rfl ?_
      refine nw_alenR C hG.2 (by decide) dX6_count_9 10 rfl ?_
      refine nw_icmpgeN C (by omega) 37 dX6_count_10 (by decide) 13 rfl (fun h2 => ?_) (fun h2 => ?_)
      · refine nw_iload_n C 2 dX6_count_37 rfl 38 rfl ?_
        exact nw_iret C dX6_count_38 (Nat.le_refl _) (Nat.le_refl _) ⟨congrArg (fun z => some (Value.int (nI z))) (show (m) = (sp_cnt (fun c => gr_k gr c == kk) (gr_n gr)) from (by rw [hmm, show i = gr_n gr by omega])), rfl⟩
      · refine nw_iload_n C 2 dX6_count_13 rfl 14 rfl ?_
        refine nw_aload_n C 0 dX6_count_14 rfl 15 rfl ?_
        refine nw_get C hG.1 (T := TX6) rfl in_X6 2 (by decide) q735 (Or.inl rfl) rfl dX6_count_15 18 rfl ?_
        refine nw_iload_n C 3 dX6_count_18 rfl 19 rfl ?_
        refine nw_aaldKN C (nd_st d (gr_k gr i)) hG.2 (by omega) rfl dX6_count_19 20 rfl ?_
        refine nw_aload_n C 1 dX6_count_20 rfl 21 rfl ?_
        refine nw_acmpne C 28 dX6_count_21 (by decide) 24 rfl (fun h3 => ?_) (fun h3 => ?_)
        · refine nw_iconst C (nI 0) dX6_count_28 (by decide) 29 rfl ?_
          refine nw_iaddN C dX6_count_29 30 rfl ?_
          refine nw_istore_n C [(2, .int (nI (m + 0))), (0, .ref g), (1, .ref (nd_st d kk)), (3, .int (nI i))] dX6_count_30 (by decide) rfl 31 rfl ?_
          refine nw_iincN C 3 (c0 := 1) [(3, .int (nI (i + 1))), (2, .int (nI (m + 0))), (0, .ref g), (1, .ref (nd_st d kk))] dX6_count_31 rfl (by decide) rfl 34 rfl ?_
          refine nw_goto C 4 dX6_count_34 (by decide) ?_
          exact (nw_sub [2, 3, 1, 0] rfl (ih_lp1 (i + 1) (m + 0) (by omega) (by rw [sp_cnt_f (p := fun c => gr_k gr c == kk) (n := i) (by first | exact (nw_kT C (hk4 _ (by omega)) hkk h3).symm | exact (nw_kF h3).symm)]; omega) (by omega)))
        · refine nw_iconst C (nI 1) dX6_count_24 (by decide) 25 rfl ?_
          refine nw_goto C 29 dX6_count_25 (by decide) ?_
          refine nw_iaddN C dX6_count_29 30 rfl ?_
          refine nw_istore_n C [(2, .int (nI (m + 1))), (0, .ref g), (1, .ref (nd_st d kk)), (3, .int (nI i))] dX6_count_30 (by decide) rfl 31 rfl ?_
          refine nw_iincN C 3 (c0 := 1) [(3, .int (nI (i + 1))), (2, .int (nI (m + 1))), (0, .ref g), (1, .ref (nd_st d kk))] dX6_count_31 rfl (by decide) rfl 34 rfl ?_
          refine nw_goto C 4 dX6_count_34 (by decide) ?_
          exact (nw_sub [2, 3, 1, 0] rfl (ih_lp1 (i + 1) (m + 1) (by omega) (by rw [sp_cnt_t (p := fun c => gr_k gr c == kk) (n := i) (by first | exact (nw_kT C (hk4 _ (by omega)) hkk h3).symm | exact (nw_kF h3).symm)]; omega) (by omega)))
  exact (nw_sub [2, 3, 1, 0] rfl (lp1 _ 0 0 (Nat.zero_le _) rfl (Nat.lt_succ_self _)))
