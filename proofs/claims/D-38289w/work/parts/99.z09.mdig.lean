/-! ===== the reference: digits ===== -/
theorem nw_decj {j : Nat} (h : 0 < j) : nI j + oI none = nI (j - 1) := by
  rw [← pk_sub (show 1 ≤ j by omega), show oI none = -(nI 1) by decide]
  grind
set_option maxHeartbeats 4000000 in
theorem mX4_digits (l : Launch) (hf : l.flags = flags0) (d : nwD) (n : Nat) (H : Heap) (hB : nd_B d ≤ H.size) (hn : n < 2 ^ 31) : nwRd l d yX4_digits cX4_digits 3 (some .int) 1 20 [.int (nI n)] H (some (.int (nI (sp_digs 32 n)))) := by
  refine nw_rd "NightwatchWallModel" "digits" hf (by decide +kernel) rfl rfl hB (Nat.le_of_ble_eq_true rfl) ?_
  intro X C
  show nwV X _ _ 3 H 0 0 0 [(0, .int (nI n))] []
  refine nw_iconst C (nI 0) dX4_digits_0 (by decide) 1 rfl ?_
  refine nw_istore_n C [(1, .int (nI 0)), (0, .int (nI n))] dX4_digits_1 (by decide) rfl 2 rfl ?_
  refine nw_iload_n C 1 dX4_digits_2 rfl 3 rfl ?_
  refine nw_istore_n C [(2, .int (nI n)), (1, .int (nI 0)), (0, .int (nI n))] dX4_digits_3 (by decide) rfl 4 rfl ?_
  have lp1 : ∀ (fu : Nat) (m : Nat) (r : Nat), (m ≤ 14) → (r = n / 5 ^ m) → (sp_digs 32 n = m + sp_digs (32 - m) r) → (r ≤ n) → 15 - m < fu → nwV X (nwNew H) (nwQE X (fun v H1 => v = some (.int (nI (sp_digs 32 n))) ∧ H1 = H) nwNo (nwNew H) 0 0) 3 H 0 0 4 [(1, .int (nI m)), (2, .int (nI r))] [] := by
    intro fu
    induction fu with
    | zero => intro m r _ _ _ _ hm; exact absurd hm (Nat.not_lt_zero _)
    | succ fu ih_lp1 =>
      intro m r hm14 hr hdg hrn hm
      have hi15 : 0 < r → m + 1 ≤ 14 := fun h0 => by
        apply Nat.le_of_not_lt
        intro h1
        have h2 : 5 ^ 14 ≤ 5 ^ m := Nat.pow_le_pow_right (by decide) (by omega)
        have h3 : n / 5 ^ m = 0 := Nat.div_eq_of_lt (by omega)
        omega
      refine nw_iload_n C 1 dX4_digits_4 rfl 5 rfl ?_
      refine nw_ifleN C (by omega) 18 dX4_digits_5 (by decide) 8 rfl (fun h2 => ?_) (fun h2 => ?_)
      · refine nw_iload_n C 0 dX4_digits_18 rfl 19 rfl ?_
        exact nw_iret C dX4_digits_19 (Nat.le_refl _) (Nat.le_refl _) ⟨congrArg (fun z => some (Value.int (nI z))) (show (m) = (sp_digs 32 n) from (by rw [hdg, show r = 0 by omega, sp_digs_z]; rfl)), rfl⟩
      · refine nw_iincN C 0 (c0 := 1) [(1, .int (nI (m + 1))), (2, .int (nI r))] dX4_digits_8 rfl (by decide) rfl 11 rfl ?_
        refine nw_iload_n C 1 dX4_digits_11 rfl 12 rfl ?_
        refine nw_iconst C (nI 5) dX4_digits_12 (by decide) 13 rfl ?_
        refine nw_idivN C (by omega) dX4_digits_13 14 rfl ?_
        refine nw_istore_n C [(2, .int (nI (r / 5))), (1, .int (nI (m + 1)))] dX4_digits_14 (by decide) rfl 15 rfl ?_
        refine nw_goto C 4 dX4_digits_15 (by decide) ?_
        exact (nw_sub [1, 0] rfl (ih_lp1 (m + 1) (r / 5) (hi15 (by omega)) (by rw [hr, Nat.div_div_eq_div_mul]; rfl) (by rw [hdg, show 32 - m = (31 - m) + 1 by omega, sp_digs_s _ (by omega), show 32 - (m + 1) = 31 - m by omega]; omega) (by omega) (by omega)))
  exact (nw_sub [1, 0] rfl (lp1 _ 0 n (Nat.zero_le _) (by rw [Nat.pow_zero, Nat.div_one]) (by rw [Nat.zero_add]) (Nat.le_refl _) (Nat.lt_succ_self _)))
set_option maxHeartbeats 4000000 in
theorem mX4_digit (l : Launch) (hf : l.flags = flags0) (d : nwD) (n at9 mm : Nat) (H : Heap) (hB : nd_B d ≤ H.size) (hn : n < 2 ^ 31) (ha : at9 < mm ∧ mm < 2 ^ 31) : nwRd l d yX4_digit cX4_digit 5 (some .int) 1 20 [.int (nI n), .int (nI at9), .int (nI mm)] H (some (.int (nI (sp_dig n (mm - 1 - at9))))) := by
  refine nw_rd "NightwatchWallModel" "digit" hf (by decide +kernel) rfl rfl hB (Nat.le_of_ble_eq_true rfl) ?_
  intro X C
  show nwV X _ _ 5 H 0 0 0 [(0, .int (nI n)), (1, .int (nI at9)), (2, .int (nI mm))] []
  refine nw_iload_n C 0 dX4_digit_0 rfl 1 rfl ?_
  refine nw_istore_n C [(3, .int (nI n)), (0, .int (nI n)), (1, .int (nI at9)), (2, .int (nI mm))] dX4_digit_1 (by decide) rfl 2 rfl ?_
  refine nw_iload_n C 3 dX4_digit_2 rfl 3 rfl ?_
  refine nw_iconst C (nI 1) dX4_digit_3 (by decide) 4 rfl ?_
  refine nw_isubN C (by omega) dX4_digit_4 5 rfl ?_
  refine nw_istore C [(4, .int (nI (mm - 1))), (3, .int (nI n)), (0, .int (nI n)), (1, .int (nI at9)), (2, .int (nI mm))] dX4_digit_5 (by decide) rfl 7 rfl ?_
  have lp1 : ∀ (fu : Nat) (j : Nat) (r : Nat), (at9 ≤ j ∧ j ≤ mm - 1) → (r = n / 5 ^ (mm - 1 - j)) → (r ≤ n) → j < fu → nwV X (nwNew H) (nwQE X (fun v H1 => v = some (.int (nI (sp_dig n (mm - 1 - at9)))) ∧ H1 = H) nwNo (nwNew H) 0 0) 5 H 0 0 7 [(1, .int (nI at9)), (3, .int (nI r)), (4, .int (nI j))] [] := by
    intro fu
    induction fu with
    | zero => intro j r _ _ _ hm; exact absurd hm (Nat.not_lt_zero _)
    | succ fu ih_lp1 =>
      intro j r hj hr hrn hm
      refine nw_iload C 2 dX4_digit_7 rfl 9 rfl ?_
      refine nw_iload_n C 0 dX4_digit_9 rfl 10 rfl ?_
      refine nw_icmpleN C (by omega) 23 dX4_digit_10 (by decide) 13 rfl (fun h2 => ?_) (fun h2 => ?_)
      · refine nw_iload_n C 1 dX4_digit_23 rfl 24 rfl ?_
        refine nw_iconst C (nI 5) dX4_digit_24 (by decide) 25 rfl ?_
        refine nw_iremN C (by omega) dX4_digit_25 26 rfl ?_
        exact nw_iret C dX4_digit_26 (Nat.le_refl _) (Nat.le_refl _) ⟨congrArg (fun z => some (Value.int (nI z))) (show (r % 5) = (sp_dig n (mm - 1 - at9)) from (by unfold sp_dig; rw [hr, show j = at9 by omega])), rfl⟩
      · refine nw_iload_n C 1 dX4_digit_13 rfl 14 rfl ?_
        refine nw_iconst C (nI 5) dX4_digit_14 (by decide) 15 rfl ?_
        refine nw_idivN C (by omega) dX4_digit_15 16 rfl ?_
        refine nw_istore_n C [(3, .int (nI (r / 5))), (1, .int (nI at9)), (4, .int (nI j))] dX4_digit_16 (by decide) rfl 17 rfl ?_
        refine nw_iinc C 2 (nI (j - 1)) [(4, .int (nI (j - 1))), (3, .int (nI (r / 5))), (1, .int (nI at9))] dX4_digit_17 rfl (nw_decj (by omega)) (by decide) rfl 20 rfl ?_
        refine nw_goto C 7 dX4_digit_20 (by decide) ?_
        exact (nw_sub [2, 1, 0] rfl (ih_lp1 (j - 1) (r / 5) (by omega) (by rw [hr, Nat.div_div_eq_div_mul, show mm - 1 - (j - 1) = (mm - 1 - j) + 1 by omega]; rfl) (by omega) (by omega)))
  exact (nw_sub [3, 1, 0] rfl (lp1 _ (mm - 1) n (by omega) (by rw [Nat.sub_self, Nat.pow_zero, Nat.div_one]) (Nat.le_refl _) (Nat.lt_succ_self _)))
