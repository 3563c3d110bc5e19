/-! ===== the reference: what makes arrays ===== -/
theorem sp_moved_sym {g : spGr} (ho : spGrOk g) {a b m : Nat} (ha : a < gr_n g) (hm : m < 5) (h : sp_moved g a m = some b) : ∃ k, k < 5 ∧ sp_moved g b k = some a := by
  have hb := sp_moved_lt ho ha h
  obtain ⟨w, hh, kk⟩ := g
  have h0 : 3 ≤ w := ho.1.1
  have ra : a / w < hh := ho.row ha
  have hm1 : a % w < w := Nat.mod_lt _ (by omega)
  have hd := Nat.div_add_mod a w
  have hcw : 0 < a / w → w ≤ a := fun h => (nw_dv1 (by omega)).mp h
  unfold sp_moved at h
  dsimp only [gr_w, gr_h] at h
  split at h
  · cases h
    exact ⟨0, by omega, rfl⟩
  · split at h
    · split at h
      · rename_i h1
        cases h
        refine ⟨3, by omega, ?_⟩
        have e : (a - w) / w = a / w - 1 := by
          have h2 := Nat.sub_mul_div a w 1
          rw [Nat.mul_one] at h2
          exact h2
        simp only [sp_moved, gr_w, gr_h]
        rw [if_neg (by decide), if_neg (by decide), if_neg (by decide), if_pos trivial, e, if_pos (by omega)]
        have := hcw h1
        congr 1
        omega
      · cases h
    · split at h
      · split at h
        · rename_i h1
          cases h
          refine ⟨4, by omega, ?_⟩
          have e : (a + 1) % w = a % w + 1 := by
            rw [Nat.add_mod, Nat.mod_eq_of_lt (show 1 < w by omega), Nat.mod_eq_of_lt (by omega)]
          simp only [sp_moved, gr_w, gr_h]
          rw [if_neg (by decide), if_neg (by decide), if_neg (by decide), if_neg (by decide), e, if_pos (by omega)]
          congr 1
        · cases h
      · split at h
        · split at h
          · rename_i h1
            cases h
            refine ⟨1, by omega, ?_⟩
            have e : 0 < (a + w) / w := Nat.div_pos (by omega) (by omega)
            simp only [sp_moved, gr_w, gr_h]
            rw [if_neg (by decide), if_pos trivial, if_pos e]
            congr 1
            omega
          · cases h
        · split at h
          · rename_i h1
            cases h
            refine ⟨2, by omega, ?_⟩
            have h1' : 0 < a % w := h1
            have h2 : a % w ≤ a := Nat.mod_le _ _
            have e : (a - 1) % w = a % w - 1 := by
              have e1 : a - 1 = w * (a / w) + (a % w - 1) := by omega
              rw [e1, Nat.mul_add_mod, Nat.mod_eq_of_lt (by omega)]
            simp only [sp_moved, gr_w, gr_h]
            rw [if_neg (by decide), if_neg (by decide), if_pos trivial, e, if_pos (by omega)]
            congr 1
            omega
          · cases h
/-- from some of the first i cells with f, one is at c in a move -/
def sp_fwd (g : spGr) (f : Nat → Bool) (i c : Nat) : Bool := sp_any (fun a => f a && sp_any (fun m => sp_moved g a m == some c) 5) i
theorem sp_fwd_all {g : spGr} (ho : spGrOk g) {f : Nat → Bool} {c : Nat} (hc : c < gr_n g) : sp_fwd g f (gr_n g) c = sp_any (sp_from g f c) 5 := by
  rw [Bool.eq_iff_iff]
  unfold sp_fwd
  rw [sp_any_iff, sp_any_iff]
  constructor
  · rintro ⟨a, ha, h⟩
    rw [Bool.and_eq_true, sp_any_iff] at h
    obtain ⟨hf, m, hm, h2⟩ := h
    obtain ⟨k, hk, h3⟩ := sp_moved_sym ho ha hm (eq_of_beq h2)
    exact ⟨k, hk, by rw [sp_from_s h3]; exact hf⟩
  · rintro ⟨m, hm, h⟩
    unfold sp_from at h
    split at h
    · cases h
    · rename_i x hx
      obtain ⟨k, hk, h3⟩ := sp_moved_sym ho hc hm hx
      refine ⟨x, sp_moved_lt ho hc hx, ?_⟩
      rw [Bool.and_eq_true, sp_any_iff]
      exact ⟨h, k, hk, by rw [h3]; exact beq_self_eq_true _⟩
/-- the cells that are reached when the first i cells are done, and m moves of the next -/
def sp_onw (s : spSg) (f : Nat → Bool) (t i m c : Nat) : Bool := (sp_fwd (sg_gr s) f i c || (f i && sp_any (fun k => sp_moved (sg_gr s) i k == some c) m)) && sp_hidden s c t
theorem sp_onw_0 {s : spSg} {f : Nat → Bool} {t i c : Nat} : sp_onw s f t i 0 c = (sp_fwd (sg_gr s) f i c && sp_hidden s c t) := by
  unfold sp_onw sp_any
  simp
theorem sp_onw_no {s : spSg} {f : Nat → Bool} {t i c : Nat} (h : f i = false) : sp_onw s f t (i + 1) 0 c = sp_onw s f t i 0 c := by
  rw [sp_onw_0, sp_onw_0]
  unfold sp_fwd
  rw [sp_any, h]
  simp
theorem sp_onw_5 {s : spSg} {f : Nat → Bool} {t i c : Nat} : sp_onw s f t (i + 1) 0 c = sp_onw s f t i 5 c := by
  rw [sp_onw_0]
  unfold sp_onw sp_fwd
  rw [sp_any]
theorem sp_onw_n {s : spSg} {f : Nat → Bool} {t i m c : Nat} (h : sp_moved (sg_gr s) i m = none) : sp_onw s f t i (m + 1) c = sp_onw s f t i m c := by
  unfold sp_onw
  rw [sp_any, h]
  simp
theorem sp_onw_s {s : spSg} {f : Nat → Bool} {t i m c x : Nat} (hf : f i = true) (h : sp_moved (sg_gr s) i m = some x) (hx : c = x) : sp_onw s f t i (m + 1) c = sp_hidden s c t := by
  unfold sp_onw
  rw [sp_any, h, hf, hx]
  simp
theorem sp_onw_d {s : spSg} {f : Nat → Bool} {t i m c x : Nat} (h : sp_moved (sg_gr s) i m = some x) (hx : ¬ c = x) : sp_onw s f t i (m + 1) c = sp_onw s f t i m c := by
  unfold sp_onw
  rw [sp_any, h, show (some x == some c) = false by
    have : ¬ x = c := fun e => hx e.symm
    simp [this]]
  simp
theorem sp_onw_t {s : spSg} {f : Nat → Bool} {t i m c x : Nat} (hf : f i = true) (h : sp_moved (sg_gr s) i m = some x) (h2 : sp_onw s f t i m x = true) : sp_onw s f t i (m + 1) c = sp_onw s f t i m c := by
  by_cases hx : c = x
  · rw [sp_onw_s hf h hx, hx, h2]
    unfold sp_onw at h2
    rw [Bool.and_eq_true] at h2
    exact h2.2
  · exact sp_onw_d h hx
theorem kX4_isUnseen : nwPV "NightwatchWallModel" yX4_isUnseen cX4_isUnseen 3 (some .boolean) 2 := ⟨⟨q2030, qs80, q93, q2031⟩, rfl, by decide +kernel, by decide +kernel, by decide +kernel⟩
theorem kX4_moved : nwPV "NightwatchWallModel" yX4_moved cX4_moved 3 (some .int) 2 := ⟨⟨q1966, qs70, q93, q1967⟩, rfl, by decide +kernel, by decide +kernel, by decide +kernel⟩
set_option maxHeartbeats 4000000 in
theorem mX4_guardNow (l : Launch) (hf : l.flags = flags0) (d : nwD) (ro am : Nat → Nat) (y : Nat) (σ : spSg) (th : Int32) (g q : Nat) (H : Heap) (hB : nd_B d ≤ H.size) (hW : nwMC d ro am y σ th H) (okM : spOkM σ) (hg9 : g < (sg_gu σ).1) (hq8 : q ≤ 8) : nwMt l d yX4_guardNow cX4_guardNow 6 (some .int) 4 84 1 9 [.ref y, .int (nI g), .int (nI q)] H (nwVr (sp_guardNow σ g q) H) nwNo (nwNew H) := by
  refine nw_start "NightwatchWallModel" "guardNow" hf (by decide +kernel) rfl rfl (fun _ h => h) (fun q h => Nat.le_trans hB h) (Nat.le_of_ble_eq_true rfl) ?_
  intro X C
  have hW0 := hW
  have hB0 := hB
  have hE := C.E0
  have hext : nwExt H H := nwExt.rfl
  obtain ⟨hmX, hmKi, hmLa, hmFo, hmGu, hmPo, hmIn, hmWi, hmWo, hmKe⟩ := id hW
  obtain ⟨okg, okl, okf, oku, okp, oki, okw, okd, okk, oka⟩ := id okM
  have hn64 : gr_n (sg_gr σ) ≤ 64 := okg.n
  have oku1 := oku.1
  have oki1 := oki.1
  have okp1 := okp.1
  have okw1 := okw.1
  have okl1 := okl.1
  have okf1 := okf.1
  have hgk9 := (oku.2 g hg9).1
  show nwV X _ _ 6 H 0 0 0 [(0, .ref y), (1, .int (nI g)), (2, .int (nI q))] []
  have hg1 : nwMGd d (am (300 + g)) (am (400 + g)) (fun q => ro q = 7401 + g) ((sg_gu σ).2 g) H := hmGu.2 g (by omega)
  have hk2 : okGd (sg_gr σ) ((sg_gu σ).2 g) := oku.2 g (by omega)
  have hg3 : nwO d (am (300 + g)) 10 [.int (nI (gd_a ((sg_gu σ).2 g))), .int (nI (gd_b ((sg_gu σ).2 g))), .int (nI (gd_s ((sg_gu σ).2 g))), .ref (am (400 + g)), .int (nI (gd_k ((sg_gu σ).2 g))), .int (gd_h ((sg_gu σ).2 g))] H := hg1.1
  refine nw_aload_n C 0 dX4_guardNow_0 rfl 1 rfl ?_
  refine nw_get C hmX (T := TX4) rfl in_X4 8 (by decide) q1630 (Or.inl rfl) rfl dX4_guardNow_1 4 rfl ?_
  refine nw_iload_n C 1 dX4_guardNow_4 rfl 5 rfl ?_
  refine nw_callF C (mJ3_get _ C.hfl d (am 3) ((sg_gu σ).1) (fun k => am (300 + k)) (fun q => ro q = 7004) g H hB hmGu.1 (by omega)) kJ3_get (ci := 13) rfl q1615 q1618 (by decide +kernel) fc_List_get (hmGu.1.is C) (As := [.int (nI g)]) (rest := []) rfl rfl ⟨⟨Nat.le_of_ble_eq_true rfl, Nat.le_of_ble_eq_true rfl⟩, Nat.le_of_ble_eq_true rfl, Nat.le_of_ble_eq_true rfl⟩ (Nat.le_of_ble_eq_true rfl) (fun _ h8 h9 => absurd h9 (Nat.not_le.mpr h8)) dX4_guardNow_5 10 rfl (nw_rdK ?_) nw_noX
  refine nw_cast C (ci := 10) rfl (hg3.is C (ci := 10) rfl) q1621 dX4_guardNow_10 13 rfl ?_
  refine nw_astore_n C [(3, .ref (am (300 + g))), (0, .ref y), (1, .int (nI g)), (2, .int (nI q))] dX4_guardNow_13 (by decide) rfl 14 rfl ?_
  refine nw_iconst C (nI 0) dX4_guardNow_14 (by decide) 15 rfl ?_
  refine nw_istore C [(4, .int (nI 0)), (3, .ref (am (300 + g))), (0, .ref y), (1, .int (nI g)), (2, .int (nI q))] dX4_guardNow_15 (by decide) rfl 17 rfl ?_
  refine nw_iconst C (nI 0) dX4_guardNow_17 (by decide) 18 rfl ?_
  refine nw_istore C [(5, .int (nI 0)), (4, .int (nI 0)), (3, .ref (am (300 + g))), (0, .ref y), (1, .int (nI g)), (2, .int (nI q))] dX4_guardNow_18 (by decide) rfl 20 rfl ?_
  have lp4 : ∀ (fu : Nat) (i : Nat) (mm : Int32), (i ≤ 6) → (mm = sp_bits (fun k => sg_ke σ k == some g) i) → 6 - i < fu → nwV X (nwNew H) (nwQE X (nwVr (sp_guardNow σ g q) H) nwNo (nwNew H) 1 9) 6 H 0 0 20 [(0, .ref y), (1, .int (nI g)), (2, .int (nI q)), (3, .ref (am (300 + g))), (4, .int mm), (5, .int (nI i))] [] := by
    intro fu
    induction fu with
    | zero => intro i mm _ _ hm; exact absurd hm (Nat.not_lt_zero _)
    | succ fu ih_lp4 =>
      intro i mm hi hmm hm
      refine nw_iload C 5 dX4_guardNow_20 rfl 22 rfl ?_
      refine nw_bipush C (nI 6) dX4_guardNow_22 (by decide) 24 rfl ?_
      refine nw_icmpgeN C (by omega) 57 dX4_guardNow_24 (by decide) 27 rfl (fun h5 => ?_) (fun h5 => ?_)
      · have hbits : mm = sp_keysOf (sg_ke σ) (some g) := by rw [hmm, show i = 6 by omega]; rfl
        refine nw_bipush C (nI 9) dX4_guardNow_57 (by decide) 59 rfl ?_
        refine nw_newi C (by omega) 1 9 (by omega) (by omega) ⟨(show 1 ≤ 1 by omega), (show 9 ≤ 9 by omega)⟩ dX4_guardNow_59 61 rfl (fun a6 H7 hx8 ho9 hz10 hq11 => ?_)
        have hn12 : H.size ≤ a6 := (by rw [hx8]; exact hext.1)
        replace hext := hext.made hz10 hq11
        replace hW := hW0.ext hext.2
        replace hE := C.E0.ext hext.2
        replace hB := Nat.le_trans hB0 hext.1
        clear hmX hmKi hmLa hmFo hmGu hmPo hmIn hmWi hmWo hmKe
        obtain ⟨hmX, hmKi, hmLa, hmFo, hmGu, hmPo, hmIn, hmWi, hmWo, hmKe⟩ := id hW
        have hg13 : nwMGd d (am (300 + g)) (am (400 + g)) (fun q => ro q = 7401 + g) ((sg_gu σ).2 g) H7 := hmGu.2 g (by omega)
        have hk14 : okGd (sg_gr σ) ((sg_gu σ).2 g) := oku.2 g (by omega)
        have hg15 : nwO d (am (300 + g)) 10 [.int (nI (gd_a ((sg_gu σ).2 g))), .int (nI (gd_b ((sg_gu σ).2 g))), .int (nI (gd_s ((sg_gu σ).2 g))), .ref (am (400 + g)), .int (nI (gd_k ((sg_gu σ).2 g))), .int (gd_h ((sg_gu σ).2 g))] H7 := hg13.1
        refine nw_dup C dX4_guardNow_61 rfl 62 rfl ?_
        refine nw_iconst C (nI 0) dX4_guardNow_62 (by decide) 63 rfl ?_
        refine nw_aload_n C 3 dX4_guardNow_63 rfl 64 rfl ?_
        refine nw_get C hg15 (T := TX11) rfl in_X11 0 (by decide) q1782 (Or.inl rfl) rfl dX4_guardNow_64 67 rfl ?_
        refine nw_iastN C ho9 hn12 (by omega) dX4_guardNow_67 68 rfl (fun H16 ho17 hz18 hq19 => ?_)
        replace hext := hext.put hz18 hq19 hn12
        replace hW := hW0.ext hext.2
        replace hE := C.E0.ext hext.2
        replace hB := Nat.le_trans hB0 hext.1
        clear hmX hmKi hmLa hmFo hmGu hmPo hmIn hmWi hmWo hmKe
        obtain ⟨hmX, hmKi, hmLa, hmFo, hmGu, hmPo, hmIn, hmWi, hmWo, hmKe⟩ := id hW
        have hg20 : nwMGd d (am (300 + g)) (am (400 + g)) (fun q => ro q = 7401 + g) ((sg_gu σ).2 g) H16 := hmGu.2 g (by omega)
        have hk21 : okGd (sg_gr σ) ((sg_gu σ).2 g) := oku.2 g (by omega)
        have hg22 : nwO d (am (300 + g)) 10 [.int (nI (gd_a ((sg_gu σ).2 g))), .int (nI (gd_b ((sg_gu σ).2 g))), .int (nI (gd_s ((sg_gu σ).2 g))), .ref (am (400 + g)), .int (nI (gd_k ((sg_gu σ).2 g))), .int (gd_h ((sg_gu σ).2 g))] H16 := hg20.1
        refine nw_dup C dX4_guardNow_68 rfl 69 rfl ?_
        refine nw_iconst C (nI 1) dX4_guardNow_69 (by decide) 70 rfl ?_
        refine nw_aload_n C 3 dX4_guardNow_70 rfl 71 rfl ?_
        refine nw_get C hg22 (T := TX11) rfl in_X11 1 (by decide) q1784 (Or.inl rfl) rfl dX4_guardNow_71 74 rfl ?_
        refine nw_iastN C ho17 hn12 (by omega) dX4_guardNow_74 75 rfl (fun H23 ho24 hz25 hq26 => ?_)
        replace hext := hext.put hz25 hq26 hn12
        replace hW := hW0.ext hext.2
        replace hE := C.E0.ext hext.2
        replace hB := Nat.le_trans hB0 hext.1
        clear hmX hmKi hmLa hmFo hmGu hmPo hmIn hmWi hmWo hmKe
        obtain ⟨hmX, hmKi, hmLa, hmFo, hmGu, hmPo, hmIn, hmWi, hmWo, hmKe⟩ := id hW
        have hg27 : nwMGd d (am (300 + g)) (am (400 + g)) (fun q => ro q = 7401 + g) ((sg_gu σ).2 g) H23 := hmGu.2 g (by omega)
        have hk28 : okGd (sg_gr σ) ((sg_gu σ).2 g) := oku.2 g (by omega)
        have hg29 : nwO d (am (300 + g)) 10 [.int (nI (gd_a ((sg_gu σ).2 g))), .int (nI (gd_b ((sg_gu σ).2 g))), .int (nI (gd_s ((sg_gu σ).2 g))), .ref (am (400 + g)), .int (nI (gd_k ((sg_gu σ).2 g))), .int (gd_h ((sg_gu σ).2 g))] H23 := hg27.1
        refine nw_dup C dX4_guardNow_75 rfl 76 rfl ?_
        refine nw_iconst C (nI 2) dX4_guardNow_76 (by decide) 77 rfl ?_
        refine nw_aload_n C 3 dX4_guardNow_77 rfl 78 rfl ?_
        refine nw_get C hg29 (T := TX11) rfl in_X11 2 (by decide) q1786 (Or.inl rfl) rfl dX4_guardNow_78 81 rfl ?_
        refine nw_iastN C ho24 hn12 (by omega) dX4_guardNow_81 82 rfl (fun H30 ho31 hz32 hq33 => ?_)
        replace hext := hext.put hz32 hq33 hn12
        replace hW := hW0.ext hext.2
        replace hE := C.E0.ext hext.2
        replace hB := Nat.le_trans hB0 hext.1
        clear hmX hmKi hmLa hmFo hmGu hmPo hmIn hmWi hmWo hmKe
        obtain ⟨hmX, hmKi, hmLa, hmFo, hmGu, hmPo, hmIn, hmWi, hmWo, hmKe⟩ := id hW
        have hg34 : nwMGd d (am (300 + g)) (am (400 + g)) (fun q => ro q = 7401 + g) ((sg_gu σ).2 g) H30 := hmGu.2 g (by omega)
        have hk35 : okGd (sg_gr σ) ((sg_gu σ).2 g) := oku.2 g (by omega)
        have hg36 : nwO d (am (300 + g)) 10 [.int (nI (gd_a ((sg_gu σ).2 g))), .int (nI (gd_b ((sg_gu σ).2 g))), .int (nI (gd_s ((sg_gu σ).2 g))), .ref (am (400 + g)), .int (nI (gd_k ((sg_gu σ).2 g))), .int (gd_h ((sg_gu σ).2 g))] H30 := hg34.1
        refine nw_dup C dX4_guardNow_82 rfl 83 rfl ?_
        refine nw_iconst C (nI 3) dX4_guardNow_83 (by decide) 84 rfl ?_
        refine nw_aload_n C 3 dX4_guardNow_84 rfl 85 rfl ?_
        refine nw_get C hg36 (T := TX11) rfl in_X11 3 (by decide) q1788 (Or.inl rfl) rfl dX4_guardNow_85 88 rfl ?_
        refine nw_callF C (mJ3_size _ C.hfl d (am (400 + g)) (gd_m ((sg_gu σ).2 g)) (fun j => nd_bx d (gd_c ((sg_gu σ).2 g) j)) (fun q => ro q = 7401 + g) H30 hB hg34.2) kJ3_size (ci := 13) rfl q1607 q1611 (by decide +kernel) fc_List_size (hg34.2.is C) (As := []) (rest := [.int (nI 3), .ref a6, .ref a6]) rfl rfl ⟨⟨Nat.le_of_ble_eq_true rfl, Nat.le_of_ble_eq_true rfl⟩, Nat.le_of_ble_eq_true rfl, Nat.le_of_ble_eq_true rfl⟩ (Nat.le_of_ble_eq_true rfl) (fun _ h8 h9 => absurd h9 (Nat.not_le.mpr h8)) dX4_guardNow_88 93 rfl (nw_rdK ?_) nw_noX
        refine nw_iastN C ho31 hn12 (by omega) dX4_guardNow_93 94 rfl (fun H37 ho38 hz39 hq40 => ?_)
        replace hext := hext.put hz39 hq40 hn12
        replace hW := hW0.ext hext.2
        replace hE := C.E0.ext hext.2
        replace hB := Nat.le_trans hB0 hext.1
        clear hmX hmKi hmLa hmFo hmGu hmPo hmIn hmWi hmWo hmKe
        obtain ⟨hmX, hmKi, hmLa, hmFo, hmGu, hmPo, hmIn, hmWi, hmWo, hmKe⟩ := id hW
        have hg41 : nwMGd d (am (300 + g)) (am (400 + g)) (fun q => ro q = 7401 + g) ((sg_gu σ).2 g) H37 := hmGu.2 g (by omega)
        have hk42 : okGd (sg_gr σ) ((sg_gu σ).2 g) := oku.2 g (by omega)
        have hg43 : nwO d (am (300 + g)) 10 [.int (nI (gd_a ((sg_gu σ).2 g))), .int (nI (gd_b ((sg_gu σ).2 g))), .int (nI (gd_s ((sg_gu σ).2 g))), .ref (am (400 + g)), .int (nI (gd_k ((sg_gu σ).2 g))), .int (gd_h ((sg_gu σ).2 g))] H37 := hg41.1
        refine nw_dup C dX4_guardNow_94 rfl 95 rfl ?_
        refine nw_iconst C (nI 4) dX4_guardNow_95 (by decide) 96 rfl ?_
        refine nw_aload_n C 3 dX4_guardNow_96 rfl 97 rfl ?_
        refine nw_get C hg43 (T := TX11) rfl in_X11 4 (by decide) q1789 (Or.inl rfl) rfl dX4_guardNow_97 100 rfl ?_
        refine nw_iastN C ho38 hn12 (by omega) dX4_guardNow_100 101 rfl (fun H44 ho45 hz46 hq47 => ?_)
        replace hext := hext.put hz46 hq47 hn12
        replace hW := hW0.ext hext.2
        replace hE := C.E0.ext hext.2
        replace hB := Nat.le_trans hB0 hext.1
        clear hmX hmKi hmLa hmFo hmGu hmPo hmIn hmWi hmWo hmKe
        obtain ⟨hmX, hmKi, hmLa, hmFo, hmGu, hmPo, hmIn, hmWi, hmWo, hmKe⟩ := id hW
        have hg48 : nwMGd d (am (300 + g)) (am (400 + g)) (fun q => ro q = 7401 + g) ((sg_gu σ).2 g) H44 := hmGu.2 g (by omega)
        have hk49 : okGd (sg_gr σ) ((sg_gu σ).2 g) := oku.2 g (by omega)
        have hg50 : nwO d (am (300 + g)) 10 [.int (nI (gd_a ((sg_gu σ).2 g))), .int (nI (gd_b ((sg_gu σ).2 g))), .int (nI (gd_s ((sg_gu σ).2 g))), .ref (am (400 + g)), .int (nI (gd_k ((sg_gu σ).2 g))), .int (gd_h ((sg_gu σ).2 g))] H44 := hg48.1
        refine nw_dup C dX4_guardNow_101 rfl 102 rfl ?_
        refine nw_iconst C (nI 5) dX4_guardNow_102 (by decide) 103 rfl ?_
        refine nw_aload_n C 3 dX4_guardNow_103 rfl 104 rfl ?_
        refine nw_get C hg50 (T := TX11) rfl in_X11 4 (by decide) q1789 (Or.inl rfl) rfl dX4_guardNow_104 107 rfl ?_
        refine nw_iconst C (nI 3) dX4_guardNow_107 (by decide) 108 rfl ?_
        refine nw_icmpneN C (by omega) 115 dX4_guardNow_108 (by decide) 111 rfl (fun h51 => ?_) (fun h51 => ?_)
        · refine nw_iconst C (nI 0) dX4_guardNow_115 (by decide) 116 rfl ?_
          refine nw_iastN C ho45 hn12 (by omega) dX4_guardNow_116 117 rfl (fun H52 ho53 hz54 hq55 => ?_)
          replace hext := hext.put hz54 hq55 hn12
          replace hW := hW0.ext hext.2
          replace hE := C.E0.ext hext.2
          replace hB := Nat.le_trans hB0 hext.1
          clear hmX hmKi hmLa hmFo hmGu hmPo hmIn hmWi hmWo hmKe
          obtain ⟨hmX, hmKi, hmLa, hmFo, hmGu, hmPo, hmIn, hmWi, hmWo, hmKe⟩ := id hW
          have hg56 : nwMGd d (am (300 + g)) (am (400 + g)) (fun q => ro q = 7401 + g) ((sg_gu σ).2 g) H52 := hmGu.2 g (by omega)
          have hk57 : okGd (sg_gr σ) ((sg_gu σ).2 g) := oku.2 g (by omega)
          have hg58 : nwO d (am (300 + g)) 10 [.int (nI (gd_a ((sg_gu σ).2 g))), .int (nI (gd_b ((sg_gu σ).2 g))), .int (nI (gd_s ((sg_gu σ).2 g))), .ref (am (400 + g)), .int (nI (gd_k ((sg_gu σ).2 g))), .int (gd_h ((sg_gu σ).2 g))] H52 := hg56.1
          refine nw_dup C dX4_guardNow_117 rfl 118 rfl ?_
          refine nw_bipush C (nI 6) dX4_guardNow_118 (by decide) 120 rfl ?_
          refine nw_iload C 4 dX4_guardNow_120 rfl 122 rfl ?_
          refine nw_iastN C ho53 hn12 (by omega) dX4_guardNow_122 123 rfl (fun H59 ho60 hz61 hq62 => ?_)
          replace hext := hext.put hz61 hq62 hn12
          replace hW := hW0.ext hext.2
          replace hE := C.E0.ext hext.2
          replace hB := Nat.le_trans hB0 hext.1
          clear hmX hmKi hmLa hmFo hmGu hmPo hmIn hmWi hmWo hmKe
          obtain ⟨hmX, hmKi, hmLa, hmFo, hmGu, hmPo, hmIn, hmWi, hmWo, hmKe⟩ := id hW
          have hg63 : nwMGd d (am (300 + g)) (am (400 + g)) (fun q => ro q = 7401 + g) ((sg_gu σ).2 g) H59 := hmGu.2 g (by omega)
          have hk64 : okGd (sg_gr σ) ((sg_gu σ).2 g) := oku.2 g (by omega)
          have hg65 : nwO d (am (300 + g)) 10 [.int (nI (gd_a ((sg_gu σ).2 g))), .int (nI (gd_b ((sg_gu σ).2 g))), .int (nI (gd_s ((sg_gu σ).2 g))), .ref (am (400 + g)), .int (nI (gd_k ((sg_gu σ).2 g))), .int (gd_h ((sg_gu σ).2 g))] H59 := hg63.1
          refine nw_dup C dX4_guardNow_123 rfl 124 rfl ?_
          refine nw_bipush C (nI 7) dX4_guardNow_124 (by decide) 126 rfl ?_
          refine nw_aload_n C 3 dX4_guardNow_126 rfl 127 rfl ?_
          refine nw_get C hg65 (T := TX11) rfl in_X11 5 (by decide) q1790 (Or.inl rfl) rfl dX4_guardNow_127 130 rfl ?_
          refine nw_iastN C ho60 hn12 (by omega) dX4_guardNow_130 131 rfl (fun H66 ho67 hz68 hq69 => ?_)
          replace hext := hext.put hz68 hq69 hn12
          replace hW := hW0.ext hext.2
          replace hE := C.E0.ext hext.2
          replace hB := Nat.le_trans hB0 hext.1
          clear hmX hmKi hmLa hmFo hmGu hmPo hmIn hmWi hmWo hmKe
          obtain ⟨hmX, hmKi, hmLa, hmFo, hmGu, hmPo, hmIn, hmWi, hmWo, hmKe⟩ := id hW
          have hg70 : nwMGd d (am (300 + g)) (am (400 + g)) (fun q => ro q = 7401 + g) ((sg_gu σ).2 g) H66 := hmGu.2 g (by omega)
          have hk71 : okGd (sg_gr σ) ((sg_gu σ).2 g) := oku.2 g (by omega)
          have hg72 : nwO d (am (300 + g)) 10 [.int (nI (gd_a ((sg_gu σ).2 g))), .int (nI (gd_b ((sg_gu σ).2 g))), .int (nI (gd_s ((sg_gu σ).2 g))), .ref (am (400 + g)), .int (nI (gd_k ((sg_gu σ).2 g))), .int (gd_h ((sg_gu σ).2 g))] H66 := hg70.1
          refine nw_dup C dX4_guardNow_131 rfl 132 rfl ?_
          refine nw_bipush C (nI 8) dX4_guardNow_132 (by decide) 134 rfl ?_
          refine nw_iconst C (nI 0) dX4_guardNow_134 (by decide) 135 rfl ?_
          refine nw_aload_n C 3 dX4_guardNow_135 rfl 136 rfl ?_
          refine nw_get C hg72 (T := TX11) rfl in_X11 1 (by decide) q1784 (Or.inl rfl) rfl dX4_guardNow_136 139 rfl ?_
          refine nw_aload_n C 3 dX4_guardNow_139 rfl 140 rfl ?_
          refine nw_get C hg72 (T := TX11) rfl in_X11 0 (by decide) q1782 (Or.inl rfl) rfl dX4_guardNow_140 143 rfl ?_
          refine nw_isub C (nI (gd_b ((sg_gu σ).2 g) - gd_a ((sg_gu σ).2 g))) dX4_guardNow_143 (pk_sub (by omega)) 144 rfl ?_
          refine nw_bipush C (nI 89) dX4_guardNow_144 (by decide) 146 rfl ?_
          refine nw_isub C (nI (gd_b ((sg_gu σ).2 g) - gd_a ((sg_gu σ).2 g)) - nI 89) dX4_guardNow_146 rfl 147 rfl ?_
          refine nw_mmax C (nI (gd_b ((sg_gu σ).2 g) - gd_a ((sg_gu σ).2 g) - 89)) q1757 q483 q108 q484 (nw_max0 (by omega) (by decide)) ⟨Nat.le_of_ble_eq_true rfl, Nat.le_of_ble_eq_true rfl, Nat.le_of_ble_eq_true rfl, Nat.le_of_ble_eq_true rfl⟩ (Nat.le_of_ble_eq_true rfl) dX4_guardNow_147 150 rfl ?_
          refine nw_iastN C ho67 hn12 (by omega) dX4_guardNow_150 151 rfl (fun H73 ho74 hz75 hq76 => ?_)
          replace hext := hext.put hz75 hq76 hn12
          replace hW := hW0.ext hext.2
          replace hE := C.E0.ext hext.2
          replace hB := Nat.le_trans hB0 hext.1
          clear hmX hmKi hmLa hmFo hmGu hmPo hmIn hmWi hmWo hmKe
          obtain ⟨hmX, hmKi, hmLa, hmFo, hmGu, hmPo, hmIn, hmWi, hmWo, hmKe⟩ := id hW
          have hg77 : nwMGd d (am (300 + g)) (am (400 + g)) (fun q => ro q = 7401 + g) ((sg_gu σ).2 g) H73 := hmGu.2 g (by omega)
          have hk78 : okGd (sg_gr σ) ((sg_gu σ).2 g) := oku.2 g (by omega)
          have hg79 : nwO d (am (300 + g)) 10 [.int (nI (gd_a ((sg_gu σ).2 g))), .int (nI (gd_b ((sg_gu σ).2 g))), .int (nI (gd_s ((sg_gu σ).2 g))), .ref (am (400 + g)), .int (nI (gd_k ((sg_gu σ).2 g))), .int (gd_h ((sg_gu σ).2 g))] H73 := hg77.1
          refine nw_astore C [(5, .ref a6), (0, .ref y), (1, .int (nI g)), (2, .int (nI q)), (3, .ref (am (300 + g))), (4, .int mm)] dX4_guardNow_151 (by decide) rfl 153 rfl ?_
          refine nw_aload C 0 dX4_guardNow_153 rfl 155 rfl ?_
          refine nw_iload_n C 3 dX4_guardNow_155 rfl 156 rfl ?_
          refine nw_ialdN C ((upd (upd (upd (upd (upd (upd (upd (upd (upd (fun _ => 0) 0 (nI (gd_a ((sg_gu σ).2 g)))) 1 (nI (gd_b ((sg_gu σ).2 g)))) 2 (nI (gd_s ((sg_gu σ).2 g)))) 3 (nI (gd_m ((sg_gu σ).2 g)))) 4 (nI (gd_k ((sg_gu σ).2 g)))) 5 (nI 0)) 6 mm) 7 (gd_h ((sg_gu σ).2 g))) 8 (nI (gd_b ((sg_gu σ).2 g) - gd_a ((sg_gu σ).2 g) - 89))) q) ho74 (by omega) rfl dX4_guardNow_156 157 rfl ?_
          exact nw_iret C dX4_guardNow_157 (by omega) (by omega) ⟨by rcases (show q = 0 ∨ q = 1 ∨ q = 2 ∨ q = 3 ∨ q = 4 ∨ q = 5 ∨ q = 6 ∨ q = 7 ∨ q = 8 by omega) with rfl | rfl | rfl | rfl | rfl | rfl | rfl | rfl | rfl <;> simp [upd, sp_guardNow, hbits, h51] <;> rfl, hext⟩
        · refine nw_iconst C (nI 1) dX4_guardNow_111 (by decide) 112 rfl ?_
          refine nw_goto C 116 dX4_guardNow_112 (by decide) ?_
          refine nw_iastN C ho45 hn12 (by omega) dX4_guardNow_116 117 rfl (fun H80 ho81 hz82 hq83 => ?_)
          replace hext := hext.put hz82 hq83 hn12
          replace hW := hW0.ext hext.2
          replace hE := C.E0.ext hext.2
          replace hB := Nat.le_trans hB0 hext.1
          clear hmX hmKi hmLa hmFo hmGu hmPo hmIn hmWi hmWo hmKe
          obtain ⟨hmX, hmKi, hmLa, hmFo, hmGu, hmPo, hmIn, hmWi, hmWo, hmKe⟩ := id hW
          have hg84 : nwMGd d (am (300 + g)) (am (400 + g)) (fun q => ro q = 7401 + g) ((sg_gu σ).2 g) H80 := hmGu.2 g (by omega)
          have hk85 : okGd (sg_gr σ) ((sg_gu σ).2 g) := oku.2 g (by omega)
          have hg86 : nwO d (am (300 + g)) 10 [.int (nI (gd_a ((sg_gu σ).2 g))), .int (nI (gd_b ((sg_gu σ).2 g))), .int (nI (gd_s ((sg_gu σ).2 g))), .ref (am (400 + g)), .int (nI (gd_k ((sg_gu σ).2 g))), .int (gd_h ((sg_gu σ).2 g))] H80 := hg84.1
          refine nw_dup C dX4_guardNow_117 rfl 118 rfl ?_
          refine nw_bipush C (nI 6) dX4_guardNow_118 (by decide) 120 rfl ?_
          refine nw_iload C 4 dX4_guardNow_120 rfl 122 rfl ?_
          refine nw_iastN C ho81 hn12 (by omega) dX4_guardNow_122 123 rfl (fun H87 ho88 hz89 hq90 => ?_)
          replace hext := hext.put hz89 hq90 hn12
          replace hW := hW0.ext hext.2
          replace hE := C.E0.ext hext.2
          replace hB := Nat.le_trans hB0 hext.1
          clear hmX hmKi hmLa hmFo hmGu hmPo hmIn hmWi hmWo hmKe
          obtain ⟨hmX, hmKi, hmLa, hmFo, hmGu, hmPo, hmIn, hmWi, hmWo, hmKe⟩ := id hW
          have hg91 : nwMGd d (am (300 + g)) (am (400 + g)) (fun q => ro q = 7401 + g) ((sg_gu σ).2 g) H87 := hmGu.2 g (by omega)
          have hk92 : okGd (sg_gr σ) ((sg_gu σ).2 g) := oku.2 g (by omega)
          have hg93 : nwO d (am (300 + g)) 10 [.int (nI (gd_a ((sg_gu σ).2 g))), .int (nI (gd_b ((sg_gu σ).2 g))), .int (nI (gd_s ((sg_gu σ).2 g))), .ref (am (400 + g)), .int (nI (gd_k ((sg_gu σ).2 g))), .int (gd_h ((sg_gu σ).2 g))] H87 := hg91.1
          refine nw_dup C dX4_guardNow_123 rfl 124 rfl ?_
          refine nw_bipush C (nI 7) dX4_guardNow_124 (by decide) 126 rfl ?_
          refine nw_aload_n C 3 dX4_guardNow_126 rfl 127 rfl ?_
          refine nw_get C hg93 (T := TX11) rfl in_X11 5 (by decide) q1790 (Or.inl rfl) rfl dX4_guardNow_127 130 rfl ?_
          refine nw_iastN C ho88 hn12 (by omega) dX4_guardNow_130 131 rfl (fun H94 ho95 hz96 hq97 => ?_)
          replace hext := hext.put hz96 hq97 hn12
          replace hW := hW0.ext hext.2
          replace hE := C.E0.ext hext.2
          replace hB := Nat.le_trans hB0 hext.1
          clear hmX hmKi hmLa hmFo hmGu hmPo hmIn hmWi hmWo hmKe
          obtain ⟨hmX, hmKi, hmLa, hmFo, hmGu, hmPo, hmIn, hmWi, hmWo, hmKe⟩ := id hW
          have hg98 : nwMGd d (am (300 + g)) (am (400 + g)) (fun q => ro q = 7401 + g) ((sg_gu σ).2 g) H94 := hmGu.2 g (by omega)
          have hk99 : okGd (sg_gr σ) ((sg_gu σ).2 g) := oku.2 g (by omega)
          have hg100 : nwO d (am (300 + g)) 10 [.int (nI (gd_a ((sg_gu σ).2 g))), .int (nI (gd_b ((sg_gu σ).2 g))), .int (nI (gd_s ((sg_gu σ).2 g))), .ref (am (400 + g)), .int (nI (gd_k ((sg_gu σ).2 g))), .int (gd_h ((sg_gu σ).2 g))] H94 := hg98.1
          refine nw_dup C dX4_guardNow_131 rfl 132 rfl ?_
          refine nw_bipush C (nI 8) dX4_guardNow_132 (by decide) 134 rfl ?_
          refine nw_iconst C (nI 0) dX4_guardNow_134 (by decide) 135 rfl ?_
          refine nw_aload_n C 3 dX4_guardNow_135 rfl 136 rfl ?_
          refine nw_get C hg100 (T := TX11) rfl in_X11 1 (by decide) q1784 (Or.inl rfl) rfl dX4_guardNow_136 139 rfl ?_
          refine nw_aload_n C 3 dX4_guardNow_139 rfl 140 rfl ?_
          refine nw_get C hg100 (T := TX11) rfl in_X11 0 (by decide) q1782 (Or.inl rfl) rfl dX4_guardNow_140 143 rfl ?_
          refine nw_isub C (nI (gd_b ((sg_gu σ).2 g) - gd_a ((sg_gu σ).2 g))) dX4_guardNow_143 (pk_sub (by omega)) 144 rfl ?_
          refine nw_bipush C (nI 89) dX4_guardNow_144 (by decide) 146 rfl ?_
          refine nw_isub C (nI (gd_b ((sg_gu σ).2 g) - gd_a ((sg_gu σ).2 g)) - nI 89) dX4_guardNow_146 rfl 147 rfl ?_
          refine nw_mmax C (nI (gd_b ((sg_gu σ).2 g) - gd_a ((sg_gu σ).2 g) - 89)) q1757 q483 q108 q484 (nw_max0 (by omega) (by decide)) ⟨Nat.le_of_ble_eq_true rfl, Nat.le_of_ble_eq_true rfl, Nat.le_of_ble_eq_true rfl, Nat.le_of_ble_eq_true rfl⟩ (Nat.le_of_ble_eq_true rfl) dX4_guardNow_147 150 rfl ?_
          refine nw_iastN C ho95 hn12 (by omega) dX4_guardNow_150 151 rfl (fun H101 ho102 hz103 hq104 => ?_)
          replace hext := hext.put hz103 hq104 hn12
          replace hW := hW0.ext hext.2
          replace hE := C.E0.ext hext.2
          replace hB := Nat.le_trans hB0 hext.1
          clear hmX hmKi hmLa hmFo hmGu hmPo hmIn hmWi hmWo hmKe
          obtain ⟨hmX, hmKi, hmLa, hmFo, hmGu, hmPo, hmIn, hmWi, hmWo, hmKe⟩ := id hW
          have hg105 : nwMGd d (am (300 + g)) (am (400 + g)) (fun q => ro q = 7401 + g) ((sg_gu σ).2 g) H101 := hmGu.2 g (by omega)
          have hk106 : okGd (sg_gr σ) ((sg_gu σ).2 g) := oku.2 g (by omega)
          have hg107 : nwO d (am (300 + g)) 10 [.int (nI (gd_a ((sg_gu σ).2 g))), .int (nI (gd_b ((sg_gu σ).2 g))), .int (nI (gd_s ((sg_gu σ).2 g))), .ref (am (400 + g)), .int (nI (gd_k ((sg_gu σ).2 g))), .int (gd_h ((sg_gu σ).2 g))] H101 := hg105.1
          refine nw_astore C [(5, .ref a6), (0, .ref y), (1, .int (nI g)), (2, .int (nI q)), (3, .ref (am (300 + g))), (4, .int mm)] dX4_guardNow_151 (by decide) rfl 153 rfl ?_
          refine nw_aload C 0 dX4_guardNow_153 rfl 155 rfl ?_
          refine nw_iload_n C 3 dX4_guardNow_155 rfl 156 rfl ?_
          refine nw_ialdN C ((upd (upd (upd (upd (upd (upd (upd (upd (upd (fun _ => 0) 0 (nI (gd_a ((sg_gu σ).2 g)))) 1 (nI (gd_b ((sg_gu σ).2 g)))) 2 (nI (gd_s ((sg_gu σ).2 g)))) 3 (nI (gd_m ((sg_gu σ).2 g)))) 4 (nI (gd_k ((sg_gu σ).2 g)))) 5 (nI 1)) 6 mm) 7 (gd_h ((sg_gu σ).2 g))) 8 (nI (gd_b ((sg_gu σ).2 g) - gd_a ((sg_gu σ).2 g) - 89))) q) ho102 (by omega) rfl dX4_guardNow_156 157 rfl ?_
          exact nw_iret C dX4_guardNow_157 (by omega) (by omega) ⟨by rcases (show q = 0 ∨ q = 1 ∨ q = 2 ∨ q = 3 ∨ q = 4 ∨ q = 5 ∨ q = 6 ∨ q = 7 ∨ q = 8 by omega) with rfl | rfl | rfl | rfl | rfl | rfl | rfl | rfl | rfl <;> simp [upd, sp_guardNow, hbits, h51] <;> rfl, hext⟩
      · refine nw_iload C 4 dX4_guardNow_27 rfl 29 rfl ?_
        refine nw_aload_n C 0 dX4_guardNow_29 rfl 30 rfl ?_
        refine nw_get C hmX (T := TX4) rfl in_X4 16 (by decide) q1638 (Or.inl rfl) rfl dX4_guardNow_30 33 rfl ?_
        refine nw_iload C 5 dX4_guardNow_33 rfl 35 rfl ?_
        refine nw_ialdN C (oI (sg_ke σ i)) hmKe (by omega) rfl dX4_guardNow_35 36 rfl ?_
        refine nw_iload_n C 1 dX4_guardNow_36 rfl 37 rfl ?_
        refine nw_icmpneO C (sg_ke σ i) (some g) (fun v hv => by have := okk i (by omega) v hv; omega) (fun v hv => by cases hv; omega) 47 dX4_guardNow_37 (by decide) 40 rfl (fun h108 => ?_) (fun h108 => ?_)
        · refine nw_iconst C (nI 0) dX4_guardNow_47 (by decide) 48 rfl ?_
          refine nw_ior C (mm ||| (nI 0)) dX4_guardNow_48 rfl 49 rfl ?_
          refine nw_istore C [(4, .int (mm ||| (nI 0))), (0, .ref y), (1, .int (nI g)), (2, .int (nI q)), (3, .ref (am (300 + g))), (5, .int (nI i))] dX4_guardNow_49 (by decide) rfl 51 rfl ?_
          refine nw_iincN C 5 (c0 := 1) [(5, .int (nI (i + 1))), (4, .int (mm ||| (nI 0))), (0, .ref y), (1, .int (nI g)), (2, .int (nI q)), (3, .ref (am (300 + g)))] dX4_guardNow_51 rfl (by decide) rfl 54 rfl ?_
          refine nw_goto C 20 dX4_guardNow_54 (by decide) ?_
          exact nw_wide (by omega) (by omega) (nw_sub [2, 3, 4, 5, 1, 0] rfl (ih_lp4 (i + 1) (mm ||| (nI 0)) (by omega) (by rw [sp_bits_f0 (p := (fun k => sg_ke σ k == some g)) (n := i) (by simp [h108]), ← hmm]) (by omega)))
        · refine nw_iconst C (nI 1) dX4_guardNow_40 (by decide) 41 rfl ?_
          refine nw_iload C 5 dX4_guardNow_41 rfl 43 rfl ?_
          refine nw_ishl C ((nI 1) <<< ((nI i) &&& 31)) dX4_guardNow_43 rfl 44 rfl ?_
          refine nw_goto C 48 dX4_guardNow_44 (by decide) ?_
          refine nw_ior C (mm ||| ((nI 1) <<< ((nI i) &&& 31))) dX4_guardNow_48 rfl 49 rfl ?_
          refine nw_istore C [(4, .int (mm ||| ((nI 1) <<< ((nI i) &&& 31)))), (0, .ref y), (1, .int (nI g)), (2, .int (nI q)), (3, .ref (am (300 + g))), (5, .int (nI i))] dX4_guardNow_49 (by decide) rfl 51 rfl ?_
          refine nw_iincN C 5 (c0 := 1) [(5, .int (nI (i + 1))), (4, .int (mm ||| ((nI 1) <<< ((nI i) &&& 31)))), (0, .ref y), (1, .int (nI g)), (2, .int (nI q)), (3, .ref (am (300 + g)))] dX4_guardNow_51 rfl (by decide) rfl 54 rfl ?_
          refine nw_goto C 20 dX4_guardNow_54 (by decide) ?_
          exact nw_wide (by omega) (by omega) (nw_sub [2, 3, 4, 5, 1, 0] rfl (ih_lp4 (i + 1) (mm ||| ((nI 1) <<< ((nI i) &&& 31))) (by omega) (by rw [sp_bits_t (p := (fun k => sg_ke σ k == some g)) (n := i) (by simp [h108]), ← hmm]) (by omega)))
  exact nw_wide (by omega) (by omega) (nw_sub [3, 4, 5, 2, 1, 0] rfl (lp4 _ 0 (nI 0) (Nat.zero_le _) rfl (Nat.lt_succ_self _)))
set_option maxHeartbeats 4000000 in
theorem mX4_at (l : Launch) (hf : l.flags = flags0) (d : nwD) (ro am : Nat → Nat) (y : Nat) (σ : spSg) (th : Int32) (c t : Nat) (H : Heap) (hB : nd_B d ≤ H.size) (hW : nwMC d ro am y σ th H) (okM : spOkM σ) (hc : c < gr_n (sg_gr σ)) (ht : t < 240) : nwMt l d yX4_at cX4_at 4 (some (.array .boolean)) 8 179 1 64 [.ref y, .int (nI c), .int (nI t)] H (nwZr d (gr_n (sg_gr σ)) (sp_start σ c t) H) nwNo (nwNew H) := by
  refine nw_start "NightwatchWallModel" "at" hf (by decide +kernel) rfl rfl (fun _ h => h) (fun q h => Nat.le_trans hB h) (Nat.le_of_ble_eq_true rfl) ?_
  intro X C
  have hW0 := hW
  have hB0 := hB
  have hE := C.E0
  have hext : nwExt H H := nwExt.rfl
  obtain ⟨hmX, hmKi, hmLa, hmFo, hmGu, hmPo, hmIn, hmWi, hmWo, hmKe⟩ := id hW
  obtain ⟨okg, okl, okf, oku, okp, oki, okw, okd, okk, oka⟩ := id okM
  have hn64 : gr_n (sg_gr σ) ≤ 64 := okg.n
  have oku1 := oku.1
  have oki1 := oki.1
  have okp1 := okp.1
  have okw1 := okw.1
  have okl1 := okl.1
  have okf1 := okf.1
  show nwV X _ _ 4 H 0 0 0 [(0, .ref y), (1, .int (nI c)), (2, .int (nI t))] []
  refine nw_aload_n C 0 dX4_at_0 rfl 1 rfl ?_
  refine nw_get C hmX (T := TX4) rfl in_X4 3 (by decide) q1625 (Or.inl rfl) rfl dX4_at_1 4 rfl ?_
  refine nw_alenI C hmKi (by decide) dX4_at_4 5 rfl ?_
  refine nw_newz C (by omega) 1 64 (by omega) (by omega) ⟨(show 1 ≤ 1 by omega), (show 64 ≤ 64 by omega)⟩ dX4_at_5 7 rfl (fun a1 H2 hx3 ho4 hz5 hq6 => ?_)
  have hn7 : H.size ≤ a1 := (by rw [hx3]; exact hext.1)
  replace hext := hext.made hz5 hq6
  replace hW := hW0.ext hext.2
  replace hE := C.E0.ext hext.2
  replace hB := Nat.le_trans hB0 hext.1
  clear hmX hmKi hmLa hmFo hmGu hmPo hmIn hmWi hmWo hmKe
  obtain ⟨hmX, hmKi, hmLa, hmFo, hmGu, hmPo, hmIn, hmWi, hmWo, hmKe⟩ := id hW
  refine nw_astore_n C [(3, .ref a1), (0, .ref y), (1, .int (nI c)), (2, .int (nI t))] dX4_at_7 (by decide) rfl 8 rfl ?_
  refine nw_aload_n C 0 dX4_at_8 rfl 9 rfl ?_
  refine nw_iload_n C 2 dX4_at_9 rfl 10 rfl ?_
  refine nw_aload_n C 1 dX4_at_10 rfl 11 rfl ?_
  refine nw_iload_n C 2 dX4_at_11 rfl 12 rfl ?_
  refine nw_iload_n C 3 dX4_at_12 rfl 13 rfl ?_
  refine nw_callV C (mX4_isUnseen _ C.hfl d ro am y σ th c t H2 hB hW okM (by omega) (by omega)) kX4_isUnseen q2028 (hmX.is C (ci := 9) rfl) (As := [.int (nI c), .int (nI t)]) (rest := [.int (nI c), .ref a1]) rfl rfl ⟨⟨Nat.le_of_ble_eq_true rfl, Nat.le_of_ble_eq_true rfl⟩, Nat.le_of_ble_eq_true rfl, Nat.le_of_ble_eq_true rfl⟩ (Nat.le_of_ble_eq_true rfl) (fun _ h8 h9 => absurd h9 (Nat.not_le.mpr h8)) dX4_at_13 16 rfl (nw_rdK ?_) nw_noX
  refine nw_zastN C (b := sp_hidden σ c t) ho4 hn7 (by omega) dX4_at_16 17 rfl (fun H8 ho9 hz10 hq11 => ?_)
  replace hext := hext.put hz10 hq11 hn7
  replace hW := hW0.ext hext.2
  replace hE := C.E0.ext hext.2
  replace hB := Nat.le_trans hB0 hext.1
  clear hmX hmKi hmLa hmFo hmGu hmPo hmIn hmWi hmWo hmKe
  obtain ⟨hmX, hmKi, hmLa, hmFo, hmGu, hmPo, hmIn, hmWi, hmWo, hmKe⟩ := id hW
  refine nw_aload_n C 0 dX4_at_17 rfl 18 rfl ?_
  exact nw_aret C (Or.inr ⟨_, rfl⟩) dX4_at_18 (by omega) (by omega) ⟨⟨a1, rfl, hn7, nwI.congr ho9 (fun j _ => by unfold upd sp_start; split <;> rfl)⟩, hext⟩
set_option maxHeartbeats 4000000 in
theorem mX4_onward (l : Launch) (hf : l.flags = flags0) (d : nwD) (ro am : Nat → Nat) (y : Nat) (σ : spSg) (th : Int32) (nf t : Nat) (f : Nat → Bool) (H : Heap) (hB : nd_B d ≤ H.size) (hW : nwMC d ro am y σ th H) (okM : spOkM σ) (hfa : nwI d nf 1 (gr_n (sg_gr σ)) (fun k => b2i (f k)) H) (ht : t < 240) : nwMt l d yX4_onward cX4_onward 7 (some (.array .boolean)) 8 179 1 64 [.ref y, .ref nf, .int (nI t)] H (nwZr d (gr_n (sg_gr σ)) (sp_spread σ f t) H) nwNo (nwNew H) := by
  refine nw_start "NightwatchWallModel" "onward" hf (by decide +kernel) rfl rfl (fun _ h => h) (fun q h => Nat.le_trans hB h) (Nat.le_of_ble_eq_true rfl) ?_
  intro X C
  have hW0 := hW
  have hfa0 := hfa
  have hB0 := hB
  have hE := C.E0
  have hext : nwExt H H := nwExt.rfl
  obtain ⟨hmX, hmKi, hmLa, hmFo, hmGu, hmPo, hmIn, hmWi, hmWo, hmKe⟩ := id hW
  obtain ⟨okg, okl, okf, oku, okp, oki, okw, okd, okk, oka⟩ := id okM
  have hn64 : gr_n (sg_gr σ) ≤ 64 := okg.n
  have oku1 := oku.1
  have oki1 := oki.1
  have okp1 := okp.1
  have okw1 := okw.1
  have okl1 := okl.1
  have okf1 := okf.1
  show nwV X _ _ 7 H 0 0 0 [(0, .ref y), (1, .ref nf), (2, .int (nI t))] []
  refine nw_aload_n C 1 dX4_onward_0 rfl 1 rfl ?_
  refine nw_alenI C hfa (by decide) dX4_onward_1 2 rfl ?_
  refine nw_newz C (by omega) 1 64 (by omega) (by omega) ⟨(show 1 ≤ 1 by omega), (show 64 ≤ 64 by omega)⟩ dX4_onward_2 4 rfl (fun a1 H2 hx3 ho4 hz5 hq6 => ?_)
  have hn7 : H.size ≤ a1 := (by rw [hx3]; exact hext.1)
  replace hext := hext.made hz5 hq6
  replace hW := hW0.ext hext.2
  replace hfa := hfa0.ext hext.2
  replace hE := C.E0.ext hext.2
  replace hB := Nat.le_trans hB0 hext.1
  clear hmX hmKi hmLa hmFo hmGu hmPo hmIn hmWi hmWo hmKe
  obtain ⟨hmX, hmKi, hmLa, hmFo, hmGu, hmPo, hmIn, hmWi, hmWo, hmKe⟩ := id hW
  refine nw_astore_n C [(3, .ref a1), (0, .ref y), (1, .ref nf), (2, .int (nI t))] dX4_onward_4 (by decide) rfl 5 rfl ?_
  refine nw_iconst C (nI 0) dX4_onward_5 (by decide) 6 rfl ?_
  refine nw_istore C [(4, .int (nI 0)), (3, .ref a1), (0, .ref y), (1, .ref nf), (2, .int (nI t))] dX4_onward_6 (by decide) rfl 8 rfl ?_
  have hcz8 : nwI d a1 1 (gr_n (sg_gr σ)) (fun k => b2i (sp_onw σ f t 0 0 k)) H2 := nwI.congr ho4 (fun j hj => by rw [sp_onw_0]; rfl)
  have lp9 : ∀ (fu : Nat) (H2 : Heap) (i : Nat), (nwExt H H2) → (nwI d a1 1 (gr_n (sg_gr σ)) (fun k => b2i (sp_onw σ f t i 0 k)) H2) → (i ≤ gr_n (sg_gr σ)) → gr_n (sg_gr σ) - i < fu → nwV X (nwNew H) (nwQE X (nwZr d (gr_n (sg_gr σ)) (sp_spread σ f t) H) nwNo (nwNew H) 1 64) 7 H2 1 64 8 [(0, .ref y), (1, .ref nf), (2, .int (nI t)), (3, .ref a1), (4, .int (nI i))] [] := by
    intro fu
    induction fu with
    | zero => intro H2 i _ _ _ hm; exact absurd hm (Nat.not_lt_zero _)
    | succ fu ih_lp9 =>
      intro H2 i hext hcz hi hm
      replace hW := hW0.ext hext.2
      replace hfa := hfa0.ext hext.2
      replace hE := C.E0.ext hext.2
      replace hB := Nat.le_trans hB0 hext.1
      clear hmX hmKi hmLa hmFo hmGu hmPo hmIn hmWi hmWo hmKe
      obtain ⟨hmX, hmKi, hmLa, hmFo, hmGu, hmPo, hmIn, hmWi, hmWo, hmKe⟩ := id hW
      refine nw_iload C 4 dX4_onward_8 rfl 10 rfl ?_
      refine nw_aload_n C 1 dX4_onward_10 rfl 11 rfl ?_
      refine nw_alenI C hfa (by decide) dX4_onward_11 12 rfl ?_
      refine nw_icmpgeN C (by omega) 80 dX4_onward_12 (by decide) 15 rfl (fun h10 => ?_) (fun h10 => ?_)
      · refine nw_aload_n C 3 dX4_onward_80 rfl 81 rfl ?_
        exact nw_aret C (Or.inr ⟨_, rfl⟩) dX4_onward_81 (by omega) (by omega) ⟨⟨a1, rfl, hn7, nwI.congr hcz (fun j hj => by rw [sp_onw_0, show i = gr_n (sg_gr σ) by omega, sp_fwd_all (okg.here hj) hj]; rfl)⟩, hext⟩
      · refine nw_aload_n C 1 dX4_onward_15 rfl 16 rfl ?_
        refine nw_iload C 4 dX4_onward_16 rfl 18 rfl ?_
        refine nw_zaldN C (b2i (f i)) hfa (by omega) rfl dX4_onward_18 19 rfl ?_
        refine nw_ifneB C 25 dX4_onward_19 (by decide) 22 rfl (fun h11 => ?_) (fun h11 => ?_)
        · have hgro := okg.here (show i < _ by omega)
          refine nw_iconst C (nI 0) dX4_onward_25 (by decide) 26 rfl ?_
          refine nw_istore C [(5, .int (nI 0)), (0, .ref y), (1, .ref nf), (2, .int (nI t)), (3, .ref a1), (4, .int (nI i))] dX4_onward_26 (by decide) rfl 28 rfl ?_
          have lp12 : ∀ (fu : Nat) (H3 : Heap) (m : Nat), (nwExt H H3) → (nwI d a1 1 (gr_n (sg_gr σ)) (fun k => b2i (sp_onw σ f t i m k)) H3) → (m ≤ 5) → 5 - m < fu → nwV X (nwNew H) (nwQE X (nwZr d (gr_n (sg_gr σ)) (sp_spread σ f t) H) nwNo (nwNew H) 1 64) 7 H3 1 64 28 [(0, .ref y), (1, .ref nf), (2, .int (nI t)), (3, .ref a1), (4, .int (nI i)), (5, .int (nI m))] [] := by
            intro fu
            induction fu with
            | zero => intro H3 m _ _ _ hm; exact absurd hm (Nat.not_lt_zero _)
            | succ fu ih_lp12 =>
              intro H3 m hext hcy hm5 hm
              replace hW := hW0.ext hext.2
              replace hfa := hfa0.ext hext.2
              replace hE := C.E0.ext hext.2
              replace hB := Nat.le_trans hB0 hext.1
              clear hmX hmKi hmLa hmFo hmGu hmPo hmIn hmWi hmWo hmKe
              obtain ⟨hmX, hmKi, hmLa, hmFo, hmGu, hmPo, hmIn, hmWi, hmWo, hmKe⟩ := id hW
              refine nw_iload C 5 dX4_onward_28 rfl 30 rfl ?_
              refine nw_iconst C (nI 4) dX4_onward_30 (by decide) 31 rfl ?_
              refine nw_icmpgtN C (by omega) 74 dX4_onward_31 (by decide) 34 rfl (fun h13 => ?_) (fun h13 => ?_)
              · refine nw_iincN C 4 (c0 := 1) [(4, .int (nI (i + 1))), (0, .ref y), (1, .ref nf), (2, .int (nI t)), (3, .ref a1), (5, .int (nI m))] dX4_onward_74 rfl (by decide) rfl 77 rfl ?_
                refine nw_goto C 8 dX4_onward_77 (by decide) ?_
                have hcz14 : nwI d a1 1 (gr_n (sg_gr σ)) (fun k => b2i (sp_onw σ f t (i + 1) 0 k)) H3 := nwI.congr hcy (fun j hj => by rw [sp_onw_5]; rw [show m = 5 by omega])
                exact nw_wide (by omega) (by omega) (nw_sub [1, 2, 3, 4, 0] rfl (ih_lp9 H3 (i + 1) hext hcz14 (by omega) (by omega)))
              · refine nw_aload_n C 0 dX4_onward_34 rfl 35 rfl ?_
                refine nw_iload C 4 dX4_onward_35 rfl 37 rfl ?_
                refine nw_iload C 5 dX4_onward_37 rfl 39 rfl ?_
                refine nw_callV C (mX4_moved _ C.hfl d ro am y σ th i m H3 hB hW okM (by omega) (by omega)) kX4_moved q1964 (hmX.is C (ci := 9) rfl) (As := [.int (nI i), .int (nI m)]) (rest := []) rfl rfl ⟨⟨Nat.le_of_ble_eq_true rfl, Nat.le_of_ble_eq_true rfl⟩, Nat.le_of_ble_eq_true rfl, Nat.le_of_ble_eq_true rfl⟩ (Nat.le_of_ble_eq_true rfl) (fun _ h8 h9 => absurd h9 (Nat.not_le.mpr h8)) dX4_onward_39 42 rfl (nw_rdK ?_) nw_noX
                refine nw_istore C [(6, .int (oI (sp_moved (sg_gr σ) i m))), (0, .ref y), (1, .ref nf), (2, .int (nI t)), (3, .ref a1), (4, .int (nI i)), (5, .int (nI m))] dX4_onward_42 (by decide) rfl 44 rfl ?_
                generalize hmv : sp_moved (sg_gr σ) i m = om
                rcases om with _ | xx
                · show nwV X _ _ 7 H3 1 64 44 [(6, .int (oI none)), (0, .ref y), (1, .ref nf), (2, .int (nI t)), (3, .ref a1), (4, .int (nI i)), (5, .int (nI m))] []
                  refine nw_iload C 0 dX4_onward_44 rfl 46 rfl ?_
                  refine nw_iconst C (oI none) dX4_onward_46 (by decide) 47 rfl ?_
                  refine nw_icmpeqT C rfl 68 dX4_onward_47 (by decide) ?_
                  refine nw_iincN C 6 (c0 := 1) [(5, .int (nI (m + 1))), (6, .int (oI none)), (0, .ref y), (1, .ref nf), (2, .int (nI t)), (3, .ref a1), (4, .int (nI i))] dX4_onward_68 rfl (by decide) rfl 71 rfl ?_
                  refine nw_goto C 28 dX4_onward_71 (by decide) ?_
                  have hcz16 : nwI d a1 1 (gr_n (sg_gr σ)) (fun k => b2i (sp_onw σ f t i (m + 1) k)) H3 := nwI.congr hcy (fun j hj => by rw [sp_onw_n hmv])
                  exact nw_wide (by omega) (by omega) (nw_sub [2, 3, 4, 5, 6, 0] rfl (ih_lp12 H3 (m + 1) hext hcz16 (by omega) (by omega)))
                · show nwV X _ _ 7 H3 1 64 44 [(6, .int (nI xx)), (0, .ref y), (1, .ref nf), (2, .int (nI t)), (3, .ref a1), (4, .int (nI i)), (5, .int (nI m))] []
                  have hxx := sp_moved_lt hgro (show i < _ by omega) hmv
                  refine nw_iload C 0 dX4_onward_44 rfl 46 rfl ?_
                  refine nw_iconst C (oI none) dX4_onward_46 (by decide) 47 rfl ?_
                  refine nw_icmpeqF C (nI_m1 (by omega)) 68 dX4_onward_47 (by decide) 50 rfl ?_
                  refine nw_aload_n C 4 dX4_onward_50 rfl 51 rfl ?_
                  refine nw_iload C 0 dX4_onward_51 rfl 53 rfl ?_
                  refine nw_zaldN C (b2i (sp_onw σ f t i m xx)) hcy (by omega) rfl dX4_onward_53 54 rfl ?_
                  refine nw_ifneB C 68 dX4_onward_54 (by decide) 57 rfl (fun h18 => ?_) (fun h18 => ?_)
                  · refine nw_iincN C 6 (c0 := 1) [(5, .int (nI (m + 1))), (6, .int (nI xx)), (0, .ref y), (1, .ref nf), (2, .int (nI t)), (3, .ref a1), (4, .int (nI i))] dX4_onward_68 rfl (by decide) rfl 71 rfl ?_
                    refine nw_goto C 28 dX4_onward_71 (by decide) ?_
                    have hcz19 : nwI d a1 1 (gr_n (sg_gr σ)) (fun k => b2i (sp_onw σ f t i (m + 1) k)) H3 := nwI.congr hcy (fun j hj => by rw [sp_onw_t h11 hmv h18])
                    exact nw_wide (by omega) (by omega) (nw_sub [2, 3, 4, 5, 6, 0] rfl (ih_lp12 H3 (m + 1) hext hcz19 (by omega) (by omega)))
                  · refine nw_aload_n C 4 dX4_onward_57 rfl 58 rfl ?_
                    refine nw_iload C 0 dX4_onward_58 rfl 60 rfl ?_
                    refine nw_aload_n C 1 dX4_onward_60 rfl 61 rfl ?_
                    refine nw_iload C 0 dX4_onward_61 rfl 63 rfl ?_
                    refine nw_iload_n C 3 dX4_onward_63 rfl 64 rfl ?_
                    refine nw_callV C (mX4_isUnseen _ C.hfl d ro am y σ th xx t H3 hB hW okM (by omega) (by omega)) kX4_isUnseen q2028 (hmX.is C (ci := 9) rfl) (As := [.int (nI xx), .int (nI t)]) (rest := [.int (nI xx), .ref a1]) rfl rfl ⟨⟨Nat.le_of_ble_eq_true rfl, Nat.le_of_ble_eq_true rfl⟩, Nat.le_of_ble_eq_true rfl, Nat.le_of_ble_eq_true rfl⟩ (Nat.le_of_ble_eq_true rfl) (fun _ h8 h9 => absurd h9 (Nat.not_le.mpr h8)) dX4_onward_64 67 rfl (nw_rdK ?_) nw_noX
                    refine nw_zastN C (b := sp_hidden σ xx t) hcy hn7 (by omega) dX4_onward_67 68 rfl (fun H20 ho21 hz22 hq23 => ?_)
                    replace hext := hext.put hz22 hq23 hn7
                    replace hW := hW0.ext hext.2
                    replace hfa := hfa0.ext hext.2
                    replace hE := C.E0.ext hext.2
                    replace hB := Nat.le_trans hB0 hext.1
                    clear hmX hmKi hmLa hmFo hmGu hmPo hmIn hmWi hmWo hmKe
                    obtain ⟨hmX, hmKi, hmLa, hmFo, hmGu, hmPo, hmIn, hmWi, hmWo, hmKe⟩ := id hW
                    refine nw_iincN C 6 (c0 := 1) [(5, .int (nI (m + 1))), (6, .int (nI xx)), (0, .ref y), (1, .ref nf), (2, .int (nI t)), (3, .ref a1), (4, .int (nI i))] dX4_onward_68 rfl (by decide) rfl 71 rfl ?_
                    refine nw_goto C 28 dX4_onward_71 (by decide) ?_
                    have hcz24 : nwI d a1 1 (gr_n (sg_gr σ)) (fun k => b2i (sp_onw σ f t i (m + 1) k)) H20 := nwI.congr ho21 (fun j hj => by unfold upd; split <;> rename_i e9 <;> first | (rw [sp_onw_s h11 hmv e9, e9]) | (rw [sp_onw_d hmv e9]))
                    exact nw_wide (by omega) (by omega) (nw_sub [2, 3, 4, 5, 6, 0] rfl (ih_lp12 H20 (m + 1) hext hcz24 (by omega) (by omega)))
          exact nw_wide (by omega) (by omega) (nw_sub [1, 2, 3, 4, 5, 0] rfl (lp12 _ H2 0 hext hcz (by omega) (Nat.lt_succ_self _)))
        · refine nw_goto C 74 dX4_onward_22 (by decide) ?_
          refine nw_iincN C 4 (c0 := 1) [(4, .int (nI (i + 1))), (0, .ref y), (1, .ref nf), (2, .int (nI t)), (3, .ref a1)] dX4_onward_74 rfl (by decide) rfl 77 rfl ?_
          refine nw_goto C 8 dX4_onward_77 (by decide) ?_
          have hcz25 : nwI d a1 1 (gr_n (sg_gr σ)) (fun k => b2i (sp_onw σ f t (i + 1) 0 k)) H2 := nwI.congr hcz (fun j hj => by rw [sp_onw_no h11])
          exact nw_wide (by omega) (by omega) (nw_sub [1, 2, 3, 4, 0] rfl (ih_lp9 H2 (i + 1) hext hcz25 (by omega) (by omega)))
  exact nw_wide (by omega) (by omega) (nw_sub [2, 3, 4, 1, 0] rfl (lp9 _ H2 0 hext hcz8 (Nat.zero_le _) (Nat.lt_succ_self _)))
