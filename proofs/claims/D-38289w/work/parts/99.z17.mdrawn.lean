/-! ===== the reference: drawn ===== -/
theorem okGr.hh {g : spGr} (h : okGr g) : gr_h g ≤ 8 ∧ gr_w g ≤ 8 := by
  rcases h with ⟨h1, h2⟩ | h
  · exact ⟨by show g.2.1 ≤ 8; omega, by show g.1 ≤ 8; omega⟩
  · have h8 := h.1
    exact ⟨by show g.2.1 ≤ 8; omega, by show g.1 ≤ 8; omega⟩
theorem nw_bitz (p : Nat → Bool) : ∀ n, n ≤ 6 → ∀ k, k < n → (((sp_bits p n >>> (nI k &&& 31)) &&& nI 1) == 0) = !p k
  | 0, _ => fun k hk => absurd hk (Nat.not_lt_zero k)
  | 1, _ => by
    intro k hk
    rcases (show k = 0 by omega) with rfl <;> (simp only [sp_bits]; generalize p 0 = a; revert a; decide +kernel)
  | 2, _ => by
    intro k hk
    rcases (show k = 0 ∨ k = 1 by omega) with rfl | rfl <;> (simp only [sp_bits]; generalize p 0 = a; generalize p 1 = b; revert a b; decide +kernel)
  | 3, _ => by
    intro k hk
    rcases (show k = 0 ∨ k = 1 ∨ k = 2 by omega) with rfl | rfl | rfl <;> (simp only [sp_bits]; generalize p 0 = a; generalize p 1 = b; generalize p 2 = c; revert a b c; decide +kernel)
  | 4, _ => by
    intro k hk
    rcases (show k = 0 ∨ k = 1 ∨ k = 2 ∨ k = 3 by omega) with rfl | rfl | rfl | rfl <;> (simp only [sp_bits]; generalize p 0 = a; generalize p 1 = b; generalize p 2 = c; generalize p 3 = d; revert a b c d; decide +kernel)
  | 5, _ => by
    intro k hk
    rcases (show k = 0 ∨ k = 1 ∨ k = 2 ∨ k = 3 ∨ k = 4 by omega) with rfl | rfl | rfl | rfl | rfl <;> (simp only [sp_bits]; generalize p 0 = a; generalize p 1 = b; generalize p 2 = c; generalize p 3 = d; generalize p 4 = e; revert a b c d e; decide +kernel)
  | 6, _ => by
    intro k hk
    rcases (show k = 0 ∨ k = 1 ∨ k = 2 ∨ k = 3 ∨ k = 4 ∨ k = 5 by omega) with rfl | rfl | rfl | rfl | rfl | rfl <;> (simp only [sp_bits]; generalize p 0 = a; generalize p 1 = b; generalize p 2 = c; generalize p 3 = d; generalize p 4 = e; generalize p 5 = f; revert a b c d e f; decide +kernel)
theorem dr_none {gu : spGu} (h : gu.1 ≤ 6) {c t : Nat} (h0 : sp_guardsOn gu c t = 0) : sp_fst (sp_onc gu c t) 0 gu.1 = none := by
  have h1 := (sp_bits_0 (sp_onc gu c t) gu.1 h).mp h0
  exact sp_fst_no (fun k _ hk => sp_any_false.mp h1 k (by omega))
theorem dr_lt {gu : spGu} (h : gu.1 ≤ 6) {c t z : Nat} (h0 : ¬ sp_guardsOn gu c t = 0) (hz : ∀ j, j < z → sp_onc gu c t j = false) : z < gu.1 := by
  apply Nat.lt_of_not_le
  intro h1
  exact h0 ((sp_bits_0 (sp_onc gu c t) gu.1 h).mpr (sp_any_false.mpr (fun k hk => hz k (by omega))))
theorem dr_no {gu : spGu} (h : gu.1 ≤ 6) {c t z : Nat} (hz : z < gu.1) (hb : (sp_guardsOn gu c t >>> (nI z &&& 31)) &&& nI 1 = 0) : sp_onc gu c t z = false := by
  have h1 := nw_bitz (sp_onc gu c t) gu.1 h z hz
  have h2 : (sp_bits (sp_onc gu c t) gu.1 >>> (nI z &&& 31)) &&& nI 1 = 0 := hb
  rw [h2] at h1
  simpa using h1.symm
theorem dr_yes {gu : spGu} (h : gu.1 ≤ 6) {c t z : Nat} (hz : z < gu.1) (hb : ¬ (sp_guardsOn gu c t >>> (nI z &&& 31)) &&& nI 1 = 0) (hj : ∀ j, j < z → sp_onc gu c t j = false) : sp_fst (sp_onc gu c t) 0 gu.1 = some z := by
  have h1 := nw_bitz (sp_onc gu c t) gu.1 h z hz
  have h2 : ((sp_bits (sp_onc gu c t) gu.1 >>> (nI z &&& 31)) &&& nI 1 == 0) = false := beq_eq_false_iff_ne.mpr hb
  rw [h2] at h1
  refine sp_fst_at (fun k _ hk => hj k hk) (Nat.zero_le _) (by omega) (by simpa using h1.symm)
/-- an answer of the reference's 'drawn' -/
def nwMd (d : nwD) (ro : Nat → Nat) (y : Nat) (s : spSg) (r t : Int32) (H : Heap) : Option Value → Heap → Prop := fun v H1 => ∃ q : Nat, v = some (.ref q) ∧ ((op_drawn s r t).1 = 0 → nwDr d s (nw_nn r) (nw_nn t) q H H1) ∧ H.size ≤ H1.size ∧ ∃ ro' am' : Nat → Nat, nwMW d ro' am' y s (nI (op_drawn s r t).1) H1 ∧ ∀ q, ro q ≠ 0 → ro' q = ro q
theorem kJ21_append_3 : nwPV "java/lang/StringBuilder" yJ21_append_3 cJ21_append_3 2 (some (.object "java/lang/StringBuilder")) 1 := ⟨⟨q1529, q1530, q124, q1531⟩, rfl, by decide +kernel, by decide +kernel, by decide +kernel⟩
theorem kJ21_append_2 : nwPV "java/lang/StringBuilder" yJ21_append_2 cJ21_append_2 2 (some (.object "java/lang/StringBuilder")) 1 := ⟨⟨q1494, q1495, q124, q1496⟩, rfl, by decide +kernel, by decide +kernel, by decide +kernel⟩
set_option maxHeartbeats 4000000 in
theorem mX4_drawn (l : Launch) (hf : l.flags = flags0) (d : nwD) (ro am : Nat → Nat) (y : Nat) (σ : spSg) (th : Int32) (r t : Int32) (H : Heap) (hB : nd_B d ≤ H.size) (hR : nwMW d ro am y σ th H) (ok : spOk σ) : nwMt l d yX4_drawn cX4_drawn 7 (some (.object "java/lang/String")) 7 171 40 400 [.ref y, .int r, .int t] H (nwMd d ro y σ r t H) nwNo (nwAM ro H) := by
  refine nw_start "NightwatchWallModel" "drawn" hf (by decide +kernel) rfl rfl (fun _ h => Or.inr h) (nwAM_B hR hB) (Nat.le_of_ble_eq_true rfl) ?_
  intro X C
  have hW := hR.wc
  have okM := ok.m
  have hyB := (hR.ok0 (show ro y ≠ 0 by rw [hR.2.1.2]; decide)).1
  have hAy : nwAM ro H y := Or.inl (by rw [hR.2.1.2]; decide +kernel)
  have hW0 := hW
  have hB0 := hB
  have hE := C.E0
  have hext : nwExt H H := nwExt.rfl
  obtain ⟨hmX, hmKi, hmLa, hmFo, hmGu, hmPo, hmIn, hmWi, hmWo, hmKe⟩ := id hW
  obtain ⟨okg, okl, okf, oku, okp, oki, okw, okd, okk, oka⟩ := id ok
  have hn64 : gr_n (sg_gr σ) ≤ 64 := okg.n
  have oku1 := oku.1
  have oki1 := oki.1
  have okp1 := okp.1
  have okw1 := okw.1
  have okl1 := okl.1
  have okf1 := okf.1
  have hgh8 := okg.hh
  show nwV X _ _ 7 H 0 0 0 [(0, .ref y), (1, .int r), (2, .int t)] []
  refine nw_aload_n C 0 dX4_drawn_0 rfl 1 rfl ?_
  refine nw_iconst C (nI 0) dX4_drawn_1 (by decide) 2 rfl ?_
  refine nw_put C hmX hAy (T := TX4) (ty0 := tyX4) rfl in_X4 tyX4_ok nmX4 0 (by decide) q1622 (Or.inl rfl) rfl rfl rfl (Nat.le_of_ble_eq_true rfl) dX4_drawn_2 5 rfl (fun H1 ho2 hz3 hq4 => ?_)
  have ho2 : nwO d y 9 [.int (nI 0), .int (nI (gr_w (sg_gr σ))), .int (nI (gr_h (sg_gr σ))), .ref (am 9), .int (nI (gaM_f (sg_ga σ))), .int (oI (gaM_t (sg_ga σ))), .ref (am 1), .ref (am 2), .ref (am 3), .ref (am 4), .int (nI (wo_s (sg_wo σ))), .int (nI (wo_m (sg_wo σ))), .int (nI (sp_after (wo_x (sg_wo σ)))), .ref (am 11), .ref (am 12), .int (nI (sg_ri σ)), .ref (am 8), .ref (am 5), .ref (am 6), .int (nI (sg_rf σ))] H1 := ho2
  replace hR := hR.th hz3 hq4 ho2
  have hzb : H1.size = H.size := hz3
  replace hB0 : nd_B d ≤ H1.size := by rw [hz3]; exact hB0
  replace hB := hB0
  replace hE := hE.kept (fun q9 _ hb9 => hq4 q9 (fun e9 => hb9 (by rw [e9]; exact hyB)))
  have hE0 := hE
  replace hW0 := hR.wc
  replace hW := hW0
  replace hext : nwExt H1 H1 := nwExt.rfl
  clear hmX hmKi hmLa hmFo hmGu hmPo hmIn hmWi hmWo hmKe
  obtain ⟨hmX, hmKi, hmLa, hmFo, hmGu, hmPo, hmIn, hmWi, hmWo, hmKe⟩ := id hW
  refine nw_iload_n C 1 dX4_drawn_5 rfl 6 rfl ?_
  refine nw_iconst C (nI 0) dX4_drawn_6 (by decide) 7 rfl ?_
  refine nw_aload_n C 0 dX4_drawn_7 rfl 8 rfl ?_
  refine nw_get C hmX (T := TX4) rfl in_X4 2 (by decide) q1624 (Or.inl rfl) rfl dX4_drawn_8 11 rfl ?_
  refine nw_iconst C (nI 1) dX4_drawn_11 (by decide) 12 rfl ?_
  refine nw_isub C (nI (gr_h (sg_gr σ)) - nI 1) dX4_drawn_12 rfl 13 rfl ?_
  refine nw_callS C (mX4_inX _ C.hfl d r (gr_h (sg_gr σ)) H1 hB (by omega)) kX4_in q1691 (As := [.int r, .int (nI 0), .int (nI (gr_h (sg_gr σ)) - nI 1)]) (rest := []) rfl rfl ⟨⟨Nat.le_of_ble_eq_true rfl, Nat.le_of_ble_eq_true rfl⟩, Nat.le_of_ble_eq_true rfl, Nat.le_of_ble_eq_true rfl⟩ (Nat.le_of_ble_eq_true rfl) (fun _ h8 h9 => absurd h9 (Nat.not_le.mpr h8)) dX4_drawn_13 16 rfl (nw_rdK ?_) nw_noX
  refine nw_ifneB C 28 dX4_drawn_16 (by decide) 19 rfl (fun h5 => ?_) (fun h5 => ?_)
  · obtain ⟨rn, hk6, rfl⟩ := nw_ix_nat (by omega) h5
    have en_rn : nw_nn (nI rn) = rn := nw_nn_nI (by omega)
    refine nw_iload_n C 2 dX4_drawn_28 rfl 29 rfl ?_
    refine nw_callS C (mX4_isMinute _ C.hfl d t H1 hB) kX4_isMinute q1722 (As := [.int t]) (rest := []) rfl rfl ⟨⟨Nat.le_of_ble_eq_true rfl, Nat.le_of_ble_eq_true rfl⟩, Nat.le_of_ble_eq_true rfl, Nat.le_of_ble_eq_true rfl⟩ (Nat.le_of_ble_eq_true rfl) (fun _ h8 h9 => absurd h9 (Nat.not_le.mpr h8)) dX4_drawn_29 32 rfl (nw_rdK ?_) nw_noX
    refine nw_ifneB C 44 dX4_drawn_32 (by decide) 35 rfl (fun h7 => ?_) (fun h7 => ?_)
    · obtain ⟨tn, hk8, rfl⟩ := nw_rg_nat (by omega) (by omega) h7
      have en_tn : nw_nn (nI tn) = tn := nw_nn_nI (by omega)
      have hw8 := okg.hh
      refine nw_new C (ci := 17) (T := TJ21) (ty0 := tyJ21) [.null, .int (nI 0), .int (b2i false), .int (nI 0)] rfl in_J21 tyJ21_ok q2071 q1324 q124 (fun j hj => by rcases (show j = 0 ∨ j = 1 ∨ j = 2 ∨ j = 3 by omega) with rfl | rfl | rfl | rfl <;> rfl) 1 4 (by omega) (by omega) ⟨(show 1 ≤ 40 by omega), (show 4 ≤ 400 by omega)⟩ dX4_drawn_44 47 rfl (fun a9 H10 hx11 ho12 hz13 hq14 => ?_)
      have hn15 : H1.size ≤ a9 := (by rw [hx11]; exact hext.1)
      replace hext := hext.made hz13 hq14
      replace hW := hW0.ext hext.2
      replace hE := hE0.ext hext.2
      replace hB := Nat.le_trans hB0 hext.1
      clear hmX hmKi hmLa hmFo hmGu hmPo hmIn hmWi hmWo hmKe
      obtain ⟨hmX, hmKi, hmLa, hmFo, hmGu, hmPo, hmIn, hmWi, hmWo, hmKe⟩ := id hW
      refine nw_dup C dX4_drawn_47 rfl 48 rfl ?_
      refine nw_callI C (mJ21_init _ C.hfl d a9 H10 hB (Nat.le_trans hB0 hn15) ho12) kJ21_init q2072 (As := []) (rest := [.ref a9]) rfl rfl ⟨⟨Nat.le_of_ble_eq_true rfl, Nat.le_of_ble_eq_true rfl⟩, (show 1 + 1 ≤ 40 by omega), (show 4 + 16 ≤ 400 by omega)⟩ (Nat.le_of_ble_eq_true rfl) (fun q8 h8 h9 => h9.elim (fun e9 => by rw [e9]; exact (Or.inr (Nat.le_trans (Nat.le_of_eq hzb.symm) hn15))) (fun e9 => absurd h8 (Nat.not_lt.mpr e9))) dX4_drawn_48 51 rfl (fun v9 H16 hR17 hz18 hq19 => ?_) nw_noX
      obtain ⟨rfl, ar20, hn21, ho22, hi23⟩ := hR17
      have hne24 : a9 ≠ ar20 := Nat.ne_of_lt (Nat.lt_of_lt_of_le ho12.lt hn21)
      have hn25 : H1.size ≤ ar20 := Nat.le_trans hext.1 hn21
      replace hext := hext.step hz18 hq19 (fun q9 e9 => e9.elim (fun e9 => by rw [e9]; exact hn15) (fun e9 => Nat.le_trans hext.1 e9))
      replace hW := hW0.ext hext.2
      replace hE := hE0.ext hext.2
      replace hB := Nat.le_trans hB0 hext.1
      clear hmX hmKi hmLa hmFo hmGu hmPo hmIn hmWi hmWo hmKe
      obtain ⟨hmX, hmKi, hmLa, hmFo, hmGu, hmPo, hmIn, hmWi, hmWo, hmKe⟩ := id hW
      show nwV X _ _ 7 H16 (1 + 1) (4 + 16) 51 [(0, .ref y), (1, .int (nI rn)), (2, .int (nI tn))] [.ref a9]
      refine nw_wide (k' := 2) (n' := 20) (by omega) (by omega) ?_
      refine nw_astore_n C [(3, .ref a9), (0, .ref y), (1, .int (nI rn)), (2, .int (nI tn))] dX4_drawn_51 (by decide) rfl 52 rfl ?_
      refine nw_iload_n C 2 dX4_drawn_52 rfl 53 rfl ?_
      refine nw_aload_n C 1 dX4_drawn_53 rfl 54 rfl ?_
      refine nw_get C hmX (T := TX4) rfl in_X4 1 (by decide) q1623 (Or.inl rfl) rfl dX4_drawn_54 57 rfl ?_
      refine nw_imulN C dX4_drawn_57 58 rfl ?_
      refine nw_istore C [(4, .int (nI (rn * (gr_w (sg_gr σ))))), (3, .ref a9), (0, .ref y), (1, .int (nI rn)), (2, .int (nI tn))] dX4_drawn_58 (by decide) rfl 60 rfl ?_
      have lp26 : ∀ (fu : Nat) (H2 : Heap) (i : Nat) (kk : Nat) (fz : Nat → Int32), (nwExt H1 H2) → (nwO d a9 17 [.ref ar20, .int (nI 0), .int (b2i false), .int (nI i)] H2) → (nwI d ar20 2 16 fz H2) → (i ≤ gr_w (sg_gr σ)) → (kk = rn * gr_w (sg_gr σ) + i) → (nwBy i fz) → (∀ j, j < i → fz j = nI (sp_signC σ (rn * gr_w (sg_gr σ) + j) tn)) → gr_w (sg_gr σ) - i < fu → nwV X (nwAM ro H) (nwQE X (nwMd d ro y σ (nI rn) (nI tn) H) nwNo (nwAM ro H) 40 400) 7 H2 (2 + 4 * i) (20 + 40 * i) 60 [(0, .ref y), (1, .int (nI rn)), (2, .int (nI tn)), (3, .ref a9), (4, .int (nI kk))] [] := by
        intro fu
        induction fu with
        | zero => intro H2 i kk fz _ _ _ _ _ _ _ hm; exact absurd hm (Nat.not_lt_zero _)
        | succ fu ih_lp26 =>
          intro H2 i kk fz hext hbx hba hi hkk hby hsg hm
          replace hW := hW0.ext hext.2
          replace hE := hE0.ext hext.2
          replace hB := Nat.le_trans hB0 hext.1
          clear hmX hmKi hmLa hmFo hmGu hmPo hmIn hmWi hmWo hmKe
          obtain ⟨hmX, hmKi, hmLa, hmFo, hmGu, hmPo, hmIn, hmWi, hmWo, hmKe⟩ := id hW
          refine nw_iload C 4 dX4_drawn_60 rfl 62 rfl ?_
          refine nw_iload_n C 1 dX4_drawn_62 rfl 63 rfl ?_
          refine nw_aload_n C 0 dX4_drawn_63 rfl 64 rfl ?_
          refine nw_get C hmX (T := TX4) rfl in_X4 1 (by decide) q1623 (Or.inl rfl) rfl dX4_drawn_64 67 rfl ?_
          refine nw_imulN C dX4_drawn_67 68 rfl ?_
          refine nw_aload_n C 0 dX4_drawn_68 rfl 69 rfl ?_
          refine nw_get C hmX (T := TX4) rfl in_X4 1 (by decide) q1623 (Or.inl rfl) rfl dX4_drawn_69 72 rfl ?_
          refine nw_iaddN C dX4_drawn_72 73 rfl ?_
          refine nw_icmpgeN C (by omega) 219 dX4_drawn_73 (by decide) 76 rfl (fun h27 => ?_) (fun h27 => ?_)
          · refine nw_aload_n C 3 dX4_drawn_219 rfl 220 rfl ?_
            refine nw_callV C (mJ21_toString _ C.hfl d a9 ar20 i fz H2 hB ⟨hbx, hba, hby⟩ (by omega)) kJ21_toString q2075 (hbx.is C (ci := 17) rfl) (As := []) (rest := []) rfl rfl ⟨⟨Nat.le_of_ble_eq_true rfl, Nat.le_of_ble_eq_true rfl⟩, (show (2 + 4 * i) + 2 ≤ 40 by omega), (show (20 + 40 * i) + 20 ≤ 400 by omega)⟩ (Nat.le_of_ble_eq_true rfl) (fun _ h8 h9 => absurd h9 (Nat.not_le.mpr h8)) dX4_drawn_220 223 rfl (fun v9 H28 hR29 hz30 hq31 => ?_) nw_noX
            obtain ⟨⟨st32, sv33, rfl, hsn34, hvn35, hso36⟩, hx37⟩ := hR29
            replace hsn34 := Nat.le_trans hext.1 hsn34
            replace hvn35 := Nat.le_trans hext.1 hvn35
            have ho38 := hbx.kept (hq31 _ hbx.lt (Nat.not_le.mpr hbx.lt))
            have ho39 := hba.kept (hq31 _ hba.lt (Nat.not_le.mpr hba.lt))
            replace hext := hext.call hz30 hq31
            replace hW := hW0.ext hext.2
            replace hE := hE0.ext hext.2
            replace hB := Nat.le_trans hB0 hext.1
            clear hmX hmKi hmLa hmFo hmGu hmPo hmIn hmWi hmWo hmKe
            obtain ⟨hmX, hmKi, hmLa, hmFo, hmGu, hmPo, hmIn, hmWi, hmWo, hmKe⟩ := id hW
            show nwV X _ _ 7 H28 ((2 + 4 * i) + 2) ((20 + 40 * i) + 20) 223 [(0, .ref y), (1, .int (nI rn)), (2, .int (nI tn)), (3, .ref a9), (4, .int (nI kk))] [.ref st32]
            refine nw_wide (k' := 2 + 4 * i + 2) (n' := 20 + 40 * i + 20) (by omega) (by omega) ?_
            have hop : op_drawn σ (nI rn) (nI tn) = (0, 0) := by simp [op_drawn, h5, h7]
            have hiw : i = gr_w (sg_gr σ) := by omega
            have hso9 : nwSo d st32 sv33 (gr_w (sg_gr σ)) fz H28 := by rw [← hiw]; exact hso36
            exact nw_aret C (Or.inl ⟨_, rfl⟩) dX4_drawn_223 (by omega) (by omega) (by unfold nwMd; rw [hop]; exact ⟨st32, rfl, (fun _ => ⟨sv33, fz, ⟨Nat.le_trans (Nat.le_of_eq hzb.symm) hsn34, Nat.le_trans (Nat.le_of_eq hzb.symm) hvn35⟩, hso9, fun j hj => by rw [en_rn, en_tn]; exact hsg j (by rw [hiw]; exact hj)⟩), Nat.le_trans (Nat.le_of_eq hzb.symm) hext.1, ro, am, hR.ext hext, fun _ _ => rfl⟩)
          · have hiw9 : i < gr_w (sg_gr σ) := by omega
            have hcl : kk < gr_n (sg_gr σ) := by rw [hkk]; exact dr_cell (by omega) hiw9
            have hgro := okg.here hcl
            have hk4 : gr_k (sg_gr σ) kk < 4 := hgro.2 kk hcl
            refine nw_aload_n C 0 dX4_drawn_76 rfl 77 rfl ?_
            refine nw_iload C 4 dX4_drawn_77 rfl 79 rfl ?_
            refine nw_iload_n C 2 dX4_drawn_79 rfl 80 rfl ?_
            refine nw_callV C (mX4_onCell _ C.hfl d ro am y σ (nI 0) kk tn H2 hB hW okM (by omega) (by omega)) kX4_onCell q1868 (hmX.is C (ci := 9) rfl) (As := [.int (nI kk), .int (nI tn)]) (rest := []) rfl rfl ⟨⟨Nat.le_of_ble_eq_true rfl, Nat.le_of_ble_eq_true rfl⟩, (show (2 + 4 * i) + 0 ≤ 40 by omega), (show (20 + 40 * i) + 0 ≤ 400 by omega)⟩ (Nat.le_of_ble_eq_true rfl) (fun _ h8 h9 => absurd h9 (Nat.not_le.mpr h8)) dX4_drawn_80 83 rfl (nw_rdK ?_) nw_noX
            refine nw_istore C [(5, .int (sp_guardsOn (sg_gu σ) kk tn)), (0, .ref y), (1, .int (nI rn)), (2, .int (nI tn)), (3, .ref a9), (4, .int (nI kk))] dX4_drawn_83 (by decide) rfl 85 rfl ?_
            refine nw_iconst C (nI 0) dX4_drawn_85 (by decide) 86 rfl ?_
            refine nw_istore C [(6, .int (nI 0)), (5, .int (sp_guardsOn (sg_gu σ) kk tn)), (0, .ref y), (1, .int (nI rn)), (2, .int (nI tn)), (3, .ref a9), (4, .int (nI kk))] dX4_drawn_86 (by decide) rfl 88 rfl ?_
            have lp40 : ∀ (fu : Nat) (z : Nat), (∀ j, j < z → sp_onc (sg_gu σ) kk tn j = false) → (z ≤ (sg_gu σ).1) → 7 - z < fu → nwV X (nwAM ro H) (nwQE X (nwMd d ro y σ (nI rn) (nI tn) H) nwNo (nwAM ro H) 40 400) 7 H2 (2 + 4 * i) (20 + 40 * i) 88 [(0, .ref y), (1, .int (nI rn)), (2, .int (nI tn)), (3, .ref a9), (4, .int (nI kk)), (5, .int (sp_guardsOn (sg_gu σ) kk tn)), (6, .int (nI z))] [] := by
              intro fu
              induction fu with
              | zero => intro z _ _ hm; exact absurd hm (Nat.not_lt_zero _)
              | succ fu ih_lp40 =>
                intro z hzf hz6 hm
                refine nw_iload C 5 dX4_drawn_88 rfl 90 rfl ?_
                refine nw_ifeq C 109 dX4_drawn_90 (by decide) 93 rfl (fun h41 => ?_) (fun h41 => ?_)
                · have hfs := dr_none oku1 h41
                  refine nw_aload_n C 3 dX4_drawn_109 rfl 110 rfl ?_
                  refine nw_iload C 5 dX4_drawn_110 rfl 112 rfl ?_
                  refine nw_ifeq C 139 dX4_drawn_112 (by decide) 115 rfl (fun _ => ?_) (fun h42 => absurd h41 h42)
                  refine nw_aload_n C 0 dX4_drawn_139 rfl 140 rfl ?_
                  refine nw_get C hmX (T := TX4) rfl in_X4 3 (by decide) q1625 (Or.inl rfl) rfl dX4_drawn_140 143 rfl ?_
                  refine nw_iload C 4 dX4_drawn_143 rfl 145 rfl ?_
                  refine nw_ialdN C (nI (gr_k (sg_gr σ) kk)) hmKi (by omega) rfl dX4_drawn_145 146 rfl ?_
                  refine nw_iconst C (nI 1) dX4_drawn_146 (by decide) 147 rfl ?_
                  refine nw_icmpneN C (by omega) 156 dX4_drawn_147 (by decide) 150 rfl (fun h43 => ?_) (fun h43 => ?_)
                  · refine nw_aload_n C 0 dX4_drawn_156 rfl 157 rfl ?_
                    refine nw_get C hmX (T := TX4) rfl in_X4 3 (by decide) q1625 (Or.inl rfl) rfl dX4_drawn_157 160 rfl ?_
                    refine nw_iload C 4 dX4_drawn_160 rfl 162 rfl ?_
                    refine nw_ialdN C (nI (gr_k (sg_gr σ) kk)) hmKi (by omega) rfl dX4_drawn_162 163 rfl ?_
                    refine nw_iconst C (nI 2) dX4_drawn_163 (by decide) 164 rfl ?_
                    refine nw_icmpneN C (by omega) 173 dX4_drawn_164 (by decide) 167 rfl (fun h44 => ?_) (fun h44 => ?_)
                    · refine nw_aload_n C 0 dX4_drawn_173 rfl 174 rfl ?_
                      refine nw_get C hmX (T := TX4) rfl in_X4 3 (by decide) q1625 (Or.inl rfl) rfl dX4_drawn_174 177 rfl ?_
                      refine nw_iload C 4 dX4_drawn_177 rfl 179 rfl ?_
                      refine nw_ialdN C (nI (gr_k (sg_gr σ) kk)) hmKi (by omega) rfl dX4_drawn_179 180 rfl ?_
                      refine nw_iconst C (nI 3) dX4_drawn_180 (by decide) 181 rfl ?_
                      refine nw_icmpneN C (by omega) 190 dX4_drawn_181 (by decide) 184 rfl (fun h45 => ?_) (fun h45 => ?_)
                      · refine nw_aload_n C 0 dX4_drawn_190 rfl 191 rfl ?_
                        refine nw_iload C 4 dX4_drawn_191 rfl 193 rfl ?_
                        refine nw_iload_n C 2 dX4_drawn_193 rfl 194 rfl ?_
                        refine nw_callV C (mX4_isWatched _ C.hfl d ro am y σ (nI 0) kk tn H2 hB hW okM (by omega) (by omega)) kX4_isWatched q1840 (hmX.is C (ci := 9) rfl) (As := [.int (nI kk), .int (nI tn)]) (rest := [.ref a9]) rfl rfl ⟨⟨Nat.le_of_ble_eq_true rfl, Nat.le_of_ble_eq_true rfl⟩, (show (2 + 4 * i) + 0 ≤ 40 by omega), (show (20 + 40 * i) + 0 ≤ 400 by omega)⟩ (Nat.le_of_ble_eq_true rfl) (fun _ h8 h9 => absurd h9 (Nat.not_le.mpr h8)) dX4_drawn_194 197 rfl (nw_rdK ?_) nw_noX
                        refine nw_ifeqB C 206 dX4_drawn_197 (by decide) 200 rfl (fun h46 => ?_) (fun h46 => ?_)
                        · refine nw_ldcSW C (C.hE.1.2.2.2.2.2.2.2.1 _ (List.mem_of_getElem? (i := 5) rfl)) dX4_drawn_206 209 rfl ?_
                          have hsv : nwKb 5 0 = nI (sp_signC σ kk tn) := by
                            unfold sp_signC
                            rw [hfs]
                            simp [h43, h44, h45, h46]
                            decide
                          refine nw_callV C (mJ21_appendS _ C.hfl d a9 ar20 i fz (nd_st d 324) (nd_st d 405) 1 (nwKb 5) H2 hB (Nat.le_trans hB0 hn15) (Nat.le_trans hB0 hn25) hne24 ⟨hbx, hba, hby⟩ (Or.inl ⟨5, by decide, rfl, rfl, rfl, rfl⟩) (by decide) (by omega)) kJ21_append_3 q2073 (hbx.is C (ci := 17) rfl) (As := [.ref (nd_st d 324)]) (rest := []) rfl rfl ⟨⟨Nat.le_of_ble_eq_true rfl, Nat.le_of_ble_eq_true rfl⟩, (show (2 + 4 * i) + 0 ≤ 40 by omega), (show (20 + 40 * i) + 0 ≤ 400 by omega)⟩ (Nat.le_of_ble_eq_true rfl) (fun q8 h8 h9 => h9.elim (fun e9 => by rw [e9]; exact (Or.inr (Nat.le_trans (Nat.le_of_eq hzb.symm) hn15))) (fun h9 => h9.elim (fun e9 => by rw [e9]; exact (Or.inr (Nat.le_trans (Nat.le_of_eq hzb.symm) hn25))) (fun e9 => absurd h8 (Nat.not_lt.mpr e9)))) dX4_drawn_209 212 rfl (fun v9 H47 hR48 hz49 hq50 => ?_) nw_noX
                          obtain ⟨rfl, fb51, hb52, hk53, he54⟩ := hR48
                          replace hext := hext.step hz49 hq50 (fun q9 e9 => e9.elim (fun e9 => by rw [e9]; exact hn15) (fun e9 => e9.elim (fun e9 => by rw [e9]; exact hn25) (fun e9 => Nat.le_trans hext.1 e9)))
                          replace hW := hW0.ext hext.2
                          replace hE := hE0.ext hext.2
                          replace hB := Nat.le_trans hB0 hext.1
                          clear hmX hmKi hmLa hmFo hmGu hmPo hmIn hmWi hmWo hmKe
                          obtain ⟨hmX, hmKi, hmLa, hmFo, hmGu, hmPo, hmIn, hmWi, hmWo, hmKe⟩ := id hW
                          show nwV X _ _ 7 H47 ((2 + 4 * i) + 0) ((20 + 40 * i) + 0) 212 [(0, .ref y), (1, .int (nI rn)), (2, .int (nI tn)), (3, .ref a9), (4, .int (nI kk)), (5, .int (sp_guardsOn (sg_gu σ) kk tn)), (6, .int (nI z))] [.ref a9]
                          refine nw_wide (k' := 2 + 4 * i + 0) (n' := 20 + 40 * i + 0) (by omega) (by omega) ?_
                          refine nw_pop C dX4_drawn_212 rfl 213 rfl ?_
                          refine nw_iincN C 4 (c0 := 1) [(4, .int (nI (kk + 1))), (0, .ref y), (1, .int (nI rn)), (2, .int (nI tn)), (3, .ref a9), (5, .int (sp_guardsOn (sg_gu σ) kk tn)), (6, .int (nI z))] dX4_drawn_213 rfl (by decide) rfl 216 rfl ?_
                          refine nw_goto C 60 dX4_drawn_216 (by decide) ?_
                          exact nw_wide (by omega) (by omega) (nw_sub [1, 2, 3, 4, 0] rfl (ih_lp26 H47 (i + 1) (kk + 1) fb51 hext hb52.1 hb52.2.1 (by omega) (by omega) hb52.2.2 (fun j hj => by
                                  rcases Nat.lt_or_ge j i with e9 | e9
                                  · rw [hk53 j e9]; exact hsg j e9
                                  · rw [show j = i by omega, ← hkk]; exact (he54 0 (by decide)).trans hsv) (by omega)))
                        · refine nw_ldcSW C (C.hE.1.2.2.2.2.2.2.2.1 _ (List.mem_of_getElem? (i := 4) rfl)) dX4_drawn_200 203 rfl ?_
                          refine nw_goto C 209 dX4_drawn_203 (by decide) ?_
                          have hsv : nwKb 4 0 = nI (sp_signC σ kk tn) := by
                            unfold sp_signC
                            rw [hfs]
                            simp [h43, h44, h45, h46]
                            decide
                          refine nw_callV C (mJ21_appendS _ C.hfl d a9 ar20 i fz (nd_st d 322) (nd_st d 404) 1 (nwKb 4) H2 hB (Nat.le_trans hB0 hn15) (Nat.le_trans hB0 hn25) hne24 ⟨hbx, hba, hby⟩ (Or.inl ⟨4, by decide, rfl, rfl, rfl, rfl⟩) (by decide) (by omega)) kJ21_append_3 q2073 (hbx.is C (ci := 17) rfl) (As := [.ref (nd_st d 322)]) (rest := []) rfl rfl ⟨⟨Nat.le_of_ble_eq_true rfl, Nat.le_of_ble_eq_true rfl⟩, (show (2 + 4 * i) + 0 ≤ 40 by omega), (show (20 + 40 * i) + 0 ≤ 400 by omega)⟩ (Nat.le_of_ble_eq_true rfl) (fun q8 h8 h9 => h9.elim (fun e9 => by rw [e9]; exact (Or.inr (Nat.le_trans (Nat.le_of_eq hzb.symm) hn15))) (fun h9 => h9.elim (fun e9 => by rw [e9]; exact (Or.inr (Nat.le_trans (Nat.le_of_eq hzb.symm) hn25))) (fun e9 => absurd h8 (Nat.not_lt.mpr e9)))) dX4_drawn_209 212 rfl (fun v9 H55 hR56 hz57 hq58 => ?_) nw_noX
                          obtain ⟨rfl, fb59, hb60, hk61, he62⟩ := hR56
                          replace hext := hext.step hz57 hq58 (fun q9 e9 => e9.elim (fun e9 => by rw [e9]; exact hn15) (fun e9 => e9.elim (fun e9 => by rw [e9]; exact hn25) (fun e9 => Nat.le_trans hext.1 e9)))
                          replace hW := hW0.ext hext.2
                          replace hE := hE0.ext hext.2
                          replace hB := Nat.le_trans hB0 hext.1
                          clear hmX hmKi hmLa hmFo hmGu hmPo hmIn hmWi hmWo hmKe
                          obtain ⟨hmX, hmKi, hmLa, hmFo, hmGu, hmPo, hmIn, hmWi, hmWo, hmKe⟩ := id hW
                          show nwV X _ _ 7 H55 ((2 + 4 * i) + 0) ((20 + 40 * i) + 0) 212 [(0, .ref y), (1, .int (nI rn)), (2, .int (nI tn)), (3, .ref a9), (4, .int (nI kk)), (5, .int (sp_guardsOn (sg_gu σ) kk tn)), (6, .int (nI z))] [.ref a9]
                          refine nw_wide (k' := 2 + 4 * i + 0) (n' := 20 + 40 * i + 0) (by omega) (by omega) ?_
                          refine nw_pop C dX4_drawn_212 rfl 213 rfl ?_
                          refine nw_iincN C 4 (c0 := 1) [(4, .int (nI (kk + 1))), (0, .ref y), (1, .int (nI rn)), (2, .int (nI tn)), (3, .ref a9), (5, .int (sp_guardsOn (sg_gu σ) kk tn)), (6, .int (nI z))] dX4_drawn_213 rfl (by decide) rfl 216 rfl ?_
                          refine nw_goto C 60 dX4_drawn_216 (by decide) ?_
                          exact nw_wide (by omega) (by omega) (nw_sub [1, 2, 3, 4, 0] rfl (ih_lp26 H55 (i + 1) (kk + 1) fb59 hext hb60.1 hb60.2.1 (by omega) (by omega) hb60.2.2 (fun j hj => by
                                  rcases Nat.lt_or_ge j i with e9 | e9
                                  · rw [hk61 j e9]; exact hsg j e9
                                  · rw [show j = i by omega, ← hkk]; exact (he62 0 (by decide)).trans hsv) (by omega)))
                      · refine nw_ldcSW C (C.hE.1.2.2.2.2.2.2.2.1 _ (List.mem_of_getElem? (i := 3) rfl)) dX4_drawn_184 187 rfl ?_
                        refine nw_goto C 209 dX4_drawn_187 (by decide) ?_
                        have hsv : nwKb 3 0 = nI (sp_signC σ kk tn) := by
                          unfold sp_signC
                          rw [hfs]
                          simp [h43, h44, h45]
                          decide
                        refine nw_callV C (mJ21_appendS _ C.hfl d a9 ar20 i fz (nd_st d 320) (nd_st d 403) 1 (nwKb 3) H2 hB (Nat.le_trans hB0 hn15) (Nat.le_trans hB0 hn25) hne24 ⟨hbx, hba, hby⟩ (Or.inl ⟨3, by decide, rfl, rfl, rfl, rfl⟩) (by decide) (by omega)) kJ21_append_3 q2073 (hbx.is C (ci := 17) rfl) (As := [.ref (nd_st d 320)]) (rest := []) rfl rfl ⟨⟨Nat.le_of_ble_eq_true rfl, Nat.le_of_ble_eq_true rfl⟩, (show (2 + 4 * i) + 0 ≤ 40 by omega), (show (20 + 40 * i) + 0 ≤ 400 by omega)⟩ (Nat.le_of_ble_eq_true rfl) (fun q8 h8 h9 => h9.elim (fun e9 => by rw [e9]; exact (Or.inr (Nat.le_trans (Nat.le_of_eq hzb.symm) hn15))) (fun h9 => h9.elim (fun e9 => by rw [e9]; exact (Or.inr (Nat.le_trans (Nat.le_of_eq hzb.symm) hn25))) (fun e9 => absurd h8 (Nat.not_lt.mpr e9)))) dX4_drawn_209 212 rfl (fun v9 H63 hR64 hz65 hq66 => ?_) nw_noX
                        obtain ⟨rfl, fb67, hb68, hk69, he70⟩ := hR64
                        replace hext := hext.step hz65 hq66 (fun q9 e9 => e9.elim (fun e9 => by rw [e9]; exact hn15) (fun e9 => e9.elim (fun e9 => by rw [e9]; exact hn25) (fun e9 => Nat.le_trans hext.1 e9)))
                        replace hW := hW0.ext hext.2
                        replace hE := hE0.ext hext.2
                        replace hB := Nat.le_trans hB0 hext.1
                        clear hmX hmKi hmLa hmFo hmGu hmPo hmIn hmWi hmWo hmKe
                        obtain ⟨hmX, hmKi, hmLa, hmFo, hmGu, hmPo, hmIn, hmWi, hmWo, hmKe⟩ := id hW
                        show nwV X _ _ 7 H63 ((2 + 4 * i) + 0) ((20 + 40 * i) + 0) 212 [(0, .ref y), (1, .int (nI rn)), (2, .int (nI tn)), (3, .ref a9), (4, .int (nI kk)), (5, .int (sp_guardsOn (sg_gu σ) kk tn)), (6, .int (nI z))] [.ref a9]
                        refine nw_wide (k' := 2 + 4 * i + 0) (n' := 20 + 40 * i + 0) (by omega) (by omega) ?_
                        refine nw_pop C dX4_drawn_212 rfl 213 rfl ?_
                        refine nw_iincN C 4 (c0 := 1) [(4, .int (nI (kk + 1))), (0, .ref y), (1, .int (nI rn)), (2, .int (nI tn)), (3, .ref a9), (5, .int (sp_guardsOn (sg_gu σ) kk tn)), (6, .int (nI z))] dX4_drawn_213 rfl (by decide) rfl 216 rfl ?_
                        refine nw_goto C 60 dX4_drawn_216 (by decide) ?_
                        exact nw_wide (by omega) (by omega) (nw_sub [1, 2, 3, 4, 0] rfl (ih_lp26 H63 (i + 1) (kk + 1) fb67 hext hb68.1 hb68.2.1 (by omega) (by omega) hb68.2.2 (fun j hj => by
                                rcases Nat.lt_or_ge j i with e9 | e9
                                · rw [hk69 j e9]; exact hsg j e9
                                · rw [show j = i by omega, ← hkk]; exact (he70 0 (by decide)).trans hsv) (by omega)))
                    · refine nw_ldcSW C (C.hE.1.2.2.2.2.2.2.2.1 _ (List.mem_of_getElem? (i := 2) rfl)) dX4_drawn_167 170 rfl ?_
                      refine nw_goto C 209 dX4_drawn_170 (by decide) ?_
                      have hsv : nwKb 2 0 = nI (sp_signC σ kk tn) := by
                        unfold sp_signC
                        rw [hfs]
                        simp [h43, h44]
                        decide
                      refine nw_callV C (mJ21_appendS _ C.hfl d a9 ar20 i fz (nd_st d 318) (nd_st d 402) 1 (nwKb 2) H2 hB (Nat.le_trans hB0 hn15) (Nat.le_trans hB0 hn25) hne24 ⟨hbx, hba, hby⟩ (Or.inl ⟨2, by decide, rfl, rfl, rfl, rfl⟩) (by decide) (by omega)) kJ21_append_3 q2073 (hbx.is C (ci := 17) rfl) (As := [.ref (nd_st d 318)]) (rest := []) rfl rfl ⟨⟨Nat.le_of_ble_eq_true rfl, Nat.le_of_ble_eq_true rfl⟩, (show (2 + 4 * i) + 0 ≤ 40 by omega), (show (20 + 40 * i) + 0 ≤ 400 by omega)⟩ (Nat.le_of_ble_eq_true rfl) (fun q8 h8 h9 => h9.elim (fun e9 => by rw [e9]; exact (Or.inr (Nat.le_trans (Nat.le_of_eq hzb.symm) hn15))) (fun h9 => h9.elim (fun e9 => by rw [e9]; exact (Or.inr (Nat.le_trans (Nat.le_of_eq hzb.symm) hn25))) (fun e9 => absurd h8 (Nat.not_lt.mpr e9)))) dX4_drawn_209 212 rfl (fun v9 H71 hR72 hz73 hq74 => ?_) nw_noX
                      obtain ⟨rfl, fb75, hb76, hk77, he78⟩ := hR72
                      replace hext := hext.step hz73 hq74 (fun q9 e9 => e9.elim (fun e9 => by rw [e9]; exact hn15) (fun e9 => e9.elim (fun e9 => by rw [e9]; exact hn25) (fun e9 => Nat.le_trans hext.1 e9)))
                      replace hW := hW0.ext hext.2
                      replace hE := hE0.ext hext.2
                      replace hB := Nat.le_trans hB0 hext.1
                      clear hmX hmKi hmLa hmFo hmGu hmPo hmIn hmWi hmWo hmKe
                      obtain ⟨hmX, hmKi, hmLa, hmFo, hmGu, hmPo, hmIn, hmWi, hmWo, hmKe⟩ := id hW
                      show nwV X _ _ 7 H71 ((2 + 4 * i) + 0) ((20 + 40 * i) + 0) 212 [(0, .ref y), (1, .int (nI rn)), (2, .int (nI tn)), (3, .ref a9), (4, .int (nI kk)), (5, .int (sp_guardsOn (sg_gu σ) kk tn)), (6, .int (nI z))] [.ref a9]
                      refine nw_wide (k' := 2 + 4 * i + 0) (n' := 20 + 40 * i + 0) (by omega) (by omega) ?_
                      refine nw_pop C dX4_drawn_212 rfl 213 rfl ?_
                      refine nw_iincN C 4 (c0 := 1) [(4, .int (nI (kk + 1))), (0, .ref y), (1, .int (nI rn)), (2, .int (nI tn)), (3, .ref a9), (5, .int (sp_guardsOn (sg_gu σ) kk tn)), (6, .int (nI z))] dX4_drawn_213 rfl (by decide) rfl 216 rfl ?_
                      refine nw_goto C 60 dX4_drawn_216 (by decide) ?_
                      exact nw_wide (by omega) (by omega) (nw_sub [1, 2, 3, 4, 0] rfl (ih_lp26 H71 (i + 1) (kk + 1) fb75 hext hb76.1 hb76.2.1 (by omega) (by omega) hb76.2.2 (fun j hj => by
                              rcases Nat.lt_or_ge j i with e9 | e9
                              · rw [hk77 j e9]; exact hsg j e9
                              · rw [show j = i by omega, ← hkk]; exact (he78 0 (by decide)).trans hsv) (by omega)))
                  · refine nw_ldcSW C (C.hE.1.2.2.2.2.2.2.2.1 _ (List.mem_of_getElem? (i := 1) rfl)) dX4_drawn_150 153 rfl ?_
                    refine nw_goto C 209 dX4_drawn_153 (by decide) ?_
                    have hsv : nwKb 1 0 = nI (sp_signC σ kk tn) := by
                      unfold sp_signC
                      rw [hfs]
                      simp [h43]
                      decide
                    refine nw_callV C (mJ21_appendS _ C.hfl d a9 ar20 i fz (nd_st d 316) (nd_st d 401) 1 (nwKb 1) H2 hB (Nat.le_trans hB0 hn15) (Nat.le_trans hB0 hn25) hne24 ⟨hbx, hba, hby⟩ (Or.inl ⟨1, by decide, rfl, rfl, rfl, rfl⟩) (by decide) (by omega)) kJ21_append_3 q2073 (hbx.is C (ci := 17) rfl) (As := [.ref (nd_st d 316)]) (rest := []) rfl rfl ⟨⟨Nat.le_of_ble_eq_true rfl, Nat.le_of_ble_eq_true rfl⟩, (show (2 + 4 * i) + 0 ≤ 40 by omega), (show (20 + 40 * i) + 0 ≤ 400 by omega)⟩ (Nat.le_of_ble_eq_true rfl) (fun q8 h8 h9 => h9.elim (fun e9 => by rw [e9]; exact (Or.inr (Nat.le_trans (Nat.le_of_eq hzb.symm) hn15))) (fun h9 => h9.elim (fun e9 => by rw [e9]; exact (Or.inr (Nat.le_trans (Nat.le_of_eq hzb.symm) hn25))) (fun e9 => absurd h8 (Nat.not_lt.mpr e9)))) dX4_drawn_209 212 rfl (fun v9 H79 hR80 hz81 hq82 => ?_) nw_noX
                    obtain ⟨rfl, fb83, hb84, hk85, he86⟩ := hR80
                    replace hext := hext.step hz81 hq82 (fun q9 e9 => e9.elim (fun e9 => by rw [e9]; exact hn15) (fun e9 => e9.elim (fun e9 => by rw [e9]; exact hn25) (fun e9 => Nat.le_trans hext.1 e9)))
                    replace hW := hW0.ext hext.2
                    replace hE := hE0.ext hext.2
                    replace hB := Nat.le_trans hB0 hext.1
                    clear hmX hmKi hmLa hmFo hmGu hmPo hmIn hmWi hmWo hmKe
                    obtain ⟨hmX, hmKi, hmLa, hmFo, hmGu, hmPo, hmIn, hmWi, hmWo, hmKe⟩ := id hW
                    show nwV X _ _ 7 H79 ((2 + 4 * i) + 0) ((20 + 40 * i) + 0) 212 [(0, .ref y), (1, .int (nI rn)), (2, .int (nI tn)), (3, .ref a9), (4, .int (nI kk)), (5, .int (sp_guardsOn (sg_gu σ) kk tn)), (6, .int (nI z))] [.ref a9]
                    refine nw_wide (k' := 2 + 4 * i + 0) (n' := 20 + 40 * i + 0) (by omega) (by omega) ?_
                    refine nw_pop C dX4_drawn_212 rfl 213 rfl ?_
                    refine nw_iincN C 4 (c0 := 1) [(4, .int (nI (kk + 1))), (0, .ref y), (1, .int (nI rn)), (2, .int (nI tn)), (3, .ref a9), (5, .int (sp_guardsOn (sg_gu σ) kk tn)), (6, .int (nI z))] dX4_drawn_213 rfl (by decide) rfl 216 rfl ?_
                    refine nw_goto C 60 dX4_drawn_216 (by decide) ?_
                    exact nw_wide (by omega) (by omega) (nw_sub [1, 2, 3, 4, 0] rfl (ih_lp26 H79 (i + 1) (kk + 1) fb83 hext hb84.1 hb84.2.1 (by omega) (by omega) hb84.2.2 (fun j hj => by
                            rcases Nat.lt_or_ge j i with e9 | e9
                            · rw [hk85 j e9]; exact hsg j e9
                            · rw [show j = i by omega, ← hkk]; exact (he86 0 (by decide)).trans hsv) (by omega)))
                · have hzl : z < (sg_gu σ).1 := dr_lt oku1 h41 hzf
                  refine nw_iload C 5 dX4_drawn_93 rfl 95 rfl ?_
                  refine nw_iload C 6 dX4_drawn_95 rfl 97 rfl ?_
                  refine nw_ishr C ((sp_guardsOn (sg_gu σ) kk tn) >>> ((nI z) &&& 31)) dX4_drawn_97 rfl 98 rfl ?_
                  refine nw_iconst C (nI 1) dX4_drawn_98 (by decide) 99 rfl ?_
                  refine nw_iand C (((sp_guardsOn (sg_gu σ) kk tn) >>> ((nI z) &&& 31)) &&& (nI 1)) dX4_drawn_99 rfl 100 rfl ?_
                  refine nw_ifne C 109 dX4_drawn_100 (by decide) 103 rfl (fun h87 => ?_) (fun h87 => ?_)
                  · have hfs := dr_yes oku1 hzl h87 hzf
                    refine nw_aload_n C 3 dX4_drawn_109 rfl 110 rfl ?_
                    refine nw_iload C 5 dX4_drawn_110 rfl 112 rfl ?_
                    refine nw_ifeq C 139 dX4_drawn_112 (by decide) 115 rfl (fun h88 => absurd h88 h41) (fun _ => ?_)
                    refine nw_new C (ci := 17) (T := TJ21) (ty0 := tyJ21) [.null, .int (nI 0), .int (b2i false), .int (nI 0)] rfl in_J21 tyJ21_ok q2071 q1324 q124 (fun j hj => by rcases (show j = 0 ∨ j = 1 ∨ j = 2 ∨ j = 3 by omega) with rfl | rfl | rfl | rfl <;> rfl) (2 + 4 * i + 1) (20 + 40 * i + 4) (by omega) (by omega) ⟨(show (2 + 4 * i + 1) ≤ 40 by omega), (show (20 + 40 * i + 4) ≤ 400 by omega)⟩ dX4_drawn_115 118 rfl (fun a89 H90 hx91 ho92 hz93 hq94 => ?_)
                    have hn95 : H1.size ≤ a89 := (by rw [hx91]; exact hext.1)
                    have hne96 : a9 ≠ a89 := (Nat.ne_of_lt (by rw [hx91]; exact hbx.lt))
                    have hne97 : ar20 ≠ a89 := (Nat.ne_of_lt (by rw [hx91]; exact hba.lt))
                    have ho98 := hbx.kept (hq94 _ hbx.lt)
                    have ho99 := hba.kept (hq94 _ hba.lt)
                    replace hext := hext.made hz93 hq94
                    replace hW := hW0.ext hext.2
                    replace hE := hE0.ext hext.2
                    replace hB := Nat.le_trans hB0 hext.1
                    clear hmX hmKi hmLa hmFo hmGu hmPo hmIn hmWi hmWo hmKe
                    obtain ⟨hmX, hmKi, hmLa, hmFo, hmGu, hmPo, hmIn, hmWi, hmWo, hmKe⟩ := id hW
                    refine nw_dup C dX4_drawn_118 rfl 119 rfl ?_
                    refine nw_callI C (mJ21_init _ C.hfl d a89 H90 hB (Nat.le_trans hB0 hn95) ho92) kJ21_init q2072 (As := []) (rest := [.ref a89, .ref a9]) rfl rfl ⟨⟨Nat.le_of_ble_eq_true rfl, Nat.le_of_ble_eq_true rfl⟩, (show (2 + 4 * i + 1) + 1 ≤ 40 by omega), (show (20 + 40 * i + 4) + 16 ≤ 400 by omega)⟩ (Nat.le_of_ble_eq_true rfl) (fun q8 h8 h9 => h9.elim (fun e9 => by rw [e9]; exact (Or.inr (Nat.le_trans (Nat.le_of_eq hzb.symm) hn95))) (fun e9 => absurd h8 (Nat.not_lt.mpr e9))) dX4_drawn_119 122 rfl (fun v9 H100 hR101 hz102 hq103 => ?_) nw_noX
                    obtain ⟨rfl, ar104, hn105, ho106, hi107⟩ := hR101
                    have hne108 : a89 ≠ ar104 := Nat.ne_of_lt (Nat.lt_of_lt_of_le ho92.lt hn105)
                    have hn109 : H1.size ≤ ar104 := Nat.le_trans hext.1 hn105
                    have hne110 : a9 ≠ ar104 := Nat.ne_of_lt (Nat.lt_of_lt_of_le ho98.lt hn105)
                    have hne111 : ar20 ≠ ar104 := Nat.ne_of_lt (Nat.lt_of_lt_of_le ho99.lt hn105)
                    have ho112 := ho98.kept (hq103 _ ho98.lt (fun e9 => e9.elim hne96 (Nat.not_le.mpr ho98.lt)))
                    have ho113 := ho99.kept (hq103 _ ho99.lt (fun e9 => e9.elim hne97 (Nat.not_le.mpr ho99.lt)))
                    replace hext := hext.step hz102 hq103 (fun q9 e9 => e9.elim (fun e9 => by rw [e9]; exact hn95) (fun e9 => Nat.le_trans hext.1 e9))
                    replace hW := hW0.ext hext.2
                    replace hE := hE0.ext hext.2
                    replace hB := Nat.le_trans hB0 hext.1
                    clear hmX hmKi hmLa hmFo hmGu hmPo hmIn hmWi hmWo hmKe
                    obtain ⟨hmX, hmKi, hmLa, hmFo, hmGu, hmPo, hmIn, hmWi, hmWo, hmKe⟩ := id hW
                    show nwV X _ _ 7 H100 ((2 + 4 * i + 1) + 1) ((20 + 40 * i + 4) + 16) 122 [(0, .ref y), (1, .int (nI rn)), (2, .int (nI tn)), (3, .ref a9), (4, .int (nI kk)), (5, .int (sp_guardsOn (sg_gu σ) kk tn)), (6, .int (nI z))] [.ref a89, .ref a9]
                    refine nw_wide (k' := 2 + 4 * i + 2) (n' := 20 + 40 * i + 20) (by omega) (by omega) ?_
                    refine nw_ldcSW C (C.hE.1.2.2.2.2.2.2.2.1 _ (List.mem_of_getElem? (i := 0) rfl)) dX4_drawn_122 125 rfl ?_
                    refine nw_callV C (mJ21_appendS _ C.hfl d a89 ar104 0 (fun _ => 0) (nd_st d 300) (nd_st d 400) 0 (nwKb 0) H100 hB (Nat.le_trans hB0 hn95) (Nat.le_trans hB0 hn109) hne108 ⟨ho106, hi107, (fun j hj => absurd hj (Nat.not_lt_zero j))⟩ (Or.inl ⟨0, by decide, rfl, rfl, rfl, rfl⟩) (by decide) (by omega)) kJ21_append_3 q2073 (ho106.is C (ci := 17) rfl) (As := [.ref (nd_st d 300)]) (rest := [.ref a9]) rfl rfl ⟨⟨Nat.le_of_ble_eq_true rfl, Nat.le_of_ble_eq_true rfl⟩, (show (2 + 4 * i + 2) + 0 ≤ 40 by omega), (show (20 + 40 * i + 20) + 0 ≤ 400 by omega)⟩ (Nat.le_of_ble_eq_true rfl) (fun q8 h8 h9 => h9.elim (fun e9 => by rw [e9]; exact (Or.inr (Nat.le_trans (Nat.le_of_eq hzb.symm) hn95))) (fun h9 => h9.elim (fun e9 => by rw [e9]; exact (Or.inr (Nat.le_trans (Nat.le_of_eq hzb.symm) hn109))) (fun e9 => absurd h8 (Nat.not_lt.mpr e9)))) dX4_drawn_125 128 rfl (fun v9 H114 hR115 hz116 hq117 => ?_) nw_noX
                    obtain ⟨rfl, fb118, hb119, hk120, he121⟩ := hR115
                    have ho122 := ho112.kept (hq117 _ ho112.lt (fun e9 => e9.elim hne96 (fun e9 => e9.elim hne110 (Nat.not_le.mpr ho112.lt))))
                    have ho123 := ho113.kept (hq117 _ ho113.lt (fun e9 => e9.elim hne97 (fun e9 => e9.elim hne111 (Nat.not_le.mpr ho113.lt))))
                    replace hext := hext.step hz116 hq117 (fun q9 e9 => e9.elim (fun e9 => by rw [e9]; exact hn95) (fun e9 => e9.elim (fun e9 => by rw [e9]; exact hn109) (fun e9 => Nat.le_trans hext.1 e9)))
                    replace hW := hW0.ext hext.2
                    replace hE := hE0.ext hext.2
                    replace hB := Nat.le_trans hB0 hext.1
                    clear hmX hmKi hmLa hmFo hmGu hmPo hmIn hmWi hmWo hmKe
                    obtain ⟨hmX, hmKi, hmLa, hmFo, hmGu, hmPo, hmIn, hmWi, hmWo, hmKe⟩ := id hW
                    show nwV X _ _ 7 H114 ((2 + 4 * i + 2) + 0) ((20 + 40 * i + 20) + 0) 128 [(0, .ref y), (1, .int (nI rn)), (2, .int (nI tn)), (3, .ref a9), (4, .int (nI kk)), (5, .int (sp_guardsOn (sg_gu σ) kk tn)), (6, .int (nI z))] [.ref a89, .ref a9]
                    refine nw_wide (k' := 2 + 4 * i + 2) (n' := 20 + 40 * i + 20) (by omega) (by omega) ?_
                    refine nw_iload C 6 dX4_drawn_128 rfl 130 rfl ?_
                    refine nw_callV C (mJ21_appendI _ C.hfl d a89 ar104 (0 + 0) fb118 z H114 hB (Nat.le_trans hB0 hn95) (Nat.le_trans hB0 hn109) hne108 ⟨hb119.1, hb119.2.1, hb119.2.2⟩ (by omega) (by omega)) kJ21_append_2 q2074 (hb119.1.is C (ci := 17) rfl) (As := [.int (nI z)]) (rest := [.ref a9]) rfl rfl ⟨⟨Nat.le_of_ble_eq_true rfl, Nat.le_of_ble_eq_true rfl⟩, (show (2 + 4 * i + 2) + 0 ≤ 40 by omega), (show (20 + 40 * i + 20) + 0 ≤ 400 by omega)⟩ (Nat.le_of_ble_eq_true rfl) (fun q8 h8 h9 => h9.elim (fun e9 => by rw [e9]; exact (Or.inr (Nat.le_trans (Nat.le_of_eq hzb.symm) hn95))) (fun h9 => h9.elim (fun e9 => by rw [e9]; exact (Or.inr (Nat.le_trans (Nat.le_of_eq hzb.symm) hn109))) (fun e9 => absurd h8 (Nat.not_lt.mpr e9)))) dX4_drawn_130 133 rfl (fun v9 H124 hR125 hz126 hq127 => ?_) nw_noX
                    obtain ⟨rfl, fb128, hb129, hk130, he131⟩ := hR125
                    have ho132 := ho122.kept (hq127 _ ho122.lt (fun e9 => e9.elim hne96 (fun e9 => e9.elim hne110 (Nat.not_le.mpr ho122.lt))))
                    have ho133 := ho123.kept (hq127 _ ho123.lt (fun e9 => e9.elim hne97 (fun e9 => e9.elim hne111 (Nat.not_le.mpr ho123.lt))))
                    replace hext := hext.step hz126 hq127 (fun q9 e9 => e9.elim (fun e9 => by rw [e9]; exact hn95) (fun e9 => e9.elim (fun e9 => by rw [e9]; exact hn109) (fun e9 => Nat.le_trans hext.1 e9)))
                    replace hW := hW0.ext hext.2
                    replace hE := hE0.ext hext.2
                    replace hB := Nat.le_trans hB0 hext.1
                    clear hmX hmKi hmLa hmFo hmGu hmPo hmIn hmWi hmWo hmKe
                    obtain ⟨hmX, hmKi, hmLa, hmFo, hmGu, hmPo, hmIn, hmWi, hmWo, hmKe⟩ := id hW
                    show nwV X _ _ 7 H124 ((2 + 4 * i + 2) + 0) ((20 + 40 * i + 20) + 0) 133 [(0, .ref y), (1, .int (nI rn)), (2, .int (nI tn)), (3, .ref a9), (4, .int (nI kk)), (5, .int (sp_guardsOn (sg_gu σ) kk tn)), (6, .int (nI z))] [.ref a89, .ref a9]
                    refine nw_wide (k' := 2 + 4 * i + 2) (n' := 20 + 40 * i + 20) (by omega) (by omega) ?_
                    refine nw_callV C (mJ21_toString _ C.hfl d a89 ar104 ((0 + 0) + 1) fb128 H124 hB ⟨hb129.1, hb129.2.1, hb129.2.2⟩ (by omega)) kJ21_toString q2075 (hb129.1.is C (ci := 17) rfl) (As := []) (rest := [.ref a9]) rfl rfl ⟨⟨Nat.le_of_ble_eq_true rfl, Nat.le_of_ble_eq_true rfl⟩, (show (2 + 4 * i + 2) + 2 ≤ 40 by omega), (show (20 + 40 * i + 20) + 20 ≤ 400 by omega)⟩ (Nat.le_of_ble_eq_true rfl) (fun _ h8 h9 => absurd h9 (Nat.not_le.mpr h8)) dX4_drawn_133 136 rfl (fun v9 H134 hR135 hz136 hq137 => ?_) nw_noX
                    obtain ⟨⟨st138, sv139, rfl, hsn140, hvn141, hso142⟩, hx143⟩ := hR135
                    replace hsn140 := Nat.le_trans hext.1 hsn140
                    replace hvn141 := Nat.le_trans hext.1 hvn141
                    have ho144 := ho132.kept (hq137 _ ho132.lt (Nat.not_le.mpr ho132.lt))
                    have ho145 := ho133.kept (hq137 _ ho133.lt (Nat.not_le.mpr ho133.lt))
                    have ho146 := hb129.1.kept (hq137 _ hb129.1.lt (Nat.not_le.mpr hb129.1.lt))
                    have ho147 := hb129.2.1.kept (hq137 _ hb129.2.1.lt (Nat.not_le.mpr hb129.2.1.lt))
                    replace hext := hext.call hz136 hq137
                    replace hW := hW0.ext hext.2
                    replace hE := hE0.ext hext.2
                    replace hB := Nat.le_trans hB0 hext.1
                    clear hmX hmKi hmLa hmFo hmGu hmPo hmIn hmWi hmWo hmKe
                    obtain ⟨hmX, hmKi, hmLa, hmFo, hmGu, hmPo, hmIn, hmWi, hmWo, hmKe⟩ := id hW
                    show nwV X _ _ 7 H134 ((2 + 4 * i + 2) + 2) ((20 + 40 * i + 20) + 20) 136 [(0, .ref y), (1, .int (nI rn)), (2, .int (nI tn)), (3, .ref a9), (4, .int (nI kk)), (5, .int (sp_guardsOn (sg_gu σ) kk tn)), (6, .int (nI z))] [.ref st138, .ref a9]
                    refine nw_wide (k' := 2 + 4 * i + 4) (n' := 20 + 40 * i + 40) (by omega) (by omega) ?_
                    refine nw_goto C 209 dX4_drawn_136 (by decide) ?_
                    have hsv : fb128 0 = nI (sp_signC σ kk tn) := by
                      unfold sp_signC
                      rw [hfs]
                      exact he131
                    refine nw_callV C (mJ21_appendS _ C.hfl d a9 ar20 i fz st138 sv139 ((0 + 0) + 1) fb128 H134 hB (Nat.le_trans hB0 hn15) (Nat.le_trans hB0 hn25) hne24 ⟨ho144, ho145, hby⟩ (Or.inr hso142) (by decide) (by omega)) kJ21_append_3 q2073 (ho144.is C (ci := 17) rfl) (As := [.ref st138]) (rest := []) rfl rfl ⟨⟨Nat.le_of_ble_eq_true rfl, Nat.le_of_ble_eq_true rfl⟩, (show (2 + 4 * i + 4) + 0 ≤ 40 by omega), (show (20 + 40 * i + 40) + 0 ≤ 400 by omega)⟩ (Nat.le_of_ble_eq_true rfl) (fun q8 h8 h9 => h9.elim (fun e9 => by rw [e9]; exact (Or.inr (Nat.le_trans (Nat.le_of_eq hzb.symm) hn15))) (fun h9 => h9.elim (fun e9 => by rw [e9]; exact (Or.inr (Nat.le_trans (Nat.le_of_eq hzb.symm) hn25))) (fun e9 => absurd h8 (Nat.not_lt.mpr e9)))) dX4_drawn_209 212 rfl (fun v9 H148 hR149 hz150 hq151 => ?_) nw_noX
                    obtain ⟨rfl, fb152, hb153, hk154, he155⟩ := hR149
                    have ho156 := ho146.kept (hq151 _ ho146.lt (fun e9 => e9.elim (Ne.symm hne96) (fun e9 => e9.elim (Ne.symm hne97) (Nat.not_le.mpr ho146.lt))))
                    have ho157 := ho147.kept (hq151 _ ho147.lt (fun e9 => e9.elim (Ne.symm hne110) (fun e9 => e9.elim (Ne.symm hne111) (Nat.not_le.mpr ho147.lt))))
                    replace hext := hext.step hz150 hq151 (fun q9 e9 => e9.elim (fun e9 => by rw [e9]; exact hn15) (fun e9 => e9.elim (fun e9 => by rw [e9]; exact hn25) (fun e9 => Nat.le_trans hext.1 e9)))
                    replace hW := hW0.ext hext.2
                    replace hE := hE0.ext hext.2
                    replace hB := Nat.le_trans hB0 hext.1
                    clear hmX hmKi hmLa hmFo hmGu hmPo hmIn hmWi hmWo hmKe
                    obtain ⟨hmX, hmKi, hmLa, hmFo, hmGu, hmPo, hmIn, hmWi, hmWo, hmKe⟩ := id hW
                    show nwV X _ _ 7 H148 ((2 + 4 * i + 4) + 0) ((20 + 40 * i + 40) + 0) 212 [(0, .ref y), (1, .int (nI rn)), (2, .int (nI tn)), (3, .ref a9), (4, .int (nI kk)), (5, .int (sp_guardsOn (sg_gu σ) kk tn)), (6, .int (nI z))] [.ref a9]
                    refine nw_wide (k' := 2 + 4 * i + 4) (n' := 20 + 40 * i + 40) (by omega) (by omega) ?_
                    refine nw_pop C dX4_drawn_212 rfl 213 rfl ?_
                    refine nw_iincN C 4 (c0 := 1) [(4, .int (nI (kk + 1))), (0, .ref y), (1, .int (nI rn)), (2, .int (nI tn)), (3, .ref a9), (5, .int (sp_guardsOn (sg_gu σ) kk tn)), (6, .int (nI z))] dX4_drawn_213 rfl (by decide) rfl 216 rfl ?_
                    refine nw_goto C 60 dX4_drawn_216 (by decide) ?_
                    exact nw_wide (by omega) (by omega) (nw_sub [1, 2, 3, 4, 0] rfl (ih_lp26 H148 (i + 1) (kk + 1) fb152 hext hb153.1 hb153.2.1 (by omega) (by omega) hb153.2.2 (fun j hj => by
                            rcases Nat.lt_or_ge j i with e9 | e9
                            · rw [hk154 j e9]; exact hsg j e9
                            · rw [show j = i by omega, ← hkk]; exact (he155 0 (by decide)).trans hsv) (by omega)))
                  · have hzn := dr_no oku1 hzl h87
                    refine nw_iincN C 6 (c0 := 1) [(6, .int (nI (z + 1))), (0, .ref y), (1, .int (nI rn)), (2, .int (nI tn)), (3, .ref a9), (4, .int (nI kk)), (5, .int (sp_guardsOn (sg_gu σ) kk tn))] dX4_drawn_103 rfl (by decide) rfl 106 rfl ?_
                    refine nw_goto C 88 dX4_drawn_106 (by decide) ?_
                    exact nw_wide (by omega) (by omega) (nw_sub [1, 2, 3, 4, 5, 6, 0] rfl (ih_lp40 (z + 1) (fun j hj => by
                            rcases Nat.lt_or_ge j z with e9 | e9
                            · exact hzf j e9
                            · rw [show j = z by omega]; exact hzn) (by omega) (by omega)))
            exact nw_wide (by omega) (by omega) (nw_sub [2, 3, 4, 5, 6, 1, 0] rfl (lp40 _ 0 (fun j hj => absurd hj (Nat.not_lt_zero j)) (Nat.zero_le _) (Nat.lt_succ_self _)))
      exact nw_wide (by omega) (by omega) (nw_sub [2, 3, 4, 1, 0] rfl (lp26 _ H16 0 (rn * gr_w (sg_gr σ)) (fun _ => 0) hext ho22 hi23 (Nat.zero_le _) rfl (fun j hj => absurd hj (Nat.not_lt_zero j)) (fun j hj => absurd hj (Nat.not_lt_zero j)) (Nat.lt_succ_self _)))
    · refine nw_aload_n C 0 dX4_drawn_35 rfl 36 rfl ?_
      refine nw_iconst C (nI 2) dX4_drawn_36 (by decide) 37 rfl ?_
      refine nw_put C hmX hAy (T := TX4) (ty0 := tyX4) rfl in_X4 tyX4_ok nmX4 0 (by decide) q1622 (Or.inl rfl) rfl rfl rfl (Nat.le_of_ble_eq_true rfl) dX4_drawn_37 40 rfl (fun H158 ho159 hz160 hq161 => ?_)
      have ho159 : nwO d y 9 [.int (nI 2), .int (nI (gr_w (sg_gr σ))), .int (nI (gr_h (sg_gr σ))), .ref (am 9), .int (nI (gaM_f (sg_ga σ))), .int (oI (gaM_t (sg_ga σ))), .ref (am 1), .ref (am 2), .ref (am 3), .ref (am 4), .int (nI (wo_s (sg_wo σ))), .int (nI (wo_m (sg_wo σ))), .int (nI (sp_after (wo_x (sg_wo σ)))), .ref (am 11), .ref (am 12), .int (nI (sg_ri σ)), .ref (am 8), .ref (am 5), .ref (am 6), .int (nI (sg_rf σ))] H158 := ho159
      have hR9 : nwMW d ro am y σ (nI 2) H158 := hR.th hz160 hq161 ho159
      have hle9 : H.size ≤ H158.size := by rw [hz160, hzb]; exact Nat.le_refl _
      refine nw_ldcSW C (C.hE.1.2.2.2.2.2.2.2.1 _ (List.mem_of_getElem? (i := 0) rfl)) dX4_drawn_40 43 rfl ?_
      have hop : op_drawn σ (nI rn) t = (2, 0) := by simp [op_drawn, h5, h7, en_rn]
      exact nw_aret C (Or.inl ⟨_, rfl⟩) dX4_drawn_43 (by omega) (by omega) (by unfold nwMd; rw [hop]; exact ⟨_, rfl, (fun h9 => absurd h9 (by decide)), hle9, ro, am, hR9, fun _ _ => rfl⟩)
  · refine nw_aload_n C 0 dX4_drawn_19 rfl 20 rfl ?_
    refine nw_iconst C (nI 1) dX4_drawn_20 (by decide) 21 rfl ?_
    refine nw_put C hmX hAy (T := TX4) (ty0 := tyX4) rfl in_X4 tyX4_ok nmX4 0 (by decide) q1622 (Or.inl rfl) rfl rfl rfl (Nat.le_of_ble_eq_true rfl) dX4_drawn_21 24 rfl (fun H162 ho163 hz164 hq165 => ?_)
    have ho163 : nwO d y 9 [.int (nI 1), .int (nI (gr_w (sg_gr σ))), .int (nI (gr_h (sg_gr σ))), .ref (am 9), .int (nI (gaM_f (sg_ga σ))), .int (oI (gaM_t (sg_ga σ))), .ref (am 1), .ref (am 2), .ref (am 3), .ref (am 4), .int (nI (wo_s (sg_wo σ))), .int (nI (wo_m (sg_wo σ))), .int (nI (sp_after (wo_x (sg_wo σ)))), .ref (am 11), .ref (am 12), .int (nI (sg_ri σ)), .ref (am 8), .ref (am 5), .ref (am 6), .int (nI (sg_rf σ))] H162 := ho163
    have hR9 : nwMW d ro am y σ (nI 1) H162 := hR.th hz164 hq165 ho163
    have hle9 : H.size ≤ H162.size := by rw [hz164, hzb]; exact Nat.le_refl _
    refine nw_ldcSW C (C.hE.1.2.2.2.2.2.2.2.1 _ (List.mem_of_getElem? (i := 0) rfl)) dX4_drawn_24 27 rfl ?_
    have hop : op_drawn σ r t = (1, 0) := by simp [op_drawn, h5]
    exact nw_aret C (Or.inl ⟨_, rfl⟩) dX4_drawn_27 (by omega) (by omega) (by unfold nwMd; rw [hop]; exact ⟨_, rfl, (fun h9 => absurd h9 (by decide)), hle9, ro, am, hR9, fun _ _ => rfl⟩)
