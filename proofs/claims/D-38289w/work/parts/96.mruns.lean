/-! ===== the reference: steps and who comes first ===== -/
theorem kX4_steps : nwPV "NightwatchWallModel" yX4_steps cX4_steps 8 (some (.array .int)) 1 := ⟨⟨q2002, qs76, q93, q2003⟩, rfl, by decide +kernel, by decide +kernel, by decide +kernel⟩
theorem kX4_response : nwPV "NightwatchWallModel" yX4_response cX4_response 6 (some .int) 3 := ⟨⟨q1998, qs75, q93, q1999⟩, rfl, by decide +kernel, by decide +kernel, by decide +kernel⟩
theorem kX4_responseNow : nwPV "NightwatchWallModel" yX4_responseNow cX4_responseNow 8 (some .int) 2 := ⟨⟨q1994, qs74, q93, q1995⟩, rfl, by decide +kernel, by decide +kernel, by decide +kernel⟩
set_option maxHeartbeats 4000000 in
theorem mX4_steps (l : Launch) (hf : l.flags = flags0) (d : nwD) (ro am : Nat → Nat) (y : Nat) (σ : spSg) (th : Int32) (p : Nat) (H : Heap) (hB : nd_B d ≤ H.size) (hW : nwMC d ro am y σ th H) (okM : spOkM σ) (hp : p < gr_n (sg_gr σ)) : nwMt l d yX4_steps cX4_steps 8 (some (.array .int)) 2 42 2 128 [.ref y, .int (nI p)] H (nwIr d (gr_n (sg_gr σ)) (fun k => oI (sp_runs (sg_gr σ) p k)) H) nwNo (nwNew H) := by
  refine nw_start "NightwatchWallModel" "steps" hf (by decide +kernel) rfl rfl (fun _ h => h) (fun q h => Nat.le_trans hB h) (Nat.le_of_ble_eq_true rfl) ?_
  intro X C
  have hW0 := hW
  have hB0 := hB
  have hE := C.E0
  have hext : nwExt H H := nwExt.rfl
  obtain ⟨hmX, hmKi, hmLa, hmFo, hmGu, hmPo, hmIn, hmWi, hmWo, hmKe⟩ := id hW
  obtain ⟨okg, okl, okf, oku, okp, oki, okw, okd, okk, oka⟩ := id okM
  have hn64 : gr_n (sg_gr σ) ≤ 64 := okg.n
  have oku1 := oku.1
  have oki1 := oki.1
  have okp1 := okp.1
  have okw1 := okw.1
  have okl1 := okl.1
  have okf1 := okf.1
  have hgro := okg.here hp
  show nwV X _ _ 8 H 0 0 0 [(0, .ref y), (1, .int (nI p))] []
  refine nw_aload_n C 0 dX4_steps_0 rfl 1 rfl ?_
  refine nw_get C hmX (T := TX4) rfl in_X4 3 (by decide) q1625 (Or.inl rfl) rfl dX4_steps_1 4 rfl ?_
  refine nw_alenI C hmKi (by decide) dX4_steps_4 5 rfl ?_
  refine nw_newi C (by omega) 1 64 (by omega) (by omega) ⟨(show 1 ≤ 2 by omega), (show 64 ≤ 128 by omega)⟩ dX4_steps_5 7 rfl (fun a1 H2 hx3 ho4 hz5 hq6 => ?_)
  have hn7 : H.size ≤ a1 := (by rw [hx3]; exact hext.1)
  replace hext := hext.made hz5 hq6
  replace hW := hW0.ext hext.2
  replace hE := C.E0.ext hext.2
  replace hB := Nat.le_trans hB0 hext.1
  clear hmX hmKi hmLa hmFo hmGu hmPo hmIn hmWi hmWo hmKe
  obtain ⟨hmX, hmKi, hmLa, hmFo, hmGu, hmPo, hmIn, hmWi, hmWo, hmKe⟩ := id hW
  refine nw_astore_n C [(2, .ref a1), (0, .ref y), (1, .int (nI p))] dX4_steps_7 (by decide) rfl 8 rfl ?_
  refine nw_aload_n C 1 dX4_steps_8 rfl 9 rfl ?_
  refine nw_get C hmX (T := TX4) rfl in_X4 3 (by decide) q1625 (Or.inl rfl) rfl dX4_steps_9 12 rfl ?_
  refine nw_alenI C hmKi (by decide) dX4_steps_12 13 rfl ?_
  refine nw_newi C (by omega) 2 128 (by omega) (by omega) ⟨(show 2 ≤ 2 by omega), (show 128 ≤ 128 by omega)⟩ dX4_steps_13 15 rfl (fun a8 H9 hx10 ho11 hz12 hq13 => ?_)
  have hn14 : H.size ≤ a8 := (by rw [hx10]; exact hext.1)
  have hne15 : a1 ≠ a8 := (Nat.ne_of_lt (by rw [hx10]; exact ho4.lt))
  have ho16 := ho4.kept (hq13 _ ho4.lt)
  replace hext := hext.made hz12 hq13
  replace hW := hW0.ext hext.2
  replace hE := C.E0.ext hext.2
  replace hB := Nat.le_trans hB0 hext.1
  clear hmX hmKi hmLa hmFo hmGu hmPo hmIn hmWi hmWo hmKe
  obtain ⟨hmX, hmKi, hmLa, hmFo, hmGu, hmPo, hmIn, hmWi, hmWo, hmKe⟩ := id hW
  refine nw_astore_n C [(3, .ref a8), (2, .ref a1), (0, .ref y), (1, .int (nI p))] dX4_steps_15 (by decide) rfl 16 rfl ?_
  refine nw_iconst C (nI 0) dX4_steps_16 (by decide) 17 rfl ?_
  refine nw_istore C [(4, .int (nI 0)), (3, .ref a8), (2, .ref a1), (0, .ref y), (1, .int (nI p))] dX4_steps_17 (by decide) rfl 19 rfl ?_
  have lp17 : ∀ (fu : Nat) (H2 : Heap) (i : Nat) (fz : Nat → Int32), (nwExt H H2) → (nwI d a1 0 (gr_n (sg_gr σ)) fz H2) → (nwI d a8 0 (gr_n (sg_gr σ)) (fun _ => 0) H2) → (i ≤ gr_n (sg_gr σ)) → (∀ k, k < i → fz k = (fun _ => oI none) k) → gr_n (sg_gr σ) - i < fu → nwV X (nwNew H) (nwQE X (nwIr d (gr_n (sg_gr σ)) (fun k => oI (sp_runs (sg_gr σ) p k)) H) nwNo (nwNew H) 2 128) 8 H2 2 128 19 [(0, .ref y), (1, .int (nI p)), (2, .ref a1), (3, .ref a8), (4, .int (nI i))] [] := by
    intro fu
    induction fu with
    | zero => intro H2 i fz _ _ _ _ _ hm; exact absurd hm (Nat.not_lt_zero _)
    | succ fu ih_lp17 =>
      intro H2 i fz hext hcz hcw hi hfz hm
      replace hW := hW0.ext hext.2
      replace hE := C.E0.ext hext.2
      replace hB := Nat.le_trans hB0 hext.1
      clear hmX hmKi hmLa hmFo hmGu hmPo hmIn hmWi hmWo hmKe
      obtain ⟨hmX, hmKi, hmLa, hmFo, hmGu, hmPo, hmIn, hmWi, hmWo, hmKe⟩ := id hW
      refine nw_iload C 4 dX4_steps_19 rfl 21 rfl ?_
      refine nw_aload_n C 2 dX4_steps_21 rfl 22 rfl ?_
      refine nw_alenI C hcz (by decide) dX4_steps_22 23 rfl ?_
      refine nw_icmpgeN C (by omega) 37 dX4_steps_23 (by decide) 26 rfl (fun h18 => ?_) (fun h18 => ?_)
      · refine nw_aload_n C 2 dX4_steps_37 rfl 38 rfl ?_
        refine nw_iload_n C 1 dX4_steps_38 rfl 39 rfl ?_
        refine nw_iconst C (nI 0) dX4_steps_39 (by decide) 40 rfl ?_
        refine nw_iastN C hcz hn7 (by omega) dX4_steps_40 41 rfl (fun H19 ho20 hz21 hq22 => ?_)
        have ho23 := hcw.kept (hq22 _ (Ne.symm hne15))
        replace hext := hext.put hz21 hq22 hn7
        replace hW := hW0.ext hext.2
        replace hE := C.E0.ext hext.2
        replace hB := Nat.le_trans hB0 hext.1
        clear hmX hmKi hmLa hmFo hmGu hmPo hmIn hmWi hmWo hmKe
        obtain ⟨hmX, hmKi, hmLa, hmFo, hmGu, hmPo, hmIn, hmWi, hmWo, hmKe⟩ := id hW
        refine nw_aload_n C 3 dX4_steps_41 rfl 42 rfl ?_
        refine nw_iconst C (nI 0) dX4_steps_42 (by decide) 43 rfl ?_
        refine nw_iload_n C 1 dX4_steps_43 rfl 44 rfl ?_
        refine nw_iastN C ho23 hn14 (by omega) dX4_steps_44 45 rfl (fun H24 ho25 hz26 hq27 => ?_)
        have ho28 := ho20.kept (hq27 _ hne15)
        replace hext := hext.put hz26 hq27 hn14
        replace hW := hW0.ext hext.2
        replace hE := C.E0.ext hext.2
        replace hB := Nat.le_trans hB0 hext.1
        clear hmX hmKi hmLa hmFo hmGu hmPo hmIn hmWi hmWo hmKe
        obtain ⟨hmX, hmKi, hmLa, hmFo, hmGu, hmPo, hmIn, hmWi, hmWo, hmKe⟩ := id hW
        refine nw_iconst C (nI 1) dX4_steps_45 (by decide) 46 rfl ?_
        refine nw_istore C [(4, .int (nI 1)), (0, .ref y), (1, .int (nI p)), (2, .ref a1), (3, .ref a8)] dX4_steps_46 (by decide) rfl 48 rfl ?_
        refine nw_iconst C (nI 0) dX4_steps_48 (by decide) 49 rfl ?_
        refine nw_istore C [(5, .int (nI 0)), (4, .int (nI 1)), (0, .ref y), (1, .int (nI p)), (2, .ref a1), (3, .ref a8)] dX4_steps_49 (by decide) rfl 51 rfl ?_
        have hcr : nwI d a1 0 (gr_n (sg_gr σ)) (fun k => oI (bf_r (bf0 p) k)) H24 := nwI.congr ho28 (fun j hj => by unfold upd bf_r bf0; dsimp only; by_cases e : j = p <;> simp [e, hfz j (by omega)]; try rfl)
        have hcq : nwI d a8 0 (gr_n (sg_gr σ)) (fun k => nI (bf_q (bf0 p) k)) H24 := nwI.congr ho25 (fun j hj => by unfold upd bf_q bf0; dsimp only; by_cases e : j = 0 <;> simp [e]; try rfl)
        have lp29 : ∀ (fu : Nat) (H2 : Heap) (i : Nat) (b : spBf) (la : Nat), (nwExt H H2) → (nwI d a1 0 (gr_n (sg_gr σ)) (fun k => oI (bf_r b k)) H2) → (nwI d a8 0 (gr_n (sg_gr σ)) (fun k => nI (bf_q b k)) H2) → (i ≤ gr_n (sg_gr σ)) → (bfOk (sg_gr σ) b) → (la = bf_l b) → (bfl (sg_gr σ) (gr_n (sg_gr σ) - i) i b = bfl (sg_gr σ) (gr_n (sg_gr σ)) 0 (bf0 p)) → gr_n (sg_gr σ) - i < fu → nwV X (nwNew H) (nwQE X (nwIr d (gr_n (sg_gr σ)) (fun k => oI (sp_runs (sg_gr σ) p k)) H) nwNo (nwNew H) 2 128) 8 H2 2 128 51 [(0, .ref y), (2, .ref a1), (3, .ref a8), (4, .int (nI la)), (5, .int (nI i))] [] := by
          intro fu
          induction fu with
          | zero => intro H2 i b la _ _ _ _ _ _ _ hm; exact absurd hm (Nat.not_lt_zero _)
          | succ fu ih_lp29 =>
            intro H2 i b la hext hcr hcq hi hbo hla hres hm
            replace hW := hW0.ext hext.2
            replace hE := C.E0.ext hext.2
            replace hB := Nat.le_trans hB0 hext.1
            clear hmX hmKi hmLa hmFo hmGu hmPo hmIn hmWi hmWo hmKe
            obtain ⟨hmX, hmKi, hmLa, hmFo, hmGu, hmPo, hmIn, hmWi, hmWo, hmKe⟩ := id hW
            have hbl := hbo.le
            refine nw_iload C 4 dX4_steps_51 rfl 53 rfl ?_
            refine nw_iload C 3 dX4_steps_53 rfl 55 rfl ?_
            refine nw_icmpgeN C (by omega) 140 dX4_steps_55 (by decide) 58 rfl (fun h30 => ?_) (fun h30 => ?_)
            · refine nw_aload_n C 1 dX4_steps_140 rfl 141 rfl ?_
              have hrr : sp_runs (sg_gr σ) p = bf_r b := by unfold sp_runs; rw [← hres, bfl_end (by omega)]
              exact nw_aret C (Or.inr ⟨_, rfl⟩) dX4_steps_141 (by omega) (by omega) ⟨⟨a1, rfl, hn7, nwI.congr hcr (fun j hj => by rw [hrr])⟩, hext⟩
            · have hqi := hbo.2.1 i (by omega)
              refine nw_iconst C (nI 1) dX4_steps_58 (by decide) 59 rfl ?_
              refine nw_istore C [(6, .int (nI 1)), (0, .ref y), (2, .ref a1), (3, .ref a8), (4, .int (nI la)), (5, .int (nI i))] dX4_steps_59 (by decide) rfl 61 rfl ?_
              have lp31 : ∀ (fu : Nat) (H3 : Heap) (m : Nat) (b2 : spBf) (la2 : Nat), (nwExt H H3) → (nwI d a1 0 (gr_n (sg_gr σ)) (fun k => oI (bf_r b2 k)) H3) → (nwI d a8 0 (gr_n (sg_gr σ)) (fun k => nI (bf_q b2 k)) H3) → (1 ≤ m ∧ m ≤ 5) → (bfOk (sg_gr σ) b2) → (la2 = bf_l b2) → (bf_q b2 i = bf_q b i) → (bf_l b ≤ bf_l b2) → (bfc (sg_gr σ) (bf_q b i) (5 - m) m b2 = bfc (sg_gr σ) (bf_q b i) 4 1 b) → 5 - m < fu → nwV X (nwNew H) (nwQE X (nwIr d (gr_n (sg_gr σ)) (fun k => oI (sp_runs (sg_gr σ) p k)) H) nwNo (nwNew H) 2 128) 8 H3 2 128 61 [(0, .ref y), (2, .ref a1), (3, .ref a8), (4, .int (nI la2)), (5, .int (nI i)), (6, .int (nI m))] [] := by
                intro fu
                induction fu with
                | zero => intro H3 m b2 la2 _ _ _ _ _ _ _ _ _ hm; exact absurd hm (Nat.not_lt_zero _)
                | succ fu ih_lp31 =>
                  intro H3 m b2 la2 hext hcr2 hcq2 hm1 hbo2 hla2 hqe hlb hres2 hm
                  replace hW := hW0.ext hext.2
                  replace hE := C.E0.ext hext.2
                  replace hB := Nat.le_trans hB0 hext.1
                  clear hmX hmKi hmLa hmFo hmGu hmPo hmIn hmWi hmWo hmKe
                  obtain ⟨hmX, hmKi, hmLa, hmFo, hmGu, hmPo, hmIn, hmWi, hmWo, hmKe⟩ := id hW
                  have hbl2 := hbo2.le
                  refine nw_iload C 5 dX4_steps_61 rfl 63 rfl ?_
                  refine nw_iconst C (nI 4) dX4_steps_63 (by decide) 64 rfl ?_
                  refine nw_icmpgtN C (by omega) 134 dX4_steps_64 (by decide) 67 rfl (fun h32 => ?_) (fun h32 => ?_)
                  · have hbe : bfc (sg_gr σ) (bf_q b i) 4 1 b = b2 := by rw [← hres2, show 5 - m = 0 by omega]; rfl
                    have hla3 : la2 = bf_l (bfc (sg_gr σ) (bf_q b i) 4 1 b) := by rw [hbe]; exact hla2
                    have hcr9 : nwI d a1 0 (gr_n (sg_gr σ)) (fun k => oI (bf_r (bfc (sg_gr σ) (bf_q b i) 4 1 b) k)) H3 := by rw [hbe]; exact hcr2
                    have hcq9 : nwI d a8 0 (gr_n (sg_gr σ)) (fun k => nI (bf_q (bfc (sg_gr σ) (bf_q b i) 4 1 b) k)) H3 := by rw [hbe]; exact hcq2
                    refine nw_iincN C 4 (c0 := 1) [(5, .int (nI (i + 1))), (0, .ref y), (2, .ref a1), (3, .ref a8), (4, .int (nI la2)), (6, .int (nI m))] dX4_steps_134 rfl (by decide) rfl 137 rfl ?_
                    refine nw_goto C 51 dX4_steps_137 (by decide) ?_
                    exact nw_wide (by omega) (by omega) (nw_sub [1, 2, 3, 4, 0] rfl (ih_lp29 H3 (i + 1) (bfc (sg_gr σ) (bf_q b i) 4 1 b) la2 hext hcr9 hcq9 (by omega) (bfc.ok hgro hqi 4 1 hbo) hla3 (by rw [← hres]; exact (bfl_step (by omega) (by omega)).symm) (by omega)))
                  · refine nw_aload_n C 0 dX4_steps_67 rfl 68 rfl ?_
                    refine nw_aload_n C 2 dX4_steps_68 rfl 69 rfl ?_
                    refine nw_iload C 4 dX4_steps_69 rfl 71 rfl ?_
                    refine nw_ialdN C (nI (bf_q b2 i)) hcq2 (by omega) rfl dX4_steps_71 72 rfl ?_
                    rw [hqe]
                    refine nw_iload C 5 dX4_steps_72 rfl 74 rfl ?_
                    refine nw_callV C (mX4_moved _ C.hfl d ro am y σ th (bf_q b i) m H3 hB hW okM (by omega) (by omega)) kX4_moved q1964 (hmX.is C (ci := 9) rfl) (As := [.int (nI (bf_q b i)), .int (nI m)]) (rest := []) rfl rfl ⟨⟨Nat.le_of_ble_eq_true rfl, Nat.le_of_ble_eq_true rfl⟩, Nat.le_of_ble_eq_true rfl, Nat.le_of_ble_eq_true rfl⟩ (Nat.le_of_ble_eq_true rfl) (fun _ h8 h9 => absurd h9 (Nat.not_le.mpr h8)) dX4_steps_74 77 rfl (nw_rdK ?_) nw_noX
                    refine nw_istore C [(7, .int (oI (sp_moved (sg_gr σ) (bf_q b i) m))), (0, .ref y), (2, .ref a1), (3, .ref a8), (4, .int (nI la2)), (5, .int (nI i)), (6, .int (nI m))] dX4_steps_77 (by decide) rfl 79 rfl ?_
                    generalize hmv : sp_moved (sg_gr σ) (bf_q b i) m = om
                    rcases om with _ | xx
                    · show nwV X _ _ 8 H3 2 128 79 [(7, .int (oI none)), (0, .ref y), (2, .ref a1), (3, .ref a8), (4, .int (nI la2)), (5, .int (nI i)), (6, .int (nI m))] []
                      refine nw_iload C 0 dX4_steps_79 rfl 81 rfl ?_
                      refine nw_iconst C (oI none) dX4_steps_81 (by decide) 82 rfl ?_
                      refine nw_icmpeqT C rfl 128 dX4_steps_82 (by decide) ?_
                      have hb1 := bf1_n (b := b2) hmv
                      have hlz : la2 = bf_l (bf1 (sg_gr σ) (bf_q b i) m b2) := by rw [hb1]; exact hla2
                      have hlz2 : bf_l b ≤ bf_l (bf1 (sg_gr σ) (bf_q b i) m b2) := by rw [hb1]; exact hlb
                      have hqz : bf_q (bf1 (sg_gr σ) (bf_q b i) m b2) i = bf_q b i := by rw [hb1]; exact hqe
                      have hcr9 : nwI d a1 0 (gr_n (sg_gr σ)) (fun k => oI (bf_r (bf1 (sg_gr σ) (bf_q b i) m b2) k)) H3 := by rw [hb1]; exact hcr2
                      have hcq9 : nwI d a8 0 (gr_n (sg_gr σ)) (fun k => nI (bf_q (bf1 (sg_gr σ) (bf_q b i) m b2) k)) H3 := by rw [hb1]; exact hcq2
                      refine nw_iincN C 6 (c0 := 1) [(6, .int (nI (m + 1))), (7, .int (oI none)), (0, .ref y), (2, .ref a1), (3, .ref a8), (4, .int (nI la2)), (5, .int (nI i))] dX4_steps_128 rfl (by decide) rfl 131 rfl ?_
                      refine nw_goto C 61 dX4_steps_131 (by decide) ?_
                      exact nw_wide (by omega) (by omega) (nw_sub [2, 3, 4, 5, 6, 0] rfl (ih_lp31 H3 (m + 1) (bf1 (sg_gr σ) (bf_q b i) m b2) la2 hext hcr9 hcq9 (by omega) (bf1.ok hgro hbo2 hqi) hlz hqz hlz2 (by rw [← hres2]; exact (bfc_step (by omega)).symm) (by omega)))
                    · show nwV X _ _ 8 H3 2 128 79 [(7, .int (nI xx)), (0, .ref y), (2, .ref a1), (3, .ref a8), (4, .int (nI la2)), (5, .int (nI i)), (6, .int (nI m))] []
                      have hxx := sp_moved_lt hgro hqi hmv
                      have hkx4 := hgro.2 xx hxx
                      refine nw_iload C 0 dX4_steps_79 rfl 81 rfl ?_
                      refine nw_iconst C (oI none) dX4_steps_81 (by decide) 82 rfl ?_
                      refine nw_icmpeqF C (nI_m1 (by omega)) 128 dX4_steps_82 (by decide) 85 rfl ?_
                      refine nw_aload_n C 1 dX4_steps_85 rfl 86 rfl ?_
                      refine nw_get C hmX (T := TX4) rfl in_X4 3 (by decide) q1625 (Or.inl rfl) rfl dX4_steps_86 89 rfl ?_
                      refine nw_iload C 0 dX4_steps_89 rfl 91 rfl ?_
                      refine nw_ialdN C (nI (gr_k (sg_gr σ) xx)) hmKi (by omega) rfl dX4_steps_91 92 rfl ?_
                      refine nw_iconst C (nI 1) dX4_steps_92 (by decide) 93 rfl ?_
                      refine nw_icmpeqN C (by omega) 128 dX4_steps_93 (by decide) 96 rfl (fun h35 => ?_) (fun h35 => ?_)
                      · have hb1 := bf1_x (b := b2) hmv (Or.inr h35)
                        have hlz : la2 = bf_l (bf1 (sg_gr σ) (bf_q b i) m b2) := by rw [hb1]; exact hla2
                        have hlz2 : bf_l b ≤ bf_l (bf1 (sg_gr σ) (bf_q b i) m b2) := by rw [hb1]; exact hlb
                        have hqz : bf_q (bf1 (sg_gr σ) (bf_q b i) m b2) i = bf_q b i := by rw [hb1]; exact hqe
                        have hcr9 : nwI d a1 0 (gr_n (sg_gr σ)) (fun k => oI (bf_r (bf1 (sg_gr σ) (bf_q b i) m b2) k)) H3 := by rw [hb1]; exact hcr2
                        have hcq9 : nwI d a8 0 (gr_n (sg_gr σ)) (fun k => nI (bf_q (bf1 (sg_gr σ) (bf_q b i) m b2) k)) H3 := by rw [hb1]; exact hcq2
                        refine nw_iincN C 6 (c0 := 1) [(6, .int (nI (m + 1))), (7, .int (nI xx)), (0, .ref y), (2, .ref a1), (3, .ref a8), (4, .int (nI la2)), (5, .int (nI i))] dX4_steps_128 rfl (by decide) rfl 131 rfl ?_
                        refine nw_goto C 61 dX4_steps_131 (by decide) ?_
                        exact nw_wide (by omega) (by omega) (nw_sub [2, 3, 4, 5, 6, 0] rfl (ih_lp31 H3 (m + 1) (bf1 (sg_gr σ) (bf_q b i) m b2) la2 hext hcr9 hcq9 (by omega) (bf1.ok hgro hbo2 hqi) hlz hqz hlz2 (by rw [← hres2]; exact (bfc_step (by omega)).symm) (by omega)))
                      · refine nw_aload_n C 2 dX4_steps_96 rfl 97 rfl ?_
                        refine nw_iload C 0 dX4_steps_97 rfl 99 rfl ?_
                        refine nw_ialdN C (oI (bf_r b2 xx)) hcr2 (by omega) rfl dX4_steps_99 100 rfl ?_
                        refine nw_iconst C (oI none) dX4_steps_100 (by decide) 101 rfl ?_
                        refine nw_icmpeqO C (bf_r b2 xx) none (fun v hv => by have := hbo2.2.2.1 _ v hv; omega) (fun v hv => by cases hv) 107 dX4_steps_101 (by decide) 104 rfl (fun h36 => ?_) (fun h36 => ?_)
                        · have hrn : bf_r b2 xx = none := h36
                          have hkx : ¬ gr_k (sg_gr σ) xx = 1 := h35
                          have hfree := hbo2.free hxx hrn
                          have hb1 := bf1_s hmv hrn hkx
                          refine nw_aload_n C 2 dX4_steps_107 rfl 108 rfl ?_
                          refine nw_iload C 0 dX4_steps_108 rfl 110 rfl ?_
                          refine nw_aload_n C 2 dX4_steps_110 rfl 111 rfl ?_
                          refine nw_aload_n C 3 dX4_steps_111 rfl 112 rfl ?_
                          refine nw_iload C 5 dX4_steps_112 rfl 114 rfl ?_
                          refine nw_ialdN C (nI (bf_q b2 i)) hcq2 (by omega) rfl dX4_steps_114 115 rfl ?_
                          rw [hqe]
                          refine nw_ialdN C (oI (bf_r b2 (bf_q b i))) hcr2 (by omega) rfl dX4_steps_115 116 rfl ?_
                          refine nw_iconst C (nI 1) dX4_steps_116 (by decide) 117 rfl ?_
                          refine nw_iadd C (nI (bfv (bf_r b2 (bf_q b i)))) dX4_steps_117 (bfv_add _) 118 rfl ?_
                          refine nw_iastN C hcr2 hn7 (by omega) dX4_steps_118 119 rfl (fun H37 ho38 hz39 hq40 => ?_)
                          have ho41 := hcq2.kept (hq40 _ (Ne.symm hne15))
                          replace hext := hext.put hz39 hq40 hn7
                          replace hW := hW0.ext hext.2
                          replace hE := C.E0.ext hext.2
                          replace hB := Nat.le_trans hB0 hext.1
                          clear hmX hmKi hmLa hmFo hmGu hmPo hmIn hmWi hmWo hmKe
                          obtain ⟨hmX, hmKi, hmLa, hmFo, hmGu, hmPo, hmIn, hmWi, hmWo, hmKe⟩ := id hW
                          refine nw_aload_n C 3 dX4_steps_119 rfl 120 rfl ?_
                          refine nw_iload C 4 dX4_steps_120 rfl 122 rfl ?_
                          refine nw_iincN C 4 (c0 := 1) [(4, .int (nI (la2 + 1))), (7, .int (nI xx)), (0, .ref y), (2, .ref a1), (3, .ref a8), (5, .int (nI i)), (6, .int (nI m))] dX4_steps_122 rfl (by decide) rfl 125 rfl ?_
                          refine nw_iload C 1 dX4_steps_125 rfl 127 rfl ?_
                          refine nw_iastN C ho41 hn14 (by omega) dX4_steps_127 128 rfl (fun H42 ho43 hz44 hq45 => ?_)
                          have ho46 := ho38.kept (hq45 _ hne15)
                          replace hext := hext.put hz44 hq45 hn14
                          replace hW := hW0.ext hext.2
                          replace hE := C.E0.ext hext.2
                          replace hB := Nat.le_trans hB0 hext.1
                          clear hmX hmKi hmLa hmFo hmGu hmPo hmIn hmWi hmWo hmKe
                          obtain ⟨hmX, hmKi, hmLa, hmFo, hmGu, hmPo, hmIn, hmWi, hmWo, hmKe⟩ := id hW
                          have hlz : la2 + 1 = bf_l (bf1 (sg_gr σ) (bf_q b i) m b2) := by rw [hb1, hla2]
                          have hlz2 : bf_l b ≤ bf_l (bf1 (sg_gr σ) (bf_q b i) m b2) := by rw [← hlz, hla2]; omega
                          have hqz : bf_q (bf1 (sg_gr σ) (bf_q b i) m b2) i = bf_q b i := by rw [hb1]; show (if i = bf_l b2 then xx else bf_q b2 i) = _; rw [if_neg (by omega)]; exact hqe
                          have hcr9 : nwI d a1 0 (gr_n (sg_gr σ)) (fun k => oI (bf_r (bf1 (sg_gr σ) (bf_q b i) m b2) k)) H42 := nwI.congr ho46 (fun j hj => by rw [hb1]; unfold upd bf_r; dsimp only; split <;> rfl)
                          have hcq9 : nwI d a8 0 (gr_n (sg_gr σ)) (fun k => nI (bf_q (bf1 (sg_gr σ) (bf_q b i) m b2) k)) H42 := nwI.congr ho43 (fun j hj => by rw [hb1]; unfold upd bf_q; dsimp only; rw [hla2]; split <;> rfl)
                          refine nw_iincN C 6 (c0 := 1) [(6, .int (nI (m + 1))), (4, .int (nI (la2 + 1))), (7, .int (nI xx)), (0, .ref y), (2, .ref a1), (3, .ref a8), (5, .int (nI i))] dX4_steps_128 rfl (by decide) rfl 131 rfl ?_
                          refine nw_goto C 61 dX4_steps_131 (by decide) ?_
                          exact nw_wide (by omega) (by omega) (nw_sub [3, 4, 5, 1, 6, 0] rfl (ih_lp31 H42 (m + 1) (bf1 (sg_gr σ) (bf_q b i) m b2) (la2 + 1) hext hcr9 hcq9 (by omega) (bf1.ok hgro hbo2 hqi) hlz hqz hlz2 (by rw [← hres2]; exact (bfc_step (by omega)).symm) (by omega)))
                        · refine nw_goto C 128 dX4_steps_104 (by decide) ?_
                          have hb1 := bf1_x (b := b2) hmv (Or.inl h36)
                          have hlz : la2 = bf_l (bf1 (sg_gr σ) (bf_q b i) m b2) := by rw [hb1]; exact hla2
                          have hlz2 : bf_l b ≤ bf_l (bf1 (sg_gr σ) (bf_q b i) m b2) := by rw [hb1]; exact hlb
                          have hqz : bf_q (bf1 (sg_gr σ) (bf_q b i) m b2) i = bf_q b i := by rw [hb1]; exact hqe
                          have hcr9 : nwI d a1 0 (gr_n (sg_gr σ)) (fun k => oI (bf_r (bf1 (sg_gr σ) (bf_q b i) m b2) k)) H3 := by rw [hb1]; exact hcr2
                          have hcq9 : nwI d a8 0 (gr_n (sg_gr σ)) (fun k => nI (bf_q (bf1 (sg_gr σ) (bf_q b i) m b2) k)) H3 := by rw [hb1]; exact hcq2
                          refine nw_iincN C 6 (c0 := 1) [(6, .int (nI (m + 1))), (7, .int (nI xx)), (0, .ref y), (2, .ref a1), (3, .ref a8), (4, .int (nI la2)), (5, .int (nI i))] dX4_steps_128 rfl (by decide) rfl 131 rfl ?_
                          refine nw_goto C 61 dX4_steps_131 (by decide) ?_
                          exact nw_wide (by omega) (by omega) (nw_sub [2, 3, 4, 5, 6, 0] rfl (ih_lp31 H3 (m + 1) (bf1 (sg_gr σ) (bf_q b i) m b2) la2 hext hcr9 hcq9 (by omega) (bf1.ok hgro hbo2 hqi) hlz hqz hlz2 (by rw [← hres2]; exact (bfc_step (by omega)).symm) (by omega)))
              exact nw_wide (by omega) (by omega) (nw_sub [1, 2, 3, 4, 5, 0] rfl (lp31 _ H2 1 b la hext hcr hcq (by omega) hbo hla rfl (Nat.le_refl _) rfl (Nat.lt_succ_self _)))
        exact nw_wide (by omega) (by omega) (nw_sub [2, 4, 5, 1, 0] rfl (lp29 _ H24 0 (bf0 p) 1 hext hcr hcq (Nat.zero_le _) (bf0.ok hp) rfl rfl (Nat.lt_succ_self _)))
      · refine nw_aload_n C 2 dX4_steps_26 rfl 27 rfl ?_
        refine nw_iload C 4 dX4_steps_27 rfl 29 rfl ?_
        refine nw_iconst C (oI none) dX4_steps_29 (by decide) 30 rfl ?_
        refine nw_iastN C hcz hn7 (by omega) dX4_steps_30 31 rfl (fun H47 ho48 hz49 hq50 => ?_)
        have ho51 := hcw.kept (hq50 _ (Ne.symm hne15))
        replace hext := hext.put hz49 hq50 hn7
        replace hW := hW0.ext hext.2
        replace hE := C.E0.ext hext.2
        replace hB := Nat.le_trans hB0 hext.1
        clear hmX hmKi hmLa hmFo hmGu hmPo hmIn hmWi hmWo hmKe
        obtain ⟨hmX, hmKi, hmLa, hmFo, hmGu, hmPo, hmIn, hmWi, hmWo, hmKe⟩ := id hW
        refine nw_iincN C 4 (c0 := 1) [(4, .int (nI (i + 1))), (0, .ref y), (1, .int (nI p)), (2, .ref a1), (3, .ref a8)] dX4_steps_31 rfl (by decide) rfl 34 rfl ?_
        refine nw_goto C 19 dX4_steps_34 (by decide) ?_
        exact nw_wide (by omega) (by omega) (nw_sub [1, 2, 3, 4, 0] rfl (ih_lp17 H47 (i + 1) (upd fz i (oI none)) hext ho48 ho51 (by omega) (nw_updI hfz rfl) (by omega)))
  exact nw_wide (by omega) (by omega) (nw_sub [3, 4, 2, 1, 0] rfl (lp17 _ H9 0 (fun _ => 0) hext ho16 ho11 (Nat.zero_le _) (fun k hk => absurd hk (Nat.not_lt_zero k)) (Nat.lt_succ_self _)))
set_option maxHeartbeats 4000000 in
theorem mX4_response (l : Launch) (hf : l.flags = flags0) (d : nwD) (ro am : Nat → Nat) (y : Nat) (σ : spSg) (th : Int32) (g wl : Nat) (i : spI1) (t k : Nat) (H : Heap) (hB : nd_B d ≤ H.size) (hW : nwMC d ro am y σ th H) (okM : spOkM σ) (hg : nwMIn d g wl i H) (hk : okI1 (sg_gr σ) i) (ht : t < 240) (hit : in_a i ≤ t) (hk9 : k < (sg_gu σ).1) : nwMt l d yX4_response cX4_response 6 (some .int) 5 105 2 128 [.ref y, .ref g, .int (nI t), .int (nI k)] H (nwVr (oI (sp_resp σ ((sg_gu σ).2 k) i t)) H) nwNo (nwNew H) := by
  refine nw_start "NightwatchWallModel" "response" hf (by decide +kernel) rfl rfl (fun _ h => h) (fun q h => Nat.le_trans hB h) (Nat.le_of_ble_eq_true rfl) ?_
  intro X C
  have hW0 := hW
  have hg0 := hg
  have hB0 := hB
  have hE := C.E0
  have hext : nwExt H H := nwExt.rfl
  obtain ⟨hmX, hmKi, hmLa, hmFo, hmGu, hmPo, hmIn, hmWi, hmWo, hmKe⟩ := id hW
  obtain ⟨okg, okl, okf, oku, okp, oki, okw, okd, okk, oka⟩ := id okM
  have hn64 : gr_n (sg_gr σ) ≤ 64 := okg.n
  have oku1 := oku.1
  have oki1 := oki.1
  have okp1 := okp.1
  have okw1 := okw.1
  have okl1 := okl.1
  have okf1 := okf.1
  obtain ⟨⟨hia, him1, him2, hiv, his, hil⟩, hcs⟩ := id hk
  obtain ⟨hgo, hgl⟩ := id hg
  have hgk9 := (oku.2 k hk9).1
  show nwV X _ _ 6 H 0 0 0 [(0, .ref y), (1, .ref g), (2, .int (nI t)), (3, .int (nI k))] []
  have hg1 : nwMGd d (am (300 + k)) (am (400 + k)) (fun q => ro q = 7401 + k) ((sg_gu σ).2 k) H := hmGu.2 k (by omega)
  have hk2 : okGd (sg_gr σ) ((sg_gu σ).2 k) := oku.2 k (by omega)
  have hg3 : nwO d (am (300 + k)) 10 [.int (nI (gd_a ((sg_gu σ).2 k))), .int (nI (gd_b ((sg_gu σ).2 k))), .int (nI (gd_s ((sg_gu σ).2 k))), .ref (am (400 + k)), .int (nI (gd_k ((sg_gu σ).2 k))), .int (gd_h ((sg_gu σ).2 k))] H := hg1.1
  refine nw_aload_n C 0 dX4_response_0 rfl 1 rfl ?_
  refine nw_get C hmX (T := TX4) rfl in_X4 8 (by decide) q1630 (Or.inl rfl) rfl dX4_response_1 4 rfl ?_
  refine nw_iload_n C 3 dX4_response_4 rfl 5 rfl ?_
  refine nw_callF C (mJ3_get _ C.hfl d (am 3) ((sg_gu σ).1) (fun k => am (300 + k)) (fun q => ro q = 7004) k H hB hmGu.1 (by omega)) kJ3_get (ci := 13) rfl q1615 q1618 (by decide +kernel) fc_List_get (hmGu.1.is C) (As := [.int (nI k)]) (rest := []) rfl rfl ⟨⟨Nat.le_of_ble_eq_true rfl, Nat.le_of_ble_eq_true rfl⟩, Nat.le_of_ble_eq_true rfl, Nat.le_of_ble_eq_true rfl⟩ (Nat.le_of_ble_eq_true rfl) (fun _ h8 h9 => absurd h9 (Nat.not_le.mpr h8)) dX4_response_5 10 rfl (nw_rdK ?_) nw_noX
  refine nw_cast C (ci := 10) rfl (hg3.is C (ci := 10) rfl) q1621 dX4_response_10 13 rfl ?_
  refine nw_iload_n C 2 dX4_response_13 rfl 14 rfl ?_
  refine nw_callV C (mX11_isOnDuty _ C.hfl d (am (300 + k)) (am (400 + k)) (fun q => ro q = 7401 + k) ((sg_gu σ).2 k) (sg_gr σ) t H hB hg1 hk2 (by omega)) kX11_isOnDuty q1884 (hg3.is C (ci := 10) rfl) (As := [.int (nI t)]) (rest := []) rfl rfl ⟨⟨Nat.le_of_ble_eq_true rfl, Nat.le_of_ble_eq_true rfl⟩, Nat.le_of_ble_eq_true rfl, Nat.le_of_ble_eq_true rfl⟩ (Nat.le_of_ble_eq_true rfl) (fun _ h8 h9 => absurd h9 (Nat.not_le.mpr h8)) dX4_response_14 17 rfl (nw_rdK ?_) nw_noX
  refine nw_ifneB C 22 dX4_response_17 (by decide) 20 rfl (fun h4 => ?_) (fun h4 => ?_)
  · have hpl : sp_place ((sg_gu σ).2 k) t = some (gd_c ((sg_gu σ).2 k) ((t - gd_a ((sg_gu σ).2 k)) / gd_s ((sg_gu σ).2 k) % gd_m ((sg_gu σ).2 k))) := by unfold sp_place; rw [if_pos h4]
    refine nw_aload_n C 0 dX4_response_22 rfl 23 rfl ?_
    refine nw_aload_n C 0 dX4_response_23 rfl 24 rfl ?_
    refine nw_get C hmX (T := TX4) rfl in_X4 8 (by decide) q1630 (Or.inl rfl) rfl dX4_response_24 27 rfl ?_
    refine nw_iload_n C 3 dX4_response_27 rfl 28 rfl ?_
    refine nw_callF C (mJ3_get _ C.hfl d (am 3) ((sg_gu σ).1) (fun k => am (300 + k)) (fun q => ro q = 7004) k H hB hmGu.1 (by omega)) kJ3_get (ci := 13) rfl q1615 q1618 (by decide +kernel) fc_List_get (hmGu.1.is C) (As := [.int (nI k)]) (rest := [.ref y]) rfl rfl ⟨⟨Nat.le_of_ble_eq_true rfl, Nat.le_of_ble_eq_true rfl⟩, Nat.le_of_ble_eq_true rfl, Nat.le_of_ble_eq_true rfl⟩ (Nat.le_of_ble_eq_true rfl) (fun _ h8 h9 => absurd h9 (Nat.not_le.mpr h8)) dX4_response_28 33 rfl (nw_rdK ?_) nw_noX
    refine nw_cast C (ci := 10) rfl (hg3.is C (ci := 10) rfl) q1621 dX4_response_33 36 rfl ?_
    refine nw_iload_n C 2 dX4_response_36 rfl 37 rfl ?_
    refine nw_callV C (mX11_place _ C.hfl d (am (300 + k)) (am (400 + k)) (fun q => ro q = 7401 + k) ((sg_gu σ).2 k) (sg_gr σ) t H hB hg1 hk2 (by omega) (by omega)) kX11_place q1821 (hg3.is C (ci := 10) rfl) (As := [.int (nI t)]) (rest := [.ref y]) rfl rfl ⟨⟨Nat.le_of_ble_eq_true rfl, Nat.le_of_ble_eq_true rfl⟩, Nat.le_of_ble_eq_true rfl, Nat.le_of_ble_eq_true rfl⟩ (Nat.le_of_ble_eq_true rfl) (fun _ h8 h9 => absurd h9 (Nat.not_le.mpr h8)) dX4_response_37 40 rfl (nw_rdK ?_) nw_noX
    generalize hpv : gd_c ((sg_gu σ).2 k) ((t - gd_a ((sg_gu σ).2 k)) / gd_s ((sg_gu σ).2 k) % gd_m ((sg_gu σ).2 k)) = p at hpl
    rw [hpl]
    show nwV X _ _ 6 H 0 0 40 [(0, .ref y), (1, .ref g), (2, .int (nI t)), (3, .int (nI k))] [.int (nI p), .ref y]
    have hpc := (oku.2 k hk9).cell hpl
    have hgro := okg.here hpc
    refine nw_callV C (mX4_steps _ C.hfl d ro am y σ th p H hB hW okM (by omega)) kX4_steps q2000 (hmX.is C (ci := 9) rfl) (As := [.int (nI p)]) (rest := []) rfl rfl ⟨⟨Nat.le_of_ble_eq_true rfl, Nat.le_of_ble_eq_true rfl⟩, (show 0 + 2 ≤ 2 by omega), (show 0 + 128 ≤ 128 by omega)⟩ (Nat.le_of_ble_eq_true rfl) (fun _ h8 h9 => absurd h9 (Nat.not_le.mpr h8)) dX4_response_40 43 rfl (fun v9 H5 hR6 hz7 hq8 => ?_) nw_noX
    obtain ⟨⟨ar9, rfl, hn10, hi11⟩, -⟩ := hR6
    have hn12 : H.size ≤ ar9 := (Nat.le_trans hext.1 hn10)
    replace hext := hext.call hz7 hq8
    replace hW := hW0.ext hext.2
    replace hg := hg0.ext hext.2
    replace hE := C.E0.ext hext.2
    replace hB := Nat.le_trans hB0 hext.1
    clear hmX hmKi hmLa hmFo hmGu hmPo hmIn hmWi hmWo hmKe
    obtain ⟨hmX, hmKi, hmLa, hmFo, hmGu, hmPo, hmIn, hmWi, hmWo, hmKe⟩ := id hW
    clear hgo hgl
    obtain ⟨hgo, hgl⟩ := id hg
    have hg13 : nwMGd d (am (300 + k)) (am (400 + k)) (fun q => ro q = 7401 + k) ((sg_gu σ).2 k) H5 := hmGu.2 k (by omega)
    have hk14 : okGd (sg_gr σ) ((sg_gu σ).2 k) := oku.2 k (by omega)
    have hg15 : nwO d (am (300 + k)) 10 [.int (nI (gd_a ((sg_gu σ).2 k))), .int (nI (gd_b ((sg_gu σ).2 k))), .int (nI (gd_s ((sg_gu σ).2 k))), .ref (am (400 + k)), .int (nI (gd_k ((sg_gu σ).2 k))), .int (gd_h ((sg_gu σ).2 k))] H5 := hg13.1
    show nwV X _ _ 6 H5 (0 + 2) (0 + 128) 43 [(0, .ref y), (1, .ref g), (2, .int (nI t)), (3, .int (nI k))] [.ref ar9]
    refine nw_wide (k' := 2) (n' := 128) (by omega) (by omega) ?_
    refine nw_astore C [(4, .ref ar9), (0, .ref y), (1, .ref g), (2, .int (nI t)), (3, .int (nI k))] dX4_response_43 (by decide) rfl 45 rfl ?_
    refine nw_iload_n C 3 dX4_response_45 rfl 46 rfl ?_
    refine nw_istore C [(5, .int (nI t)), (4, .ref ar9), (0, .ref y), (1, .ref g), (2, .int (nI t)), (3, .int (nI k))] dX4_response_46 (by decide) rfl 48 rfl ?_
    have lp16 : ∀ (fu : Nat) (m : Nat), (t ≤ m) → (m ≤ 240) → (∀ j, t ≤ j → j < m → (sp_near1 σ p i t) j = false) → 240 - m < fu → nwV X (nwNew H) (nwQE X (nwVr (oI (sp_resp σ ((sg_gu σ).2 k) i t)) H) nwNo (nwNew H) 2 128) 6 H5 2 128 48 [(0, .ref y), (1, .ref g), (2, .int (nI t)), (3, .int (nI k)), (4, .ref ar9), (5, .int (nI m))] [] := by
      intro fu
      induction fu with
      | zero => intro m _ _ _ hm; exact absurd hm (Nat.not_lt_zero _)
      | succ fu ih_lp16 =>
        intro m h1 hi hno hm
        refine nw_iload C 5 dX4_response_48 rfl 50 rfl ?_
        refine nw_sipush C (nI 239) dX4_response_50 (by decide) 53 rfl ?_
        refine nw_icmpgtN C (by omega) 96 dX4_response_53 (by decide) 56 rfl (fun h17 => ?_) (fun h17 => ?_)
        · refine nw_iconst C (oI none) dX4_response_96 (by decide) 97 rfl ?_
          exact nw_iret C dX4_response_97 (by omega) (by omega) ⟨by unfold sp_resp; rw [hpl]; dsimp only; rw [sp_fst_no (fun j h5 h6 => hno j h5 (by omega))]; try rfl, hext⟩
        · have hat := hk.at m
          refine nw_aload C 4 dX4_response_56 rfl 58 rfl ?_
          refine nw_aload_n C 1 dX4_response_58 rfl 59 rfl ?_
          refine nw_get C hgo (T := TX13) rfl in_X13 2 (by decide) q1946 (Or.inl rfl) rfl dX4_response_59 62 rfl ?_
          refine nw_iload C 5 dX4_response_62 rfl 64 rfl ?_
          refine nw_ialdN C (nI (sp_at i m)) hgl (by omega) (if_neg (by omega)) dX4_response_64 65 rfl ?_
          refine nw_ialdN C (oI (sp_runs (sg_gr σ) p (sp_at i m))) hi11 (by omega) rfl dX4_response_65 66 rfl ?_
          generalize hrn : sp_runs (sg_gr σ) p (sp_at i m) = of
          rcases of with _ | vf
          · show nwV X _ _ 6 H5 2 128 66 [(0, .ref y), (1, .ref g), (2, .int (nI t)), (3, .int (nI k)), (4, .ref ar9), (5, .int (nI m))] [.int (oI none)]
            refine nw_iconst C (oI none) dX4_response_66 (by decide) 67 rfl ?_
            refine nw_icmpeqT C rfl 90 dX4_response_67 (by decide) ?_
            refine nw_iincN C 5 (c0 := 1) [(5, .int (nI (m + 1))), (0, .ref y), (1, .ref g), (2, .int (nI t)), (3, .int (nI k)), (4, .ref ar9)] dX4_response_90 rfl (by decide) rfl 93 rfl ?_
            refine nw_goto C 48 dX4_response_93 (by decide) ?_
            exact nw_wide (by omega) (by omega) (nw_sub [1, 2, 3, 4, 5, 0] rfl (ih_lp16 (m + 1) (by omega) (by omega) (fun j h5 h6 => (Nat.lt_or_ge j m).elim (fun g5 => hno j h5 g5) (fun g5 => by rw [show j = m by omega]; exact (by unfold sp_near1; rw [hrn]))) (by omega)))
          · show nwV X _ _ 6 H5 2 128 66 [(0, .ref y), (1, .ref g), (2, .int (nI t)), (3, .int (nI k)), (4, .ref ar9), (5, .int (nI m))] [.int (nI vf)]
            have hvf := sp_runs_lt hgro hpc hrn
            refine nw_iconst C (oI none) dX4_response_66 (by decide) 67 rfl ?_
            refine nw_icmpeqF C (nI_m1 (by omega)) 90 dX4_response_67 (by decide) 70 rfl ?_
            refine nw_aload C 4 dX4_response_70 rfl 72 rfl ?_
            refine nw_aload_n C 1 dX4_response_72 rfl 73 rfl ?_
            refine nw_get C hgo (T := TX13) rfl in_X13 2 (by decide) q1946 (Or.inl rfl) rfl dX4_response_73 76 rfl ?_
            refine nw_iload C 5 dX4_response_76 rfl 78 rfl ?_
            refine nw_ialdN C (nI (sp_at i m)) hgl (by omega) (if_neg (by omega)) dX4_response_78 79 rfl ?_
            refine nw_ialdN C (oI (sp_runs (sg_gr σ) p (sp_at i m))) hi11 (by omega) rfl dX4_response_79 80 rfl ?_
            rw [hrn]
            show nwV X _ _ 6 H5 2 128 80 [(0, .ref y), (1, .ref g), (2, .int (nI t)), (3, .int (nI k)), (4, .ref ar9), (5, .int (nI m))] [.int (nI vf)]
            refine nw_iload C 5 dX4_response_80 rfl 82 rfl ?_
            refine nw_iload_n C 2 dX4_response_82 rfl 83 rfl ?_
            refine nw_isubN C (by omega) dX4_response_83 84 rfl ?_
            refine nw_icmpgtN C (by omega) 90 dX4_response_84 (by decide) 87 rfl (fun h20 => ?_) (fun h20 => ?_)
            · refine nw_iincN C 5 (c0 := 1) [(5, .int (nI (m + 1))), (0, .ref y), (1, .ref g), (2, .int (nI t)), (3, .int (nI k)), (4, .ref ar9)] dX4_response_90 rfl (by decide) rfl 93 rfl ?_
              refine nw_goto C 48 dX4_response_93 (by decide) ?_
              exact nw_wide (by omega) (by omega) (nw_sub [1, 2, 3, 4, 5, 0] rfl (ih_lp16 (m + 1) (by omega) (by omega) (fun j h5 h6 => (Nat.lt_or_ge j m).elim (fun g5 => hno j h5 g5) (fun g5 => by rw [show j = m by omega]; exact (by unfold sp_near1; rw [hrn]; simp; omega))) (by omega)))
            · refine nw_iload C 5 dX4_response_87 rfl 89 rfl ?_
              exact nw_iret C dX4_response_89 (by omega) (by omega) ⟨by unfold sp_resp; rw [hpl]; dsimp only; rw [sp_fst_at hno h1 (by omega) (by unfold sp_near1; rw [hrn]; simp; omega)]; try rfl, hext⟩
    exact nw_wide (by omega) (by omega) (nw_sub [2, 3, 4, 5, 1, 0] rfl (lp16 _ t (Nat.le_refl _) (by omega) (fun j h5 h6 => absurd h6 (Nat.not_lt.mpr h5)) (Nat.lt_succ_self _)))
  · refine nw_iconst C (oI none) dX4_response_20 (by decide) 21 rfl ?_
    exact nw_iret C dX4_response_21 (by omega) (by omega) ⟨by unfold sp_resp sp_place; rw [h4]; rfl, hext⟩
set_option maxHeartbeats 4000000 in
theorem mX4_responseNow (l : Launch) (hf : l.flags = flags0) (d : nwD) (ro am : Nat → Nat) (y : Nat) (σ : spSg) (th : Int32) (g wl : Nat) (i : spI1) (wb : Bool) (H : Heap) (hB : nd_B d ≤ H.size) (hW : nwMC d ro am y σ th H) (okM : spOkM σ) (hg : nwMIn d g wl i H) (hk : okI1 (sg_gr σ) i) : nwMt l d yX4_responseNow cX4_responseNow 8 (some .int) 8 179 12 768 [.ref y, .ref g, .int (b2i wb)] H (nwVr (oI (sp_firstR σ i wb)) H) nwNo (nwNew H) := by
  refine nw_start "NightwatchWallModel" "responseNow" hf (by decide +kernel) rfl rfl (fun _ h => h) (fun q h => Nat.le_trans hB h) (Nat.le_of_ble_eq_true rfl) ?_
  intro X C
  have hW0 := hW
  have hg0 := hg
  have hB0 := hB
  have hE := C.E0
  have hext : nwExt H H := nwExt.rfl
  obtain ⟨hmX, hmKi, hmLa, hmFo, hmGu, hmPo, hmIn, hmWi, hmWo, hmKe⟩ := id hW
  obtain ⟨okg, okl, okf, oku, okp, oki, okw, okd, okk, oka⟩ := id okM
  have hn64 : gr_n (sg_gr σ) ≤ 64 := okg.n
  have oku1 := oku.1
  have oki1 := oki.1
  have okp1 := okp.1
  have okw1 := okw.1
  have okl1 := okl.1
  have okf1 := okf.1
  obtain ⟨⟨hia, him1, him2, hiv, his, hil⟩, hcs⟩ := id hk
  obtain ⟨hgo, hgl⟩ := id hg
  show nwV X _ _ 8 H 0 0 0 [(0, .ref y), (1, .ref g), (2, .int (b2i wb))] []
  refine nw_aload_n C 0 dX4_responseNow_0 rfl 1 rfl ?_
  refine nw_aload_n C 1 dX4_responseNow_1 rfl 2 rfl ?_
  refine nw_callV C (mX4_foundNow _ C.hfl d ro am y σ th g wl i H hB hW okM hg hk) kX4_foundNow q1988 (hmX.is C (ci := 9) rfl) (As := [.ref g]) (rest := []) rfl rfl ⟨⟨Nat.le_of_ble_eq_true rfl, Nat.le_of_ble_eq_true rfl⟩, Nat.le_of_ble_eq_true rfl, Nat.le_of_ble_eq_true rfl⟩ (Nat.le_of_ble_eq_true rfl) (fun _ h8 h9 => absurd h9 (Nat.not_le.mpr h8)) dX4_responseNow_2 5 rfl (nw_rdK ?_) nw_noX
  generalize hfo : sp_foundS σ i = o
  rcases o with _ | t
  · show nwV X _ _ 8 H 0 0 5 [(0, .ref y), (1, .ref g), (2, .int (b2i wb))] [.int (oI none)]
    refine nw_istore_n C [(3, .int (oI none)), (0, .ref y), (1, .ref g), (2, .int (b2i wb))] dX4_responseNow_5 (by decide) rfl 6 rfl ?_
    refine nw_iconst C (oI none) dX4_responseNow_6 (by decide) 7 rfl ?_
    refine nw_istore C [(4, .int (oI none)), (3, .int (oI none)), (0, .ref y), (1, .ref g), (2, .int (b2i wb))] dX4_responseNow_7 (by decide) rfl 9 rfl ?_
    refine nw_iconst C (oI none) dX4_responseNow_9 (by decide) 10 rfl ?_
    refine nw_istore C [(5, .int (oI none)), (4, .int (oI none)), (3, .int (oI none)), (0, .ref y), (1, .ref g), (2, .int (b2i wb))] dX4_responseNow_10 (by decide) rfl 12 rfl ?_
    refine nw_iconst C (nI 0) dX4_responseNow_12 (by decide) 13 rfl ?_
    refine nw_istore C [(6, .int (nI 0)), (5, .int (oI none)), (4, .int (oI none)), (3, .int (oI none)), (0, .ref y), (1, .ref g), (2, .int (b2i wb))] dX4_responseNow_13 (by decide) rfl 15 rfl ?_
    refine nw_iload C 0 dX4_responseNow_15 rfl 17 rfl ?_
    refine nw_aload_n C 4 dX4_responseNow_17 rfl 18 rfl ?_
    refine nw_get C hmX (T := TX4) rfl in_X4 8 (by decide) q1630 (Or.inl rfl) rfl dX4_responseNow_18 21 rfl ?_
    refine nw_callF C (mJ3_size _ C.hfl d (am 3) ((sg_gu σ).1) (fun k => am (300 + k)) (fun q => ro q = 7004) H hB hmGu.1) kJ3_size (ci := 13) rfl q1607 q1611 (by decide +kernel) fc_List_size (hmGu.1.is C) (As := []) (rest := [.int (nI 0)]) rfl rfl ⟨⟨Nat.le_of_ble_eq_true rfl, Nat.le_of_ble_eq_true rfl⟩, Nat.le_of_ble_eq_true rfl, Nat.le_of_ble_eq_true rfl⟩ (Nat.le_of_ble_eq_true rfl) (fun _ h8 h9 => absurd h9 (Nat.not_le.mpr h8)) dX4_responseNow_21 26 rfl (nw_rdK ?_) nw_noX
    refine nw_icmpgeN C (by omega) 80 dX4_responseNow_26 (by decide) 29 rfl (fun h1 => ?_) (fun h1 => ?_)
    · refine nw_iload_n C 6 dX4_responseNow_80 rfl 81 rfl ?_
      refine nw_ifeqB C 89 dX4_responseNow_81 (by decide) 84 rfl (fun h2 => ?_) (fun h2 => ?_)
      · refine nw_iload C 2 dX4_responseNow_89 rfl 91 rfl ?_
        exact nw_iret C dX4_responseNow_91 (by omega) (by omega) ⟨by unfold sp_firstR; rw [hfo], hext⟩
      · refine nw_iload C 1 dX4_responseNow_84 rfl 86 rfl ?_
        refine nw_goto C 91 dX4_responseNow_86 (by decide) ?_
        exact nw_iret C dX4_responseNow_91 (by omega) (by omega) ⟨by unfold sp_firstR; rw [hfo], hext⟩
    · refine nw_iload_n C 3 dX4_responseNow_29 rfl 30 rfl ?_
      refine nw_iconst C (oI none) dX4_responseNow_30 (by decide) 31 rfl ?_
      refine nw_icmpeqT C rfl 80 dX4_responseNow_31 (by decide) ?_
      refine nw_iload_n C 6 dX4_responseNow_80 rfl 81 rfl ?_
      refine nw_ifeqB C 89 dX4_responseNow_81 (by decide) 84 rfl (fun h4 => ?_) (fun h4 => ?_)
      · refine nw_iload C 2 dX4_responseNow_89 rfl 91 rfl ?_
        exact nw_iret C dX4_responseNow_91 (by omega) (by omega) ⟨by unfold sp_firstR; rw [hfo], hext⟩
      · refine nw_iload C 1 dX4_responseNow_84 rfl 86 rfl ?_
        refine nw_goto C 91 dX4_responseNow_86 (by decide) ?_
        exact nw_iret C dX4_responseNow_91 (by omega) (by omega) ⟨by unfold sp_firstR; rw [hfo], hext⟩
  · show nwV X _ _ 8 H 0 0 5 [(0, .ref y), (1, .ref g), (2, .int (b2i wb))] [.int (nI t)]
    have htt := sp_foundS_in hfo
    refine nw_istore_n C [(3, .int (nI t)), (0, .ref y), (1, .ref g), (2, .int (b2i wb))] dX4_responseNow_5 (by decide) rfl 6 rfl ?_
    refine nw_iconst C (oI none) dX4_responseNow_6 (by decide) 7 rfl ?_
    refine nw_istore C [(4, .int (oI none)), (3, .int (nI t)), (0, .ref y), (1, .ref g), (2, .int (b2i wb))] dX4_responseNow_7 (by decide) rfl 9 rfl ?_
    refine nw_iconst C (oI none) dX4_responseNow_9 (by decide) 10 rfl ?_
    refine nw_istore C [(5, .int (oI none)), (4, .int (oI none)), (3, .int (nI t)), (0, .ref y), (1, .ref g), (2, .int (b2i wb))] dX4_responseNow_10 (by decide) rfl 12 rfl ?_
    refine nw_iconst C (nI 0) dX4_responseNow_12 (by decide) 13 rfl ?_
    refine nw_istore C [(6, .int (nI 0)), (5, .int (oI none)), (4, .int (oI none)), (3, .int (nI t)), (0, .ref y), (1, .ref g), (2, .int (b2i wb))] dX4_responseNow_13 (by decide) rfl 15 rfl ?_
    have lp5 : ∀ (fu : Nat) (H2 : Heap) (j : Nat) (bo : Option Nat) (wh : Option Nat), (nwExt H H2) → (j ≤ (sg_gu σ).1) → (bo = (sp_first σ i t j).1) → (wh = (sp_first σ i t j).2) → (∀ v, bo = some v → v < 240) → (sg_gu σ).1 - j < fu → nwV X (nwNew H) (nwQE X (nwVr (oI (sp_firstR σ i wb)) H) nwNo (nwNew H) 12 768) 8 H2 (2 * j) (128 * j) 15 [(0, .ref y), (1, .ref g), (2, .int (b2i wb)), (3, .int (nI t)), (4, .int (oI bo)), (5, .int (oI wh)), (6, .int (nI j))] [] := by
      intro fu
      induction fu with
      | zero => intro H2 j bo wh _ _ _ _ _ hm; exact absurd hm (Nat.not_lt_zero _)
      | succ fu ih_lp5 =>
        intro H2 j bo wh hext hi hbo hwh hbb hm
        replace hW := hW0.ext hext.2
        replace hg := hg0.ext hext.2
        replace hE := C.E0.ext hext.2
        replace hB := Nat.le_trans hB0 hext.1
        clear hmX hmKi hmLa hmFo hmGu hmPo hmIn hmWi hmWo hmKe
        obtain ⟨hmX, hmKi, hmLa, hmFo, hmGu, hmPo, hmIn, hmWi, hmWo, hmKe⟩ := id hW
        clear hgo hgl
        obtain ⟨hgo, hgl⟩ := id hg
        refine nw_iload C 6 dX4_responseNow_15 rfl 17 rfl ?_
        refine nw_aload_n C 0 dX4_responseNow_17 rfl 18 rfl ?_
        refine nw_get C hmX (T := TX4) rfl in_X4 8 (by decide) q1630 (Or.inl rfl) rfl dX4_responseNow_18 21 rfl ?_
        refine nw_callF C (mJ3_size _ C.hfl d (am 3) ((sg_gu σ).1) (fun k => am (300 + k)) (fun q => ro q = 7004) H2 hB hmGu.1) kJ3_size (ci := 13) rfl q1607 q1611 (by decide +kernel) fc_List_size (hmGu.1.is C) (As := []) (rest := [.int (nI j)]) rfl rfl ⟨⟨Nat.le_of_ble_eq_true rfl, Nat.le_of_ble_eq_true rfl⟩, (show (2 * j) + 0 ≤ 12 by omega), (show (128 * j) + 0 ≤ 768 by omega)⟩ (Nat.le_of_ble_eq_true rfl) (fun _ h8 h9 => absurd h9 (Nat.not_le.mpr h8)) dX4_responseNow_21 26 rfl (nw_rdK ?_) nw_noX
        refine nw_icmpgeN C (by omega) 80 dX4_responseNow_26 (by decide) 29 rfl (fun h6 => ?_) (fun h6 => ?_)
        · refine nw_iload_n C 2 dX4_responseNow_80 rfl 81 rfl ?_
          refine nw_ifeqB C 89 dX4_responseNow_81 (by decide) 84 rfl (fun h7 => ?_) (fun h7 => ?_)
          · refine nw_iload C 4 dX4_responseNow_89 rfl 91 rfl ?_
            exact nw_iret C dX4_responseNow_91 (by omega) (by omega) ⟨by unfold sp_firstR; rw [hfo, h7]; dsimp only; rw [if_neg (by decide), hbo, show j = (sg_gu σ).1 by omega], hext⟩
          · refine nw_iload C 5 dX4_responseNow_84 rfl 86 rfl ?_
            refine nw_goto C 91 dX4_responseNow_86 (by decide) ?_
            exact nw_iret C dX4_responseNow_91 (by omega) (by omega) ⟨by unfold sp_firstR; rw [hfo, h7]; dsimp only; rw [if_pos rfl, hwh, show j = (sg_gu σ).1 by omega], hext⟩
        · refine nw_iload_n C 3 dX4_responseNow_29 rfl 30 rfl ?_
          refine nw_iconst C (oI none) dX4_responseNow_30 (by decide) 31 rfl ?_
          refine nw_icmpeqF C (nI_m1 (by omega)) 80 dX4_responseNow_31 (by decide) 34 rfl ?_
          refine nw_aload_n C 0 dX4_responseNow_34 rfl 35 rfl ?_
          refine nw_aload_n C 1 dX4_responseNow_35 rfl 36 rfl ?_
          refine nw_iload_n C 3 dX4_responseNow_36 rfl 37 rfl ?_
          refine nw_iload C 6 dX4_responseNow_37 rfl 39 rfl ?_
          refine nw_callV C (mX4_response _ C.hfl d ro am y σ th g wl i t j H2 hB hW okM hg hk (by omega) (by omega) (by omega)) kX4_response q1996 (hmX.is C (ci := 9) rfl) (As := [.ref g, .int (nI t), .int (nI j)]) (rest := []) rfl rfl ⟨⟨Nat.le_of_ble_eq_true rfl, Nat.le_of_ble_eq_true rfl⟩, (show (2 * j) + 2 ≤ 12 by omega), (show (128 * j) + 128 ≤ 768 by omega)⟩ (Nat.le_of_ble_eq_true rfl) (fun _ h8 h9 => absurd h9 (Nat.not_le.mpr h8)) dX4_responseNow_39 42 rfl (fun v9 H9 hR10 hz11 hq12 => ?_) nw_noX
          obtain ⟨rfl, -⟩ := hR10
          replace hext := hext.call hz11 hq12
          replace hW := hW0.ext hext.2
          replace hg := hg0.ext hext.2
          replace hE := C.E0.ext hext.2
          replace hB := Nat.le_trans hB0 hext.1
          clear hmX hmKi hmLa hmFo hmGu hmPo hmIn hmWi hmWo hmKe
          obtain ⟨hmX, hmKi, hmLa, hmFo, hmGu, hmPo, hmIn, hmWi, hmWo, hmKe⟩ := id hW
          clear hgo hgl
          obtain ⟨hgo, hgl⟩ := id hg
          show nwV X _ _ 8 H9 ((2 * j) + 2) ((128 * j) + 128) 42 [(0, .ref y), (1, .ref g), (2, .int (b2i wb)), (3, .int (nI t)), (4, .int (oI bo)), (5, .int (oI wh)), (6, .int (nI j))] [.int (oI (sp_resp σ ((sg_gu σ).2 j) i t))]
          refine nw_wide (k' := 2 * j + 2) (n' := 128 * j + 128) (by omega) (by omega) ?_
          refine nw_istore C [(7, .int (oI (sp_resp σ ((sg_gu σ).2 j) i t))), (0, .ref y), (1, .ref g), (2, .int (b2i wb)), (3, .int (nI t)), (4, .int (oI bo)), (5, .int (oI wh)), (6, .int (nI j))] dX4_responseNow_42 (by decide) rfl 44 rfl ?_
          generalize ho1 : sp_resp σ ((sg_gu σ).2 j) i t = o1
          rcases o1 with _ | mm
          · show nwV X _ _ 8 H9 (2 * j + 2) (128 * j + 128) 44 [(7, .int (oI none)), (0, .ref y), (1, .ref g), (2, .int (b2i wb)), (3, .int (nI t)), (4, .int (oI bo)), (5, .int (oI wh)), (6, .int (nI j))] []
            refine nw_iload C 0 dX4_responseNow_44 rfl 46 rfl ?_
            refine nw_iconst C (oI none) dX4_responseNow_46 (by decide) 47 rfl ?_
            refine nw_icmpeqT C rfl 74 dX4_responseNow_47 (by decide) ?_
            refine nw_iincN C 7 (c0 := 1) [(6, .int (nI (j + 1))), (7, .int (oI none)), (0, .ref y), (1, .ref g), (2, .int (b2i wb)), (3, .int (nI t)), (4, .int (oI bo)), (5, .int (oI wh))] dX4_responseNow_74 rfl (by decide) rfl 77 rfl ?_
            refine nw_goto C 15 dX4_responseNow_77 (by decide) ?_
            exact nw_wide (by omega) (by omega) (nw_sub [2, 3, 4, 5, 6, 7, 0] rfl (ih_lp5 H9 (j + 1) bo wh hext (by omega) (by rw [sp_first_n ho1]; exact hbo) (by rw [sp_first_n ho1]; exact hwh) hbb (by omega)))
          · show nwV X _ _ 8 H9 (2 * j + 2) (128 * j + 128) 44 [(7, .int (nI mm)), (0, .ref y), (1, .ref g), (2, .int (b2i wb)), (3, .int (nI t)), (4, .int (oI bo)), (5, .int (oI wh)), (6, .int (nI j))] []
            have hmv := sp_resp_lt (by omega) ho1
            refine nw_iload C 0 dX4_responseNow_44 rfl 46 rfl ?_
            refine nw_iconst C (oI none) dX4_responseNow_46 (by decide) 47 rfl ?_
            refine nw_icmpeqF C (nI_m1 (by omega)) 74 dX4_responseNow_47 (by decide) 50 rfl ?_
            rcases bo with _ | bb
            · show nwV X _ _ 8 H9 (2 * j + 2) (128 * j + 128) 50 [(7, .int (nI mm)), (0, .ref y), (1, .ref g), (2, .int (b2i wb)), (3, .int (nI t)), (4, .int (oI none)), (5, .int (oI wh)), (6, .int (nI j))] []
              refine nw_iload C 5 dX4_responseNow_50 rfl 52 rfl ?_
              refine nw_iconst C (oI none) dX4_responseNow_52 (by decide) 53 rfl ?_
              refine nw_icmpeqT C rfl 66 dX4_responseNow_53 (by decide) ?_
              refine nw_iload C 0 dX4_responseNow_66 rfl 68 rfl ?_
              refine nw_istore C [(4, .int (nI mm)), (7, .int (nI mm)), (0, .ref y), (1, .ref g), (2, .int (b2i wb)), (3, .int (nI t)), (5, .int (oI wh)), (6, .int (nI j))] dX4_responseNow_68 (by decide) rfl 70 rfl ?_
              refine nw_iload C 7 dX4_responseNow_70 rfl 72 rfl ?_
              refine nw_istore C [(5, .int (nI j)), (4, .int (nI mm)), (7, .int (nI mm)), (0, .ref y), (1, .ref g), (2, .int (b2i wb)), (3, .int (nI t)), (6, .int (nI j))] dX4_responseNow_72 (by decide) rfl 74 rfl ?_
              refine nw_iincN C 7 (c0 := 1) [(6, .int (nI (j + 1))), (5, .int (nI j)), (4, .int (nI mm)), (7, .int (nI mm)), (0, .ref y), (1, .ref g), (2, .int (b2i wb)), (3, .int (nI t))] dX4_responseNow_74 rfl (by decide) rfl 77 rfl ?_
              refine nw_goto C 15 dX4_responseNow_77 (by decide) ?_
              exact nw_wide (by omega) (by omega) (nw_sub [4, 5, 6, 7, 2, 1, 0] rfl (ih_lp5 H9 (j + 1) (some mm) (some j) hext (by omega) (by rw [sp_first_a ho1 hbo.symm]) (by rw [sp_first_a ho1 hbo.symm]) (fun v hv => by cases hv; exact hmv) (by omega)))
            · show nwV X _ _ 8 H9 (2 * j + 2) (128 * j + 128) 50 [(7, .int (nI mm)), (0, .ref y), (1, .ref g), (2, .int (b2i wb)), (3, .int (nI t)), (4, .int (nI bb)), (5, .int (oI wh)), (6, .int (nI j))] []
              have hbv := hbb bb rfl
              refine nw_iload C 5 dX4_responseNow_50 rfl 52 rfl ?_
              refine nw_iconst C (oI none) dX4_responseNow_52 (by decide) 53 rfl ?_
              refine nw_icmpeqF C (nI_m1 (by omega)) 66 dX4_responseNow_53 (by decide) 56 rfl ?_
              refine nw_iload C 0 dX4_responseNow_56 rfl 58 rfl ?_
              refine nw_iload C 5 dX4_responseNow_58 rfl 60 rfl ?_
              refine nw_icmpltN C (by omega) 66 dX4_responseNow_60 (by decide) 63 rfl (fun h17 => ?_) (fun h17 => ?_)
              · refine nw_iload C 0 dX4_responseNow_66 rfl 68 rfl ?_
                refine nw_istore C [(4, .int (nI mm)), (7, .int (nI mm)), (0, .ref y), (1, .ref g), (2, .int (b2i wb)), (3, .int (nI t)), (5, .int (oI wh)), (6, .int (nI j))] dX4_responseNow_68 (by decide) rfl 70 rfl ?_
                refine nw_iload C 7 dX4_responseNow_70 rfl 72 rfl ?_
                refine nw_istore C [(5, .int (nI j)), (4, .int (nI mm)), (7, .int (nI mm)), (0, .ref y), (1, .ref g), (2, .int (b2i wb)), (3, .int (nI t)), (6, .int (nI j))] dX4_responseNow_72 (by decide) rfl 74 rfl ?_
                refine nw_iincN C 7 (c0 := 1) [(6, .int (nI (j + 1))), (5, .int (nI j)), (4, .int (nI mm)), (7, .int (nI mm)), (0, .ref y), (1, .ref g), (2, .int (b2i wb)), (3, .int (nI t))] dX4_responseNow_74 rfl (by decide) rfl 77 rfl ?_
                refine nw_goto C 15 dX4_responseNow_77 (by decide) ?_
                exact nw_wide (by omega) (by omega) (nw_sub [4, 5, 6, 7, 2, 1, 0] rfl (ih_lp5 H9 (j + 1) (some mm) (some j) hext (by omega) (by rw [sp_first_b ho1 hbo.symm, if_pos (show mm < bb by omega)]) (by rw [sp_first_b ho1 hbo.symm, if_pos (show mm < bb by omega)]) (fun v hv => by cases hv; exact hmv) (by omega)))
              · refine nw_goto C 74 dX4_responseNow_63 (by decide) ?_
                refine nw_iincN C 7 (c0 := 1) [(6, .int (nI (j + 1))), (7, .int (nI mm)), (0, .ref y), (1, .ref g), (2, .int (b2i wb)), (3, .int (nI t)), (4, .int (nI bb)), (5, .int (oI wh))] dX4_responseNow_74 rfl (by decide) rfl 77 rfl ?_
                refine nw_goto C 15 dX4_responseNow_77 (by decide) ?_
                exact nw_wide (by omega) (by omega) (nw_sub [2, 3, 4, 5, 6, 7, 0] rfl (ih_lp5 H9 (j + 1) (some bb) wh hext (by omega) (by rw [sp_first_b ho1 hbo.symm, if_neg (show ¬ mm < bb by omega)]; exact hbo) (by rw [sp_first_b ho1 hbo.symm, if_neg (show ¬ mm < bb by omega)]; exact hwh) hbb (by omega)))
    exact nw_wide (by omega) (by omega) (nw_sub [4, 5, 6, 3, 2, 1, 0] rfl (lp5 _ H 0 none none hext (Nat.zero_le _) rfl rfl (fun v hv => by cases hv) (Nat.lt_succ_self _)))
set_option maxHeartbeats 4000000 in
theorem mX4_intruderNow (l : Launch) (hf : l.flags = flags0) (d : nwD) (ro am : Nat → Nat) (y : Nat) (σ : spSg) (th : Int32) (k q : Nat) (H : Heap) (hB : nd_B d ≤ H.size) (hW : nwMC d ro am y σ th H) (okM : spOkM σ) (hk9 : k < (sg_in σ).1) (hq8 : q ≤ 8) : nwMt l d yX4_intruderNow cX4_intruderNow 5 (some .int) 9 206 12 768 [.ref y, .int (nI k), .int (nI q)] H (nwVr (sp_intrNow σ ((sg_in σ).2 k) q) H) nwNo (nwNew H) := by
  refine nw_start "NightwatchWallModel" "intruderNow" hf (by decide +kernel) rfl rfl (fun _ h => h) (fun q h => Nat.le_trans hB h) (Nat.le_of_ble_eq_true rfl) ?_
  intro X C
  have hW0 := hW
  have hB0 := hB
  have hE := C.E0
  have hext : nwExt H H := nwExt.rfl
  obtain ⟨hmX, hmKi, hmLa, hmFo, hmGu, hmPo, hmIn, hmWi, hmWo, hmKe⟩ := id hW
  obtain ⟨okg, okl, okf, oku, okp, oki, okw, okd, okk, oka⟩ := id okM
  have hn64 : gr_n (sg_gr σ) ≤ 64 := okg.n
  have oku1 := oku.1
  have oki1 := oki.1
  have okp1 := okp.1
  have okw1 := okw.1
  have okl1 := okl.1
  have okf1 := okf.1
  have hik9 := (oki.2 k hk9).1
  show nwV X _ _ 5 H 0 0 0 [(0, .ref y), (1, .int (nI k)), (2, .int (nI q))] []
  have hg1 : nwMIn d (am (500 + k)) (am (600 + k)) ((sg_in σ).2 k) H := hmIn.2 k (by omega)
  have hk2 : okI1 (sg_gr σ) ((sg_in σ).2 k) := oki.2 k (by omega)
  have hg3 : nwO d (am (500 + k)) 11 [.int (nI (in_a ((sg_in σ).2 k))), .int (nI (in_v ((sg_in σ).2 k))), .ref (am (600 + k)), .int (nI (in_s ((sg_in σ).2 k))), .int (oI (in_l ((sg_in σ).2 k)))] H := hg1.1
  refine nw_aload_n C 0 dX4_intruderNow_0 rfl 1 rfl ?_
  refine nw_get C hmX (T := TX4) rfl in_X4 17 (by decide) q1639 (Or.inl rfl) rfl dX4_intruderNow_1 4 rfl ?_
  refine nw_iload_n C 1 dX4_intruderNow_4 rfl 5 rfl ?_
  refine nw_callF C (mJ3_get _ C.hfl d (am 5) ((sg_in σ).1) (fun k => am (500 + k)) (fun q => ro q = 7006) k H hB hmIn.1 (by omega)) kJ3_get (ci := 13) rfl q1615 q1618 (by decide +kernel) fc_List_get (hmIn.1.is C) (As := [.int (nI k)]) (rest := []) rfl rfl ⟨⟨Nat.le_of_ble_eq_true rfl, Nat.le_of_ble_eq_true rfl⟩, Nat.le_of_ble_eq_true rfl, Nat.le_of_ble_eq_true rfl⟩ (Nat.le_of_ble_eq_true rfl) (fun _ h8 h9 => absurd h9 (Nat.not_le.mpr h8)) dX4_intruderNow_5 10 rfl (nw_rdK ?_) nw_noX
  refine nw_cast C (ci := 11) rfl (hg3.is C (ci := 11) rfl) q1713 dX4_intruderNow_10 13 rfl ?_
  refine nw_astore_n C [(3, .ref (am (500 + k))), (0, .ref y), (1, .int (nI k)), (2, .int (nI q))] dX4_intruderNow_13 (by decide) rfl 14 rfl ?_
  refine nw_iload_n C 3 dX4_intruderNow_14 rfl 15 rfl ?_
  rcases Nat.decEq q 0 with h4 | h4
  rotate_left
  · have h4s := h4
    refine nw_tabInN C (off := 45) h4 (by decide) 60 dX4_intruderNow_15 (by decide) (by decide) rfl (by decide) ?_
    refine nw_aload_n C 0 dX4_intruderNow_60 rfl 61 rfl ?_
    refine nw_get C hg3 (T := TX13) rfl in_X13 0 (by decide) q1942 (Or.inl rfl) rfl dX4_intruderNow_61 64 rfl ?_
    exact nw_iret C dX4_intruderNow_64 (by omega) (by omega) ⟨by unfold sp_intrNow; simp [h4]; try rfl, hext⟩
  rcases Nat.decEq q 1 with h5 | h5
  rotate_left
  · have h5s := h5
    refine nw_tabInN C (off := 50) h5 (by decide) 65 dX4_intruderNow_15 (by decide) (by decide) rfl (by decide) ?_
    refine nw_aload_n C 0 dX4_intruderNow_65 rfl 66 rfl ?_
    refine nw_get C hg3 (T := TX13) rfl in_X13 1 (by decide) q1944 (Or.inl rfl) rfl dX4_intruderNow_66 69 rfl ?_
    exact nw_iret C dX4_intruderNow_69 (by omega) (by omega) ⟨by unfold sp_intrNow; simp [h4, h5]; try rfl, hext⟩
  rcases Nat.decEq q 2 with h6 | h6
  rotate_left
  · have h6s := h6
    refine nw_tabInN C (off := 55) h6 (by decide) 70 dX4_intruderNow_15 (by decide) (by decide) rfl (by decide) ?_
    refine nw_aload_n C 0 dX4_intruderNow_70 rfl 71 rfl ?_
    refine nw_get C hg3 (T := TX13) rfl in_X13 2 (by decide) q1946 (Or.inl rfl) rfl dX4_intruderNow_71 74 rfl ?_
    refine nw_sipush C (nI 239) dX4_intruderNow_74 (by decide) 77 rfl ?_
    refine nw_ialdN C (nI (sp_at ((sg_in σ).2 k) 239)) hg1.2 (by omega) (if_neg (by omega)) dX4_intruderNow_77 78 rfl ?_
    exact nw_iret C dX4_intruderNow_78 (by omega) (by omega) ⟨by unfold sp_intrNow; simp [h4, h5, h6]; try rfl, hext⟩
  rcases Nat.decEq q 3 with h7 | h7
  rotate_left
  · have h7s := h7
    refine nw_tabInN C (off := 64) h7 (by decide) 79 dX4_intruderNow_15 (by decide) (by decide) rfl (by decide) ?_
    refine nw_aload_n C 1 dX4_intruderNow_79 rfl 80 rfl ?_
    refine nw_aload_n C 0 dX4_intruderNow_80 rfl 81 rfl ?_
    refine nw_callV C (mX4_foundNow _ C.hfl d ro am y σ th (am (500 + k)) (am (600 + k)) ((sg_in σ).2 k) H hB hW okM hg1 hk2) kX4_foundNow q1988 (hmX.is C (ci := 9) rfl) (As := [.ref (am (500 + k))]) (rest := []) rfl rfl ⟨⟨Nat.le_of_ble_eq_true rfl, Nat.le_of_ble_eq_true rfl⟩, Nat.le_of_ble_eq_true rfl, Nat.le_of_ble_eq_true rfl⟩ (Nat.le_of_ble_eq_true rfl) (fun _ h8 h9 => absurd h9 (Nat.not_le.mpr h8)) dX4_intruderNow_81 84 rfl (nw_rdK ?_) nw_noX
    exact nw_iret C dX4_intruderNow_84 (by omega) (by omega) ⟨by unfold sp_intrNow; simp [h4, h5, h6, h7]; try rfl, hext⟩
  rcases Nat.decEq q 4 with h8 | h8
  rotate_left
  · have h8s := h8
    refine nw_tabInN C (off := 70) h8 (by decide) 85 dX4_intruderNow_15 (by decide) (by decide) rfl (by decide) ?_
    refine nw_aload_n C 1 dX4_intruderNow_85 rfl 86 rfl ?_
    refine nw_aload_n C 0 dX4_intruderNow_86 rfl 87 rfl ?_
    refine nw_callV C (mX4_foundNow _ C.hfl d ro am y σ th (am (500 + k)) (am (600 + k)) ((sg_in σ).2 k) H hB hW okM hg1 hk2) kX4_foundNow q1988 (hmX.is C (ci := 9) rfl) (As := [.ref (am (500 + k))]) (rest := []) rfl rfl ⟨⟨Nat.le_of_ble_eq_true rfl, Nat.le_of_ble_eq_true rfl⟩, Nat.le_of_ble_eq_true rfl, Nat.le_of_ble_eq_true rfl⟩ (Nat.le_of_ble_eq_true rfl) (fun _ h8 h9 => absurd h9 (Nat.not_le.mpr h8)) dX4_intruderNow_87 90 rfl (nw_rdK ?_) nw_noX
    generalize hfo : sp_foundS σ ((sg_in σ).2 k) = o
    rcases o with _ | t
    · show nwV X _ _ 5 H 0 0 90 [(3, .ref (am (500 + k))), (0, .ref y), (1, .int (nI k)), (2, .int (nI q))] [.int (oI none)]
      refine nw_istore C [(4, .int (oI none)), (3, .ref (am (500 + k))), (0, .ref y), (1, .int (nI k)), (2, .int (nI q))] dX4_intruderNow_90 (by decide) rfl 92 rfl ?_
      refine nw_iload C 0 dX4_intruderNow_92 rfl 94 rfl ?_
      refine nw_iconst C (oI none) dX4_intruderNow_94 (by decide) 95 rfl ?_
      refine nw_icmpneF C rfl 102 dX4_intruderNow_95 (by decide) 98 rfl ?_
      refine nw_iconst C (nI 0) dX4_intruderNow_98 (by decide) 99 rfl ?_
      refine nw_goto C 115 dX4_intruderNow_99 (by decide) ?_
      exact nw_iret C dX4_intruderNow_115 (by omega) (by omega) ⟨by unfold sp_intrNow; simp [h4, h5, h6, h7, h8, hfo]; try rfl, hext⟩
    · show nwV X _ _ 5 H 0 0 90 [(3, .ref (am (500 + k))), (0, .ref y), (1, .int (nI k)), (2, .int (nI q))] [.int (nI t)]
      have htt := sp_foundS_in hfo
      have hat := (oki.2 k hk9).at t
      refine nw_istore C [(4, .int (nI t)), (3, .ref (am (500 + k))), (0, .ref y), (1, .int (nI k)), (2, .int (nI q))] dX4_intruderNow_90 (by decide) rfl 92 rfl ?_
      refine nw_iload C 0 dX4_intruderNow_92 rfl 94 rfl ?_
      refine nw_iconst C (oI none) dX4_intruderNow_94 (by decide) 95 rfl ?_
      refine nw_icmpneT C (nI_m1 (by omega)) 102 dX4_intruderNow_95 (by decide) ?_
      refine nw_aload_n C 2 dX4_intruderNow_102 rfl 103 rfl ?_
      refine nw_aload_n C 1 dX4_intruderNow_103 rfl 104 rfl ?_
      refine nw_get C hg3 (T := TX13) rfl in_X13 2 (by decide) q1946 (Or.inl rfl) rfl dX4_intruderNow_104 107 rfl ?_
      refine nw_iload C 0 dX4_intruderNow_107 rfl 109 rfl ?_
      refine nw_ialdN C (nI (sp_at ((sg_in σ).2 k) t)) hg1.2 (by omega) (if_neg (by omega)) dX4_intruderNow_109 110 rfl ?_
      refine nw_iload C 0 dX4_intruderNow_110 rfl 112 rfl ?_
      refine nw_callV C (mX4_seers _ C.hfl d ro am y σ th (sp_at ((sg_in σ).2 k) t) t H hB hW okM (by omega) (by omega)) kX4_seers q1856 (hmX.is C (ci := 9) rfl) (As := [.int (nI (sp_at ((sg_in σ).2 k) t)), .int (nI t)]) (rest := []) rfl rfl ⟨⟨Nat.le_of_ble_eq_true rfl, Nat.le_of_ble_eq_true rfl⟩, Nat.le_of_ble_eq_true rfl, Nat.le_of_ble_eq_true rfl⟩ (Nat.le_of_ble_eq_true rfl) (fun _ h8 h9 => absurd h9 (Nat.not_le.mpr h8)) dX4_intruderNow_112 115 rfl (nw_rdK ?_) nw_noX
      exact nw_iret C dX4_intruderNow_115 (by omega) (by omega) ⟨by unfold sp_intrNow; simp [h4, h5, h6, h7, h8, hfo]; try rfl, hext⟩
  rcases Nat.decEq q 5 with h11 | h11
  rotate_left
  · have h11s := h11
    refine nw_tabInN C (off := 101) h11 (by decide) 116 dX4_intruderNow_15 (by decide) (by decide) rfl (by decide) ?_
    refine nw_aload_n C 1 dX4_intruderNow_116 rfl 117 rfl ?_
    refine nw_aload_n C 0 dX4_intruderNow_117 rfl 118 rfl ?_
    refine nw_iconst C (nI 0) dX4_intruderNow_118 (by decide) 119 rfl ?_
    refine nw_callV C (mX4_responseNow _ C.hfl d ro am y σ th (am (500 + k)) (am (600 + k)) ((sg_in σ).2 k) false H hB hW okM hg1 hk2) kX4_responseNow q1992 (hmX.is C (ci := 9) rfl) (As := [.ref (am (500 + k)), .int (b2i false)]) (rest := []) rfl rfl ⟨⟨Nat.le_of_ble_eq_true rfl, Nat.le_of_ble_eq_true rfl⟩, (show 0 + 12 ≤ 12 by omega), (show 0 + 768 ≤ 768 by omega)⟩ (Nat.le_of_ble_eq_true rfl) (fun _ h8 h9 => absurd h9 (Nat.not_le.mpr h8)) dX4_intruderNow_119 122 rfl (fun v9 H12 hR13 hz14 hq15 => ?_) nw_noX
    obtain ⟨rfl, -⟩ := hR13
    replace hext := hext.call hz14 hq15
    replace hW := hW0.ext hext.2
    replace hE := C.E0.ext hext.2
    replace hB := Nat.le_trans hB0 hext.1
    clear hmX hmKi hmLa hmFo hmGu hmPo hmIn hmWi hmWo hmKe
    obtain ⟨hmX, hmKi, hmLa, hmFo, hmGu, hmPo, hmIn, hmWi, hmWo, hmKe⟩ := id hW
    have hg16 : nwMIn d (am (500 + k)) (am (600 + k)) ((sg_in σ).2 k) H12 := hmIn.2 k (by omega)
    have hk17 : okI1 (sg_gr σ) ((sg_in σ).2 k) := oki.2 k (by omega)
    have hg18 : nwO d (am (500 + k)) 11 [.int (nI (in_a ((sg_in σ).2 k))), .int (nI (in_v ((sg_in σ).2 k))), .ref (am (600 + k)), .int (nI (in_s ((sg_in σ).2 k))), .int (oI (in_l ((sg_in σ).2 k)))] H12 := hg16.1
    show nwV X _ _ 5 H12 (0 + 12) (0 + 768) 122 [(3, .ref (am (500 + k))), (0, .ref y), (1, .int (nI k)), (2, .int (nI q))] [.int (oI (sp_firstR σ ((sg_in σ).2 k) false))]
    refine nw_wide (k' := 12) (n' := 768) (by omega) (by omega) ?_
    exact nw_iret C dX4_intruderNow_122 (by omega) (by omega) ⟨by unfold sp_intrNow; simp [h4, h5, h6, h7, h8, h11]; try rfl, hext⟩
  rcases Nat.decEq q 6 with h19 | h19
  rotate_left
  · have h19s := h19
    refine nw_tabInN C (off := 108) h19 (by decide) 123 dX4_intruderNow_15 (by decide) (by decide) rfl (by decide) ?_
    refine nw_aload_n C 1 dX4_intruderNow_123 rfl 124 rfl ?_
    refine nw_aload_n C 0 dX4_intruderNow_124 rfl 125 rfl ?_
    refine nw_iconst C (nI 1) dX4_intruderNow_125 (by decide) 126 rfl ?_
    refine nw_callV C (mX4_responseNow _ C.hfl d ro am y σ th (am (500 + k)) (am (600 + k)) ((sg_in σ).2 k) true H hB hW okM hg1 hk2) kX4_responseNow q1992 (hmX.is C (ci := 9) rfl) (As := [.ref (am (500 + k)), .int (b2i true)]) (rest := []) rfl rfl ⟨⟨Nat.le_of_ble_eq_true rfl, Nat.le_of_ble_eq_true rfl⟩, (show 0 + 12 ≤ 12 by omega), (show 0 + 768 ≤ 768 by omega)⟩ (Nat.le_of_ble_eq_true rfl) (fun _ h8 h9 => absurd h9 (Nat.not_le.mpr h8)) dX4_intruderNow_126 129 rfl (fun v9 H20 hR21 hz22 hq23 => ?_) nw_noX
    obtain ⟨rfl, -⟩ := hR21
    replace hext := hext.call hz22 hq23
    replace hW := hW0.ext hext.2
    replace hE := C.E0.ext hext.2
    replace hB := Nat.le_trans hB0 hext.1
    clear hmX hmKi hmLa hmFo hmGu hmPo hmIn hmWi hmWo hmKe
    obtain ⟨hmX, hmKi, hmLa, hmFo, hmGu, hmPo, hmIn, hmWi, hmWo, hmKe⟩ := id hW
    have hg24 : nwMIn d (am (500 + k)) (am (600 + k)) ((sg_in σ).2 k) H20 := hmIn.2 k (by omega)
    have hk25 : okI1 (sg_gr σ) ((sg_in σ).2 k) := oki.2 k (by omega)
    have hg26 : nwO d (am (500 + k)) 11 [.int (nI (in_a ((sg_in σ).2 k))), .int (nI (in_v ((sg_in σ).2 k))), .ref (am (600 + k)), .int (nI (in_s ((sg_in σ).2 k))), .int (oI (in_l ((sg_in σ).2 k)))] H20 := hg24.1
    show nwV X _ _ 5 H20 (0 + 12) (0 + 768) 129 [(3, .ref (am (500 + k))), (0, .ref y), (1, .int (nI k)), (2, .int (nI q))] [.int (oI (sp_firstR σ ((sg_in σ).2 k) true))]
    refine nw_wide (k' := 12) (n' := 768) (by omega) (by omega) ?_
    exact nw_iret C dX4_intruderNow_129 (by omega) (by omega) ⟨by unfold sp_intrNow; simp [h4, h5, h6, h7, h8, h11, h19]; try rfl, hext⟩
  rcases Nat.decEq q 7 with h27 | h27
  rotate_left
  · have h27s := h27
    refine nw_tabInN C (off := 115) h27 (by decide) 130 dX4_intruderNow_15 (by decide) (by decide) rfl (by decide) ?_
    refine nw_aload_n C 0 dX4_intruderNow_130 rfl 131 rfl ?_
    refine nw_get C hg3 (T := TX13) rfl in_X13 3 (by decide) q1947 (Or.inl rfl) rfl dX4_intruderNow_131 134 rfl ?_
    exact nw_iret C dX4_intruderNow_134 (by omega) (by omega) ⟨by unfold sp_intrNow; simp [h4, h5, h6, h7, h8, h11, h19, h27]; try rfl, hext⟩
  refine nw_tabOutN C (lo := 0) (hi := 7) (by omega) (by omega) 135 dX4_intruderNow_15 (by decide) ?_
  refine nw_aload_n C 0 dX4_intruderNow_135 rfl 136 rfl ?_
  refine nw_get C hg3 (T := TX13) rfl in_X13 4 (by decide) q1949 (Or.inl rfl) rfl dX4_intruderNow_136 139 rfl ?_
  exact nw_iret C dX4_intruderNow_139 (by omega) (by omega) ⟨by unfold sp_intrNow; simp [h4, h5, h6, h7, h8, h11, h19, h27]; try rfl, hext⟩
