/-! ===== force, ways, intruders ===== -/
set_option maxHeartbeats 4000000 in
theorem mX1_force (l : Launch) (hf : l.flags = flags0) (d : nwD) (ro ad : Nat → Nat) (x : Nat) (σ : spSg) (sm : Int64) (iv : Int32) (k : Int32) (t : Int32) (H : Heap) (hB : nd_B d ≤ H.size) (hR : nwWR d ro ad x σ sm H) (ok : spOk σ) : nwMt l d yX1_force cX1_force 6 (some .int) 9 204 4 30 [.ref x, .int iv, .int k, .int t] H (nwCv d ro x sm (op_force σ iv k t) H) (nwRx ((op_force σ iv k t).1, 0) [cIO, cIA, cIS] H) (nwAC ro H) := by
  refine nw_start "NightwatchWall" "force" hf (by decide +kernel) rfl rfl (fun _ h => Or.inr h) (nwAC_B hR hB) (Nat.le_of_ble_eq_true rfl) ?_
  intro X C
  have hW := hR.wc
  have hrx0 := hR.2.1.2
  have hW0 := hW
  have hB0 := hB
  have hE := C.E0
  have hext : nwExt H H := nwExt.rfl
  obtain ⟨hx, hcG, hcLa, hcFo, hcGu, hcPo, hcIn, hcWi, hcWo, hcKe⟩ := id hW
  obtain ⟨okg, okl, okf, oku, okp, oki, okw, okd, okk, oka⟩ := id ok
  have hn64 : gr_n (sg_gr σ) ≤ 64 := okg.n
  have oku1 := oku.1
  have oki1 := oki.1
  have okp1 := okp.1
  have okw1 := okw.1
  have okl1 := okl.1
  have okf1 := okf.1
  show nwV X _ _ 6 H 0 0 0 [(0, .ref x), (1, .int iv), (2, .int k), (3, .int t)] []
  refine nw_aload_n C 0 dX1_force_0 rfl 1 rfl ?_
  refine nw_iload_n C 1 dX1_force_1 rfl 2 rfl ?_
  refine nw_callV C (mX1_intruderAt _ C.hfl d ro ad x σ sm iv H hB hW ok) kX1_intruderAt q1242 (hx.is C (ci := 0) rfl) (As := [.int iv]) (rest := []) rfl rfl ⟨⟨Nat.le_of_ble_eq_true rfl, Nat.le_of_ble_eq_true rfl⟩, (show 0 + 1 ≤ 4 by omega), (show 0 + 6 ≤ 30 by omega)⟩ (Nat.le_of_ble_eq_true rfl) (fun _ h8 h9 => absurd h9 (Nat.not_le.mpr h8)) dX1_force_2 5 rfl ?_ ?_
  rotate_left
  · intro E9 w9 H1 hR2 hz3 hq4
    obtain ⟨rfl, hb5, hx6⟩ := hR2
    exact nw_out C (show (0 + 1) ≤ 4 by omega) (show (0 + 6) ≤ 30 by omega) ⟨⟨0, by simp [op_force, hb5], rfl⟩, hext.trans hx6⟩
  intro v9 H1 hR2 hz3 hq4
  obtain ⟨rfl, hb7, rfl⟩ := hR2
  obtain ⟨ivn, hk8, rfl⟩ := nw_ix_nat (by omega) hb7
  have en_ivn : nw_nn (nI ivn) = ivn := nw_nn_nI (by omega)
  rw [en_ivn]
  have hg9 : nwIn d (ad (500 + ivn)) (ad (600 + ivn)) (fun q => ro q = 2601 + ivn) ((sg_in σ).2 ivn) H := hcIn.2 ivn (by omega)
  have hk10 : okI1 (sg_gr σ) ((sg_in σ).2 ivn) := oki.2 ivn (by omega)
  have hg11 : nwO d (ad (500 + ivn)) 7 [.int (nI (in_a ((sg_in σ).2 ivn))), .ref (ad (600 + ivn)), .int (nI (in_v ((sg_in σ).2 ivn))), .int (nI (in_s ((sg_in σ).2 ivn))), .int (oI (in_l ((sg_in σ).2 ivn)))] H := hg9.1
  show nwV X _ _ 6 H (0 + 1) (0 + 6) 5 [(0, .ref x), (1, .int (nI ivn)), (2, .int k), (3, .int t)] [.ref (ad (500 + ivn))]
  refine nw_wide (k' := 1) (n' := 6) (by omega) (by omega) ?_
  refine nw_astore C [(4, .ref (ad (500 + ivn))), (0, .ref x), (1, .int (nI ivn)), (2, .int k), (3, .int t)] dX1_force_5 (by decide) rfl 7 rfl ?_
  refine nw_iconst C (nI 0) dX1_force_7 (by decide) 8 rfl ?_
  refine nw_iconst C (nI 3) dX1_force_8 (by decide) 9 rfl ?_
  refine nw_iload_n C 3 dX1_force_9 rfl 10 rfl ?_
  refine nw_callS C (mX1_isFromR _ C.hfl d (nI 0) (nI 3) k H hB) kX1_isFrom q579 (As := [.int (nI 0), .int (nI 3), .int k]) (rest := []) rfl rfl ⟨⟨Nat.le_of_ble_eq_true rfl, Nat.le_of_ble_eq_true rfl⟩, Nat.le_of_ble_eq_true rfl, Nat.le_of_ble_eq_true rfl⟩ (Nat.le_of_ble_eq_true rfl) (fun _ h8 h9 => absurd h9 (Nat.not_le.mpr h8)) dX1_force_10 13 rfl (nw_rdK ?_) nw_noX
  show nwV X _ _ 6 H 1 6 13 [(4, .ref (ad (500 + ivn))), (0, .ref x), (1, .int (nI ivn)), (2, .int k), (3, .int t)] [.int (b2i (nw_rg 0 3 k))]
  refine nw_ifeqB C 27 dX1_force_13 (by decide) 16 rfl (fun h12 => ?_) (fun h12 => ?_)
  · refine nw_iconst C (nI 0) dX1_force_27 (by decide) 28 rfl ?_
    refine nw_callS C (mX1_require _ C.hfl d false H hB) kX1_require q655 (As := [.int (b2i false)]) (rest := []) rfl rfl ⟨⟨Nat.le_of_ble_eq_true rfl, Nat.le_of_ble_eq_true rfl⟩, (show 1 + 1 ≤ 4 by omega), (show 6 + 6 ≤ 30 by omega)⟩ (Nat.le_of_ble_eq_true rfl) (fun _ h8 h9 => absurd h9 (Nat.not_le.mpr h8)) dX1_force_28 31 rfl ?_ ?_
    rotate_left
    · intro E9 w9 H13 hR14 hz15 hq16
      obtain ⟨rfl, hb17, hx18⟩ := hR14
      exact nw_out C (show (1 + 1) ≤ 4 by omega) (show (6 + 6) ≤ 30 by omega) ⟨⟨1, by simp [op_force, h12, en_ivn, hb7, hb17], rfl⟩, hext.trans hx18⟩
    intro v9 H13 hR14 hz15 hq16
    obtain ⟨rfl, hb19, rfl⟩ := hR14
    cases hb19
  · obtain ⟨kn, hk20, rfl⟩ := nw_rg_nat (by decide) (by decide) h12
    have en_kn : nw_nn (nI kn) = kn := nw_nn_nI (by omega)
    refine nw_iload_n C 4 dX1_force_16 rfl 17 rfl ?_
    refine nw_callS C (mX1_isMinute _ C.hfl d t H hB) kX1_isMinute q861 (As := [.int t]) (rest := []) rfl rfl ⟨⟨Nat.le_of_ble_eq_true rfl, Nat.le_of_ble_eq_true rfl⟩, Nat.le_of_ble_eq_true rfl, Nat.le_of_ble_eq_true rfl⟩ (Nat.le_of_ble_eq_true rfl) (fun _ h8 h9 => absurd h9 (Nat.not_le.mpr h8)) dX1_force_17 20 rfl (nw_rdK ?_) nw_noX
    refine nw_ifeqB C 27 dX1_force_20 (by decide) 23 rfl (fun h21 => ?_) (fun h21 => ?_)
    · refine nw_iconst C (nI 0) dX1_force_27 (by decide) 28 rfl ?_
      refine nw_callS C (mX1_require _ C.hfl d false H hB) kX1_require q655 (As := [.int (b2i false)]) (rest := []) rfl rfl ⟨⟨Nat.le_of_ble_eq_true rfl, Nat.le_of_ble_eq_true rfl⟩, (show 1 + 1 ≤ 4 by omega), (show 6 + 6 ≤ 30 by omega)⟩ (Nat.le_of_ble_eq_true rfl) (fun _ h8 h9 => absurd h9 (Nat.not_le.mpr h8)) dX1_force_28 31 rfl ?_ ?_
      rotate_left
      · intro E9 w9 H22 hR23 hz24 hq25
        obtain ⟨rfl, hb26, hx27⟩ := hR23
        exact nw_out C (show (1 + 1) ≤ 4 by omega) (show (6 + 6) ≤ 30 by omega) ⟨⟨1, by simp [op_force, h12, h21, en_ivn, en_kn, hb7, hb26], rfl⟩, hext.trans hx27⟩
      intro v9 H22 hR23 hz24 hq25
      obtain ⟨rfl, hb28, rfl⟩ := hR23
      cases hb28
    · obtain ⟨tn, hk29, rfl⟩ := nw_rg_nat (by decide) (by decide) h21
      have en_tn : nw_nn (nI tn) = tn := nw_nn_nI (by omega)
      refine nw_iconst C (nI 1) dX1_force_23 (by decide) 24 rfl ?_
      refine nw_goto C 28 dX1_force_24 (by decide) ?_
      refine nw_callS C (mX1_requireT _ C.hfl d H hB) kX1_require q655 (As := [.int (b2i true)]) (rest := []) rfl rfl ⟨⟨Nat.le_of_ble_eq_true rfl, Nat.le_of_ble_eq_true rfl⟩, Nat.le_of_ble_eq_true rfl, Nat.le_of_ble_eq_true rfl⟩ (Nat.le_of_ble_eq_true rfl) (fun _ h8 h9 => absurd h9 (Nat.not_le.mpr h8)) dX1_force_28 31 rfl (nw_rdK ?_) nw_noX
      refine nw_aload_n C 1 dX1_force_31 rfl 32 rfl ?_
      refine nw_aload C 0 dX1_force_32 rfl 34 rfl ?_
      refine nw_callV C (mX1_found _ C.hfl d ro ad x σ sm (ad (500 + ivn)) (ad (600 + ivn)) (fun q => ro q = 2601 + ivn) ((sg_in σ).2 ivn) H hB hW ok hg9 hk10) kX1_found q407 (hx.is C (ci := 0) rfl) (As := [.ref (ad (500 + ivn))]) (rest := []) rfl rfl ⟨⟨Nat.le_of_ble_eq_true rfl, Nat.le_of_ble_eq_true rfl⟩, Nat.le_of_ble_eq_true rfl, Nat.le_of_ble_eq_true rfl⟩ (Nat.le_of_ble_eq_true rfl) (fun _ h8 h9 => absurd h9 (Nat.not_le.mpr h8)) dX1_force_34 37 rfl (nw_rdK ?_) nw_noX
      have hki := oki.2 ivn (by omega)
      have hki4 := hki.1.2.2.2.2.1
      generalize hfo : sp_foundS σ ((sg_in σ).2 ivn) = o
      rcases o with _ | f
      · show nwV X _ _ 6 H 1 6 37 [(4, .ref (ad (500 + ivn))), (0, .ref x), (1, .int (nI ivn)), (2, .int (nI kn)), (3, .int (nI tn))] [.int (oI none)]
        refine nw_istore C [(5, .int (oI none)), (4, .ref (ad (500 + ivn))), (0, .ref x), (1, .int (nI ivn)), (2, .int (nI kn)), (3, .int (nI tn))] dX1_force_37 (by decide) rfl 39 rfl ?_
        refine nw_iload_n C 4 dX1_force_39 rfl 40 rfl ?_
        refine nw_aload C 1 dX1_force_40 rfl 42 rfl ?_
        refine nw_getN C hg11 (T := TX12) rfl in_X12 3 (by decide) q1200 rfl rfl dX1_force_42 45 rfl ?_
        refine nw_icmpneN C (by omega) 73 dX1_force_45 (by decide) 48 rfl (fun h30 => ?_) (fun h30 => ?_)
        · have hfF : sp_forced σ ((sg_in σ).2 ivn) kn tn = false := by
            unfold sp_forced
            rw [hfo]
            simp
            first | done | omega
          refine nw_iconst C (nI 0) dX1_force_73 (by decide) 74 rfl ?_
          refine nw_callS C (mX1_requireState _ C.hfl d false H hB) kX1_requireState q832 (As := [.int (b2i false)]) (rest := []) rfl rfl ⟨⟨Nat.le_of_ble_eq_true rfl, Nat.le_of_ble_eq_true rfl⟩, (show 1 + 1 ≤ 4 by omega), (show 6 + 6 ≤ 30 by omega)⟩ (Nat.le_of_ble_eq_true rfl) (fun _ h8 h9 => absurd h9 (Nat.not_le.mpr h8)) dX1_force_74 77 rfl ?_ ?_
          rotate_left
          · intro E9 w9 H31 hR32 hz33 hq34
            obtain ⟨rfl, hb35, hx36⟩ := hR32
            exact nw_out C (show (1 + 1) ≤ 4 by omega) (show (6 + 6) ≤ 30 by omega) ⟨⟨2, by simp [op_force, h12, h21, en_ivn, en_kn, en_tn, hb7, hfF, hb35], rfl⟩, hext.trans hx36⟩
          intro v9 H31 hR32 hz33 hq34
          obtain ⟨rfl, hb37, rfl⟩ := hR32
          cases hb37
        · refine nw_iload C 0 dX1_force_48 rfl 50 rfl ?_
          refine nw_iconst C (oI none) dX1_force_50 (by decide) 51 rfl ?_
          refine nw_icmpeqT C rfl 73 dX1_force_51 (by decide) ?_
          have hfF : sp_forced σ ((sg_in σ).2 ivn) kn tn = false := by
            unfold sp_forced
            rw [hfo]
            simp
            first | done | omega
          refine nw_iconst C (nI 0) dX1_force_73 (by decide) 74 rfl ?_
          refine nw_callS C (mX1_requireState _ C.hfl d false H hB) kX1_requireState q832 (As := [.int (b2i false)]) (rest := []) rfl rfl ⟨⟨Nat.le_of_ble_eq_true rfl, Nat.le_of_ble_eq_true rfl⟩, (show 1 + 1 ≤ 4 by omega), (show 6 + 6 ≤ 30 by omega)⟩ (Nat.le_of_ble_eq_true rfl) (fun _ h8 h9 => absurd h9 (Nat.not_le.mpr h8)) dX1_force_74 77 rfl ?_ ?_
          rotate_left
          · intro E9 w9 H39 hR40 hz41 hq42
            obtain ⟨rfl, hb43, hx44⟩ := hR40
            exact nw_out C (show (1 + 1) ≤ 4 by omega) (show (6 + 6) ≤ 30 by omega) ⟨⟨2, by simp [op_force, h12, h21, en_ivn, en_kn, en_tn, hb7, hfF, hb43], rfl⟩, hext.trans hx44⟩
          intro v9 H39 hR40 hz41 hq42
          obtain ⟨rfl, hb45, rfl⟩ := hR40
          cases hb45
      · show nwV X _ _ 6 H 1 6 37 [(4, .ref (ad (500 + ivn))), (0, .ref x), (1, .int (nI ivn)), (2, .int (nI kn)), (3, .int (nI tn))] [.int (nI f)]
        have htt := sp_foundS_in hfo
        refine nw_istore C [(5, .int (nI f)), (4, .ref (ad (500 + ivn))), (0, .ref x), (1, .int (nI ivn)), (2, .int (nI kn)), (3, .int (nI tn))] dX1_force_37 (by decide) rfl 39 rfl ?_
        refine nw_iload_n C 4 dX1_force_39 rfl 40 rfl ?_
        refine nw_aload C 1 dX1_force_40 rfl 42 rfl ?_
        refine nw_getN C hg11 (T := TX12) rfl in_X12 3 (by decide) q1200 rfl rfl dX1_force_42 45 rfl ?_
        refine nw_icmpneN C (by omega) 73 dX1_force_45 (by decide) 48 rfl (fun h46 => ?_) (fun h46 => ?_)
        · have hfF : sp_forced σ ((sg_in σ).2 ivn) kn tn = false := by
            unfold sp_forced
            rw [hfo]
            simp
            first | done | omega
          refine nw_iconst C (nI 0) dX1_force_73 (by decide) 74 rfl ?_
          refine nw_callS C (mX1_requireState _ C.hfl d false H hB) kX1_requireState q832 (As := [.int (b2i false)]) (rest := []) rfl rfl ⟨⟨Nat.le_of_ble_eq_true rfl, Nat.le_of_ble_eq_true rfl⟩, (show 1 + 1 ≤ 4 by omega), (show 6 + 6 ≤ 30 by omega)⟩ (Nat.le_of_ble_eq_true rfl) (fun _ h8 h9 => absurd h9 (Nat.not_le.mpr h8)) dX1_force_74 77 rfl ?_ ?_
          rotate_left
          · intro E9 w9 H47 hR48 hz49 hq50
            obtain ⟨rfl, hb51, hx52⟩ := hR48
            exact nw_out C (show (1 + 1) ≤ 4 by omega) (show (6 + 6) ≤ 30 by omega) ⟨⟨2, by simp [op_force, h12, h21, en_ivn, en_kn, en_tn, hb7, hfF, hb51], rfl⟩, hext.trans hx52⟩
          intro v9 H47 hR48 hz49 hq50
          obtain ⟨rfl, hb53, rfl⟩ := hR48
          cases hb53
        · refine nw_iload C 0 dX1_force_48 rfl 50 rfl ?_
          refine nw_iconst C (oI none) dX1_force_50 (by decide) 51 rfl ?_
          refine nw_icmpeqF C (nI_m1 (by omega)) 73 dX1_force_51 (by decide) 54 rfl ?_
          refine nw_iload_n C 5 dX1_force_54 rfl 55 rfl ?_
          refine nw_iload C 0 dX1_force_55 rfl 57 rfl ?_
          refine nw_icmpltN C (by omega) 73 dX1_force_57 (by decide) 60 rfl (fun h55 => ?_) (fun h55 => ?_)
          · have hfF : sp_forced σ ((sg_in σ).2 ivn) kn tn = false := by
              unfold sp_forced
              rw [hfo]
              simp
              first | done | omega
            refine nw_iconst C (nI 0) dX1_force_73 (by decide) 74 rfl ?_
            refine nw_callS C (mX1_requireState _ C.hfl d false H hB) kX1_requireState q832 (As := [.int (b2i false)]) (rest := []) rfl rfl ⟨⟨Nat.le_of_ble_eq_true rfl, Nat.le_of_ble_eq_true rfl⟩, (show 1 + 1 ≤ 4 by omega), (show 6 + 6 ≤ 30 by omega)⟩ (Nat.le_of_ble_eq_true rfl) (fun _ h8 h9 => absurd h9 (Nat.not_le.mpr h8)) dX1_force_74 77 rfl ?_ ?_
            rotate_left
            · intro E9 w9 H56 hR57 hz58 hq59
              obtain ⟨rfl, hb60, hx61⟩ := hR57
              exact nw_out C (show (1 + 1) ≤ 4 by omega) (show (6 + 6) ≤ 30 by omega) ⟨⟨2, by simp [op_force, h12, h21, en_ivn, en_kn, en_tn, hb7, hfF, hb60], rfl⟩, hext.trans hx61⟩
            intro v9 H56 hR57 hz58 hq59
            obtain ⟨rfl, hb62, rfl⟩ := hR57
            cases hb62
          · refine nw_iload_n C 5 dX1_force_60 rfl 61 rfl ?_
            refine nw_aload C 1 dX1_force_61 rfl 63 rfl ?_
            refine nw_getN C hg11 (T := TX12) rfl in_X12 4 (by decide) q1202 rfl rfl dX1_force_63 66 rfl ?_
            generalize hol : in_l ((sg_in σ).2 ivn) = ol
            rcases ol with _ | lz
            · show nwV X _ _ 6 H 1 6 66 [(5, .int (nI f)), (4, .ref (ad (500 + ivn))), (0, .ref x), (1, .int (nI ivn)), (2, .int (nI kn)), (3, .int (nI tn))] [.int (oI none), .int (nI tn)]
              refine nw_icmplt C 73 dX1_force_66 (by decide) 69 rfl (fun h63 => absurd h63 (nw_m1n (by omega))) (fun _ => ?_)
              have hfF : sp_forced σ ((sg_in σ).2 ivn) kn tn = true := by
                unfold sp_forced
                rw [hfo]
                rw [hol]
                simp
                first | done | omega
              refine nw_iconst C (nI 1) dX1_force_69 (by decide) 70 rfl ?_
              refine nw_goto C 74 dX1_force_70 (by decide) ?_
              refine nw_callS C (mX1_requireStateT _ C.hfl d H hB) kX1_requireState q832 (As := [.int (b2i true)]) (rest := []) rfl rfl ⟨⟨Nat.le_of_ble_eq_true rfl, Nat.le_of_ble_eq_true rfl⟩, Nat.le_of_ble_eq_true rfl, Nat.le_of_ble_eq_true rfl⟩ (Nat.le_of_ble_eq_true rfl) (fun _ h8 h9 => absurd h9 (Nat.not_le.mpr h8)) dX1_force_74 77 rfl (nw_rdK ?_) nw_noX
              refine nw_aload C 1 dX1_force_77 rfl 79 rfl ?_
              refine nw_dup C dX1_force_79 rfl 80 rfl ?_
              refine nw_getN C hg11 (T := TX12) rfl in_X12 3 (by decide) q1200 rfl rfl dX1_force_80 83 rfl ?_
              refine nw_iconst C (nI 1) dX1_force_83 (by decide) 84 rfl ?_
              refine nw_iaddN C dX1_force_84 85 rfl ?_
              refine nw_putN C hg11 (Or.inl (by rw [show ro (ad (500 + ivn)) = 501 + ivn from (hR.2.2.2.2.2.2.2.1.2.2.2 ivn (by omega)).1, rp_501 ivn (by omega)]; decide)) (T := TX12) (ty0 := tyX12) rfl in_X12 tyX12_ok nmX12 3 (by decide) q1200 rfl rfl rfl rfl (Nat.le_of_ble_eq_true rfl) dX1_force_85 88 rfl (fun H64 ho65 hz66 hq67 => ?_)
              have ho65 : nwO d (ad (500 + ivn)) 7 [.int (nI (in_a ((sg_in σ).2 ivn))), .ref (ad (600 + ivn)), .int (nI (in_v ((sg_in σ).2 ivn))), .int (nI (in_s ((sg_in σ).2 ivn) + 1)), .int (oI (in_l ((sg_in σ).2 ivn)))] H64 := ho65
              refine nw_aload C 1 dX1_force_88 rfl 90 rfl ?_
              refine nw_iload_n C 5 dX1_force_90 rfl 91 rfl ?_
              refine nw_putN C ho65 (Or.inl (by rw [show ro (ad (500 + ivn)) = 501 + ivn from (hR.2.2.2.2.2.2.2.1.2.2.2 ivn (by omega)).1, rp_501 ivn (by omega)]; decide)) (T := TX12) (ty0 := tyX12) rfl in_X12 tyX12_ok nmX12 4 (by decide) q1202 rfl rfl rfl rfl (Nat.le_of_ble_eq_true rfl) dX1_force_91 94 rfl (fun H68 ho69 hz70 hq71 => ?_)
              have ho69 : nwO d (ad (500 + ivn)) 7 [.int (nI (in_a ((sg_in σ).2 ivn))), .ref (ad (600 + ivn)), .int (nI (in_v ((sg_in σ).2 ivn))), .int (nI (in_s ((sg_in σ).2 ivn) + 1)), .int (nI tn)] H68 := ho69
              have hz72 : H68.size = H.size := hz70.trans hz66
              have hq73 : ∀ q9 : Nat, q9 ≠ ad (500 + ivn) → H68[q9]? = H[q9]? := fun q9 n9 => (hq71 q9 n9).trans (hq67 q9 n9)
              have hRc := hR.ext hext
              have hR1 := tr_pIn hRc (k := ivn) (v := in_force ((sg_in σ).2 ivn) tn) (by omega) hz72 hq73 rfl ho69
              have hA9 : nwAC ro H (ad (500 + ivn)) := (Or.inl (by rw [show ro (ad (500 + ivn)) = 501 + ivn from (hR.2.2.2.2.2.2.2.1.2.2.2 ivn (by omega)).1, rp_501 ivn (by omega)]; decide))
              have hAq : ∀ q8, q8 < H.size → q8 = ad (500 + ivn) → nwAC ro H q8 := fun q8 _ h9 => by rw [h9]; exact hA9
              obtain ⟨σ1, hσ1⟩ : ∃ t9 : spSg, t9 = st_in σ ((sg_in σ).1, sp_up (sg_in σ).2 ivn (in_force ((sg_in σ).2 ivn) tn)) := ⟨_, rfl⟩
              rw [← hσ1] at hR1
              have hlen : (sg_in σ1).1 = (sg_in σ).1 := by rw [hσ1]; rfl
              have hin1 : (sg_in σ1).2 ivn = in_force ((sg_in σ).2 ivn) tn := by rw [hσ1]; exact sp_up_at _ _ _
              have hE := hE.kept (fun q9 g9 hb9 => (fun q9 _ n9 => hq73 q9 n9) q9 g9 (fun h9 => hb9 (C.hB q9 (hAq q9 g9 h9))))
              have hsz : H.size ≤ H68.size := Nat.le_trans hext.1 (Nat.le_of_eq hz72.symm)
              have hB := Nat.le_trans hB0 hsz
              have ok : spOk σ1 := by rw [hσ1]; exact ⟨okg, okl, okf, oku, okp, oki.put ⟨⟨hki.1.1, hki.1.2.1, hki.1.2.2.1, hki.1.2.2.2.1, by show in_s ((sg_in σ).2 ivn) + 1 ≤ 4; omega, fun v9 e9 => by cases e9; omega⟩, hki.2⟩, okw, okd, okk, oka⟩
              have hR := hR1
              have hW := hR.wc
              obtain ⟨hx, hcG, hcLa, hcFo, hcGu, hcPo, hcIn, hcWi, hcWo, hcKe⟩ := id hW
              obtain ⟨okg, okl, okf, oku, okp, oki, okw, okd, okk, oka⟩ := id ok
              have hn64 : gr_n (sg_gr σ1) ≤ 64 := okg.n
              have oku1 := oku.1
              have oki1 := oki.1
              have okp1 := okp.1
              have okw1 := okw.1
              have okl1 := okl.1
              have okf1 := okf.1
              have hg74 : nwIn d (ad (500 + ivn)) (ad (600 + ivn)) (fun q => ro q = 2601 + ivn) ((sg_in σ1).2 ivn) H68 := hcIn.2 ivn (by omega)
              have hk75 : okI1 (sg_gr σ1) ((sg_in σ1).2 ivn) := oki.2 ivn (by omega)
              have hg76 : nwO d (ad (500 + ivn)) 7 [.int (nI (in_a ((sg_in σ1).2 ivn))), .ref (ad (600 + ivn)), .int (nI (in_v ((sg_in σ1).2 ivn))), .int (nI (in_s ((sg_in σ1).2 ivn))), .int (oI (in_l ((sg_in σ1).2 ivn)))] H68 := hg74.1
              refine nw_aload C 1 dX1_force_94 rfl 96 rfl ?_
              refine nw_getN C hg76 (T := TX12) rfl in_X12 3 (by decide) q1200 rfl rfl dX1_force_96 99 rfl ?_
              have hop : op_force σ (nI ivn) (nI kn) (nI tn) = (0, nI (in_s ((sg_in σ).2 ivn) + 1), σ1) := by rw [hσ1]; simp [op_force, h12, h21, en_ivn, en_kn, en_tn, hb7, hfF]
              exact nw_iret C dX1_force_99 (by omega) (by omega) (by rw [hop]; exact ⟨⟨rfl, congrArg (fun z => some (Value.int (nI z))) (show in_s ((sg_in σ1).2 ivn) = in_s ((sg_in σ).2 ivn) + 1 by rw [hin1]; rfl)⟩, ok, hsz, ro, ad, hR, (fun _ _ => rfl)⟩)
            · show nwV X _ _ 6 H 1 6 66 [(5, .int (nI f)), (4, .ref (ad (500 + ivn))), (0, .ref x), (1, .int (nI ivn)), (2, .int (nI kn)), (3, .int (nI tn))] [.int (nI lz), .int (nI tn)]
              have hlz := hki.1.2.2.2.2.2 lz hol
              refine nw_icmpltN C (by omega) 73 dX1_force_66 (by decide) 69 rfl (fun h77 => ?_) (fun h77 => ?_)
              · have hfF : sp_forced σ ((sg_in σ).2 ivn) kn tn = false := by
                  unfold sp_forced
                  rw [hfo]
                  rw [hol]
                  simp
                  first | done | omega
                refine nw_iconst C (nI 0) dX1_force_73 (by decide) 74 rfl ?_
                refine nw_callS C (mX1_requireState _ C.hfl d false H hB) kX1_requireState q832 (As := [.int (b2i false)]) (rest := []) rfl rfl ⟨⟨Nat.le_of_ble_eq_true rfl, Nat.le_of_ble_eq_true rfl⟩, (show 1 + 1 ≤ 4 by omega), (show 6 + 6 ≤ 30 by omega)⟩ (Nat.le_of_ble_eq_true rfl) (fun _ h8 h9 => absurd h9 (Nat.not_le.mpr h8)) dX1_force_74 77 rfl ?_ ?_
                rotate_left
                · intro E9 w9 H78 hR79 hz80 hq81
                  obtain ⟨rfl, hb82, hx83⟩ := hR79
                  exact nw_out C (show (1 + 1) ≤ 4 by omega) (show (6 + 6) ≤ 30 by omega) ⟨⟨2, by simp [op_force, h12, h21, en_ivn, en_kn, en_tn, hb7, hfF, hb82], rfl⟩, hext.trans hx83⟩
                intro v9 H78 hR79 hz80 hq81
                obtain ⟨rfl, hb84, rfl⟩ := hR79
                cases hb84
              · have hfF : sp_forced σ ((sg_in σ).2 ivn) kn tn = true := by
                  unfold sp_forced
                  rw [hfo]
                  rw [hol]
                  simp
                  first | done | omega
                refine nw_iconst C (nI 1) dX1_force_69 (by decide) 70 rfl ?_
                refine nw_goto C 74 dX1_force_70 (by decide) ?_
                refine nw_callS C (mX1_requireStateT _ C.hfl d H hB) kX1_requireState q832 (As := [.int (b2i true)]) (rest := []) rfl rfl ⟨⟨Nat.le_of_ble_eq_true rfl, Nat.le_of_ble_eq_true rfl⟩, Nat.le_of_ble_eq_true rfl, Nat.le_of_ble_eq_true rfl⟩ (Nat.le_of_ble_eq_true rfl) (fun _ h8 h9 => absurd h9 (Nat.not_le.mpr h8)) dX1_force_74 77 rfl (nw_rdK ?_) nw_noX
                refine nw_aload C 1 dX1_force_77 rfl 79 rfl ?_
                refine nw_dup C dX1_force_79 rfl 80 rfl ?_
                refine nw_getN C hg11 (T := TX12) rfl in_X12 3 (by decide) q1200 rfl rfl dX1_force_80 83 rfl ?_
                refine nw_iconst C (nI 1) dX1_force_83 (by decide) 84 rfl ?_
                refine nw_iaddN C dX1_force_84 85 rfl ?_
                refine nw_putN C hg11 (Or.inl (by rw [show ro (ad (500 + ivn)) = 501 + ivn from (hR.2.2.2.2.2.2.2.1.2.2.2 ivn (by omega)).1, rp_501 ivn (by omega)]; decide)) (T := TX12) (ty0 := tyX12) rfl in_X12 tyX12_ok nmX12 3 (by decide) q1200 rfl rfl rfl rfl (Nat.le_of_ble_eq_true rfl) dX1_force_85 88 rfl (fun H85 ho86 hz87 hq88 => ?_)
                have ho86 : nwO d (ad (500 + ivn)) 7 [.int (nI (in_a ((sg_in σ).2 ivn))), .ref (ad (600 + ivn)), .int (nI (in_v ((sg_in σ).2 ivn))), .int (nI (in_s ((sg_in σ).2 ivn) + 1)), .int (oI (in_l ((sg_in σ).2 ivn)))] H85 := ho86
                refine nw_aload C 1 dX1_force_88 rfl 90 rfl ?_
                refine nw_iload_n C 5 dX1_force_90 rfl 91 rfl ?_
                refine nw_putN C ho86 (Or.inl (by rw [show ro (ad (500 + ivn)) = 501 + ivn from (hR.2.2.2.2.2.2.2.1.2.2.2 ivn (by omega)).1, rp_501 ivn (by omega)]; decide)) (T := TX12) (ty0 := tyX12) rfl in_X12 tyX12_ok nmX12 4 (by decide) q1202 rfl rfl rfl rfl (Nat.le_of_ble_eq_true rfl) dX1_force_91 94 rfl (fun H89 ho90 hz91 hq92 => ?_)
                have ho90 : nwO d (ad (500 + ivn)) 7 [.int (nI (in_a ((sg_in σ).2 ivn))), .ref (ad (600 + ivn)), .int (nI (in_v ((sg_in σ).2 ivn))), .int (nI (in_s ((sg_in σ).2 ivn) + 1)), .int (nI tn)] H89 := ho90
                have hz93 : H89.size = H.size := hz91.trans hz87
                have hq94 : ∀ q9 : Nat, q9 ≠ ad (500 + ivn) → H89[q9]? = H[q9]? := fun q9 n9 => (hq92 q9 n9).trans (hq88 q9 n9)
                have hRc := hR.ext hext
                have hR1 := tr_pIn hRc (k := ivn) (v := in_force ((sg_in σ).2 ivn) tn) (by omega) hz93 hq94 rfl ho90
                have hA9 : nwAC ro H (ad (500 + ivn)) := (Or.inl (by rw [show ro (ad (500 + ivn)) = 501 + ivn from (hR.2.2.2.2.2.2.2.1.2.2.2 ivn (by omega)).1, rp_501 ivn (by omega)]; decide))
                have hAq : ∀ q8, q8 < H.size → q8 = ad (500 + ivn) → nwAC ro H q8 := fun q8 _ h9 => by rw [h9]; exact hA9
                obtain ⟨σ1, hσ1⟩ : ∃ t9 : spSg, t9 = st_in σ ((sg_in σ).1, sp_up (sg_in σ).2 ivn (in_force ((sg_in σ).2 ivn) tn)) := ⟨_, rfl⟩
                rw [← hσ1] at hR1
                have hlen : (sg_in σ1).1 = (sg_in σ).1 := by rw [hσ1]; rfl
                have hin1 : (sg_in σ1).2 ivn = in_force ((sg_in σ).2 ivn) tn := by rw [hσ1]; exact sp_up_at _ _ _
                have hE := hE.kept (fun q9 g9 hb9 => (fun q9 _ n9 => hq94 q9 n9) q9 g9 (fun h9 => hb9 (C.hB q9 (hAq q9 g9 h9))))
                have hsz : H.size ≤ H89.size := Nat.le_trans hext.1 (Nat.le_of_eq hz93.symm)
                have hB := Nat.le_trans hB0 hsz
                have ok : spOk σ1 := by rw [hσ1]; exact ⟨okg, okl, okf, oku, okp, oki.put ⟨⟨hki.1.1, hki.1.2.1, hki.1.2.2.1, hki.1.2.2.2.1, by show in_s ((sg_in σ).2 ivn) + 1 ≤ 4; omega, fun v9 e9 => by cases e9; omega⟩, hki.2⟩, okw, okd, okk, oka⟩
                have hR := hR1
                have hW := hR.wc
                obtain ⟨hx, hcG, hcLa, hcFo, hcGu, hcPo, hcIn, hcWi, hcWo, hcKe⟩ := id hW
                obtain ⟨okg, okl, okf, oku, okp, oki, okw, okd, okk, oka⟩ := id ok
                have hn64 : gr_n (sg_gr σ1) ≤ 64 := okg.n
                have oku1 := oku.1
                have oki1 := oki.1
                have okp1 := okp.1
                have okw1 := okw.1
                have okl1 := okl.1
                have okf1 := okf.1
                have hg95 : nwIn d (ad (500 + ivn)) (ad (600 + ivn)) (fun q => ro q = 2601 + ivn) ((sg_in σ1).2 ivn) H89 := hcIn.2 ivn (by omega)
                have hk96 : okI1 (sg_gr σ1) ((sg_in σ1).2 ivn) := oki.2 ivn (by omega)
                have hg97 : nwO d (ad (500 + ivn)) 7 [.int (nI (in_a ((sg_in σ1).2 ivn))), .ref (ad (600 + ivn)), .int (nI (in_v ((sg_in σ1).2 ivn))), .int (nI (in_s ((sg_in σ1).2 ivn))), .int (oI (in_l ((sg_in σ1).2 ivn)))] H89 := hg95.1
                refine nw_aload C 1 dX1_force_94 rfl 96 rfl ?_
                refine nw_getN C hg97 (T := TX12) rfl in_X12 3 (by decide) q1200 rfl rfl dX1_force_96 99 rfl ?_
                have hop : op_force σ (nI ivn) (nI kn) (nI tn) = (0, nI (in_s ((sg_in σ).2 ivn) + 1), σ1) := by rw [hσ1]; simp [op_force, h12, h21, en_ivn, en_kn, en_tn, hb7, hfF]
                exact nw_iret C dX1_force_99 (by omega) (by omega) (by rw [hop]; exact ⟨⟨rfl, congrArg (fun z => some (Value.int (nI z))) (show in_s ((sg_in σ1).2 ivn) = in_s ((sg_in σ).2 ivn) + 1 by rw [hin1]; rfl)⟩, ok, hsz, ro, ad, hR, (fun _ _ => rfl)⟩)
