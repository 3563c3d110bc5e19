theorem b2i_fits (b : Bool) : fits .boolean (.int (b2i b)) = true := by cases b <;> rfl
/-! ===== the component's methods that change a cell ===== -/
theorem sp_oi_lt {g : Int32} {n : Nat} (hn : n < 2 ^ 30) (h : nw_ixO g n = true) : ∃ o : Option Nat, (∀ k, o = some k → k < n) ∧ oI o = g ∧ sp_oi g = o := by
  obtain ⟨o, h1, h2⟩ := nw_ixO_nat hn h
  exact ⟨o, h1, h2, by rw [← h2]; exact sp_oi_oI (fun v hv => by have := h1 v hv; omega)⟩
theorem nw_upK {d : nwD} {f : Nat → Nat} {c k j : Nat} : va_up (fun c => some (nd_st d (f c))) c (some (nd_st d k)) j = some (nd_st d (sp_up f c k j)) := by
  unfold va_up sp_up
  by_cases e : j = c
  · rw [if_pos e, if_pos e]
  · rw [if_neg e, if_neg e]
section WKS
variable {d : nwD} {X : nwX} {A : Nat → Prop} {Q : State → Prop} {nL : Nat} {H H0 : Heap} {k n pc : Nat} {lv : List (Nat × Value)} {rest : List Value} {own mn : String} {cc : ByteArray} {ret : Option FieldType} {rm : Room} {tb : List ExceptionTableEntry}
/-- one of the four kinds into an array of kinds -/
theorem nw_aastKk (C : nwC d X A H0 own mn cc nL ret rm tb) (h0 : nd_B d ≤ H0.size) {a m kk i : Nat} {f : Nat → Option Nat} (hI : nwR d a 4 m f H) (hAa : A a) (hi : i < m ∧ m < 2 ^ 31) (hk : kk < 4) (dd : decode cc pc = .ok (.aastore, 1)) (q : Nat) (hq : pc + 1 = q)
    (K : ∀ H1 : Heap, nwR d a 4 m (va_up f i (some (nd_st d kk))) H1 → H1.size = H.size → (∀ q, q ≠ a → H1[q]? = H[q]?) → nwV X A Q nL H1 k n q lv rest) : nwV X A Q nL H k n pc lv (.ref (nd_st d kk) :: .int (nI i) :: .ref a :: rest) := by
  intro ls locs hl hS
  have hE := C.Z hS
  match kk, hk, K with
  | 0, _, K => exact nw_aastKN C hI hAa hi (va_O.is hE.2.2.2.1.1) q2148 dd q hq K ls locs hl hS
  | 1, _, K => exact nw_aastKN C hI hAa hi (va_O.is hE.2.2.2.1.2.1) q2149 dd q hq K ls locs hl hS
  | 2, _, K => exact nw_aastKN C hI hAa hi (va_O.is hE.2.2.2.1.2.2.1) q2150 dd q hq K ls locs hl hS
  | 3, _, K => exact nw_aastKN C hI hAa hi (va_O.is hE.2.2.2.1.2.2.2) q2151 dd q hq K ls locs hl hS
end WKS
theorem nw_upO {f : Nat → Option Nat} {k j : Nat} {o : Option Nat} {g : Int32} (h : oI o = g) : upd (fun k => oI (f k)) k g j = oI (sp_up f k o j) := by
  subst h
  unfold upd sp_up
  by_cases e : j = k
  · rw [if_pos e, if_pos e]
  · rw [if_neg e, if_neg e]
theorem kX6_count : nwPV "NightwatchWall$Ground" yX6_count cX6_count 4 (some .int) 1 := ⟨⟨q766, q767, q101, q768⟩, rfl, by decide +kernel, by decide +kernel, by decide +kernel⟩
set_option maxHeartbeats 4000000 in
theorem mX1_light (l : Launch) (hf : l.flags = flags0) (d : nwD) (ro ad : Nat → Nat) (x : Nat) (σ : spSg) (sm : Int64) (lp : Int32) (b : Bool) (H : Heap) (hB : nd_B d ≤ H.size) (hR : nwWR d ro ad x σ sm H) (ok : spOk σ) : nwMt l d yX1_light cX1_light 3 (some .int) 7 155 1 6 [.ref x, .int lp, .int (b2i b)] H (nwCv d ro x sm (op_light σ lp b) H) (nwRx ((op_light σ lp b).1, 0) [cIO] H) (nwAC ro H) := by
  refine nw_start "NightwatchWall" "light" hf (by decide +kernel) rfl rfl (fun _ h => Or.inr h) (nwAC_B hR hB) (Nat.le_of_ble_eq_true rfl) ?_
  intro X C
  have hW := hR.wc
  have hrx0 := hR.2.1.2
  have hW0 := hW
  have hB0 := hB
  have hE := C.E0
  have hext : nwExt H H := nwExt.rfl
  obtain ⟨hx, hcG, hcLa, hcFo, hcGu, hcPo, hcIn, hcWi, hcWo, hcKe⟩ := id hW
  obtain ⟨okg, okl, okf, oku, okp, oki, okw, okd, okk, oka⟩ := id ok
  have hn64 : gr_n (sg_gr σ) ≤ 64 := okg.n
  have oku1 := oku.1
  have oki1 := oki.1
  have okp1 := okp.1
  have okw1 := okw.1
  have okl1 := okl.1
  have okf1 := okf.1
  show nwV X _ _ 3 H 0 0 0 [(0, .ref x), (1, .int lp), (2, .int (b2i b))] []
  refine nw_iload_n C 1 dX1_light_0 rfl 1 rfl ?_
  refine nw_aload_n C 0 dX1_light_1 rfl 2 rfl ?_
  refine nw_get C hx (T := TX1) rfl in_X1 1 (by decide) q222 (Or.inl rfl) rfl dX1_light_2 5 rfl ?_
  refine nw_callV C (mJ3_size _ C.hfl d (ad 1) ((sg_la σ).1) (fun k => ad (100 + k)) (fun q => ro q = 2002) H hB hcLa.1) kJ3_size q346 (hcLa.1.is C) (As := []) (rest := [.int lp]) rfl rfl ⟨⟨Nat.le_of_ble_eq_true rfl, Nat.le_of_ble_eq_true rfl⟩, Nat.le_of_ble_eq_true rfl, Nat.le_of_ble_eq_true rfl⟩ (Nat.le_of_ble_eq_true rfl) (fun _ h8 h9 => absurd h9 (Nat.not_le.mpr h8)) dX1_light_5 8 rfl (nw_rdK ?_) nw_noX
  refine nw_callS C (mX1_requireIndex _ C.hfl d lp ((sg_la σ).1) H hB) kX1_requireIndex q814 (As := [.int lp, .int (nI ((sg_la σ).1))]) (rest := []) rfl rfl ⟨⟨Nat.le_of_ble_eq_true rfl, Nat.le_of_ble_eq_true rfl⟩, (show 0 + 1 ≤ 1 by omega), (show 0 + 6 ≤ 6 by omega)⟩ (Nat.le_of_ble_eq_true rfl) (fun _ h8 h9 => absurd h9 (Nat.not_le.mpr h8)) dX1_light_8 11 rfl ?_ ?_
  rotate_left
  · intro E9 w9 H1 hR2 hz3 hq4
    obtain ⟨rfl, hb5, hx6⟩ := hR2
    exact nw_out C (show (0 + 1) ≤ 1 by omega) (show (0 + 6) ≤ 6 by omega) ⟨⟨0, by simp [op_light, hb5], rfl⟩, hext.trans hx6⟩
  intro v9 H1 hR2 hz3 hq4
  obtain ⟨rfl, hb7, rfl⟩ := hR2
  obtain ⟨ln, hk8, rfl⟩ := nw_ix_nat (by omega) hb7
  have en_ln : nw_nn (nI ln) = ln := nw_nn_nI (by omega)
  show nwV X _ _ 3 H (0 + 1) (0 + 6) 11 [(0, .ref x), (1, .int (nI ln)), (2, .int (b2i b))] []
  refine nw_wide (k' := 1) (n' := 6) (by omega) (by omega) ?_
  refine nw_aload_n C 0 dX1_light_11 rfl 12 rfl ?_
  refine nw_get C hx (T := TX1) rfl in_X1 1 (by decide) q222 (Or.inl rfl) rfl dX1_light_12 15 rfl ?_
  refine nw_iload_n C 1 dX1_light_15 rfl 16 rfl ?_
  refine nw_callV C (mJ3_get _ C.hfl d (ad 1) ((sg_la σ).1) (fun k => ad (100 + k)) (fun q => ro q = 2002) ln H hB hcLa.1 (by omega)) kJ3_get q350 (hcLa.1.is C) (As := [.int (nI ln)]) (rest := []) rfl rfl ⟨⟨Nat.le_of_ble_eq_true rfl, Nat.le_of_ble_eq_true rfl⟩, Nat.le_of_ble_eq_true rfl, Nat.le_of_ble_eq_true rfl⟩ (Nat.le_of_ble_eq_true rfl) (fun _ h8 h9 => absurd h9 (Nat.not_le.mpr h8)) dX1_light_16 19 rfl (nw_rdK ?_) nw_noX
  have hg9 : nwO d (ad (100 + ln)) 2 [.int (nI (((sg_la σ).2 ln).1)), .int (nI (((sg_la σ).2 ln).2.1)), .int (b2i (((sg_la σ).2 ln).2.2))] H := (hcLa.2 ln (by omega))
  refine nw_cast C (ci := 2) rfl (hg9.is C (ci := 2) rfl) q345 dX1_light_19 22 rfl ?_
  refine nw_iload_n C 2 dX1_light_22 rfl 23 rfl ?_
  refine nw_putN C hg9 (Or.inl (by rw [show ro (ad (100 + ln)) = 101 + ln from hR.2.2.2.1.2.2.2 ln (by omega), rp_101 ln (by omega)]; decide)) (T := TX8) (ty0 := tyX8) rfl in_X8 tyX8_ok nmX8 2 (by decide) q880 rfl rfl (b2i_narrow _) (b2i_fits _) (Nat.le_of_ble_eq_true rfl) dX1_light_23 26 rfl (fun H10 ho11 hz12 hq13 => ?_)
  have ho11 : nwO d (ad (100 + ln)) 2 [.int (nI (((sg_la σ).2 ln).1)), .int (nI (((sg_la σ).2 ln).2.1)), .int (b2i b)] H10 := ho11
  have hl9 := okl.2 ln (by omega)
  have hRc := hR.ext hext
  have hR1 := tr_pLa hRc (k := ln) (v := (((sg_la σ).2 ln).1, ((sg_la σ).2 ln).2.1, b)) (by omega) hz12 hq13 ho11
  have hA9 : nwAC ro H (ad (100 + ln)) := (Or.inl (by rw [show ro (ad (100 + ln)) = 101 + ln from hR.2.2.2.1.2.2.2 ln (by omega), rp_101 ln (by omega)]; decide))
  have hAq : ∀ q8, q8 < H.size → q8 = ad (100 + ln) → nwAC ro H q8 := fun q8 _ h9 => by rw [h9]; exact hA9
  obtain ⟨σ1, hσ1⟩ : ∃ t9 : spSg, t9 = st_la σ ((sg_la σ).1, sp_up (sg_la σ).2 ln (((sg_la σ).2 ln).1, ((sg_la σ).2 ln).2.1, b)) := ⟨_, rfl⟩
  rw [← hσ1] at hR1
  have hgr9 : sg_gr σ1 = sg_gr σ := by rw [hσ1]; rfl
  have hE := hE.kept (fun q9 g9 hb9 => (fun q9 _ n9 => hq13 q9 n9) q9 g9 (fun h9 => hb9 (C.hB q9 (hAq q9 g9 h9))))
  have hsz : H.size ≤ H10.size := Nat.le_trans hext.1 (Nat.le_of_eq hz12.symm)
  have hB := Nat.le_trans hB0 hsz
  have ok : spOk σ1 := by rw [hσ1]; exact ⟨okg, okl.put hl9, okf, oku, okp, oki, okw, okd, okk, oka⟩
  have hR := hR1
  have hW := hR.wc
  obtain ⟨hx, hcG, hcLa, hcFo, hcGu, hcPo, hcIn, hcWi, hcWo, hcKe⟩ := id hW
  obtain ⟨okg, okl, okf, oku, okp, oki, okw, okd, okk, oka⟩ := id ok
  have hn64 : gr_n (sg_gr σ1) ≤ 64 := okg.n
  have oku1 := oku.1
  have oki1 := oki.1
  have okp1 := okp.1
  have okw1 := okw.1
  have okl1 := okl.1
  have okf1 := okf.1
  refine nw_aload_n C 0 dX1_light_26 rfl 27 rfl ?_
  refine nw_callV C (mX1_bright _ C.hfl d ro ad x σ1 sm  H10 hB hW ok ) kX1_bright q547 (hx.is C (ci := 0) rfl) (As := []) (rest := []) rfl rfl ⟨⟨Nat.le_of_ble_eq_true rfl, Nat.le_of_ble_eq_true rfl⟩, Nat.le_of_ble_eq_true rfl, Nat.le_of_ble_eq_true rfl⟩ (Nat.le_of_ble_eq_true rfl) (fun _ h8 h9 => absurd h9 (Nat.not_le.mpr h8)) dX1_light_27 30 rfl (nw_rdK ?_) nw_noX
  have hop : op_light σ (nI ln) b = (0, nI (sp_brights (sg_gr σ) (sg_la (st_light σ ln b))), σ1) := by rw [hσ1]; simp [op_light, en_ln, hb7, st_light]
  exact nw_iret C dX1_light_30 (by omega) (by omega) (by rw [hop]; exact ⟨⟨rfl, congrArg (fun z => some (Value.int z)) (show nI (sp_brights (sg_gr σ1) (sg_la σ1)) = _ by rw [hσ1]; rfl)⟩, ok, hsz, ro, ad, hR, (fun _ _ => rfl)⟩)
set_option maxHeartbeats 4000000 in
theorem mX1_lay (l : Launch) (hf : l.flags = flags0) (d : nwD) (ro ad : Nat → Nat) (x : Nat) (σ : spSg) (sm : Int64) (c : Int32) (k : Int32) (H : Heap) (hB : nd_B d ≤ H.size) (hR : nwWR d ro ad x σ sm H) (ok : spOk σ) : nwMt l d yX1_lay cX1_lay 5 (some .int) 8 150 8 40 [.ref x, .int c, .int k] H (nwCv d ro x sm (op_lay σ c k) H) (nwRx ((op_lay σ c k).1, 0) [cIO, cIA, cIS] H) (nwAC ro H) := by
  refine nw_start "NightwatchWall" "lay" hf (by decide +kernel) rfl rfl (fun _ h => Or.inr h) (nwAC_B hR hB) (Nat.le_of_ble_eq_true rfl) ?_
  intro X C
  have hW := hR.wc
  have hrx0 := hR.2.1.2
  have hW0 := hW
  have hB0 := hB
  have hE := C.E0
  have hext : nwExt H H := nwExt.rfl
  obtain ⟨hx, hcG, hcLa, hcFo, hcGu, hcPo, hcIn, hcWi, hcWo, hcKe⟩ := id hW
  obtain ⟨okg, okl, okf, oku, okp, oki, okw, okd, okk, oka⟩ := id ok
  have hn64 : gr_n (sg_gr σ) ≤ 64 := okg.n
  have oku1 := oku.1
  have oki1 := oki.1
  have okp1 := okp.1
  have okw1 := okw.1
  have okl1 := okl.1
  have okf1 := okf.1
  show nwV X _ _ 5 H 0 0 0 [(0, .ref x), (1, .int c), (2, .int k)] []
  refine nw_aload_n C 0 dX1_lay_0 rfl 1 rfl ?_
  refine nw_iload_n C 1 dX1_lay_1 rfl 2 rfl ?_
  refine nw_callV C (mX1_groundAt _ C.hfl d ro ad x σ sm c H hB hW ok) kX1_groundAt q810 (hx.is C (ci := 0) rfl) (As := [.int c]) (rest := []) rfl rfl ⟨⟨Nat.le_of_ble_eq_true rfl, Nat.le_of_ble_eq_true rfl⟩, (show 0 + 1 ≤ 8 by omega), (show 0 + 6 ≤ 40 by omega)⟩ (Nat.le_of_ble_eq_true rfl) (fun _ h8 h9 => absurd h9 (Nat.not_le.mpr h8)) dX1_lay_2 5 rfl ?_ ?_
  rotate_left
  · intro E9 w9 H1 hR2 hz3 hq4
    obtain ⟨rfl, hb5, hx6⟩ := hR2
    exact nw_out C (show (0 + 1) ≤ 8 by omega) (show (0 + 6) ≤ 40 by omega) ⟨⟨0, by simp [op_lay, hb5], rfl⟩, hext.trans hx6⟩
  intro v9 H1 hR2 hz3 hq4
  obtain ⟨rfl, hb7, rfl⟩ := hR2
  obtain ⟨cn, hk8, rfl⟩ := nw_ix_nat (by omega) hb7
  have en_cn : nw_nn (nI cn) = cn := nw_nn_nI (by omega)
  obtain ⟨hgro, hgrl, hgrg⟩ := hcG.here (by assumption)
  show nwV X _ _ 5 H (0 + 1) (0 + 6) 5 [(0, .ref x), (1, .int (nI cn)), (2, .int k)] [.ref (ad 9)]
  refine nw_wide (k' := 1) (n' := 6) (by omega) (by omega) ?_
  refine nw_astore_n C [(3, .ref (ad 9)), (0, .ref x), (1, .int (nI cn)), (2, .int k)] dX1_lay_5 (by decide) rfl 6 rfl ?_
  refine nw_iconst C (nI 0) dX1_lay_6 (by decide) 7 rfl ?_
  refine nw_iconst C (nI 3) dX1_lay_7 (by decide) 8 rfl ?_
  refine nw_iload_n C 3 dX1_lay_8 rfl 9 rfl ?_
  refine nw_callS C (mX1_isFromR _ C.hfl d (nI 0) (nI 3) k H hB) kX1_isFrom q579 (As := [.int (nI 0), .int (nI 3), .int k]) (rest := []) rfl rfl ⟨⟨Nat.le_of_ble_eq_true rfl, Nat.le_of_ble_eq_true rfl⟩, Nat.le_of_ble_eq_true rfl, Nat.le_of_ble_eq_true rfl⟩ (Nat.le_of_ble_eq_true rfl) (fun _ h8 h9 => absurd h9 (Nat.not_le.mpr h8)) dX1_lay_9 12 rfl (nw_rdK ?_) nw_noX
  show nwV X _ _ 5 H 1 6 12 [(3, .ref (ad 9)), (0, .ref x), (1, .int (nI cn)), (2, .int k)] [.int (b2i (nw_rg 0 3 k))]
  refine nw_callS C (mX1_require _ C.hfl d (nw_rg 0 3 k) H hB) kX1_require q655 (As := [.int (b2i (nw_rg 0 3 k))]) (rest := []) rfl rfl ⟨⟨Nat.le_of_ble_eq_true rfl, Nat.le_of_ble_eq_true rfl⟩, (show 1 + 1 ≤ 8 by omega), (show 6 + 6 ≤ 40 by omega)⟩ (Nat.le_of_ble_eq_true rfl) (fun _ h8 h9 => absurd h9 (Nat.not_le.mpr h8)) dX1_lay_12 15 rfl ?_ ?_
  rotate_left
  · intro E9 w9 H9 hR10 hz11 hq12
    obtain ⟨rfl, hb13, hx14⟩ := hR10
    exact nw_out C (show (1 + 1) ≤ 8 by omega) (show (6 + 6) ≤ 40 by omega) ⟨⟨1, by simp [op_lay, en_cn, hb7, hb13], rfl⟩, hext.trans hx14⟩
  intro v9 H9 hR10 hz11 hq12
  obtain ⟨rfl, hb15, rfl⟩ := hR10
  obtain ⟨kn, hk16, rfl⟩ := nw_rg_nat (by decide) (by decide) hb15
  have en_kn : nw_nn (nI kn) = kn := nw_nn_nI (by omega)
  show nwV X _ _ 5 H (1 + 1) (6 + 6) 15 [(3, .ref (ad 9)), (0, .ref x), (1, .int (nI cn)), (2, .int (nI kn))] []
  refine nw_wide (k' := 2) (n' := 12) (by omega) (by omega) ?_
  refine nw_iload_n C 3 dX1_lay_15 rfl 16 rfl ?_
  refine nw_iconst C (nI 1) dX1_lay_16 (by decide) 17 rfl ?_
  refine nw_icmpneN C (by omega) 28 dX1_lay_17 (by decide) 20 rfl (fun h17 => ?_) (fun h17 => ?_)
  · refine nw_iconst C (nI 1) dX1_lay_28 (by decide) 29 rfl ?_
    refine nw_goto C 33 dX1_lay_29 (by decide) ?_
    refine nw_callS C (mX1_requireStateT _ C.hfl d H hB) kX1_requireState q832 (As := [.int (b2i true)]) (rest := []) rfl rfl ⟨⟨Nat.le_of_ble_eq_true rfl, Nat.le_of_ble_eq_true rfl⟩, Nat.le_of_ble_eq_true rfl, Nat.le_of_ble_eq_true rfl⟩ (Nat.le_of_ble_eq_true rfl) (fun _ h8 h9 => absurd h9 (Nat.not_le.mpr h8)) dX1_lay_33 36 rfl (nw_rdK ?_) nw_noX
    refine nw_aload_n C 0 dX1_lay_36 rfl 37 rfl ?_
    refine nw_getN C hgrg.1 (T := TX6) rfl in_X6 2 (by decide) q736 rfl rfl dX1_lay_37 40 rfl ?_
    refine nw_iload_n C 2 dX1_lay_40 rfl 41 rfl ?_
    refine nw_aaldKN C (nd_st d (gr_k (sg_gr σ) cn)) hgrg.2 (by omega) rfl dX1_lay_41 42 rfl ?_
    have hk4 : gr_k (sg_gr σ) cn < 4 := hgro.2 _ (by assumption)
    refine nw_number C hB0 hk4 q559 ⟨⟨Nat.le_of_ble_eq_true rfl, Nat.le_of_ble_eq_true rfl⟩, Nat.le_of_ble_eq_true rfl, Nat.le_of_ble_eq_true rfl⟩ (Nat.le_of_ble_eq_true rfl) dX1_lay_42 45 rfl ?_
    refine nw_istore C [(4, .int (nI (gr_k (sg_gr σ) cn))), (3, .ref (ad 9)), (0, .ref x), (1, .int (nI cn)), (2, .int (nI kn))] dX1_lay_45 (by decide) rfl 47 rfl ?_
    refine nw_aload_n C 1 dX1_lay_47 rfl 48 rfl ?_
    refine nw_getN C hgrg.1 (T := TX6) rfl in_X6 2 (by decide) q736 rfl rfl dX1_lay_48 51 rfl ?_
    refine nw_iload_n C 3 dX1_lay_51 rfl 52 rfl ?_
    refine nw_iload_n C 4 dX1_lay_52 rfl 53 rfl ?_
    refine nw_callS C (mX7_of _ C.hfl d kn H hB (by omega)) kX7_of q850 (As := [.int (nI kn)]) (rest := [.int (nI cn), .ref (ad 10)]) rfl rfl ⟨⟨Nat.le_of_ble_eq_true rfl, Nat.le_of_ble_eq_true rfl⟩, Nat.le_of_ble_eq_true rfl, Nat.le_of_ble_eq_true rfl⟩ (Nat.le_of_ble_eq_true rfl) (fun _ h8 h9 => absurd h9 (Nat.not_le.mpr h8)) dX1_lay_53 56 rfl (nw_rdK ?_) nw_noX
    have hkn4 : kn < 4 := by omega
    refine nw_aastKk C hB0 hgrg.2 (Or.inl (by rw [(hR.2.2.1.2 hgro).2.2]; decide +kernel)) (by omega) hkn4 dX1_lay_56 57 rfl (fun H18 ho19 hz20 hq21 => ?_)
    have hRc := hR.ext hext
    have hR1 := tr_pKi hRc hgro (kk := sp_up (gr_k (sg_gr σ)) cn kn) (sp_up_all (Q := fun z => z < 4) hgro.2 hkn4) hz20 hq21 (nwR.congr ho19 (fun j hj => nw_upK))
    have hA9 : nwAC ro H (ad 10) := (Or.inl (by rw [(hR.2.2.1.2 hgro).2.2]; decide +kernel))
    have hAq : ∀ q8, q8 < H.size → q8 = ad 10 → nwAC ro H q8 := fun q8 _ h9 => by rw [h9]; exact hA9
    obtain ⟨σ1, hσ1⟩ : ∃ t9 : spSg, t9 = st_gr σ (gr_w (sg_gr σ), gr_h (sg_gr σ), sp_up (gr_k (sg_gr σ)) cn kn) := ⟨_, rfl⟩
    rw [← hσ1] at hR1
    have hE := hE.kept (fun q9 g9 hb9 => (fun q9 _ n9 => hq21 q9 n9) q9 g9 (fun h9 => hb9 (C.hB q9 (hAq q9 g9 h9))))
    have hsz : H.size ≤ H18.size := Nat.le_trans hext.1 (Nat.le_of_eq hz20.symm)
    have hB := Nat.le_trans hB0 hsz
    have ok : spOk σ1 := by rw [hσ1]; exact ⟨Or.inr ⟨hgro.1, sp_up_all (Q := fun z => z < 4) hgro.2 hkn4⟩, okl, okf, oku, okp, oki, okw, okd, okk, oka⟩
    have hR := hR1
    have hW := hR.wc
    obtain ⟨hx, hcG, hcLa, hcFo, hcGu, hcPo, hcIn, hcWi, hcWo, hcKe⟩ := id hW
    obtain ⟨okg, okl, okf, oku, okp, oki, okw, okd, okk, oka⟩ := id ok
    have hn64 : gr_n (sg_gr σ1) ≤ 64 := okg.n
    have oku1 := oku.1
    have oki1 := oki.1
    have okp1 := okp.1
    have okw1 := okw.1
    have okl1 := okl.1
    have okf1 := okf.1
    refine nw_iload C 0 dX1_lay_57 rfl 59 rfl ?_
    have hop : op_lay σ (nI cn) (nI kn) = (0, nI (gr_k (sg_gr σ) cn), σ1) := by rw [hσ1]; simp [op_lay, h17, en_cn, en_kn, hb7, hb15]
    exact nw_iret C dX1_lay_59 (by omega) (by omega) (by rw [hop]; exact ⟨⟨rfl, congrArg (fun z => some (Value.int z)) rfl⟩, ok, hsz, ro, ad, hR, (fun _ _ => rfl)⟩)
  · have h1k : (kn == 1) = true := by simp [h17]
    refine nw_aload_n C 1 dX1_lay_20 rfl 21 rfl ?_
    refine nw_iload_n C 2 dX1_lay_21 rfl 22 rfl ?_
    refine nw_callV C (mX1_isTaken _ C.hfl d ro ad x σ sm cn H hB hW ok (by omega)) kX1_isTaken q295 (hx.is C (ci := 0) rfl) (As := [.int (nI cn)]) (rest := []) rfl rfl ⟨⟨Nat.le_of_ble_eq_true rfl, Nat.le_of_ble_eq_true rfl⟩, (show 2 + 3 ≤ 8 by omega), (show 12 + 12 ≤ 40 by omega)⟩ (Nat.le_of_ble_eq_true rfl) (fun _ h8 h9 => absurd h9 (Nat.not_le.mpr h8)) dX1_lay_22 25 rfl (fun v9 H22 hR23 hz24 hq25 => ?_) nw_noX
    obtain ⟨rfl, -⟩ := hR23
    have hext := hext.call hz24 hq25
    have hW := hW0.ext hext.2
    have hE := C.E0.ext hext.2
    have hB := Nat.le_trans hB0 hext.1
    obtain ⟨hx, hcG, hcLa, hcFo, hcGu, hcPo, hcIn, hcWi, hcWo, hcKe⟩ := id hW
    obtain ⟨okg, okl, okf, oku, okp, oki, okw, okd, okk, oka⟩ := id ok
    have hn64 : gr_n (sg_gr σ) ≤ 64 := okg.n
    have oku1 := oku.1
    have oki1 := oki.1
    have okp1 := okp.1
    have okw1 := okw.1
    have okl1 := okl.1
    have okf1 := okf.1
    obtain ⟨hgro, hgrl, hgrg⟩ := hcG.here (by assumption)
    show nwV X _ _ 5 H22 (2 + 3) (12 + 12) 25 [(3, .ref (ad 9)), (0, .ref x), (1, .int (nI cn)), (2, .int (nI kn))] [.int (b2i (sp_taken σ cn))]
    refine nw_wide (k' := 5) (n' := 24) (by omega) (by omega) ?_
    refine nw_ifneB C 32 dX1_lay_25 (by decide) 28 rfl (fun h26 => ?_) (fun h26 => ?_)
    · refine nw_iconst C (nI 0) dX1_lay_32 (by decide) 33 rfl ?_
      refine nw_callS C (mX1_requireState _ C.hfl d false H22 hB) kX1_requireState q832 (As := [.int (b2i false)]) (rest := []) rfl rfl ⟨⟨Nat.le_of_ble_eq_true rfl, Nat.le_of_ble_eq_true rfl⟩, (show 5 + 1 ≤ 8 by omega), (show 24 + 6 ≤ 40 by omega)⟩ (Nat.le_of_ble_eq_true rfl) (fun _ h8 h9 => absurd h9 (Nat.not_le.mpr h8)) dX1_lay_33 36 rfl ?_ ?_
      rotate_left
      · intro E9 w9 H27 hR28 hz29 hq30
        obtain ⟨rfl, hb31, hx32⟩ := hR28
        exact nw_out C (show (5 + 1) ≤ 8 by omega) (show (24 + 6) ≤ 40 by omega) ⟨⟨2, by simp [op_lay, h1k, h26, en_cn, en_kn, hb7, hb15, hb31], rfl⟩, hext.trans hx32⟩
      intro v9 H27 hR28 hz29 hq30
      obtain ⟨rfl, hb33, rfl⟩ := hR28
      cases hb33
    · refine nw_iconst C (nI 1) dX1_lay_28 (by decide) 29 rfl ?_
      refine nw_goto C 33 dX1_lay_29 (by decide) ?_
      refine nw_callS C (mX1_requireStateT _ C.hfl d H22 hB) kX1_requireState q832 (As := [.int (b2i true)]) (rest := []) rfl rfl ⟨⟨Nat.le_of_ble_eq_true rfl, Nat.le_of_ble_eq_true rfl⟩, Nat.le_of_ble_eq_true rfl, Nat.le_of_ble_eq_true rfl⟩ (Nat.le_of_ble_eq_true rfl) (fun _ h8 h9 => absurd h9 (Nat.not_le.mpr h8)) dX1_lay_33 36 rfl (nw_rdK ?_) nw_noX
      refine nw_aload_n C 0 dX1_lay_36 rfl 37 rfl ?_
      refine nw_getN C hgrg.1 (T := TX6) rfl in_X6 2 (by decide) q736 rfl rfl dX1_lay_37 40 rfl ?_
      refine nw_iload_n C 2 dX1_lay_40 rfl 41 rfl ?_
      refine nw_aaldKN C (nd_st d (gr_k (sg_gr σ) cn)) hgrg.2 (by omega) rfl dX1_lay_41 42 rfl ?_
      have hk4 : gr_k (sg_gr σ) cn < 4 := hgro.2 _ (by assumption)
      refine nw_number C hB0 hk4 q559 ⟨⟨Nat.le_of_ble_eq_true rfl, Nat.le_of_ble_eq_true rfl⟩, Nat.le_of_ble_eq_true rfl, Nat.le_of_ble_eq_true rfl⟩ (Nat.le_of_ble_eq_true rfl) dX1_lay_42 45 rfl ?_
      refine nw_istore C [(4, .int (nI (gr_k (sg_gr σ) cn))), (3, .ref (ad 9)), (0, .ref x), (1, .int (nI cn)), (2, .int (nI kn))] dX1_lay_45 (by decide) rfl 47 rfl ?_
      refine nw_aload_n C 1 dX1_lay_47 rfl 48 rfl ?_
      refine nw_getN C hgrg.1 (T := TX6) rfl in_X6 2 (by decide) q736 rfl rfl dX1_lay_48 51 rfl ?_
      refine nw_iload_n C 3 dX1_lay_51 rfl 52 rfl ?_
      refine nw_iload_n C 4 dX1_lay_52 rfl 53 rfl ?_
      refine nw_callS C (mX7_of _ C.hfl d kn H22 hB (by omega)) kX7_of q850 (As := [.int (nI kn)]) (rest := [.int (nI cn), .ref (ad 10)]) rfl rfl ⟨⟨Nat.le_of_ble_eq_true rfl, Nat.le_of_ble_eq_true rfl⟩, Nat.le_of_ble_eq_true rfl, Nat.le_of_ble_eq_true rfl⟩ (Nat.le_of_ble_eq_true rfl) (fun _ h8 h9 => absurd h9 (Nat.not_le.mpr h8)) dX1_lay_53 56 rfl (nw_rdK ?_) nw_noX
      have hkn4 : kn < 4 := by omega
      refine nw_aastKk C hB0 hgrg.2 (Or.inl (by rw [(hR.2.2.1.2 hgro).2.2]; decide +kernel)) (by omega) hkn4 dX1_lay_56 57 rfl (fun H34 ho35 hz36 hq37 => ?_)
      have hRc := hR.ext hext
      have hR1 := tr_pKi hRc hgro (kk := sp_up (gr_k (sg_gr σ)) cn kn) (sp_up_all (Q := fun z => z < 4) hgro.2 hkn4) hz36 hq37 (nwR.congr ho35 (fun j hj => nw_upK))
      have hA9 : nwAC ro H (ad 10) := (Or.inl (by rw [(hR.2.2.1.2 hgro).2.2]; decide +kernel))
      have hAq : ∀ q8, q8 < H22.size → q8 = ad 10 → nwAC ro H q8 := fun q8 _ h9 => by rw [h9]; exact hA9
      obtain ⟨σ1, hσ1⟩ : ∃ t9 : spSg, t9 = st_gr σ (gr_w (sg_gr σ), gr_h (sg_gr σ), sp_up (gr_k (sg_gr σ)) cn kn) := ⟨_, rfl⟩
      rw [← hσ1] at hR1
      have hE := hE.kept (fun q9 g9 hb9 => (fun q9 _ n9 => hq37 q9 n9) q9 g9 (fun h9 => hb9 (C.hB q9 (hAq q9 g9 h9))))
      have hsz : H.size ≤ H34.size := Nat.le_trans hext.1 (Nat.le_of_eq hz36.symm)
      have hB := Nat.le_trans hB0 hsz
      have ok : spOk σ1 := by rw [hσ1]; exact ⟨Or.inr ⟨hgro.1, sp_up_all (Q := fun z => z < 4) hgro.2 hkn4⟩, okl, okf, oku, okp, oki, okw, okd, okk, oka⟩
      have hR := hR1
      have hW := hR.wc
      obtain ⟨hx, hcG, hcLa, hcFo, hcGu, hcPo, hcIn, hcWi, hcWo, hcKe⟩ := id hW
      obtain ⟨okg, okl, okf, oku, okp, oki, okw, okd, okk, oka⟩ := id ok
      have hn64 : gr_n (sg_gr σ1) ≤ 64 := okg.n
      have oku1 := oku.1
      have oki1 := oki.1
      have okp1 := okp.1
      have okw1 := okw.1
      have okl1 := okl.1
      have okf1 := okf.1
      refine nw_iload C 0 dX1_lay_57 rfl 59 rfl ?_
      have hop : op_lay σ (nI cn) (nI kn) = (0, nI (gr_k (sg_gr σ) cn), σ1) := by rw [hσ1]; simp [op_lay, h1k, h26, en_cn, en_kn, hb7, hb15]
      exact nw_iret C dX1_lay_59 (by omega) (by omega) (by rw [hop]; exact ⟨⟨rfl, congrArg (fun z => some (Value.int z)) rfl⟩, ok, hsz, ro, ad, hR, (fun _ _ => rfl)⟩)
set_option maxHeartbeats 4000000 in
theorem mX1_gates (l : Launch) (hf : l.flags = flags0) (d : nwD) (ro ad : Nat → Nat) (x : Nat) (σ : spSg) (sm : Int64) (a : Int32) (b : Int32) (H : Heap) (hB : nd_B d ≤ H.size) (hR : nwWR d ro ad x σ sm H) (ok : spOk σ) : nwMt l d yX1_gates cX1_gates 3 (some .int) 7 120 1 6 [.ref x, .int a, .int b] H (nwCv d ro x sm (op_gates σ a b) H) (nwRx ((op_gates σ a b).1, 0) [cIA] H) (nwAC ro H) := by
  refine nw_start "NightwatchWall" "gates" hf (by decide +kernel) rfl rfl (fun _ h => Or.inr h) (nwAC_B hR hB) (Nat.le_of_ble_eq_true rfl) ?_
  intro X C
  have hW := hR.wc
  have hrx0 := hR.2.1.2
  have hW0 := hW
  have hB0 := hB
  have hE := C.E0
  have hext : nwExt H H := nwExt.rfl
  obtain ⟨hx, hcG, hcLa, hcFo, hcGu, hcPo, hcIn, hcWi, hcWo, hcKe⟩ := id hW
  obtain ⟨okg, okl, okf, oku, okp, oki, okw, okd, okk, oka⟩ := id ok
  have hn64 : gr_n (sg_gr σ) ≤ 64 := okg.n
  have oku1 := oku.1
  have oki1 := oki.1
  have okp1 := okp.1
  have okw1 := okw.1
  have okl1 := okl.1
  have okf1 := okf.1
  show nwV X _ _ 3 H 0 0 0 [(0, .ref x), (1, .int a), (2, .int b)] []
  refine nw_iload_n C 1 dX1_gates_0 rfl 1 rfl ?_
  refine nw_callS C (mX1_isMinute _ C.hfl d a H hB) kX1_isMinute q861 (As := [.int a]) (rest := []) rfl rfl ⟨⟨Nat.le_of_ble_eq_true rfl, Nat.le_of_ble_eq_true rfl⟩, Nat.le_of_ble_eq_true rfl, Nat.le_of_ble_eq_true rfl⟩ (Nat.le_of_ble_eq_true rfl) (fun _ h8 h9 => absurd h9 (Nat.not_le.mpr h8)) dX1_gates_1 4 rfl (nw_rdK ?_) nw_noX
  refine nw_ifeqB C 18 dX1_gates_4 (by decide) 7 rfl (fun h1 => ?_) (fun h1 => ?_)
  · refine nw_iconst C (nI 0) dX1_gates_18 (by decide) 19 rfl ?_
    refine nw_callS C (mX1_require _ C.hfl d false H hB) kX1_require q655 (As := [.int (b2i false)]) (rest := []) rfl rfl ⟨⟨Nat.le_of_ble_eq_true rfl, Nat.le_of_ble_eq_true rfl⟩, (show 0 + 1 ≤ 1 by omega), (show 0 + 6 ≤ 6 by omega)⟩ (Nat.le_of_ble_eq_true rfl) (fun _ h8 h9 => absurd h9 (Nat.not_le.mpr h8)) dX1_gates_19 22 rfl ?_ ?_
    rotate_left
    · intro E9 w9 H2 hR3 hz4 hq5
      obtain ⟨rfl, hb6, hx7⟩ := hR3
      exact nw_out C (show (0 + 1) ≤ 1 by omega) (show (0 + 6) ≤ 6 by omega) ⟨⟨0, by simp [op_gates, h1, hb6], rfl⟩, hext.trans hx7⟩
    intro v9 H2 hR3 hz4 hq5
    obtain ⟨rfl, hb8, rfl⟩ := hR3
    cases hb8
  · obtain ⟨an, hk9, rfl⟩ := nw_rg_nat (by decide) (by decide) h1
    have en_an : nw_nn (nI an) = an := nw_nn_nI (by omega)
    refine nw_iload_n C 2 dX1_gates_7 rfl 8 rfl ?_
    refine nw_callS C (mX1_isMinute _ C.hfl d b H hB) kX1_isMinute q861 (As := [.int b]) (rest := []) rfl rfl ⟨⟨Nat.le_of_ble_eq_true rfl, Nat.le_of_ble_eq_true rfl⟩, Nat.le_of_ble_eq_true rfl, Nat.le_of_ble_eq_true rfl⟩ (Nat.le_of_ble_eq_true rfl) (fun _ h8 h9 => absurd h9 (Nat.not_le.mpr h8)) dX1_gates_8 11 rfl (nw_rdK ?_) nw_noX
    refine nw_ifeqB C 18 dX1_gates_11 (by decide) 14 rfl (fun h10 => ?_) (fun h10 => ?_)
    · refine nw_iconst C (nI 0) dX1_gates_18 (by decide) 19 rfl ?_
      refine nw_callS C (mX1_require _ C.hfl d false H hB) kX1_require q655 (As := [.int (b2i false)]) (rest := []) rfl rfl ⟨⟨Nat.le_of_ble_eq_true rfl, Nat.le_of_ble_eq_true rfl⟩, (show 0 + 1 ≤ 1 by omega), (show 0 + 6 ≤ 6 by omega)⟩ (Nat.le_of_ble_eq_true rfl) (fun _ h8 h9 => absurd h9 (Nat.not_le.mpr h8)) dX1_gates_19 22 rfl ?_ ?_
      rotate_left
      · intro E9 w9 H11 hR12 hz13 hq14
        obtain ⟨rfl, hb15, hx16⟩ := hR12
        exact nw_out C (show (0 + 1) ≤ 1 by omega) (show (0 + 6) ≤ 6 by omega) ⟨⟨0, by simp [op_gates, h1, h10, en_an, hb15], rfl⟩, hext.trans hx16⟩
      intro v9 H11 hR12 hz13 hq14
      obtain ⟨rfl, hb17, rfl⟩ := hR12
      cases hb17
    · obtain ⟨bn, hk18, rfl⟩ := nw_rg_nat (by decide) (by decide) h10
      have en_bn : nw_nn (nI bn) = bn := nw_nn_nI (by omega)
      refine nw_iconst C (nI 1) dX1_gates_14 (by decide) 15 rfl ?_
      refine nw_goto C 19 dX1_gates_15 (by decide) ?_
      refine nw_callS C (mX1_requireT _ C.hfl d H hB) kX1_require q655 (As := [.int (b2i true)]) (rest := []) rfl rfl ⟨⟨Nat.le_of_ble_eq_true rfl, Nat.le_of_ble_eq_true rfl⟩, Nat.le_of_ble_eq_true rfl, Nat.le_of_ble_eq_true rfl⟩ (Nat.le_of_ble_eq_true rfl) (fun _ h8 h9 => absurd h9 (Nat.not_le.mpr h8)) dX1_gates_19 22 rfl (nw_rdK ?_) nw_noX
      refine nw_aload_n C 0 dX1_gates_22 rfl 23 rfl ?_
      refine nw_iload_n C 1 dX1_gates_23 rfl 24 rfl ?_
      refine nw_put C hx (Or.inl (by rw [hrx0]; decide +kernel)) (T := TX1) (ty0 := tyX1) rfl in_X1 tyX1_ok nmX1 9 (by decide) q230 (Or.inl rfl) rfl rfl rfl (Nat.le_of_ble_eq_true rfl) dX1_gates_24 27 rfl (fun H19 ho20 hz21 hq22 => ?_)
      have ho20 : nwO d x 0 [.ref (ad 0), .ref (ad 1), .ref (ad 2), .ref (ad 3), .ref (ad 4), .ref (ad 5), .ref (ad 6), .ref (ad 7), .ref (ad 8), .int (nI an), .int (nI (ga_t (sg_ga σ))), .int (nI (sg_ri σ)), .int (nI (sg_rf σ)), .long sm] H19 := ho20
      refine nw_aload_n C 0 dX1_gates_27 rfl 28 rfl ?_
      refine nw_iload_n C 2 dX1_gates_28 rfl 29 rfl ?_
      refine nw_put C ho20 (Or.inl (by rw [hrx0]; decide +kernel)) (T := TX1) (ty0 := tyX1) rfl in_X1 tyX1_ok nmX1 10 (by decide) q231 (Or.inl rfl) rfl rfl rfl (Nat.le_of_ble_eq_true rfl) dX1_gates_29 32 rfl (fun H23 ho24 hz25 hq26 => ?_)
      have ho24 : nwO d x 0 [.ref (ad 0), .ref (ad 1), .ref (ad 2), .ref (ad 3), .ref (ad 4), .ref (ad 5), .ref (ad 6), .ref (ad 7), .ref (ad 8), .int (nI an), .int (nI bn), .int (nI (sg_ri σ)), .int (nI (sg_rf σ)), .long sm] H23 := ho24
      have hz27 : H23.size = H.size := hz25.trans hz21
      have hq28 : ∀ q9 : Nat, q9 ≠ x → H23[q9]? = H[q9]? := fun q9 n9 => (hq26 q9 n9).trans (hq22 q9 n9)
      have hRc := hR.ext hext
      have hR1 := tr_pX hRc (t := st_ga σ (some (an, bn))) (sm' := sm) hz27 hq28 ⟨Or.inl rfl, Or.inr rfl, Or.inr rfl, Or.inr rfl, Or.inr rfl, Or.inr rfl, Or.inr rfl, Or.inr rfl, Or.inr rfl, Or.inr rfl⟩ ho24
      have hA9 : nwAC ro H (x) := (Or.inl (by rw [hrx0]; decide +kernel))
      have hAq : ∀ q8, q8 < H.size → q8 = x → nwAC ro H q8 := fun q8 _ h9 => by rw [h9]; exact hA9
      obtain ⟨σ1, hσ1⟩ : ∃ t9 : spSg, t9 = st_ga σ (some (an, bn)) := ⟨_, rfl⟩
      rw [← hσ1] at hR1
      have hgr9 : sg_gr σ1 = sg_gr σ := by rw [hσ1]; rfl
      have hE := hE.kept (fun q9 g9 hb9 => (fun q9 _ n9 => hq28 q9 n9) q9 g9 (fun h9 => hb9 (C.hB q9 (hAq q9 g9 h9))))
      have hsz : H.size ≤ H23.size := Nat.le_trans hext.1 (Nat.le_of_eq hz27.symm)
      have hB := Nat.le_trans hB0 hsz
      have ok : spOk σ1 := by rw [hσ1]; exact ⟨okg, okl, okf, oku, okp, oki, okw, okd, okk, fun a9 b9 e9 => by cases e9; exact ⟨by omega, by omega⟩⟩
      have hR := hR1
      have hW := hR.wc
      obtain ⟨hx, hcG, hcLa, hcFo, hcGu, hcPo, hcIn, hcWi, hcWo, hcKe⟩ := id hW
      obtain ⟨okg, okl, okf, oku, okp, oki, okw, okd, okk, oka⟩ := id ok
      have hn64 : gr_n (sg_gr σ1) ≤ 64 := okg.n
      have oku1 := oku.1
      have oki1 := oki.1
      have okp1 := okp.1
      have okw1 := okw.1
      have okl1 := okl.1
      have okf1 := okf.1
      rcases hcG with ⟨hg0, hg1, hg2⟩ | ⟨hgro, hgrl, hgrg⟩
      · rw [hg2] at hx
        refine nw_aload_n C 0 dX1_gates_32 rfl 33 rfl ?_
        refine nw_get C hx (T := TX1) rfl in_X1 0 (by decide) q221 (Or.inl rfl) rfl dX1_gates_33 36 rfl ?_
        refine nw_callV C (mJ0_isPresentE _ C.hfl d H23 hB) kJ0_isPresent q276 (va_O.is hE.2.2.2.2.1.2.1) (As := []) (rest := []) rfl rfl ⟨⟨Nat.le_of_ble_eq_true rfl, Nat.le_of_ble_eq_true rfl⟩, Nat.le_of_ble_eq_true rfl, Nat.le_of_ble_eq_true rfl⟩ (Nat.le_of_ble_eq_true rfl) (fun _ h8 h9 => absurd h9 (Nat.not_le.mpr h8)) dX1_gates_36 39 rfl (nw_rdK ?_) nw_noX
        refine nw_ifeq C 61 dX1_gates_39 (by decide) 42 rfl (fun _ => ?_) (fun h29 => absurd (by decide) h29)
        refine nw_iconst C (nI 0) dX1_gates_61 (by decide) 62 rfl ?_
        have hop : op_gates σ (nI an) (nI bn) = (0, nI (sp_cnt (fun c => gr_k (sg_gr σ) c == 3) (gr_n (sg_gr σ))), σ1) := by rw [hσ1]; simp [op_gates, h1, h10, en_an, en_bn]
        exact nw_iret C dX1_gates_62 (by omega) (by omega) (by rw [hop]; exact ⟨⟨rfl, congrArg (fun z => some (Value.int z)) (show nI 0 = nI (sp_cnt (fun c => gr_k (sg_gr σ) c == 3) (gr_n (sg_gr σ))) by rw [← hgr9, show gr_n (sg_gr σ1) = 0 by show (sg_gr σ1).1 * (sg_gr σ1).2.1 = 0; rw [hg0, Nat.zero_mul]]; rfl)⟩, ok, hsz, ro, ad, hR, (fun _ _ => rfl)⟩)
      · refine nw_aload_n C 0 dX1_gates_32 rfl 33 rfl ?_
        refine nw_get C hx (T := TX1) rfl in_X1 0 (by decide) q221 (Or.inl rfl) rfl dX1_gates_33 36 rfl ?_
        refine nw_callV C (mJ0_isPresent _ C.hfl d (ad 0) (ad 9) H23 hB hgrl) kJ0_isPresent q276 (hgrl.is C (ci := 15) rfl) (As := []) (rest := []) rfl rfl ⟨⟨Nat.le_of_ble_eq_true rfl, Nat.le_of_ble_eq_true rfl⟩, Nat.le_of_ble_eq_true rfl, Nat.le_of_ble_eq_true rfl⟩ (Nat.le_of_ble_eq_true rfl) (fun _ h8 h9 => absurd h9 (Nat.not_le.mpr h8)) dX1_gates_36 39 rfl (nw_rdK ?_) nw_noX
        refine nw_ifeq C 61 dX1_gates_39 (by decide) 42 rfl (fun h30 => absurd h30 (by decide)) (fun _ => ?_)
        refine nw_aload_n C 0 dX1_gates_42 rfl 43 rfl ?_
        refine nw_get C hx (T := TX1) rfl in_X1 0 (by decide) q221 (Or.inl rfl) rfl dX1_gates_43 46 rfl ?_
        refine nw_callV C (mJ0_get _ C.hfl d (ad 0) (ad 9) H23 hB hgrl) kJ0_get q280 (hgrl.is C (ci := 15) rfl) (As := []) (rest := []) rfl rfl ⟨⟨Nat.le_of_ble_eq_true rfl, Nat.le_of_ble_eq_true rfl⟩, Nat.le_of_ble_eq_true rfl, Nat.le_of_ble_eq_true rfl⟩ (Nat.le_of_ble_eq_true rfl) (fun _ h8 h9 => absurd h9 (Nat.not_le.mpr h8)) dX1_gates_46 49 rfl (nw_rdK ?_) nw_noX
        refine nw_cast C (ci := 1) rfl (hgrg.1.is C (ci := 1) rfl) q284 dX1_gates_49 52 rfl ?_
        refine nw_gets C (v := .ref (nd_st d 3)) (fun _ _ h9 => h9.2.2.1.2.2.2) q577 dX1_gates_52 55 rfl ?_
        refine nw_callV C (mX6_count _ C.hfl d (ad 9) (ad 10) (sg_gr σ1) 3 H23 hB hgrg hgro (by decide)) kX6_count q765 (hgrg.1.is C (ci := 1) rfl) (As := [.ref (nd_st d 3)]) (rest := []) rfl rfl ⟨⟨Nat.le_of_ble_eq_true rfl, Nat.le_of_ble_eq_true rfl⟩, Nat.le_of_ble_eq_true rfl, Nat.le_of_ble_eq_true rfl⟩ (Nat.le_of_ble_eq_true rfl) (fun _ h8 h9 => absurd h9 (Nat.not_le.mpr h8)) dX1_gates_55 58 rfl (nw_rdK ?_) nw_noX
        refine nw_goto C 62 dX1_gates_58 (by decide) ?_
        have hop : op_gates σ (nI an) (nI bn) = (0, nI (sp_cnt (fun c => gr_k (sg_gr σ) c == 3) (gr_n (sg_gr σ))), σ1) := by rw [hσ1]; simp [op_gates, h1, h10, en_an, en_bn]
        exact nw_iret C dX1_gates_62 (by omega) (by omega) (by rw [hop]; exact ⟨⟨rfl, congrArg (fun z => some (Value.int z)) (by rw [← hgr9])⟩, ok, hsz, ro, ad, hR, (fun _ _ => rfl)⟩)
set_option maxHeartbeats 4000000 in
theorem mX1_key (l : Launch) (hf : l.flags = flags0) (d : nwD) (ro ad : Nat → Nat) (x : Nat) (σ : spSg) (sm : Int64) (k : Int32) (g : Int32) (H : Heap) (hB : nd_B d ≤ H.size) (hR : nwWR d ro ad x σ sm H) (ok : spOk σ) : nwMt l d yX1_key cX1_key 4 (some .int) 7 121 2 12 [.ref x, .int k, .int g] H (nwCv d ro x sm (op_key σ k g) H) (nwRx ((op_key σ k g).1, 0) [cIO] H) (nwAC ro H) := by
  refine nw_start "NightwatchWall" "key" hf (by decide +kernel) rfl rfl (fun _ h => Or.inr h) (nwAC_B hR hB) (Nat.le_of_ble_eq_true rfl) ?_
  intro X C
  have hW := hR.wc
  have hrx0 := hR.2.1.2
  have hW0 := hW
  have hB0 := hB
  have hE := C.E0
  have hext : nwExt H H := nwExt.rfl
  obtain ⟨hx, hcG, hcLa, hcFo, hcGu, hcPo, hcIn, hcWi, hcWo, hcKe⟩ := id hW
  obtain ⟨okg, okl, okf, oku, okp, oki, okw, okd, okk, oka⟩ := id ok
  have hn64 : gr_n (sg_gr σ) ≤ 64 := okg.n
  have oku1 := oku.1
  have oki1 := oki.1
  have okp1 := okp.1
  have okw1 := okw.1
  have okl1 := okl.1
  have okf1 := okf.1
  show nwV X _ _ 4 H 0 0 0 [(0, .ref x), (1, .int k), (2, .int g)] []
  refine nw_iload_n C 1 dX1_key_0 rfl 1 rfl ?_
  refine nw_bipush C (nI 6) dX1_key_1 (by decide) 3 rfl ?_
  refine nw_callS C (mX1_requireIndex _ C.hfl d k 6 H hB) kX1_requireIndex q814 (As := [.int k, .int (nI 6)]) (rest := []) rfl rfl ⟨⟨Nat.le_of_ble_eq_true rfl, Nat.le_of_ble_eq_true rfl⟩, (show 0 + 1 ≤ 2 by omega), (show 0 + 6 ≤ 12 by omega)⟩ (Nat.le_of_ble_eq_true rfl) (fun _ h8 h9 => absurd h9 (Nat.not_le.mpr h8)) dX1_key_3 6 rfl ?_ ?_
  rotate_left
  · intro E9 w9 H1 hR2 hz3 hq4
    obtain ⟨rfl, hb5, hx6⟩ := hR2
    exact nw_out C (show (0 + 1) ≤ 2 by omega) (show (0 + 6) ≤ 12 by omega) ⟨⟨0, by simp [op_key, hb5, nw_ixO], rfl⟩, hext.trans hx6⟩
  intro v9 H1 hR2 hz3 hq4
  obtain ⟨rfl, hb7, rfl⟩ := hR2
  obtain ⟨kn, hk8, rfl⟩ := nw_ix_nat (by decide) hb7
  have en_kn : nw_nn (nI kn) = kn := nw_nn_nI (by omega)
  show nwV X _ _ 4 H (0 + 1) (0 + 6) 6 [(0, .ref x), (1, .int (nI kn)), (2, .int g)] []
  refine nw_wide (k' := 1) (n' := 6) (by omega) (by omega) ?_
  refine nw_iload_n C 2 dX1_key_6 rfl 7 rfl ?_
  refine nw_iconst C (nI 1) dX1_key_7 (by decide) 8 rfl ?_
  refine nw_iadd C _ dX1_key_8 rfl 9 rfl ?_
  refine nw_aload_n C 0 dX1_key_9 rfl 10 rfl ?_
  refine nw_get C hx (T := TX1) rfl in_X1 3 (by decide) q224 (Or.inl rfl) rfl dX1_key_10 13 rfl ?_
  refine nw_callV C (mJ3_size _ C.hfl d (ad 3) ((sg_gu σ).1) (fun k => ad (300 + k)) (fun q => ro q = 2004) H hB hcGu.1) kJ3_size q346 (hcGu.1.is C) (As := []) (rest := [.int (g + (nI 1))]) rfl rfl ⟨⟨Nat.le_of_ble_eq_true rfl, Nat.le_of_ble_eq_true rfl⟩, Nat.le_of_ble_eq_true rfl, Nat.le_of_ble_eq_true rfl⟩ (Nat.le_of_ble_eq_true rfl) (fun _ h8 h9 => absurd h9 (Nat.not_le.mpr h8)) dX1_key_13 16 rfl (nw_rdK ?_) nw_noX
  refine nw_iconst C (nI 1) dX1_key_16 (by decide) 17 rfl ?_
  refine nw_iaddN C dX1_key_17 18 rfl ?_
  refine nw_callS C (mX1_requireIndex _ C.hfl d (g + (nI 1)) ((sg_gu σ).1 + 1) H hB) kX1_requireIndex q814 (As := [.int (g + (nI 1)), .int (nI ((sg_gu σ).1 + 1))]) (rest := []) rfl rfl ⟨⟨Nat.le_of_ble_eq_true rfl, Nat.le_of_ble_eq_true rfl⟩, (show 1 + 1 ≤ 2 by omega), (show 6 + 6 ≤ 12 by omega)⟩ (Nat.le_of_ble_eq_true rfl) (fun _ h8 h9 => absurd h9 (Nat.not_le.mpr h8)) dX1_key_18 21 rfl ?_ ?_
  rotate_left
  · intro E9 w9 H9 hR10 hz11 hq12
    obtain ⟨rfl, hb13, hx14⟩ := hR10
    exact nw_out C (show (1 + 1) ≤ 2 by omega) (show (6 + 6) ≤ 12 by omega) ⟨⟨0, by simp [op_key, en_kn, hb7, hb13, nw_ixO], rfl⟩, hext.trans hx14⟩
  intro v9 H9 hR10 hz11 hq12
  obtain ⟨rfl, hb15, rfl⟩ := hR10
  have hbO : nw_ixO g (sg_gu σ).1 = true := hb15
  obtain ⟨on, hon, hog, hoi⟩ := sp_oi_lt (by omega) hbO
  show nwV X _ _ 4 H (1 + 1) (6 + 6) 21 [(0, .ref x), (1, .int (nI kn)), (2, .int g)] []
  refine nw_wide (k' := 2) (n' := 12) (by omega) (by omega) ?_
  refine nw_aload_n C 0 dX1_key_21 rfl 22 rfl ?_
  refine nw_get C hx (T := TX1) rfl in_X1 8 (by decide) q229 (Or.inl rfl) rfl dX1_key_22 25 rfl ?_
  refine nw_iload_n C 1 dX1_key_25 rfl 26 rfl ?_
  refine nw_ialdN C (oI (sg_ke σ kn)) hcKe (by omega) rfl dX1_key_26 27 rfl ?_
  refine nw_istore_n C [(3, .int (oI (sg_ke σ kn))), (0, .ref x), (1, .int (nI kn)), (2, .int g)] dX1_key_27 (by decide) rfl 28 rfl ?_
  refine nw_aload_n C 1 dX1_key_28 rfl 29 rfl ?_
  refine nw_get C hx (T := TX1) rfl in_X1 8 (by decide) q229 (Or.inl rfl) rfl dX1_key_29 32 rfl ?_
  refine nw_iload_n C 2 dX1_key_32 rfl 33 rfl ?_
  refine nw_iload_n C 3 dX1_key_33 rfl 34 rfl ?_
  refine nw_iastN C hcKe (Or.inl (by rw [hR.2.2.2.2.2.2.2.2.2.2.2]; decide +kernel)) (by omega) dX1_key_34 35 rfl (fun H16 ho17 hz18 hq19 => ?_)
  have hRc := hR.ext hext
  have hR1 := tr_pKe hRc (ke := sp_up (sg_ke σ) kn on) hz18 hq19 (nwI.congr ho17 (fun j _ => nw_upO hog))
  have hA9 : nwAC ro H (ad 8) := (Or.inl (by rw [hR.2.2.2.2.2.2.2.2.2.2.2]; decide +kernel))
  have hAq : ∀ q8, q8 < H.size → q8 = ad 8 → nwAC ro H q8 := fun q8 _ h9 => by rw [h9]; exact hA9
  obtain ⟨σ1, hσ1⟩ : ∃ t9 : spSg, t9 = st_ke σ (sp_up (sg_ke σ) kn on) := ⟨_, rfl⟩
  rw [← hσ1] at hR1
  have hE := hE.kept (fun q9 g9 hb9 => (fun q9 _ n9 => hq19 q9 n9) q9 g9 (fun h9 => hb9 (C.hB q9 (hAq q9 g9 h9))))
  have hsz : H.size ≤ H16.size := Nat.le_trans hext.1 (Nat.le_of_eq hz18.symm)
  have hB := Nat.le_trans hB0 hsz
  have ok : spOk σ1 := by rw [hσ1]; exact ⟨okg, okl, okf, oku, okp, oki, okw, okd, fun j hj g9 e9 => (by
          have h9 := sp_up_all (j := kn) (v := on) (Q := fun o => ∀ g, o = some g → g < (sg_gu σ).1) okk hon j hj; exact h9 g9 e9), oka⟩
  have hR := hR1
  have hW := hR.wc
  obtain ⟨hx, hcG, hcLa, hcFo, hcGu, hcPo, hcIn, hcWi, hcWo, hcKe⟩ := id hW
  obtain ⟨okg, okl, okf, oku, okp, oki, okw, okd, okk, oka⟩ := id ok
  have hn64 : gr_n (sg_gr σ1) ≤ 64 := okg.n
  have oku1 := oku.1
  have oki1 := oki.1
  have okp1 := okp.1
  have okw1 := okw.1
  have okl1 := okl.1
  have okf1 := okf.1
  refine nw_iload_n C 0 dX1_key_35 rfl 36 rfl ?_
  have hop : op_key σ (nI kn) g = (0, oI (sg_ke σ kn), σ1) := by rw [hσ1]; simp [op_key, en_kn, hb7, hb15, hbO, hoi]
  exact nw_iret C dX1_key_36 (by omega) (by omega) (by rw [hop]; exact ⟨⟨rfl, congrArg (fun z => some (Value.int z)) rfl⟩, ok, hsz, ro, ad, hR, (fun _ _ => rfl)⟩)
set_option maxHeartbeats 4000000 in
theorem mX1_knock (l : Launch) (hf : l.flags = flags0) (d : nwD) (ro ad : Nat → Nat) (x : Nat) (σ : spSg) (sm : Int64)  (H : Heap) (hB : nd_B d ≤ H.size) (hR : nwWR d ro ad x σ sm H) (ok : spOk σ) : nwMt l d yX1_knock cX1_knock 1 (some .int) 1 20 0 0 [.ref x] H (nwCv d ro x sm (op_knock σ) H) (nwRx ((op_knock σ).1, 0) [] H) (nwAC ro H) := by
  refine nw_start "NightwatchWall" "knock" hf (by decide +kernel) rfl rfl (fun _ h => Or.inr h) (nwAC_B hR hB) (Nat.le_of_ble_eq_true rfl) ?_
  intro X C
  have hW := hR.wc
  have hrx0 := hR.2.1.2
  have hW0 := hW
  have hB0 := hB
  have hE := C.E0
  have hext : nwExt H H := nwExt.rfl
  obtain ⟨hx, hcG, hcLa, hcFo, hcGu, hcPo, hcIn, hcWi, hcWo, hcKe⟩ := id hW
  obtain ⟨okg, okl, okf, oku, okp, oki, okw, okd, okk, oka⟩ := id ok
  have hn64 : gr_n (sg_gr σ) ≤ 64 := okg.n
  have oku1 := oku.1
  have oki1 := oki.1
  have okp1 := okp.1
  have okw1 := okw.1
  have okl1 := okl.1
  have okf1 := okf.1
  show nwV X _ _ 1 H 0 0 0 [(0, .ref x)] []
  refine nw_aload_n C 0 dX1_knock_0 rfl 1 rfl ?_
  refine nw_dup C dX1_knock_1 rfl 2 rfl ?_
  refine nw_get C hx (T := TX1) rfl in_X1 12 (by decide) q233 (Or.inl rfl) rfl dX1_knock_2 5 rfl ?_
  refine nw_iconst C (nI 1) dX1_knock_5 (by decide) 6 rfl ?_
  refine nw_iaddN C dX1_knock_6 7 rfl ?_
  refine nw_put C hx (Or.inl (by rw [hrx0]; decide +kernel)) (T := TX1) (ty0 := tyX1) rfl in_X1 tyX1_ok nmX1 12 (by decide) q233 (Or.inl rfl) rfl rfl rfl (Nat.le_of_ble_eq_true rfl) dX1_knock_7 10 rfl (fun H1 ho2 hz3 hq4 => ?_)
  have ho2 : nwO d x 0 [.ref (ad 0), .ref (ad 1), .ref (ad 2), .ref (ad 3), .ref (ad 4), .ref (ad 5), .ref (ad 6), .ref (ad 7), .ref (ad 8), .int (nI (ga_f (sg_ga σ))), .int (nI (ga_t (sg_ga σ))), .int (nI (sg_ri σ)), .int (nI (sg_rf σ + 1)), .long sm] H1 := ho2
  have hRc := hR.ext hext
  have hR1 := tr_pX hRc (t := st_rf σ (sg_rf σ + 1)) (sm' := sm) hz3 hq4 ⟨Or.inl rfl, Or.inr rfl, Or.inr rfl, Or.inr rfl, Or.inr rfl, Or.inr rfl, Or.inr rfl, Or.inr rfl, Or.inr rfl, Or.inr rfl⟩ ho2
  have hA9 : nwAC ro H (x) := (Or.inl (by rw [hrx0]; decide +kernel))
  have hAq : ∀ q8, q8 < H.size → q8 = x → nwAC ro H q8 := fun q8 _ h9 => by rw [h9]; exact hA9
  obtain ⟨σ1, hσ1⟩ : ∃ t9 : spSg, t9 = st_rf σ (sg_rf σ + 1) := ⟨_, rfl⟩
  rw [← hσ1] at hR1
  have hrf : sg_rf σ1 = sg_rf σ + 1 := by rw [hσ1]; rfl
  have hE := hE.kept (fun q9 g9 hb9 => (fun q9 _ n9 => hq4 q9 n9) q9 g9 (fun h9 => hb9 (C.hB q9 (hAq q9 g9 h9))))
  have hsz : H.size ≤ H1.size := Nat.le_trans hext.1 (Nat.le_of_eq hz3.symm)
  have hB := Nat.le_trans hB0 hsz
  have ok : spOk σ1 := by rw [hσ1]; exact ⟨okg, okl, okf, oku, okp, oki, okw, okd, okk, oka⟩
  have hR := hR1
  have hW := hR.wc
  obtain ⟨hx, hcG, hcLa, hcFo, hcGu, hcPo, hcIn, hcWi, hcWo, hcKe⟩ := id hW
  obtain ⟨okg, okl, okf, oku, okp, oki, okw, okd, okk, oka⟩ := id ok
  have hn64 : gr_n (sg_gr σ1) ≤ 64 := okg.n
  have oku1 := oku.1
  have oki1 := oki.1
  have okp1 := okp.1
  have okw1 := okw.1
  have okl1 := okl.1
  have okf1 := okf.1
  refine nw_aload_n C 0 dX1_knock_10 rfl 11 rfl ?_
  refine nw_get C hx (T := TX1) rfl in_X1 12 (by decide) q233 (Or.inl rfl) rfl dX1_knock_11 14 rfl ?_
  have hop : op_knock σ = (0, nI (sg_rf σ + 1), σ1) := by rw [hσ1]; rfl
  exact nw_iret C dX1_knock_14 (Nat.le_refl _) (Nat.le_refl _) (by rw [hop]; exact ⟨⟨rfl, congrArg (fun z => some (Value.int (nI z))) hrf⟩, ok, hsz, ro, ad, hR, (fun _ _ => rfl)⟩)
