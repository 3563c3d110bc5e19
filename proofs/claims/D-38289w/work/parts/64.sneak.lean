/-! ===== hidden ways ===== -/
theorem nw_updI {fz g : Nat → Int32} {i : Nat} {v : Int32} (h : ∀ k, k < i → fz k = g k) (hv : v = g i) : ∀ k, k < i + 1 → upd fz i v k = g k := by
  intro k hk
  unfold upd
  split
  · rename_i e; rw [e]; exact hv
  · exact h k (by omega)
/-- an answer that is a new array of booleans -/
def nwZr (d : nwD) (n : Nat) (f : Nat → Bool) (H : Heap) : Option Value → Heap → Prop := fun v H1 => (∃ a : Nat, v = some (.ref a) ∧ H.size ≤ a ∧ nwI d a 1 n (fun k => b2i (f k)) H1) ∧ nwExt H H1
def nwIr (d : nwD) (n : Nat) (f : Nat → Int32) (H : Heap) : Option Value → Heap → Prop := fun v H1 => (∃ a : Nat, v = some (.ref a) ∧ H.size ≤ a ∧ nwI d a 0 n f H1) ∧ nwExt H H1
theorem sp_from_s {g : spGr} {f : Nat → Bool} {c m x : Nat} (h : sp_moved g c m = some x) : sp_from g f c m = f x := by unfold sp_from; rw [h]
theorem sp_from_n {g : spGr} {f : Nat → Bool} {c m : Nat} (h : sp_moved g c m = none) : sp_from g f c m = false := by unfold sp_from; rw [h]
theorem sp_seq_s {s : spSg} {c t j : Nat} (h : 0 < j) : sp_spread s (sp_seq s c t (j - 1)) (t + j) = sp_seq s c t j := by
  cases j with
  | zero => omega
  | succ j => rfl
theorem sp_seq_0 {d : nwD} {s : spSg} {c t j na n : Nat} {H : Heap} (e : j = 0) (h : nwI d na 1 n (fun k => b2i (sp_seq s c t (j - 1) k)) H) : nwI d na 1 n (fun k => b2i (sp_seq s c t j k)) H := by
  subst e; exact h
theorem kX1_isHidden : nwPV "NightwatchWall" yX1_isHidden cX1_isHidden 3 (some .boolean) 2 := ⟨⟨q1280, qs43, q86, q1281⟩, rfl, by decide +kernel, by decide +kernel, by decide +kernel⟩
theorem kX6_moved : nwPV "NightwatchWall$Ground" yX6_moved cX6_moved 3 (some .int) 2 := ⟨⟨q618, q619, q101, q620⟩, rfl, by decide +kernel, by decide +kernel, by decide +kernel⟩
theorem kX1_start : nwPV "NightwatchWall" yX1_start cX1_start 4 (some (.array .boolean)) 2 := ⟨⟨q1276, qs42, q86, q1277⟩, rfl, by decide +kernel, by decide +kernel, by decide +kernel⟩
theorem kX1_spread : nwPV "NightwatchWall" yX1_spread cX1_spread 8 (some (.array .boolean)) 2 := ⟨⟨q1284, qs44, q86, q1285⟩, rfl, by decide +kernel, by decide +kernel, by decide +kernel⟩
set_option maxHeartbeats 4000000 in
theorem mX1_start (l : Launch) (hf : l.flags = flags0) (d : nwD) (ro ad : Nat → Nat) (x : Nat) (σ : spSg) (sm : Int64) (c t : Nat) (H : Heap) (hB : nd_B d ≤ H.size) (hW : nwWC d ro ad x σ sm H) (ok : spOk σ) (hc : c < gr_n (sg_gr σ)) (ht : t < 2 ^ 31) : nwMt l d yX1_start cX1_start 4 (some (.array .boolean)) 9 204 1 64 [.ref x, .int (nI c), .int (nI t)] H (nwZr d (gr_n (sg_gr σ)) (sp_start σ c t) H) nwNo (nwNew H) := by
  refine nw_start "NightwatchWall" "start" hf (by decide +kernel) rfl rfl (fun _ h => h) (fun q h => Nat.le_trans hB h) (Nat.le_of_ble_eq_true rfl) ?_
  intro X C
  have hW0 := hW
  have hB0 := hB
  have hE := C.E0
  have hext : nwExt H H := nwExt.rfl
  obtain ⟨hx, hcG, hcLa, hcFo, hcGu, hcPo, hcIn, hcWi, hcWo, hcKe⟩ := id hW
  obtain ⟨okg, okl, okf, oku, okp, oki, okw, okd, okk, oka⟩ := id ok
  have hn64 : gr_n (sg_gr σ) ≤ 64 := okg.n
  obtain ⟨hgro, hgrl, hgrg⟩ := hcG.here hc
  show nwV X _ _ 4 H 0 0 0 [(0, .ref x), (1, .int (nI c)), (2, .int (nI t))] []
  refine nw_aload_n C 0 dX1_start_0 rfl 1 rfl ?_
  refine nw_callV C (mX1_size _ C.hfl d ro ad x σ sm  H hB hW ok ) kX1_size q272 (hx.is C (ci := 0) rfl) (As := []) (rest := []) rfl rfl ⟨⟨Nat.le_of_ble_eq_true rfl, Nat.le_of_ble_eq_true rfl⟩, Nat.le_of_ble_eq_true rfl, Nat.le_of_ble_eq_true rfl⟩ (Nat.le_of_ble_eq_true rfl) (fun _ h8 h9 => absurd h9 (Nat.not_le.mpr h8)) dX1_start_1 4 rfl (nw_rdK ?_) nw_noX
  refine nw_newz C (by omega) 1 64 (by omega) (by omega) ⟨(show 1 ≤ 1 by omega), (show 64 ≤ 64 by omega)⟩ dX1_start_4 6 rfl (fun a1 H2 hx3 ho4 hz5 hq6 => ?_)
  have hn7 : H.size ≤ a1 := (by rw [hx3]; exact hext.1)
  have hext := hext.made hz5 hq6
  have hW := hW0.ext hext.2
  have hE := C.E0.ext hext.2
  have hB := Nat.le_trans hB0 hext.1
  obtain ⟨hx, hcG, hcLa, hcFo, hcGu, hcPo, hcIn, hcWi, hcWo, hcKe⟩ := id hW
  obtain ⟨okg, okl, okf, oku, okp, oki, okw, okd, okk, oka⟩ := id ok
  have hn64 : gr_n (sg_gr σ) ≤ 64 := okg.n
  obtain ⟨hgro, hgrl, hgrg⟩ := hcG.here hc
  refine nw_astore_n C [(3, .ref a1), (0, .ref x), (1, .int (nI c)), (2, .int (nI t))] dX1_start_6 (by decide) rfl 7 rfl ?_
  refine nw_aload_n C 0 dX1_start_7 rfl 8 rfl ?_
  refine nw_iload_n C 2 dX1_start_8 rfl 9 rfl ?_
  refine nw_aload_n C 1 dX1_start_9 rfl 10 rfl ?_
  refine nw_iload_n C 2 dX1_start_10 rfl 11 rfl ?_
  refine nw_iload_n C 3 dX1_start_11 rfl 12 rfl ?_
  refine nw_callV C (mX1_isHidden _ C.hfl d ro ad x σ sm c t H2 hB hW ok (by omega) (by omega)) kX1_isHidden q1278 (hx.is C (ci := 0) rfl) (As := [.int (nI c), .int (nI t)]) (rest := [.int (nI c), .ref a1]) rfl rfl ⟨⟨Nat.le_of_ble_eq_true rfl, Nat.le_of_ble_eq_true rfl⟩, Nat.le_of_ble_eq_true rfl, Nat.le_of_ble_eq_true rfl⟩ (Nat.le_of_ble_eq_true rfl) (fun _ h8 h9 => absurd h9 (Nat.not_le.mpr h8)) dX1_start_12 15 rfl (nw_rdK ?_) nw_noX
  refine nw_zastN C (b := sp_hidden σ c t) ho4 hn7 (by omega) dX1_start_15 16 rfl (fun H8 ho9 hz10 hq11 => ?_)
  have hext := hext.put hz10 hq11 hn7
  have hW := hW0.ext hext.2
  have hE := C.E0.ext hext.2
  have hB := Nat.le_trans hB0 hext.1
  obtain ⟨hx, hcG, hcLa, hcFo, hcGu, hcPo, hcIn, hcWi, hcWo, hcKe⟩ := id hW
  obtain ⟨okg, okl, okf, oku, okp, oki, okw, okd, okk, oka⟩ := id ok
  have hn64 : gr_n (sg_gr σ) ≤ 64 := okg.n
  obtain ⟨hgro, hgrl, hgrg⟩ := hcG.here hc
  refine nw_aload_n C 0 dX1_start_16 rfl 17 rfl ?_
  exact nw_aret C (Or.inr ⟨_, rfl⟩) dX1_start_17 (by omega) (by omega) ⟨⟨a1, rfl, hn7, nwI.congr ho9 (fun j _ => by unfold upd sp_start; split <;> rfl)⟩, hext⟩
set_option maxHeartbeats 4000000 in
theorem mX1_spread (l : Launch) (hf : l.flags = flags0) (d : nwD) (ro ad : Nat → Nat) (x : Nat) (σ : spSg) (sm : Int64) (nf t : Nat) (f : Nat → Bool) (H : Heap) (hB : nd_B d ≤ H.size) (hW : nwWC d ro ad x σ sm H) (ok : spOk σ) (hfa : nwI d nf 1 (gr_n (sg_gr σ)) (fun k => b2i (f k)) H) (ht : t < 2 ^ 31) : nwMt l d yX1_spread cX1_spread 8 (some (.array .boolean)) 9 204 1 64 [.ref x, .ref nf, .int (nI t)] H (nwZr d (gr_n (sg_gr σ)) (sp_spread σ f t) H) nwNo (nwNew H) := by
  refine nw_start "NightwatchWall" "spread" hf (by decide +kernel) rfl rfl (fun _ h => h) (fun q h => Nat.le_trans hB h) (Nat.le_of_ble_eq_true rfl) ?_
  intro X C
  have hW0 := hW
  have hfa0 := hfa
  have hB0 := hB
  have hE := C.E0
  have hext : nwExt H H := nwExt.rfl
  obtain ⟨hx, hcG, hcLa, hcFo, hcGu, hcPo, hcIn, hcWi, hcWo, hcKe⟩ := id hW
  obtain ⟨okg, okl, okf, oku, okp, oki, okw, okd, okk, oka⟩ := id ok
  have hn64 : gr_n (sg_gr σ) ≤ 64 := okg.n
  show nwV X _ _ 8 H 0 0 0 [(0, .ref x), (1, .ref nf), (2, .int (nI t))] []
  refine nw_aload_n C 1 dX1_spread_0 rfl 1 rfl ?_
  refine nw_alenI C hfa (by decide) dX1_spread_1 2 rfl ?_
  refine nw_newz C (by omega) 1 64 (by omega) (by omega) ⟨(show 1 ≤ 1 by omega), (show 64 ≤ 64 by omega)⟩ dX1_spread_2 4 rfl (fun a1 H2 hx3 ho4 hz5 hq6 => ?_)
  have hn7 : H.size ≤ a1 := (by rw [hx3]; exact hext.1)
  have hext := hext.made hz5 hq6
  have hW := hW0.ext hext.2
  have hfa := hfa0.ext hext.2
  have hE := C.E0.ext hext.2
  have hB := Nat.le_trans hB0 hext.1
  obtain ⟨hx, hcG, hcLa, hcFo, hcGu, hcPo, hcIn, hcWi, hcWo, hcKe⟩ := id hW
  obtain ⟨okg, okl, okf, oku, okp, oki, okw, okd, okk, oka⟩ := id ok
  have hn64 : gr_n (sg_gr σ) ≤ 64 := okg.n
  refine nw_astore_n C [(3, .ref a1), (0, .ref x), (1, .ref nf), (2, .int (nI t))] dX1_spread_4 (by decide) rfl 5 rfl ?_
  refine nw_iconst C (nI 0) dX1_spread_5 (by decide) 6 rfl ?_
  refine nw_istore C [(4, .int (nI 0)), (3, .ref a1), (0, .ref x), (1, .ref nf), (2, .int (nI t))] dX1_spread_6 (by decide) rfl 8 rfl ?_
  have lp8 : ∀ (fu : Nat) (H2 : Heap) (i : Nat) (fz : Nat → Int32), (nwExt H H2) → (nwI d a1 1 (gr_n (sg_gr σ)) fz H2) → (i ≤ gr_n (sg_gr σ)) → (∀ k, k < i → fz k = b2i (sp_spread σ f t k)) → gr_n (sg_gr σ) - i < fu → nwV X (nwNew H) (nwQE X (nwZr d (gr_n (sg_gr σ)) (sp_spread σ f t) H) nwNo (nwNew H) 1 64) 8 H2 1 64 8 [(0, .ref x), (1, .ref nf), (2, .int (nI t)), (3, .ref a1), (4, .int (nI i))] [] := by
    intro fu
    induction fu with
    | zero => intro H2 i fz _ _ _ _ hm; exact absurd hm (Nat.not_lt_zero _)
    | succ fu ih_lp8 =>
      intro H2 i fz hext hcz hi hfz hm
      have hW := hW0.ext hext.2
      have hfa := hfa0.ext hext.2
      have hE := C.E0.ext hext.2
      have hB := Nat.le_trans hB0 hext.1
      obtain ⟨hx, hcG, hcLa, hcFo, hcGu, hcPo, hcIn, hcWi, hcWo, hcKe⟩ := id hW
      obtain ⟨okg, okl, okf, oku, okp, oki, okw, okd, okk, oka⟩ := id ok
      have hn64 : gr_n (sg_gr σ) ≤ 64 := okg.n
      refine nw_iload C 4 dX1_spread_8 rfl 10 rfl ?_
      refine nw_aload_n C 1 dX1_spread_10 rfl 11 rfl ?_
      refine nw_alenI C hfa (by decide) dX1_spread_11 12 rfl ?_
      refine nw_icmpgeN C (by omega) 107 dX1_spread_12 (by decide) 15 rfl (fun h9 => ?_) (fun h9 => ?_)
      · refine nw_aload_n C 3 dX1_spread_107 rfl 108 rfl ?_
        exact nw_aret C (Or.inr ⟨_, rfl⟩) dX1_spread_108 (by omega) (by omega) ⟨⟨a1, rfl, hn7, nwI.congr hcz (fun j hj => hfz j (by omega))⟩, hext⟩
      · obtain ⟨hgro, hgrl, hgrg⟩ := hcG.here (show i < _ by omega)
        refine nw_iconst C (nI 0) dX1_spread_15 (by decide) 16 rfl ?_
        refine nw_istore C [(5, .int (nI 0)), (0, .ref x), (1, .ref nf), (2, .int (nI t)), (3, .ref a1), (4, .int (nI i))] dX1_spread_16 (by decide) rfl 18 rfl ?_
        refine nw_iconst C (nI 0) dX1_spread_18 (by decide) 19 rfl ?_
        refine nw_istore C [(6, .int (nI 0)), (5, .int (nI 0)), (0, .ref x), (1, .ref nf), (2, .int (nI t)), (3, .ref a1), (4, .int (nI i))] dX1_spread_19 (by decide) rfl 21 rfl ?_
        have lp10 : ∀ (fu : Nat) (m : Nat) (b : Bool), (m ≤ 5) → (b = sp_any (sp_from (sg_gr σ) f i) m) → 5 - m < fu → nwV X (nwNew H) (nwQE X (nwZr d (gr_n (sg_gr σ)) (sp_spread σ f t) H) nwNo (nwNew H) 1 64) 8 H2 1 64 21 [(0, .ref x), (1, .ref nf), (2, .int (nI t)), (3, .ref a1), (4, .int (nI i)), (5, .int (b2i b)), (6, .int (nI m))] [] := by
          intro fu
          induction fu with
          | zero => intro m b _ _ hm; exact absurd hm (Nat.not_lt_zero _)
          | succ fu ih_lp10 =>
            intro m b hm5 hb2 hm
            refine nw_iload C 6 dX1_spread_21 rfl 23 rfl ?_
            refine nw_iconst C (nI 4) dX1_spread_23 (by decide) 24 rfl ?_
            refine nw_icmpgtN C (by omega) 77 dX1_spread_24 (by decide) 27 rfl (fun h11 => ?_) (fun h11 => ?_)
            · have hb5 : b = sp_any (sp_from (sg_gr σ) f i) 5 := by rw [hb2]; rw [show m = 5 by omega]
              refine nw_aload_n C 3 dX1_spread_77 rfl 78 rfl ?_
              refine nw_iload C 4 dX1_spread_78 rfl 80 rfl ?_
              refine nw_iload C 5 dX1_spread_80 rfl 82 rfl ?_
              refine nw_ifeqB C 99 dX1_spread_82 (by decide) 85 rfl (fun h12 => ?_) (fun h12 => ?_)
              · refine nw_iconst C (nI 0) dX1_spread_99 (by decide) 100 rfl ?_
                refine nw_zastN C (b := false) hcz hn7 (by omega) dX1_spread_100 101 rfl (fun H13 ho14 hz15 hq16 => ?_)
                have hext := hext.put hz15 hq16 hn7
                have hW := hW0.ext hext.2
                have hfa := hfa0.ext hext.2
                have hE := C.E0.ext hext.2
                have hB := Nat.le_trans hB0 hext.1
                obtain ⟨hx, hcG, hcLa, hcFo, hcGu, hcPo, hcIn, hcWi, hcWo, hcKe⟩ := id hW
                obtain ⟨okg, okl, okf, oku, okp, oki, okw, okd, okk, oka⟩ := id ok
                have hn64 : gr_n (sg_gr σ) ≤ 64 := okg.n
                refine nw_iincN C 4 (c0 := 1) [(4, .int (nI (i + 1))), (0, .ref x), (1, .ref nf), (2, .int (nI t)), (3, .ref a1), (5, .int (b2i b)), (6, .int (nI m))] dX1_spread_101 rfl (by decide) rfl 104 rfl ?_
                refine nw_goto C 8 dX1_spread_104 (by decide) ?_
                exact nw_wide (by omega) (by omega) (nw_sub [1, 2, 3, 4, 0] rfl (ih_lp8 H13 (i + 1) (upd fz i (b2i false)) hext ho14 (by omega) (nw_updI hfz (by unfold sp_spread; rw [← hb5]; simp [h12])) (by omega)))
              · refine nw_aload_n C 0 dX1_spread_85 rfl 86 rfl ?_
                refine nw_iload C 4 dX1_spread_86 rfl 88 rfl ?_
                refine nw_iload_n C 2 dX1_spread_88 rfl 89 rfl ?_
                refine nw_callV C (mX1_isHidden _ C.hfl d ro ad x σ sm i t H2 hB hW ok (by omega) (by omega)) kX1_isHidden q1278 (hx.is C (ci := 0) rfl) (As := [.int (nI i), .int (nI t)]) (rest := [.int (nI i), .ref a1]) rfl rfl ⟨⟨Nat.le_of_ble_eq_true rfl, Nat.le_of_ble_eq_true rfl⟩, Nat.le_of_ble_eq_true rfl, Nat.le_of_ble_eq_true rfl⟩ (Nat.le_of_ble_eq_true rfl) (fun _ h8 h9 => absurd h9 (Nat.not_le.mpr h8)) dX1_spread_89 92 rfl (nw_rdK ?_) nw_noX
                refine nw_ifeqB C 99 dX1_spread_92 (by decide) 95 rfl (fun h17 => ?_) (fun h17 => ?_)
                · refine nw_iconst C (nI 0) dX1_spread_99 (by decide) 100 rfl ?_
                  refine nw_zastN C (b := false) hcz hn7 (by omega) dX1_spread_100 101 rfl (fun H18 ho19 hz20 hq21 => ?_)
                  have hext := hext.put hz20 hq21 hn7
                  have hW := hW0.ext hext.2
                  have hfa := hfa0.ext hext.2
                  have hE := C.E0.ext hext.2
                  have hB := Nat.le_trans hB0 hext.1
                  obtain ⟨hx, hcG, hcLa, hcFo, hcGu, hcPo, hcIn, hcWi, hcWo, hcKe⟩ := id hW
                  obtain ⟨okg, okl, okf, oku, okp, oki, okw, okd, okk, oka⟩ := id ok
                  have hn64 : gr_n (sg_gr σ) ≤ 64 := okg.n
                  refine nw_iincN C 4 (c0 := 1) [(4, .int (nI (i + 1))), (0, .ref x), (1, .ref nf), (2, .int (nI t)), (3, .ref a1), (5, .int (b2i b)), (6, .int (nI m))] dX1_spread_101 rfl (by decide) rfl 104 rfl ?_
                  refine nw_goto C 8 dX1_spread_104 (by decide) ?_
                  exact nw_wide (by omega) (by omega) (nw_sub [1, 2, 3, 4, 0] rfl (ih_lp8 H18 (i + 1) (upd fz i (b2i false)) hext ho19 (by omega) (nw_updI hfz (by unfold sp_spread; rw [← hb5]; simp [h17])) (by omega)))
                · refine nw_iconst C (nI 1) dX1_spread_95 (by decide) 96 rfl ?_
                  refine nw_goto C 100 dX1_spread_96 (by decide) ?_
                  refine nw_zastN C (b := true) hcz hn7 (by omega) dX1_spread_100 101 rfl (fun H22 ho23 hz24 hq25 => ?_)
                  have hext := hext.put hz24 hq25 hn7
                  have hW := hW0.ext hext.2
                  have hfa := hfa0.ext hext.2
                  have hE := C.E0.ext hext.2
                  have hB := Nat.le_trans hB0 hext.1
                  obtain ⟨hx, hcG, hcLa, hcFo, hcGu, hcPo, hcIn, hcWi, hcWo, hcKe⟩ := id hW
                  obtain ⟨okg, okl, okf, oku, okp, oki, okw, okd, okk, oka⟩ := id ok
                  have hn64 : gr_n (sg_gr σ) ≤ 64 := okg.n
                  refine nw_iincN C 4 (c0 := 1) [(4, .int (nI (i + 1))), (0, .ref x), (1, .ref nf), (2, .int (nI t)), (3, .ref a1), (5, .int (b2i b)), (6, .int (nI m))] dX1_spread_101 rfl (by decide) rfl 104 rfl ?_
                  refine nw_goto C 8 dX1_spread_104 (by decide) ?_
                  exact nw_wide (by omega) (by omega) (nw_sub [1, 2, 3, 4, 0] rfl (ih_lp8 H22 (i + 1) (upd fz i (b2i true)) hext ho23 (by omega) (nw_updI hfz (by unfold sp_spread; rw [← hb5]; simp [h12, h17])) (by omega)))
            · refine nw_iload C 5 dX1_spread_27 rfl 29 rfl ?_
              refine nw_ifneB C 77 dX1_spread_29 (by decide) 32 rfl (fun h26 => ?_) (fun h26 => ?_)
              · have hb5 : b = sp_any (sp_from (sg_gr σ) f i) 5 := by have e9 := h26; rw [e9] at hb2 ⊢; exact (sp_any_mono hm5 hb2.symm).symm
                refine nw_aload_n C 3 dX1_spread_77 rfl 78 rfl ?_
                refine nw_iload C 4 dX1_spread_78 rfl 80 rfl ?_
                refine nw_iload C 5 dX1_spread_80 rfl 82 rfl ?_
                refine nw_ifeqB C 99 dX1_spread_82 (by decide) 85 rfl (fun h27 => ?_) (fun h27 => ?_)
                · refine nw_iconst C (nI 0) dX1_spread_99 (by decide) 100 rfl ?_
                  refine nw_zastN C (b := false) hcz hn7 (by omega) dX1_spread_100 101 rfl (fun H28 ho29 hz30 hq31 => ?_)
                  have hext := hext.put hz30 hq31 hn7
                  have hW := hW0.ext hext.2
                  have hfa := hfa0.ext hext.2
                  have hE := C.E0.ext hext.2
                  have hB := Nat.le_trans hB0 hext.1
                  obtain ⟨hx, hcG, hcLa, hcFo, hcGu, hcPo, hcIn, hcWi, hcWo, hcKe⟩ := id hW
                  obtain ⟨okg, okl, okf, oku, okp, oki, okw, okd, okk, oka⟩ := id ok
                  have hn64 : gr_n (sg_gr σ) ≤ 64 := okg.n
                  refine nw_iincN C 4 (c0 := 1) [(4, .int (nI (i + 1))), (0, .ref x), (1, .ref nf), (2, .int (nI t)), (3, .ref a1), (5, .int (b2i b)), (6, .int (nI m))] dX1_spread_101 rfl (by decide) rfl 104 rfl ?_
                  refine nw_goto C 8 dX1_spread_104 (by decide) ?_
                  exact nw_wide (by omega) (by omega) (nw_sub [1, 2, 3, 4, 0] rfl (ih_lp8 H28 (i + 1) (upd fz i (b2i false)) hext ho29 (by omega) (nw_updI hfz (by unfold sp_spread; rw [← hb5]; simp [h27])) (by omega)))
                · refine nw_aload_n C 0 dX1_spread_85 rfl 86 rfl ?_
                  refine nw_iload C 4 dX1_spread_86 rfl 88 rfl ?_
                  refine nw_iload_n C 2 dX1_spread_88 rfl 89 rfl ?_
                  refine nw_callV C (mX1_isHidden _ C.hfl d ro ad x σ sm i t H2 hB hW ok (by omega) (by omega)) kX1_isHidden q1278 (hx.is C (ci := 0) rfl) (As := [.int (nI i), .int (nI t)]) (rest := [.int (nI i), .ref a1]) rfl rfl ⟨⟨Nat.le_of_ble_eq_true rfl, Nat.le_of_ble_eq_true rfl⟩, Nat.le_of_ble_eq_true rfl, Nat.le_of_ble_eq_true rfl⟩ (Nat.le_of_ble_eq_true rfl) (fun _ h8 h9 => absurd h9 (Nat.not_le.mpr h8)) dX1_spread_89 92 rfl (nw_rdK ?_) nw_noX
                  refine nw_ifeqB C 99 dX1_spread_92 (by decide) 95 rfl (fun h32 => ?_) (fun h32 => ?_)
                  · refine nw_iconst C (nI 0) dX1_spread_99 (by decide) 100 rfl ?_
                    refine nw_zastN C (b := false) hcz hn7 (by omega) dX1_spread_100 101 rfl (fun H33 ho34 hz35 hq36 => ?_)
                    have hext := hext.put hz35 hq36 hn7
                    have hW := hW0.ext hext.2
                    have hfa := hfa0.ext hext.2
                    have hE := C.E0.ext hext.2
                    have hB := Nat.le_trans hB0 hext.1
                    obtain ⟨hx, hcG, hcLa, hcFo, hcGu, hcPo, hcIn, hcWi, hcWo, hcKe⟩ := id hW
                    obtain ⟨okg, okl, okf, oku, okp, oki, okw, okd, okk, oka⟩ := id ok
                    have hn64 : gr_n (sg_gr σ) ≤ 64 := okg.n
                    refine nw_iincN C 4 (c0 := 1) [(4, .int (nI (i + 1))), (0, .ref x), (1, .ref nf), (2, .int (nI t)), (3, .ref a1), (5, .int (b2i b)), (6, .int (nI m))] dX1_spread_101 rfl (by decide) rfl 104 rfl ?_
                    refine nw_goto C 8 dX1_spread_104 (by decide) ?_
                    exact nw_wide (by omega) (by omega) (nw_sub [1, 2, 3, 4, 0] rfl (ih_lp8 H33 (i + 1) (upd fz i (b2i false)) hext ho34 (by omega) (nw_updI hfz (by unfold sp_spread; rw [← hb5]; simp [h32])) (by omega)))
                  · refine nw_iconst C (nI 1) dX1_spread_95 (by decide) 96 rfl ?_
                    refine nw_goto C 100 dX1_spread_96 (by decide) ?_
                    refine nw_zastN C (b := true) hcz hn7 (by omega) dX1_spread_100 101 rfl (fun H37 ho38 hz39 hq40 => ?_)
                    have hext := hext.put hz39 hq40 hn7
                    have hW := hW0.ext hext.2
                    have hfa := hfa0.ext hext.2
                    have hE := C.E0.ext hext.2
                    have hB := Nat.le_trans hB0 hext.1
                    obtain ⟨hx, hcG, hcLa, hcFo, hcGu, hcPo, hcIn, hcWi, hcWo, hcKe⟩ := id hW
                    obtain ⟨okg, okl, okf, oku, okp, oki, okw, okd, okk, oka⟩ := id ok
                    have hn64 : gr_n (sg_gr σ) ≤ 64 := okg.n
                    refine nw_iincN C 4 (c0 := 1) [(4, .int (nI (i + 1))), (0, .ref x), (1, .ref nf), (2, .int (nI t)), (3, .ref a1), (5, .int (b2i b)), (6, .int (nI m))] dX1_spread_101 rfl (by decide) rfl 104 rfl ?_
                    refine nw_goto C 8 dX1_spread_104 (by decide) ?_
                    exact nw_wide (by omega) (by omega) (nw_sub [1, 2, 3, 4, 0] rfl (ih_lp8 H37 (i + 1) (upd fz i (b2i true)) hext ho38 (by omega) (nw_updI hfz (by unfold sp_spread; rw [← hb5]; simp [h27, h32])) (by omega)))
              · refine nw_aload_n C 0 dX1_spread_32 rfl 33 rfl ?_
                refine nw_get C hx (T := TX1) rfl in_X1 0 (by decide) q221 (Or.inl rfl) rfl dX1_spread_33 36 rfl ?_
                refine nw_callV C (mJ0_get _ C.hfl d (ad 0) (ad 9) H2 hB hgrl) kJ0_get q280 (hgrl.is C (ci := 15) rfl) (As := []) (rest := []) rfl rfl ⟨⟨Nat.le_of_ble_eq_true rfl, Nat.le_of_ble_eq_true rfl⟩, Nat.le_of_ble_eq_true rfl, Nat.le_of_ble_eq_true rfl⟩ (Nat.le_of_ble_eq_true rfl) (fun _ h8 h9 => absurd h9 (Nat.not_le.mpr h8)) dX1_spread_36 39 rfl (nw_rdK ?_) nw_noX
                refine nw_cast C (ci := 1) rfl (hgrg.1.is C (ci := 1) rfl) q284 dX1_spread_39 42 rfl ?_
                refine nw_iload C 4 dX1_spread_42 rfl 44 rfl ?_
                refine nw_iload C 6 dX1_spread_44 rfl 46 rfl ?_
                refine nw_callV C (mX6_moved _ C.hfl d (ad 9) (ad 10) (sg_gr σ) i m H2 hB hgrg hgro (by omega) (by omega)) kX6_moved q617 (hgrg.1.is C (ci := 1) rfl) (As := [.int (nI i), .int (nI m)]) (rest := []) rfl rfl ⟨⟨Nat.le_of_ble_eq_true rfl, Nat.le_of_ble_eq_true rfl⟩, Nat.le_of_ble_eq_true rfl, Nat.le_of_ble_eq_true rfl⟩ (Nat.le_of_ble_eq_true rfl) (fun _ h8 h9 => absurd h9 (Nat.not_le.mpr h8)) dX1_spread_46 49 rfl (nw_rdK ?_) nw_noX
                generalize hmv : sp_moved (sg_gr σ) i m = om
                rcases om with _ | xx
                · show nwV X _ _ 8 H2 1 64 49 [(0, .ref x), (1, .ref nf), (2, .int (nI t)), (3, .ref a1), (4, .int (nI i)), (5, .int (b2i b)), (6, .int (nI m))] [.int (oI none)]
                  refine nw_istore C [(7, .int (oI none)), (0, .ref x), (1, .ref nf), (2, .int (nI t)), (3, .ref a1), (4, .int (nI i)), (5, .int (b2i b)), (6, .int (nI m))] dX1_spread_49 (by decide) rfl 51 rfl ?_
                  refine nw_iload C 0 dX1_spread_51 rfl 53 rfl ?_
                  refine nw_iconst C (oI none) dX1_spread_53 (by decide) 54 rfl ?_
                  refine nw_icmpeqT C rfl 68 dX1_spread_54 (by decide) ?_
                  refine nw_iconst C (nI 0) dX1_spread_68 (by decide) 69 rfl ?_
                  refine nw_istore C [(5, .int (nI 0)), (7, .int (oI none)), (0, .ref x), (1, .ref nf), (2, .int (nI t)), (3, .ref a1), (4, .int (nI i)), (6, .int (nI m))] dX1_spread_69 (by decide) rfl 71 rfl ?_
                  refine nw_iincN C 7 (c0 := 1) [(6, .int (nI (m + 1))), (5, .int (nI 0)), (7, .int (oI none)), (0, .ref x), (1, .ref nf), (2, .int (nI t)), (3, .ref a1), (4, .int (nI i))] dX1_spread_71 rfl (by decide) rfl 74 rfl ?_
                  refine nw_goto C 21 dX1_spread_74 (by decide) ?_
                  exact nw_wide (by omega) (by omega) (nw_sub [3, 4, 5, 6, 7, 1, 0] rfl (ih_lp10 (m + 1) false (by omega) (by rw [sp_any, ← hb2, sp_from_n hmv]; simp [h26]) (by omega)))
                · show nwV X _ _ 8 H2 1 64 49 [(0, .ref x), (1, .ref nf), (2, .int (nI t)), (3, .ref a1), (4, .int (nI i)), (5, .int (b2i b)), (6, .int (nI m))] [.int (nI xx)]
                  have hxx := sp_moved_lt hgro (show i < _ by omega) hmv
                  refine nw_istore C [(7, .int (nI xx)), (0, .ref x), (1, .ref nf), (2, .int (nI t)), (3, .ref a1), (4, .int (nI i)), (5, .int (b2i b)), (6, .int (nI m))] dX1_spread_49 (by decide) rfl 51 rfl ?_
                  refine nw_iload C 0 dX1_spread_51 rfl 53 rfl ?_
                  refine nw_iconst C (oI none) dX1_spread_53 (by decide) 54 rfl ?_
                  refine nw_icmpeqF C (nI_m1 (by omega)) 68 dX1_spread_54 (by decide) 57 rfl ?_
                  refine nw_aload_n C 2 dX1_spread_57 rfl 58 rfl ?_
                  refine nw_iload C 0 dX1_spread_58 rfl 60 rfl ?_
                  refine nw_zaldN C (b2i (f xx)) hfa (by omega) rfl dX1_spread_60 61 rfl ?_
                  refine nw_ifeqB C 68 dX1_spread_61 (by decide) 64 rfl (fun h43 => ?_) (fun h43 => ?_)
                  · refine nw_iconst C (nI 0) dX1_spread_68 (by decide) 69 rfl ?_
                    refine nw_istore C [(5, .int (nI 0)), (7, .int (nI xx)), (0, .ref x), (1, .ref nf), (2, .int (nI t)), (3, .ref a1), (4, .int (nI i)), (6, .int (nI m))] dX1_spread_69 (by decide) rfl 71 rfl ?_
                    refine nw_iincN C 7 (c0 := 1) [(6, .int (nI (m + 1))), (5, .int (nI 0)), (7, .int (nI xx)), (0, .ref x), (1, .ref nf), (2, .int (nI t)), (3, .ref a1), (4, .int (nI i))] dX1_spread_71 rfl (by decide) rfl 74 rfl ?_
                    refine nw_goto C 21 dX1_spread_74 (by decide) ?_
                    exact nw_wide (by omega) (by omega) (nw_sub [3, 4, 5, 6, 7, 1, 0] rfl (ih_lp10 (m + 1) false (by omega) (by rw [sp_any, ← hb2, sp_from_s hmv]; simp [h26, h43]) (by omega)))
                  · refine nw_iconst C (nI 1) dX1_spread_64 (by decide) 65 rfl ?_
                    refine nw_goto C 69 dX1_spread_65 (by decide) ?_
                    refine nw_istore C [(5, .int (nI 1)), (7, .int (nI xx)), (0, .ref x), (1, .ref nf), (2, .int (nI t)), (3, .ref a1), (4, .int (nI i)), (6, .int (nI m))] dX1_spread_69 (by decide) rfl 71 rfl ?_
                    refine nw_iincN C 7 (c0 := 1) [(6, .int (nI (m + 1))), (5, .int (nI 1)), (7, .int (nI xx)), (0, .ref x), (1, .ref nf), (2, .int (nI t)), (3, .ref a1), (4, .int (nI i))] dX1_spread_71 rfl (by decide) rfl 74 rfl ?_
                    refine nw_goto C 21 dX1_spread_74 (by decide) ?_
                    exact nw_wide (by omega) (by omega) (nw_sub [3, 4, 5, 6, 7, 1, 0] rfl (ih_lp10 (m + 1) true (by omega) (by rw [sp_any, ← hb2, sp_from_s hmv]; simp [h26, h43]) (by omega)))
        exact nw_wide (by omega) (by omega) (nw_sub [2, 3, 4, 5, 6, 1, 0] rfl (lp10 _ 0 false (by omega) rfl (Nat.lt_succ_self _)))
  exact nw_wide (by omega) (by omega) (nw_sub [2, 3, 4, 1, 0] rfl (lp8 _ H2 0 (fun _ => 0) hext ho4 (Nat.zero_le _) (fun k hk => absurd hk (Nat.not_lt_zero k)) (Nat.lt_succ_self _)))
set_option maxHeartbeats 4000000 in
theorem mX1_sneak (l : Launch) (hf : l.flags = flags0) (d : nwD) (ro ad : Nat → Nat) (x : Nat) (σ : spSg) (sm : Int64) (a : Int32) (b : Int32) (t : Int32) (q : Int32) (H : Heap) (hB : nd_B d ≤ H.size) (hW : nwWC d ro ad x σ sm H) (ok : spOk σ)  : nwMt l d yX1_sneak cX1_sneak 7 (some .int) 10 231 66 4050 [.ref x, .int a, .int b, .int t, .int q] H (nwRv (op_sneak σ a b t q) H) (nwRx (op_sneak σ a b t q) [cIO, cIA] H) (nwNew H) := by
  refine nw_start "NightwatchWall" "sneak" hf (by decide +kernel) rfl rfl (fun _ h => h) (fun q h => Nat.le_trans hB h) (Nat.le_of_ble_eq_true rfl) ?_
  intro X C
  have hW0 := hW
  have hB0 := hB
  have hE := C.E0
  have hext : nwExt H H := nwExt.rfl
  obtain ⟨hx, hcG, hcLa, hcFo, hcGu, hcPo, hcIn, hcWi, hcWo, hcKe⟩ := id hW
  obtain ⟨okg, okl, okf, oku, okp, oki, okw, okd, okk, oka⟩ := id ok
  have hn64 : gr_n (sg_gr σ) ≤ 64 := okg.n
  have oku1 := oku.1
  have oki1 := oki.1
  have okp1 := okp.1
  have okw1 := okw.1
  have okl1 := okl.1
  have okf1 := okf.1
  show nwV X _ _ 7 H 0 0 0 [(0, .ref x), (1, .int a), (2, .int b), (3, .int t), (4, .int q)] []
  refine nw_aload_n C 0 dX1_sneak_0 rfl 1 rfl ?_
  refine nw_iload_n C 1 dX1_sneak_1 rfl 2 rfl ?_
  refine nw_callV C (mX1_groundAt _ C.hfl d ro ad x σ sm a H hB hW ok) kX1_groundAt q810 (hx.is C (ci := 0) rfl) (As := [.int a]) (rest := []) rfl rfl ⟨⟨Nat.le_of_ble_eq_true rfl, Nat.le_of_ble_eq_true rfl⟩, (show 0 + 1 ≤ 66 by omega), (show 0 + 6 ≤ 4050 by omega)⟩ (Nat.le_of_ble_eq_true rfl) (fun _ h8 h9 => absurd h9 (Nat.not_le.mpr h8)) dX1_sneak_2 5 rfl ?_ ?_
  rotate_left
  · intro E9 w9 H2 hR3 hz4 hq5
    obtain ⟨rfl, hb6, hx7⟩ := hR3
    exact nw_out C (show (0 + 1) ≤ 66 by omega) (show (0 + 6) ≤ 4050 by omega) ⟨⟨0, by simp [op_sneak, hb6], rfl⟩, hext.trans hx7⟩
  intro v9 H2 hR3 hz4 hq5
  obtain ⟨rfl, hb8, rfl⟩ := hR3
  obtain ⟨an, hk9, rfl⟩ := nw_ix_nat (by omega) hb8
  have en_an : nw_nn (nI an) = an := nw_nn_nI (by omega)
  obtain ⟨hgro, hgrl, hgrg⟩ := hcG.here (by assumption)
  show nwV X _ _ 7 H (0 + 1) (0 + 6) 5 [(0, .ref x), (1, .int (nI an)), (2, .int b), (3, .int t), (4, .int q)] [.ref (ad 9)]
  refine nw_wide (k' := 1) (n' := 6) (by omega) (by omega) ?_
  refine nw_pop C dX1_sneak_5 rfl 6 rfl ?_
  refine nw_aload_n C 0 dX1_sneak_6 rfl 7 rfl ?_
  refine nw_iload_n C 2 dX1_sneak_7 rfl 8 rfl ?_
  refine nw_callV C (mX1_groundAt _ C.hfl d ro ad x σ sm b H hB hW ok) kX1_groundAt q810 (hx.is C (ci := 0) rfl) (As := [.int b]) (rest := []) rfl rfl ⟨⟨Nat.le_of_ble_eq_true rfl, Nat.le_of_ble_eq_true rfl⟩, (show 1 + 1 ≤ 66 by omega), (show 6 + 6 ≤ 4050 by omega)⟩ (Nat.le_of_ble_eq_true rfl) (fun _ h8 h9 => absurd h9 (Nat.not_le.mpr h8)) dX1_sneak_8 11 rfl ?_ ?_
  rotate_left
  · intro E9 w9 H10 hR11 hz12 hq13
    obtain ⟨rfl, hb14, hx15⟩ := hR11
    exact nw_out C (show (1 + 1) ≤ 66 by omega) (show (6 + 6) ≤ 4050 by omega) ⟨⟨0, by simp [op_sneak, en_an, hb8, hb14], rfl⟩, hext.trans hx15⟩
  intro v9 H10 hR11 hz12 hq13
  obtain ⟨rfl, hb16, rfl⟩ := hR11
  obtain ⟨bn, hk17, rfl⟩ := nw_ix_nat (by omega) hb16
  have en_bn : nw_nn (nI bn) = bn := nw_nn_nI (by omega)
  obtain ⟨hgro, hgrl, hgrg⟩ := hcG.here (by assumption)
  show nwV X _ _ 7 H (1 + 1) (6 + 6) 11 [(0, .ref x), (1, .int (nI an)), (2, .int (nI bn)), (3, .int t), (4, .int q)] [.ref (ad 9)]
  refine nw_wide (k' := 2) (n' := 12) (by omega) (by omega) ?_
  refine nw_pop C dX1_sneak_11 rfl 12 rfl ?_
  refine nw_iload_n C 3 dX1_sneak_12 rfl 13 rfl ?_
  refine nw_callS C (mX1_isMinute _ C.hfl d t H hB) kX1_isMinute q861 (As := [.int t]) (rest := []) rfl rfl ⟨⟨Nat.le_of_ble_eq_true rfl, Nat.le_of_ble_eq_true rfl⟩, Nat.le_of_ble_eq_true rfl, Nat.le_of_ble_eq_true rfl⟩ (Nat.le_of_ble_eq_true rfl) (fun _ h8 h9 => absurd h9 (Nat.not_le.mpr h8)) dX1_sneak_13 16 rfl (nw_rdK ?_) nw_noX
  refine nw_ifeqB C 34 dX1_sneak_16 (by decide) 19 rfl (fun h18 => ?_) (fun h18 => ?_)
  · refine nw_iconst C (nI 0) dX1_sneak_34 (by decide) 35 rfl ?_
    refine nw_callS C (mX1_require _ C.hfl d false H hB) kX1_require q655 (As := [.int (b2i false)]) (rest := []) rfl rfl ⟨⟨Nat.le_of_ble_eq_true rfl, Nat.le_of_ble_eq_true rfl⟩, (show 2 + 1 ≤ 66 by omega), (show 12 + 6 ≤ 4050 by omega)⟩ (Nat.le_of_ble_eq_true rfl) (fun _ h8 h9 => absurd h9 (Nat.not_le.mpr h8)) dX1_sneak_35 38 rfl ?_ ?_
    rotate_left
    · intro E9 w9 H19 hR20 hz21 hq22
      obtain ⟨rfl, hb23, hx24⟩ := hR20
      exact nw_out C (show (2 + 1) ≤ 66 by omega) (show (12 + 6) ≤ 4050 by omega) ⟨⟨1, by simp [op_sneak, h18, en_an, en_bn, hb8, hb16, hb23], rfl⟩, hext.trans hx24⟩
    intro v9 H19 hR20 hz21 hq22
    obtain ⟨rfl, hb25, rfl⟩ := hR20
    cases hb25
  · obtain ⟨tn, hk26, rfl⟩ := nw_rg_nat (by decide) (by decide) h18
    have en_tn : nw_nn (nI tn) = tn := nw_nn_nI (by omega)
    refine nw_iconst C (nI 0) dX1_sneak_19 (by decide) 20 rfl ?_
    refine nw_bipush C (nI 60) dX1_sneak_20 (by decide) 22 rfl ?_
    refine nw_iload C 4 dX1_sneak_22 rfl 24 rfl ?_
    refine nw_callS C (mX1_isFromR _ C.hfl d (nI 0) (nI 60) q H hB) kX1_isFrom q579 (As := [.int (nI 0), .int (nI 60), .int q]) (rest := []) rfl rfl ⟨⟨Nat.le_of_ble_eq_true rfl, Nat.le_of_ble_eq_true rfl⟩, Nat.le_of_ble_eq_true rfl, Nat.le_of_ble_eq_true rfl⟩ (Nat.le_of_ble_eq_true rfl) (fun _ h8 h9 => absurd h9 (Nat.not_le.mpr h8)) dX1_sneak_24 27 rfl (nw_rdK ?_) nw_noX
    show nwV X _ _ 7 H 2 12 27 [(0, .ref x), (1, .int (nI an)), (2, .int (nI bn)), (3, .int (nI tn)), (4, .int q)] [.int (b2i (nw_rg 0 60 q))]
    refine nw_ifeqB C 34 dX1_sneak_27 (by decide) 30 rfl (fun h27 => ?_) (fun h27 => ?_)
    · refine nw_iconst C (nI 0) dX1_sneak_34 (by decide) 35 rfl ?_
      refine nw_callS C (mX1_require _ C.hfl d false H hB) kX1_require q655 (As := [.int (b2i false)]) (rest := []) rfl rfl ⟨⟨Nat.le_of_ble_eq_true rfl, Nat.le_of_ble_eq_true rfl⟩, (show 2 + 1 ≤ 66 by omega), (show 12 + 6 ≤ 4050 by omega)⟩ (Nat.le_of_ble_eq_true rfl) (fun _ h8 h9 => absurd h9 (Nat.not_le.mpr h8)) dX1_sneak_35 38 rfl ?_ ?_
      rotate_left
      · intro E9 w9 H28 hR29 hz30 hq31
        obtain ⟨rfl, hb32, hx33⟩ := hR29
        exact nw_out C (show (2 + 1) ≤ 66 by omega) (show (12 + 6) ≤ 4050 by omega) ⟨⟨1, by simp [op_sneak, h18, h27, en_an, en_bn, en_tn, hb8, hb16, hb32], rfl⟩, hext.trans hx33⟩
      intro v9 H28 hR29 hz30 hq31
      obtain ⟨rfl, hb34, rfl⟩ := hR29
      cases hb34
    · obtain ⟨qn, hk35, rfl⟩ := nw_rg_nat (by decide) (by decide) h27
      have en_qn : nw_nn (nI qn) = qn := nw_nn_nI (by omega)
      refine nw_iconst C (nI 1) dX1_sneak_30 (by decide) 31 rfl ?_
      refine nw_goto C 35 dX1_sneak_31 (by decide) ?_
      refine nw_callS C (mX1_requireT _ C.hfl d H hB) kX1_require q655 (As := [.int (b2i true)]) (rest := []) rfl rfl ⟨⟨Nat.le_of_ble_eq_true rfl, Nat.le_of_ble_eq_true rfl⟩, Nat.le_of_ble_eq_true rfl, Nat.le_of_ble_eq_true rfl⟩ (Nat.le_of_ble_eq_true rfl) (fun _ h8 h9 => absurd h9 (Nat.not_le.mpr h8)) dX1_sneak_35 38 rfl (nw_rdK ?_) nw_noX
      refine nw_aload_n C 0 dX1_sneak_38 rfl 39 rfl ?_
      refine nw_iload_n C 1 dX1_sneak_39 rfl 40 rfl ?_
      refine nw_iload_n C 3 dX1_sneak_40 rfl 41 rfl ?_
      refine nw_callV C (mX1_start _ C.hfl d ro ad x σ sm an tn H hB hW ok (by omega) (by omega)) kX1_start q1274 (hx.is C (ci := 0) rfl) (As := [.int (nI an), .int (nI tn)]) (rest := []) rfl rfl ⟨⟨Nat.le_of_ble_eq_true rfl, Nat.le_of_ble_eq_true rfl⟩, (show 2 + 1 ≤ 66 by omega), (show 12 + 64 ≤ 4050 by omega)⟩ (Nat.le_of_ble_eq_true rfl) (fun _ h8 h9 => absurd h9 (Nat.not_le.mpr h8)) dX1_sneak_41 44 rfl (fun v9 H36 hR37 hz38 hq39 => ?_) nw_noX
      obtain ⟨⟨ar40, rfl, hn41, hi42⟩, -⟩ := hR37
      have hn43 : H.size ≤ ar40 := (Nat.le_trans hext.1 hn41)
      have hext := hext.call hz38 hq39
      have hW := hW0.ext hext.2
      have hE := C.E0.ext hext.2
      have hB := Nat.le_trans hB0 hext.1
      obtain ⟨hx, hcG, hcLa, hcFo, hcGu, hcPo, hcIn, hcWi, hcWo, hcKe⟩ := id hW
      obtain ⟨okg, okl, okf, oku, okp, oki, okw, okd, okk, oka⟩ := id ok
      have hn64 : gr_n (sg_gr σ) ≤ 64 := okg.n
      have oku1 := oku.1
      have oki1 := oki.1
      have okp1 := okp.1
      have okw1 := okw.1
      have okl1 := okl.1
      have okf1 := okf.1
      show nwV X _ _ 7 H36 (2 + 1) (12 + 64) 44 [(0, .ref x), (1, .int (nI an)), (2, .int (nI bn)), (3, .int (nI tn)), (4, .int (nI qn))] [.ref ar40]
      refine nw_wide (k' := 3) (n' := 76) (by omega) (by omega) ?_
      refine nw_astore C [(5, .ref ar40), (0, .ref x), (1, .int (nI an)), (2, .int (nI bn)), (3, .int (nI tn)), (4, .int (nI qn))] dX1_sneak_44 (by decide) rfl 46 rfl ?_
      refine nw_iconst C (nI 0) dX1_sneak_46 (by decide) 47 rfl ?_
      refine nw_istore C [(6, .int (nI 0)), (5, .ref ar40), (0, .ref x), (1, .int (nI an)), (2, .int (nI bn)), (3, .int (nI tn)), (4, .int (nI qn))] dX1_sneak_47 (by decide) rfl 49 rfl ?_
      have lp1 : ∀ (fu : Nat) (H2 : Heap) (j : Nat) (na : Nat), (nwExt H H2) → (nwI d na 1 (gr_n (sg_gr σ)) (fun k => b2i ((sp_seq σ an tn (j - 1)) k)) H2) → (H.size ≤ na) → (j ≤ min (qn + 1) (240 - tn)) → (∀ k, 0 ≤ k → k < j → (fun j => sp_seq σ an tn j bn) k = false) → min (qn + 1) (240 - tn) - j < fu → nwV X (nwNew H) (nwQE X (nwRv (op_sneak σ (nI an) (nI bn) (nI tn) (nI qn)) H) (nwRx (op_sneak σ (nI an) (nI bn) (nI tn) (nI qn)) [cIO, cIA] H) (nwNew H) 66 4050) 7 H2 (4 + j) (82 + 64 * j) 49 [(0, .ref x), (1, .int (nI an)), (2, .int (nI bn)), (3, .int (nI tn)), (4, .int (nI qn)), (5, .ref na), (6, .int (nI j))] [] := by
        intro fu
        induction fu with
        | zero => intro H2 j na _ _ _ _ _ hm; exact absurd hm (Nat.not_lt_zero _)
        | succ fu ih_lp1 =>
          intro H2 j na hext hcz hna hj hno hm
          have hW := hW0.ext hext.2
          have hE := C.E0.ext hext.2
          have hB := Nat.le_trans hB0 hext.1
          obtain ⟨hx, hcG, hcLa, hcFo, hcGu, hcPo, hcIn, hcWi, hcWo, hcKe⟩ := id hW
          obtain ⟨okg, okl, okf, oku, okp, oki, okw, okd, okk, oka⟩ := id ok
          have hn64 : gr_n (sg_gr σ) ≤ 64 := okg.n
          have oku1 := oku.1
          have oki1 := oki.1
          have okp1 := okp.1
          have okw1 := okw.1
          have okl1 := okl.1
          have okf1 := okf.1
          refine nw_iload C 6 dX1_sneak_49 rfl 51 rfl ?_
          refine nw_iload C 4 dX1_sneak_51 rfl 53 rfl ?_
          refine nw_icmpgtN C (by omega) 99 dX1_sneak_53 (by decide) 56 rfl (fun h44 => ?_) (fun h44 => ?_)
          · refine nw_iconst C (oI none) dX1_sneak_99 (by decide) 100 rfl ?_
            have hz0 : sp_fst (fun j => sp_seq σ an tn j bn) 0 (min (qn + 1) (240 - tn)) = none := sp_fst_no (fun k h5 h6 => hno k h5 (by omega))
            exact nw_iret C dX1_sneak_100 (by omega) (by omega) ⟨⟨by simp [op_sneak, en_an, en_bn, en_tn, en_qn, hb8, hb16, h18, h27], by simp [op_sneak, hz0, en_an, en_bn, en_tn, en_qn, hb8, hb16, h18, h27]; try rfl⟩, hext⟩
          · refine nw_iload_n C 3 dX1_sneak_56 rfl 57 rfl ?_
            refine nw_iload C 6 dX1_sneak_57 rfl 59 rfl ?_
            refine nw_iaddN C dX1_sneak_59 60 rfl ?_
            refine nw_sipush C (nI 240) dX1_sneak_60 (by decide) 63 rfl ?_
            refine nw_icmpgeN C (by omega) 99 dX1_sneak_63 (by decide) 66 rfl (fun h45 => ?_) (fun h45 => ?_)
            · refine nw_iconst C (oI none) dX1_sneak_99 (by decide) 100 rfl ?_
              have hz0 : sp_fst (fun j => sp_seq σ an tn j bn) 0 (min (qn + 1) (240 - tn)) = none := sp_fst_no (fun k h5 h6 => hno k h5 (by omega))
              exact nw_iret C dX1_sneak_100 (by omega) (by omega) ⟨⟨by simp [op_sneak, en_an, en_bn, en_tn, en_qn, hb8, hb16, h18, h27], by simp [op_sneak, hz0, en_an, en_bn, en_tn, en_qn, hb8, hb16, h18, h27]; try rfl⟩, hext⟩
            · refine nw_iload C 6 dX1_sneak_66 rfl 68 rfl ?_
              refine nw_ifleN C (by omega) 83 dX1_sneak_68 (by decide) 71 rfl (fun h46 => ?_) (fun h46 => ?_)
              · have hcj47 : nwI d na 1 (gr_n (sg_gr σ)) (fun k => b2i (sp_seq σ an tn j k)) H2 := (sp_seq_0 (show j = 0 by omega) hcz)
                refine nw_aload C 5 dX1_sneak_83 rfl 85 rfl ?_
                refine nw_iload_n C 2 dX1_sneak_85 rfl 86 rfl ?_
                refine nw_zaldN C (b2i (sp_seq σ an tn j bn)) hcj47 (by omega) rfl dX1_sneak_86 87 rfl ?_
                refine nw_ifeqB C 93 dX1_sneak_87 (by decide) 90 rfl (fun h48 => ?_) (fun h48 => ?_)
                · refine nw_iincN C 6 (c0 := 1) [(6, .int (nI (j + 1))), (0, .ref x), (1, .int (nI an)), (2, .int (nI bn)), (3, .int (nI tn)), (4, .int (nI qn)), (5, .ref na)] dX1_sneak_93 rfl (by decide) rfl 96 rfl ?_
                  refine nw_goto C 49 dX1_sneak_96 (by decide) ?_
                  exact nw_wide (by omega) (by omega) (nw_sub [1, 2, 3, 4, 5, 6, 0] rfl (ih_lp1 H2 (j + 1) na hext hcj47 hna (by omega) (fun k h5 h6 => (Nat.lt_or_ge k j).elim (fun g5 => hno k h5 g5) (fun g5 => by rw [show k = j by omega]; exact h48)) (by omega)))
                · refine nw_iload C 6 dX1_sneak_90 rfl 92 rfl ?_
                  have hz0 : sp_fst (fun j => sp_seq σ an tn j bn) 0 (min (qn + 1) (240 - tn)) = some j := sp_fst_at hno (Nat.zero_le _) (by omega) h48
                  exact nw_iret C dX1_sneak_92 (by omega) (by omega) ⟨⟨by simp [op_sneak, en_an, en_bn, en_tn, en_qn, hb8, hb16, h18, h27], by simp [op_sneak, hz0, en_an, en_bn, en_tn, en_qn, hb8, hb16, h18, h27]; try rfl⟩, hext⟩
              · refine nw_aload_n C 0 dX1_sneak_71 rfl 72 rfl ?_
                refine nw_aload C 5 dX1_sneak_72 rfl 74 rfl ?_
                refine nw_iload_n C 3 dX1_sneak_74 rfl 75 rfl ?_
                refine nw_iload C 6 dX1_sneak_75 rfl 77 rfl ?_
                refine nw_iaddN C dX1_sneak_77 78 rfl ?_
                refine nw_callV C (mX1_spread _ C.hfl d ro ad x σ sm na (tn + j) (sp_seq σ an tn (j - 1)) H2 hB hW ok hcz (by omega)) kX1_spread q1282 (hx.is C (ci := 0) rfl) (As := [.ref na, .int (nI (tn + j))]) (rest := []) rfl rfl ⟨⟨Nat.le_of_ble_eq_true rfl, Nat.le_of_ble_eq_true rfl⟩, (show (4 + j) + 1 ≤ 66 by omega), (show (82 + 64 * j) + 64 ≤ 4050 by omega)⟩ (Nat.le_of_ble_eq_true rfl) (fun _ h8 h9 => absurd h9 (Nat.not_le.mpr h8)) dX1_sneak_78 81 rfl (fun v9 H49 hR50 hz51 hq52 => ?_) nw_noX
                obtain ⟨⟨ar53, rfl, hn54, hi55⟩, -⟩ := hR50
                have hn56 : H.size ≤ ar53 := (Nat.le_trans hext.1 hn54)
                have hne57 : na ≠ ar53 := (Nat.ne_of_lt (Nat.lt_of_lt_of_le hcz.lt hn54))
                have ho58 := hcz.kept (hq52 _ hcz.lt (Nat.not_le.mpr hcz.lt))
                have hext := hext.call hz51 hq52
                have hW := hW0.ext hext.2
                have hE := C.E0.ext hext.2
                have hB := Nat.le_trans hB0 hext.1
                obtain ⟨hx, hcG, hcLa, hcFo, hcGu, hcPo, hcIn, hcWi, hcWo, hcKe⟩ := id hW
                obtain ⟨okg, okl, okf, oku, okp, oki, okw, okd, okk, oka⟩ := id ok
                have hn64 : gr_n (sg_gr σ) ≤ 64 := okg.n
                have oku1 := oku.1
                have oki1 := oki.1
                have okp1 := okp.1
                have okw1 := okw.1
                have okl1 := okl.1
                have okf1 := okf.1
                show nwV X _ _ 7 H49 ((4 + j) + 1) ((82 + 64 * j) + 64) 81 [(0, .ref x), (1, .int (nI an)), (2, .int (nI bn)), (3, .int (nI tn)), (4, .int (nI qn)), (5, .ref na), (6, .int (nI j))] [.ref ar53]
                refine nw_wide (k' := 4 + j + 1) (n' := 82 + 64 * j + 64) (by omega) (by omega) ?_
                refine nw_astore C [(5, .ref ar53), (0, .ref x), (1, .int (nI an)), (2, .int (nI bn)), (3, .int (nI tn)), (4, .int (nI qn)), (6, .int (nI j))] dX1_sneak_81 (by decide) rfl 83 rfl ?_
                have hcj59 : nwI d ar53 1 (gr_n (sg_gr σ)) (fun k => b2i (sp_seq σ an tn j k)) H49 := (by rw [← sp_seq_s (by omega)]; exact hi55)
                refine nw_aload C 0 dX1_sneak_83 rfl 85 rfl ?_
                refine nw_iload_n C 3 dX1_sneak_85 rfl 86 rfl ?_
                refine nw_zaldN C (b2i (sp_seq σ an tn j bn)) hcj59 (by omega) rfl dX1_sneak_86 87 rfl ?_
                refine nw_ifeqB C 93 dX1_sneak_87 (by decide) 90 rfl (fun h60 => ?_) (fun h60 => ?_)
                · refine nw_iincN C 6 (c0 := 1) [(6, .int (nI (j + 1))), (5, .ref ar53), (0, .ref x), (1, .int (nI an)), (2, .int (nI bn)), (3, .int (nI tn)), (4, .int (nI qn))] dX1_sneak_93 rfl (by decide) rfl 96 rfl ?_
                  refine nw_goto C 49 dX1_sneak_96 (by decide) ?_
                  exact nw_wide (by omega) (by omega) (nw_sub [2, 3, 4, 5, 6, 1, 0] rfl (ih_lp1 H49 (j + 1) ar53 hext hcj59 hn56 (by omega) (fun k h5 h6 => (Nat.lt_or_ge k j).elim (fun g5 => hno k h5 g5) (fun g5 => by rw [show k = j by omega]; exact h60)) (by omega)))
                · refine nw_iload C 6 dX1_sneak_90 rfl 92 rfl ?_
                  have hz0 : sp_fst (fun j => sp_seq σ an tn j bn) 0 (min (qn + 1) (240 - tn)) = some j := sp_fst_at hno (Nat.zero_le _) (by omega) h60
                  exact nw_iret C dX1_sneak_92 (by omega) (by omega) ⟨⟨by simp [op_sneak, en_an, en_bn, en_tn, en_qn, hb8, hb16, h18, h27], by simp [op_sneak, hz0, en_an, en_bn, en_tn, en_qn, hb8, hb16, h18, h27]; try rfl⟩, hext⟩
      exact nw_wide (by omega) (by omega) (nw_sub [2, 3, 4, 5, 6, 1, 0] rfl (lp1 _ H36 0 ar40 hext hi42 hn43 (Nat.zero_le _) (fun k _ hk => absurd hk (Nat.not_lt_zero k)) (Nat.lt_succ_self _)))
set_option maxHeartbeats 4000000 in
theorem mX1_reach (l : Launch) (hf : l.flags = flags0) (d : nwD) (ro ad : Nat → Nat) (x : Nat) (σ : spSg) (sm : Int64) (a : Int32) (t : Int32) (q : Int32) (H : Heap) (hB : nd_B d ≤ H.size) (hW : nwWC d ro ad x σ sm H) (ok : spOk σ)  : nwMt l d yX1_reach cX1_reach 7 (some .int) 10 231 66 4050 [.ref x, .int a, .int t, .int q] H (nwRv (op_reach σ a t q) H) (nwRx (op_reach σ a t q) [cIO, cIA] H) (nwNew H) := by
  refine nw_start "NightwatchWall" "reach" hf (by decide +kernel) rfl rfl (fun _ h => h) (fun q h => Nat.le_trans hB h) (Nat.le_of_ble_eq_true rfl) ?_
  intro X C
  have hW0 := hW
  have hB0 := hB
  have hE := C.E0
  have hext : nwExt H H := nwExt.rfl
  obtain ⟨hx, hcG, hcLa, hcFo, hcGu, hcPo, hcIn, hcWi, hcWo, hcKe⟩ := id hW
  obtain ⟨okg, okl, okf, oku, okp, oki, okw, okd, okk, oka⟩ := id ok
  have hn64 : gr_n (sg_gr σ) ≤ 64 := okg.n
  have oku1 := oku.1
  have oki1 := oki.1
  have okp1 := okp.1
  have okw1 := okw.1
  have okl1 := okl.1
  have okf1 := okf.1
  show nwV X _ _ 7 H 0 0 0 [(0, .ref x), (1, .int a), (2, .int t), (3, .int q)] []
  refine nw_aload_n C 0 dX1_reach_0 rfl 1 rfl ?_
  refine nw_iload_n C 1 dX1_reach_1 rfl 2 rfl ?_
  refine nw_callV C (mX1_groundAt _ C.hfl d ro ad x σ sm a H hB hW ok) kX1_groundAt q810 (hx.is C (ci := 0) rfl) (As := [.int a]) (rest := []) rfl rfl ⟨⟨Nat.le_of_ble_eq_true rfl, Nat.le_of_ble_eq_true rfl⟩, (show 0 + 1 ≤ 66 by omega), (show 0 + 6 ≤ 4050 by omega)⟩ (Nat.le_of_ble_eq_true rfl) (fun _ h8 h9 => absurd h9 (Nat.not_le.mpr h8)) dX1_reach_2 5 rfl ?_ ?_
  rotate_left
  · intro E9 w9 H2 hR3 hz4 hq5
    obtain ⟨rfl, hb6, hx7⟩ := hR3
    exact nw_out C (show (0 + 1) ≤ 66 by omega) (show (0 + 6) ≤ 4050 by omega) ⟨⟨0, by simp [op_reach, hb6], rfl⟩, hext.trans hx7⟩
  intro v9 H2 hR3 hz4 hq5
  obtain ⟨rfl, hb8, rfl⟩ := hR3
  obtain ⟨an, hk9, rfl⟩ := nw_ix_nat (by omega) hb8
  have en_an : nw_nn (nI an) = an := nw_nn_nI (by omega)
  obtain ⟨hgro, hgrl, hgrg⟩ := hcG.here (by assumption)
  show nwV X _ _ 7 H (0 + 1) (0 + 6) 5 [(0, .ref x), (1, .int (nI an)), (2, .int t), (3, .int q)] [.ref (ad 9)]
  refine nw_wide (k' := 1) (n' := 6) (by omega) (by omega) ?_
  refine nw_pop C dX1_reach_5 rfl 6 rfl ?_
  refine nw_iload_n C 2 dX1_reach_6 rfl 7 rfl ?_
  refine nw_callS C (mX1_isMinute _ C.hfl d t H hB) kX1_isMinute q861 (As := [.int t]) (rest := []) rfl rfl ⟨⟨Nat.le_of_ble_eq_true rfl, Nat.le_of_ble_eq_true rfl⟩, Nat.le_of_ble_eq_true rfl, Nat.le_of_ble_eq_true rfl⟩ (Nat.le_of_ble_eq_true rfl) (fun _ h8 h9 => absurd h9 (Nat.not_le.mpr h8)) dX1_reach_7 10 rfl (nw_rdK ?_) nw_noX
  refine nw_ifeqB C 36 dX1_reach_10 (by decide) 13 rfl (fun h10 => ?_) (fun h10 => ?_)
  · refine nw_iconst C (nI 0) dX1_reach_36 (by decide) 37 rfl ?_
    refine nw_callS C (mX1_require _ C.hfl d false H hB) kX1_require q655 (As := [.int (b2i false)]) (rest := []) rfl rfl ⟨⟨Nat.le_of_ble_eq_true rfl, Nat.le_of_ble_eq_true rfl⟩, (show 1 + 1 ≤ 66 by omega), (show 6 + 6 ≤ 4050 by omega)⟩ (Nat.le_of_ble_eq_true rfl) (fun _ h8 h9 => absurd h9 (Nat.not_le.mpr h8)) dX1_reach_37 40 rfl ?_ ?_
    rotate_left
    · intro E9 w9 H11 hR12 hz13 hq14
      obtain ⟨rfl, hb15, hx16⟩ := hR12
      exact nw_out C (show (1 + 1) ≤ 66 by omega) (show (6 + 6) ≤ 4050 by omega) ⟨⟨1, by simp [op_reach, h10, en_an, hb8, hb15], rfl⟩, hext.trans hx16⟩
    intro v9 H11 hR12 hz13 hq14
    obtain ⟨rfl, hb17, rfl⟩ := hR12
    cases hb17
  · obtain ⟨tn, hk18, rfl⟩ := nw_rg_nat (by decide) (by decide) h10
    have en_tn : nw_nn (nI tn) = tn := nw_nn_nI (by omega)
    refine nw_iconst C (nI 0) dX1_reach_13 (by decide) 14 rfl ?_
    refine nw_bipush C (nI 60) dX1_reach_14 (by decide) 16 rfl ?_
    refine nw_iload_n C 3 dX1_reach_16 rfl 17 rfl ?_
    refine nw_callS C (mX1_isFromR _ C.hfl d (nI 0) (nI 60) q H hB) kX1_isFrom q579 (As := [.int (nI 0), .int (nI 60), .int q]) (rest := []) rfl rfl ⟨⟨Nat.le_of_ble_eq_true rfl, Nat.le_of_ble_eq_true rfl⟩, Nat.le_of_ble_eq_true rfl, Nat.le_of_ble_eq_true rfl⟩ (Nat.le_of_ble_eq_true rfl) (fun _ h8 h9 => absurd h9 (Nat.not_le.mpr h8)) dX1_reach_17 20 rfl (nw_rdK ?_) nw_noX
    show nwV X _ _ 7 H 1 6 20 [(0, .ref x), (1, .int (nI an)), (2, .int (nI tn)), (3, .int q)] [.int (b2i (nw_rg 0 60 q))]
    refine nw_ifeqB C 36 dX1_reach_20 (by decide) 23 rfl (fun h19 => ?_) (fun h19 => ?_)
    · refine nw_iconst C (nI 0) dX1_reach_36 (by decide) 37 rfl ?_
      refine nw_callS C (mX1_require _ C.hfl d false H hB) kX1_require q655 (As := [.int (b2i false)]) (rest := []) rfl rfl ⟨⟨Nat.le_of_ble_eq_true rfl, Nat.le_of_ble_eq_true rfl⟩, (show 1 + 1 ≤ 66 by omega), (show 6 + 6 ≤ 4050 by omega)⟩ (Nat.le_of_ble_eq_true rfl) (fun _ h8 h9 => absurd h9 (Nat.not_le.mpr h8)) dX1_reach_37 40 rfl ?_ ?_
      rotate_left
      · intro E9 w9 H20 hR21 hz22 hq23
        obtain ⟨rfl, hb24, hx25⟩ := hR21
        exact nw_out C (show (1 + 1) ≤ 66 by omega) (show (6 + 6) ≤ 4050 by omega) ⟨⟨1, by simp [op_reach, h10, h19, en_an, en_tn, hb8, hb24], rfl⟩, hext.trans hx25⟩
      intro v9 H20 hR21 hz22 hq23
      obtain ⟨rfl, hb26, rfl⟩ := hR21
      cases hb26
    · obtain ⟨qn, hk27, rfl⟩ := nw_rg_nat (by decide) (by decide) h19
      have en_qn : nw_nn (nI qn) = qn := nw_nn_nI (by omega)
      refine nw_iload_n C 2 dX1_reach_23 rfl 24 rfl ?_
      refine nw_iload_n C 3 dX1_reach_24 rfl 25 rfl ?_
      refine nw_iaddN C dX1_reach_25 26 rfl ?_
      refine nw_sipush C (nI 240) dX1_reach_26 (by decide) 29 rfl ?_
      refine nw_icmpgeN C (by omega) 36 dX1_reach_29 (by decide) 32 rfl (fun h28 => ?_) (fun h28 => ?_)
      · refine nw_iconst C (nI 0) dX1_reach_36 (by decide) 37 rfl ?_
        refine nw_callS C (mX1_require _ C.hfl d false H hB) kX1_require q655 (As := [.int (b2i false)]) (rest := []) rfl rfl ⟨⟨Nat.le_of_ble_eq_true rfl, Nat.le_of_ble_eq_true rfl⟩, (show 1 + 1 ≤ 66 by omega), (show 6 + 6 ≤ 4050 by omega)⟩ (Nat.le_of_ble_eq_true rfl) (fun _ h8 h9 => absurd h9 (Nat.not_le.mpr h8)) dX1_reach_37 40 rfl ?_ ?_
        rotate_left
        · intro E9 w9 H29 hR30 hz31 hq32
          obtain ⟨rfl, hb33, hx34⟩ := hR30
          exact nw_out C (show (1 + 1) ≤ 66 by omega) (show (6 + 6) ≤ 4050 by omega) ⟨⟨1, by simp [op_reach, h10, h19, h28, en_an, en_tn, en_qn, hb8, hb33], rfl⟩, hext.trans hx34⟩
        intro v9 H29 hR30 hz31 hq32
        obtain ⟨rfl, hb35, rfl⟩ := hR30
        cases hb35
      · refine nw_iconst C (nI 1) dX1_reach_32 (by decide) 33 rfl ?_
        refine nw_goto C 37 dX1_reach_33 (by decide) ?_
        refine nw_callS C (mX1_requireT _ C.hfl d H hB) kX1_require q655 (As := [.int (b2i true)]) (rest := []) rfl rfl ⟨⟨Nat.le_of_ble_eq_true rfl, Nat.le_of_ble_eq_true rfl⟩, Nat.le_of_ble_eq_true rfl, Nat.le_of_ble_eq_true rfl⟩ (Nat.le_of_ble_eq_true rfl) (fun _ h8 h9 => absurd h9 (Nat.not_le.mpr h8)) dX1_reach_37 40 rfl (nw_rdK ?_) nw_noX
        refine nw_aload_n C 0 dX1_reach_40 rfl 41 rfl ?_
        refine nw_iload_n C 1 dX1_reach_41 rfl 42 rfl ?_
        refine nw_iload_n C 2 dX1_reach_42 rfl 43 rfl ?_
        refine nw_callV C (mX1_start _ C.hfl d ro ad x σ sm an tn H hB hW ok (by omega) (by omega)) kX1_start q1274 (hx.is C (ci := 0) rfl) (As := [.int (nI an), .int (nI tn)]) (rest := []) rfl rfl ⟨⟨Nat.le_of_ble_eq_true rfl, Nat.le_of_ble_eq_true rfl⟩, (show 1 + 1 ≤ 66 by omega), (show 6 + 64 ≤ 4050 by omega)⟩ (Nat.le_of_ble_eq_true rfl) (fun _ h8 h9 => absurd h9 (Nat.not_le.mpr h8)) dX1_reach_43 46 rfl (fun v9 H36 hR37 hz38 hq39 => ?_) nw_noX
        obtain ⟨⟨ar40, rfl, hn41, hi42⟩, -⟩ := hR37
        have hn43 : H.size ≤ ar40 := (Nat.le_trans hext.1 hn41)
        have hext := hext.call hz38 hq39
        have hW := hW0.ext hext.2
        have hE := C.E0.ext hext.2
        have hB := Nat.le_trans hB0 hext.1
        obtain ⟨hx, hcG, hcLa, hcFo, hcGu, hcPo, hcIn, hcWi, hcWo, hcKe⟩ := id hW
        obtain ⟨okg, okl, okf, oku, okp, oki, okw, okd, okk, oka⟩ := id ok
        have hn64 : gr_n (sg_gr σ) ≤ 64 := okg.n
        have oku1 := oku.1
        have oki1 := oki.1
        have okp1 := okp.1
        have okw1 := okw.1
        have okl1 := okl.1
        have okf1 := okf.1
        show nwV X _ _ 7 H36 (1 + 1) (6 + 64) 46 [(0, .ref x), (1, .int (nI an)), (2, .int (nI tn)), (3, .int (nI qn))] [.ref ar40]
        refine nw_wide (k' := 2) (n' := 70) (by omega) (by omega) ?_
        refine nw_astore C [(4, .ref ar40), (0, .ref x), (1, .int (nI an)), (2, .int (nI tn)), (3, .int (nI qn))] dX1_reach_46 (by decide) rfl 48 rfl ?_
        refine nw_iconst C (nI 1) dX1_reach_48 (by decide) 49 rfl ?_
        refine nw_istore C [(5, .int (nI 1)), (4, .ref ar40), (0, .ref x), (1, .int (nI an)), (2, .int (nI tn)), (3, .int (nI qn))] dX1_reach_49 (by decide) rfl 51 rfl ?_
        have lp1 : ∀ (fu : Nat) (H2 : Heap) (j : Nat) (na : Nat), (nwExt H H2) → (nwI d na 1 (gr_n (sg_gr σ)) (fun k => b2i ((sp_seq σ an tn (j - 1)) k)) H2) → (H.size ≤ na) → (j ≤ qn + 1) → (1 ≤ j) → qn + 1 - j < fu → nwV X (nwNew H) (nwQE X (nwRv (op_reach σ (nI an) (nI tn) (nI qn)) H) (nwRx (op_reach σ (nI an) (nI tn) (nI qn)) [cIO, cIA] H) (nwNew H) 66 4050) 7 H2 (3 + j) (76 + 64 * j) 51 [(0, .ref x), (1, .int (nI an)), (2, .int (nI tn)), (3, .int (nI qn)), (4, .ref na), (5, .int (nI j))] [] := by
          intro fu
          induction fu with
          | zero => intro H2 j na _ _ _ _ _ hm; exact absurd hm (Nat.not_lt_zero _)
          | succ fu ih_lp1 =>
            intro H2 j na hext hcz hna hj hj1 hm
            have hW := hW0.ext hext.2
            have hE := C.E0.ext hext.2
            have hB := Nat.le_trans hB0 hext.1
            obtain ⟨hx, hcG, hcLa, hcFo, hcGu, hcPo, hcIn, hcWi, hcWo, hcKe⟩ := id hW
            obtain ⟨okg, okl, okf, oku, okp, oki, okw, okd, okk, oka⟩ := id ok
            have hn64 : gr_n (sg_gr σ) ≤ 64 := okg.n
            have oku1 := oku.1
            have oki1 := oki.1
            have okp1 := okp.1
            have okw1 := okw.1
            have okl1 := okl.1
            have okf1 := okf.1
            refine nw_iload C 5 dX1_reach_51 rfl 53 rfl ?_
            refine nw_iload_n C 3 dX1_reach_53 rfl 54 rfl ?_
            refine nw_icmpgtN C (by omega) 75 dX1_reach_54 (by decide) 57 rfl (fun h44 => ?_) (fun h44 => ?_)
            · refine nw_iconst C (nI 0) dX1_reach_75 (by decide) 76 rfl ?_
              refine nw_istore C [(5, .int (nI 0)), (0, .ref x), (1, .int (nI an)), (2, .int (nI tn)), (3, .int (nI qn)), (4, .ref na)] dX1_reach_76 (by decide) rfl 78 rfl ?_
              refine nw_iconst C (nI 0) dX1_reach_78 (by decide) 79 rfl ?_
              refine nw_istore C [(6, .int (nI 0)), (5, .int (nI 0)), (0, .ref x), (1, .int (nI an)), (2, .int (nI tn)), (3, .int (nI qn)), (4, .ref na)] dX1_reach_79 (by decide) rfl 81 rfl ?_
              have lp45 : ∀ (fu : Nat) (i : Nat) (m : Nat), (i ≤ gr_n (sg_gr σ)) → (m = sp_cnt (sp_seq σ an tn (j - 1)) i) → gr_n (sg_gr σ) - i < fu → nwV X (nwNew H) (nwQE X (nwRv (op_reach σ (nI an) (nI tn) (nI qn)) H) (nwRx (op_reach σ (nI an) (nI tn) (nI qn)) [cIO, cIA] H) (nwNew H) 66 4050) 7 H2 (3 + j) (76 + 64 * j) 81 [(4, .ref na), (5, .int (nI m)), (6, .int (nI i))] [] := by
                intro fu
                induction fu with
                | zero => intro i m _ _ hm; exact absurd hm (Nat.not_lt_zero _)
                | succ fu ih_lp45 =>
                  intro i m hi hmm hm
                  refine nw_iload C 2 dX1_reach_81 rfl 83 rfl ?_
                  refine nw_aload C 0 dX1_reach_83 rfl 85 rfl ?_
                  refine nw_alenI C hcz (by decide) dX1_reach_85 86 rfl ?_
                  refine nw_icmpgeN C (by omega) 113 dX1_reach_86 (by decide) 89 rfl (fun h46 => ?_) (fun h46 => ?_)
                  · refine nw_iload C 1 dX1_reach_113 rfl 115 rfl ?_
                    have hz0 : m = sp_cnt (sp_seq σ an tn qn) (gr_n (sg_gr σ)) := by rw [hmm, show i = gr_n (sg_gr σ) by omega, show j - 1 = qn by omega]
                    have hlt9 : ¬ 240 ≤ tn + qn := by omega
                    exact nw_iret C dX1_reach_115 (by omega) (by omega) ⟨⟨by simp [op_reach, en_an, en_tn, en_qn, hb8, h10, h19, h28, hlt9], by simp [op_reach, hz0, en_an, en_tn, en_qn, hb8, h10, h19, h28, hlt9]⟩, hext⟩
                  · refine nw_iload C 1 dX1_reach_89 rfl 91 rfl ?_
                    refine nw_aload C 0 dX1_reach_91 rfl 93 rfl ?_
                    refine nw_iload C 2 dX1_reach_93 rfl 95 rfl ?_
                    refine nw_zaldN C (b2i ((sp_seq σ an tn (j - 1)) i)) hcz (by omega) rfl dX1_reach_95 96 rfl ?_
                    refine nw_ifeqB C 103 dX1_reach_96 (by decide) 99 rfl (fun h47 => ?_) (fun h47 => ?_)
                    · refine nw_iconst C (nI 0) dX1_reach_103 (by decide) 104 rfl ?_
                      refine nw_iaddN C dX1_reach_104 105 rfl ?_
                      refine nw_istore C [(5, .int (nI (m + 0))), (4, .ref na), (6, .int (nI i))] dX1_reach_105 (by decide) rfl 107 rfl ?_
                      refine nw_iincN C 2 (c0 := 1) [(6, .int (nI (i + 1))), (5, .int (nI (m + 0))), (4, .ref na)] dX1_reach_107 rfl (by decide) rfl 110 rfl ?_
                      refine nw_goto C 81 dX1_reach_110 (by decide) ?_
                      exact nw_wide (by omega) (by omega) (nw_sub [2, 1, 0] rfl (ih_lp45 (i + 1) m (by omega) (by rw [sp_cnt_f (p := (sp_seq σ an tn (j - 1))) (n := i) h47]; omega) (by omega)))
                    · refine nw_iconst C (nI 1) dX1_reach_99 (by decide) 100 rfl ?_
                      refine nw_goto C 104 dX1_reach_100 (by decide) ?_
                      refine nw_iaddN C dX1_reach_104 105 rfl ?_
                      refine nw_istore C [(5, .int (nI (m + 1))), (4, .ref na), (6, .int (nI i))] dX1_reach_105 (by decide) rfl 107 rfl ?_
                      refine nw_iincN C 2 (c0 := 1) [(6, .int (nI (i + 1))), (5, .int (nI (m + 1))), (4, .ref na)] dX1_reach_107 rfl (by decide) rfl 110 rfl ?_
                      refine nw_goto C 81 dX1_reach_110 (by decide) ?_
                      exact nw_wide (by omega) (by omega) (nw_sub [2, 1, 0] rfl (ih_lp45 (i + 1) (m + 1) (by omega) (by rw [sp_cnt_t (p := (sp_seq σ an tn (j - 1))) (n := i) h47]; omega) (by omega)))
              exact nw_wide (by omega) (by omega) (nw_sub [6, 1, 0] rfl (lp45 _ 0 0 (Nat.zero_le _) rfl (Nat.lt_succ_self _)))
            · refine nw_aload_n C 0 dX1_reach_57 rfl 58 rfl ?_
              refine nw_aload C 4 dX1_reach_58 rfl 60 rfl ?_
              refine nw_iload_n C 2 dX1_reach_60 rfl 61 rfl ?_
              refine nw_iload C 5 dX1_reach_61 rfl 63 rfl ?_
              refine nw_iaddN C dX1_reach_63 64 rfl ?_
              refine nw_callV C (mX1_spread _ C.hfl d ro ad x σ sm na (tn + j) (sp_seq σ an tn (j - 1)) H2 hB hW ok hcz (by omega)) kX1_spread q1282 (hx.is C (ci := 0) rfl) (As := [.ref na, .int (nI (tn + j))]) (rest := []) rfl rfl ⟨⟨Nat.le_of_ble_eq_true rfl, Nat.le_of_ble_eq_true rfl⟩, (show (3 + j) + 1 ≤ 66 by omega), (show (76 + 64 * j) + 64 ≤ 4050 by omega)⟩ (Nat.le_of_ble_eq_true rfl) (fun _ h8 h9 => absurd h9 (Nat.not_le.mpr h8)) dX1_reach_64 67 rfl (fun v9 H48 hR49 hz50 hq51 => ?_) nw_noX
              obtain ⟨⟨ar52, rfl, hn53, hi54⟩, -⟩ := hR49
              have hn55 : H.size ≤ ar52 := (Nat.le_trans hext.1 hn53)
              have hne56 : na ≠ ar52 := (Nat.ne_of_lt (Nat.lt_of_lt_of_le hcz.lt hn53))
              have ho57 := hcz.kept (hq51 _ hcz.lt (Nat.not_le.mpr hcz.lt))
              have hext := hext.call hz50 hq51
              have hW := hW0.ext hext.2
              have hE := C.E0.ext hext.2
              have hB := Nat.le_trans hB0 hext.1
              obtain ⟨hx, hcG, hcLa, hcFo, hcGu, hcPo, hcIn, hcWi, hcWo, hcKe⟩ := id hW
              obtain ⟨okg, okl, okf, oku, okp, oki, okw, okd, okk, oka⟩ := id ok
              have hn64 : gr_n (sg_gr σ) ≤ 64 := okg.n
              have oku1 := oku.1
              have oki1 := oki.1
              have okp1 := okp.1
              have okw1 := okw.1
              have okl1 := okl.1
              have okf1 := okf.1
              show nwV X _ _ 7 H48 ((3 + j) + 1) ((76 + 64 * j) + 64) 67 [(0, .ref x), (1, .int (nI an)), (2, .int (nI tn)), (3, .int (nI qn)), (4, .ref na), (5, .int (nI j))] [.ref ar52]
              refine nw_wide (k' := 3 + j + 1) (n' := 76 + 64 * j + 64) (by omega) (by omega) ?_
              have hcj58 : nwI d ar52 1 (gr_n (sg_gr σ)) (fun k => b2i (sp_seq σ an tn j k)) H48 := (by rw [← sp_seq_s (by omega)]; exact hi54)
              refine nw_astore C [(4, .ref ar52), (0, .ref x), (1, .int (nI an)), (2, .int (nI tn)), (3, .int (nI qn)), (5, .int (nI j))] dX1_reach_67 (by decide) rfl 69 rfl ?_
              refine nw_iincN C 5 (c0 := 1) [(5, .int (nI (j + 1))), (4, .ref ar52), (0, .ref x), (1, .int (nI an)), (2, .int (nI tn)), (3, .int (nI qn))] dX1_reach_69 rfl (by decide) rfl 72 rfl ?_
              refine nw_goto C 51 dX1_reach_72 (by decide) ?_
              exact nw_wide (by omega) (by omega) (nw_sub [2, 3, 4, 5, 1, 0] rfl (ih_lp1 H48 (j + 1) ar52 hext hcj58 hn55 (by omega) (by omega) (by omega)))
        exact nw_wide (by omega) (by omega) (nw_sub [2, 3, 4, 5, 1, 0] rfl (lp1 _ H36 1 ar40 hext hi42 hn43 (by omega) (Nat.le_refl _) (Nat.lt_succ_self _)))
