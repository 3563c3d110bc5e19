/-! ===== runs, and who comes first ===== -/
def nwVr (r : Int32) (H : Heap) : Option Value → Heap → Prop := fun v H1 => v = some (.int r) ∧ nwExt H H1
def nwBr (r : Bool) (H : Heap) : Option Value → Heap → Prop := fun v H1 => v = some (.int (b2i r)) ∧ nwExt H H1
section BF
variable {g : spGr} {c m x i n f : Nat} {b : spBf}
theorem bfl_end (h : ¬ i < bf_l b) : bfl g f i b = b := by
  cases f with
  | zero => rfl
  | succ f => unfold bfl; rw [if_neg h]
theorem bfl_step (hi : i < n) (h : i < bf_l b) : bfl g (n - i) i b = bfl g (n - (i + 1)) (i + 1) (bfc g (bf_q b i) 4 1 b) := by
  rw [show n - i = (n - (i + 1)) + 1 by omega, bfl, if_pos h]
theorem bfc_step (h : m ≤ 4) : bfc g c (5 - m) m b = bfc g c (5 - (m + 1)) (m + 1) (bf1 g c m b) := by
  rw [show 5 - m = (5 - (m + 1)) + 1 by omega]; rfl
theorem bf1_n (h : sp_moved g c m = none) : bf1 g c m b = b := by unfold bf1; rw [h]
theorem bf1_x (h : sp_moved g c m = some x) (h2 : ¬ bf_r b x = none ∨ gr_k g x = 1) : bf1 g c m b = b := by
  unfold bf1; rw [h]; dsimp only
  rw [if_neg (fun e => h2.elim (fun z => z e.1) (fun z => e.2 z))]
def bfv (o : Option Nat) : Nat := match o with | none => 0 | some v => v + 1
theorem bfv_add (o : Option Nat) : oI o + nI 1 = nI (bfv o) := by
  cases o with
  | none => rfl
  | some v => exact nI_add v 1
theorem bf1_s (h : sp_moved g c m = some x) (h2 : bf_r b x = none) (h3 : ¬ gr_k g x = 1) : bf1 g c m b = ((fun k => if k = x then some (bfv (bf_r b c)) else bf_r b k), (fun k => if k = bf_l b then x else bf_q b k), bf_l b + 1) := by
  unfold bf1; rw [h]; dsimp only
  rw [if_pos ⟨h2, h3⟩]; rfl
end BF
theorem sp_foundS_in {s : spSg} {i : spI1} {f : Nat} (h : sp_foundS s i = some f) : in_a i ≤ f ∧ f < 240 := by
  obtain ⟨h1, h2, -⟩ := sp_fst_some (p := fun t => sp_watched (sg_gr s) (sg_la s) (sg_fo s) (sg_gu s) (sp_at i t) t) h
  omega
theorem sp_resp_lt {s : spSg} {u : spGd} {i : spI1} {f v : Nat} (hf : f ≤ 240) (h : sp_resp s u i f = some v) : v < 240 := by
  unfold sp_resp at h
  split at h
  · cases h
  · have := sp_fst_some h; omega
theorem sp_first_n {s : spSg} {i : spI1} {f k : Nat} (h : sp_resp s ((sg_gu s).2 k) i f = none) : sp_first s i f (k + 1) = sp_first s i f k := by
  rw [sp_first, h]
theorem sp_first_a {s : spSg} {i : spI1} {f k m : Nat} (h : sp_resp s ((sg_gu s).2 k) i f = some m) (h2 : (sp_first s i f k).1 = none) : sp_first s i f (k + 1) = (some m, some k) := by
  rw [sp_first, h]; dsimp only; rw [h2]
theorem sp_first_b {s : spSg} {i : spI1} {f k m b : Nat} (h : sp_resp s ((sg_gu s).2 k) i f = some m) (h2 : (sp_first s i f k).1 = some b) : sp_first s i f (k + 1) = if m < b then (some m, some k) else sp_first s i f k := by
  rw [sp_first, h]; dsimp only; rw [h2]
theorem kX1_runs : nwPV "NightwatchWall" yX1_runs cX1_runs 9 (some (.array .int)) 1 := ⟨⟨q615, qs30, q86, q616⟩, rfl, by decide +kernel, by decide +kernel, by decide +kernel⟩
theorem kX1_found : nwPV "NightwatchWall" yX1_found cX1_found 3 (some .int) 1 := ⟨⟨q409, qs5, q86, q410⟩, rfl, by decide +kernel, by decide +kernel, by decide +kernel⟩
theorem kX1_response : nwPV "NightwatchWall" yX1_response cX1_response 8 (some .int) 3 := ⟨⟨q611, qs29, q86, q612⟩, rfl, by decide +kernel, by decide +kernel, by decide +kernel⟩
theorem kX12_end : nwPV "NightwatchWall$Intruder" yX12_end cX12_end 1 (some .int) 0 := ⟨⟨q602, q603, q120, q604⟩, rfl, by decide +kernel, by decide +kernel, by decide +kernel⟩
theorem kX1_firstResponse : nwPV "NightwatchWall" yX1_firstResponse cX1_firstResponse 8 (some .int) 2 := ⟨⟨q607, qs28, q86, q608⟩, rfl, by decide +kernel, by decide +kernel, by decide +kernel⟩
theorem kX1_ofIntruderNow : nwPV "NightwatchWall" yX1_ofIntruderNow cX1_ofIntruderNow 4 (some .int) 2 := ⟨⟨q599, qs27, q86, q600⟩, rfl, by decide +kernel, by decide +kernel, by decide +kernel⟩
set_option maxHeartbeats 4000000 in
theorem mX1_runs (l : Launch) (hf : l.flags = flags0) (d : nwD) (ro ad : Nat → Nat) (x : Nat) (σ : spSg) (sm : Int64) (p : Nat) (H : Heap) (hB : nd_B d ≤ H.size) (hW : nwWC d ro ad x σ sm H) (ok : spOk σ) (hp : p < gr_n (sg_gr σ)) : nwMt l d yX1_runs cX1_runs 9 (some (.array .int)) 3 63 2 128 [.ref x, .int (nI p)] H (nwIr d (gr_n (sg_gr σ)) (fun k => oI (sp_runs (sg_gr σ) p k)) H) nwNo (nwNew H) := by
  refine nw_start "NightwatchWall" "runs" hf (by decide +kernel) rfl rfl (fun _ h => h) (fun q h => Nat.le_trans hB h) (Nat.le_of_ble_eq_true rfl) ?_
  intro X C
  have hW0 := hW
  have hB0 := hB
  have hE := C.E0
  have hext : nwExt H H := nwExt.rfl
  obtain ⟨hx, hcG, hcLa, hcFo, hcGu, hcPo, hcIn, hcWi, hcWo, hcKe⟩ := id hW
  obtain ⟨okg, okl, okf, oku, okp, oki, okw, okd, okk, oka⟩ := id ok
  have hn64 : gr_n (sg_gr σ) ≤ 64 := okg.n
  obtain ⟨hgro, hgrl, hgrg⟩ := hcG.here hp
  show nwV X _ _ 9 H 0 0 0 [(0, .ref x), (1, .int (nI p))] []
  refine nw_aload_n C 0 dX1_runs_0 rfl 1 rfl ?_
  refine nw_callV C (mX1_size _ C.hfl d ro ad x σ sm  H hB hW ok ) kX1_size q272 (hx.is C (ci := 0) rfl) (As := []) (rest := []) rfl rfl ⟨⟨Nat.le_of_ble_eq_true rfl, Nat.le_of_ble_eq_true rfl⟩, Nat.le_of_ble_eq_true rfl, Nat.le_of_ble_eq_true rfl⟩ (Nat.le_of_ble_eq_true rfl) (fun _ h8 h9 => absurd h9 (Nat.not_le.mpr h8)) dX1_runs_1 4 rfl (nw_rdK ?_) nw_noX
  refine nw_newi C (by omega) 1 64 (by omega) (by omega) ⟨(show 1 ≤ 2 by omega), (show 64 ≤ 128 by omega)⟩ dX1_runs_4 6 rfl (fun a1 H2 hx3 ho4 hz5 hq6 => ?_)
  have hn7 : H.size ≤ a1 := (by rw [hx3]; exact hext.1)
  have hext := hext.made hz5 hq6
  have hW := hW0.ext hext.2
  have hE := C.E0.ext hext.2
  have hB := Nat.le_trans hB0 hext.1
  obtain ⟨hx, hcG, hcLa, hcFo, hcGu, hcPo, hcIn, hcWi, hcWo, hcKe⟩ := id hW
  obtain ⟨okg, okl, okf, oku, okp, oki, okw, okd, okk, oka⟩ := id ok
  have hn64 : gr_n (sg_gr σ) ≤ 64 := okg.n
  obtain ⟨hgro, hgrl, hgrg⟩ := hcG.here hp
  refine nw_astore_n C [(2, .ref a1), (0, .ref x), (1, .int (nI p))] dX1_runs_6 (by decide) rfl 7 rfl ?_
  refine nw_iconst C (nI 0) dX1_runs_7 (by decide) 8 rfl ?_
  refine nw_istore_n C [(3, .int (nI 0)), (2, .ref a1), (0, .ref x), (1, .int (nI p))] dX1_runs_8 (by decide) rfl 9 rfl ?_
  have lp8 : ∀ (fu : Nat) (H2 : Heap) (i : Nat) (fz : Nat → Int32), (nwExt H H2) → (nwI d a1 0 (gr_n (sg_gr σ)) fz H2) → (i ≤ gr_n (sg_gr σ)) → (∀ k, k < i → fz k = (fun _ => oI none) k) → gr_n (sg_gr σ) - i < fu → nwV X (nwNew H) (nwQE X (nwIr d (gr_n (sg_gr σ)) (fun k => oI (sp_runs (sg_gr σ) p k)) H) nwNo (nwNew H) 2 128) 9 H2 1 64 9 [(0, .ref x), (1, .int (nI p)), (2, .ref a1), (3, .int (nI i))] [] := by
    intro fu
    induction fu with
    | zero => intro H2 i fz _ _ _ _ hm; exact absurd hm (Nat.not_lt_zero _)
    | succ fu ih_lp8 =>
      intro H2 i fz hext hcz hi hfz hm
      have hW := hW0.ext hext.2
      have hE := C.E0.ext hext.2
      have hB := Nat.le_trans hB0 hext.1
      obtain ⟨hx, hcG, hcLa, hcFo, hcGu, hcPo, hcIn, hcWi, hcWo, hcKe⟩ := id hW
      obtain ⟨okg, okl, okf, oku, okp, oki, okw, okd, okk, oka⟩ := id ok
      have hn64 : gr_n (sg_gr σ) ≤ 64 := okg.n
      obtain ⟨hgro, hgrl, hgrg⟩ := hcG.here hp
      refine nw_iload_n C 3 dX1_runs_9 rfl 10 rfl ?_
      refine nw_aload_n C 2 dX1_runs_10 rfl 11 rfl ?_
      refine nw_alenI C hcz (by decide) dX1_runs_11 12 rfl ?_
      refine nw_icmpgeN C (by omega) 25 dX1_runs_12 (by decide) 15 rfl (fun h9 => ?_) (fun h9 => ?_)
      · refine nw_aload_n C 2 dX1_runs_25 rfl 26 rfl ?_
        refine nw_alenI C hcz (by decide) dX1_runs_26 27 rfl ?_
        refine nw_newi C (by omega) 2 128 (by omega) (by omega) ⟨(show 2 ≤ 2 by omega), (show 128 ≤ 128 by omega)⟩ dX1_runs_27 29 rfl (fun a10 H11 hx12 ho13 hz14 hq15 => ?_)
        have hn16 : H.size ≤ a10 := (by rw [hx12]; exact hext.1)
        have hne17 : a1 ≠ a10 := (Nat.ne_of_lt (by rw [hx12]; exact hcz.lt))
        have ho18 := hcz.kept (hq15 _ hcz.lt)
        have hext := hext.made hz14 hq15
        have hW := hW0.ext hext.2
        have hE := C.E0.ext hext.2
        have hB := Nat.le_trans hB0 hext.1
        obtain ⟨hx, hcG, hcLa, hcFo, hcGu, hcPo, hcIn, hcWi, hcWo, hcKe⟩ := id hW
        obtain ⟨okg, okl, okf, oku, okp, oki, okw, okd, okk, oka⟩ := id ok
        have hn64 : gr_n (sg_gr σ) ≤ 64 := okg.n
        obtain ⟨hgro, hgrl, hgrg⟩ := hcG.here hp
        refine nw_astore_n C [(3, .ref a10), (0, .ref x), (1, .int (nI p)), (2, .ref a1)] dX1_runs_29 (by decide) rfl 30 rfl ?_
        refine nw_aload_n C 0 dX1_runs_30 rfl 31 rfl ?_
        refine nw_iconst C (nI 0) dX1_runs_31 (by decide) 32 rfl ?_
        refine nw_iload_n C 2 dX1_runs_32 rfl 33 rfl ?_
        refine nw_iastN C ho13 hn16 (by omega) dX1_runs_33 34 rfl (fun H19 ho20 hz21 hq22 => ?_)
        have ho23 := ho18.kept (hq22 _ hne17)
        have hext := hext.put hz21 hq22 hn16
        have hW := hW0.ext hext.2
        have hE := C.E0.ext hext.2
        have hB := Nat.le_trans hB0 hext.1
        obtain ⟨hx, hcG, hcLa, hcFo, hcGu, hcPo, hcIn, hcWi, hcWo, hcKe⟩ := id hW
        obtain ⟨okg, okl, okf, oku, okp, oki, okw, okd, okk, oka⟩ := id ok
        have hn64 : gr_n (sg_gr σ) ≤ 64 := okg.n
        obtain ⟨hgro, hgrl, hgrg⟩ := hcG.here hp
        refine nw_aload_n C 3 dX1_runs_34 rfl 35 rfl ?_
        refine nw_iload_n C 2 dX1_runs_35 rfl 36 rfl ?_
        refine nw_iconst C (nI 0) dX1_runs_36 (by decide) 37 rfl ?_
        refine nw_iastN C ho23 hn7 (by omega) dX1_runs_37 38 rfl (fun H24 ho25 hz26 hq27 => ?_)
        have ho28 := ho20.kept (hq27 _ (Ne.symm hne17))
        have hext := hext.put hz26 hq27 hn7
        have hW := hW0.ext hext.2
        have hE := C.E0.ext hext.2
        have hB := Nat.le_trans hB0 hext.1
        obtain ⟨hx, hcG, hcLa, hcFo, hcGu, hcPo, hcIn, hcWi, hcWo, hcKe⟩ := id hW
        obtain ⟨okg, okl, okf, oku, okp, oki, okw, okd, okk, oka⟩ := id ok
        have hn64 : gr_n (sg_gr σ) ≤ 64 := okg.n
        obtain ⟨hgro, hgrl, hgrg⟩ := hcG.here hp
        refine nw_iconst C (nI 1) dX1_runs_38 (by decide) 39 rfl ?_
        refine nw_istore C [(4, .int (nI 1)), (3, .ref a10), (0, .ref x), (1, .int (nI p)), (2, .ref a1)] dX1_runs_39 (by decide) rfl 41 rfl ?_
        refine nw_iconst C (nI 0) dX1_runs_41 (by decide) 42 rfl ?_
        refine nw_istore C [(5, .int (nI 0)), (4, .int (nI 1)), (3, .ref a10), (0, .ref x), (1, .int (nI p)), (2, .ref a1)] dX1_runs_42 (by decide) rfl 44 rfl ?_
        have hcr : nwI d a1 0 (gr_n (sg_gr σ)) (fun k => oI (bf_r (bf0 p) k)) H24 := nwI.congr ho25 (fun j hj => by unfold upd bf_r bf0; dsimp only; by_cases e : j = p <;> simp [e, hfz j (by omega)]; try rfl)
        have hcq : nwI d a10 0 (gr_n (sg_gr σ)) (fun k => nI (bf_q (bf0 p) k)) H24 := nwI.congr ho28 (fun j hj => by unfold upd bf_q bf0; dsimp only; by_cases e : j = 0 <;> simp [e]; try rfl)
        have lp29 : ∀ (fu : Nat) (H2 : Heap) (i : Nat) (b : spBf) (la : Nat), (nwExt H H2) → (nwI d a1 0 (gr_n (sg_gr σ)) (fun k => oI (bf_r b k)) H2) → (nwI d a10 0 (gr_n (sg_gr σ)) (fun k => nI (bf_q b k)) H2) → (i ≤ gr_n (sg_gr σ)) → (bfOk (sg_gr σ) b) → (la = bf_l b) → (bfl (sg_gr σ) (gr_n (sg_gr σ) - i) i b = bfl (sg_gr σ) (gr_n (sg_gr σ)) 0 (bf0 p)) → gr_n (sg_gr σ) - i < fu → nwV X (nwNew H) (nwQE X (nwIr d (gr_n (sg_gr σ)) (fun k => oI (sp_runs (sg_gr σ) p k)) H) nwNo (nwNew H) 2 128) 9 H2 2 128 44 [(0, .ref x), (2, .ref a1), (3, .ref a10), (4, .int (nI la)), (5, .int (nI i))] [] := by
          intro fu
          induction fu with
          | zero => intro H2 i b la _ _ _ _ _ _ _ hm; exact absurd hm (Nat.not_lt_zero _)
          | succ fu ih_lp29 =>
            intro H2 i b la hext hcr hcq hi hbo hla hres hm
            have hW := hW0.ext hext.2
            have hE := C.E0.ext hext.2
            have hB := Nat.le_trans hB0 hext.1
            obtain ⟨hx, hcG, hcLa, hcFo, hcGu, hcPo, hcIn, hcWi, hcWo, hcKe⟩ := id hW
            obtain ⟨okg, okl, okf, oku, okp, oki, okw, okd, okk, oka⟩ := id ok
            have hn64 : gr_n (sg_gr σ) ≤ 64 := okg.n
            obtain ⟨hgro, hgrl, hgrg⟩ := hcG.here hp
            have hbl := hbo.le
            refine nw_iload C 4 dX1_runs_44 rfl 46 rfl ?_
            refine nw_iload C 3 dX1_runs_46 rfl 48 rfl ?_
            refine nw_icmpgeN C (by omega) 151 dX1_runs_48 (by decide) 51 rfl (fun h30 => ?_) (fun h30 => ?_)
            · refine nw_aload_n C 1 dX1_runs_151 rfl 152 rfl ?_
              have hrr : sp_runs (sg_gr σ) p = bf_r b := by unfold sp_runs; rw [← hres, bfl_end (by omega)]
              exact nw_aret C (Or.inr ⟨_, rfl⟩) dX1_runs_152 (by omega) (by omega) ⟨⟨a1, rfl, hn7, nwI.congr hcr (fun j hj => by rw [hrr])⟩, hext⟩
            · refine nw_aload_n C 2 dX1_runs_51 rfl 52 rfl ?_
              refine nw_iload C 4 dX1_runs_52 rfl 54 rfl ?_
              refine nw_ialdN C (nI (bf_q b i)) hcq (by omega) rfl dX1_runs_54 55 rfl ?_
              refine nw_istore C [(6, .int (nI (bf_q b i))), (0, .ref x), (2, .ref a1), (3, .ref a10), (4, .int (nI la)), (5, .int (nI i))] dX1_runs_55 (by decide) rfl 57 rfl ?_
              have hqi := hbo.2.1 i (by omega)
              refine nw_iconst C (nI 1) dX1_runs_57 (by decide) 58 rfl ?_
              refine nw_istore C [(7, .int (nI 1)), (6, .int (nI (bf_q b i))), (0, .ref x), (2, .ref a1), (3, .ref a10), (4, .int (nI la)), (5, .int (nI i))] dX1_runs_58 (by decide) rfl 60 rfl ?_
              have lp31 : ∀ (fu : Nat) (H3 : Heap) (m : Nat) (b2 : spBf) (la2 : Nat), (nwExt H H3) → (nwI d a1 0 (gr_n (sg_gr σ)) (fun k => oI (bf_r b2 k)) H3) → (nwI d a10 0 (gr_n (sg_gr σ)) (fun k => nI (bf_q b2 k)) H3) → (1 ≤ m ∧ m ≤ 5) → (bfOk (sg_gr σ) b2) → (la2 = bf_l b2) → (bfc (sg_gr σ) (bf_q b i) (5 - m) m b2 = bfc (sg_gr σ) (bf_q b i) 4 1 b) → 5 - m < fu → nwV X (nwNew H) (nwQE X (nwIr d (gr_n (sg_gr σ)) (fun k => oI (sp_runs (sg_gr σ) p k)) H) nwNo (nwNew H) 2 128) 9 H3 2 128 60 [(0, .ref x), (2, .ref a1), (3, .ref a10), (4, .int (nI la2)), (5, .int (nI i)), (6, .int (nI (bf_q b i))), (7, .int (nI m))] [] := by
                intro fu
                induction fu with
                | zero => intro H3 m b2 la2 _ _ _ _ _ _ _ hm; exact absurd hm (Nat.not_lt_zero _)
                | succ fu ih_lp31 =>
                  intro H3 m b2 la2 hext hcr2 hcq2 hm1 hbo2 hla2 hres2 hm
                  have hW := hW0.ext hext.2
                  have hE := C.E0.ext hext.2
                  have hB := Nat.le_trans hB0 hext.1
                  obtain ⟨hx, hcG, hcLa, hcFo, hcGu, hcPo, hcIn, hcWi, hcWo, hcKe⟩ := id hW
                  obtain ⟨okg, okl, okf, oku, okp, oki, okw, okd, okk, oka⟩ := id ok
                  have hn64 : gr_n (sg_gr σ) ≤ 64 := okg.n
                  obtain ⟨hgro, hgrl, hgrg⟩ := hcG.here hp
                  have hbl2 := hbo2.le
                  refine nw_iload C 6 dX1_runs_60 rfl 62 rfl ?_
                  refine nw_iconst C (nI 4) dX1_runs_62 (by decide) 63 rfl ?_
                  refine nw_icmpgtN C (by omega) 145 dX1_runs_63 (by decide) 66 rfl (fun h32 => ?_) (fun h32 => ?_)
                  · have hbe : bfc (sg_gr σ) (bf_q b i) 4 1 b = b2 := by rw [← hres2, show 5 - m = 0 by omega]; rfl
                    have hla3 : la2 = bf_l (bfc (sg_gr σ) (bf_q b i) 4 1 b) := by rw [hbe]; exact hla2
                    have hcr9 : nwI d a1 0 (gr_n (sg_gr σ)) (fun k => oI (bf_r (bfc (sg_gr σ) (bf_q b i) 4 1 b) k)) H3 := by rw [hbe]; exact hcr2
                    have hcq9 : nwI d a10 0 (gr_n (sg_gr σ)) (fun k => nI (bf_q (bfc (sg_gr σ) (bf_q b i) 4 1 b) k)) H3 := by rw [hbe]; exact hcq2
                    refine nw_iincN C 4 (c0 := 1) [(5, .int (nI (i + 1))), (0, .ref x), (2, .ref a1), (3, .ref a10), (4, .int (nI la2)), (6, .int (nI (bf_q b i))), (7, .int (nI m))] dX1_runs_145 rfl (by decide) rfl 148 rfl ?_
                    refine nw_goto C 44 dX1_runs_148 (by decide) ?_
                    exact nw_wide (by omega) (by omega) (nw_sub [1, 2, 3, 4, 0] rfl (ih_lp29 H3 (i + 1) (bfc (sg_gr σ) (bf_q b i) 4 1 b) la2 hext hcr9 hcq9 (by omega) (bfc.ok hgro hqi 4 1 hbo) hla3 (by rw [← hres]; exact (bfl_step (by omega) (by omega)).symm) (by omega)))
                  · refine nw_aload_n C 0 dX1_runs_66 rfl 67 rfl ?_
                    refine nw_get C hx (T := TX1) rfl in_X1 0 (by decide) q221 (Or.inl rfl) rfl dX1_runs_67 70 rfl ?_
                    refine nw_callV C (mJ0_get _ C.hfl d (ad 0) (ad 9) H3 hB hgrl) kJ0_get q280 (hgrl.is C (ci := 15) rfl) (As := []) (rest := []) rfl rfl ⟨⟨Nat.le_of_ble_eq_true rfl, Nat.le_of_ble_eq_true rfl⟩, Nat.le_of_ble_eq_true rfl, Nat.le_of_ble_eq_true rfl⟩ (Nat.le_of_ble_eq_true rfl) (fun _ h8 h9 => absurd h9 (Nat.not_le.mpr h8)) dX1_runs_70 73 rfl (nw_rdK ?_) nw_noX
                    refine nw_cast C (ci := 1) rfl (hgrg.1.is C (ci := 1) rfl) q284 dX1_runs_73 76 rfl ?_
                    refine nw_iload C 5 dX1_runs_76 rfl 78 rfl ?_
                    refine nw_iload C 6 dX1_runs_78 rfl 80 rfl ?_
                    refine nw_callV C (mX6_moved _ C.hfl d (ad 9) (ad 10) (sg_gr σ) (bf_q b i) m H3 hB hgrg hgro (by omega) (by omega)) kX6_moved q617 (hgrg.1.is C (ci := 1) rfl) (As := [.int (nI (bf_q b i)), .int (nI m)]) (rest := []) rfl rfl ⟨⟨Nat.le_of_ble_eq_true rfl, Nat.le_of_ble_eq_true rfl⟩, Nat.le_of_ble_eq_true rfl, Nat.le_of_ble_eq_true rfl⟩ (Nat.le_of_ble_eq_true rfl) (fun _ h8 h9 => absurd h9 (Nat.not_le.mpr h8)) dX1_runs_80 83 rfl (nw_rdK ?_) nw_noX
                    generalize hmv : sp_moved (sg_gr σ) (bf_q b i) m = om
                    rcases om with _ | xx
                    · show nwV X _ _ 9 H3 2 128 83 [(0, .ref x), (2, .ref a1), (3, .ref a10), (4, .int (nI la2)), (5, .int (nI i)), (6, .int (nI (bf_q b i))), (7, .int (nI m))] [.int (oI none)]
                      refine nw_istore C [(8, .int (oI none)), (0, .ref x), (2, .ref a1), (3, .ref a10), (4, .int (nI la2)), (5, .int (nI i)), (6, .int (nI (bf_q b i))), (7, .int (nI m))] dX1_runs_83 (by decide) rfl 85 rfl ?_
                      refine nw_iload C 0 dX1_runs_85 rfl 87 rfl ?_
                      refine nw_iconst C (oI none) dX1_runs_87 (by decide) 88 rfl ?_
                      refine nw_icmpeqT C rfl 139 dX1_runs_88 (by decide) ?_
                      have hb1 := bf1_n (b := b2) hmv
                      have hlz : la2 = bf_l (bf1 (sg_gr σ) (bf_q b i) m b2) := by rw [hb1]; exact hla2
                      have hcr9 : nwI d a1 0 (gr_n (sg_gr σ)) (fun k => oI (bf_r (bf1 (sg_gr σ) (bf_q b i) m b2) k)) H3 := by rw [hb1]; exact hcr2
                      have hcq9 : nwI d a10 0 (gr_n (sg_gr σ)) (fun k => nI (bf_q (bf1 (sg_gr σ) (bf_q b i) m b2) k)) H3 := by rw [hb1]; exact hcq2
                      refine nw_iincN C 7 (c0 := 1) [(7, .int (nI (m + 1))), (8, .int (oI none)), (0, .ref x), (2, .ref a1), (3, .ref a10), (4, .int (nI la2)), (5, .int (nI i)), (6, .int (nI (bf_q b i)))] dX1_runs_139 rfl (by decide) rfl 142 rfl ?_
                      refine nw_goto C 60 dX1_runs_142 (by decide) ?_
                      exact nw_wide (by omega) (by omega) (nw_sub [2, 3, 4, 5, 6, 7, 0] rfl (ih_lp31 H3 (m + 1) (bf1 (sg_gr σ) (bf_q b i) m b2) la2 hext hcr9 hcq9 (by omega) (bf1.ok hgro hbo2 hqi) hlz (by rw [← hres2]; exact (bfc_step (by omega)).symm) (by omega)))
                    · show nwV X _ _ 9 H3 2 128 83 [(0, .ref x), (2, .ref a1), (3, .ref a10), (4, .int (nI la2)), (5, .int (nI i)), (6, .int (nI (bf_q b i))), (7, .int (nI m))] [.int (nI xx)]
                      have hxx := sp_moved_lt hgro hqi hmv
                      refine nw_istore C [(8, .int (nI xx)), (0, .ref x), (2, .ref a1), (3, .ref a10), (4, .int (nI la2)), (5, .int (nI i)), (6, .int (nI (bf_q b i))), (7, .int (nI m))] dX1_runs_83 (by decide) rfl 85 rfl ?_
                      refine nw_iload C 0 dX1_runs_85 rfl 87 rfl ?_
                      refine nw_iconst C (oI none) dX1_runs_87 (by decide) 88 rfl ?_
                      refine nw_icmpeqF C (nI_m1 (by omega)) 139 dX1_runs_88 (by decide) 91 rfl ?_
                      refine nw_aload_n C 2 dX1_runs_91 rfl 92 rfl ?_
                      refine nw_iload C 0 dX1_runs_92 rfl 94 rfl ?_
                      refine nw_ialdN C (oI (bf_r b2 xx)) hcr2 (by omega) rfl dX1_runs_94 95 rfl ?_
                      refine nw_iconst C (oI none) dX1_runs_95 (by decide) 96 rfl ?_
                      refine nw_icmpneO C (bf_r b2 xx) none (fun v hv => by have := hbo2.2.2.1 _ v hv; omega) (fun v hv => by cases hv) 139 dX1_runs_96 (by decide) 99 rfl (fun h35 => ?_) (fun h35 => ?_)
                      · have hb1 := bf1_x (b := b2) hmv (Or.inl h35)
                        have hlz : la2 = bf_l (bf1 (sg_gr σ) (bf_q b i) m b2) := by rw [hb1]; exact hla2
                        have hcr9 : nwI d a1 0 (gr_n (sg_gr σ)) (fun k => oI (bf_r (bf1 (sg_gr σ) (bf_q b i) m b2) k)) H3 := by rw [hb1]; exact hcr2
                        have hcq9 : nwI d a10 0 (gr_n (sg_gr σ)) (fun k => nI (bf_q (bf1 (sg_gr σ) (bf_q b i) m b2) k)) H3 := by rw [hb1]; exact hcq2
                        refine nw_iincN C 7 (c0 := 1) [(7, .int (nI (m + 1))), (8, .int (nI xx)), (0, .ref x), (2, .ref a1), (3, .ref a10), (4, .int (nI la2)), (5, .int (nI i)), (6, .int (nI (bf_q b i)))] dX1_runs_139 rfl (by decide) rfl 142 rfl ?_
                        refine nw_goto C 60 dX1_runs_142 (by decide) ?_
                        exact nw_wide (by omega) (by omega) (nw_sub [2, 3, 4, 5, 6, 7, 0] rfl (ih_lp31 H3 (m + 1) (bf1 (sg_gr σ) (bf_q b i) m b2) la2 hext hcr9 hcq9 (by omega) (bf1.ok hgro hbo2 hqi) hlz (by rw [← hres2]; exact (bfc_step (by omega)).symm) (by omega)))
                      · refine nw_aload_n C 1 dX1_runs_99 rfl 100 rfl ?_
                        refine nw_get C hx (T := TX1) rfl in_X1 0 (by decide) q221 (Or.inl rfl) rfl dX1_runs_100 103 rfl ?_
                        refine nw_callV C (mJ0_get _ C.hfl d (ad 0) (ad 9) H3 hB hgrl) kJ0_get q280 (hgrl.is C (ci := 15) rfl) (As := []) (rest := []) rfl rfl ⟨⟨Nat.le_of_ble_eq_true rfl, Nat.le_of_ble_eq_true rfl⟩, Nat.le_of_ble_eq_true rfl, Nat.le_of_ble_eq_true rfl⟩ (Nat.le_of_ble_eq_true rfl) (fun _ h8 h9 => absurd h9 (Nat.not_le.mpr h8)) dX1_runs_103 106 rfl (nw_rdK ?_) nw_noX
                        refine nw_cast C (ci := 1) rfl (hgrg.1.is C (ci := 1) rfl) q284 dX1_runs_106 109 rfl ?_
                        refine nw_iload C 0 dX1_runs_109 rfl 111 rfl ?_
                        refine nw_callV C (mX6_isWall _ C.hfl d (ad 9) (ad 10) (sg_gr σ) xx H3 hB hgrg hgro (by omega)) kX6_isWall q289 (hgrg.1.is C (ci := 1) rfl) (As := [.int (nI xx)]) (rest := []) rfl rfl ⟨⟨Nat.le_of_ble_eq_true rfl, Nat.le_of_ble_eq_true rfl⟩, Nat.le_of_ble_eq_true rfl, Nat.le_of_ble_eq_true rfl⟩ (Nat.le_of_ble_eq_true rfl) (fun _ h8 h9 => absurd h9 (Nat.not_le.mpr h8)) dX1_runs_111 114 rfl (nw_rdK ?_) nw_noX
                        refine nw_ifeqB C 120 dX1_runs_114 (by decide) 117 rfl (fun h36 => ?_) (fun h36 => ?_)
                        · have hrn : bf_r b2 xx = none := h35
                          have hkx : ¬ gr_k (sg_gr σ) xx = 1 := by simpa using h36
                          have hfree := hbo2.free hxx hrn
                          have hb1 := bf1_s hmv hrn hkx
                          refine nw_aload_n C 2 dX1_runs_120 rfl 121 rfl ?_
                          refine nw_iload C 0 dX1_runs_121 rfl 123 rfl ?_
                          refine nw_aload_n C 2 dX1_runs_123 rfl 124 rfl ?_
                          refine nw_iload C 6 dX1_runs_124 rfl 126 rfl ?_
                          refine nw_ialdN C (oI (bf_r b2 (bf_q b i))) hcr2 (by omega) rfl dX1_runs_126 127 rfl ?_
                          refine nw_iconst C (nI 1) dX1_runs_127 (by decide) 128 rfl ?_
                          refine nw_iadd C (nI (bfv (bf_r b2 (bf_q b i)))) dX1_runs_128 (bfv_add _) 129 rfl ?_
                          refine nw_iastN C hcr2 hn7 (by omega) dX1_runs_129 130 rfl (fun H37 ho38 hz39 hq40 => ?_)
                          have ho41 := hcq2.kept (hq40 _ (Ne.symm hne17))
                          have hext := hext.put hz39 hq40 hn7
                          have hW := hW0.ext hext.2
                          have hE := C.E0.ext hext.2
                          have hB := Nat.le_trans hB0 hext.1
                          obtain ⟨hx, hcG, hcLa, hcFo, hcGu, hcPo, hcIn, hcWi, hcWo, hcKe⟩ := id hW
                          obtain ⟨okg, okl, okf, oku, okp, oki, okw, okd, okk, oka⟩ := id ok
                          have hn64 : gr_n (sg_gr σ) ≤ 64 := okg.n
                          obtain ⟨hgro, hgrl, hgrg⟩ := hcG.here hp
                          refine nw_aload_n C 3 dX1_runs_130 rfl 131 rfl ?_
                          refine nw_iload C 4 dX1_runs_131 rfl 133 rfl ?_
                          refine nw_iload C 0 dX1_runs_133 rfl 135 rfl ?_
                          refine nw_iastN C ho41 hn16 (by omega) dX1_runs_135 136 rfl (fun H42 ho43 hz44 hq45 => ?_)
                          have ho46 := ho38.kept (hq45 _ hne17)
                          have hext := hext.put hz44 hq45 hn16
                          have hW := hW0.ext hext.2
                          have hE := C.E0.ext hext.2
                          have hB := Nat.le_trans hB0 hext.1
                          obtain ⟨hx, hcG, hcLa, hcFo, hcGu, hcPo, hcIn, hcWi, hcWo, hcKe⟩ := id hW
                          obtain ⟨okg, okl, okf, oku, okp, oki, okw, okd, okk, oka⟩ := id ok
                          have hn64 : gr_n (sg_gr σ) ≤ 64 := okg.n
                          obtain ⟨hgro, hgrl, hgrg⟩ := hcG.here hp
                          refine nw_iincN C 4 (c0 := 1) [(4, .int (nI (la2 + 1))), (8, .int (nI xx)), (0, .ref x), (2, .ref a1), (3, .ref a10), (5, .int (nI i)), (6, .int (nI (bf_q b i))), (7, .int (nI m))] dX1_runs_136 rfl (by decide) rfl 139 rfl ?_
                          have hlz : la2 + 1 = bf_l (bf1 (sg_gr σ) (bf_q b i) m b2) := by rw [hb1, hla2]
                          have hcr9 : nwI d a1 0 (gr_n (sg_gr σ)) (fun k => oI (bf_r (bf1 (sg_gr σ) (bf_q b i) m b2) k)) H42 := nwI.congr ho46 (fun j hj => by rw [hb1]; unfold upd bf_r; dsimp only; split <;> rfl)
                          have hcq9 : nwI d a10 0 (gr_n (sg_gr σ)) (fun k => nI (bf_q (bf1 (sg_gr σ) (bf_q b i) m b2) k)) H42 := nwI.congr ho43 (fun j hj => by rw [hb1]; unfold upd bf_q; dsimp only; rw [hla2]; split <;> rfl)
                          refine nw_iincN C 7 (c0 := 1) [(7, .int (nI (m + 1))), (4, .int (nI (la2 + 1))), (8, .int (nI xx)), (0, .ref x), (2, .ref a1), (3, .ref a10), (5, .int (nI i)), (6, .int (nI (bf_q b i)))] dX1_runs_139 rfl (by decide) rfl 142 rfl ?_
                          refine nw_goto C 60 dX1_runs_142 (by decide) ?_
                          exact nw_wide (by omega) (by omega) (nw_sub [3, 4, 5, 1, 6, 7, 0] rfl (ih_lp31 H42 (m + 1) (bf1 (sg_gr σ) (bf_q b i) m b2) (la2 + 1) hext hcr9 hcq9 (by omega) (bf1.ok hgro hbo2 hqi) hlz (by rw [← hres2]; exact (bfc_step (by omega)).symm) (by omega)))
                        · refine nw_goto C 139 dX1_runs_117 (by decide) ?_
                          have hb1 := bf1_x (b := b2) hmv (Or.inr (by simpa using h36))
                          have hlz : la2 = bf_l (bf1 (sg_gr σ) (bf_q b i) m b2) := by rw [hb1]; exact hla2
                          have hcr9 : nwI d a1 0 (gr_n (sg_gr σ)) (fun k => oI (bf_r (bf1 (sg_gr σ) (bf_q b i) m b2) k)) H3 := by rw [hb1]; exact hcr2
                          have hcq9 : nwI d a10 0 (gr_n (sg_gr σ)) (fun k => nI (bf_q (bf1 (sg_gr σ) (bf_q b i) m b2) k)) H3 := by rw [hb1]; exact hcq2
                          refine nw_iincN C 7 (c0 := 1) [(7, .int (nI (m + 1))), (8, .int (nI xx)), (0, .ref x), (2, .ref a1), (3, .ref a10), (4, .int (nI la2)), (5, .int (nI i)), (6, .int (nI (bf_q b i)))] dX1_runs_139 rfl (by decide) rfl 142 rfl ?_
                          refine nw_goto C 60 dX1_runs_142 (by decide) ?_
                          exact nw_wide (by omega) (by omega) (nw_sub [2, 3, 4, 5, 6, 7, 0] rfl (ih_lp31 H3 (m + 1) (bf1 (sg_gr σ) (bf_q b i) m b2) la2 hext hcr9 hcq9 (by omega) (bf1.ok hgro hbo2 hqi) hlz (by rw [← hres2]; exact (bfc_step (by omega)).symm) (by omega)))
              exact nw_wide (by omega) (by omega) (nw_sub [2, 3, 4, 5, 6, 1, 0] rfl (lp31 _ H2 1 b la hext hcr hcq (by omega) hbo hla rfl (Nat.lt_succ_self _)))
        exact nw_wide (by omega) (by omega) (nw_sub [3, 5, 2, 1, 0] rfl (lp29 _ H24 0 (bf0 p) 1 hext hcr hcq (Nat.zero_le _) (bf0.ok hp) rfl rfl (Nat.lt_succ_self _)))
      · refine nw_aload_n C 2 dX1_runs_15 rfl 16 rfl ?_
        refine nw_iload_n C 3 dX1_runs_16 rfl 17 rfl ?_
        refine nw_iconst C (oI none) dX1_runs_17 (by decide) 18 rfl ?_
        refine nw_iastN C hcz hn7 (by omega) dX1_runs_18 19 rfl (fun H47 ho48 hz49 hq50 => ?_)
        have hext := hext.put hz49 hq50 hn7
        have hW := hW0.ext hext.2
        have hE := C.E0.ext hext.2
        have hB := Nat.le_trans hB0 hext.1
        obtain ⟨hx, hcG, hcLa, hcFo, hcGu, hcPo, hcIn, hcWi, hcWo, hcKe⟩ := id hW
        obtain ⟨okg, okl, okf, oku, okp, oki, okw, okd, okk, oka⟩ := id ok
        have hn64 : gr_n (sg_gr σ) ≤ 64 := okg.n
        obtain ⟨hgro, hgrl, hgrg⟩ := hcG.here hp
        refine nw_iincN C 3 (c0 := 1) [(3, .int (nI (i + 1))), (0, .ref x), (1, .int (nI p)), (2, .ref a1)] dX1_runs_19 rfl (by decide) rfl 22 rfl ?_
        refine nw_goto C 9 dX1_runs_22 (by decide) ?_
        exact nw_wide (by omega) (by omega) (nw_sub [1, 2, 3, 0] rfl (ih_lp8 H47 (i + 1) (upd fz i (oI none)) hext ho48 (by omega) (nw_updI hfz rfl) (by omega)))
  exact nw_wide (by omega) (by omega) (nw_sub [2, 3, 1, 0] rfl (lp8 _ H2 0 (fun _ => 0) hext ho4 (Nat.zero_le _) (fun k hk => absurd hk (Nat.not_lt_zero k)) (Nat.lt_succ_self _)))
set_option maxHeartbeats 4000000 in
theorem mX1_response (l : Launch) (hf : l.flags = flags0) (d : nwD) (ro ad : Nat → Nat) (x : Nat) (σ : spSg) (sm : Int64) (g9 cl : Nat) (P9 : Nat → Prop) (u : spGd) (g wl : Nat) (P : Nat → Prop) (i : spI1) (t : Nat) (H : Heap) (hB : nd_B d ≤ H.size) (hW : nwWC d ro ad x σ sm H) (ok : spOk σ) (hgu : nwGd d g9 cl P9 u H) (hku : okGd (sg_gr σ) u) (hg : nwIn d g wl P i H) (hk : okI1 (sg_gr σ) i) (ht : t < 240) (hit : in_a i ≤ t) : nwMt l d yX1_response cX1_response 8 (some .int) 5 105 2 128 [.ref x, .ref g9, .ref g, .int (nI t)] H (nwVr (oI (sp_resp σ u i t)) H) nwNo (nwNew H) := by
  refine nw_start "NightwatchWall" "response" hf (by decide +kernel) rfl rfl (fun _ h => h) (fun q h => Nat.le_trans hB h) (Nat.le_of_ble_eq_true rfl) ?_
  intro X C
  have hW0 := hW
  have hgu0 := hgu
  have hg0 := hg
  have hB0 := hB
  have hE := C.E0
  have hext : nwExt H H := nwExt.rfl
  obtain ⟨hx, hcG, hcLa, hcFo, hcGu, hcPo, hcIn, hcWi, hcWo, hcKe⟩ := id hW
  obtain ⟨okg, okl, okf, oku, okp, oki, okw, okd, okk, oka⟩ := id ok
  have hn64 : gr_n (sg_gr σ) ≤ 64 := okg.n
  obtain ⟨⟨hia, him1, him2, hiv, his, hil⟩, hcs⟩ := id hk
  obtain ⟨hgo, hgl⟩ := id hg
  obtain ⟨hguo, hgul⟩ := id hgu
  show nwV X _ _ 8 H 0 0 0 [(0, .ref x), (1, .ref g9), (2, .ref g), (3, .int (nI t))] []
  refine nw_aload_n C 1 dX1_response_0 rfl 1 rfl ?_
  refine nw_iload_n C 3 dX1_response_1 rfl 2 rfl ?_
  refine nw_callV C (mX10_place _ C.hfl d g9 cl P9 u (sg_gr σ) t H hB hgu hku (by omega) (by omega)) kX10_place q429 (hguo.is C (ci := 4) rfl) (As := [.int (nI t)]) (rest := []) rfl rfl ⟨⟨Nat.le_of_ble_eq_true rfl, Nat.le_of_ble_eq_true rfl⟩, Nat.le_of_ble_eq_true rfl, Nat.le_of_ble_eq_true rfl⟩ (Nat.le_of_ble_eq_true rfl) (fun _ h8 h9 => absurd h9 (Nat.not_le.mpr h8)) dX1_response_2 5 rfl (nw_rdK ?_) nw_noX
  refine nw_istore C [(4, .int (oI (sp_place u t))), (0, .ref x), (1, .ref g9), (2, .ref g), (3, .int (nI t))] dX1_response_5 (by decide) rfl 7 rfl ?_
  generalize hpl : sp_place u t = o
  rcases o with _ | p
  · show nwV X _ _ 8 H 0 0 7 [(4, .int (oI none)), (0, .ref x), (1, .ref g9), (2, .ref g), (3, .int (nI t))] []
    refine nw_iload C 0 dX1_response_7 rfl 9 rfl ?_
    refine nw_iconst C (oI none) dX1_response_9 (by decide) 10 rfl ?_
    refine nw_icmpneF C rfl 15 dX1_response_10 (by decide) 13 rfl ?_
    refine nw_iconst C (oI none) dX1_response_13 (by decide) 14 rfl ?_
    exact nw_iret C dX1_response_14 (by omega) (by omega) ⟨by unfold sp_resp; rw [hpl], hext⟩
  · show nwV X _ _ 8 H 0 0 7 [(4, .int (nI p)), (0, .ref x), (1, .ref g9), (2, .ref g), (3, .int (nI t))] []
    have hpc := hku.cell hpl
    obtain ⟨hgro, hgrl, hgrg⟩ := hcG.here hpc
    refine nw_iload C 0 dX1_response_7 rfl 9 rfl ?_
    refine nw_iconst C (oI none) dX1_response_9 (by decide) 10 rfl ?_
    refine nw_icmpneT C (nI_m1 (by omega)) 15 dX1_response_10 (by decide) ?_
    refine nw_aload_n C 1 dX1_response_15 rfl 16 rfl ?_
    refine nw_iload C 0 dX1_response_16 rfl 18 rfl ?_
    refine nw_callV C (mX1_runs _ C.hfl d ro ad x σ sm p H hB hW ok (by omega)) kX1_runs q613 (hx.is C (ci := 0) rfl) (As := [.int (nI p)]) (rest := []) rfl rfl ⟨⟨Nat.le_of_ble_eq_true rfl, Nat.le_of_ble_eq_true rfl⟩, (show 0 + 2 ≤ 2 by omega), (show 0 + 128 ≤ 128 by omega)⟩ (Nat.le_of_ble_eq_true rfl) (fun _ h8 h9 => absurd h9 (Nat.not_le.mpr h8)) dX1_response_18 21 rfl (fun v9 H3 hR4 hz5 hq6 => ?_) nw_noX
    obtain ⟨⟨ar7, rfl, hn8, hi9⟩, -⟩ := hR4
    have hn10 : H.size ≤ ar7 := (Nat.le_trans hext.1 hn8)
    have hext := hext.call hz5 hq6
    have hW := hW0.ext hext.2
    have hgu := hgu0.ext hext.2
    have hg := hg0.ext hext.2
    have hE := C.E0.ext hext.2
    have hB := Nat.le_trans hB0 hext.1
    obtain ⟨hx, hcG, hcLa, hcFo, hcGu, hcPo, hcIn, hcWi, hcWo, hcKe⟩ := id hW
    obtain ⟨okg, okl, okf, oku, okp, oki, okw, okd, okk, oka⟩ := id ok
    have hn64 : gr_n (sg_gr σ) ≤ 64 := okg.n
    obtain ⟨⟨hia, him1, him2, hiv, his, hil⟩, hcs⟩ := id hk
    obtain ⟨hgo, hgl⟩ := id hg
    obtain ⟨hguo, hgul⟩ := id hgu
    show nwV X _ _ 8 H3 (0 + 2) (0 + 128) 21 [(4, .int (nI p)), (0, .ref x), (1, .ref g9), (2, .ref g), (3, .int (nI t))] [.ref ar7]
    refine nw_wide (k' := 2) (n' := 128) (by omega) (by omega) ?_
    refine nw_astore C [(5, .ref ar7), (4, .int (nI p)), (0, .ref x), (1, .ref g9), (2, .ref g), (3, .int (nI t))] dX1_response_21 (by decide) rfl 23 rfl ?_
    refine nw_iload_n C 5 dX1_response_23 rfl 24 rfl ?_
    refine nw_istore C [(6, .int (nI t)), (5, .ref ar7), (4, .int (nI p)), (0, .ref x), (1, .ref g9), (2, .ref g), (3, .int (nI t))] dX1_response_24 (by decide) rfl 26 rfl ?_
    have lp11 : ∀ (fu : Nat) (m : Nat), (t ≤ m) → (m ≤ 240) → (∀ k, t ≤ k → k < m → (sp_near1 σ p i t) k = false) → 240 - m < fu → nwV X (nwNew H) (nwQE X (nwVr (oI (sp_resp σ u i t)) H) nwNo (nwNew H) 2 128) 8 H3 2 128 26 [(1, .ref g9), (2, .ref g), (3, .int (nI t)), (5, .ref ar7), (6, .int (nI m))] [] := by
      intro fu
      induction fu with
      | zero => intro m _ _ _ hm; exact absurd hm (Nat.not_lt_zero _)
      | succ fu ih_lp11 =>
        intro m h1 hi hno hm
        refine nw_iload C 4 dX1_response_26 rfl 28 rfl ?_
        refine nw_sipush C (nI 240) dX1_response_28 (by decide) 31 rfl ?_
        refine nw_icmpgeN C (by omega) 69 dX1_response_31 (by decide) 34 rfl (fun h12 => ?_) (fun h12 => ?_)
        · refine nw_iconst C (oI none) dX1_response_69 (by decide) 70 rfl ?_
          exact nw_iret C dX1_response_70 (by omega) (by omega) ⟨by unfold sp_resp; rw [hpl]; dsimp only; rw [sp_fst_no (fun k h5 h6 => hno k h5 (by omega))]; try rfl, hext⟩
        · have hat := hk.at m
          refine nw_aload C 3 dX1_response_34 rfl 36 rfl ?_
          refine nw_aload_n C 1 dX1_response_36 rfl 37 rfl ?_
          refine nw_iload C 4 dX1_response_37 rfl 39 rfl ?_
          refine nw_callV C (mX12_placeN _ C.hfl d g wl P i (sg_gr σ) m H3 hB hg hk hn64 (by omega) (by omega)) kX12_place q411 (hgo.is C (ci := 7) rfl) (As := [.int (nI m)]) (rest := [.ref ar7]) rfl rfl ⟨⟨Nat.le_of_ble_eq_true rfl, Nat.le_of_ble_eq_true rfl⟩, Nat.le_of_ble_eq_true rfl, Nat.le_of_ble_eq_true rfl⟩ (Nat.le_of_ble_eq_true rfl) (fun _ h8 h9 => absurd h9 (Nat.not_le.mpr h8)) dX1_response_39 42 rfl (nw_rdK ?_) nw_noX
          refine nw_ialdN C (oI (sp_runs (sg_gr σ) p (sp_at i m))) hi9 (by omega) rfl dX1_response_42 43 rfl ?_
          generalize hrn : sp_runs (sg_gr σ) p (sp_at i m) = of
          rcases of with _ | vf
          · show nwV X _ _ 8 H3 2 128 43 [(1, .ref g9), (2, .ref g), (3, .int (nI t)), (5, .ref ar7), (6, .int (nI m))] [.int (oI none)]
            refine nw_istore C [(7, .int (oI none)), (1, .ref g9), (2, .ref g), (3, .int (nI t)), (5, .ref ar7), (6, .int (nI m))] dX1_response_43 (by decide) rfl 45 rfl ?_
            refine nw_iload C 0 dX1_response_45 rfl 47 rfl ?_
            refine nw_iconst C (oI none) dX1_response_47 (by decide) 48 rfl ?_
            refine nw_icmpeqT C rfl 63 dX1_response_48 (by decide) ?_
            refine nw_iincN C 5 (c0 := 1) [(6, .int (nI (m + 1))), (7, .int (oI none)), (1, .ref g9), (2, .ref g), (3, .int (nI t)), (5, .ref ar7)] dX1_response_63 rfl (by decide) rfl 66 rfl ?_
            refine nw_goto C 26 dX1_response_66 (by decide) ?_
            exact nw_wide (by omega) (by omega) (nw_sub [2, 3, 4, 5, 0] rfl (ih_lp11 (m + 1) (by omega) (by omega) (fun k h5 h6 => (Nat.lt_or_ge k m).elim (fun g5 => hno k h5 g5) (fun g5 => by rw [show k = m by omega]; exact (by unfold sp_near1; rw [hrn]))) (by omega)))
          · show nwV X _ _ 8 H3 2 128 43 [(1, .ref g9), (2, .ref g), (3, .int (nI t)), (5, .ref ar7), (6, .int (nI m))] [.int (nI vf)]
            have hvf := sp_runs_lt hgro hpc hrn
            refine nw_istore C [(7, .int (nI vf)), (1, .ref g9), (2, .ref g), (3, .int (nI t)), (5, .ref ar7), (6, .int (nI m))] dX1_response_43 (by decide) rfl 45 rfl ?_
            refine nw_iload C 0 dX1_response_45 rfl 47 rfl ?_
            refine nw_iconst C (oI none) dX1_response_47 (by decide) 48 rfl ?_
            refine nw_icmpeqF C (nI_m1 (by omega)) 63 dX1_response_48 (by decide) 51 rfl ?_
            refine nw_iload C 0 dX1_response_51 rfl 53 rfl ?_
            refine nw_iload C 5 dX1_response_53 rfl 55 rfl ?_
            refine nw_iload_n C 3 dX1_response_55 rfl 56 rfl ?_
            refine nw_isubN C (by omega) dX1_response_56 57 rfl ?_
            refine nw_icmpgtN C (by omega) 63 dX1_response_57 (by decide) 60 rfl (fun h15 => ?_) (fun h15 => ?_)
            · refine nw_iincN C 5 (c0 := 1) [(6, .int (nI (m + 1))), (7, .int (nI vf)), (1, .ref g9), (2, .ref g), (3, .int (nI t)), (5, .ref ar7)] dX1_response_63 rfl (by decide) rfl 66 rfl ?_
              refine nw_goto C 26 dX1_response_66 (by decide) ?_
              exact nw_wide (by omega) (by omega) (nw_sub [2, 3, 4, 5, 0] rfl (ih_lp11 (m + 1) (by omega) (by omega) (fun k h5 h6 => (Nat.lt_or_ge k m).elim (fun g5 => hno k h5 g5) (fun g5 => by rw [show k = m by omega]; exact (by unfold sp_near1; rw [hrn]; simp; omega))) (by omega)))
            · refine nw_iload C 5 dX1_response_60 rfl 62 rfl ?_
              exact nw_iret C dX1_response_62 (by omega) (by omega) ⟨by unfold sp_resp; rw [hpl]; dsimp only; rw [sp_fst_at hno h1 (by omega) (by unfold sp_near1; rw [hrn]; simp; omega)]; try rfl, hext⟩
    exact nw_wide (by omega) (by omega) (nw_sub [4, 5, 6, 1, 0] rfl (lp11 _ t (Nat.le_refl _) (by omega) (fun k h5 h6 => absurd h6 (Nat.not_lt.mpr h5)) (Nat.lt_succ_self _)))
set_option maxHeartbeats 4000000 in
theorem mX1_firstResponse (l : Launch) (hf : l.flags = flags0) (d : nwD) (ro ad : Nat → Nat) (x : Nat) (σ : spSg) (sm : Int64) (g wl : Nat) (P : Nat → Prop) (i : spI1) (wb : Bool) (H : Heap) (hB : nd_B d ≤ H.size) (hW : nwWC d ro ad x σ sm H) (ok : spOk σ) (hg : nwIn d g wl P i H) (hk : okI1 (sg_gr σ) i) : nwMt l d yX1_firstResponse cX1_firstResponse 8 (some .int) 9 204 12 768 [.ref x, .ref g, .int (b2i wb)] H (nwVr (oI (sp_firstR σ i wb)) H) nwNo (nwNew H) := by
  refine nw_start "NightwatchWall" "firstResponse" hf (by decide +kernel) rfl rfl (fun _ h => h) (fun q h => Nat.le_trans hB h) (Nat.le_of_ble_eq_true rfl) ?_
  intro X C
  have hW0 := hW
  have hg0 := hg
  have hB0 := hB
  have hE := C.E0
  have hext : nwExt H H := nwExt.rfl
  obtain ⟨hx, hcG, hcLa, hcFo, hcGu, hcPo, hcIn, hcWi, hcWo, hcKe⟩ := id hW
  obtain ⟨okg, okl, okf, oku, okp, oki, okw, okd, okk, oka⟩ := id ok
  have hn64 : gr_n (sg_gr σ) ≤ 64 := okg.n
  obtain ⟨⟨hia, him1, him2, hiv, his, hil⟩, hcs⟩ := id hk
  obtain ⟨hgo, hgl⟩ := id hg
  have oku1 := oku.1
  show nwV X _ _ 8 H 0 0 0 [(0, .ref x), (1, .ref g), (2, .int (b2i wb))] []
  refine nw_aload_n C 0 dX1_firstResponse_0 rfl 1 rfl ?_
  refine nw_aload_n C 1 dX1_firstResponse_1 rfl 2 rfl ?_
  refine nw_callV C (mX1_found _ C.hfl d ro ad x σ sm g wl P i H hB hW ok hg hk) kX1_found q407 (hx.is C (ci := 0) rfl) (As := [.ref g]) (rest := []) rfl rfl ⟨⟨Nat.le_of_ble_eq_true rfl, Nat.le_of_ble_eq_true rfl⟩, Nat.le_of_ble_eq_true rfl, Nat.le_of_ble_eq_true rfl⟩ (Nat.le_of_ble_eq_true rfl) (fun _ h8 h9 => absurd h9 (Nat.not_le.mpr h8)) dX1_firstResponse_2 5 rfl (nw_rdK ?_) nw_noX
  refine nw_istore_n C [(3, .int (oI (sp_foundS σ i))), (0, .ref x), (1, .ref g), (2, .int (b2i wb))] dX1_firstResponse_5 (by decide) rfl 6 rfl ?_
  generalize hfo : sp_foundS σ i = o
  rcases o with _ | t
  · show nwV X _ _ 8 H 0 0 6 [(3, .int (oI none)), (0, .ref x), (1, .ref g), (2, .int (b2i wb))] []
    refine nw_iconst C (oI none) dX1_firstResponse_6 (by decide) 7 rfl ?_
    refine nw_istore C [(4, .int (oI none)), (3, .int (oI none)), (0, .ref x), (1, .ref g), (2, .int (b2i wb))] dX1_firstResponse_7 (by decide) rfl 9 rfl ?_
    refine nw_iconst C (oI none) dX1_firstResponse_9 (by decide) 10 rfl ?_
    refine nw_istore C [(5, .int (oI none)), (4, .int (oI none)), (3, .int (oI none)), (0, .ref x), (1, .ref g), (2, .int (b2i wb))] dX1_firstResponse_10 (by decide) rfl 12 rfl ?_
    refine nw_iconst C (nI 0) dX1_firstResponse_12 (by decide) 13 rfl ?_
    refine nw_istore C [(6, .int (nI 0)), (5, .int (oI none)), (4, .int (oI none)), (3, .int (oI none)), (0, .ref x), (1, .ref g), (2, .int (b2i wb))] dX1_firstResponse_13 (by decide) rfl 15 rfl ?_
    refine nw_iload C 0 dX1_firstResponse_15 rfl 17 rfl ?_
    refine nw_aload_n C 4 dX1_firstResponse_17 rfl 18 rfl ?_
    refine nw_get C hx (T := TX1) rfl in_X1 3 (by decide) q224 (Or.inl rfl) rfl dX1_firstResponse_18 21 rfl ?_
    refine nw_callV C (mJ3_size _ C.hfl d (ad 3) ((sg_gu σ).1) (fun k => ad (300 + k)) (fun q => ro q = 2004) H hB hcGu.1) kJ3_size q346 (hcGu.1.is C) (As := []) (rest := [.int (nI 0)]) rfl rfl ⟨⟨Nat.le_of_ble_eq_true rfl, Nat.le_of_ble_eq_true rfl⟩, Nat.le_of_ble_eq_true rfl, Nat.le_of_ble_eq_true rfl⟩ (Nat.le_of_ble_eq_true rfl) (fun _ h8 h9 => absurd h9 (Nat.not_le.mpr h8)) dX1_firstResponse_21 24 rfl (nw_rdK ?_) nw_noX
    refine nw_icmpgeN C (by omega) 85 dX1_firstResponse_24 (by decide) 27 rfl (fun h1 => ?_) (fun h1 => ?_)
    · refine nw_iload_n C 6 dX1_firstResponse_85 rfl 86 rfl ?_
      refine nw_ifeqB C 94 dX1_firstResponse_86 (by decide) 89 rfl (fun h2 => ?_) (fun h2 => ?_)
      · refine nw_iload C 2 dX1_firstResponse_94 rfl 96 rfl ?_
        exact nw_iret C dX1_firstResponse_96 (by omega) (by omega) ⟨by unfold sp_firstR; rw [hfo], hext⟩
      · refine nw_iload C 1 dX1_firstResponse_89 rfl 91 rfl ?_
        refine nw_goto C 96 dX1_firstResponse_91 (by decide) ?_
        exact nw_iret C dX1_firstResponse_96 (by omega) (by omega) ⟨by unfold sp_firstR; rw [hfo], hext⟩
    · refine nw_iload_n C 3 dX1_firstResponse_27 rfl 28 rfl ?_
      refine nw_iconst C (oI none) dX1_firstResponse_28 (by decide) 29 rfl ?_
      refine nw_icmpeqT C rfl 85 dX1_firstResponse_29 (by decide) ?_
      refine nw_iload_n C 6 dX1_firstResponse_85 rfl 86 rfl ?_
      refine nw_ifeqB C 94 dX1_firstResponse_86 (by decide) 89 rfl (fun h4 => ?_) (fun h4 => ?_)
      · refine nw_iload C 2 dX1_firstResponse_94 rfl 96 rfl ?_
        exact nw_iret C dX1_firstResponse_96 (by omega) (by omega) ⟨by unfold sp_firstR; rw [hfo], hext⟩
      · refine nw_iload C 1 dX1_firstResponse_89 rfl 91 rfl ?_
        refine nw_goto C 96 dX1_firstResponse_91 (by decide) ?_
        exact nw_iret C dX1_firstResponse_96 (by omega) (by omega) ⟨by unfold sp_firstR; rw [hfo], hext⟩
  · show nwV X _ _ 8 H 0 0 6 [(3, .int (nI t)), (0, .ref x), (1, .ref g), (2, .int (b2i wb))] []
    have htt := sp_foundS_in hfo
    refine nw_iconst C (oI none) dX1_firstResponse_6 (by decide) 7 rfl ?_
    refine nw_istore C [(4, .int (oI none)), (3, .int (nI t)), (0, .ref x), (1, .ref g), (2, .int (b2i wb))] dX1_firstResponse_7 (by decide) rfl 9 rfl ?_
    refine nw_iconst C (oI none) dX1_firstResponse_9 (by decide) 10 rfl ?_
    refine nw_istore C [(5, .int (oI none)), (4, .int (oI none)), (3, .int (nI t)), (0, .ref x), (1, .ref g), (2, .int (b2i wb))] dX1_firstResponse_10 (by decide) rfl 12 rfl ?_
    refine nw_iconst C (nI 0) dX1_firstResponse_12 (by decide) 13 rfl ?_
    refine nw_istore C [(6, .int (nI 0)), (5, .int (oI none)), (4, .int (oI none)), (3, .int (nI t)), (0, .ref x), (1, .ref g), (2, .int (b2i wb))] dX1_firstResponse_13 (by decide) rfl 15 rfl ?_
    have lp5 : ∀ (fu : Nat) (H2 : Heap) (j : Nat) (bo : Option Nat) (wh : Option Nat), (nwExt H H2) → (j ≤ (sg_gu σ).1) → (bo = (sp_first σ i t j).1) → (wh = (sp_first σ i t j).2) → (∀ v, bo = some v → v < 240) → (sg_gu σ).1 - j < fu → nwV X (nwNew H) (nwQE X (nwVr (oI (sp_firstR σ i wb)) H) nwNo (nwNew H) 12 768) 8 H2 (2 * j) (128 * j) 15 [(0, .ref x), (1, .ref g), (2, .int (b2i wb)), (3, .int (nI t)), (4, .int (oI bo)), (5, .int (oI wh)), (6, .int (nI j))] [] := by
      intro fu
      induction fu with
      | zero => intro H2 j bo wh _ _ _ _ _ hm; exact absurd hm (Nat.not_lt_zero _)
      | succ fu ih_lp5 =>
        intro H2 j bo wh hext hi hbo hwh hbb hm
        have hW := hW0.ext hext.2
        have hg := hg0.ext hext.2
        have hE := C.E0.ext hext.2
        have hB := Nat.le_trans hB0 hext.1
        obtain ⟨hx, hcG, hcLa, hcFo, hcGu, hcPo, hcIn, hcWi, hcWo, hcKe⟩ := id hW
        obtain ⟨okg, okl, okf, oku, okp, oki, okw, okd, okk, oka⟩ := id ok
        have hn64 : gr_n (sg_gr σ) ≤ 64 := okg.n
        obtain ⟨⟨hia, him1, him2, hiv, his, hil⟩, hcs⟩ := id hk
        obtain ⟨hgo, hgl⟩ := id hg
        have oku1 := oku.1
        refine nw_iload C 6 dX1_firstResponse_15 rfl 17 rfl ?_
        refine nw_aload_n C 0 dX1_firstResponse_17 rfl 18 rfl ?_
        refine nw_get C hx (T := TX1) rfl in_X1 3 (by decide) q224 (Or.inl rfl) rfl dX1_firstResponse_18 21 rfl ?_
        refine nw_callV C (mJ3_size _ C.hfl d (ad 3) ((sg_gu σ).1) (fun k => ad (300 + k)) (fun q => ro q = 2004) H2 hB hcGu.1) kJ3_size q346 (hcGu.1.is C) (As := []) (rest := [.int (nI j)]) rfl rfl ⟨⟨Nat.le_of_ble_eq_true rfl, Nat.le_of_ble_eq_true rfl⟩, (show (2 * j) + 0 ≤ 12 by omega), (show (128 * j) + 0 ≤ 768 by omega)⟩ (Nat.le_of_ble_eq_true rfl) (fun _ h8 h9 => absurd h9 (Nat.not_le.mpr h8)) dX1_firstResponse_21 24 rfl (nw_rdK ?_) nw_noX
        refine nw_icmpgeN C (by omega) 85 dX1_firstResponse_24 (by decide) 27 rfl (fun h6 => ?_) (fun h6 => ?_)
        · refine nw_iload_n C 2 dX1_firstResponse_85 rfl 86 rfl ?_
          refine nw_ifeqB C 94 dX1_firstResponse_86 (by decide) 89 rfl (fun h7 => ?_) (fun h7 => ?_)
          · refine nw_iload C 4 dX1_firstResponse_94 rfl 96 rfl ?_
            exact nw_iret C dX1_firstResponse_96 (by omega) (by omega) ⟨by unfold sp_firstR; rw [hfo, h7]; dsimp only; rw [if_neg (by decide), hbo, show j = (sg_gu σ).1 by omega], hext⟩
          · refine nw_iload C 5 dX1_firstResponse_89 rfl 91 rfl ?_
            refine nw_goto C 96 dX1_firstResponse_91 (by decide) ?_
            exact nw_iret C dX1_firstResponse_96 (by omega) (by omega) ⟨by unfold sp_firstR; rw [hfo, h7]; dsimp only; rw [if_pos rfl, hwh, show j = (sg_gu σ).1 by omega], hext⟩
        · refine nw_iload_n C 3 dX1_firstResponse_27 rfl 28 rfl ?_
          refine nw_iconst C (oI none) dX1_firstResponse_28 (by decide) 29 rfl ?_
          refine nw_icmpeqF C (nI_m1 (by omega)) 85 dX1_firstResponse_29 (by decide) 32 rfl ?_
          refine nw_aload_n C 0 dX1_firstResponse_32 rfl 33 rfl ?_
          refine nw_aload_n C 0 dX1_firstResponse_33 rfl 34 rfl ?_
          refine nw_get C hx (T := TX1) rfl in_X1 3 (by decide) q224 (Or.inl rfl) rfl dX1_firstResponse_34 37 rfl ?_
          refine nw_iload C 6 dX1_firstResponse_37 rfl 39 rfl ?_
          refine nw_callV C (mJ3_get _ C.hfl d (ad 3) ((sg_gu σ).1) (fun k => ad (300 + k)) (fun q => ro q = 2004) j H2 hB hcGu.1 (by omega)) kJ3_get q350 (hcGu.1.is C) (As := [.int (nI j)]) (rest := [.ref x]) rfl rfl ⟨⟨Nat.le_of_ble_eq_true rfl, Nat.le_of_ble_eq_true rfl⟩, (show (2 * j) + 0 ≤ 12 by omega), (show (128 * j) + 0 ≤ 768 by omega)⟩ (Nat.le_of_ble_eq_true rfl) (fun _ h8 h9 => absurd h9 (Nat.not_le.mpr h8)) dX1_firstResponse_39 42 rfl (nw_rdK ?_) nw_noX
          have hg9 : nwGd d (ad (300 + j)) (ad (400 + j)) (fun q => ro q = 2401 + j) ((sg_gu σ).2 j) H2 := hcGu.2 j (by omega)
          have hk10 : okGd (sg_gr σ) ((sg_gu σ).2 j) := oku.2 j (by omega)
          have hg11 : nwO d (ad (300 + j)) 4 [.int (nI (gd_a ((sg_gu σ).2 j))), .int (nI (gd_b ((sg_gu σ).2 j))), .int (nI (gd_s ((sg_gu σ).2 j))), .ref (ad (400 + j)), .int (nI (gd_k ((sg_gu σ).2 j))), .int (gd_h ((sg_gu σ).2 j))] H2 := hg9.1
          refine nw_cast C (ci := 4) rfl (hg11.is C (ci := 4) rfl) q369 dX1_firstResponse_42 45 rfl ?_
          refine nw_aload_n C 1 dX1_firstResponse_45 rfl 46 rfl ?_
          refine nw_iload_n C 3 dX1_firstResponse_46 rfl 47 rfl ?_
          refine nw_callV C (mX1_response _ C.hfl d ro ad x σ sm (ad (300 + j)) (ad (400 + j)) (fun q => ro q = 2401 + j) ((sg_gu σ).2 j) g wl P i t H2 hB hW ok hg9 hk10 hg hk (by omega) (by omega)) kX1_response q609 (hx.is C (ci := 0) rfl) (As := [.ref (ad (300 + j)), .ref g, .int (nI t)]) (rest := []) rfl rfl ⟨⟨Nat.le_of_ble_eq_true rfl, Nat.le_of_ble_eq_true rfl⟩, (show (2 * j) + 2 ≤ 12 by omega), (show (128 * j) + 128 ≤ 768 by omega)⟩ (Nat.le_of_ble_eq_true rfl) (fun _ h8 h9 => absurd h9 (Nat.not_le.mpr h8)) dX1_firstResponse_47 50 rfl (fun v9 H12 hR13 hz14 hq15 => ?_) nw_noX
          obtain ⟨rfl, -⟩ := hR13
          have hext := hext.call hz14 hq15
          have hW := hW0.ext hext.2
          have hg := hg0.ext hext.2
          have hE := C.E0.ext hext.2
          have hB := Nat.le_trans hB0 hext.1
          obtain ⟨hx, hcG, hcLa, hcFo, hcGu, hcPo, hcIn, hcWi, hcWo, hcKe⟩ := id hW
          obtain ⟨okg, okl, okf, oku, okp, oki, okw, okd, okk, oka⟩ := id ok
          have hn64 : gr_n (sg_gr σ) ≤ 64 := okg.n
          obtain ⟨⟨hia, him1, him2, hiv, his, hil⟩, hcs⟩ := id hk
          obtain ⟨hgo, hgl⟩ := id hg
          have oku1 := oku.1
          show nwV X _ _ 8 H12 ((2 * j) + 2) ((128 * j) + 128) 50 [(0, .ref x), (1, .ref g), (2, .int (b2i wb)), (3, .int (nI t)), (4, .int (oI bo)), (5, .int (oI wh)), (6, .int (nI j))] [.int (oI (sp_resp σ ((sg_gu σ).2 j) i t))]
          refine nw_wide (k' := 2 * j + 2) (n' := 128 * j + 128) (by omega) (by omega) ?_
          generalize ho1 : sp_resp σ ((sg_gu σ).2 j) i t = o1
          rcases o1 with _ | mm
          · show nwV X _ _ 8 H12 (2 * j + 2) (128 * j + 128) 50 [(0, .ref x), (1, .ref g), (2, .int (b2i wb)), (3, .int (nI t)), (4, .int (oI bo)), (5, .int (oI wh)), (6, .int (nI j))] [.int (oI none)]
            refine nw_istore C [(7, .int (oI none)), (0, .ref x), (1, .ref g), (2, .int (b2i wb)), (3, .int (nI t)), (4, .int (oI bo)), (5, .int (oI wh)), (6, .int (nI j))] dX1_firstResponse_50 (by decide) rfl 52 rfl ?_
            refine nw_iload C 0 dX1_firstResponse_52 rfl 54 rfl ?_
            refine nw_iconst C (oI none) dX1_firstResponse_54 (by decide) 55 rfl ?_
            refine nw_icmpeqT C rfl 79 dX1_firstResponse_55 (by decide) ?_
            refine nw_iincN C 7 (c0 := 1) [(6, .int (nI (j + 1))), (7, .int (oI none)), (0, .ref x), (1, .ref g), (2, .int (b2i wb)), (3, .int (nI t)), (4, .int (oI bo)), (5, .int (oI wh))] dX1_firstResponse_79 rfl (by decide) rfl 82 rfl ?_
            refine nw_goto C 15 dX1_firstResponse_82 (by decide) ?_
            exact nw_wide (by omega) (by omega) (nw_sub [2, 3, 4, 5, 6, 7, 0] rfl (ih_lp5 H12 (j + 1) bo wh hext (by omega) (by rw [sp_first_n ho1]; exact hbo) (by rw [sp_first_n ho1]; exact hwh) hbb (by omega)))
          · show nwV X _ _ 8 H12 (2 * j + 2) (128 * j + 128) 50 [(0, .ref x), (1, .ref g), (2, .int (b2i wb)), (3, .int (nI t)), (4, .int (oI bo)), (5, .int (oI wh)), (6, .int (nI j))] [.int (nI mm)]
            have hmv := sp_resp_lt (by omega) ho1
            refine nw_istore C [(7, .int (nI mm)), (0, .ref x), (1, .ref g), (2, .int (b2i wb)), (3, .int (nI t)), (4, .int (oI bo)), (5, .int (oI wh)), (6, .int (nI j))] dX1_firstResponse_50 (by decide) rfl 52 rfl ?_
            refine nw_iload C 0 dX1_firstResponse_52 rfl 54 rfl ?_
            refine nw_iconst C (oI none) dX1_firstResponse_54 (by decide) 55 rfl ?_
            refine nw_icmpeqF C (nI_m1 (by omega)) 79 dX1_firstResponse_55 (by decide) 58 rfl ?_
            rcases bo with _ | bb
            · show nwV X _ _ 8 H12 (2 * j + 2) (128 * j + 128) 58 [(7, .int (nI mm)), (0, .ref x), (1, .ref g), (2, .int (b2i wb)), (3, .int (nI t)), (4, .int (oI none)), (5, .int (oI wh)), (6, .int (nI j))] []
              refine nw_iload C 5 dX1_firstResponse_58 rfl 60 rfl ?_
              refine nw_iconst C (oI none) dX1_firstResponse_60 (by decide) 61 rfl ?_
              refine nw_icmpeqT C rfl 71 dX1_firstResponse_61 (by decide) ?_
              refine nw_iload C 0 dX1_firstResponse_71 rfl 73 rfl ?_
              refine nw_istore C [(4, .int (nI mm)), (7, .int (nI mm)), (0, .ref x), (1, .ref g), (2, .int (b2i wb)), (3, .int (nI t)), (5, .int (oI wh)), (6, .int (nI j))] dX1_firstResponse_73 (by decide) rfl 75 rfl ?_
              refine nw_iload C 7 dX1_firstResponse_75 rfl 77 rfl ?_
              refine nw_istore C [(5, .int (nI j)), (4, .int (nI mm)), (7, .int (nI mm)), (0, .ref x), (1, .ref g), (2, .int (b2i wb)), (3, .int (nI t)), (6, .int (nI j))] dX1_firstResponse_77 (by decide) rfl 79 rfl ?_
              refine nw_iincN C 7 (c0 := 1) [(6, .int (nI (j + 1))), (5, .int (nI j)), (4, .int (nI mm)), (7, .int (nI mm)), (0, .ref x), (1, .ref g), (2, .int (b2i wb)), (3, .int (nI t))] dX1_firstResponse_79 rfl (by decide) rfl 82 rfl ?_
              refine nw_goto C 15 dX1_firstResponse_82 (by decide) ?_
              exact nw_wide (by omega) (by omega) (nw_sub [4, 5, 6, 7, 2, 1, 0] rfl (ih_lp5 H12 (j + 1) (some mm) (some j) hext (by omega) (by rw [sp_first_a ho1 hbo.symm]) (by rw [sp_first_a ho1 hbo.symm]) (fun v hv => by cases hv; exact hmv) (by omega)))
            · show nwV X _ _ 8 H12 (2 * j + 2) (128 * j + 128) 58 [(7, .int (nI mm)), (0, .ref x), (1, .ref g), (2, .int (b2i wb)), (3, .int (nI t)), (4, .int (nI bb)), (5, .int (oI wh)), (6, .int (nI j))] []
              have hbv := hbb bb rfl
              refine nw_iload C 5 dX1_firstResponse_58 rfl 60 rfl ?_
              refine nw_iconst C (oI none) dX1_firstResponse_60 (by decide) 61 rfl ?_
              refine nw_icmpeqF C (nI_m1 (by omega)) 71 dX1_firstResponse_61 (by decide) 64 rfl ?_
              refine nw_iload C 0 dX1_firstResponse_64 rfl 66 rfl ?_
              refine nw_iload C 5 dX1_firstResponse_66 rfl 68 rfl ?_
              refine nw_icmpgeN C (by omega) 79 dX1_firstResponse_68 (by decide) 71 rfl (fun h20 => ?_) (fun h20 => ?_)
              · refine nw_iincN C 7 (c0 := 1) [(6, .int (nI (j + 1))), (7, .int (nI mm)), (0, .ref x), (1, .ref g), (2, .int (b2i wb)), (3, .int (nI t)), (4, .int (nI bb)), (5, .int (oI wh))] dX1_firstResponse_79 rfl (by decide) rfl 82 rfl ?_
                refine nw_goto C 15 dX1_firstResponse_82 (by decide) ?_
                exact nw_wide (by omega) (by omega) (nw_sub [2, 3, 4, 5, 6, 7, 0] rfl (ih_lp5 H12 (j + 1) (some bb) wh hext (by omega) (by rw [sp_first_b ho1 hbo.symm, if_neg (show ¬ mm < bb by omega)]; exact hbo) (by rw [sp_first_b ho1 hbo.symm, if_neg (show ¬ mm < bb by omega)]; exact hwh) hbb (by omega)))
              · refine nw_iload C 0 dX1_firstResponse_71 rfl 73 rfl ?_
                refine nw_istore C [(4, .int (nI mm)), (7, .int (nI mm)), (0, .ref x), (1, .ref g), (2, .int (b2i wb)), (3, .int (nI t)), (5, .int (oI wh)), (6, .int (nI j))] dX1_firstResponse_73 (by decide) rfl 75 rfl ?_
                refine nw_iload C 7 dX1_firstResponse_75 rfl 77 rfl ?_
                refine nw_istore C [(5, .int (nI j)), (4, .int (nI mm)), (7, .int (nI mm)), (0, .ref x), (1, .ref g), (2, .int (b2i wb)), (3, .int (nI t)), (6, .int (nI j))] dX1_firstResponse_77 (by decide) rfl 79 rfl ?_
                refine nw_iincN C 7 (c0 := 1) [(6, .int (nI (j + 1))), (5, .int (nI j)), (4, .int (nI mm)), (7, .int (nI mm)), (0, .ref x), (1, .ref g), (2, .int (b2i wb)), (3, .int (nI t))] dX1_firstResponse_79 rfl (by decide) rfl 82 rfl ?_
                refine nw_goto C 15 dX1_firstResponse_82 (by decide) ?_
                exact nw_wide (by omega) (by omega) (nw_sub [4, 5, 6, 7, 2, 1, 0] rfl (ih_lp5 H12 (j + 1) (some mm) (some j) hext (by omega) (by rw [sp_first_b ho1 hbo.symm, if_pos (show mm < bb by omega)]) (by rw [sp_first_b ho1 hbo.symm, if_pos (show mm < bb by omega)]) (fun v hv => by cases hv; exact hmv) (by omega)))
    exact nw_wide (by omega) (by omega) (nw_sub [4, 5, 6, 3, 2, 1, 0] rfl (lp5 _ H 0 none none hext (Nat.zero_le _) rfl rfl (fun v hv => by cases hv) (Nat.lt_succ_self _)))
set_option maxHeartbeats 4000000 in
theorem mX1_ofIntruderNow (l : Launch) (hf : l.flags = flags0) (d : nwD) (ro ad : Nat → Nat) (x : Nat) (σ : spSg) (sm : Int64) (g wl : Nat) (P : Nat → Prop) (i : spI1) (q : Nat) (H : Heap) (hB : nd_B d ≤ H.size) (hW : nwWC d ro ad x σ sm H) (ok : spOk σ) (hg : nwIn d g wl P i H) (hk : okI1 (sg_gr σ) i) (hq8 : q ≤ 8) : nwMt l d yX1_ofIntruderNow cX1_ofIntruderNow 4 (some .int) 10 231 12 768 [.ref x, .ref g, .int (nI q)] H (nwVr (sp_intrNow σ i q) H) nwNo (nwNew H) := by
  refine nw_start "NightwatchWall" "ofIntruderNow" hf (by decide +kernel) rfl rfl (fun _ h => h) (fun q h => Nat.le_trans hB h) (Nat.le_of_ble_eq_true rfl) ?_
  intro X C
  have hW0 := hW
  have hg0 := hg
  have hB0 := hB
  have hE := C.E0
  have hext : nwExt H H := nwExt.rfl
  obtain ⟨hx, hcG, hcLa, hcFo, hcGu, hcPo, hcIn, hcWi, hcWo, hcKe⟩ := id hW
  obtain ⟨okg, okl, okf, oku, okp, oki, okw, okd, okk, oka⟩ := id ok
  have hn64 : gr_n (sg_gr σ) ≤ 64 := okg.n
  obtain ⟨⟨hia, him1, him2, hiv, his, hil⟩, hcs⟩ := id hk
  obtain ⟨hgo, hgl⟩ := id hg
  have oku1 := oku.1
  show nwV X _ _ 4 H 0 0 0 [(0, .ref x), (1, .ref g), (2, .int (nI q))] []
  refine nw_iload_n C 2 dX1_ofIntruderNow_0 rfl 1 rfl ?_
  rcases Nat.decEq q 0 with h1 | h1
  rotate_left
  · have h1s := h1
    refine nw_tabInN C (off := 47) h1 (by decide) 48 dX1_ofIntruderNow_1 (by decide) (by decide) rfl (by decide) ?_
    refine nw_aload_n C 1 dX1_ofIntruderNow_48 rfl 49 rfl ?_
    refine nw_getN C hgo (T := TX12) rfl in_X12 0 (by decide) q1196 rfl rfl dX1_ofIntruderNow_49 52 rfl ?_
    exact nw_iret C dX1_ofIntruderNow_52 (by omega) (by omega) ⟨by unfold sp_intrNow; simp [h1]; try rfl, hext⟩
  rcases Nat.decEq q 1 with h2 | h2
  rotate_left
  · have h2s := h2
    refine nw_tabInN C (off := 52) h2 (by decide) 53 dX1_ofIntruderNow_1 (by decide) (by decide) rfl (by decide) ?_
    refine nw_aload_n C 1 dX1_ofIntruderNow_53 rfl 54 rfl ?_
    refine nw_getN C hgo (T := TX12) rfl in_X12 2 (by decide) q1199 rfl rfl dX1_ofIntruderNow_54 57 rfl ?_
    exact nw_iret C dX1_ofIntruderNow_57 (by omega) (by omega) ⟨by unfold sp_intrNow; simp [h1, h2]; try rfl, hext⟩
  rcases Nat.decEq q 2 with h3 | h3
  rotate_left
  · have h3s := h3
    refine nw_tabInN C (off := 57) h3 (by decide) 58 dX1_ofIntruderNow_1 (by decide) (by decide) rfl (by decide) ?_
    refine nw_aload_n C 1 dX1_ofIntruderNow_58 rfl 59 rfl ?_
    refine nw_callV C (mX12_end _ C.hfl d g wl P i (sg_gr σ)  H hB hg hk hn64 ) kX12_end q601 (hgo.is C (ci := 7) rfl) (As := []) (rest := []) rfl rfl ⟨⟨Nat.le_of_ble_eq_true rfl, Nat.le_of_ble_eq_true rfl⟩, Nat.le_of_ble_eq_true rfl, Nat.le_of_ble_eq_true rfl⟩ (Nat.le_of_ble_eq_true rfl) (fun _ h8 h9 => absurd h9 (Nat.not_le.mpr h8)) dX1_ofIntruderNow_59 62 rfl (nw_rdK ?_) nw_noX
    exact nw_iret C dX1_ofIntruderNow_62 (by omega) (by omega) ⟨by unfold sp_intrNow; simp [h1, h2, h3]; try rfl, hext⟩
  rcases Nat.decEq q 3 with h4 | h4
  rotate_left
  · have h4s := h4
    refine nw_tabInN C (off := 62) h4 (by decide) 63 dX1_ofIntruderNow_1 (by decide) (by decide) rfl (by decide) ?_
    refine nw_aload_n C 0 dX1_ofIntruderNow_63 rfl 64 rfl ?_
    refine nw_aload_n C 1 dX1_ofIntruderNow_64 rfl 65 rfl ?_
    refine nw_callV C (mX1_found _ C.hfl d ro ad x σ sm g wl P i H hB hW ok hg hk) kX1_found q407 (hx.is C (ci := 0) rfl) (As := [.ref g]) (rest := []) rfl rfl ⟨⟨Nat.le_of_ble_eq_true rfl, Nat.le_of_ble_eq_true rfl⟩, Nat.le_of_ble_eq_true rfl, Nat.le_of_ble_eq_true rfl⟩ (Nat.le_of_ble_eq_true rfl) (fun _ h8 h9 => absurd h9 (Nat.not_le.mpr h8)) dX1_ofIntruderNow_65 68 rfl (nw_rdK ?_) nw_noX
    exact nw_iret C dX1_ofIntruderNow_68 (by omega) (by omega) ⟨by unfold sp_intrNow; simp [h1, h2, h3, h4]; try rfl, hext⟩
  rcases Nat.decEq q 4 with h5 | h5
  rotate_left
  · have h5s := h5
    refine nw_tabInN C (off := 68) h5 (by decide) 69 dX1_ofIntruderNow_1 (by decide) (by decide) rfl (by decide) ?_
    refine nw_aload_n C 0 dX1_ofIntruderNow_69 rfl 70 rfl ?_
    refine nw_aload_n C 1 dX1_ofIntruderNow_70 rfl 71 rfl ?_
    refine nw_callV C (mX1_found _ C.hfl d ro ad x σ sm g wl P i H hB hW ok hg hk) kX1_found q407 (hx.is C (ci := 0) rfl) (As := [.ref g]) (rest := []) rfl rfl ⟨⟨Nat.le_of_ble_eq_true rfl, Nat.le_of_ble_eq_true rfl⟩, Nat.le_of_ble_eq_true rfl, Nat.le_of_ble_eq_true rfl⟩ (Nat.le_of_ble_eq_true rfl) (fun _ h8 h9 => absurd h9 (Nat.not_le.mpr h8)) dX1_ofIntruderNow_71 74 rfl (nw_rdK ?_) nw_noX
    generalize hfo : sp_foundS σ i = o
    rcases o with _ | t
    · show nwV X _ _ 4 H 0 0 74 [(0, .ref x), (1, .ref g), (2, .int (nI q))] [.int (oI none)]
      refine nw_istore_n C [(3, .int (oI none)), (0, .ref x), (1, .ref g), (2, .int (nI q))] dX1_ofIntruderNow_74 (by decide) rfl 75 rfl ?_
      refine nw_iload_n C 0 dX1_ofIntruderNow_75 rfl 76 rfl ?_
      refine nw_iconst C (oI none) dX1_ofIntruderNow_76 (by decide) 77 rfl ?_
      refine nw_icmpneF C rfl 84 dX1_ofIntruderNow_77 (by decide) 80 rfl ?_
      refine nw_iconst C (nI 0) dX1_ofIntruderNow_80 (by decide) 81 rfl ?_
      refine nw_goto C 94 dX1_ofIntruderNow_81 (by decide) ?_
      exact nw_iret C dX1_ofIntruderNow_94 (by omega) (by omega) ⟨by unfold sp_intrNow; simp [h1, h2, h3, h4, h5, hfo]; try rfl, hext⟩
    · show nwV X _ _ 4 H 0 0 74 [(0, .ref x), (1, .ref g), (2, .int (nI q))] [.int (nI t)]
      have htt := sp_foundS_in hfo
      have hat := hk.at t
      refine nw_istore_n C [(3, .int (nI t)), (0, .ref x), (1, .ref g), (2, .int (nI q))] dX1_ofIntruderNow_74 (by decide) rfl 75 rfl ?_
      refine nw_iload_n C 0 dX1_ofIntruderNow_75 rfl 76 rfl ?_
      refine nw_iconst C (oI none) dX1_ofIntruderNow_76 (by decide) 77 rfl ?_
      refine nw_icmpneT C (nI_m1 (by omega)) 84 dX1_ofIntruderNow_77 (by decide) ?_
      refine nw_aload_n C 1 dX1_ofIntruderNow_84 rfl 85 rfl ?_
      refine nw_aload_n C 2 dX1_ofIntruderNow_85 rfl 86 rfl ?_
      refine nw_iload_n C 0 dX1_ofIntruderNow_86 rfl 87 rfl ?_
      refine nw_callV C (mX12_placeN _ C.hfl d g wl P i (sg_gr σ) t H hB hg hk hn64 (by omega) (by omega)) kX12_place q411 (hgo.is C (ci := 7) rfl) (As := [.int (nI t)]) (rest := [.ref x]) rfl rfl ⟨⟨Nat.le_of_ble_eq_true rfl, Nat.le_of_ble_eq_true rfl⟩, Nat.le_of_ble_eq_true rfl, Nat.le_of_ble_eq_true rfl⟩ (Nat.le_of_ble_eq_true rfl) (fun _ h8 h9 => absurd h9 (Nat.not_le.mpr h8)) dX1_ofIntruderNow_87 90 rfl (nw_rdK ?_) nw_noX
      refine nw_iload_n C 0 dX1_ofIntruderNow_90 rfl 91 rfl ?_
      refine nw_callV C (mX1_watchers _ C.hfl d ro ad x σ sm (sp_at i t) t H hB hW ok (by omega) (by omega)) kX1_watchers q416 (hx.is C (ci := 0) rfl) (As := [.int (nI (sp_at i t)), .int (nI t)]) (rest := []) rfl rfl ⟨⟨Nat.le_of_ble_eq_true rfl, Nat.le_of_ble_eq_true rfl⟩, Nat.le_of_ble_eq_true rfl, Nat.le_of_ble_eq_true rfl⟩ (Nat.le_of_ble_eq_true rfl) (fun _ h8 h9 => absurd h9 (Nat.not_le.mpr h8)) dX1_ofIntruderNow_91 94 rfl (nw_rdK ?_) nw_noX
      exact nw_iret C dX1_ofIntruderNow_94 (by omega) (by omega) ⟨by unfold sp_intrNow; simp [h1, h2, h3, h4, h5, hfo]; try rfl, hext⟩
  rcases Nat.decEq q 5 with h8 | h8
  rotate_left
  · have h8s := h8
    refine nw_tabInN C (off := 94) h8 (by decide) 95 dX1_ofIntruderNow_1 (by decide) (by decide) rfl (by decide) ?_
    refine nw_aload_n C 0 dX1_ofIntruderNow_95 rfl 96 rfl ?_
    refine nw_aload_n C 1 dX1_ofIntruderNow_96 rfl 97 rfl ?_
    refine nw_iconst C (nI 0) dX1_ofIntruderNow_97 (by decide) 98 rfl ?_
    refine nw_callV C (mX1_firstResponse _ C.hfl d ro ad x σ sm g wl P i false H hB hW ok hg hk) kX1_firstResponse q605 (hx.is C (ci := 0) rfl) (As := [.ref g, .int (b2i false)]) (rest := []) rfl rfl ⟨⟨Nat.le_of_ble_eq_true rfl, Nat.le_of_ble_eq_true rfl⟩, (show 0 + 12 ≤ 12 by omega), (show 0 + 768 ≤ 768 by omega)⟩ (Nat.le_of_ble_eq_true rfl) (fun _ h8 h9 => absurd h9 (Nat.not_le.mpr h8)) dX1_ofIntruderNow_98 101 rfl (fun v9 H9 hR10 hz11 hq12 => ?_) nw_noX
    obtain ⟨rfl, -⟩ := hR10
    have hext := hext.call hz11 hq12
    have hW := hW0.ext hext.2
    have hg := hg0.ext hext.2
    have hE := C.E0.ext hext.2
    have hB := Nat.le_trans hB0 hext.1
    obtain ⟨hx, hcG, hcLa, hcFo, hcGu, hcPo, hcIn, hcWi, hcWo, hcKe⟩ := id hW
    obtain ⟨okg, okl, okf, oku, okp, oki, okw, okd, okk, oka⟩ := id ok
    have hn64 : gr_n (sg_gr σ) ≤ 64 := okg.n
    obtain ⟨⟨hia, him1, him2, hiv, his, hil⟩, hcs⟩ := id hk
    obtain ⟨hgo, hgl⟩ := id hg
    have oku1 := oku.1
    show nwV X _ _ 4 H9 (0 + 12) (0 + 768) 101 [(0, .ref x), (1, .ref g), (2, .int (nI q))] [.int (oI (sp_firstR σ i false))]
    refine nw_wide (k' := 12) (n' := 768) (by omega) (by omega) ?_
    exact nw_iret C dX1_ofIntruderNow_101 (by omega) (by omega) ⟨by unfold sp_intrNow; simp [h1, h2, h3, h4, h5, h8]; try rfl, hext⟩
  rcases Nat.decEq q 6 with h13 | h13
  rotate_left
  · have h13s := h13
    refine nw_tabInN C (off := 101) h13 (by decide) 102 dX1_ofIntruderNow_1 (by decide) (by decide) rfl (by decide) ?_
    refine nw_aload_n C 0 dX1_ofIntruderNow_102 rfl 103 rfl ?_
    refine nw_aload_n C 1 dX1_ofIntruderNow_103 rfl 104 rfl ?_
    refine nw_iconst C (nI 1) dX1_ofIntruderNow_104 (by decide) 105 rfl ?_
    refine nw_callV C (mX1_firstResponse _ C.hfl d ro ad x σ sm g wl P i true H hB hW ok hg hk) kX1_firstResponse q605 (hx.is C (ci := 0) rfl) (As := [.ref g, .int (b2i true)]) (rest := []) rfl rfl ⟨⟨Nat.le_of_ble_eq_true rfl, Nat.le_of_ble_eq_true rfl⟩, (show 0 + 12 ≤ 12 by omega), (show 0 + 768 ≤ 768 by omega)⟩ (Nat.le_of_ble_eq_true rfl) (fun _ h8 h9 => absurd h9 (Nat.not_le.mpr h8)) dX1_ofIntruderNow_105 108 rfl (fun v9 H14 hR15 hz16 hq17 => ?_) nw_noX
    obtain ⟨rfl, -⟩ := hR15
    have hext := hext.call hz16 hq17
    have hW := hW0.ext hext.2
    have hg := hg0.ext hext.2
    have hE := C.E0.ext hext.2
    have hB := Nat.le_trans hB0 hext.1
    obtain ⟨hx, hcG, hcLa, hcFo, hcGu, hcPo, hcIn, hcWi, hcWo, hcKe⟩ := id hW
    obtain ⟨okg, okl, okf, oku, okp, oki, okw, okd, okk, oka⟩ := id ok
    have hn64 : gr_n (sg_gr σ) ≤ 64 := okg.n
    obtain ⟨⟨hia, him1, him2, hiv, his, hil⟩, hcs⟩ := id hk
    obtain ⟨hgo, hgl⟩ := id hg
    have oku1 := oku.1
    show nwV X _ _ 4 H14 (0 + 12) (0 + 768) 108 [(0, .ref x), (1, .ref g), (2, .int (nI q))] [.int (oI (sp_firstR σ i true))]
    refine nw_wide (k' := 12) (n' := 768) (by omega) (by omega) ?_
    exact nw_iret C dX1_ofIntruderNow_108 (by omega) (by omega) ⟨by unfold sp_intrNow; simp [h1, h2, h3, h4, h5, h8, h13]; try rfl, hext⟩
  rcases Nat.decEq q 7 with h18 | h18
  rotate_left
  · have h18s := h18
    refine nw_tabInN C (off := 108) h18 (by decide) 109 dX1_ofIntruderNow_1 (by decide) (by decide) rfl (by decide) ?_
    refine nw_aload_n C 1 dX1_ofIntruderNow_109 rfl 110 rfl ?_
    refine nw_getN C hgo (T := TX12) rfl in_X12 3 (by decide) q1200 rfl rfl dX1_ofIntruderNow_110 113 rfl ?_
    exact nw_iret C dX1_ofIntruderNow_113 (by omega) (by omega) ⟨by unfold sp_intrNow; simp [h1, h2, h3, h4, h5, h8, h13, h18]; try rfl, hext⟩
  refine nw_tabOutN C (lo := 0) (hi := 7) (by omega) (by omega) 114 dX1_ofIntruderNow_1 (by decide) ?_
  refine nw_aload_n C 1 dX1_ofIntruderNow_114 rfl 115 rfl ?_
  refine nw_getN C hgo (T := TX12) rfl in_X12 4 (by decide) q1202 rfl rfl dX1_ofIntruderNow_115 118 rfl ?_
  exact nw_iret C dX1_ofIntruderNow_118 (by omega) (by omega) ⟨by unfold sp_intrNow; simp [h1, h2, h3, h4, h5, h8, h13, h18]; try rfl, hext⟩
set_option maxHeartbeats 4000000 in
theorem mX1_ofIntruder (l : Launch) (hf : l.flags = flags0) (d : nwD) (ro ad : Nat → Nat) (x : Nat) (σ : spSg) (sm : Int64) (j : Int32) (q : Int32) (H : Heap) (hB : nd_B d ≤ H.size) (hW : nwWC d ro ad x σ sm H) (ok : spOk σ)  : nwMt l d yX1_ofIntruder cX1_ofIntruder 4 (some .int) 11 254 14 780 [.ref x, .int j, .int q] H (nwRv (op_ofIntr σ j q) H) (nwRx (op_ofIntr σ j q) [cIO, cIA] H) (nwNew H) := by
  refine nw_start "NightwatchWall" "ofIntruder" hf (by decide +kernel) rfl rfl (fun _ h => h) (fun q h => Nat.le_trans hB h) (Nat.le_of_ble_eq_true rfl) ?_
  intro X C
  have hW0 := hW
  have hB0 := hB
  have hE := C.E0
  have hext : nwExt H H := nwExt.rfl
  obtain ⟨hx, hcG, hcLa, hcFo, hcGu, hcPo, hcIn, hcWi, hcWo, hcKe⟩ := id hW
  obtain ⟨okg, okl, okf, oku, okp, oki, okw, okd, okk, oka⟩ := id ok
  have hn64 : gr_n (sg_gr σ) ≤ 64 := okg.n
  have oku1 := oku.1
  have oki1 := oki.1
  have okp1 := okp.1
  have okw1 := okw.1
  have okl1 := okl.1
  have okf1 := okf.1
  show nwV X _ _ 4 H 0 0 0 [(0, .ref x), (1, .int j), (2, .int q)] []
  refine nw_aload_n C 0 dX1_ofIntruder_0 rfl 1 rfl ?_
  refine nw_iload_n C 1 dX1_ofIntruder_1 rfl 2 rfl ?_
  refine nw_callV C (mX1_intruderAt _ C.hfl d ro ad x σ sm j H hB hW ok) kX1_intruderAt q1242 (hx.is C (ci := 0) rfl) (As := [.int j]) (rest := []) rfl rfl ⟨⟨Nat.le_of_ble_eq_true rfl, Nat.le_of_ble_eq_true rfl⟩, (show 0 + 1 ≤ 14 by omega), (show 0 + 6 ≤ 780 by omega)⟩ (Nat.le_of_ble_eq_true rfl) (fun _ h8 h9 => absurd h9 (Nat.not_le.mpr h8)) dX1_ofIntruder_2 5 rfl ?_ ?_
  rotate_left
  · intro E9 w9 H1 hR2 hz3 hq4
    obtain ⟨rfl, hb5, hx6⟩ := hR2
    exact nw_out C (show (0 + 1) ≤ 14 by omega) (show (0 + 6) ≤ 780 by omega) ⟨⟨0, by simp [op_ofIntr, hb5], rfl⟩, hext.trans hx6⟩
  intro v9 H1 hR2 hz3 hq4
  obtain ⟨rfl, hb7, rfl⟩ := hR2
  obtain ⟨jn, hk8, rfl⟩ := nw_ix_nat (by omega) hb7
  have en_jn : nw_nn (nI jn) = jn := nw_nn_nI (by omega)
  rw [en_jn]
  have hg9 : nwIn d (ad (500 + jn)) (ad (600 + jn)) (fun q => ro q = 2601 + jn) ((sg_in σ).2 jn) H := hcIn.2 jn (by omega)
  have hk10 : okI1 (sg_gr σ) ((sg_in σ).2 jn) := oki.2 jn (by omega)
  have hg11 : nwO d (ad (500 + jn)) 7 [.int (nI (in_a ((sg_in σ).2 jn))), .ref (ad (600 + jn)), .int (nI (in_v ((sg_in σ).2 jn))), .int (nI (in_s ((sg_in σ).2 jn))), .int (oI (in_l ((sg_in σ).2 jn)))] H := hg9.1
  show nwV X _ _ 4 H (0 + 1) (0 + 6) 5 [(0, .ref x), (1, .int (nI jn)), (2, .int q)] [.ref (ad (500 + jn))]
  refine nw_wide (k' := 1) (n' := 6) (by omega) (by omega) ?_
  refine nw_astore_n C [(3, .ref (ad (500 + jn))), (0, .ref x), (1, .int (nI jn)), (2, .int q)] dX1_ofIntruder_5 (by decide) rfl 6 rfl ?_
  refine nw_iconst C (nI 0) dX1_ofIntruder_6 (by decide) 7 rfl ?_
  refine nw_bipush C (nI 8) dX1_ofIntruder_7 (by decide) 9 rfl ?_
  refine nw_iload_n C 3 dX1_ofIntruder_9 rfl 10 rfl ?_
  refine nw_callS C (mX1_isFromR _ C.hfl d (nI 0) (nI 8) q H hB) kX1_isFrom q579 (As := [.int (nI 0), .int (nI 8), .int q]) (rest := []) rfl rfl ⟨⟨Nat.le_of_ble_eq_true rfl, Nat.le_of_ble_eq_true rfl⟩, Nat.le_of_ble_eq_true rfl, Nat.le_of_ble_eq_true rfl⟩ (Nat.le_of_ble_eq_true rfl) (fun _ h8 h9 => absurd h9 (Nat.not_le.mpr h8)) dX1_ofIntruder_10 13 rfl (nw_rdK ?_) nw_noX
  show nwV X _ _ 4 H 1 6 13 [(3, .ref (ad (500 + jn))), (0, .ref x), (1, .int (nI jn)), (2, .int q)] [.int (b2i (nw_rg 0 8 q))]
  refine nw_callS C (mX1_require _ C.hfl d (nw_rg 0 8 q) H hB) kX1_require q655 (As := [.int (b2i (nw_rg 0 8 q))]) (rest := []) rfl rfl ⟨⟨Nat.le_of_ble_eq_true rfl, Nat.le_of_ble_eq_true rfl⟩, (show 1 + 1 ≤ 14 by omega), (show 6 + 6 ≤ 780 by omega)⟩ (Nat.le_of_ble_eq_true rfl) (fun _ h8 h9 => absurd h9 (Nat.not_le.mpr h8)) dX1_ofIntruder_13 16 rfl ?_ ?_
  rotate_left
  · intro E9 w9 H12 hR13 hz14 hq15
    obtain ⟨rfl, hb16, hx17⟩ := hR13
    exact nw_out C (show (1 + 1) ≤ 14 by omega) (show (6 + 6) ≤ 780 by omega) ⟨⟨1, by simp [op_ofIntr, en_jn, hb7, hb16], rfl⟩, hext.trans hx17⟩
  intro v9 H12 hR13 hz14 hq15
  obtain ⟨rfl, hb18, rfl⟩ := hR13
  obtain ⟨qn, hk19, rfl⟩ := nw_rg_nat (by decide) (by decide) hb18
  have en_qn : nw_nn (nI qn) = qn := nw_nn_nI (by omega)
  show nwV X _ _ 4 H (1 + 1) (6 + 6) 16 [(3, .ref (ad (500 + jn))), (0, .ref x), (1, .int (nI jn)), (2, .int (nI qn))] []
  refine nw_wide (k' := 2) (n' := 12) (by omega) (by omega) ?_
  refine nw_aload_n C 1 dX1_ofIntruder_16 rfl 17 rfl ?_
  refine nw_aload_n C 0 dX1_ofIntruder_17 rfl 18 rfl ?_
  refine nw_iload_n C 3 dX1_ofIntruder_18 rfl 19 rfl ?_
  refine nw_callV C (mX1_ofIntruderNow _ C.hfl d ro ad x σ sm (ad (500 + jn)) (ad (600 + jn)) (fun q => ro q = 2601 + jn) ((sg_in σ).2 jn) qn H hB hW ok hg9 hk10 (by omega)) kX1_ofIntruderNow q597 (hx.is C (ci := 0) rfl) (As := [.ref (ad (500 + jn)), .int (nI qn)]) (rest := []) rfl rfl ⟨⟨Nat.le_of_ble_eq_true rfl, Nat.le_of_ble_eq_true rfl⟩, (show 2 + 12 ≤ 14 by omega), (show 12 + 768 ≤ 780 by omega)⟩ (Nat.le_of_ble_eq_true rfl) (fun _ h8 h9 => absurd h9 (Nat.not_le.mpr h8)) dX1_ofIntruder_19 22 rfl (fun v9 H20 hR21 hz22 hq23 => ?_) nw_noX
  obtain ⟨rfl, -⟩ := hR21
  have hext := hext.call hz22 hq23
  have hW := hW0.ext hext.2
  have hE := C.E0.ext hext.2
  have hB := Nat.le_trans hB0 hext.1
  obtain ⟨hx, hcG, hcLa, hcFo, hcGu, hcPo, hcIn, hcWi, hcWo, hcKe⟩ := id hW
  obtain ⟨okg, okl, okf, oku, okp, oki, okw, okd, okk, oka⟩ := id ok
  have hn64 : gr_n (sg_gr σ) ≤ 64 := okg.n
  have oku1 := oku.1
  have oki1 := oki.1
  have okp1 := okp.1
  have okw1 := okw.1
  have okl1 := okl.1
  have okf1 := okf.1
  show nwV X _ _ 4 H20 (2 + 12) (12 + 768) 22 [(3, .ref (ad (500 + jn))), (0, .ref x), (1, .int (nI jn)), (2, .int (nI qn))] [.int (sp_intrNow σ ((sg_in σ).2 jn) qn)]
  refine nw_wide (k' := 14) (n' := 780) (by omega) (by omega) ?_
  exact nw_iret C dX1_ofIntruder_22 (by omega) (by omega) ⟨⟨by simp [op_ofIntr, en_jn, en_qn, hb7, hb18], by simp [op_ofIntr, en_jn, en_qn, hb7, hb18]⟩, hext⟩
