/-! ===== the checksum ===== -/
def dg_add (s : Int64) (v : Int32) : Int64 := s * 31 + v.toInt64
def dg_L (f : Nat → Int32) : Nat → Int64 → Int64
  | 0, s => s
  | n + 1, s => dg_add (dg_L f n s) (f n)
def dg_F (F : Nat → Int64 → Int64) : Nat → Int64 → Int64
  | 0, s => s
  | n + 1, s => F n (dg_F F n s)
theorem dg_L_0 (f : Nat → Int32) (s : Int64) : dg_L f 0 s = s := rfl
theorem dg_L_s (f : Nat → Int32) (n : Nat) (s : Int64) : dg_L f (n + 1) s = dg_L f n s * 31 + (f n).toInt64 := rfl
theorem dg_F_0 (F : Nat → Int64 → Int64) (s : Int64) : dg_F F 0 s = s := rfl
theorem dg_F_s (F : Nat → Int64 → Int64) (n : Nat) (s : Int64) : dg_F F (n + 1) s = F n (dg_F F n s) := rfl
def sp_d1 (s : spSg) : Int64 := dg_L (fun q => nI (sp_manyNow s q)) 13 9241
def sp_d2 (s : spSg) : Int64 := dg_F (fun m => dg_L (fun q => nI (sp_minuteNow s (60 * m) q)) 7) 4 (sp_d1 s)
def sp_d3 (s : spSg) : Int64 := dg_F (fun c => dg_L (fun q => sp_cellNow s c 120 q) 5) (gr_n (sg_gr s)) (sp_d2 s)
def sp_d4 (s : spSg) : Int64 := dg_F (fun g => dg_L (fun q => sp_guardNow s g q) 9) (sg_gu s).1 (sp_d3 s)
def sp_d5 (s : spSg) : Int64 := dg_F (fun p v => dg_add (dg_add v (sp_emptyNow (sg_gu s) ((sg_po s).2 p) true)) (sp_emptyNow (sg_gu s) ((sg_po s).2 p) false)) (sg_po s).1 (sp_d4 s)
def sp_d6 (s : spSg) : Int64 := dg_F (fun i => dg_L (fun q => sp_intrNow s ((sg_in s).2 i) q) 9) (sg_in s).1 (sp_d5 s)
def sp_d7 (s : spSg) : Int64 := dg_F (fun i => dg_L (fun q => sp_wireNow (sg_in s) ((sg_wi s).2 i) q) 5) (sg_wi s).1 (sp_d6 s)
def sp_digest (s : spSg) : Int64 := dg_add (sp_d7 s) (b2i (sp_sound s))
theorem tr_pX1 {d : nwD} {ro ad : Nat → Nat} {Hc Hn : Heap} {x : Nat} {s : spSg} {sm sm' : Int64} (h : nwWR d ro ad x s sm Hc) (hz : Hc.size ≤ Hn.size) (hq : ∀ q, q < Hc.size → ¬ (q = x ∨ Hc.size ≤ q) → Hn[q]? = Hc[q]?) (ho : wcX d ad x (sg_ga s) (sg_ri s) (sg_rf s) sm' Hn) : nwWR d ro ad x s sm' Hn := by
  refine h.upd (fun p => p == 1) (fun q g => ⟨(h.1 q g).1, Nat.lt_of_lt_of_le (h.1 q g).2 hz⟩) (fun _ _ => rfl) (fun _ _ => rfl) (fun _ _ _ => rfl) (fun q g hS h0 => hq q g (fun e2 => ?_)) ⟨Or.inl rfl, Or.inr rfl, Or.inr rfl, Or.inr rfl, Or.inr rfl, Or.inr rfl, Or.inr rfl, Or.inr rfl, Or.inr rfl, Or.inr rfl⟩ ⟨fun _ => ⟨ho, h.2.1.2⟩, fun h => absurd h (by decide), fun h => absurd h (by decide), fun h => absurd h (by decide), fun h => absurd h (by decide), fun h => absurd h (by decide), fun h => absurd h (by decide), fun h => absurd h (by decide), fun h => absurd h (by decide), fun h => absurd h (by decide)⟩
  rcases e2 with e2 | e2
  · rw [e2, h.2.1.2] at hS; exact absurd hS (by decide)
  · omega
theorem kX1_add : nwPV "NightwatchWall" yX1_add cX1_add 5 (some .long) 1 := ⟨⟨q531, qs17, q86, q532⟩, rfl, by decide +kernel, by decide +kernel, by decide +kernel⟩
set_option maxHeartbeats 4000000 in
theorem mX1_add (l : Launch) (hf : l.flags = flags0) (d : nwD) (g : Nat) (v0 v1 v2 v3 v4 v5 v6 v7 v8 v9 v10 v11 v12 : Value) (s a : Int64) (H : Heap) (hB : nd_B d ≤ H.size) (hgB : nd_B d ≤ g) (hg : nwO d g 0 [v0, v1, v2, v3, v4, v5, v6, v7, v8, v9, v10, v11, v12, .long s] H)  : nwMt l d yX1_add cX1_add 5 (some .long) 1 20 0 0 [.ref g, .long a] H (fun v H1 => v = some (.long (s * 31 + a)) ∧ nwO d g 0 [v0, v1, v2, v3, v4, v5, v6, v7, v8, v9, v10, v11, v12, .long (s * 31 + a)] H1) nwNo (fun q => q = g ∨ H.size ≤ q) := by
  refine nw_start "NightwatchWall" "add" hf (by decide +kernel) rfl rfl (fun _ h => Or.inr h) (fun q h => h.elim (fun e => by rw [e]; exact hgB) (fun h => Nat.le_trans hB h)) (Nat.le_of_ble_eq_true rfl) ?_
  intro X C
  have hE := C.E0
  have hB0 := hB
  have hsz : H.size ≤ H.size := Nat.le_refl _
  show nwV X _ _ 5 H 0 0 0 [(0, .ref g), (1, .long a)] []
  refine nw_aload_n C 0 dX1_add_0 rfl 1 rfl ?_
  refine nw_aload_n C 0 dX1_add_1 rfl 2 rfl ?_
  refine nw_get C hg (T := TX1) rfl in_X1 13 (by decide) q234 (Or.inl rfl) rfl dX1_add_2 5 rfl ?_
  refine nw_ldc2 C q533 dX1_add_5 8 rfl ?_
  refine nw_lmul C dX1_add_8 9 rfl ?_
  refine nw_lload_n C 1 dX1_add_9 rfl 10 rfl ?_
  refine nw_ladd C dX1_add_10 11 rfl ?_
  refine nw_dup2_x1l C dX1_add_11 rfl rfl 12 rfl ?_
  refine nw_put C hg (Or.inl rfl) (T := TX1) (ty0 := tyX1) rfl in_X1 tyX1_ok nmX1 13 (by decide) q234 (Or.inl rfl) rfl rfl rfl (Nat.le_of_ble_eq_true rfl) dX1_add_12 15 rfl (fun H1 ho2 hz3 hq4 => ?_)
  have ho2 : nwO d g 0 [v0, v1, v2, v3, v4, v5, v6, v7, v8, v9, v10, v11, v12, .long ((s * 31) + a)] H1 := ho2
  have hsz := Nat.le_trans hsz (Nat.le_of_eq hz3.symm)
  have hB := Nat.le_trans hB0 hsz
  refine nw_lstore_n C [(3, .long ((s * 31) + a)), (0, .ref g), (1, .long a)] dX1_add_15 (by decide) rfl 16 rfl ?_
  refine nw_lload_n C 0 dX1_add_16 rfl 17 rfl ?_
  exact nw_lret C dX1_add_17 (Nat.le_refl _) (Nat.le_refl _) ⟨rfl, ho2⟩
set_option maxHeartbeats 4000000 in
theorem mX1_digest (l : Launch) (hf : l.flags = flags0) (d : nwD) (ro ad : Nat → Nat) (x : Nat) (σ : spSg) (sm : Int64) (H : Heap) (hB : nd_B d ≤ H.size) (hR : nwWR d ro ad x σ sm H) (ok : spOk σ) : nwMt l d yX1_digest cX1_digest 4 (some .long) 11 254 650 28500 [.ref x] H (fun v H1 => v = some (.long (sp_digest σ)) ∧ H.size ≤ H1.size ∧ nwWR d ro ad x σ (sp_digest σ) H1) nwNo (nwAC ro H) := by
  refine nw_start "NightwatchWall" "digest" hf (by decide +kernel) rfl rfl (fun _ h => Or.inr h) (nwAC_B hR hB) (Nat.le_of_ble_eq_true rfl) ?_
  intro X C
  have hW := hR.wc
  have hrx0 := hR.2.1.2
  have hW0 := hW
  have hB0 := hB
  have hE := C.E0
  have hext : nwExt H H := nwExt.rfl
  obtain ⟨hx, hcG, hcLa, hcFo, hcGu, hcPo, hcIn, hcWi, hcWo, hcKe⟩ := id hW
  obtain ⟨okg, okl, okf, oku, okp, oki, okw, okd, okk, oka⟩ := id ok
  have hn64 : gr_n (sg_gr σ) ≤ 64 := okg.n
  have oku1 := oku.1
  have oki1 := oki.1
  have okp1 := okp.1
  have okw1 := okw.1
  have okl1 := okl.1
  have okf1 := okf.1
  show nwV X _ _ 4 H 0 0 0 [(0, .ref x)] []
  have hsz : H.size ≤ H.size := Nat.le_refl _
  have hrl5 : ro (ad 5) = 6 := hR.2.2.2.2.2.2.2.1.2.2.1
  have hrl6 : ro (ad 6) = 7 := hR.2.2.2.2.2.2.2.2.1.2.2.1
  refine nw_aload_n C 0 dX1_digest_0 rfl 1 rfl ?_
  refine nw_ldc2 C q402 dX1_digest_1 4 rfl ?_
  refine nw_put C hx (nwAC_r hrx0 (by decide +kernel)) (T := TX1) (ty0 := tyX1) rfl in_X1 tyX1_ok nmX1 13 (by decide) q234 (Or.inl rfl) rfl rfl rfl (Nat.le_of_ble_eq_true rfl) dX1_digest_4 7 rfl (fun H1 ho2 hz3 hq4 => ?_)
  have ho2 : nwO d x 0 [.ref (ad 0), .ref (ad 1), .ref (ad 2), .ref (ad 3), .ref (ad 4), .ref (ad 5), .ref (ad 6), .ref (ad 7), .ref (ad 8), .int (nI (ga_f (sg_ga σ))), .int (nI (ga_t (sg_ga σ))), .int (nI (sg_ri σ)), .int (nI (sg_rf σ)), .long 9241] H1 := ho2
  have hRn := tr_pX1 (sm' := 9241) hR (Nat.le_of_eq hz3.symm) (fun q9 _ e9 => hq4 q9 (fun e8 => e9 (Or.inl e8))) ho2
  have hE := hE.kept (fun q9 g9 hb9 => hq4 q9 (fun e9 => hb9 (by rw [e9]; exact (hR.ok0 (by rw [hrx0]; decide)).1)))
  have hR := hRn
  replace hsz : H.size ≤ H1.size := by rw [hz3]; exact hsz
  replace hB := Nat.le_trans hB0 hsz
  obtain ⟨sm, hsm0⟩ : ∃ t9 : Int64, t9 = 9241 := ⟨_, rfl⟩
  rw [← hsm0] at hR
  have hW := hR.wc
  obtain ⟨hx, hcG, hcLa, hcFo, hcGu, hcPo, hcIn, hcWi, hcWo, hcKe⟩ := id hW
  refine nw_iconst C (nI 0) dX1_digest_7 (by decide) 8 rfl ?_
  refine nw_istore_n C [(1, .int (nI 0)), (0, .ref x)] dX1_digest_8 (by decide) rfl 9 rfl ?_
  have lp5 : ∀ (fu : Nat) (H2 : Heap) (sm : Int64) (q : Nat), (nwWR d ro ad x σ sm H2) → (nwE d (nx_s X) H2) → (H.size ≤ H2.size) → (q ≤ 13) → (sm = dg_L (fun q => nI (sp_manyNow σ q)) q 9241) → 13 - q < fu → nwV X (nwAC ro H) (nwQE X (fun v H1 => v = some (.long (sp_digest σ)) ∧ H.size ≤ H1.size ∧ nwWR d ro ad x σ (sp_digest σ) H1) nwNo (nwAC ro H) 650 28500) 4 H2 q (4 * q) 9 [(0, .ref x), (1, .int (nI q))] [] := by
    intro fu
    induction fu with
    | zero => intro H2 sm q _ _ _ _ _ hm; exact absurd hm (Nat.not_lt_zero _)
    | succ fu ih_lp5 =>
      intro H2 sm q hR hE hsz hq9 hdg hm
      replace hB := Nat.le_trans hB0 hsz
      have hW := hR.wc
      obtain ⟨hx, hcG, hcLa, hcFo, hcGu, hcPo, hcIn, hcWi, hcWo, hcKe⟩ := id hW
      refine nw_iload_n C 1 dX1_digest_9 rfl 10 rfl ?_
      refine nw_bipush C (nI 12) dX1_digest_10 (by decide) 12 rfl ?_
      refine nw_icmpgtN C (by omega) 32 dX1_digest_12 (by decide) 15 rfl (fun h6 => ?_) (fun h6 => ?_)
      · have hd1 : sm = sp_d1 σ := by unfold sp_d1; rw [hdg, show q = 13 by omega]
        refine nw_wide (k' := 13) (n' := 52) (by omega) (by omega) ?_
        refine nw_iconst C (nI 0) dX1_digest_32 (by decide) 33 rfl ?_
        refine nw_istore_n C [(1, .int (nI 0)), (0, .ref x)] dX1_digest_33 (by decide) rfl 34 rfl ?_
        have lp7 : ∀ (fu : Nat) (H2 : Heap) (sm : Int64) (m : Nat) (t : Nat), (nwWR d ro ad x σ sm H2) → (nwE d (nx_s X) H2) → (H.size ≤ H2.size) → (m ≤ 4) → (t = 60 * m) → (sm = dg_F (fun m => dg_L (fun q => nI (sp_minuteNow σ (60 * m) q)) 7) m (sp_d1 σ)) → 4 - m < fu → nwV X (nwAC ro H) (nwQE X (fun v H1 => v = some (.long (sp_digest σ)) ∧ H.size ≤ H1.size ∧ nwWR d ro ad x σ (sp_digest σ) H1) nwNo (nwAC ro H) 650 28500) 4 H2 13 52 34 [(0, .ref x), (1, .int (nI t))] [] := by
          intro fu
          induction fu with
          | zero => intro H2 sm m t _ _ _ _ _ _ hm; exact absurd hm (Nat.not_lt_zero _)
          | succ fu ih_lp7 =>
            intro H2 sm m t hR hE hsz hm4 ht hdg hm
            replace hB := Nat.le_trans hB0 hsz
            have hW := hR.wc
            obtain ⟨hx, hcG, hcLa, hcFo, hcGu, hcPo, hcIn, hcWi, hcWo, hcKe⟩ := id hW
            refine nw_iload_n C 1 dX1_digest_34 rfl 35 rfl ?_
            refine nw_sipush C (nI 240) dX1_digest_35 (by decide) 38 rfl ?_
            refine nw_icmpgeN C (by omega) 73 dX1_digest_38 (by decide) 41 rfl (fun h8 => ?_) (fun h8 => ?_)
            · have hd2 : sm = sp_d2 σ := by unfold sp_d2; rw [hdg, show m = 4 by omega]
              refine nw_iconst C (nI 0) dX1_digest_73 (by decide) 74 rfl ?_
              refine nw_istore_n C [(1, .int (nI 0)), (0, .ref x)] dX1_digest_74 (by decide) rfl 75 rfl ?_
              have lp9 : ∀ (fu : Nat) (H2 : Heap) (sm : Int64) (c : Nat), (nwWR d ro ad x σ sm H2) → (nwE d (nx_s X) H2) → (H.size ≤ H2.size) → (c ≤ gr_n (sg_gr σ)) → (sm = dg_F (fun c => dg_L (fun q => sp_cellNow σ c 120 q) 5) c (sp_d2 σ)) → gr_n (sg_gr σ) - c < fu → nwV X (nwAC ro H) (nwQE X (fun v H1 => v = some (.long (sp_digest σ)) ∧ H.size ≤ H1.size ∧ nwWR d ro ad x σ (sp_digest σ) H1) nwNo (nwAC ro H) 650 28500) 4 H2 13 52 75 [(0, .ref x), (1, .int (nI c))] [] := by
                intro fu
                induction fu with
                | zero => intro H2 sm c _ _ _ _ _ hm; exact absurd hm (Nat.not_lt_zero _)
                | succ fu ih_lp9 =>
                  intro H2 sm c hR hE hsz hc hdg hm
                  replace hB := Nat.le_trans hB0 hsz
                  have hW := hR.wc
                  obtain ⟨hx, hcG, hcLa, hcFo, hcGu, hcPo, hcIn, hcWi, hcWo, hcKe⟩ := id hW
                  refine nw_iload_n C 1 dX1_digest_75 rfl 76 rfl ?_
                  refine nw_aload_n C 0 dX1_digest_76 rfl 77 rfl ?_
                  refine nw_callV C (mX1_size _ C.hfl d ro ad x σ sm  H2 hB hW ok ) kX1_size q272 (hx.is C (ci := 0) rfl) (As := []) (rest := [.int (nI c)]) rfl rfl ⟨⟨Nat.le_of_ble_eq_true rfl, Nat.le_of_ble_eq_true rfl⟩, Nat.le_of_ble_eq_true rfl, Nat.le_of_ble_eq_true rfl⟩ (Nat.le_of_ble_eq_true rfl) (fun _ h8 h9 => absurd h9 (Nat.not_le.mpr h8)) dX1_digest_77 80 rfl (nw_rdK ?_) nw_noX
                  refine nw_icmpgeN C (by omega) 116 dX1_digest_80 (by decide) 83 rfl (fun h10 => ?_) (fun h10 => ?_)
                  · have hd3 : sm = sp_d3 σ := by unfold sp_d3; rw [hdg, show c = gr_n (sg_gr σ) by omega]
                    refine nw_iconst C (nI 0) dX1_digest_116 (by decide) 117 rfl ?_
                    refine nw_istore_n C [(1, .int (nI 0)), (0, .ref x)] dX1_digest_117 (by decide) rfl 118 rfl ?_
                    have lp11 : ∀ (fu : Nat) (H2 : Heap) (sm : Int64) (g : Nat), (nwWR d ro ad x σ sm H2) → (nwE d (nx_s X) H2) → (H.size ≤ H2.size) → (g ≤ (sg_gu σ).1) → (sm = dg_F (fun g => dg_L (fun q => sp_guardNow σ g q) 9) g (sp_d3 σ)) → (sg_gu σ).1 - g < fu → nwV X (nwAC ro H) (nwQE X (fun v H1 => v = some (.long (sp_digest σ)) ∧ H.size ≤ H1.size ∧ nwWR d ro ad x σ (sp_digest σ) H1) nwNo (nwAC ro H) 650 28500) 4 H2 13 52 118 [(0, .ref x), (1, .int (nI g))] [] := by
                      intro fu
                      induction fu with
                      | zero => intro H2 sm g _ _ _ _ _ hm; exact absurd hm (Nat.not_lt_zero _)
                      | succ fu ih_lp11 =>
                        intro H2 sm g hR hE hsz hg hdg hm
                        replace hB := Nat.le_trans hB0 hsz
                        have hW := hR.wc
                        obtain ⟨hx, hcG, hcLa, hcFo, hcGu, hcPo, hcIn, hcWi, hcWo, hcKe⟩ := id hW
                        refine nw_iload_n C 1 dX1_digest_118 rfl 119 rfl ?_
                        refine nw_aload_n C 0 dX1_digest_119 rfl 120 rfl ?_
                        refine nw_get C hx (T := TX1) rfl in_X1 3 (by decide) q224 (Or.inl rfl) rfl dX1_digest_120 123 rfl ?_
                        refine nw_callV C (mJ3_size _ C.hfl d (ad 3) ((sg_gu σ).1) (fun k => ad (300 + k)) (fun q => ro q = 2004) H2 hB hcGu.1) kJ3_size q346 (hcGu.1.is C) (As := []) (rest := [.int (nI g)]) rfl rfl ⟨⟨Nat.le_of_ble_eq_true rfl, Nat.le_of_ble_eq_true rfl⟩, Nat.le_of_ble_eq_true rfl, Nat.le_of_ble_eq_true rfl⟩ (Nat.le_of_ble_eq_true rfl) (fun _ h8 h9 => absurd h9 (Nat.not_le.mpr h8)) dX1_digest_123 126 rfl (nw_rdK ?_) nw_noX
                        refine nw_icmpgeN C (by omega) 161 dX1_digest_126 (by decide) 129 rfl (fun h12 => ?_) (fun h12 => ?_)
                        · have hd4 : sm = sp_d4 σ := by unfold sp_d4; rw [hdg, show g = (sg_gu σ).1 by omega]
                          refine nw_iconst C (nI 0) dX1_digest_161 (by decide) 162 rfl ?_
                          refine nw_istore_n C [(1, .int (nI 0)), (0, .ref x)] dX1_digest_162 (by decide) rfl 163 rfl ?_
                          have lp13 : ∀ (fu : Nat) (H2 : Heap) (sm : Int64) (p : Nat), (nwWR d ro ad x σ sm H2) → (nwE d (nx_s X) H2) → (H.size ≤ H2.size) → (p ≤ (sg_po σ).1) → (sm = dg_F (fun p v => dg_add (dg_add v (sp_emptyNow (sg_gu σ) ((sg_po σ).2 p) true)) (sp_emptyNow (sg_gu σ) ((sg_po σ).2 p) false)) p (sp_d4 σ)) → (sg_po σ).1 - p < fu → nwV X (nwAC ro H) (nwQE X (fun v H1 => v = some (.long (sp_digest σ)) ∧ H.size ≤ H1.size ∧ nwWR d ro ad x σ (sp_digest σ) H1) nwNo (nwAC ro H) 650 28500) 4 H2 13 52 163 [(0, .ref x), (1, .int (nI p))] [] := by
                            intro fu
                            induction fu with
                            | zero => intro H2 sm p _ _ _ _ _ hm; exact absurd hm (Nat.not_lt_zero _)
                            | succ fu ih_lp13 =>
                              intro H2 sm p hR hE hsz hp hdg hm
                              replace hB := Nat.le_trans hB0 hsz
                              have hW := hR.wc
                              obtain ⟨hx, hcG, hcLa, hcFo, hcGu, hcPo, hcIn, hcWi, hcWo, hcKe⟩ := id hW
                              refine nw_iload_n C 1 dX1_digest_163 rfl 164 rfl ?_
                              refine nw_aload_n C 0 dX1_digest_164 rfl 165 rfl ?_
                              refine nw_get C hx (T := TX1) rfl in_X1 4 (by decide) q225 (Or.inl rfl) rfl dX1_digest_165 168 rfl ?_
                              refine nw_callV C (mJ3_size _ C.hfl d (ad 4) ((sg_po σ).1) (fun k => nd_bx d ((sg_po σ).2 k)) (fun q => ro q = 2005) H2 hB hcPo) kJ3_size q346 (hcPo.is C) (As := []) (rest := [.int (nI p)]) rfl rfl ⟨⟨Nat.le_of_ble_eq_true rfl, Nat.le_of_ble_eq_true rfl⟩, Nat.le_of_ble_eq_true rfl, Nat.le_of_ble_eq_true rfl⟩ (Nat.le_of_ble_eq_true rfl) (fun _ h8 h9 => absurd h9 (Nat.not_le.mpr h8)) dX1_digest_168 171 rfl (nw_rdK ?_) nw_noX
                              refine nw_icmpgeN C (by omega) 230 dX1_digest_171 (by decide) 174 rfl (fun h14 => ?_) (fun h14 => ?_)
                              · have hd5 : sm = sp_d5 σ := by unfold sp_d5; rw [hdg, show p = (sg_po σ).1 by omega]
                                refine nw_aload_n C 0 dX1_digest_230 rfl 231 rfl ?_
                                refine nw_get C hx (T := TX1) rfl in_X1 5 (by decide) q226 (Or.inl rfl) rfl dX1_digest_231 234 rfl ?_
                                obtain ⟨mo5, ar5, cap5, f5, hLm5⟩ := nwLi_m hcIn.1
                                refine nw_callV C (mJ3_iterator _ C.hfl d (ad 5) ((sg_in σ).1) (fun k => ad (500 + k)) (fun q => ro q = 2006) mo5 ar5 cap5 f5 H2 hB hLm5) kJ3_iterator q299 (hcIn.1.is C) (As := []) (rest := []) rfl rfl ⟨⟨Nat.le_of_ble_eq_true rfl, Nat.le_of_ble_eq_true rfl⟩, (show 13 + 1 ≤ 650 by omega), (show 52 + 4 ≤ 28500 by omega)⟩ (Nat.le_of_ble_eq_true rfl) (fun _ h8 h9 => absurd h9 (Nat.not_le.mpr h8)) dX1_digest_234 237 rfl (fun v9 H15 hR16 hz17 hq18 => ?_) nw_noX
                                obtain ⟨⟨it19, rfl, hn20, hi21⟩, -⟩ := hR16
                                have hit0 : ro it19 = 0 := nwWR.new0 hR hn20
                                have hitN : H.size ≤ it19 := Nat.le_trans hsz hn20
                                have hnx5 : it19 ≠ x := fun e9 => by rw [e9, hrx0] at hit0; omega
                                have hR := hR.ext ⟨hz17, (fun q9 g9 => hq18 q9 g9 (Nat.not_le.mpr g9))⟩
                                have hLm5 := hLm5.ext (fun q9 g9 => hq18 q9 g9 (Nat.not_le.mpr g9))
                                have hE := hE.ext (fun q9 g9 => hq18 q9 g9 (Nat.not_le.mpr g9))
                                replace hsz := Nat.le_trans hsz hz17
                                replace hB := Nat.le_trans hB0 hsz
                                have hW := hR.wc
                                obtain ⟨hx, hcG, hcLa, hcFo, hcGu, hcPo, hcIn, hcWi, hcWo, hcKe⟩ := id hW
                                show nwV X _ _ 4 H15 (13 + 1) (52 + 4) 237 [(0, .ref x), (1, .int (nI p))] [.ref it19]
                                refine nw_wide (k' := 14) (n' := 56) (by omega) (by omega) ?_
                                refine nw_astore_n C [(1, .ref it19), (0, .ref x)] dX1_digest_237 (by decide) rfl 238 rfl ?_
                                have hini := hi21
                                have lp22 : ∀ (fu : Nat) (H2 : Heap) (sm : Int64) (j5 : Nat) (lr : Int32), (nwWR d ro ad x σ sm H2) → (nwE d (nx_s X) H2) → (H.size ≤ H2.size) → (nwLm d (ad 5) (sg_in σ).1 (fun k => ad (500 + k)) (fun q => ro q = 2006) mo5 ar5 cap5 f5 H2) → (nwO d it19 14 [.int (nI j5), .int lr, .int mo5, .ref (ad 5)] H2) → (j5 ≤ (sg_in σ).1) → (sm = dg_F (fun i => dg_L (fun q => sp_intrNow σ ((sg_in σ).2 i) q) 9) j5 (sp_d5 σ)) → (sg_in σ).1 - j5 < fu → nwV X (nwAC ro H) (nwQE X (fun v H1 => v = some (.long (sp_digest σ)) ∧ H.size ≤ H1.size ∧ nwWR d ro ad x σ (sp_digest σ) H1) nwNo (nwAC ro H) 650 28500) 4 H2 (14 + 108 * j5) (56 + 6912 * j5) 238 [(0, .ref x), (1, .ref it19)] [] := by
                                  intro fu
                                  induction fu with
                                  | zero => intro H2 sm j5 lr _ _ _ _ _ _ _ hm; exact absurd hm (Nat.not_lt_zero _)
                                  | succ fu ih_lp22 =>
                                    intro H2 sm j5 lr hR hE hsz hLm5 hitf0 hj hdg hm
                                    replace hB := Nat.le_trans hB0 hsz
                                    have hW := hR.wc
                                    obtain ⟨hx, hcG, hcLa, hcFo, hcGu, hcPo, hcIn, hcWi, hcWo, hcKe⟩ := id hW
                                    refine nw_aload_n C 1 dX1_digest_238 rfl 239 rfl ?_
                                    refine nw_callG C (mJ13_hasNext _ C.hfl d (ad 5) ((sg_in σ).1) (fun k => ad (500 + k)) (fun q => ro q = 2006) mo5 ar5 cap5 f5 it19 j5 lr H2 hB hLm5 hitf0 (by omega)) kJ13_hasNext (ci := 14) rfl q323 q327 (by decide +kernel) fc_Iterator_hasNext (hitf0.is C (ci := 14) rfl) (As := []) (rest := []) rfl rfl ⟨⟨Nat.le_of_ble_eq_true rfl, Nat.le_of_ble_eq_true rfl⟩, (show (14 + 108 * j5) + 0 ≤ 650 by omega), (show (56 + 6912 * j5) + 0 ≤ 28500 by omega)⟩ (Nat.le_of_ble_eq_true rfl) (fun _ h8 h9 => absurd h9 (Nat.not_le.mpr h8)) dX1_digest_239 244 rfl (nw_rdK ?_) nw_noX
                                    refine nw_ifeqB C 286 dX1_digest_244 (by decide) 247 rfl (fun h23 => ?_) (fun h23 => ?_)
                                    · have h23 := of_decide_eq_false h23
                                      have hd6 : sm = sp_d6 σ := by unfold sp_d6; rw [hdg, show j5 = (sg_in σ).1 by omega]
                                      refine nw_wide (k' := 446) (n' := 27704) (by omega) (by omega) ?_
                                      refine nw_aload_n C 0 dX1_digest_286 rfl 287 rfl ?_
                                      refine nw_get C hx (T := TX1) rfl in_X1 6 (by decide) q227 (Or.inl rfl) rfl dX1_digest_287 290 rfl ?_
                                      obtain ⟨mo6, ar6, cap6, f6, hLm6⟩ := nwLi_m hcWi.1
                                      refine nw_callV C (mJ3_iterator _ C.hfl d (ad 6) ((sg_wi σ).1) (fun k => ad (700 + k)) (fun q => ro q = 2007) mo6 ar6 cap6 f6 H2 hB hLm6) kJ3_iterator q299 (hcWi.1.is C) (As := []) (rest := []) rfl rfl ⟨⟨Nat.le_of_ble_eq_true rfl, Nat.le_of_ble_eq_true rfl⟩, (show 446 + 1 ≤ 650 by omega), (show 27704 + 4 ≤ 28500 by omega)⟩ (Nat.le_of_ble_eq_true rfl) (fun _ h8 h9 => absurd h9 (Nat.not_le.mpr h8)) dX1_digest_290 293 rfl (fun v9 H24 hR25 hz26 hq27 => ?_) nw_noX
                                      obtain ⟨⟨it28, rfl, hn29, hi30⟩, -⟩ := hR25
                                      have hit0 : ro it28 = 0 := nwWR.new0 hR hn29
                                      have hitN : H.size ≤ it28 := Nat.le_trans hsz hn29
                                      have hnx6 : it28 ≠ x := fun e9 => by rw [e9, hrx0] at hit0; omega
                                      have hR := hR.ext ⟨hz26, (fun q9 g9 => hq27 q9 g9 (Nat.not_le.mpr g9))⟩
                                      have hLm6 := hLm6.ext (fun q9 g9 => hq27 q9 g9 (Nat.not_le.mpr g9))
                                      have hE := hE.ext (fun q9 g9 => hq27 q9 g9 (Nat.not_le.mpr g9))
                                      replace hsz := Nat.le_trans hsz hz26
                                      replace hB := Nat.le_trans hB0 hsz
                                      have hW := hR.wc
                                      obtain ⟨hx, hcG, hcLa, hcFo, hcGu, hcPo, hcIn, hcWi, hcWo, hcKe⟩ := id hW
                                      show nwV X _ _ 4 H24 (446 + 1) (27704 + 4) 293 [(0, .ref x), (1, .ref it19)] [.ref it28]
                                      refine nw_wide (k' := 447) (n' := 27708) (by omega) (by omega) ?_
                                      refine nw_astore_n C [(1, .ref it28), (0, .ref x)] dX1_digest_293 (by decide) rfl 294 rfl ?_
                                      have hini := hi30
                                      have lp31 : ∀ (fu : Nat) (H2 : Heap) (sm : Int64) (j6 : Nat) (lr : Int32), (nwWR d ro ad x σ sm H2) → (nwE d (nx_s X) H2) → (H.size ≤ H2.size) → (nwLm d (ad 6) (sg_wi σ).1 (fun k => ad (700 + k)) (fun q => ro q = 2007) mo6 ar6 cap6 f6 H2) → (nwO d it28 14 [.int (nI j6), .int lr, .int mo6, .ref (ad 6)] H2) → (j6 ≤ (sg_wi σ).1) → (sm = dg_F (fun i => dg_L (fun q => sp_wireNow (sg_in σ) ((sg_wi σ).2 i) q) 5) j6 (sp_d6 σ)) → (sg_wi σ).1 - j6 < fu → nwV X (nwAC ro H) (nwQE X (fun v H1 => v = some (.long (sp_digest σ)) ∧ H.size ≤ H1.size ∧ nwWR d ro ad x σ (sp_digest σ) H1) nwNo (nwAC ro H) 650 28500) 4 H2 (447 + 0 * j6) (27708 + 0 * j6) 294 [(0, .ref x), (1, .ref it28)] [] := by
                                        intro fu
                                        induction fu with
                                        | zero => intro H2 sm j6 lr _ _ _ _ _ _ _ hm; exact absurd hm (Nat.not_lt_zero _)
                                        | succ fu ih_lp31 =>
                                          intro H2 sm j6 lr hR hE hsz hLm6 hitf0 hj hdg hm
                                          replace hB := Nat.le_trans hB0 hsz
                                          have hW := hR.wc
                                          obtain ⟨hx, hcG, hcLa, hcFo, hcGu, hcPo, hcIn, hcWi, hcWo, hcKe⟩ := id hW
                                          refine nw_aload_n C 1 dX1_digest_294 rfl 295 rfl ?_
                                          refine nw_callG C (mJ13_hasNext _ C.hfl d (ad 6) ((sg_wi σ).1) (fun k => ad (700 + k)) (fun q => ro q = 2007) mo6 ar6 cap6 f6 it28 j6 lr H2 hB hLm6 hitf0 (by omega)) kJ13_hasNext (ci := 14) rfl q323 q327 (by decide +kernel) fc_Iterator_hasNext (hitf0.is C (ci := 14) rfl) (As := []) (rest := []) rfl rfl ⟨⟨Nat.le_of_ble_eq_true rfl, Nat.le_of_ble_eq_true rfl⟩, (show (447 + 0 * j6) + 0 ≤ 650 by omega), (show (27708 + 0 * j6) + 0 ≤ 28500 by omega)⟩ (Nat.le_of_ble_eq_true rfl) (fun _ h8 h9 => absurd h9 (Nat.not_le.mpr h8)) dX1_digest_295 300 rfl (nw_rdK ?_) nw_noX
                                          refine nw_ifeqB C 341 dX1_digest_300 (by decide) 303 rfl (fun h32 => ?_) (fun h32 => ?_)
                                          · have h32 := of_decide_eq_false h32
                                            have hd7 : sm = sp_d7 σ := by unfold sp_d7; rw [hdg, show j6 = (sg_wi σ).1 by omega]
                                            refine nw_wide (k' := 447) (n' := 27708) (by omega) (by omega) ?_
                                            refine nw_aload_n C 0 dX1_digest_341 rfl 342 rfl ?_
                                            refine nw_aload_n C 0 dX1_digest_342 rfl 343 rfl ?_
                                            refine nw_callV C (mX1_isSoundNow _ C.hfl d ro ad x σ sm H2 hB hW ok) kX1_isSoundNow q268 (hx.is C (ci := 0) rfl) (As := []) (rest := [.ref x]) rfl rfl ⟨⟨Nat.le_of_ble_eq_true rfl, Nat.le_of_ble_eq_true rfl⟩, (show 447 + 194 ≤ 650 by omega), (show 27708 + 776 ≤ 28500 by omega)⟩ (Nat.le_of_ble_eq_true rfl) (fun _ h8 h9 => absurd h9 (Nat.not_le.mpr h8)) dX1_digest_343 346 rfl (fun v9 H33 hR34 hz35 hq36 => ?_) nw_noX
                                            obtain ⟨rfl, -⟩ := hR34
                                            have hR := hR.ext ⟨hz35, (fun q9 g9 => hq36 q9 g9 (Nat.not_le.mpr g9))⟩
                                            have hE := hE.ext (fun q9 g9 => hq36 q9 g9 (Nat.not_le.mpr g9))
                                            replace hsz := Nat.le_trans hsz hz35
                                            replace hB := Nat.le_trans hB0 hsz
                                            have hW := hR.wc
                                            obtain ⟨hx, hcG, hcLa, hcFo, hcGu, hcPo, hcIn, hcWi, hcWo, hcKe⟩ := id hW
                                            show nwV X _ _ 4 H33 (447 + 194) (27708 + 776) 346 [(0, .ref x), (1, .ref it28)] [.int (b2i (sp_sound σ)), .ref x]
                                            refine nw_wide (k' := 641) (n' := 28484) (by omega) (by omega) ?_
                                            refine nw_ifeqB C 353 dX1_digest_346 (by decide) 349 rfl (fun h37 => ?_) (fun h37 => ?_)
                                            · have hso : sp_sound σ = false := h37
                                              have hb9 : (b2i false).toInt64 = 0 := by decide
                                              refine nw_lconst C 0 dX1_digest_353 rfl 354 rfl ?_
                                              refine nw_callV C (mX1_add _ C.hfl d x (.ref (ad 0)) (.ref (ad 1)) (.ref (ad 2)) (.ref (ad 3)) (.ref (ad 4)) (.ref (ad 5)) (.ref (ad 6)) (.ref (ad 7)) (.ref (ad 8)) (.int (nI (ga_f (sg_ga σ)))) (.int (nI (ga_t (sg_ga σ)))) (.int (nI (sg_ri σ))) (.int (nI (sg_rf σ))) sm 0 H33 hB (hR.ok0 (by rw [hrx0]; decide)).1 hx) kX1_add q529 (hx.is C (ci := 0) rfl) (As := [.long 0]) (rest := []) rfl rfl ⟨⟨Nat.le_of_ble_eq_true rfl, Nat.le_of_ble_eq_true rfl⟩, (show 641 + 0 ≤ 650 by omega), (show 28484 + 0 ≤ 28500 by omega)⟩ (Nat.le_of_ble_eq_true rfl) (fun q8 h8 h9 => h9.elim (fun e9 => by rw [e9]; exact nwAC_r hrx0 (by decide +kernel)) (fun e9 => absurd h8 (Nat.not_lt.mpr e9))) dX1_digest_354 357 rfl (fun v9 H38 hR39 hz40 hq41 => ?_) nw_noX
                                              obtain ⟨rfl, ho42⟩ := hR39
                                              have hRn := tr_pX1 hR hz40 hq41 ho42
                                              obtain ⟨sm, hsm43⟩ : ∃ t9 : Int64, t9 = sm * 31 + 0 := ⟨_, rfl⟩
                                              rw [← hsm43] at hRn ⊢
                                              have hE := hE.kept (fun q9 g9 hb9 => hq41 q9 g9 (fun e9 => hb9 (e9.elim (fun e9 => by rw [e9]; exact (hR.ok0 (by rw [hrx0]; decide)).1) (fun e9 => Nat.le_trans hB e9))))
                                              have hR := hRn
                                              replace hsz := Nat.le_trans hsz hz40
                                              replace hB := Nat.le_trans hB0 hsz
                                              have hW := hR.wc
                                              obtain ⟨hx, hcG, hcLa, hcFo, hcGu, hcPo, hcIn, hcWi, hcWo, hcKe⟩ := id hW
                                              show nwV X _ _ 4 H38 (641 + 0) (28484 + 0) 357 [(0, .ref x), (1, .ref it28)] [.long sm]
                                              refine nw_wide (k' := 641) (n' := 28484) (by omega) (by omega) ?_
                                              have hfin : sm = sp_digest σ := by rw [hsm43, hd7]; unfold sp_digest dg_add; rw [hso, hb9]
                                              rw [hfin] at hR ⊢
                                              exact nw_lret C dX1_digest_357 (by omega) (by omega) ⟨rfl, hsz, hR⟩
                                            · have hso : sp_sound σ = true := h37
                                              have hb9 : (b2i true).toInt64 = 1 := by decide
                                              refine nw_lconst C 1 dX1_digest_349 rfl 350 rfl ?_
                                              refine nw_goto C 354 dX1_digest_350 (by decide) ?_
                                              refine nw_callV C (mX1_add _ C.hfl d x (.ref (ad 0)) (.ref (ad 1)) (.ref (ad 2)) (.ref (ad 3)) (.ref (ad 4)) (.ref (ad 5)) (.ref (ad 6)) (.ref (ad 7)) (.ref (ad 8)) (.int (nI (ga_f (sg_ga σ)))) (.int (nI (ga_t (sg_ga σ)))) (.int (nI (sg_ri σ))) (.int (nI (sg_rf σ))) sm 1 H33 hB (hR.ok0 (by rw [hrx0]; decide)).1 hx) kX1_add q529 (hx.is C (ci := 0) rfl) (As := [.long 1]) (rest := []) rfl rfl ⟨⟨Nat.le_of_ble_eq_true rfl, Nat.le_of_ble_eq_true rfl⟩, (show 641 + 0 ≤ 650 by omega), (show 28484 + 0 ≤ 28500 by omega)⟩ (Nat.le_of_ble_eq_true rfl) (fun q8 h8 h9 => h9.elim (fun e9 => by rw [e9]; exact nwAC_r hrx0 (by decide +kernel)) (fun e9 => absurd h8 (Nat.not_lt.mpr e9))) dX1_digest_354 357 rfl (fun v9 H44 hR45 hz46 hq47 => ?_) nw_noX
                                              obtain ⟨rfl, ho48⟩ := hR45
                                              have hRn := tr_pX1 hR hz46 hq47 ho48
                                              obtain ⟨sm, hsm49⟩ : ∃ t9 : Int64, t9 = sm * 31 + 1 := ⟨_, rfl⟩
                                              rw [← hsm49] at hRn ⊢
                                              have hE := hE.kept (fun q9 g9 hb9 => hq47 q9 g9 (fun e9 => hb9 (e9.elim (fun e9 => by rw [e9]; exact (hR.ok0 (by rw [hrx0]; decide)).1) (fun e9 => Nat.le_trans hB e9))))
                                              have hR := hRn
                                              replace hsz := Nat.le_trans hsz hz46
                                              replace hB := Nat.le_trans hB0 hsz
                                              have hW := hR.wc
                                              obtain ⟨hx, hcG, hcLa, hcFo, hcGu, hcPo, hcIn, hcWi, hcWo, hcKe⟩ := id hW
                                              show nwV X _ _ 4 H44 (641 + 0) (28484 + 0) 357 [(0, .ref x), (1, .ref it28)] [.long sm]
                                              refine nw_wide (k' := 641) (n' := 28484) (by omega) (by omega) ?_
                                              have hfin : sm = sp_digest σ := by rw [hsm49, hd7]; unfold sp_digest dg_add; rw [hso, hb9]
                                              rw [hfin] at hR ⊢
                                              exact nw_lret C dX1_digest_357 (by omega) (by omega) ⟨rfl, hsz, hR⟩
                                          · have h32 := of_decide_eq_true h32
                                            refine nw_aload_n C 1 dX1_digest_303 rfl 304 rfl ?_
                                            refine nw_callG C (mJ13_next _ C.hfl d it28 (ad 6) ((sg_wi σ).1) (fun k => ad (700 + k)) (fun q => ro q = 2007) mo6 ar6 cap6 f6 j6 lr H2 hB (Nat.le_trans hB0 hitN) hitf0 hLm6 (by omega) (fun g9 e9 => by have p8 : ro ar6 = 2007 := hLm6.2.1 g9; rw [e9, hit0] at p8; omega) (fun e9 => by rw [e9, hit0] at hrl6; omega)) kJ13_next (ci := 14) rfl q333 q336 (by decide +kernel) fc_Iterator_next (hitf0.is C (ci := 14) rfl) (As := []) (rest := []) rfl rfl ⟨⟨Nat.le_of_ble_eq_true rfl, Nat.le_of_ble_eq_true rfl⟩, (show (447 + 0 * j6) + 0 ≤ 650 by omega), (show (27708 + 0 * j6) + 0 ≤ 28500 by omega)⟩ (Nat.le_of_ble_eq_true rfl) (fun q8 h8 h9 => h9.elim (fun e9 => Or.inr (by rw [e9]; exact hitN)) (fun e9 => absurd h8 (Nat.not_lt.mpr e9))) dX1_digest_304 309 rfl (fun v9 H50 hR51 hz52 hq53 => ?_) nw_noX
                                            obtain ⟨rfl, ho54⟩ := hR51
                                            have hR := hR.kp hz52 (fun q9 g9 e8 => hq53 q9 g9 (fun e9 => e9.elim (fun e9 => e8 (by rw [e9]; exact hit0)) (Nat.not_le.mpr g9)))
                                            have hLm6 := hLm6.kp (hq53 _ hLm6.lt' (fun e9 => e9.elim (fun e9 => by rw [e9, hit0] at hrl6; omega) (Nat.not_le.mpr hLm6.lt'))) (fun q9 p9 g9 => hq53 q9 g9 (fun e9 => e9.elim (fun e9 => by have p8 : ro q9 = 2007 := p9; rw [e9, hit0] at p8; omega) (Nat.not_le.mpr g9)))
                                            have hE := hE.kept (fun q9 g9 hb9 => hq53 q9 g9 (fun e9 => hb9 (e9.elim (fun e9 => by rw [e9]; exact Nat.le_trans hB0 hitN) (fun e9 => Nat.le_trans hB e9))))
                                            replace hsz := Nat.le_trans hsz hz52
                                            replace hB := Nat.le_trans hB0 hsz
                                            have hW := hR.wc
                                            obtain ⟨hx, hcG, hcLa, hcFo, hcGu, hcPo, hcIn, hcWi, hcWo, hcKe⟩ := id hW
                                            have hg55 : nwO d (ad (700 + j6)) 8 [.int (nI (((sg_wi σ).2 j6).1)), .int (nI (((sg_wi σ).2 j6).2))] H50 := hcWi.2 j6 (by omega)
                                            show nwV X _ _ 4 H50 ((447 + 0 * j6) + 0) ((27708 + 0 * j6) + 0) 309 [(0, .ref x), (1, .ref it28)] [.ref (ad (700 + j6))]
                                            refine nw_wide (k' := 447 + 0 * j6 + 0) (n' := 27708 + 0 * j6 + 0) (by omega) (by omega) ?_
                                            refine nw_cast C (ci := 8) rfl (hg55.is C (ci := 8) rfl) q621 dX1_digest_309 312 rfl ?_
                                            refine nw_astore_n C [(2, .ref (ad (700 + j6))), (0, .ref x), (1, .ref it28)] dX1_digest_312 (by decide) rfl 313 rfl ?_
                                            refine nw_iconst C (nI 0) dX1_digest_313 (by decide) 314 rfl ?_
                                            refine nw_istore_n C [(3, .int (nI 0)), (2, .ref (ad (700 + j6))), (0, .ref x), (1, .ref it28)] dX1_digest_314 (by decide) rfl 315 rfl ?_
                                            have hdgo := hdg
                                            have lp56 : ∀ (fu : Nat) (H2 : Heap) (sm : Int64) (q6 : Nat), (nwWR d ro ad x σ sm H2) → (nwE d (nx_s X) H2) → (H.size ≤ H2.size) → (nwLm d (ad 6) (sg_wi σ).1 (fun k => ad (700 + k)) (fun q => ro q = 2007) mo6 ar6 cap6 f6 H2) → (nwO d it28 14 [.int (nI (j6 + 1)), .int (nI j6), .int mo6, .ref (ad 6)] H2) → (q6 ≤ 5) → (sm = dg_L (fun q => sp_wireNow (sg_in σ) ((sg_wi σ).2 j6) q) q6 (dg_F (fun i => dg_L (fun q => sp_wireNow (sg_in σ) ((sg_wi σ).2 i) q) 5) j6 (sp_d6 σ))) → 5 - q6 < fu → nwV X (nwAC ro H) (nwQE X (fun v H1 => v = some (.long (sp_digest σ)) ∧ H.size ≤ H1.size ∧ nwWR d ro ad x σ (sp_digest σ) H1) nwNo (nwAC ro H) 650 28500) 4 H2 (447 + 0 * j6) (27708 + 0 * j6) 315 [(0, .ref x), (1, .ref it28), (2, .ref (ad (700 + j6))), (3, .int (nI q6))] [] := by
                                              intro fu
                                              induction fu with
                                              | zero => intro H2 sm q6 _ _ _ _ _ _ _ hm; exact absurd hm (Nat.not_lt_zero _)
                                              | succ fu ih_lp56 =>
                                                intro H2 sm q6 hR hE hsz hLm6 hitf0 hqq6 hdg hm
                                                replace hB := Nat.le_trans hB0 hsz
                                                have hW := hR.wc
                                                obtain ⟨hx, hcG, hcLa, hcFo, hcGu, hcPo, hcIn, hcWi, hcWo, hcKe⟩ := id hW
                                                have hg57 : nwO d (ad (700 + j6)) 8 [.int (nI (((sg_wi σ).2 j6).1)), .int (nI (((sg_wi σ).2 j6).2))] H2 := hcWi.2 j6 (by omega)
                                                refine nw_iload_n C 3 dX1_digest_315 rfl 316 rfl ?_
                                                refine nw_iconst C (nI 4) dX1_digest_316 (by decide) 317 rfl ?_
                                                refine nw_icmpgtN C (by omega) 338 dX1_digest_317 (by decide) 320 rfl (fun h58 => ?_) (fun h58 => ?_)
                                                · have hdg2 := hdg
                                                  refine nw_goto C 294 dX1_digest_338 (by decide) ?_
                                                  exact nw_wide (k' := 447 + 0 * (j6 + 1)) (n' := 27708 + 0 * (j6 + 1)) (by omega) (by omega) (nw_sub [0, 1] rfl (ih_lp31 H2 sm (j6 + 1) (nI j6) hR hE hsz hLm6 hitf0 (by omega) (by rw [hdg2, show q6 = 5 by omega, dg_F_s]) (by omega)))
                                                · refine nw_aload_n C 0 dX1_digest_320 rfl 321 rfl ?_
                                                  refine nw_aload_n C 0 dX1_digest_321 rfl 322 rfl ?_
                                                  refine nw_aload_n C 2 dX1_digest_322 rfl 323 rfl ?_
                                                  refine nw_iload_n C 3 dX1_digest_323 rfl 324 rfl ?_
                                                  refine nw_callV C (mX1_ofWireNow _ C.hfl d ro ad x σ sm (ad (700 + j6)) ((sg_wi σ).2 j6) q6 H2 hB hW ok hg57 (okw.2 j6 (by omega)) (by omega)) kX1_ofWireNow q622 (hx.is C (ci := 0) rfl) (As := [.ref (ad (700 + j6)), .int (nI q6)]) (rest := [.ref x]) rfl rfl ⟨⟨Nat.le_of_ble_eq_true rfl, Nat.le_of_ble_eq_true rfl⟩, (show (447 + 0 * j6) + 0 ≤ 650 by omega), (show (27708 + 0 * j6) + 0 ≤ 28500 by omega)⟩ (Nat.le_of_ble_eq_true rfl) (fun _ h8 h9 => absurd h9 (Nat.not_le.mpr h8)) dX1_digest_324 327 rfl (nw_rdK ?_) nw_noX
                                                  refine nw_i2l C dX1_digest_327 328 rfl ?_
                                                  refine nw_callV C (mX1_add _ C.hfl d x (.ref (ad 0)) (.ref (ad 1)) (.ref (ad 2)) (.ref (ad 3)) (.ref (ad 4)) (.ref (ad 5)) (.ref (ad 6)) (.ref (ad 7)) (.ref (ad 8)) (.int (nI (ga_f (sg_ga σ)))) (.int (nI (ga_t (sg_ga σ)))) (.int (nI (sg_ri σ))) (.int (nI (sg_rf σ))) sm (Int32.toInt64 (sp_wireNow (sg_in σ) ((sg_wi σ).2 j6) q6)) H2 hB (hR.ok0 (by rw [hrx0]; decide)).1 hx) kX1_add q529 (hx.is C (ci := 0) rfl) (As := [.long (Int32.toInt64 (sp_wireNow (sg_in σ) ((sg_wi σ).2 j6) q6))]) (rest := []) rfl rfl ⟨⟨Nat.le_of_ble_eq_true rfl, Nat.le_of_ble_eq_true rfl⟩, (show (447 + 0 * j6) + 0 ≤ 650 by omega), (show (27708 + 0 * j6) + 0 ≤ 28500 by omega)⟩ (Nat.le_of_ble_eq_true rfl) (fun q8 h8 h9 => h9.elim (fun e9 => by rw [e9]; exact nwAC_r hrx0 (by decide +kernel)) (fun e9 => absurd h8 (Nat.not_lt.mpr e9))) dX1_digest_328 331 rfl (fun v9 H59 hR60 hz61 hq62 => ?_) nw_noX
                                                  obtain ⟨rfl, ho63⟩ := hR60
                                                  have hRn := tr_pX1 hR hz61 hq62 ho63
                                                  obtain ⟨sm, hsm64⟩ : ∃ t9 : Int64, t9 = sm * 31 + Int32.toInt64 (sp_wireNow (sg_in σ) ((sg_wi σ).2 j6) q6) := ⟨_, rfl⟩
                                                  rw [← hsm64] at hRn ⊢
                                                  have hLm6 := hLm6.kp (hq62 _ hLm6.lt' (fun e9 => e9.elim (fun e9 => by rw [e9, hrx0] at hrl6; omega) (Nat.not_le.mpr hLm6.lt'))) (fun q9 p9 g9 => hq62 q9 g9 (fun e9 => e9.elim (fun e9 => by have p8 : ro q9 = 2007 := p9; rw [e9, hrx0] at p8; omega) (Nat.not_le.mpr g9)))
                                                  have ho65 := hitf0.kept (hq62 _ hitf0.lt (fun e9 => e9.elim hnx6 (Nat.not_le.mpr hitf0.lt)))
                                                  have hE := hE.kept (fun q9 g9 hb9 => hq62 q9 g9 (fun e9 => hb9 (e9.elim (fun e9 => by rw [e9]; exact (hR.ok0 (by rw [hrx0]; decide)).1) (fun e9 => Nat.le_trans hB e9))))
                                                  have hR := hRn
                                                  replace hsz := Nat.le_trans hsz hz61
                                                  replace hB := Nat.le_trans hB0 hsz
                                                  have hW := hR.wc
                                                  obtain ⟨hx, hcG, hcLa, hcFo, hcGu, hcPo, hcIn, hcWi, hcWo, hcKe⟩ := id hW
                                                  have hg66 : nwO d (ad (700 + j6)) 8 [.int (nI (((sg_wi σ).2 j6).1)), .int (nI (((sg_wi σ).2 j6).2))] H59 := hcWi.2 j6 (by omega)
                                                  show nwV X _ _ 4 H59 ((447 + 0 * j6) + 0) ((27708 + 0 * j6) + 0) 331 [(0, .ref x), (1, .ref it28), (2, .ref (ad (700 + j6))), (3, .int (nI q6))] [.long sm]
                                                  refine nw_wide (k' := 447 + 0 * j6 + 0) (n' := 27708 + 0 * j6 + 0) (by omega) (by omega) ?_
                                                  refine nw_pop2l C dX1_digest_331 rfl 332 rfl ?_
                                                  refine nw_iincN C 3 (c0 := 1) [(3, .int (nI (q6 + 1))), (0, .ref x), (1, .ref it28), (2, .ref (ad (700 + j6)))] dX1_digest_332 rfl (by decide) rfl 335 rfl ?_
                                                  refine nw_goto C 315 dX1_digest_335 (by decide) ?_
                                                  exact nw_wide (k' := 447 + 0 * j6) (n' := 27708 + 0 * j6) (by omega) (by omega) (nw_sub [1, 2, 3, 0] rfl (ih_lp56 H59 sm (q6 + 1) hR hE hsz hLm6 ho65 (by omega) (by rw [hsm64, hdg, dg_L_s]) (by omega)))
                                            exact nw_wide (k' := 447 + 0 * j6) (n' := 27708 + 0 * j6) (by omega) (by omega) (nw_sub [2, 3, 1, 0] rfl (lp56 _ H50 sm 0 hR hE hsz hLm6 ho54 (Nat.zero_le _) (hdgo.trans (dg_L_0 _ _).symm) (Nat.lt_succ_self _)))
                                      exact nw_wide (k' := 447 + 0 * 0) (n' := 27708 + 0 * 0) (by omega) (by omega) (nw_sub [1, 0] rfl (lp31 _ H24 sm 0 (oI none) hR hE hsz hLm6 hi30 (Nat.zero_le _) (hd6.trans (dg_F_0 _ _).symm) (Nat.lt_succ_self _)))
                                    · have h23 := of_decide_eq_true h23
                                      refine nw_aload_n C 1 dX1_digest_247 rfl 248 rfl ?_
                                      refine nw_callG C (mJ13_next _ C.hfl d it19 (ad 5) ((sg_in σ).1) (fun k => ad (500 + k)) (fun q => ro q = 2006) mo5 ar5 cap5 f5 j5 lr H2 hB (Nat.le_trans hB0 hitN) hitf0 hLm5 (by omega) (fun g9 e9 => by have p8 : ro ar5 = 2006 := hLm5.2.1 g9; rw [e9, hit0] at p8; omega) (fun e9 => by rw [e9, hit0] at hrl5; omega)) kJ13_next (ci := 14) rfl q333 q336 (by decide +kernel) fc_Iterator_next (hitf0.is C (ci := 14) rfl) (As := []) (rest := []) rfl rfl ⟨⟨Nat.le_of_ble_eq_true rfl, Nat.le_of_ble_eq_true rfl⟩, (show (14 + 108 * j5) + 0 ≤ 650 by omega), (show (56 + 6912 * j5) + 0 ≤ 28500 by omega)⟩ (Nat.le_of_ble_eq_true rfl) (fun q8 h8 h9 => h9.elim (fun e9 => Or.inr (by rw [e9]; exact hitN)) (fun e9 => absurd h8 (Nat.not_lt.mpr e9))) dX1_digest_248 253 rfl (fun v9 H67 hR68 hz69 hq70 => ?_) nw_noX
                                      obtain ⟨rfl, ho71⟩ := hR68
                                      have hR := hR.kp hz69 (fun q9 g9 e8 => hq70 q9 g9 (fun e9 => e9.elim (fun e9 => e8 (by rw [e9]; exact hit0)) (Nat.not_le.mpr g9)))
                                      have hLm5 := hLm5.kp (hq70 _ hLm5.lt' (fun e9 => e9.elim (fun e9 => by rw [e9, hit0] at hrl5; omega) (Nat.not_le.mpr hLm5.lt'))) (fun q9 p9 g9 => hq70 q9 g9 (fun e9 => e9.elim (fun e9 => by have p8 : ro q9 = 2006 := p9; rw [e9, hit0] at p8; omega) (Nat.not_le.mpr g9)))
                                      have hE := hE.kept (fun q9 g9 hb9 => hq70 q9 g9 (fun e9 => hb9 (e9.elim (fun e9 => by rw [e9]; exact Nat.le_trans hB0 hitN) (fun e9 => Nat.le_trans hB e9))))
                                      replace hsz := Nat.le_trans hsz hz69
                                      replace hB := Nat.le_trans hB0 hsz
                                      have hW := hR.wc
                                      obtain ⟨hx, hcG, hcLa, hcFo, hcGu, hcPo, hcIn, hcWi, hcWo, hcKe⟩ := id hW
                                      have hg72 : nwIn d (ad (500 + j5)) (ad (600 + j5)) (fun q => ro q = 2601 + j5) ((sg_in σ).2 j5) H67 := hcIn.2 j5 (by omega)
                                      have hk73 : okI1 (sg_gr σ) ((sg_in σ).2 j5) := oki.2 j5 (by omega)
                                      have hg74 : nwO d (ad (500 + j5)) 7 [.int (nI (in_a ((sg_in σ).2 j5))), .ref (ad (600 + j5)), .int (nI (in_v ((sg_in σ).2 j5))), .int (nI (in_s ((sg_in σ).2 j5))), .int (oI (in_l ((sg_in σ).2 j5)))] H67 := hg72.1
                                      show nwV X _ _ 4 H67 ((14 + 108 * j5) + 0) ((56 + 6912 * j5) + 0) 253 [(0, .ref x), (1, .ref it19)] [.ref (ad (500 + j5))]
                                      refine nw_wide (k' := 14 + 108 * j5 + 0) (n' := 56 + 6912 * j5 + 0) (by omega) (by omega) ?_
                                      refine nw_cast C (ci := 7) rfl (hg74.is C (ci := 7) rfl) q378 dX1_digest_253 256 rfl ?_
                                      refine nw_astore_n C [(2, .ref (ad (500 + j5))), (0, .ref x), (1, .ref it19)] dX1_digest_256 (by decide) rfl 257 rfl ?_
                                      refine nw_iconst C (nI 0) dX1_digest_257 (by decide) 258 rfl ?_
                                      refine nw_istore_n C [(3, .int (nI 0)), (2, .ref (ad (500 + j5))), (0, .ref x), (1, .ref it19)] dX1_digest_258 (by decide) rfl 259 rfl ?_
                                      have hdgo := hdg
                                      have lp75 : ∀ (fu : Nat) (H2 : Heap) (sm : Int64) (q5 : Nat), (nwWR d ro ad x σ sm H2) → (nwE d (nx_s X) H2) → (H.size ≤ H2.size) → (nwLm d (ad 5) (sg_in σ).1 (fun k => ad (500 + k)) (fun q => ro q = 2006) mo5 ar5 cap5 f5 H2) → (nwO d it19 14 [.int (nI (j5 + 1)), .int (nI j5), .int mo5, .ref (ad 5)] H2) → (q5 ≤ 9) → (sm = dg_L (fun q => sp_intrNow σ ((sg_in σ).2 j5) q) q5 (dg_F (fun i => dg_L (fun q => sp_intrNow σ ((sg_in σ).2 i) q) 9) j5 (sp_d5 σ))) → 9 - q5 < fu → nwV X (nwAC ro H) (nwQE X (fun v H1 => v = some (.long (sp_digest σ)) ∧ H.size ≤ H1.size ∧ nwWR d ro ad x σ (sp_digest σ) H1) nwNo (nwAC ro H) 650 28500) 4 H2 (14 + 108 * j5 + 12 * q5) (56 + 6912 * j5 + 768 * q5) 259 [(0, .ref x), (1, .ref it19), (2, .ref (ad (500 + j5))), (3, .int (nI q5))] [] := by
                                        intro fu
                                        induction fu with
                                        | zero => intro H2 sm q5 _ _ _ _ _ _ _ hm; exact absurd hm (Nat.not_lt_zero _)
                                        | succ fu ih_lp75 =>
                                          intro H2 sm q5 hR hE hsz hLm5 hitf0 hqq5 hdg hm
                                          replace hB := Nat.le_trans hB0 hsz
                                          have hW := hR.wc
                                          obtain ⟨hx, hcG, hcLa, hcFo, hcGu, hcPo, hcIn, hcWi, hcWo, hcKe⟩ := id hW
                                          have hg76 : nwIn d (ad (500 + j5)) (ad (600 + j5)) (fun q => ro q = 2601 + j5) ((sg_in σ).2 j5) H2 := hcIn.2 j5 (by omega)
                                          have hk77 : okI1 (sg_gr σ) ((sg_in σ).2 j5) := oki.2 j5 (by omega)
                                          have hg78 : nwO d (ad (500 + j5)) 7 [.int (nI (in_a ((sg_in σ).2 j5))), .ref (ad (600 + j5)), .int (nI (in_v ((sg_in σ).2 j5))), .int (nI (in_s ((sg_in σ).2 j5))), .int (oI (in_l ((sg_in σ).2 j5)))] H2 := hg76.1
                                          refine nw_iload_n C 3 dX1_digest_259 rfl 260 rfl ?_
                                          refine nw_bipush C (nI 8) dX1_digest_260 (by decide) 262 rfl ?_
                                          refine nw_icmpgtN C (by omega) 283 dX1_digest_262 (by decide) 265 rfl (fun h79 => ?_) (fun h79 => ?_)
                                          · have hdg2 := hdg
                                            refine nw_goto C 238 dX1_digest_283 (by decide) ?_
                                            exact nw_wide (k' := 14 + 108 * (j5 + 1)) (n' := 56 + 6912 * (j5 + 1)) (by omega) (by omega) (nw_sub [0, 1] rfl (ih_lp22 H2 sm (j5 + 1) (nI j5) hR hE hsz hLm5 hitf0 (by omega) (by rw [hdg2, show q5 = 9 by omega, dg_F_s]) (by omega)))
                                          · refine nw_aload_n C 0 dX1_digest_265 rfl 266 rfl ?_
                                            refine nw_aload_n C 0 dX1_digest_266 rfl 267 rfl ?_
                                            refine nw_aload_n C 2 dX1_digest_267 rfl 268 rfl ?_
                                            refine nw_iload_n C 3 dX1_digest_268 rfl 269 rfl ?_
                                            refine nw_callV C (mX1_ofIntruderNow _ C.hfl d ro ad x σ sm (ad (500 + j5)) (ad (600 + j5)) (fun q => ro q = 2601 + j5) ((sg_in σ).2 j5) q5 H2 hB hW ok hg76 hk77 (by omega)) kX1_ofIntruderNow q597 (hx.is C (ci := 0) rfl) (As := [.ref (ad (500 + j5)), .int (nI q5)]) (rest := [.ref x]) rfl rfl ⟨⟨Nat.le_of_ble_eq_true rfl, Nat.le_of_ble_eq_true rfl⟩, (show (14 + 108 * j5 + 12 * q5) + 12 ≤ 650 by omega), (show (56 + 6912 * j5 + 768 * q5) + 768 ≤ 28500 by omega)⟩ (Nat.le_of_ble_eq_true rfl) (fun _ h8 h9 => absurd h9 (Nat.not_le.mpr h8)) dX1_digest_269 272 rfl (fun v9 H80 hR81 hz82 hq83 => ?_) nw_noX
                                            obtain ⟨rfl, -⟩ := hR81
                                            have hR := hR.ext ⟨hz82, (fun q9 g9 => hq83 q9 g9 (Nat.not_le.mpr g9))⟩
                                            have hLm5 := hLm5.ext (fun q9 g9 => hq83 q9 g9 (Nat.not_le.mpr g9))
                                            have ho84 := hitf0.ext (fun q9 g9 => hq83 q9 g9 (Nat.not_le.mpr g9))
                                            have hE := hE.ext (fun q9 g9 => hq83 q9 g9 (Nat.not_le.mpr g9))
                                            replace hsz := Nat.le_trans hsz hz82
                                            replace hB := Nat.le_trans hB0 hsz
                                            have hW := hR.wc
                                            obtain ⟨hx, hcG, hcLa, hcFo, hcGu, hcPo, hcIn, hcWi, hcWo, hcKe⟩ := id hW
                                            have hg85 : nwIn d (ad (500 + j5)) (ad (600 + j5)) (fun q => ro q = 2601 + j5) ((sg_in σ).2 j5) H80 := hcIn.2 j5 (by omega)
                                            have hk86 : okI1 (sg_gr σ) ((sg_in σ).2 j5) := oki.2 j5 (by omega)
                                            have hg87 : nwO d (ad (500 + j5)) 7 [.int (nI (in_a ((sg_in σ).2 j5))), .ref (ad (600 + j5)), .int (nI (in_v ((sg_in σ).2 j5))), .int (nI (in_s ((sg_in σ).2 j5))), .int (oI (in_l ((sg_in σ).2 j5)))] H80 := hg85.1
                                            show nwV X _ _ 4 H80 ((14 + 108 * j5 + 12 * q5) + 12) ((56 + 6912 * j5 + 768 * q5) + 768) 272 [(0, .ref x), (1, .ref it19), (2, .ref (ad (500 + j5))), (3, .int (nI q5))] [.int (sp_intrNow σ ((sg_in σ).2 j5) q5), .ref x]
                                            refine nw_wide (k' := 14 + 108 * j5 + 12 * q5 + 12) (n' := 56 + 6912 * j5 + 768 * q5 + 768) (by omega) (by omega) ?_
                                            refine nw_i2l C dX1_digest_272 273 rfl ?_
                                            refine nw_callV C (mX1_add _ C.hfl d x (.ref (ad 0)) (.ref (ad 1)) (.ref (ad 2)) (.ref (ad 3)) (.ref (ad 4)) (.ref (ad 5)) (.ref (ad 6)) (.ref (ad 7)) (.ref (ad 8)) (.int (nI (ga_f (sg_ga σ)))) (.int (nI (ga_t (sg_ga σ)))) (.int (nI (sg_ri σ))) (.int (nI (sg_rf σ))) sm (Int32.toInt64 (sp_intrNow σ ((sg_in σ).2 j5) q5)) H80 hB (hR.ok0 (by rw [hrx0]; decide)).1 hx) kX1_add q529 (hx.is C (ci := 0) rfl) (As := [.long (Int32.toInt64 (sp_intrNow σ ((sg_in σ).2 j5) q5))]) (rest := []) rfl rfl ⟨⟨Nat.le_of_ble_eq_true rfl, Nat.le_of_ble_eq_true rfl⟩, (show (14 + 108 * j5 + 12 * q5 + 12) + 0 ≤ 650 by omega), (show (56 + 6912 * j5 + 768 * q5 + 768) + 0 ≤ 28500 by omega)⟩ (Nat.le_of_ble_eq_true rfl) (fun q8 h8 h9 => h9.elim (fun e9 => by rw [e9]; exact nwAC_r hrx0 (by decide +kernel)) (fun e9 => absurd h8 (Nat.not_lt.mpr e9))) dX1_digest_273 276 rfl (fun v9 H88 hR89 hz90 hq91 => ?_) nw_noX
                                            obtain ⟨rfl, ho92⟩ := hR89
                                            have hRn := tr_pX1 hR hz90 hq91 ho92
                                            obtain ⟨sm, hsm93⟩ : ∃ t9 : Int64, t9 = sm * 31 + Int32.toInt64 (sp_intrNow σ ((sg_in σ).2 j5) q5) := ⟨_, rfl⟩
                                            rw [← hsm93] at hRn ⊢
                                            have hLm5 := hLm5.kp (hq91 _ hLm5.lt' (fun e9 => e9.elim (fun e9 => by rw [e9, hrx0] at hrl5; omega) (Nat.not_le.mpr hLm5.lt'))) (fun q9 p9 g9 => hq91 q9 g9 (fun e9 => e9.elim (fun e9 => by have p8 : ro q9 = 2006 := p9; rw [e9, hrx0] at p8; omega) (Nat.not_le.mpr g9)))
                                            have ho94 := ho84.kept (hq91 _ ho84.lt (fun e9 => e9.elim hnx5 (Nat.not_le.mpr ho84.lt)))
                                            have hE := hE.kept (fun q9 g9 hb9 => hq91 q9 g9 (fun e9 => hb9 (e9.elim (fun e9 => by rw [e9]; exact (hR.ok0 (by rw [hrx0]; decide)).1) (fun e9 => Nat.le_trans hB e9))))
                                            have hR := hRn
                                            replace hsz := Nat.le_trans hsz hz90
                                            replace hB := Nat.le_trans hB0 hsz
                                            have hW := hR.wc
                                            obtain ⟨hx, hcG, hcLa, hcFo, hcGu, hcPo, hcIn, hcWi, hcWo, hcKe⟩ := id hW
                                            have hg95 : nwIn d (ad (500 + j5)) (ad (600 + j5)) (fun q => ro q = 2601 + j5) ((sg_in σ).2 j5) H88 := hcIn.2 j5 (by omega)
                                            have hk96 : okI1 (sg_gr σ) ((sg_in σ).2 j5) := oki.2 j5 (by omega)
                                            have hg97 : nwO d (ad (500 + j5)) 7 [.int (nI (in_a ((sg_in σ).2 j5))), .ref (ad (600 + j5)), .int (nI (in_v ((sg_in σ).2 j5))), .int (nI (in_s ((sg_in σ).2 j5))), .int (oI (in_l ((sg_in σ).2 j5)))] H88 := hg95.1
                                            show nwV X _ _ 4 H88 ((14 + 108 * j5 + 12 * q5 + 12) + 0) ((56 + 6912 * j5 + 768 * q5 + 768) + 0) 276 [(0, .ref x), (1, .ref it19), (2, .ref (ad (500 + j5))), (3, .int (nI q5))] [.long sm]
                                            refine nw_wide (k' := 14 + 108 * j5 + 12 * q5 + 12) (n' := 56 + 6912 * j5 + 768 * q5 + 768) (by omega) (by omega) ?_
                                            refine nw_pop2l C dX1_digest_276 rfl 277 rfl ?_
                                            refine nw_iincN C 3 (c0 := 1) [(3, .int (nI (q5 + 1))), (0, .ref x), (1, .ref it19), (2, .ref (ad (500 + j5)))] dX1_digest_277 rfl (by decide) rfl 280 rfl ?_
                                            refine nw_goto C 259 dX1_digest_280 (by decide) ?_
                                            exact nw_wide (k' := 14 + 108 * j5 + 12 * (q5 + 1)) (n' := 56 + 6912 * j5 + 768 * (q5 + 1)) (by omega) (by omega) (nw_sub [1, 2, 3, 0] rfl (ih_lp75 H88 sm (q5 + 1) hR hE hsz hLm5 ho94 (by omega) (by rw [hsm93, hdg, dg_L_s]) (by omega)))
                                      exact nw_wide (k' := 14 + 108 * j5 + 12 * 0) (n' := 56 + 6912 * j5 + 768 * 0) (by omega) (by omega) (nw_sub [2, 3, 1, 0] rfl (lp75 _ H67 sm 0 hR hE hsz hLm5 ho71 (Nat.zero_le _) (hdgo.trans (dg_L_0 _ _).symm) (Nat.lt_succ_self _)))
                                exact nw_wide (k' := 14 + 108 * 0) (n' := 56 + 6912 * 0) (by omega) (by omega) (nw_sub [1, 0] rfl (lp22 _ H15 sm 0 (oI none) hR hE hsz hLm5 hi21 (Nat.zero_le _) (hd5.trans (dg_F_0 _ _).symm) (Nat.lt_succ_self _)))
                              · have hpo9 := okp.2 p (by omega)
                                refine nw_aload_n C 0 dX1_digest_174 rfl 175 rfl ?_
                                refine nw_aload_n C 0 dX1_digest_175 rfl 176 rfl ?_
                                refine nw_aload_n C 0 dX1_digest_176 rfl 177 rfl ?_
                                refine nw_get C hx (T := TX1) rfl in_X1 4 (by decide) q225 (Or.inl rfl) rfl dX1_digest_177 180 rfl ?_
                                refine nw_iload_n C 1 dX1_digest_180 rfl 181 rfl ?_
                                refine nw_callV C (mJ3_get _ C.hfl d (ad 4) ((sg_po σ).1) (fun k => nd_bx d ((sg_po σ).2 k)) (fun q => ro q = 2005) p H2 hB hcPo (by omega)) kJ3_get q350 (hcPo.is C) (As := [.int (nI p)]) (rest := [.ref x, .ref x]) rfl rfl ⟨⟨Nat.le_of_ble_eq_true rfl, Nat.le_of_ble_eq_true rfl⟩, Nat.le_of_ble_eq_true rfl, Nat.le_of_ble_eq_true rfl⟩ (Nat.le_of_ble_eq_true rfl) (fun _ h8 h9 => absurd h9 (Nat.not_le.mpr h8)) dX1_digest_181 184 rfl (nw_rdK ?_) nw_noX
                                have hb98 : (sg_po σ).2 p < 128 := (by have := okp.2 p (by omega); omega)
                                refine nw_cast C (ci := 16) rfl (hE.boxIs hb98) q364 dX1_digest_184 187 rfl ?_
                                refine nw_callV C (mJ19_intValue _ C.hfl d ((sg_po σ).2 p) H2 hB (by omega)) kJ19_intValue q365 (hE.boxIs (by omega)) (As := []) (rest := [.ref x, .ref x]) rfl rfl ⟨⟨Nat.le_of_ble_eq_true rfl, Nat.le_of_ble_eq_true rfl⟩, Nat.le_of_ble_eq_true rfl, Nat.le_of_ble_eq_true rfl⟩ (Nat.le_of_ble_eq_true rfl) (fun _ h8 h9 => absurd h9 (Nat.not_le.mpr h8)) dX1_digest_187 190 rfl (nw_rdK ?_) nw_noX
                                refine nw_iconst C (nI 1) dX1_digest_190 (by decide) 191 rfl ?_
                                refine nw_callV C (mX1_emptyNow _ C.hfl d ro ad x σ sm ((sg_po σ).2 p) true H2 hB hW ok (by omega)) kX1_emptyNow q593 (hx.is C (ci := 0) rfl) (As := [.int (nI ((sg_po σ).2 p)), .int (b2i true)]) (rest := [.ref x]) rfl rfl ⟨⟨Nat.le_of_ble_eq_true rfl, Nat.le_of_ble_eq_true rfl⟩, Nat.le_of_ble_eq_true rfl, Nat.le_of_ble_eq_true rfl⟩ (Nat.le_of_ble_eq_true rfl) (fun _ h8 h9 => absurd h9 (Nat.not_le.mpr h8)) dX1_digest_191 194 rfl (nw_rdK ?_) nw_noX
                                refine nw_i2l C dX1_digest_194 195 rfl ?_
                                refine nw_callV C (mX1_add _ C.hfl d x (.ref (ad 0)) (.ref (ad 1)) (.ref (ad 2)) (.ref (ad 3)) (.ref (ad 4)) (.ref (ad 5)) (.ref (ad 6)) (.ref (ad 7)) (.ref (ad 8)) (.int (nI (ga_f (sg_ga σ)))) (.int (nI (ga_t (sg_ga σ)))) (.int (nI (sg_ri σ))) (.int (nI (sg_rf σ))) sm (Int32.toInt64 (sp_emptyNow (sg_gu σ) ((sg_po σ).2 p) true)) H2 hB (hR.ok0 (by rw [hrx0]; decide)).1 hx) kX1_add q529 (hx.is C (ci := 0) rfl) (As := [.long (Int32.toInt64 (sp_emptyNow (sg_gu σ) ((sg_po σ).2 p) true))]) (rest := []) rfl rfl ⟨⟨Nat.le_of_ble_eq_true rfl, Nat.le_of_ble_eq_true rfl⟩, (show 13 + 0 ≤ 650 by omega), (show 52 + 0 ≤ 28500 by omega)⟩ (Nat.le_of_ble_eq_true rfl) (fun q8 h8 h9 => h9.elim (fun e9 => by rw [e9]; exact nwAC_r hrx0 (by decide +kernel)) (fun e9 => absurd h8 (Nat.not_lt.mpr e9))) dX1_digest_195 198 rfl (fun v9 H99 hR100 hz101 hq102 => ?_) nw_noX
                                obtain ⟨rfl, ho103⟩ := hR100
                                have hRn := tr_pX1 hR hz101 hq102 ho103
                                obtain ⟨sm, hsm104⟩ : ∃ t9 : Int64, t9 = sm * 31 + Int32.toInt64 (sp_emptyNow (sg_gu σ) ((sg_po σ).2 p) true) := ⟨_, rfl⟩
                                rw [← hsm104] at hRn ⊢
                                have hE := hE.kept (fun q9 g9 hb9 => hq102 q9 g9 (fun e9 => hb9 (e9.elim (fun e9 => by rw [e9]; exact (hR.ok0 (by rw [hrx0]; decide)).1) (fun e9 => Nat.le_trans hB e9))))
                                have hR := hRn
                                replace hsz := Nat.le_trans hsz hz101
                                replace hB := Nat.le_trans hB0 hsz
                                have hW := hR.wc
                                obtain ⟨hx, hcG, hcLa, hcFo, hcGu, hcPo, hcIn, hcWi, hcWo, hcKe⟩ := id hW
                                show nwV X _ _ 4 H99 (13 + 0) (52 + 0) 198 [(0, .ref x), (1, .int (nI p))] [.long sm]
                                refine nw_wide (k' := 13) (n' := 52) (by omega) (by omega) ?_
                                refine nw_pop2l C dX1_digest_198 rfl 199 rfl ?_
                                refine nw_aload_n C 0 dX1_digest_199 rfl 200 rfl ?_
                                refine nw_aload_n C 0 dX1_digest_200 rfl 201 rfl ?_
                                refine nw_aload_n C 0 dX1_digest_201 rfl 202 rfl ?_
                                refine nw_get C hx (T := TX1) rfl in_X1 4 (by decide) q225 (Or.inl rfl) rfl dX1_digest_202 205 rfl ?_
                                refine nw_iload_n C 1 dX1_digest_205 rfl 206 rfl ?_
                                refine nw_callV C (mJ3_get _ C.hfl d (ad 4) ((sg_po σ).1) (fun k => nd_bx d ((sg_po σ).2 k)) (fun q => ro q = 2005) p H99 hB hcPo (by omega)) kJ3_get q350 (hcPo.is C) (As := [.int (nI p)]) (rest := [.ref x, .ref x]) rfl rfl ⟨⟨Nat.le_of_ble_eq_true rfl, Nat.le_of_ble_eq_true rfl⟩, Nat.le_of_ble_eq_true rfl, Nat.le_of_ble_eq_true rfl⟩ (Nat.le_of_ble_eq_true rfl) (fun _ h8 h9 => absurd h9 (Nat.not_le.mpr h8)) dX1_digest_206 209 rfl (nw_rdK ?_) nw_noX
                                have hb105 : (sg_po σ).2 p < 128 := (by have := okp.2 p (by omega); omega)
                                refine nw_cast C (ci := 16) rfl (hE.boxIs hb105) q364 dX1_digest_209 212 rfl ?_
                                refine nw_callV C (mJ19_intValue _ C.hfl d ((sg_po σ).2 p) H99 hB (by omega)) kJ19_intValue q365 (hE.boxIs (by omega)) (As := []) (rest := [.ref x, .ref x]) rfl rfl ⟨⟨Nat.le_of_ble_eq_true rfl, Nat.le_of_ble_eq_true rfl⟩, Nat.le_of_ble_eq_true rfl, Nat.le_of_ble_eq_true rfl⟩ (Nat.le_of_ble_eq_true rfl) (fun _ h8 h9 => absurd h9 (Nat.not_le.mpr h8)) dX1_digest_212 215 rfl (nw_rdK ?_) nw_noX
                                refine nw_iconst C (nI 0) dX1_digest_215 (by decide) 216 rfl ?_
                                refine nw_callV C (mX1_emptyNow _ C.hfl d ro ad x σ sm ((sg_po σ).2 p) false H99 hB hW ok (by omega)) kX1_emptyNow q593 (hx.is C (ci := 0) rfl) (As := [.int (nI ((sg_po σ).2 p)), .int (b2i false)]) (rest := [.ref x]) rfl rfl ⟨⟨Nat.le_of_ble_eq_true rfl, Nat.le_of_ble_eq_true rfl⟩, Nat.le_of_ble_eq_true rfl, Nat.le_of_ble_eq_true rfl⟩ (Nat.le_of_ble_eq_true rfl) (fun _ h8 h9 => absurd h9 (Nat.not_le.mpr h8)) dX1_digest_216 219 rfl (nw_rdK ?_) nw_noX
                                refine nw_i2l C dX1_digest_219 220 rfl ?_
                                refine nw_callV C (mX1_add _ C.hfl d x (.ref (ad 0)) (.ref (ad 1)) (.ref (ad 2)) (.ref (ad 3)) (.ref (ad 4)) (.ref (ad 5)) (.ref (ad 6)) (.ref (ad 7)) (.ref (ad 8)) (.int (nI (ga_f (sg_ga σ)))) (.int (nI (ga_t (sg_ga σ)))) (.int (nI (sg_ri σ))) (.int (nI (sg_rf σ))) sm (Int32.toInt64 (sp_emptyNow (sg_gu σ) ((sg_po σ).2 p) false)) H99 hB (hR.ok0 (by rw [hrx0]; decide)).1 hx) kX1_add q529 (hx.is C (ci := 0) rfl) (As := [.long (Int32.toInt64 (sp_emptyNow (sg_gu σ) ((sg_po σ).2 p) false))]) (rest := []) rfl rfl ⟨⟨Nat.le_of_ble_eq_true rfl, Nat.le_of_ble_eq_true rfl⟩, (show 13 + 0 ≤ 650 by omega), (show 52 + 0 ≤ 28500 by omega)⟩ (Nat.le_of_ble_eq_true rfl) (fun q8 h8 h9 => h9.elim (fun e9 => by rw [e9]; exact nwAC_r hrx0 (by decide +kernel)) (fun e9 => absurd h8 (Nat.not_lt.mpr e9))) dX1_digest_220 223 rfl (fun v9 H106 hR107 hz108 hq109 => ?_) nw_noX
                                obtain ⟨rfl, ho110⟩ := hR107
                                have hRn := tr_pX1 hR hz108 hq109 ho110
                                obtain ⟨sm, hsm111⟩ : ∃ t9 : Int64, t9 = sm * 31 + Int32.toInt64 (sp_emptyNow (sg_gu σ) ((sg_po σ).2 p) false) := ⟨_, rfl⟩
                                rw [← hsm111] at hRn ⊢
                                have hE := hE.kept (fun q9 g9 hb9 => hq109 q9 g9 (fun e9 => hb9 (e9.elim (fun e9 => by rw [e9]; exact (hR.ok0 (by rw [hrx0]; decide)).1) (fun e9 => Nat.le_trans hB e9))))
                                have hR := hRn
                                replace hsz := Nat.le_trans hsz hz108
                                replace hB := Nat.le_trans hB0 hsz
                                have hW := hR.wc
                                obtain ⟨hx, hcG, hcLa, hcFo, hcGu, hcPo, hcIn, hcWi, hcWo, hcKe⟩ := id hW
                                show nwV X _ _ 4 H106 (13 + 0) (52 + 0) 223 [(0, .ref x), (1, .int (nI p))] [.long sm]
                                refine nw_wide (k' := 13) (n' := 52) (by omega) (by omega) ?_
                                refine nw_pop2l C dX1_digest_223 rfl 224 rfl ?_
                                refine nw_iincN C 1 (c0 := 1) [(1, .int (nI (p + 1))), (0, .ref x)] dX1_digest_224 rfl (by decide) rfl 227 rfl ?_
                                refine nw_goto C 163 dX1_digest_227 (by decide) ?_
                                exact nw_wide (k' := 13) (n' := 52) (by omega) (by omega) (nw_sub [1, 0] rfl (ih_lp13 H106 sm (p + 1) hR hE hsz (by omega) (by rw [hsm111, hsm104, hdg, dg_F_s]; rfl) (by omega)))
                          exact nw_wide (k' := 13) (n' := 52) (by omega) (by omega) (nw_sub [1, 0] rfl (lp13 _ H2 sm 0 hR hE hsz (Nat.zero_le _) (hd4.trans (dg_F_0 _ _).symm) (Nat.lt_succ_self _)))
                        · refine nw_iconst C (nI 0) dX1_digest_129 (by decide) 130 rfl ?_
                          refine nw_istore_n C [(2, .int (nI 0)), (0, .ref x), (1, .int (nI g))] dX1_digest_130 (by decide) rfl 131 rfl ?_
                          have hdgo := hdg
                          have lp112 : ∀ (fu : Nat) (H2 : Heap) (sm : Int64) (q4 : Nat), (nwWR d ro ad x σ sm H2) → (nwE d (nx_s X) H2) → (H.size ≤ H2.size) → (q4 ≤ 9) → (sm = dg_L (fun q => sp_guardNow σ g q) q4 (dg_F (fun g => dg_L (fun q => sp_guardNow σ g q) 9) g (sp_d3 σ))) → 9 - q4 < fu → nwV X (nwAC ro H) (nwQE X (fun v H1 => v = some (.long (sp_digest σ)) ∧ H.size ≤ H1.size ∧ nwWR d ro ad x σ (sp_digest σ) H1) nwNo (nwAC ro H) 650 28500) 4 H2 13 52 131 [(0, .ref x), (1, .int (nI g)), (2, .int (nI q4))] [] := by
                            intro fu
                            induction fu with
                            | zero => intro H2 sm q4 _ _ _ _ _ hm; exact absurd hm (Nat.not_lt_zero _)
                            | succ fu ih_lp112 =>
                              intro H2 sm q4 hR hE hsz hqq4 hdg hm
                              replace hB := Nat.le_trans hB0 hsz
                              have hW := hR.wc
                              obtain ⟨hx, hcG, hcLa, hcFo, hcGu, hcPo, hcIn, hcWi, hcWo, hcKe⟩ := id hW
                              refine nw_iload_n C 2 dX1_digest_131 rfl 132 rfl ?_
                              refine nw_bipush C (nI 8) dX1_digest_132 (by decide) 134 rfl ?_
                              refine nw_icmpgtN C (by omega) 155 dX1_digest_134 (by decide) 137 rfl (fun h113 => ?_) (fun h113 => ?_)
                              · have hdg2 := hdg
                                refine nw_iincN C 1 (c0 := 1) [(1, .int (nI (g + 1))), (0, .ref x), (2, .int (nI q4))] dX1_digest_155 rfl (by decide) rfl 158 rfl ?_
                                refine nw_goto C 118 dX1_digest_158 (by decide) ?_
                                exact nw_wide (k' := 13) (n' := 52) (by omega) (by omega) (nw_sub [1, 0] rfl (ih_lp11 H2 sm (g + 1) hR hE hsz (by omega) (by rw [hdg2, show q4 = 9 by omega, dg_F_s]) (by omega)))
                              · refine nw_aload_n C 0 dX1_digest_137 rfl 138 rfl ?_
                                refine nw_aload_n C 0 dX1_digest_138 rfl 139 rfl ?_
                                refine nw_iload_n C 1 dX1_digest_139 rfl 140 rfl ?_
                                refine nw_iload_n C 2 dX1_digest_140 rfl 141 rfl ?_
                                refine nw_callV C (mX1_ofGuardNow _ C.hfl d ro ad x σ sm g q4 H2 hB hW ok (by omega) (by omega)) kX1_ofGuardNow q580 (hx.is C (ci := 0) rfl) (As := [.int (nI g), .int (nI q4)]) (rest := [.ref x]) rfl rfl ⟨⟨Nat.le_of_ble_eq_true rfl, Nat.le_of_ble_eq_true rfl⟩, Nat.le_of_ble_eq_true rfl, Nat.le_of_ble_eq_true rfl⟩ (Nat.le_of_ble_eq_true rfl) (fun _ h8 h9 => absurd h9 (Nat.not_le.mpr h8)) dX1_digest_141 144 rfl (nw_rdK ?_) nw_noX
                                refine nw_i2l C dX1_digest_144 145 rfl ?_
                                refine nw_callV C (mX1_add _ C.hfl d x (.ref (ad 0)) (.ref (ad 1)) (.ref (ad 2)) (.ref (ad 3)) (.ref (ad 4)) (.ref (ad 5)) (.ref (ad 6)) (.ref (ad 7)) (.ref (ad 8)) (.int (nI (ga_f (sg_ga σ)))) (.int (nI (ga_t (sg_ga σ)))) (.int (nI (sg_ri σ))) (.int (nI (sg_rf σ))) sm (Int32.toInt64 (sp_guardNow σ g q4)) H2 hB (hR.ok0 (by rw [hrx0]; decide)).1 hx) kX1_add q529 (hx.is C (ci := 0) rfl) (As := [.long (Int32.toInt64 (sp_guardNow σ g q4))]) (rest := []) rfl rfl ⟨⟨Nat.le_of_ble_eq_true rfl, Nat.le_of_ble_eq_true rfl⟩, (show 13 + 0 ≤ 650 by omega), (show 52 + 0 ≤ 28500 by omega)⟩ (Nat.le_of_ble_eq_true rfl) (fun q8 h8 h9 => h9.elim (fun e9 => by rw [e9]; exact nwAC_r hrx0 (by decide +kernel)) (fun e9 => absurd h8 (Nat.not_lt.mpr e9))) dX1_digest_145 148 rfl (fun v9 H114 hR115 hz116 hq117 => ?_) nw_noX
                                obtain ⟨rfl, ho118⟩ := hR115
                                have hRn := tr_pX1 hR hz116 hq117 ho118
                                obtain ⟨sm, hsm119⟩ : ∃ t9 : Int64, t9 = sm * 31 + Int32.toInt64 (sp_guardNow σ g q4) := ⟨_, rfl⟩
                                rw [← hsm119] at hRn ⊢
                                have hE := hE.kept (fun q9 g9 hb9 => hq117 q9 g9 (fun e9 => hb9 (e9.elim (fun e9 => by rw [e9]; exact (hR.ok0 (by rw [hrx0]; decide)).1) (fun e9 => Nat.le_trans hB e9))))
                                have hR := hRn
                                replace hsz := Nat.le_trans hsz hz116
                                replace hB := Nat.le_trans hB0 hsz
                                have hW := hR.wc
                                obtain ⟨hx, hcG, hcLa, hcFo, hcGu, hcPo, hcIn, hcWi, hcWo, hcKe⟩ := id hW
                                show nwV X _ _ 4 H114 (13 + 0) (52 + 0) 148 [(0, .ref x), (1, .int (nI g)), (2, .int (nI q4))] [.long sm]
                                refine nw_wide (k' := 13) (n' := 52) (by omega) (by omega) ?_
                                refine nw_pop2l C dX1_digest_148 rfl 149 rfl ?_
                                refine nw_iincN C 2 (c0 := 1) [(2, .int (nI (q4 + 1))), (0, .ref x), (1, .int (nI g))] dX1_digest_149 rfl (by decide) rfl 152 rfl ?_
                                refine nw_goto C 131 dX1_digest_152 (by decide) ?_
                                exact nw_wide (k' := 13) (n' := 52) (by omega) (by omega) (nw_sub [1, 2, 0] rfl (ih_lp112 H114 sm (q4 + 1) hR hE hsz (by omega) (by rw [hsm119, hdg, dg_L_s]) (by omega)))
                          exact nw_wide (k' := 13) (n' := 52) (by omega) (by omega) (nw_sub [1, 2, 0] rfl (lp112 _ H2 sm 0 hR hE hsz (Nat.zero_le _) (hdgo.trans (dg_L_0 _ _).symm) (Nat.lt_succ_self _)))
                    exact nw_wide (k' := 13) (n' := 52) (by omega) (by omega) (nw_sub [1, 0] rfl (lp11 _ H2 sm 0 hR hE hsz (Nat.zero_le _) (hd3.trans (dg_F_0 _ _).symm) (Nat.lt_succ_self _)))
                  · refine nw_iconst C (nI 0) dX1_digest_83 (by decide) 84 rfl ?_
                    refine nw_istore_n C [(2, .int (nI 0)), (0, .ref x), (1, .int (nI c))] dX1_digest_84 (by decide) rfl 85 rfl ?_
                    have hdgo := hdg
                    have lp120 : ∀ (fu : Nat) (H2 : Heap) (sm : Int64) (q3 : Nat), (nwWR d ro ad x σ sm H2) → (nwE d (nx_s X) H2) → (H.size ≤ H2.size) → (q3 ≤ 5) → (sm = dg_L (fun q => sp_cellNow σ c 120 q) q3 (dg_F (fun c => dg_L (fun q => sp_cellNow σ c 120 q) 5) c (sp_d2 σ))) → 5 - q3 < fu → nwV X (nwAC ro H) (nwQE X (fun v H1 => v = some (.long (sp_digest σ)) ∧ H.size ≤ H1.size ∧ nwWR d ro ad x σ (sp_digest σ) H1) nwNo (nwAC ro H) 650 28500) 4 H2 13 52 85 [(0, .ref x), (1, .int (nI c)), (2, .int (nI q3))] [] := by
                      intro fu
                      induction fu with
                      | zero => intro H2 sm q3 _ _ _ _ _ hm; exact absurd hm (Nat.not_lt_zero _)
                      | succ fu ih_lp120 =>
                        intro H2 sm q3 hR hE hsz hqq3 hdg hm
                        replace hB := Nat.le_trans hB0 hsz
                        have hW := hR.wc
                        obtain ⟨hx, hcG, hcLa, hcFo, hcGu, hcPo, hcIn, hcWi, hcWo, hcKe⟩ := id hW
                        refine nw_iload_n C 2 dX1_digest_85 rfl 86 rfl ?_
                        refine nw_iconst C (nI 4) dX1_digest_86 (by decide) 87 rfl ?_
                        refine nw_icmpgtN C (by omega) 110 dX1_digest_87 (by decide) 90 rfl (fun h121 => ?_) (fun h121 => ?_)
                        · have hdg2 := hdg
                          refine nw_iincN C 1 (c0 := 1) [(1, .int (nI (c + 1))), (0, .ref x), (2, .int (nI q3))] dX1_digest_110 rfl (by decide) rfl 113 rfl ?_
                          refine nw_goto C 75 dX1_digest_113 (by decide) ?_
                          exact nw_wide (k' := 13) (n' := 52) (by omega) (by omega) (nw_sub [1, 0] rfl (ih_lp9 H2 sm (c + 1) hR hE hsz (by omega) (by rw [hdg2, show q3 = 5 by omega, dg_F_s]) (by omega)))
                        · refine nw_aload_n C 0 dX1_digest_90 rfl 91 rfl ?_
                          refine nw_aload_n C 0 dX1_digest_91 rfl 92 rfl ?_
                          refine nw_iload_n C 1 dX1_digest_92 rfl 93 rfl ?_
                          refine nw_bipush C (nI 120) dX1_digest_93 (by decide) 95 rfl ?_
                          refine nw_iload_n C 2 dX1_digest_95 rfl 96 rfl ?_
                          refine nw_callV C (mX1_ofCellNow _ C.hfl d ro ad x σ sm c 120 q3 H2 hB hW ok (by omega) (by omega) (by omega)) kX1_ofCellNow q555 (hx.is C (ci := 0) rfl) (As := [.int (nI c), .int (nI 120), .int (nI q3)]) (rest := [.ref x]) rfl rfl ⟨⟨Nat.le_of_ble_eq_true rfl, Nat.le_of_ble_eq_true rfl⟩, Nat.le_of_ble_eq_true rfl, Nat.le_of_ble_eq_true rfl⟩ (Nat.le_of_ble_eq_true rfl) (fun _ h8 h9 => absurd h9 (Nat.not_le.mpr h8)) dX1_digest_96 99 rfl (nw_rdK ?_) nw_noX
                          refine nw_i2l C dX1_digest_99 100 rfl ?_
                          refine nw_callV C (mX1_add _ C.hfl d x (.ref (ad 0)) (.ref (ad 1)) (.ref (ad 2)) (.ref (ad 3)) (.ref (ad 4)) (.ref (ad 5)) (.ref (ad 6)) (.ref (ad 7)) (.ref (ad 8)) (.int (nI (ga_f (sg_ga σ)))) (.int (nI (ga_t (sg_ga σ)))) (.int (nI (sg_ri σ))) (.int (nI (sg_rf σ))) sm (Int32.toInt64 (sp_cellNow σ c 120 q3)) H2 hB (hR.ok0 (by rw [hrx0]; decide)).1 hx) kX1_add q529 (hx.is C (ci := 0) rfl) (As := [.long (Int32.toInt64 (sp_cellNow σ c 120 q3))]) (rest := []) rfl rfl ⟨⟨Nat.le_of_ble_eq_true rfl, Nat.le_of_ble_eq_true rfl⟩, (show 13 + 0 ≤ 650 by omega), (show 52 + 0 ≤ 28500 by omega)⟩ (Nat.le_of_ble_eq_true rfl) (fun q8 h8 h9 => h9.elim (fun e9 => by rw [e9]; exact nwAC_r hrx0 (by decide +kernel)) (fun e9 => absurd h8 (Nat.not_lt.mpr e9))) dX1_digest_100 103 rfl (fun v9 H122 hR123 hz124 hq125 => ?_) nw_noX
                          obtain ⟨rfl, ho126⟩ := hR123
                          have hRn := tr_pX1 hR hz124 hq125 ho126
                          obtain ⟨sm, hsm127⟩ : ∃ t9 : Int64, t9 = sm * 31 + Int32.toInt64 (sp_cellNow σ c 120 q3) := ⟨_, rfl⟩
                          rw [← hsm127] at hRn ⊢
                          have hE := hE.kept (fun q9 g9 hb9 => hq125 q9 g9 (fun e9 => hb9 (e9.elim (fun e9 => by rw [e9]; exact (hR.ok0 (by rw [hrx0]; decide)).1) (fun e9 => Nat.le_trans hB e9))))
                          have hR := hRn
                          replace hsz := Nat.le_trans hsz hz124
                          replace hB := Nat.le_trans hB0 hsz
                          have hW := hR.wc
                          obtain ⟨hx, hcG, hcLa, hcFo, hcGu, hcPo, hcIn, hcWi, hcWo, hcKe⟩ := id hW
                          show nwV X _ _ 4 H122 (13 + 0) (52 + 0) 103 [(0, .ref x), (1, .int (nI c)), (2, .int (nI q3))] [.long sm]
                          refine nw_wide (k' := 13) (n' := 52) (by omega) (by omega) ?_
                          refine nw_pop2l C dX1_digest_103 rfl 104 rfl ?_
                          refine nw_iincN C 2 (c0 := 1) [(2, .int (nI (q3 + 1))), (0, .ref x), (1, .int (nI c))] dX1_digest_104 rfl (by decide) rfl 107 rfl ?_
                          refine nw_goto C 85 dX1_digest_107 (by decide) ?_
                          exact nw_wide (k' := 13) (n' := 52) (by omega) (by omega) (nw_sub [1, 2, 0] rfl (ih_lp120 H122 sm (q3 + 1) hR hE hsz (by omega) (by rw [hsm127, hdg, dg_L_s]) (by omega)))
                    exact nw_wide (k' := 13) (n' := 52) (by omega) (by omega) (nw_sub [1, 2, 0] rfl (lp120 _ H2 sm 0 hR hE hsz (Nat.zero_le _) (hdgo.trans (dg_L_0 _ _).symm) (Nat.lt_succ_self _)))
              exact nw_wide (k' := 13) (n' := 52) (by omega) (by omega) (nw_sub [1, 0] rfl (lp9 _ H2 sm 0 hR hE hsz (Nat.zero_le _) (hd2.trans (dg_F_0 _ _).symm) (Nat.lt_succ_self _)))
            · refine nw_iconst C (nI 0) dX1_digest_41 (by decide) 42 rfl ?_
              refine nw_istore_n C [(2, .int (nI 0)), (0, .ref x), (1, .int (nI t))] dX1_digest_42 (by decide) rfl 43 rfl ?_
              have hdgo := hdg
              have lp128 : ∀ (fu : Nat) (H2 : Heap) (sm : Int64) (q2 : Nat), (nwWR d ro ad x σ sm H2) → (nwE d (nx_s X) H2) → (H.size ≤ H2.size) → (q2 ≤ 7) → (sm = dg_L (fun q => nI (sp_minuteNow σ (60 * m) q)) q2 (dg_F (fun m => dg_L (fun q => nI (sp_minuteNow σ (60 * m) q)) 7) m (sp_d1 σ))) → 7 - q2 < fu → nwV X (nwAC ro H) (nwQE X (fun v H1 => v = some (.long (sp_digest σ)) ∧ H.size ≤ H1.size ∧ nwWR d ro ad x σ (sp_digest σ) H1) nwNo (nwAC ro H) 650 28500) 4 H2 13 52 43 [(0, .ref x), (1, .int (nI t)), (2, .int (nI q2))] [] := by
                intro fu
                induction fu with
                | zero => intro H2 sm q2 _ _ _ _ _ hm; exact absurd hm (Nat.not_lt_zero _)
                | succ fu ih_lp128 =>
                  intro H2 sm q2 hR hE hsz hqq2 hdg hm
                  replace hB := Nat.le_trans hB0 hsz
                  have hW := hR.wc
                  obtain ⟨hx, hcG, hcLa, hcFo, hcGu, hcPo, hcIn, hcWi, hcWo, hcKe⟩ := id hW
                  refine nw_iload_n C 2 dX1_digest_43 rfl 44 rfl ?_
                  refine nw_bipush C (nI 6) dX1_digest_44 (by decide) 46 rfl ?_
                  refine nw_icmpgtN C (by omega) 67 dX1_digest_46 (by decide) 49 rfl (fun h129 => ?_) (fun h129 => ?_)
                  · have hdg2 := hdg
                    refine nw_iincN C 1 (c0 := 60) [(1, .int (nI (t + 60))), (0, .ref x), (2, .int (nI q2))] dX1_digest_67 rfl (by decide) rfl 70 rfl ?_
                    refine nw_goto C 34 dX1_digest_70 (by decide) ?_
                    exact nw_wide (k' := 13) (n' := 52) (by omega) (by omega) (nw_sub [1, 0] rfl (ih_lp7 H2 sm (m + 1) (t + 60) hR hE hsz (by omega) (by omega) (by rw [hdg2, show q2 = 7 by omega, dg_F_s]) (by omega)))
                  · refine nw_aload_n C 0 dX1_digest_49 rfl 50 rfl ?_
                    refine nw_aload_n C 0 dX1_digest_50 rfl 51 rfl ?_
                    refine nw_iload_n C 1 dX1_digest_51 rfl 52 rfl ?_
                    refine nw_iload_n C 2 dX1_digest_52 rfl 53 rfl ?_
                    refine nw_callV C (mX1_ofMinuteNow _ C.hfl d ro ad x σ sm t q2 H2 hB hW ok (by omega) (by omega)) kX1_ofMinuteNow q534 (hx.is C (ci := 0) rfl) (As := [.int (nI t), .int (nI q2)]) (rest := [.ref x]) rfl rfl ⟨⟨Nat.le_of_ble_eq_true rfl, Nat.le_of_ble_eq_true rfl⟩, Nat.le_of_ble_eq_true rfl, Nat.le_of_ble_eq_true rfl⟩ (Nat.le_of_ble_eq_true rfl) (fun _ h8 h9 => absurd h9 (Nat.not_le.mpr h8)) dX1_digest_53 56 rfl (nw_rdK ?_) nw_noX
                    refine nw_i2l C dX1_digest_56 57 rfl ?_
                    refine nw_callV C (mX1_add _ C.hfl d x (.ref (ad 0)) (.ref (ad 1)) (.ref (ad 2)) (.ref (ad 3)) (.ref (ad 4)) (.ref (ad 5)) (.ref (ad 6)) (.ref (ad 7)) (.ref (ad 8)) (.int (nI (ga_f (sg_ga σ)))) (.int (nI (ga_t (sg_ga σ)))) (.int (nI (sg_ri σ))) (.int (nI (sg_rf σ))) sm (Int32.toInt64 (nI (sp_minuteNow σ t q2))) H2 hB (hR.ok0 (by rw [hrx0]; decide)).1 hx) kX1_add q529 (hx.is C (ci := 0) rfl) (As := [.long (Int32.toInt64 (nI (sp_minuteNow σ t q2)))]) (rest := []) rfl rfl ⟨⟨Nat.le_of_ble_eq_true rfl, Nat.le_of_ble_eq_true rfl⟩, (show 13 + 0 ≤ 650 by omega), (show 52 + 0 ≤ 28500 by omega)⟩ (Nat.le_of_ble_eq_true rfl) (fun q8 h8 h9 => h9.elim (fun e9 => by rw [e9]; exact nwAC_r hrx0 (by decide +kernel)) (fun e9 => absurd h8 (Nat.not_lt.mpr e9))) dX1_digest_57 60 rfl (fun v9 H130 hR131 hz132 hq133 => ?_) nw_noX
                    obtain ⟨rfl, ho134⟩ := hR131
                    have hRn := tr_pX1 hR hz132 hq133 ho134
                    obtain ⟨sm, hsm135⟩ : ∃ t9 : Int64, t9 = sm * 31 + Int32.toInt64 (nI (sp_minuteNow σ t q2)) := ⟨_, rfl⟩
                    rw [← hsm135] at hRn ⊢
                    have hE := hE.kept (fun q9 g9 hb9 => hq133 q9 g9 (fun e9 => hb9 (e9.elim (fun e9 => by rw [e9]; exact (hR.ok0 (by rw [hrx0]; decide)).1) (fun e9 => Nat.le_trans hB e9))))
                    have hR := hRn
                    replace hsz := Nat.le_trans hsz hz132
                    replace hB := Nat.le_trans hB0 hsz
                    have hW := hR.wc
                    obtain ⟨hx, hcG, hcLa, hcFo, hcGu, hcPo, hcIn, hcWi, hcWo, hcKe⟩ := id hW
                    show nwV X _ _ 4 H130 (13 + 0) (52 + 0) 60 [(0, .ref x), (1, .int (nI t)), (2, .int (nI q2))] [.long sm]
                    refine nw_wide (k' := 13) (n' := 52) (by omega) (by omega) ?_
                    refine nw_pop2l C dX1_digest_60 rfl 61 rfl ?_
                    refine nw_iincN C 2 (c0 := 1) [(2, .int (nI (q2 + 1))), (0, .ref x), (1, .int (nI t))] dX1_digest_61 rfl (by decide) rfl 64 rfl ?_
                    refine nw_goto C 43 dX1_digest_64 (by decide) ?_
                    exact nw_wide (k' := 13) (n' := 52) (by omega) (by omega) (nw_sub [1, 2, 0] rfl (ih_lp128 H130 sm (q2 + 1) hR hE hsz (by omega) (by rw [hsm135, hdg, dg_L_s, ht]) (by omega)))
              exact nw_wide (k' := 13) (n' := 52) (by omega) (by omega) (nw_sub [1, 2, 0] rfl (lp128 _ H2 sm 0 hR hE hsz (Nat.zero_le _) (hdgo.trans (dg_L_0 _ _).symm) (Nat.lt_succ_self _)))
        exact nw_wide (k' := 13) (n' := 52) (by omega) (by omega) (nw_sub [1, 0] rfl (lp7 _ H2 sm 0 0 hR hE hsz (Nat.zero_le _) rfl (hd1.trans (dg_F_0 _ _).symm) (Nat.lt_succ_self _)))
      · refine nw_aload_n C 0 dX1_digest_15 rfl 16 rfl ?_
        refine nw_aload_n C 0 dX1_digest_16 rfl 17 rfl ?_
        refine nw_iload_n C 1 dX1_digest_17 rfl 18 rfl ?_
        refine nw_callV C (mX1_manyNow _ C.hfl d ro ad x σ sm q H2 hB hW ok (by omega)) kX1_manyNow q403 (hx.is C (ci := 0) rfl) (As := [.int (nI q)]) (rest := [.ref x]) rfl rfl ⟨⟨Nat.le_of_ble_eq_true rfl, Nat.le_of_ble_eq_true rfl⟩, (show q + 1 ≤ 650 by omega), (show (4 * q) + 4 ≤ 28500 by omega)⟩ (Nat.le_of_ble_eq_true rfl) (fun _ h8 h9 => absurd h9 (Nat.not_le.mpr h8)) dX1_digest_18 21 rfl (fun v9 H136 hR137 hz138 hq139 => ?_) nw_noX
        obtain ⟨rfl, -⟩ := hR137
        have hR := hR.ext ⟨hz138, (fun q9 g9 => hq139 q9 g9 (Nat.not_le.mpr g9))⟩
        have hE := hE.ext (fun q9 g9 => hq139 q9 g9 (Nat.not_le.mpr g9))
        replace hsz := Nat.le_trans hsz hz138
        replace hB := Nat.le_trans hB0 hsz
        have hW := hR.wc
        obtain ⟨hx, hcG, hcLa, hcFo, hcGu, hcPo, hcIn, hcWi, hcWo, hcKe⟩ := id hW
        show nwV X _ _ 4 H136 (q + 1) ((4 * q) + 4) 21 [(0, .ref x), (1, .int (nI q))] [.int (nI (sp_manyNow σ q)), .ref x]
        refine nw_wide (k' := q + 1) (n' := 4 * q + 4) (by omega) (by omega) ?_
        refine nw_i2l C dX1_digest_21 22 rfl ?_
        refine nw_callV C (mX1_add _ C.hfl d x (.ref (ad 0)) (.ref (ad 1)) (.ref (ad 2)) (.ref (ad 3)) (.ref (ad 4)) (.ref (ad 5)) (.ref (ad 6)) (.ref (ad 7)) (.ref (ad 8)) (.int (nI (ga_f (sg_ga σ)))) (.int (nI (ga_t (sg_ga σ)))) (.int (nI (sg_ri σ))) (.int (nI (sg_rf σ))) sm (Int32.toInt64 (nI (sp_manyNow σ q))) H136 hB (hR.ok0 (by rw [hrx0]; decide)).1 hx) kX1_add q529 (hx.is C (ci := 0) rfl) (As := [.long (Int32.toInt64 (nI (sp_manyNow σ q)))]) (rest := []) rfl rfl ⟨⟨Nat.le_of_ble_eq_true rfl, Nat.le_of_ble_eq_true rfl⟩, (show (q + 1) + 0 ≤ 650 by omega), (show (4 * q + 4) + 0 ≤ 28500 by omega)⟩ (Nat.le_of_ble_eq_true rfl) (fun q8 h8 h9 => h9.elim (fun e9 => by rw [e9]; exact nwAC_r hrx0 (by decide +kernel)) (fun e9 => absurd h8 (Nat.not_lt.mpr e9))) dX1_digest_22 25 rfl (fun v9 H140 hR141 hz142 hq143 => ?_) nw_noX
        obtain ⟨rfl, ho144⟩ := hR141
        have hRn := tr_pX1 hR hz142 hq143 ho144
        obtain ⟨sm, hsm145⟩ : ∃ t9 : Int64, t9 = sm * 31 + Int32.toInt64 (nI (sp_manyNow σ q)) := ⟨_, rfl⟩
        rw [← hsm145] at hRn ⊢
        have hE := hE.kept (fun q9 g9 hb9 => hq143 q9 g9 (fun e9 => hb9 (e9.elim (fun e9 => by rw [e9]; exact (hR.ok0 (by rw [hrx0]; decide)).1) (fun e9 => Nat.le_trans hB e9))))
        have hR := hRn
        replace hsz := Nat.le_trans hsz hz142
        replace hB := Nat.le_trans hB0 hsz
        have hW := hR.wc
        obtain ⟨hx, hcG, hcLa, hcFo, hcGu, hcPo, hcIn, hcWi, hcWo, hcKe⟩ := id hW
        show nwV X _ _ 4 H140 ((q + 1) + 0) ((4 * q + 4) + 0) 25 [(0, .ref x), (1, .int (nI q))] [.long sm]
        refine nw_wide (k' := q + 1) (n' := 4 * q + 4) (by omega) (by omega) ?_
        refine nw_pop2l C dX1_digest_25 rfl 26 rfl ?_
        refine nw_iincN C 1 (c0 := 1) [(1, .int (nI (q + 1))), (0, .ref x)] dX1_digest_26 rfl (by decide) rfl 29 rfl ?_
        refine nw_goto C 9 dX1_digest_29 (by decide) ?_
        exact nw_wide (k' := (q + 1)) (n' := 4 * (q + 1)) (by omega) (by omega) (nw_sub [1, 0] rfl (ih_lp5 H140 sm (q + 1) hR hE hsz (by omega) (by rw [hsm145, hdg, dg_L_s]) (by omega)))
  exact nw_wide (k' := 0) (n' := 4 * 0) (by omega) (by omega) (nw_sub [1, 0] rfl (lp5 _ H1 sm 0 hR hE hsz (Nat.zero_le _) (hsm0.trans (dg_L_0 _ _).symm) (Nat.lt_succ_self _)))
