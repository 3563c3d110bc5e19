/-! ===== the reference: begin, words ===== -/
def st_begin (s : spSg) (ke : Nat → Option Nat) : spSg := st_ke (st_gu (st_ri (st_wo s (sp_words (wo_s (sg_wo s)) (wo_o (sg_wo s)))) 0) ((sg_gu s).1, sp_fresh (sg_gu s).2 (sg_gu s).1)) ke
theorem sp_up_up {α : Type} (f : Nat → α) (n : Nat) (v w : α) : sp_up (sp_up f n v) n w = sp_up f n w := by
  funext k
  unfold sp_up
  by_cases e : k = n <;> simp [e]
theorem sp_fresh_at (f : Nat → spGd) (j : Nat) : sp_fresh f j j = f j := if_neg (Nat.lt_irrefl _)
theorem nwLi_new {d : nwD} {x : Nat} {es : Nat → Nat} {P : Nat → Prop} {H : Heap} (h : nwO d x 13 [.int (nI 0), .ref (nd_st d 5), .int (nI 0)] H) : nwLi d x 0 es P H := ⟨nd_st d 5, 0, nI 0, fun _ => none, ⟨h, Nat.le_refl 0, by decide, Or.inl ⟨rfl, rfl⟩⟩, fun h9 => absurd h9 (by decide), fun k hk => absurd hk (Nat.not_lt_zero k)⟩
theorem sp_words_5 (s : Nat) (o : Nat → Nat) : sp_after (wo_x (sp_words s o)) = sp_row s 5 := rfl
theorem bg_world {d : nwD} {ro am : Nat → Nat} {y x : Nat} {σ : spSg} {th : Int32} {H Hc : Heap} {fz : Nat → Int32} (hR : nwMW d ro am y σ th H) (hsz : H.size ≤ Hc.size) (hB0 : nd_B d ≤ H.size) (hqc : ∀ q9 : Nat, q9 < H.size → q9 ≠ y → q9 ≠ am 11 → Hc[q9]? = H[q9]?) (hy : nwO d y 9 [.int th, .int (nI (gr_w (sg_gr σ))), .int (nI (gr_h (sg_gr σ))), .ref (am 9), .int (nI (gaM_f (sg_ga σ))), .int (oI (gaM_t (sg_ga σ))), .ref (am 1), .ref (am 2), .ref (am 3), .ref (am 4), .int (nI (wo_s (sg_wo σ))), .int (nI 0), .int (nI (sp_row (wo_s (sg_wo σ)) 5)), .ref (am 11), .ref x, .int (nI 0), .ref (am 8), .ref (am 5), .ref (am 6), .int (nI (sg_rf σ))] Hc) (hn : nwI d (am 11) 0 4 fz Hc) (hfz : ∀ k, k < 4 → fz k = nI (sp_row (wo_s (sg_wo σ)) (k + 1))) (hx : nwO d x 13 [.int (nI 0), .ref (nd_st d 5), .int (nI 0)] Hc) (hxn : H.size ≤ x) : ∃ ro' am' : Nat → Nat, nwMW d ro' am' y (st_ri (st_wo σ (sp_words (wo_s (sg_wo σ)) (wo_o (sg_wo σ)))) 0) th Hc ∧ (∀ q, ro q ≠ 0 → ro' q = ro q) ∧ (∀ i, i ≠ 12 → am' i = am i) ∧ ∀ q, q < H.size → ro' q = ro q := by
  have r8 : ro y = 8000 := hR.2.1.2
  have r11 : ro (am 11) = 5012 := hR.2.2.2.2.2.2.2.2.2.1.2.1
  have hm0 : nwMo d ro (fun _ => 0) H := fun q h => absurd rfl h
  have hkk := nwRn.keep (Hn := Hc) (r2 := 5013) hR.1 hm0
  have hxr : nwRn ro (fun _ => 0) H Hc 5013 x = 5013 := nwRn.arr hm0 hx.lt (by decide) (Or.inr hxn)
  have a12 : sp_up am 12 x 12 = x := sp_up_at _ _ _
  have a0 : ∀ i, i ≠ 12 → sp_up am 12 x i = am i := fun i hi => sp_up_ne _ _ hi
  have hOK := nwRn.ok (r2 := 5013) hR.1 hm0 hsz hB0
  have hol : ∀ q, q < H.size → nwRn ro (fun _ => 0) H Hc 5013 q = ro q := fun q hq => by
    unfold nwRn
    rw [if_pos rfl, if_neg (fun e => absurd hq (Nat.not_lt.mpr e.1))]
  generalize nwRn ro (fun _ => 0) H Hc 5013 = ro' at *
  generalize sp_up am 12 x = am' at *
  obtain ⟨W, hW⟩ : ∃ W, W = sp_words (wo_s (sg_wo σ)) (wo_o (sg_wo σ)) := ⟨_, rfl⟩
  have e5 : sp_after (wo_x W) = sp_row (wo_s (sg_wo σ)) 5 := by rw [hW]; exact sp_words_5 _ _
  have es : wo_s W = wo_s (sg_wo σ) := by rw [hW]; rfl
  have em : wo_m W = 0 := by rw [hW]; rfl
  have en : ∀ k, wo_n W k = sp_row (wo_s (sg_wo σ)) (k + 1) := fun k => by rw [hW]; rfl
  rw [← hW]
  have hX9 : mcX d am' y (st_ri (st_wo σ W) 0) th Hc := by
    show nwO d y 9 [.int th, .int (nI (gr_w (sg_gr σ))), .int (nI (gr_h (sg_gr σ))), .ref (am' 9), .int (nI (gaM_f (sg_ga σ))), .int (oI (gaM_t (sg_ga σ))), .ref (am' 1), .ref (am' 2), .ref (am' 3), .ref (am' 4), .int (nI (wo_s W)), .int (nI (wo_m W)), .int (nI (sp_after (wo_x W))), .ref (am' 11), .ref (am' 12), .int (nI 0), .ref (am' 8), .ref (am' 5), .ref (am' 6), .int (nI (sg_rf σ))] Hc
    rw [a12, a0 1 (by decide), a0 2 (by decide), a0 3 (by decide), a0 4 (by decide), a0 5 (by decide), a0 6 (by decide), a0 8 (by decide), a0 9 (by decide), a0 11 (by decide), es, em, e5]
    exact hy
  have hw9 : mrWo d ro' am' W Hc := by
    refine ⟨⟨?_, ?_⟩, ?_, ?_⟩
    · rw [a0 11 (by decide)]
      exact nwI.congr hn (fun j hj => by rw [hfz j hj, en])
    · rw [a12, em]
      exact nwLi_new hx
    · rw [a0 11 (by decide)]; exact nw_rt hkk r11 (by decide)
    · rw [a12]; exact hxr
  exact ⟨ro', am', trm_Wo hR hOK hkk (fun i hi => a0 i (fun e => hi (by rw [e]; decide +kernel))) (fun q9 g9 h29 h0 h8 => hqc q9 g9 (fun e9 => h8 (by rw [e9]; exact r8)) (fun e9 => h29 (by rw [e9, r11]; decide +kernel))) hX9 ⟨Or.inr rfl, Or.inr rfl, Or.inr rfl, Or.inr rfl, Or.inr rfl, Or.inr rfl, Or.inr rfl, Or.inl rfl, Or.inr rfl⟩ hw9, hkk, a0, hol⟩
set_option maxHeartbeats 4000000 in
theorem mX4_begin (l : Launch) (hf : l.flags = flags0) (d : nwD) (ro am : Nat → Nat) (y : Nat) (σ : spSg) (th : Int32) (ke9 : Nat → Option Nat) (H : Heap) (hB : nd_B d ≤ H.size) (hR : nwMW d ro am y σ th H) (hs9 : wo_s (sg_wo σ) < 100) (hn64x : gr_n (sg_gr σ) ≤ 64) (hke9 : (0 < gr_n (sg_gr σ) ∧ ∀ k, k < 6 → ke9 k = sg_ke σ k) ∨ (gr_n (sg_gr σ) = 0 ∧ ∀ k, k < 6 → ke9 k = none)) : nwMt l d yX4_begin cX4_begin 2 none 4 84 1 3 [.ref y] H (fun v H1 => v = none ∧ H.size ≤ H1.size ∧ ∃ ro' am' : Nat → Nat, nwMW d ro' am' y (st_begin σ ke9) th H1 ∧ (∀ q, ro q ≠ 0 → ro' q = ro q) ∧ (∀ i, i ≠ 12 → am' i = am i) ∧ ∀ q, q < H.size → ro' q = ro q) nwNo (nwAM ro H) := by
  refine nw_start "NightwatchWallModel" "begin" hf (by decide +kernel) rfl rfl (fun _ h => Or.inr h) (nwAM_B hR hB) (Nat.le_of_ble_eq_true rfl) ?_
  intro X C
  have hyB := (hR.ok0 (show ro y ≠ 0 by rw [hR.2.1.2]; decide)).1
  have hAy : nwAM ro H y := Or.inl (by rw [hR.2.1.2]; decide +kernel)
  have hA11 : nwAM ro H (am 11) := Or.inl (by rw [hR.2.2.2.2.2.2.2.2.2.1.2.1]; decide +kernel)
  have hA8 : nwAM ro H (am 8) := Or.inl (by rw [hR.2.2.2.2.2.2.2.2.2.2.2]; decide +kernel)
  have hb509 := hR.2.2.2.2.2.1.2.1
  have hAg9 : ∀ j, j < (sg_gu σ).1 → nwAM ro H (am (300 + j)) := fun j hj => Or.inl (by rw [(hR.2.2.2.2.2.1.2.2.2 j hj).1, rp_5301 j (by omega)]; decide)
  have hB0 := hB
  have hE := C.E0
  have hext : nwExt H H := nwExt.rfl
  show nwV X _ _ 2 H 0 0 0 [(0, .ref y)] []
  have r8 : ro y = 8000 := hR.2.1.2
  have r11 : ro (am 11) = 5012 := hR.2.2.2.2.2.2.2.2.2.1.2.1
  have n811 : am 11 ≠ y := fun e9 => by rw [e9] at r11; omega
  have hB11 := (hR.ok0 (show ro (am 11) ≠ 0 by rw [r11]; decide)).1
  have hqc : ∀ q9 : Nat, q9 < H.size → q9 ≠ y → q9 ≠ am 11 → H[q9]? = H[q9]? := fun _ _ _ _ => rfl
  have hsz : H.size ≤ H.size := Nat.le_refl _
  refine nw_aload_n C 0 dX4_begin_0 rfl 1 rfl ?_
  refine nw_aload_n C 0 dX4_begin_1 rfl 2 rfl ?_
  refine nw_get C hR.2.1.1 (T := TX4) rfl in_X4 10 (by decide) q1632 (Or.inl rfl) rfl dX4_begin_2 5 rfl ?_
  refine nw_callS C (mX4_after _ C.hfl d (wo_s (sg_wo σ)) H hB (by first | omega | exact sp_row_b (by omega) _)) kX4_after q1603 (As := [.int (nI (wo_s (sg_wo σ)))]) (rest := [.ref y]) rfl rfl ⟨⟨Nat.le_of_ble_eq_true rfl, Nat.le_of_ble_eq_true rfl⟩, Nat.le_of_ble_eq_true rfl, Nat.le_of_ble_eq_true rfl⟩ (Nat.le_of_ble_eq_true rfl) (fun _ h8 h9 => absurd h9 (Nat.not_le.mpr h8)) dX4_begin_5 8 rfl (nw_rdK ?_) nw_noX
  refine nw_put C hR.2.1.1 hAy (T := TX4) (ty0 := tyX4) rfl in_X4 tyX4_ok nmX4 12 (by decide) q1634 (Or.inl rfl) rfl rfl rfl (Nat.le_of_ble_eq_true rfl) dX4_begin_8 11 rfl (fun H1 ho2 hz3 hq4 => ?_)
  have ho2 : nwO d y 9 [.int th, .int (nI (gr_w (sg_gr σ))), .int (nI (gr_h (sg_gr σ))), .ref (am 9), .int (nI (gaM_f (sg_ga σ))), .int (oI (gaM_t (sg_ga σ))), .ref (am 1), .ref (am 2), .ref (am 3), .ref (am 4), .int (nI (wo_s (sg_wo σ))), .int (nI (wo_m (sg_wo σ))), .int (nI (sp_after (wo_s (sg_wo σ)))), .ref (am 11), .ref (am 12), .int (nI (sg_ri σ)), .ref (am 8), .ref (am 5), .ref (am 6), .int (nI (sg_rf σ))] H1 := ho2
  have ho5 := hR.2.2.2.2.2.2.2.2.2.1.1.1.kept (hq4 _ n811)
  replace hqc : ∀ q9 : Nat, q9 < H.size → q9 ≠ y → q9 ≠ am 11 → H1[q9]? = H[q9]? := fun q9 g9 a1 a2 => (hq4 q9 a1).trans (hqc q9 g9 a1 a2)
  replace hsz : H.size ≤ H1.size := Nat.le_trans hsz (Nat.le_of_eq hz3.symm)
  replace hB := Nat.le_trans hB0 hsz
  replace hE := C.E0.kept (fun q9 g9 hb9 => hqc q9 g9 (fun e9 => hb9 (by rw [e9]; exact hyB)) (fun e9 => hb9 (by rw [e9]; exact hB11)))
  refine nw_iconst C (nI 0) dX4_begin_11 (by decide) 12 rfl ?_
  refine nw_istore_n C [(1, .int (nI 0)), (0, .ref y)] dX4_begin_12 (by decide) rfl 13 rfl ?_
  have lp6 : ∀ (fu : Nat) (H2 : Heap) (i : Nat) (fz : Nat → Int32), (i ≤ 4) → (H.size ≤ H2.size) → (∀ q9 : Nat, q9 < H.size → q9 ≠ y → q9 ≠ am 11 → H2[q9]? = H[q9]?) → (nwO d y 9 [.int th, .int (nI (gr_w (sg_gr σ))), .int (nI (gr_h (sg_gr σ))), .ref (am 9), .int (nI (gaM_f (sg_ga σ))), .int (oI (gaM_t (sg_ga σ))), .ref (am 1), .ref (am 2), .ref (am 3), .ref (am 4), .int (nI (wo_s (sg_wo σ))), .int (nI (wo_m (sg_wo σ))), .int (nI (sp_row (wo_s (sg_wo σ)) (i + 1))), .ref (am 11), .ref (am 12), .int (nI (sg_ri σ)), .ref (am 8), .ref (am 5), .ref (am 6), .int (nI (sg_rf σ))] H2) → (nwI d (am 11) 0 4 fz H2) → (∀ k, k < i → fz k = (fun k => nI (sp_row (wo_s (sg_wo σ)) (k + 1))) k) → 4 - i < fu → nwV X (nwAM ro H) (nwQE X (fun v H1 => v = none ∧ H.size ≤ H1.size ∧ ∃ ro' am' : Nat → Nat, nwMW d ro' am' y (st_begin σ ke9) th H1 ∧ (∀ q, ro q ≠ 0 → ro' q = ro q) ∧ (∀ i, i ≠ 12 → am' i = am i) ∧ ∀ q, q < H.size → ro' q = ro q) nwNo (nwAM ro H) 1 3) 2 H2 0 0 13 [(0, .ref y), (1, .int (nI i))] [] := by
    intro fu
    induction fu with
    | zero => intro H2 i fz _ _ _ _ _ _ hm; exact absurd hm (Nat.not_lt_zero _)
    | succ fu ih_lp6 =>
      intro H2 i fz hi hsz hqc hy2 hn2 hfz hm
      replace hB := Nat.le_trans hB0 hsz
      replace hE := C.E0.kept (fun q9 g9 hb9 => hqc q9 g9 (fun e9 => hb9 (by rw [e9]; exact hyB)) (fun e9 => hb9 (by rw [e9]; exact hB11)))
      refine nw_iload_n C 1 dX4_begin_13 rfl 14 rfl ?_
      refine nw_iconst C (nI 4) dX4_begin_14 (by decide) 15 rfl ?_
      refine nw_icmpgeN C (by omega) 45 dX4_begin_15 (by decide) 18 rfl (fun h7 => ?_) (fun h7 => ?_)
      · refine nw_aload_n C 0 dX4_begin_45 rfl 46 rfl ?_
        refine nw_iconst C (nI 0) dX4_begin_46 (by decide) 47 rfl ?_
        refine nw_put C hy2 hAy (T := TX4) (ty0 := tyX4) rfl in_X4 tyX4_ok nmX4 11 (by decide) q1633 (Or.inl rfl) rfl rfl rfl (Nat.le_of_ble_eq_true rfl) dX4_begin_47 50 rfl (fun H8 ho9 hz10 hq11 => ?_)
        have ho9 : nwO d y 9 [.int th, .int (nI (gr_w (sg_gr σ))), .int (nI (gr_h (sg_gr σ))), .ref (am 9), .int (nI (gaM_f (sg_ga σ))), .int (oI (gaM_t (sg_ga σ))), .ref (am 1), .ref (am 2), .ref (am 3), .ref (am 4), .int (nI (wo_s (sg_wo σ))), .int (nI 0), .int (nI (sp_row (wo_s (sg_wo σ)) (i + 1))), .ref (am 11), .ref (am 12), .int (nI (sg_ri σ)), .ref (am 8), .ref (am 5), .ref (am 6), .int (nI (sg_rf σ))] H8 := ho9
        have ho12 := hn2.kept (hq11 _ n811)
        replace hqc : ∀ q9 : Nat, q9 < H.size → q9 ≠ y → q9 ≠ am 11 → H8[q9]? = H[q9]? := fun q9 g9 a1 a2 => (hq11 q9 a1).trans (hqc q9 g9 a1 a2)
        replace hsz : H.size ≤ H8.size := Nat.le_trans hsz (Nat.le_of_eq hz10.symm)
        replace hB := Nat.le_trans hB0 hsz
        replace hE := C.E0.kept (fun q9 g9 hb9 => hqc q9 g9 (fun e9 => hb9 (by rw [e9]; exact hyB)) (fun e9 => hb9 (by rw [e9]; exact hB11)))
        refine nw_aload_n C 0 dX4_begin_50 rfl 51 rfl ?_
        refine nw_iconst C (nI 0) dX4_begin_51 (by decide) 52 rfl ?_
        refine nw_put C ho9 hAy (T := TX4) (ty0 := tyX4) rfl in_X4 tyX4_ok nmX4 15 (by decide) q1637 (Or.inl rfl) rfl rfl rfl (Nat.le_of_ble_eq_true rfl) dX4_begin_52 55 rfl (fun H13 ho14 hz15 hq16 => ?_)
        have ho14 : nwO d y 9 [.int th, .int (nI (gr_w (sg_gr σ))), .int (nI (gr_h (sg_gr σ))), .ref (am 9), .int (nI (gaM_f (sg_ga σ))), .int (oI (gaM_t (sg_ga σ))), .ref (am 1), .ref (am 2), .ref (am 3), .ref (am 4), .int (nI (wo_s (sg_wo σ))), .int (nI 0), .int (nI (sp_row (wo_s (sg_wo σ)) (i + 1))), .ref (am 11), .ref (am 12), .int (nI 0), .ref (am 8), .ref (am 5), .ref (am 6), .int (nI (sg_rf σ))] H13 := ho14
        have ho17 := ho12.kept (hq16 _ n811)
        replace hqc : ∀ q9 : Nat, q9 < H.size → q9 ≠ y → q9 ≠ am 11 → H13[q9]? = H[q9]? := fun q9 g9 a1 a2 => (hq16 q9 a1).trans (hqc q9 g9 a1 a2)
        replace hsz : H.size ≤ H13.size := Nat.le_trans hsz (Nat.le_of_eq hz15.symm)
        replace hB := Nat.le_trans hB0 hsz
        replace hE := C.E0.kept (fun q9 g9 hb9 => hqc q9 g9 (fun e9 => hb9 (by rw [e9]; exact hyB)) (fun e9 => hb9 (by rw [e9]; exact hB11)))
        refine nw_aload_n C 0 dX4_begin_55 rfl 56 rfl ?_
        refine nw_new C (ci := 13) (T := TJ3) (ty0 := tyJ3) [.int (nI 0), .null, .int (nI 0)] rfl in_J3 tyJ3_ok q1597 q141 q90 (fun j hj => by rcases (show j = 0 ∨ j = 1 ∨ j = 2 by omega) with rfl | rfl | rfl <;> rfl) 1 3 (by omega) (by omega) ⟨(show 1 ≤ 1 by omega), (show 3 ≤ 3 by omega)⟩ dX4_begin_56 59 rfl (fun a18 H19 hx20 ho21 hz22 hq23 => ?_)
        have hn24 : H.size ≤ a18 := by rw [hx20]; exact hsz
        have hne25 : y ≠ a18 := Nat.ne_of_lt (by rw [hx20]; exact ho14.lt)
        have ho26 := ho14.kept (hq23 _ ho14.lt)
        have hne27 : am 11 ≠ a18 := Nat.ne_of_lt (by rw [hx20]; exact ho17.lt)
        have ho28 := ho17.kept (hq23 _ ho17.lt)
        replace hqc : ∀ q9 : Nat, q9 < H.size → q9 ≠ y → q9 ≠ am 11 → H19[q9]? = H[q9]? := fun q9 g9 a1 a2 => (hq23 q9 (Nat.lt_of_lt_of_le g9 hsz)).trans (hqc q9 g9 a1 a2)
        replace hsz : H.size ≤ H19.size := Nat.le_trans hsz (show H13.size ≤ H19.size by omega)
        replace hB := Nat.le_trans hB0 hsz
        replace hE := C.E0.kept (fun q9 g9 hb9 => hqc q9 g9 (fun e9 => hb9 (by rw [e9]; exact hyB)) (fun e9 => hb9 (by rw [e9]; exact hB11)))
        refine nw_dup C dX4_begin_59 rfl 60 rfl ?_
        refine nw_callI C (mJ3_init _ C.hfl d a18  H19 hB (Nat.le_trans hB0 hn24) ho21 ) kJ3_init q1598 (As := []) (rest := [.ref a18, .ref y]) rfl rfl ⟨⟨Nat.le_of_ble_eq_true rfl, Nat.le_of_ble_eq_true rfl⟩, (show 1 + 0 ≤ 1 by omega), (show 3 + 0 ≤ 3 by omega)⟩ (Nat.le_of_ble_eq_true rfl) (fun q8 h8 h9 => h9.elim (fun e9 => by rw [e9]; exact (Or.inr hn24)) (fun e9 => absurd h8 (Nat.not_lt.mpr e9))) dX4_begin_60 63 rfl (fun v9 H29 hR30 hz31 hq32 => ?_) nw_noX
        obtain ⟨rfl, ho33⟩ := hR30
        have ho34 := ho26.kept (hq32 _ ho26.lt (fun e9 => e9.elim hne25 (Nat.not_le.mpr ho26.lt)))
        have ho35 := ho28.kept (hq32 _ ho28.lt (fun e9 => e9.elim hne27 (Nat.not_le.mpr ho28.lt)))
        replace hqc : ∀ q9 : Nat, q9 < H.size → q9 ≠ y → q9 ≠ am 11 → H29[q9]? = H[q9]? := fun q9 g9 a1 a2 => (hq32 q9 (Nat.lt_of_lt_of_le g9 hsz) (fun e9 => e9.elim (fun e8 => absurd g9 (Nat.not_lt.mpr (by rw [e8]; exact hn24))) (Nat.not_le.mpr (Nat.lt_of_lt_of_le g9 hsz)))).trans (hqc q9 g9 a1 a2)
        replace hsz : H.size ≤ H29.size := Nat.le_trans hsz hz31
        replace hB := Nat.le_trans hB0 hsz
        replace hE := C.E0.kept (fun q9 g9 hb9 => hqc q9 g9 (fun e9 => hb9 (by rw [e9]; exact hyB)) (fun e9 => hb9 (by rw [e9]; exact hB11)))
        show nwV X _ _ 2 H29 (1 + 0) (3 + 0) 63 [(0, .ref y), (1, .int (nI i))] [.ref a18, .ref y]
        refine nw_wide (k' := 1) (n' := 3) (by omega) (by omega) ?_
        refine nw_put C ho34 hAy (T := TX4) (ty0 := tyX4) rfl in_X4 tyX4_ok nmX4 14 (by decide) q1636 (Or.inl rfl) rfl rfl rfl (Nat.le_of_ble_eq_true rfl) dX4_begin_63 66 rfl (fun H36 ho37 hz38 hq39 => ?_)
        have ho37 : nwO d y 9 [.int th, .int (nI (gr_w (sg_gr σ))), .int (nI (gr_h (sg_gr σ))), .ref (am 9), .int (nI (gaM_f (sg_ga σ))), .int (oI (gaM_t (sg_ga σ))), .ref (am 1), .ref (am 2), .ref (am 3), .ref (am 4), .int (nI (wo_s (sg_wo σ))), .int (nI 0), .int (nI (sp_row (wo_s (sg_wo σ)) (i + 1))), .ref (am 11), .ref a18, .int (nI 0), .ref (am 8), .ref (am 5), .ref (am 6), .int (nI (sg_rf σ))] H36 := ho37
        have ho40 := ho35.kept (hq39 _ n811)
        have ho41 := ho33.kept (hq39 _ (Ne.symm hne25))
        replace hqc : ∀ q9 : Nat, q9 < H.size → q9 ≠ y → q9 ≠ am 11 → H36[q9]? = H[q9]? := fun q9 g9 a1 a2 => (hq39 q9 a1).trans (hqc q9 g9 a1 a2)
        replace hsz : H.size ≤ H36.size := Nat.le_trans hsz (Nat.le_of_eq hz38.symm)
        replace hB := Nat.le_trans hB0 hsz
        replace hE := C.E0.kept (fun q9 g9 hb9 => hqc q9 g9 (fun e9 => hb9 (by rw [e9]; exact hyB)) (fun e9 => hb9 (by rw [e9]; exact hB11)))
        have hy9 := ho37
        rw [show i = 4 by omega] at hy9
        obtain ⟨ro1, am1, hR1, hkk, a0, hol⟩ := bg_world hR hsz hB0 hqc hy9 ho40 (fun k hk => hfz k (by omega)) ho41 hn24
        obtain ⟨σ1, hσ1⟩ : ∃ t9 : spSg, t9 = (st_ri (st_wo σ (sp_words (wo_s (sg_wo σ)) (wo_o (sg_wo σ)))) 0) := ⟨_, rfl⟩
        rw [← hσ1] at hR1
        have hg1 : sg_gu σ1 = sg_gu σ := by rw [hσ1]; rfl
        have hgr1 : sg_gr σ1 = sg_gr σ := by rw [hσ1]; rfl
        have hke1 : sg_ke σ1 = sg_ke σ := by rw [hσ1]; rfl
        have hR2 := hR1
        have r82 : ro1 y = 8000 := hR1.2.1.2
        have hb50 := hR1.2.2.2.2.2.1.2.1
        refine nw_iconst C (nI 0) dX4_begin_66 (by decide) 67 rfl ?_
        refine nw_istore_n C [(1, .int (nI 0)), (0, .ref y)] dX4_begin_67 (by decide) rfl 68 rfl ?_
        have lp42 : ∀ (fu : Nat) (H3 : Heap) (j : Nat), (j ≤ (sg_gu σ1).1) → (H.size ≤ H3.size) → (nwE d (nx_s X) H3) → (nwMW d ro1 am1 y (st_gu σ1 ((sg_gu σ1).1, (sp_fresh (sg_gu σ1).2 j))) th H3) → (sg_gu σ1).1 - j < fu → nwV X (nwAM ro H) (nwQE X (fun v H1 => v = none ∧ H.size ≤ H1.size ∧ ∃ ro' am' : Nat → Nat, nwMW d ro' am' y (st_begin σ ke9) th H1 ∧ (∀ q, ro q ≠ 0 → ro' q = ro q) ∧ (∀ i, i ≠ 12 → am' i = am i) ∧ ∀ q, q < H.size → ro' q = ro q) nwNo (nwAM ro H) 1 3) 2 H3 1 3 68 [(0, .ref y), (1, .int (nI j))] [] := by
          intro fu
          induction fu with
          | zero => intro H3 j _ _ _ _ hm; exact absurd hm (Nat.not_lt_zero _)
          | succ fu ih_lp42 =>
            intro H3 j hj hsz hE2 hR2 hm
            replace hB := Nat.le_trans hB0 hsz
            replace hE := hE2
            have hyb : nwO d y 9 [.int th, .int (nI (gr_w (sg_gr σ1))), .int (nI (gr_h (sg_gr σ1))), .ref (am1 9), .int (nI (gaM_f (sg_ga σ1))), .int (oI (gaM_t (sg_ga σ1))), .ref (am1 1), .ref (am1 2), .ref (am1 3), .ref (am1 4), .int (nI (wo_s (sg_wo σ1))), .int (nI (wo_m (sg_wo σ1))), .int (nI (sp_after (wo_x (sg_wo σ1)))), .ref (am1 11), .ref (am1 12), .int (nI (sg_ri σ1)), .ref (am1 8), .ref (am1 5), .ref (am1 6), .int (nI (sg_rf σ1))] H3 := hR2.2.1.1
            have hlb : nwLi d (am1 3) (sg_gu σ1).1 (fun k => am1 (300 + k)) (fun q => ro1 q = 7004) H3 := hR2.2.2.2.2.2.1.1.1
            refine nw_iload_n C 1 dX4_begin_68 rfl 69 rfl ?_
            refine nw_aload_n C 0 dX4_begin_69 rfl 70 rfl ?_
            refine nw_get C hyb (T := TX4) rfl in_X4 8 (by decide) q1630 (Or.inl rfl) rfl dX4_begin_70 73 rfl ?_
            refine nw_callF C (mJ3_size _ C.hfl d (am1 3) ((sg_gu σ1).1) (fun k => am1 (300 + k)) (fun q => ro1 q = 7004) H3 hB hlb) kJ3_size (ci := 13) rfl q1607 q1611 (by decide +kernel) fc_List_size (hlb.is C) (As := []) (rest := [.int (nI j)]) rfl rfl ⟨⟨Nat.le_of_ble_eq_true rfl, Nat.le_of_ble_eq_true rfl⟩, Nat.le_of_ble_eq_true rfl, Nat.le_of_ble_eq_true rfl⟩ (Nat.le_of_ble_eq_true rfl) (fun _ h8 h9 => absurd h9 (Nat.not_le.mpr h8)) dX4_begin_73 78 rfl (nw_rdK ?_) nw_noX
            refine nw_icmpgeN C (by omega) 121 dX4_begin_78 (by decide) 81 rfl (fun h43 => ?_) (fun h43 => ?_)
            · rw [show j = (sg_gu σ1).1 by omega] at hR2
              have hk1 : nwI d (am1 9) 0 (gr_n (sg_gr σ1)) (fun c => nI (gr_k (sg_gr σ1) c)) H3 := hR2.2.2.1.1
              have hyb : nwO d y 9 [.int th, .int (nI (gr_w (sg_gr σ1))), .int (nI (gr_h (sg_gr σ1))), .ref (am1 9), .int (nI (gaM_f (sg_ga σ1))), .int (oI (gaM_t (sg_ga σ1))), .ref (am1 1), .ref (am1 2), .ref (am1 3), .ref (am1 4), .int (nI (wo_s (sg_wo σ1))), .int (nI (wo_m (sg_wo σ1))), .int (nI (sp_after (wo_x (sg_wo σ1)))), .ref (am1 11), .ref (am1 12), .int (nI (sg_ri σ1)), .ref (am1 8), .ref (am1 5), .ref (am1 6), .int (nI (sg_rf σ1))] H3 := hR2.2.1.1
              have hn9 : gr_n (sg_gr σ1) ≤ 64 := by rw [hgr1]; exact hn64x
              refine nw_aload_n C 0 dX4_begin_121 rfl 122 rfl ?_
              refine nw_get C hyb (T := TX4) rfl in_X4 3 (by decide) q1625 (Or.inl rfl) rfl dX4_begin_122 125 rfl ?_
              refine nw_alenI C hk1 (by decide) dX4_begin_125 126 rfl ?_
              refine nw_ifneN C (by omega) 150 dX4_begin_126 (by decide) 129 rfl (fun h44 => ?_) (fun h44 => ?_)
              · have hR3 : nwMW d ro1 am1 y (st_ke (st_gu σ1 ((sg_gu σ1).1, sp_fresh (sg_gu σ1).2 (sg_gu σ1).1)) ke9) th H3 := trm_pKe hR2 (ke := ke9) rfl (fun _ _ => rfl) (nwI.congr hR2.2.2.2.2.2.2.2.2.2.2.1 (fun j9 hj9 => by
                  show oI (sg_ke σ1 j9) = oI (ke9 j9)
                  rw [hke1]
                  exact (congrArg oI ((hke9.resolve_right (fun e9 => by rw [← hgr1] at e9; omega)).2 j9 hj9)).symm))
                rw [hg1, hσ1] at hR3
                exact nw_vret C dX4_begin_150 (by omega) (by omega) ⟨rfl, hsz, ro1, am1, hR3, hkk, a0, hol⟩
              · have hkx : nwI d (am1 8) 0 6 (fun k => oI (sg_ke σ1 k)) H3 := hR2.2.2.2.2.2.2.2.2.2.2.1
                have r88 := hR2.2.2.2.2.2.2.2.2.2.2.2
                have n8y : y ≠ am1 8 := fun e9 => by rw [← e9, r82] at r88; omega
                have hB8 := (hR2.ok0 (show ro1 (am1 8) ≠ 0 by rw [r88]; decide)).1
                have hqk : ∀ q9 : Nat, q9 ≠ am1 8 → H3[q9]? = H3[q9]? := fun _ _ => rfl
                have hzk : H3.size = H3.size := rfl
                refine nw_iconst C (nI 0) dX4_begin_129 (by decide) 130 rfl ?_
                refine nw_istore_n C [(1, .int (nI 0)), (0, .ref y)] dX4_begin_130 (by decide) rfl 131 rfl ?_
                have lp45 : ∀ (fu : Nat) (H4 : Heap) (z : Nat) (fz : Nat → Int32), (z ≤ 6) → (H.size ≤ H4.size) → (nwE d (nx_s X) H4) → (nwO d y 9 [.int th, .int (nI (gr_w (sg_gr σ1))), .int (nI (gr_h (sg_gr σ1))), .ref (am1 9), .int (nI (gaM_f (sg_ga σ1))), .int (oI (gaM_t (sg_ga σ1))), .ref (am1 1), .ref (am1 2), .ref (am1 3), .ref (am1 4), .int (nI (wo_s (sg_wo σ1))), .int (nI (wo_m (sg_wo σ1))), .int (nI (sp_after (wo_x (sg_wo σ1)))), .ref (am1 11), .ref (am1 12), .int (nI (sg_ri σ1)), .ref (am1 8), .ref (am1 5), .ref (am1 6), .int (nI (sg_rf σ1))] H4) → (nwI d (am1 8) 0 6 fz H4) → (∀ q9 : Nat, q9 ≠ am1 8 → H4[q9]? = H3[q9]?) → (H4.size = H3.size) → (∀ k, k < z → fz k = (fun _ => oI none) k) → 6 - z < fu → nwV X (nwAM ro H) (nwQE X (fun v H1 => v = none ∧ H.size ≤ H1.size ∧ ∃ ro' am' : Nat → Nat, nwMW d ro' am' y (st_begin σ ke9) th H1 ∧ (∀ q, ro q ≠ 0 → ro' q = ro q) ∧ (∀ i, i ≠ 12 → am' i = am i) ∧ ∀ q, q < H.size → ro' q = ro q) nwNo (nwAM ro H) 1 3) 2 H4 1 3 131 [(0, .ref y), (1, .int (nI z))] [] := by
                  intro fu
                  induction fu with
                  | zero => intro H4 z fz _ _ _ _ _ _ _ _ hm; exact absurd hm (Nat.not_lt_zero _)
                  | succ fu ih_lp45 =>
                    intro H4 z fz hz6 hsz hE hyb hkz hqk hzk hfk hm
                    replace hB := Nat.le_trans hB0 hsz
                    refine nw_iload_n C 1 dX4_begin_131 rfl 132 rfl ?_
                    refine nw_bipush C (nI 6) dX4_begin_132 (by decide) 134 rfl ?_
                    refine nw_icmpgeN C (by omega) 150 dX4_begin_134 (by decide) 137 rfl (fun h46 => ?_) (fun h46 => ?_)
                    · have hR3 := trm_pKe hR2 (ke := ke9) hzk hqk (nwI.congr hkz (fun j9 hj9 => by rw [hfk j9 (by omega)]; exact (congrArg oI ((hke9.resolve_left (fun e9 => by rw [← hgr1] at e9; omega)).2 j9 hj9)).symm))
                      rw [hg1, hσ1] at hR3
                      exact nw_vret C dX4_begin_150 (by omega) (by omega) ⟨rfl, hsz, ro1, am1, hR3, hkk, a0, hol⟩
                    · refine nw_aload_n C 0 dX4_begin_137 rfl 138 rfl ?_
                      refine nw_get C hyb (T := TX4) rfl in_X4 16 (by decide) q1638 (Or.inl rfl) rfl dX4_begin_138 141 rfl ?_
                      refine nw_iload_n C 1 dX4_begin_141 rfl 142 rfl ?_
                      refine nw_iconst C (oI none) dX4_begin_142 (by decide) 143 rfl ?_
                      refine nw_iastN C hkz (by rw [a0 8 (by decide)]; exact hA8) (by omega) dX4_begin_143 144 rfl (fun H47 ho48 hz49 hq50 => ?_)
                      replace hyb := hyb.kept (hq50 _ n8y)
                      replace hsz := Nat.le_trans hsz (Nat.le_of_eq hz49.symm)
                      replace hB := Nat.le_trans hB0 hsz
                      replace hE := hE.kept (fun q9 _ hb9 => hq50 q9 (fun e9 => hb9 (by rw [e9]; exact hB8)))
                      replace hqk : ∀ q9 : Nat, q9 ≠ am1 8 → H47[q9]? = H3[q9]? := fun q9 n9 => (hq50 q9 n9).trans (hqk q9 n9)
                      replace hzk : H47.size = H3.size := hz49.trans hzk
                      refine nw_iincN C 1 (c0 := 1) [(1, .int (nI (z + 1))), (0, .ref y)] dX4_begin_144 rfl (by decide) rfl 147 rfl ?_
                      refine nw_goto C 131 dX4_begin_147 (by decide) ?_
                      exact nw_wide (by omega) (by omega) (nw_sub [1, 0] rfl (ih_lp45 H47 (z + 1) (upd fz z (oI none)) (by omega) hsz hE hyb ho48 hqk hzk (nw_updI hfk rfl) (by omega)))
                exact nw_wide (by omega) (by omega) (nw_sub [1, 0] rfl (lp45 _ H3 0 _ (Nat.zero_le _) hsz hE hyb hkx hqk hzk (fun k hk => absurd hk (Nat.not_lt_zero k)) (Nat.lt_succ_self _)))
            · refine nw_aload_n C 0 dX4_begin_81 rfl 82 rfl ?_
              refine nw_get C hyb (T := TX4) rfl in_X4 8 (by decide) q1630 (Or.inl rfl) rfl dX4_begin_82 85 rfl ?_
              refine nw_iload_n C 1 dX4_begin_85 rfl 86 rfl ?_
              refine nw_callF C (mJ3_get _ C.hfl d (am1 3) ((sg_gu σ1).1) (fun k => am1 (300 + k)) (fun q => ro1 q = 7004) j H3 hB hlb (by omega)) kJ3_get (ci := 13) rfl q1615 q1618 (by decide +kernel) fc_List_get (hlb.is C) (As := [.int (nI j)]) (rest := []) rfl rfl ⟨⟨Nat.le_of_ble_eq_true rfl, Nat.le_of_ble_eq_true rfl⟩, Nat.le_of_ble_eq_true rfl, Nat.le_of_ble_eq_true rfl⟩ (Nat.le_of_ble_eq_true rfl) (fun _ h8 h9 => absurd h9 (Nat.not_le.mpr h8)) dX4_begin_86 91 rfl (nw_rdK ?_) nw_noX
              have hg51 : nwO d (am1 (300 + j)) 10 [.int (nI (gd_a ((sg_gu σ1).2 j))), .int (nI (gd_b ((sg_gu σ1).2 j))), .int (nI (gd_s ((sg_gu σ1).2 j))), .ref (am1 (400 + j)), .int (nI (gd_k ((sg_gu σ1).2 j))), .int (gd_h ((sg_gu σ1).2 j))] H3 := by
                have h9 := (hR2.2.2.2.2.2.1.1.2 j (show j < (sg_gu σ1).1 by omega)).1
                rw [show ((st_gu σ1 ((sg_gu σ1).1, (sp_fresh (sg_gu σ1).2 j)))).2.2.2.1.2 j = ((sg_gu σ1).2 j) by exact sp_fresh_at _ _] at h9
                exact h9
              refine nw_cast C (ci := 10) rfl (hg51.is C (ci := 10) rfl) q1621 dX4_begin_91 94 rfl ?_
              refine nw_iconst C (nI 0) dX4_begin_94 (by decide) 95 rfl ?_
              refine nw_put C hg51 (by rw [a0 _ (by omega)]; exact hAg9 j (by rw [← hg1]; omega)) (T := TX11) (ty0 := tyX11) rfl in_X11 tyX11_ok nmX11 4 (by decide) q1789 (Or.inl rfl) rfl rfl rfl (Nat.le_of_ble_eq_true rfl) dX4_begin_95 98 rfl (fun H52 ho53 hz54 hq55 => ?_)
              have ho53 : nwO d (am1 (300 + j)) 10 [.int (nI (gd_a ((sg_gu σ1).2 j))), .int (nI (gd_b ((sg_gu σ1).2 j))), .int (nI (gd_s ((sg_gu σ1).2 j))), .ref (am1 (400 + j)), .int (nI 0), .int (gd_h ((sg_gu σ1).2 j))] H52 := ho53
              replace hR2 : nwMW d ro1 am1 y (st_gu σ1 ((sg_gu σ1).1, (sp_up (sp_fresh (sg_gu σ1).2 j) j (((sg_gu σ1).2 j).1, ((sg_gu σ1).2 j).2.1, 0, gd_h ((sg_gu σ1).2 j))))) th H52 := trm_pGu hR2 (k := j) (v := (((sg_gu σ1).2 j).1, ((sg_gu σ1).2 j).2.1, 0, gd_h ((sg_gu σ1).2 j))) (show j < (sg_gu σ1).1 by omega) hz54 hq55 (by show _ = (sp_fresh (sg_gu σ1).2 j j).2.1; rw [sp_fresh_at]) ho53
              have hrg9 : ro1 (am1 (300 + j)) = 5301 + j := (hR1.2.2.2.2.2.1.2.2.2 j (show j < (sg_gu σ1).1 by omega)).1
              replace hsz := Nat.le_trans hsz (Nat.le_of_eq hz54.symm)
              replace hB := Nat.le_trans hB0 hsz
              replace hE := hE.kept (fun q9 _ hb9 => hq55 q9 (fun e9 => hb9 (by rw [e9]; exact (hR1.ok0 (show ro1 (am1 (300 + j)) ≠ 0 by rw [hrg9]; omega)).1)))
              have hyb : nwO d y 9 [.int th, .int (nI (gr_w (sg_gr σ1))), .int (nI (gr_h (sg_gr σ1))), .ref (am1 9), .int (nI (gaM_f (sg_ga σ1))), .int (oI (gaM_t (sg_ga σ1))), .ref (am1 1), .ref (am1 2), .ref (am1 3), .ref (am1 4), .int (nI (wo_s (sg_wo σ1))), .int (nI (wo_m (sg_wo σ1))), .int (nI (sp_after (wo_x (sg_wo σ1)))), .ref (am1 11), .ref (am1 12), .int (nI (sg_ri σ1)), .ref (am1 8), .ref (am1 5), .ref (am1 6), .int (nI (sg_rf σ1))] H52 := hR2.2.1.1
              have hlb : nwLi d (am1 3) (sg_gu σ1).1 (fun k => am1 (300 + k)) (fun q => ro1 q = 7004) H52 := hR2.2.2.2.2.2.1.1.1
              refine nw_aload_n C 0 dX4_begin_98 rfl 99 rfl ?_
              refine nw_get C hyb (T := TX4) rfl in_X4 8 (by decide) q1630 (Or.inl rfl) rfl dX4_begin_99 102 rfl ?_
              refine nw_iload_n C 1 dX4_begin_102 rfl 103 rfl ?_
              refine nw_callF C (mJ3_get _ C.hfl d (am1 3) ((sg_gu σ1).1) (fun k => am1 (300 + k)) (fun q => ro1 q = 7004) j H52 hB hlb (by omega)) kJ3_get (ci := 13) rfl q1615 q1618 (by decide +kernel) fc_List_get (hlb.is C) (As := [.int (nI j)]) (rest := []) rfl rfl ⟨⟨Nat.le_of_ble_eq_true rfl, Nat.le_of_ble_eq_true rfl⟩, Nat.le_of_ble_eq_true rfl, Nat.le_of_ble_eq_true rfl⟩ (Nat.le_of_ble_eq_true rfl) (fun _ h8 h9 => absurd h9 (Nat.not_le.mpr h8)) dX4_begin_103 108 rfl (nw_rdK ?_) nw_noX
              have hg56 : nwO d (am1 (300 + j)) 10 [.int (nI (gd_a (((sg_gu σ1).2 j).1, ((sg_gu σ1).2 j).2.1, 0, gd_h ((sg_gu σ1).2 j)))), .int (nI (gd_b (((sg_gu σ1).2 j).1, ((sg_gu σ1).2 j).2.1, 0, gd_h ((sg_gu σ1).2 j)))), .int (nI (gd_s (((sg_gu σ1).2 j).1, ((sg_gu σ1).2 j).2.1, 0, gd_h ((sg_gu σ1).2 j)))), .ref (am1 (400 + j)), .int (nI (gd_k (((sg_gu σ1).2 j).1, ((sg_gu σ1).2 j).2.1, 0, gd_h ((sg_gu σ1).2 j)))), .int (gd_h (((sg_gu σ1).2 j).1, ((sg_gu σ1).2 j).2.1, 0, gd_h ((sg_gu σ1).2 j)))] H52 := by
                have h9 := (hR2.2.2.2.2.2.1.1.2 j (show j < (sg_gu σ1).1 by omega)).1
                rw [show ((st_gu σ1 ((sg_gu σ1).1, (sp_up (sp_fresh (sg_gu σ1).2 j) j (((sg_gu σ1).2 j).1, ((sg_gu σ1).2 j).2.1, 0, gd_h ((sg_gu σ1).2 j)))))).2.2.2.1.2 j = (((sg_gu σ1).2 j).1, ((sg_gu σ1).2 j).2.1, 0, gd_h ((sg_gu σ1).2 j)) by exact sp_up_at _ _ _] at h9
                exact h9
              refine nw_cast C (ci := 10) rfl (hg56.is C (ci := 10) rfl) q1621 dX4_begin_108 111 rfl ?_
              refine nw_iconst C (nI 0) dX4_begin_111 (by decide) 112 rfl ?_
              refine nw_put C hg56 (by rw [a0 _ (by omega)]; exact hAg9 j (by rw [← hg1]; omega)) (T := TX11) (ty0 := tyX11) rfl in_X11 tyX11_ok nmX11 5 (by decide) q1790 (Or.inl rfl) rfl rfl rfl (Nat.le_of_ble_eq_true rfl) dX4_begin_112 115 rfl (fun H57 ho58 hz59 hq60 => ?_)
              have ho58 : nwO d (am1 (300 + j)) 10 [.int (nI (gd_a (((sg_gu σ1).2 j).1, ((sg_gu σ1).2 j).2.1, 0, gd_h ((sg_gu σ1).2 j)))), .int (nI (gd_b (((sg_gu σ1).2 j).1, ((sg_gu σ1).2 j).2.1, 0, gd_h ((sg_gu σ1).2 j)))), .int (nI (gd_s (((sg_gu σ1).2 j).1, ((sg_gu σ1).2 j).2.1, 0, gd_h ((sg_gu σ1).2 j)))), .ref (am1 (400 + j)), .int (nI (gd_k (((sg_gu σ1).2 j).1, ((sg_gu σ1).2 j).2.1, 0, gd_h ((sg_gu σ1).2 j)))), .int (nI 0)] H57 := ho58
              replace hR2 : nwMW d ro1 am1 y (st_gu σ1 ((sg_gu σ1).1, (sp_up (sp_up (sp_fresh (sg_gu σ1).2 j) j (((sg_gu σ1).2 j).1, ((sg_gu σ1).2 j).2.1, 0, gd_h ((sg_gu σ1).2 j))) j (gd_fresh ((sg_gu σ1).2 j))))) th H57 := trm_pGu hR2 (k := j) (v := (gd_fresh ((sg_gu σ1).2 j))) (show j < (sg_gu σ1).1 by omega) hz59 hq60 (by show _ = (sp_up (sp_fresh (sg_gu σ1).2 j) j _ j).2.1; rw [sp_up_at]; rfl) ho58
              have hrg9 : ro1 (am1 (300 + j)) = 5301 + j := (hR1.2.2.2.2.2.1.2.2.2 j (show j < (sg_gu σ1).1 by omega)).1
              replace hsz := Nat.le_trans hsz (Nat.le_of_eq hz59.symm)
              replace hB := Nat.le_trans hB0 hsz
              replace hE := hE.kept (fun q9 _ hb9 => hq60 q9 (fun e9 => hb9 (by rw [e9]; exact (hR1.ok0 (show ro1 (am1 (300 + j)) ≠ 0 by rw [hrg9]; omega)).1)))
              rw [sp_up_up] at hR2
              replace hR2 : nwMW d ro1 am1 y (st_gu σ1 ((sg_gu σ1).1, (sp_fresh (sg_gu σ1).2 (j + 1)))) th H57 := by rw [sp_fresh_up]; exact hR2
              refine nw_iincN C 1 (c0 := 1) [(1, .int (nI (j + 1))), (0, .ref y)] dX4_begin_115 rfl (by decide) rfl 118 rfl ?_
              refine nw_goto C 68 dX4_begin_118 (by decide) ?_
              exact nw_wide (by omega) (by omega) (nw_sub [1, 0] rfl (ih_lp42 H57 (j + 1) (by omega) hsz hE hR2 (by omega)))
        exact nw_wide (by omega) (by omega) (nw_sub [1, 0] rfl (lp42 _ H36 0 (Nat.zero_le _) hsz hE (by rw [show sp_fresh (sg_gu σ1).2 0 = (sg_gu σ1).2 from funext (fun k => if_neg (Nat.not_lt_zero k))]; exact hR2) (Nat.lt_succ_self _)))
      · refine nw_aload_n C 0 dX4_begin_18 rfl 19 rfl ?_
        refine nw_get C hy2 (T := TX4) rfl in_X4 13 (by decide) q1635 (Or.inl rfl) rfl dX4_begin_19 22 rfl ?_
        refine nw_iload_n C 1 dX4_begin_22 rfl 23 rfl ?_
        refine nw_aload_n C 0 dX4_begin_23 rfl 24 rfl ?_
        refine nw_get C hy2 (T := TX4) rfl in_X4 12 (by decide) q1634 (Or.inl rfl) rfl dX4_begin_24 27 rfl ?_
        refine nw_iastN C hn2 hA11 (by omega) dX4_begin_27 28 rfl (fun H61 ho62 hz63 hq64 => ?_)
        have ho65 := hy2.kept (hq64 _ n811.symm)
        replace hqc : ∀ q9 : Nat, q9 < H.size → q9 ≠ y → q9 ≠ am 11 → H61[q9]? = H[q9]? := fun q9 g9 a1 a2 => (hq64 q9 a2).trans (hqc q9 g9 a1 a2)
        replace hsz : H.size ≤ H61.size := Nat.le_trans hsz (Nat.le_of_eq hz63.symm)
        replace hB := Nat.le_trans hB0 hsz
        replace hE := C.E0.kept (fun q9 g9 hb9 => hqc q9 g9 (fun e9 => hb9 (by rw [e9]; exact hyB)) (fun e9 => hb9 (by rw [e9]; exact hB11)))
        refine nw_aload_n C 0 dX4_begin_28 rfl 29 rfl ?_
        refine nw_aload_n C 0 dX4_begin_29 rfl 30 rfl ?_
        refine nw_get C ho65 (T := TX4) rfl in_X4 12 (by decide) q1634 (Or.inl rfl) rfl dX4_begin_30 33 rfl ?_
        refine nw_callS C (mX4_after _ C.hfl d (sp_row (wo_s (sg_wo σ)) (i + 1)) H61 hB (by first | omega | exact sp_row_b (by omega) _)) kX4_after q1603 (As := [.int (nI (sp_row (wo_s (sg_wo σ)) (i + 1)))]) (rest := [.ref y]) rfl rfl ⟨⟨Nat.le_of_ble_eq_true rfl, Nat.le_of_ble_eq_true rfl⟩, Nat.le_of_ble_eq_true rfl, Nat.le_of_ble_eq_true rfl⟩ (Nat.le_of_ble_eq_true rfl) (fun _ h8 h9 => absurd h9 (Nat.not_le.mpr h8)) dX4_begin_33 36 rfl (nw_rdK ?_) nw_noX
        refine nw_put C ho65 hAy (T := TX4) (ty0 := tyX4) rfl in_X4 tyX4_ok nmX4 12 (by decide) q1634 (Or.inl rfl) rfl rfl rfl (Nat.le_of_ble_eq_true rfl) dX4_begin_36 39 rfl (fun H66 ho67 hz68 hq69 => ?_)
        have ho67 : nwO d y 9 [.int th, .int (nI (gr_w (sg_gr σ))), .int (nI (gr_h (sg_gr σ))), .ref (am 9), .int (nI (gaM_f (sg_ga σ))), .int (oI (gaM_t (sg_ga σ))), .ref (am 1), .ref (am 2), .ref (am 3), .ref (am 4), .int (nI (wo_s (sg_wo σ))), .int (nI (wo_m (sg_wo σ))), .int (nI (sp_after (sp_row (wo_s (sg_wo σ)) (i + 1)))), .ref (am 11), .ref (am 12), .int (nI (sg_ri σ)), .ref (am 8), .ref (am 5), .ref (am 6), .int (nI (sg_rf σ))] H66 := ho67
        have ho70 := ho62.kept (hq69 _ n811)
        replace hqc : ∀ q9 : Nat, q9 < H.size → q9 ≠ y → q9 ≠ am 11 → H66[q9]? = H[q9]? := fun q9 g9 a1 a2 => (hq69 q9 a1).trans (hqc q9 g9 a1 a2)
        replace hsz : H.size ≤ H66.size := Nat.le_trans hsz (Nat.le_of_eq hz68.symm)
        replace hB := Nat.le_trans hB0 hsz
        replace hE := C.E0.kept (fun q9 g9 hb9 => hqc q9 g9 (fun e9 => hb9 (by rw [e9]; exact hyB)) (fun e9 => hb9 (by rw [e9]; exact hB11)))
        refine nw_iincN C 1 (c0 := 1) [(1, .int (nI (i + 1))), (0, .ref y)] dX4_begin_39 rfl (by decide) rfl 42 rfl ?_
        refine nw_goto C 13 dX4_begin_42 (by decide) ?_
        exact nw_wide (by omega) (by omega) (nw_sub [1, 0] rfl (ih_lp6 H66 (i + 1) (upd fz i (nI (sp_row (wo_s (sg_wo σ)) (i + 1)))) (by omega) hsz hqc ho67 ho70 (nw_hfz (fun k hk => by unfold upd; rw [if_neg (by omega)]; exact hfz k hk) (by unfold upd; rw [if_pos rfl])) (by omega)))
  exact nw_wide (by omega) (by omega) (nw_sub [1, 0] rfl (lp6 _ H1 0 (fun h => nI (wo_n (sg_wo σ) h)) (Nat.zero_le _) hsz hqc ho2 ho5 (fun k hk => absurd hk (Nat.not_lt_zero k)) (Nat.lt_succ_self _)))
