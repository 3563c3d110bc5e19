/-! ===== words, answers: the component's public methods ===== -/
section TRW
variable {d : nwD} {ro ad : Nat → Nat} {Hc Hn : Heap} {x : Nat} {s : spSg} {sm : Int64}
theorem nwWR.wr (h : nwWR d ro ad x s sm Hc) : wrWo d ro ad (sg_wo s) Hc := h.2.2.2.2.2.2.2.2.2.1
theorem rp_14 : rp 14 = 9 := by decide +kernel
theorem rp_2013 : rp 2013 = 9 := by decide +kernel
theorem tr_wl (h : nwWR d ro ad x s sm Hc) {hh ar cap : Nat} {mo : Int32} {f : Nat → Option Nat} (hB : nd_B d ≤ Hc.size) (hz : Hc.size ≤ Hn.size) (hq : ∀ q, q < Hc.size → ¬ (q = ad 11 ∨ q = ad 13 ∨ q = ad 12 ∨ ro q = 2013 ∨ Hc.size ≤ q) → Hn[q]? = Hc[q]?) (hr : nwO d (ad 13) 6 [.int (nI (sp_after (wo_x (sg_wo s))))] Hn) (hn : nwI d (ad 11) 0 4 (fun k => nI (sp_up (wo_n (sg_wo s)) hh (sp_after (wo_x (sg_wo s))) k)) Hn)
    (hL : nwLm d (ad 12) (wo_m (sg_wo s) + 1) (fun k => if k = wo_m (sg_wo s) then nd_bx d (wo_n (sg_wo s) hh) else nd_bx d (wo_o (sg_wo s) k)) (fun q => ro q = 2013 ∨ Hc.size ≤ q) mo ar cap f Hn) : ∃ ro' : Nat → Nat, nwWR d ro' ad x (st_wo s (wo_leak (sg_wo s) hh)) sm Hn ∧ ∀ q, ro q ≠ 0 → ro' q = ro q := by
  obtain ⟨⟨h1, h2, h3, h4⟩, r7, r11, r12, r13⟩ := h.wr
  have hm : nwMo d ro (fun _ => 0) Hc := fun q h => absurd rfl h
  have hk := nwRn.keep (Hn := Hn) (r2 := 2013) h.1 hm
  refine ⟨nwRn ro (fun _ => 0) Hc Hn 2013, tr_pWo h (nwRn.ok h.1 hm hz hB) hk (fun _ _ => rfl) rfl (fun q g hS _ => hq q g (fun e => ?_)) ⟨⟨?_, hr, hn, hL.to (fun q g e => nwRn.arr hm g (by decide) e) (fun k hk2 => ?_)⟩, nw_rt hk r7 (by decide), nw_rt hk r11 (by decide), nw_rt hk r12 (by decide), nw_rt hk r13 (by decide)⟩, hk⟩
  · rcases e with e | e | e | e | e
    · exact hS (by rw [e, r11]; decide +kernel)
    · exact hS (by rw [e, r13]; decide +kernel)
    · exact hS (by rw [e, r12]; decide +kernel)
    · exact hS (by rw [e]; decide +kernel)
    · omega
  · exact h1.kept (hq _ h1.lt (fun e => by
      rcases e with e | e | e | e | e
      · rw [e] at r7; omega
      · rw [e] at r7; omega
      · rw [e] at r7; omega
      · omega
      · have := h1.lt; omega))
  · show nd_bx d (sp_up (wo_o (sg_wo s)) (wo_m (sg_wo s)) (wo_n (sg_wo s) hh) k) = _
    by_cases e : k = wo_m (sg_wo s)
    · rw [if_pos e, e, sp_up_at]
    · rw [if_neg e, sp_up_ne _ _ e]
theorem tr_wb (h : nwWR d ro ad x s sm Hc) {row sd ar cap : Nat} {mo : Int32} {f : Nat → Option Nat} {es : Nat → Nat} (hB : nd_B d ≤ Hc.size) (hz : Hc.size ≤ Hn.size) (hq : ∀ q, q < Hc.size → ¬ (q = ad 7 ∨ q = ad 11 ∨ q = ad 12 ∨ ro q = 2013 ∨ Hc.size ≤ q) → Hn[q]? = Hc[q]?) (hrow : Hc.size ≤ row) (h7 : nwO d (ad 7) 5 [.int (nI sd), .ref row, .ref (ad 11), .ref (ad 12)] Hn) (hr : nwO d row 6 [.int (nI (sp_row sd 4))] Hn) (hn : nwI d (ad 11) 0 4 (fun h => nI (sp_row sd (h + 1))) Hn)
    (hL : nwLm d (ad 12) 0 es (fun q => ro q = 2013) mo ar cap f Hn) : ∃ ro' ad' : Nat → Nat, nwWR d ro' ad' x (st_wo s (sp_words sd (wo_o (sg_wo s)))) sm Hn ∧ (∀ q, ro q ≠ 0 → ro' q = ro q) ∧ (∀ q, q < Hc.size → ro' q = ro q) ∧ ∀ i, i ≠ 13 → ad' i = ad i := by
  obtain ⟨⟨h1, h2, h3, h4⟩, r7, r11, r12, r13⟩ := h.wr
  have hm : nwMo d ro (fun _ => 0) Hc := fun q h => absurd rfl h
  have hk := nwRn.keep (Hn := Hn) (r2 := 14) h.1 hm
  have hol : ∀ q, q < Hc.size → nwRn ro (fun _ => 0) Hc Hn 14 q = ro q := fun q g => by unfold nwRn; rw [if_pos rfl, if_neg (fun e => absurd g (Nat.not_lt.mpr e.1))]
  have ha : ∀ i, i ≠ 13 → sp_up ad 13 row i = ad i := fun i hi => sp_up_ne _ _ hi
  refine ⟨nwRn ro (fun _ => 0) Hc Hn 14, sp_up ad 13 row, tr_pWo h (nwRn.ok h.1 hm hz hB) hk (fun i hi => ha i (fun e => hi (by rw [e]; decide +kernel))) (ha 7 (by decide)) (fun q g hS _ => hq q g (fun e => ?_)) ⟨⟨?_, ?_, ?_, ?_⟩, ?_⟩, hk, hol, ha⟩
  · rcases e with e | e | e | e | e
    · exact hS (by rw [e, r7]; decide +kernel)
    · exact hS (by rw [e, r11]; decide +kernel)
    · exact hS (by rw [e, r12]; decide +kernel)
    · exact hS (by rw [e]; decide +kernel)
    · omega
  · rw [ha 7 (by decide), ha 11 (by decide), ha 12 (by decide), sp_up_at]; exact h7
  · rw [sp_up_at]; exact hr
  · rw [ha 11 (by decide)]; exact hn
  · rw [ha 12 (by decide)]; exact hL.to (fun q g e => nw_rt hk e (by decide)) (fun k hk2 => absurd hk2 (Nat.not_lt_zero k))
  · rw [ha 7 (by decide), ha 11 (by decide), ha 12 (by decide), sp_up_at]
    refine ⟨nw_rt hk r7 (by decide), nw_rt hk r11 (by decide), nw_rt hk r12 (by decide), ?_⟩
    unfold nwRn
    rw [if_pos rfl, if_pos ⟨hrow, hr.lt⟩]
/-- cells of the words are apart -/
theorem nwWR.wne (h : nwWR d ro ad x s sm Hc) : (ad 7 ≠ ad 11 ∧ ad 7 ≠ ad 13 ∧ ad 7 ≠ ad 12 ∧ ad 11 ≠ ad 13 ∧ ad 11 ≠ ad 12 ∧ ad 13 ≠ ad 12) ∧ (¬ ro (ad 7) = 2013 ∧ ¬ ro (ad 11) = 2013 ∧ ¬ ro (ad 13) = 2013 ∧ ¬ ro (ad 12) = 2013) ∧ (nd_B d ≤ ad 7 ∧ nd_B d ≤ ad 11 ∧ nd_B d ≤ ad 13 ∧ nd_B d ≤ ad 12) := by
  obtain ⟨-, r7, r11, r12, r13⟩ := h.wr
  refine ⟨⟨fun e => ?_, fun e => ?_, fun e => ?_, fun e => ?_, fun e => ?_, fun e => ?_⟩, ⟨by omega, by omega, by omega, by omega⟩, (h.ok0 (by omega)).1, (h.ok0 (by omega)).1, (h.ok0 (by omega)).1, (h.ok0 (by omega)).1⟩
  · rw [e] at r7; omega
  · rw [e] at r7; omega
  · rw [e] at r7; omega
  · rw [e] at r11; omega
  · rw [e] at r11; omega
  · rw [e] at r13; omega
theorem okWo.begin {s : Nat} (h : s < 100) (o : Nat → Nat) : okWo (sp_words s o) := ⟨⟨h, sp_row_lt s 3, Nat.zero_le _⟩, fun k _ => sp_row_lt s k, fun k hk => absurd hk (Nat.not_lt_zero k)⟩
theorem okWo.leak {w : spWo} (h : okWo w) (hm : wo_m w < 8) {hh : Nat} (hh4 : hh < 4) : okWo (wo_leak w hh) := ⟨⟨h.1.1, sp_after_lt _, hm⟩, sp_up_all (Q := fun z => z < 97) h.2.1 (sp_after_lt _), sp_up_lt (Q := fun z => z < 97) h.2.2 (h.2.1 hh hh4)⟩
end TRW
section TRW2
variable {d : nwD} {ro ad : Nat → Nat} {H : Heap} {x : Nat} {s : spSg} {sm : Int64}
theorem nwAC_r {q r : Nat} (h : ro q = r) (hr : 1 ≤ rp r ∧ rp r ≤ 10) : nwAC ro H q := Or.inl (by rw [h]; exact hr)
theorem nwAC_wl (h : nwWR d ro ad x s sm H) : ∀ q8, q8 < H.size → (q8 = ad 11 ∨ q8 = ad 13 ∨ q8 = ad 12 ∨ ro q8 = 2013 ∨ H.size ≤ q8) → nwAC ro H q8 := by
  obtain ⟨-, r7, r11, r12, r13⟩ := h.wr
  intro q h8 h9
  rcases h9 with e | e | e | e | e
  · rw [e]; exact nwAC_r r11 (by decide +kernel)
  · rw [e]; exact nwAC_r r13 (by decide +kernel)
  · rw [e]; exact nwAC_r r12 (by decide +kernel)
  · exact nwAC_r e (by decide +kernel)
  · exact Or.inr e
theorem nwAC_wb (h : nwWR d ro ad x s sm H) : ∀ q8, q8 < H.size → (q8 = ad 7 ∨ q8 = ad 11 ∨ q8 = ad 12 ∨ ro q8 = 2013 ∨ H.size ≤ q8) → nwAC ro H q8 := by
  obtain ⟨-, r7, r11, r12, r13⟩ := h.wr
  intro q h8 h9
  rcases h9 with e | e | e | e | e
  · rw [e]; exact nwAC_r r7 (by decide +kernel)
  · rw [e]; exact nwAC_r r11 (by decide +kernel)
  · rw [e]; exact nwAC_r r12 (by decide +kernel)
  · exact nwAC_r e (by decide +kernel)
  · exact Or.inr e
end TRW2
theorem st_gu_fresh0 (s : spSg) : st_gu s ((sg_gu s).1, sp_fresh (sg_gu s).2 0) = s := by
  have e : sp_fresh (sg_gu s).2 0 = (sg_gu s).2 := by funext k; exact if_neg (Nat.not_lt_zero k)
  rw [e]; rfl
theorem okGd.fresh {g : spGr} {u : spGd} (h : okGd g u) : okGd g (gd_fresh u) := ⟨⟨h.1.1, h.1.2.1, h.1.2.2.1, h.1.2.2.2.1, h.1.2.2.2.2.1, h.1.2.2.2.2.2.1, Nat.zero_le _⟩, h.2⟩
theorem okGu.fresh {g : spGr} {gu : spGu} (h : okGu g gu) : okGu g (gu.1, sp_fresh gu.2 gu.1) := ⟨h.1, fun k hk => by
  show okGd g (sp_fresh gu.2 gu.1 k)
  unfold sp_fresh
  rw [if_pos hk]
  exact (h.2 k hk).fresh⟩
theorem wo_answer_ok {g : spGr} {w : spWo} {u : spGd} {h : Nat} {v : Int32} (hu : okGd g u) : okGd g (wo_answer w u h v).2 ∧ (wo_answer w u h v).1 < 5 ∧ (wo_answer w u h v).2.2.1 = u.2.1 ∧ (wo_answer w u h v).2.1 = u.1 := by
  have hj : sp_judge w u h v < 4 := by unfold sp_judge; split <;> split <;> omega
  unfold wo_answer
  split
  · exact ⟨hu, by show 4 < 5; omega, rfl, rfl⟩
  · rename_i h3
    split
    · exact ⟨⟨hu.1, hu.2⟩, by show 0 < 5; omega, rfl, rfl⟩
    · refine ⟨⟨⟨hu.1.1, hu.1.2.1, hu.1.2.2.1, hu.1.2.2.2.1, hu.1.2.2.2.2.1, hu.1.2.2.2.2.2.1, ?_⟩, hu.2⟩, by show sp_judge w u h v < 5; omega, rfl, rfl⟩
      have h4 := hu.1.2.2.2.2.2.2
      show gd_k u + 1 ≤ 3
      omega
theorem tr_pGu1 {d : nwD} {ro ad : Nat → Nat} {Hc Hn : Heap} {x : Nat} {s : spSg} {sm : Int64} (h : nwWR d ro ad x s sm Hc) {k : Nat} {v : spGd} (hk : k < (sg_gu s).1) (hz : Hc.size ≤ Hn.size) (hq : ∀ q, q < Hc.size → q ≠ ad (300 + k) → Hn[q]? = Hc[q]?) (hv : v.2.1 = ((sg_gu s).2 k).2.1) (ho : nwO d (ad (300 + k)) 4 [.int (nI (gd_a v)), .int (nI (gd_b v)), .int (nI (gd_s v)), .ref (ad (400 + k)), .int (nI (gd_k v)), .int (gd_h v)] Hn) : nwWR d ro ad x (st_gu s ((sg_gu s).1, sp_up (sg_gu s).2 k v)) sm Hn := by
  obtain ⟨h1, hb, r1, r2⟩ := h.2.2.2.2.2.1
  have rk := (r2 k hk).1
  refine h.upd (fun p => p == 5) (fun q g => ⟨(h.1 q g).1, Nat.lt_of_lt_of_le (h.1 q g).2 hz⟩) (fun _ _ => rfl) (fun _ _ => rfl) (fun _ _ _ => rfl) (fun q g hS h0 => hq q g (fun e2 => ?_)) ⟨Or.inr ⟨rfl, rfl, rfl, rfl⟩, Or.inr rfl, Or.inr rfl, Or.inr rfl, Or.inl rfl, Or.inr rfl, Or.inr rfl, Or.inr rfl, Or.inr rfl, Or.inr rfl⟩ ⟨fun h => absurd h (by decide), fun h => absurd h (by decide), fun h => absurd h (by decide), fun h => absurd h (by decide), fun _ => ⟨⟨?_, fun j hj => ?_⟩, hb, r1, r2⟩, fun h => absurd h (by decide), fun h => absurd h (by decide), fun h => absurd h (by decide), fun h => absurd h (by decide), fun h => absurd h (by decide)⟩
  · rw [e2, rk, rp_301 k (by omega)] at hS; exact absurd hS (by decide)
  · exact h1.1.go (fun _ _ e => e) (hq _ h1.1.lt (fun e => by rw [e] at r1; omega)) (fun q g e => hq q g (fun e2 => by rw [e2] at e; omega)) (fun _ _ => rfl)
  · show nwGd d (ad (300 + j)) (ad (400 + j)) (fun q => ro q = 2401 + j) (sp_up (sg_gu s).2 k v j) Hn
    have hj2 : j < (sg_gu s).1 := hj
    have hj3 : nwGd d (ad (300 + j)) (ad (400 + j)) (fun q => ro q = 2401 + j) ((sg_gu s).2 j) Hc := h1.2 j hj
    obtain ⟨rj, rj2⟩ := r2 j hj
    have hl := hj3.2.go (P' := fun q => ro q = 2401 + j) (fun _ _ e => e) (hq _ hj3.2.lt (fun e => by rw [e] at rj2; omega)) (fun q g e => hq q g (fun e2 => by rw [e2] at e; omega)) (fun _ _ => rfl)
    by_cases e : j = k
    · subst e; rw [sp_up_at]; exact ⟨ho, by show nwLi d (ad (400 + j)) v.2.1.1 (fun k => nd_bx d (v.2.1.2 k)) _ Hn; rw [hv]; exact hl⟩
    · rw [sp_up_ne _ _ e]
      exact ⟨hj3.1.kept (hq _ hj3.1.lt (fun e2 => by rw [e2] at rj; omega)), hl⟩
theorem kX2_isSpent : nwPV "NightwatchWall$Words" yX2_isSpent cX2_isSpent 1 (some .boolean) 0 := ⟨⟨q1129, q1130, q91, q1131⟩, rfl, by decide +kernel, by decide +kernel, by decide +kernel⟩
theorem kX2_leak : nwPV "NightwatchWall$Words" yX2_leak cX2_leak 2 (some .int) 1 := ⟨⟨q1134, q1135, q91, q1136⟩, rfl, by decide +kernel, by decide +kernel, by decide +kernel⟩
theorem kX2_begin : nwPV "NightwatchWall$Words" yX2_begin cX2_begin 3 none 1 := ⟨⟨q178, q179, q91, q180⟩, rfl, by decide +kernel, by decide +kernel, by decide +kernel⟩
theorem kX1_forgetAnswers : nwPV "NightwatchWall" yX1_forgetAnswers cX1_forgetAnswers 3 none 0 := ⟨⟨q1119, qs39, q86, q1120⟩, rfl, by decide +kernel, by decide +kernel, by decide +kernel⟩
theorem kX1_hourOf : nwPS yX1_hourOf cX1_hourOf 1 (some .int) 1 := ⟨⟨q1147, q86, q1148⟩, by decide +kernel, by decide +kernel, by decide +kernel⟩
theorem kX2_answer : nwPV "NightwatchWall$Words" yX2_answer cX2_answer 4 (some .int) 3 := ⟨⟨q1150, q1151, q91, q1152⟩, rfl, by decide +kernel, by decide +kernel, by decide +kernel⟩
set_option maxHeartbeats 4000000 in
theorem mX1_leak (l : Launch) (hf : l.flags = flags0) (d : nwD) (ro ad : Nat → Nat) (x : Nat) (σ : spSg) (sm : Int64) (hr : Int32) (H : Heap) (hB : nd_B d ≤ H.size) (hR : nwWR d ro ad x σ sm H) (ok : spOk σ) : nwMt l d yX1_leak cX1_leak 2 (some .int) 7 129 4 40 [.ref x, .int hr] H (nwCv d ro x sm (op_leak σ hr) H) (nwRx ((op_leak σ hr).1, 0) [cIA, cIS] H) (nwAC ro H) := by
  refine nw_start "NightwatchWall" "leak" hf (by decide +kernel) rfl rfl (fun _ h => Or.inr h) (nwAC_B hR hB) (Nat.le_of_ble_eq_true rfl) ?_
  intro X C
  have hW := hR.wc
  have hrx0 := hR.2.1.2
  have hW0 := hW
  have hB0 := hB
  have hE := C.E0
  have hext : nwExt H H := nwExt.rfl
  obtain ⟨hx, hcG, hcLa, hcFo, hcGu, hcPo, hcIn, hcWi, hcWo, hcKe⟩ := id hW
  obtain ⟨okg, okl, okf, oku, okp, oki, okw, okd, okk, oka⟩ := id ok
  have hn64 : gr_n (sg_gr σ) ≤ 64 := okg.n
  have oku1 := oku.1
  have oki1 := oki.1
  have okp1 := okp.1
  have okw1 := okw.1
  have okl1 := okl.1
  have okf1 := okf.1
  show nwV X _ _ 2 H 0 0 0 [(0, .ref x), (1, .int hr)] []
  refine nw_iconst C (nI 0) dX1_leak_0 (by decide) 1 rfl ?_
  refine nw_iconst C (nI 3) dX1_leak_1 (by decide) 2 rfl ?_
  refine nw_iload_n C 1 dX1_leak_2 rfl 3 rfl ?_
  refine nw_callS C (mX1_isFromR _ C.hfl d (nI 0) (nI 3) hr H hB) kX1_isFrom q579 (As := [.int (nI 0), .int (nI 3), .int hr]) (rest := []) rfl rfl ⟨⟨Nat.le_of_ble_eq_true rfl, Nat.le_of_ble_eq_true rfl⟩, Nat.le_of_ble_eq_true rfl, Nat.le_of_ble_eq_true rfl⟩ (Nat.le_of_ble_eq_true rfl) (fun _ h8 h9 => absurd h9 (Nat.not_le.mpr h8)) dX1_leak_3 6 rfl (nw_rdK ?_) nw_noX
  show nwV X _ _ 2 H 0 0 6 [(0, .ref x), (1, .int hr)] [.int (b2i (nw_rg 0 3 hr))]
  refine nw_callS C (mX1_require _ C.hfl d (nw_rg 0 3 hr) H hB) kX1_require q655 (As := [.int (b2i (nw_rg 0 3 hr))]) (rest := []) rfl rfl ⟨⟨Nat.le_of_ble_eq_true rfl, Nat.le_of_ble_eq_true rfl⟩, (show 0 + 1 ≤ 4 by omega), (show 0 + 6 ≤ 40 by omega)⟩ (Nat.le_of_ble_eq_true rfl) (fun _ h8 h9 => absurd h9 (Nat.not_le.mpr h8)) dX1_leak_6 9 rfl ?_ ?_
  rotate_left
  · intro E9 w9 H1 hR2 hz3 hq4
    obtain ⟨rfl, hb5, hx6⟩ := hR2
    exact nw_out C (show (0 + 1) ≤ 4 by omega) (show (0 + 6) ≤ 40 by omega) ⟨⟨0, by simp [op_leak, hb5], rfl⟩, hext.trans hx6⟩
  intro v9 H1 hR2 hz3 hq4
  obtain ⟨rfl, hb7, rfl⟩ := hR2
  obtain ⟨hn, hk8, rfl⟩ := nw_rg_nat (by decide) (by decide) hb7
  have en_hn : nw_nn (nI hn) = hn := nw_nn_nI (by omega)
  show nwV X _ _ 2 H (0 + 1) (0 + 6) 9 [(0, .ref x), (1, .int (nI hn))] []
  refine nw_wide (k' := 1) (n' := 6) (by omega) (by omega) ?_
  refine nw_aload_n C 0 dX1_leak_9 rfl 10 rfl ?_
  refine nw_get C hx (T := TX1) rfl in_X1 7 (by decide) q228 (Or.inl rfl) rfl dX1_leak_10 13 rfl ?_
  refine nw_callV C (mX2_isSpent _ C.hfl d (ad 7) (ad 13) (ad 11) (ad 12) (fun q => ro q = 2013) (sg_wo σ) H hB hcWo.1 hcWo.2.1 hcWo.2.2.1 hcWo.2.2.2 okd) kX2_isSpent q1128 (hcWo.1.is C (ci := 5) rfl) (As := []) (rest := []) rfl rfl ⟨⟨Nat.le_of_ble_eq_true rfl, Nat.le_of_ble_eq_true rfl⟩, Nat.le_of_ble_eq_true rfl, Nat.le_of_ble_eq_true rfl⟩ (Nat.le_of_ble_eq_true rfl) (fun _ h8 h9 => absurd h9 (Nat.not_le.mpr h8)) dX1_leak_13 16 rfl (nw_rdK ?_) nw_noX
  refine nw_ifneB C 23 dX1_leak_16 (by decide) 19 rfl (fun h9 => ?_) (fun h9 => ?_)
  · have h9 := of_decide_eq_true h9
    refine nw_iconst C (nI 0) dX1_leak_23 (by decide) 24 rfl ?_
    refine nw_callS C (mX1_requireState _ C.hfl d false H hB) kX1_requireState q832 (As := [.int (b2i false)]) (rest := []) rfl rfl ⟨⟨Nat.le_of_ble_eq_true rfl, Nat.le_of_ble_eq_true rfl⟩, (show 1 + 1 ≤ 4 by omega), (show 6 + 6 ≤ 40 by omega)⟩ (Nat.le_of_ble_eq_true rfl) (fun _ h8 h9 => absurd h9 (Nat.not_le.mpr h8)) dX1_leak_24 27 rfl ?_ ?_
    rotate_left
    · intro E9 w9 H10 hR11 hz12 hq13
      obtain ⟨rfl, hb14, hx15⟩ := hR11
      exact nw_out C (show (1 + 1) ≤ 4 by omega) (show (6 + 6) ≤ 40 by omega) ⟨⟨1, by simp [op_leak, h9, en_hn, hb7, hb14], rfl⟩, hext.trans hx15⟩
    intro v9 H10 hR11 hz12 hq13
    obtain ⟨rfl, hb16, rfl⟩ := hR11
    cases hb16
  · have h9 := of_decide_eq_false h9
    refine nw_iconst C (nI 1) dX1_leak_19 (by decide) 20 rfl ?_
    refine nw_goto C 24 dX1_leak_20 (by decide) ?_
    refine nw_callS C (mX1_requireStateT _ C.hfl d H hB) kX1_requireState q832 (As := [.int (b2i true)]) (rest := []) rfl rfl ⟨⟨Nat.le_of_ble_eq_true rfl, Nat.le_of_ble_eq_true rfl⟩, Nat.le_of_ble_eq_true rfl, Nat.le_of_ble_eq_true rfl⟩ (Nat.le_of_ble_eq_true rfl) (fun _ h8 h9 => absurd h9 (Nat.not_le.mpr h8)) dX1_leak_24 27 rfl (nw_rdK ?_) nw_noX
    have hm9 : wo_m (sg_wo σ) < 8 := by have := okd.1.2.2; omega
    refine nw_aload_n C 0 dX1_leak_27 rfl 28 rfl ?_
    refine nw_get C hx (T := TX1) rfl in_X1 7 (by decide) q228 (Or.inl rfl) rfl dX1_leak_28 31 rfl ?_
    refine nw_iload_n C 1 dX1_leak_31 rfl 32 rfl ?_
    have hRc := hR.ext hext
    obtain ⟨hwne, hwnP, hwB⟩ := nwWR.wne hR
    have hAq : ∀ q8, q8 < H.size → (q8 = ad 11 ∨ q8 = ad 13 ∨ q8 = ad 12 ∨ ro q8 = 2013 ∨ H.size ≤ q8) → nwAC ro H q8 := nwAC_wl hR
    refine nw_callV C (mX2_leak _ C.hfl d (ad 7) (ad 13) (ad 11) (ad 12) (fun q => ro q = 2013) (sg_wo σ) hn H hB hcWo.1 hcWo.2.1 hcWo.2.2.1 hcWo.2.2.2 okd hm9 ⟨hwB.2.1, hwB.2.2.1, hwB.2.2.2⟩ (fun q9 e9 => (hR.ok0 (show ro q9 ≠ 0 by rw [e9]; decide)).1) (fun q9 e9 => (hR.ok0 (show ro q9 ≠ 0 by rw [e9]; decide)).2) hwne ⟨hwnP.1, hwnP.2.1, hwnP.2.2.1, hwnP.2.2.2⟩ (by omega)) kX2_leak q1133 (hcWo.1.is C (ci := 5) rfl) (As := [.int (nI hn)]) (rest := []) rfl rfl ⟨⟨Nat.le_of_ble_eq_true rfl, Nat.le_of_ble_eq_true rfl⟩, (show 1 + 1 ≤ 4 by omega), (show 6 + 10 ≤ 40 by omega)⟩ (Nat.le_of_ble_eq_true rfl) hAq dX1_leak_32 35 rfl (fun v9 H17 hR18 hz19 hq20 => ?_) nw_noX
    obtain ⟨rfl, hr8, hn8, mo8, ar8, cap8, f8, hL8⟩ := hR18
    obtain ⟨ro1, hR1, hk1⟩ := tr_wl hRc hB hz19 hq20 hr8 hn8 hL8
    obtain ⟨ad1, had1⟩ : ∃ t9 : Nat → Nat, t9 = ad := ⟨_, rfl⟩
    rw [← had1] at hR1
    obtain ⟨σ1, hσ1⟩ : ∃ t9 : spSg, t9 = st_wo σ (wo_leak (sg_wo σ) hn) := ⟨_, rfl⟩
    rw [← hσ1] at hR1
    have hE := hE.kept (fun q9 g9 hb9 => hq20 q9 g9 (fun h9 => hb9 (C.hB q9 (hAq q9 g9 h9))))
    have hsz : H.size ≤ H17.size := Nat.le_trans hext.1 hz19
    have hB := Nat.le_trans hB0 hsz
    have ok : spOk σ1 := by rw [hσ1]; exact ⟨okg, okl, okf, oku, okp, oki, okw, okd.leak hm9 (by omega), okk, oka⟩
    have hR := hR1
    have hW := hR.wc
    obtain ⟨hx, hcG, hcLa, hcFo, hcGu, hcPo, hcIn, hcWi, hcWo, hcKe⟩ := id hW
    obtain ⟨okg, okl, okf, oku, okp, oki, okw, okd, okk, oka⟩ := id ok
    have hn64 : gr_n (sg_gr σ1) ≤ 64 := okg.n
    have oku1 := oku.1
    have oki1 := oki.1
    have okp1 := okp.1
    have okw1 := okw.1
    have okl1 := okl.1
    have okf1 := okf.1
    show nwV X _ _ 2 H17 (1 + 1) (6 + 10) 35 [(0, .ref x), (1, .int (nI hn))] [.int (nI (sp_after (wo_x (sg_wo σ))))]
    refine nw_wide (k' := 2) (n' := 16) (by omega) (by omega) ?_
    have hop : op_leak σ (nI hn) = (0, nI (sp_after (wo_x (sg_wo σ))), σ1) := by rw [hσ1]; simp [op_leak, h9, en_hn, hb7]
    exact nw_iret C dX1_leak_35 (by omega) (by omega) (by rw [hop]; exact ⟨⟨rfl, congrArg (fun z => some (Value.int z)) rfl⟩, ok, hsz, ro1, ad1, hR, hk1⟩)
set_option maxHeartbeats 4000000 in
theorem mX1_forgetAnswers (l : Launch) (hf : l.flags = flags0) (d : nwD) (ro ad : Nat → Nat) (x : Nat) (σ : spSg) (sm : Int64) (H : Heap) (hB : nd_B d ≤ H.size) (hR : nwWR d ro ad x σ sm H) (ok : spOk σ) : nwMt l d yX1_forgetAnswers cX1_forgetAnswers 3 none 3 62 1 4 [.ref x] H (fun v H1 => v = none ∧ nwWR d ro ad x (st_forget σ) sm H1) nwNo (nwAC ro H) := by
  refine nw_start "NightwatchWall" "forgetAnswers" hf (by decide +kernel) rfl rfl (fun _ h => Or.inr h) (nwAC_B hR hB) (Nat.le_of_ble_eq_true rfl) ?_
  intro X C
  have hW := hR.wc
  have hrx0 := hR.2.1.2
  obtain ⟨mo3, ar3, cap3, f3, hLm3⟩ := nwLi_m hW.2.2.2.2.1.1
  have hW0 := hW
  have hLm30 := hLm3
  have hB0 := hB
  have hE := C.E0
  have hext : nwExt H H := nwExt.rfl
  obtain ⟨hx, hcG, hcLa, hcFo, hcGu, hcPo, hcIn, hcWi, hcWo, hcKe⟩ := id hW
  obtain ⟨okg, okl, okf, oku, okp, oki, okw, okd, okk, oka⟩ := id ok
  have hn64 : gr_n (sg_gr σ) ≤ 64 := okg.n
  have oku1 := oku.1
  have oki1 := oki.1
  have okp1 := okp.1
  have okw1 := okw.1
  have okl1 := okl.1
  have okf1 := okf.1
  show nwV X _ _ 3 H 0 0 0 [(0, .ref x)] []
  refine nw_aload_n C 0 dX1_forgetAnswers_0 rfl 1 rfl ?_
  refine nw_get C hx (T := TX1) rfl in_X1 3 (by decide) q224 (Or.inl rfl) rfl dX1_forgetAnswers_1 4 rfl ?_
  refine nw_callV C (mJ3_iterator _ C.hfl d (ad 3) ((sg_gu σ).1) (fun k => ad (300 + k)) (fun q => ro q = 2004) mo3 ar3 cap3 f3 H hB hLm3) kJ3_iterator q299 (hcGu.1.is C) (As := []) (rest := []) rfl rfl ⟨⟨Nat.le_of_ble_eq_true rfl, Nat.le_of_ble_eq_true rfl⟩, (show 0 + 1 ≤ 1 by omega), (show 0 + 4 ≤ 4 by omega)⟩ (Nat.le_of_ble_eq_true rfl) (fun _ h8 h9 => absurd h9 (Nat.not_le.mpr h8)) dX1_forgetAnswers_4 7 rfl (fun v9 H1 hR2 hz3 hq4 => ?_) nw_noX
  obtain ⟨⟨it5, rfl, hn6, hi7⟩, -⟩ := hR2
  have hn8 : H.size ≤ it5 := (Nat.le_trans hext.1 hn6)
  have hext := hext.call hz3 hq4
  have hW := hW0.ext hext.2
  have hLm3 := hLm30.ext hext.2
  have hE := C.E0.ext hext.2
  have hB := Nat.le_trans hB0 hext.1
  obtain ⟨hx, hcG, hcLa, hcFo, hcGu, hcPo, hcIn, hcWi, hcWo, hcKe⟩ := id hW
  obtain ⟨okg, okl, okf, oku, okp, oki, okw, okd, okk, oka⟩ := id ok
  have hn64 : gr_n (sg_gr σ) ≤ 64 := okg.n
  have oku1 := oku.1
  have oki1 := oki.1
  have okp1 := okp.1
  have okw1 := okw.1
  have okl1 := okl.1
  have okf1 := okf.1
  show nwV X _ _ 3 H1 (0 + 1) (0 + 4) 7 [(0, .ref x)] [.ref it5]
  refine nw_wide (k' := 1) (n' := 4) (by omega) (by omega) ?_
  refine nw_astore_n C [(1, .ref it5), (0, .ref x)] dX1_forgetAnswers_7 (by decide) rfl 8 rfl ?_
  have hit0 : ro it5 = 0 := nwWR.new0 hR hn8
  have hr3 : ro (ad 3) = 4 := hR.2.2.2.2.2.1.2.2.1
  have h3it : ad 3 ≠ it5 := fun e9 => by rw [e9, hit0] at hr3; omega
  have lp9 : ∀ (fu : Nat) (H2 : Heap) (j : Nat) (lr : Int32), (j ≤ (sg_gu σ).1) → (H.size ≤ H2.size) → (nwWR d ro ad x (st_gu σ ((sg_gu σ).1, sp_fresh (sg_gu σ).2 j)) sm H2) → (nwO d it5 14 [.int (nI j), .int lr, .int mo3, .ref (ad 3)] H2) → (nwLm d (ad 3) (sg_gu σ).1 (fun k => ad (300 + k)) (fun q => ro q = 2004) mo3 ar3 cap3 f3 H2) → (sg_gu σ).1 - j < fu → nwV X (nwAC ro H) (nwQE X (fun v H1 => v = none ∧ nwWR d ro ad x (st_forget σ) sm H1) nwNo (nwAC ro H) 1 4) 3 H2 1 4 8 [(0, .ref x), (1, .ref it5)] [] := by
    intro fu
    induction fu with
    | zero => intro H2 j lr _ _ _ _ _ hm; exact absurd hm (Nat.not_lt_zero _)
    | succ fu ih_lp9 =>
      intro H2 j lr hj hsz hR2 hit hLm hm
      have hB := Nat.le_trans hB0 hsz
      refine nw_aload_n C 1 dX1_forgetAnswers_8 rfl 9 rfl ?_
      refine nw_callG C (mJ13_hasNext _ C.hfl d (ad 3) ((sg_gu σ).1) (fun k => ad (300 + k)) (fun q => ro q = 2004) mo3 ar3 cap3 f3 it5 j lr H2 hB hLm hit (by omega)) kJ13_hasNext (ci := 14) rfl q323 q327 (by decide +kernel) fc_Iterator_hasNext (hit.is C (ci := 14) rfl) (As := []) (rest := []) rfl rfl ⟨⟨Nat.le_of_ble_eq_true rfl, Nat.le_of_ble_eq_true rfl⟩, Nat.le_of_ble_eq_true rfl, Nat.le_of_ble_eq_true rfl⟩ (Nat.le_of_ble_eq_true rfl) (fun _ h8 h9 => absurd h9 (Nat.not_le.mpr h8)) dX1_forgetAnswers_9 14 rfl (nw_rdK ?_) nw_noX
      refine nw_ifeqB C 40 dX1_forgetAnswers_14 (by decide) 17 rfl (fun h10 => ?_) (fun h10 => ?_)
      · have h10 := of_decide_eq_false h10
        refine nw_aload_n C 0 dX1_forgetAnswers_40 rfl 41 rfl ?_
        refine nw_iconst C (nI 0) dX1_forgetAnswers_41 (by decide) 42 rfl ?_
        refine nw_put C hR2.2.1.1 (Or.inl (by rw [hrx0]; decide +kernel)) (T := TX1) (ty0 := tyX1) rfl in_X1 tyX1_ok nmX1 11 (by decide) q232 (Or.inl rfl) rfl rfl rfl (Nat.le_of_ble_eq_true rfl) dX1_forgetAnswers_42 45 rfl (fun H11 ho12 hz13 hq14 => ?_)
        have ho12 : nwO d x 0 [.ref (ad 0), .ref (ad 1), .ref (ad 2), .ref (ad 3), .ref (ad 4), .ref (ad 5), .ref (ad 6), .ref (ad 7), .ref (ad 8), .int (nI (ga_f (sg_ga σ))), .int (nI (ga_t (sg_ga σ))), .int (nI 0), .int (nI (sg_rf σ)), .long sm] H11 := ho12
        have hjn : j = (sg_gu σ).1 := by omega
        subst hjn
        have hR2 := tr_pX hR2 (t := st_forget σ) (sm' := sm) hz13 hq14 ⟨Or.inl rfl, Or.inr rfl, Or.inr rfl, Or.inr rfl, Or.inr rfl, Or.inr rfl, Or.inr rfl, Or.inr rfl, Or.inr rfl, Or.inr rfl⟩ ho12
        have hsz : H.size ≤ H11.size := by rw [hz13]; exact hsz
        exact nw_vret C dX1_forgetAnswers_45 (by omega) (by omega) ⟨rfl, hR2⟩
      · have h10 := of_decide_eq_true h10
        refine nw_aload_n C 1 dX1_forgetAnswers_17 rfl 18 rfl ?_
        refine nw_callG C (mJ13_next _ C.hfl d it5 (ad 3) (sg_gu σ).1 (fun k => ad (300 + k)) (fun q => ro q = 2004) mo3 ar3 cap3 f3 j lr H2 hB (Nat.le_trans hB0 hn8) hit hLm (by omega) (fun g9 e9 => by have p8 : ro ar3 = 2004 := hLm.2.1 g9; rw [e9, hit0] at p8; omega) h3it) kJ13_next (ci := 14) rfl q333 q336 (by decide +kernel) fc_Iterator_next (hit.is C (ci := 14) rfl) (As := []) (rest := []) rfl rfl ⟨⟨Nat.le_of_ble_eq_true rfl, Nat.le_of_ble_eq_true rfl⟩, (show 1 + 0 ≤ 1 by omega), (show 4 + 0 ≤ 4 by omega)⟩ (Nat.le_of_ble_eq_true rfl) (fun q8 h8 h9 => h9.elim (fun e9 => by rw [e9]; exact (Or.inr hn8)) (fun e9 => absurd h8 (Nat.not_lt.mpr e9))) dX1_forgetAnswers_18 23 rfl (fun v9 H15 hR16 hz17 hq18 => ?_) nw_noX
        obtain ⟨rfl, hit⟩ := hR16
        have hR2 := hR2.kp hz17 (fun q9 g9 e8 => hq18 q9 g9 (fun e9 => e9.elim (fun e9 => e8 (by rw [e9]; exact hit0)) (Nat.not_le.mpr g9)))
        have hLm := hLm.kp (hq18 _ hLm.lt (fun e9 => e9.elim h3it (Nat.not_le.mpr hLm.lt))) (fun q9 p9 g9 => hq18 q9 g9 (fun e9 => e9.elim (fun e9 => by have p8 : ro q9 = 2004 := p9; rw [e9, hit0] at p8; omega) (Nat.not_le.mpr g9)))
        have hsz := Nat.le_trans hsz hz17
        have hB := Nat.le_trans hB0 hsz
        have hu9 : sp_fresh (sg_gu σ).2 j j = (sg_gu σ).2 j := if_neg (Nat.lt_irrefl _)
        have hg9 : nwGd d (ad (300 + j)) (ad (400 + j)) (fun q => ro q = 2401 + j) (sp_fresh (sg_gu σ).2 j j) H15 := hR2.2.2.2.2.2.1.1.2 j (by show j < (sg_gu σ).1; omega)
        rw [hu9] at hg9
        have hg8 : nwO d (ad (300 + j)) 4 [.int (nI (gd_a ((sg_gu σ).2 j))), .int (nI (gd_b ((sg_gu σ).2 j))), .int (nI (gd_s ((sg_gu σ).2 j))), .ref (ad (400 + j)), .int (nI (gd_k ((sg_gu σ).2 j))), .int (gd_h ((sg_gu σ).2 j))] H15 := hg9.1
        show nwV X _ _ 3 H15 (1 + 0) (4 + 0) 23 [(0, .ref x), (1, .ref it5)] [.ref (ad (300 + j))]
        refine nw_wide (k' := 1) (n' := 4) (by omega) (by omega) ?_
        refine nw_cast C (ci := 4) rfl (hg8.is C (ci := 4) rfl) q369 dX1_forgetAnswers_23 26 rfl ?_
        refine nw_astore_n C [(2, .ref (ad (300 + j))), (0, .ref x), (1, .ref it5)] dX1_forgetAnswers_26 (by decide) rfl 27 rfl ?_
        refine nw_aload_n C 0 dX1_forgetAnswers_27 rfl 28 rfl ?_
        refine nw_iconst C (nI 0) dX1_forgetAnswers_28 (by decide) 29 rfl ?_
        refine nw_putN C hg8 (Or.inl (by rw [show ro (ad (300 + j)) = 301 + j from (hR.2.2.2.2.2.1.2.2.2 j (by omega)).1, rp_301 j (by omega)]; decide)) (T := TX10) (ty0 := tyX10) rfl in_X10 tyX10_ok nmX10 4 (by decide) q1030 rfl rfl rfl rfl (Nat.le_of_ble_eq_true rfl) dX1_forgetAnswers_29 32 rfl (fun H19 ho20 hz21 hq22 => ?_)
        have ho20 : nwO d (ad (300 + j)) 4 [.int (nI (gd_a ((sg_gu σ).2 j))), .int (nI (gd_b ((sg_gu σ).2 j))), .int (nI (gd_s ((sg_gu σ).2 j))), .ref (ad (400 + j)), .int (nI 0), .int (gd_h ((sg_gu σ).2 j))] H19 := ho20
        refine nw_aload_n C 0 dX1_forgetAnswers_32 rfl 33 rfl ?_
        refine nw_iconst C (nI 0) dX1_forgetAnswers_33 (by decide) 34 rfl ?_
        refine nw_putN C ho20 (Or.inl (by rw [show ro (ad (300 + j)) = 301 + j from (hR.2.2.2.2.2.1.2.2.2 j (by omega)).1, rp_301 j (by omega)]; decide)) (T := TX10) (ty0 := tyX10) rfl in_X10 tyX10_ok nmX10 5 (by decide) q1032 rfl rfl rfl rfl (Nat.le_of_ble_eq_true rfl) dX1_forgetAnswers_34 37 rfl (fun H23 ho24 hz25 hq26 => ?_)
        have ho24 : nwO d (ad (300 + j)) 4 [.int (nI (gd_a ((sg_gu σ).2 j))), .int (nI (gd_b ((sg_gu σ).2 j))), .int (nI (gd_s ((sg_gu σ).2 j))), .ref (ad (400 + j)), .int (nI 0), .int (nI 0)] H23 := ho24
        have hz27 : H23.size = H15.size := hz25.trans hz21
        have hq28 : ∀ q9 : Nat, q9 ≠ ad (300 + j) → H23[q9]? = H15[q9]? := fun q9 n9 => (hq26 q9 n9).trans (hq22 q9 n9)
        have hrg9 : ro (ad (300 + j)) = 301 + j := (hR2.2.2.2.2.2.1.2.2.2 j (by show j < (sg_gu σ).1; omega)).1
        have hR2 : nwWR d ro ad x (st_gu σ ((sg_gu σ).1, sp_fresh (sg_gu σ).2 (j + 1))) sm H23 := by
          rw [sp_fresh_up]
          exact tr_pGu hR2 (k := j) (v := gd_fresh ((sg_gu σ).2 j)) (by show j < (sg_gu σ).1; omega) hz27 hq28 (by show _ = (sp_fresh (sg_gu σ).2 j j).2.1; rw [hu9]; rfl) ho24
        have hit := hit.kept (hq28 _ (fun e9 => by rw [e9, hrg9] at hit0; omega))
        have hLm := hLm.kp (hq28 _ (fun e9 => by rw [e9, hrg9] at hr3; omega)) (fun q9 p9 _ => hq28 q9 (fun e9 => by have p8 : ro q9 = 2004 := p9; rw [e9, hrg9] at p8; omega))
        have hsz : H.size ≤ H23.size := by rw [hz27]; exact hsz
        refine nw_goto C 8 dX1_forgetAnswers_37 (by decide) ?_
        exact nw_wide (by omega) (by omega) (nw_sub [1, 2] rfl (ih_lp9 H23 (j + 1) (nI j) (by omega) hsz hR2 hit hLm (by omega)))
  exact nw_wide (by omega) (by omega) (nw_sub [1, 0] rfl (lp9 _ H1 0 (oI none) (Nat.zero_le _) hext.1 (by rw [st_gu_fresh0]; exact hR.ext hext) hi7 hLm3 (Nat.lt_succ_self _)))
set_option maxHeartbeats 4000000 in
theorem mX1_words (l : Launch) (hf : l.flags = flags0) (d : nwD) (ro ad : Nat → Nat) (x : Nat) (σ : spSg) (sm : Int64) (sd : Int32) (H : Heap) (hB : nd_B d ≤ H.size) (hR : nwWR d ro ad x σ sm H) (ok : spOk σ) : nwMt l d yX1_words cX1_words 2 (some .int) 7 120 4 20 [.ref x, .int sd] H (nwCv d ro x sm (op_words σ sd) H) (nwRx ((op_words σ sd).1, 0) [cIA] H) (nwAC ro H) := by
  refine nw_start "NightwatchWall" "words" hf (by decide +kernel) rfl rfl (fun _ h => Or.inr h) (nwAC_B hR hB) (Nat.le_of_ble_eq_true rfl) ?_
  intro X C
  have hW := hR.wc
  have hrx0 := hR.2.1.2
  have hW0 := hW
  have hB0 := hB
  have hE := C.E0
  have hext : nwExt H H := nwExt.rfl
  obtain ⟨hx, hcG, hcLa, hcFo, hcGu, hcPo, hcIn, hcWi, hcWo, hcKe⟩ := id hW
  obtain ⟨okg, okl, okf, oku, okp, oki, okw, okd, okk, oka⟩ := id ok
  have hn64 : gr_n (sg_gr σ) ≤ 64 := okg.n
  have oku1 := oku.1
  have oki1 := oki.1
  have okp1 := okp.1
  have okw1 := okw.1
  have okl1 := okl.1
  have okf1 := okf.1
  show nwV X _ _ 2 H 0 0 0 [(0, .ref x), (1, .int sd)] []
  refine nw_iconst C (nI 0) dX1_words_0 (by decide) 1 rfl ?_
  refine nw_bipush C (nI 99) dX1_words_1 (by decide) 3 rfl ?_
  refine nw_iload_n C 1 dX1_words_3 rfl 4 rfl ?_
  refine nw_callS C (mX1_isFromR _ C.hfl d (nI 0) (nI 99) sd H hB) kX1_isFrom q579 (As := [.int (nI 0), .int (nI 99), .int sd]) (rest := []) rfl rfl ⟨⟨Nat.le_of_ble_eq_true rfl, Nat.le_of_ble_eq_true rfl⟩, Nat.le_of_ble_eq_true rfl, Nat.le_of_ble_eq_true rfl⟩ (Nat.le_of_ble_eq_true rfl) (fun _ h8 h9 => absurd h9 (Nat.not_le.mpr h8)) dX1_words_4 7 rfl (nw_rdK ?_) nw_noX
  show nwV X _ _ 2 H 0 0 7 [(0, .ref x), (1, .int sd)] [.int (b2i (nw_rg 0 99 sd))]
  refine nw_callS C (mX1_require _ C.hfl d (nw_rg 0 99 sd) H hB) kX1_require q655 (As := [.int (b2i (nw_rg 0 99 sd))]) (rest := []) rfl rfl ⟨⟨Nat.le_of_ble_eq_true rfl, Nat.le_of_ble_eq_true rfl⟩, (show 0 + 1 ≤ 4 by omega), (show 0 + 6 ≤ 20 by omega)⟩ (Nat.le_of_ble_eq_true rfl) (fun _ h8 h9 => absurd h9 (Nat.not_le.mpr h8)) dX1_words_7 10 rfl ?_ ?_
  rotate_left
  · intro E9 w9 H1 hR2 hz3 hq4
    obtain ⟨rfl, hb5, hx6⟩ := hR2
    exact nw_out C (show (0 + 1) ≤ 4 by omega) (show (0 + 6) ≤ 20 by omega) ⟨⟨0, by simp [op_words, hb5], rfl⟩, hext.trans hx6⟩
  intro v9 H1 hR2 hz3 hq4
  obtain ⟨rfl, hb7, rfl⟩ := hR2
  obtain ⟨sn, hk8, rfl⟩ := nw_rg_nat (by decide) (by decide) hb7
  have en_sn : nw_nn (nI sn) = sn := nw_nn_nI (by omega)
  show nwV X _ _ 2 H (0 + 1) (0 + 6) 10 [(0, .ref x), (1, .int (nI sn))] []
  refine nw_wide (k' := 1) (n' := 6) (by omega) (by omega) ?_
  refine nw_aload_n C 0 dX1_words_10 rfl 11 rfl ?_
  refine nw_get C hx (T := TX1) rfl in_X1 7 (by decide) q228 (Or.inl rfl) rfl dX1_words_11 14 rfl ?_
  refine nw_iload_n C 1 dX1_words_14 rfl 15 rfl ?_
  have hRc := hR.ext hext
  obtain ⟨hwne, hwnP, hwB⟩ := nwWR.wne hR
  have hAq : ∀ q8, q8 < H.size → (q8 = ad 7 ∨ q8 = ad 11 ∨ q8 = ad 12 ∨ ro q8 = 2013 ∨ H.size ≤ q8) → nwAC ro H q8 := nwAC_wb hR
  refine nw_callV C (mX2_begin _ C.hfl d (ad 7) (ad 11) (ad 12) (fun q => ro q = 2013) (nI (wo_s (sg_wo σ))) (.ref (ad 13)) (fun h => nI (wo_n (sg_wo σ) h)) (wo_m (sg_wo σ)) (fun k => nd_bx d (wo_o (sg_wo σ) k)) sn H hB hcWo.1 hcWo.2.2.1 hcWo.2.2.2 ⟨hwB.1, hwB.2.1, hwB.2.2.2⟩ (fun q9 e9 => (hR.ok0 (show ro q9 ≠ 0 by rw [e9]; decide)).1) (fun q9 e9 => (hR.ok0 (show ro q9 ≠ 0 by rw [e9]; decide)).2) ⟨hwne.1, hwne.2.2.1, hwne.2.2.2.2.1⟩ ⟨hwnP.1, hwnP.2.1, hwnP.2.2.2⟩ (by omega)) kX2_begin q723 (hcWo.1.is C (ci := 5) rfl) (As := [.int (nI sn)]) (rest := []) rfl rfl ⟨⟨Nat.le_of_ble_eq_true rfl, Nat.le_of_ble_eq_true rfl⟩, (show 1 + 1 ≤ 4 by omega), (show 6 + 1 ≤ 20 by omega)⟩ (Nat.le_of_ble_eq_true rfl) hAq dX1_words_15 18 rfl (fun v9 H9 hR10 hz11 hq12 => ?_) nw_noX
  obtain ⟨rfl, row8, mo8, ar8, cap8, f8, hrow8, h78, hr8, hn8, hL8⟩ := hR10
  obtain ⟨ro1, ad1, hR1, hk1, hol1, had1⟩ := tr_wb hRc hB hz11 hq12 hrow8 h78 hr8 hn8 hL8
  obtain ⟨σ1, hσ1⟩ : ∃ t9 : spSg, t9 = st_wo σ (sp_words sn (wo_o (sg_wo σ))) := ⟨_, rfl⟩
  rw [← hσ1] at hR1
  have hE := hE.kept (fun q9 g9 hb9 => hq12 q9 g9 (fun h9 => hb9 (C.hB q9 (hAq q9 g9 h9))))
  have hsz : H.size ≤ H9.size := Nat.le_trans hext.1 hz11
  have hB := Nat.le_trans hB0 hsz
  have ok : spOk σ1 := by rw [hσ1]; exact ⟨okg, okl, okf, oku, okp, oki, okw, okWo.begin (by omega) _, okk, oka⟩
  have hR := hR1
  have hW := hR.wc
  obtain ⟨hx, hcG, hcLa, hcFo, hcGu, hcPo, hcIn, hcWi, hcWo, hcKe⟩ := id hW
  obtain ⟨okg, okl, okf, oku, okp, oki, okw, okd, okk, oka⟩ := id ok
  have hn64 : gr_n (sg_gr σ1) ≤ 64 := okg.n
  have oku1 := oku.1
  have oki1 := oki.1
  have okp1 := okp.1
  have okw1 := okw.1
  have okl1 := okl.1
  have okf1 := okf.1
  show nwV X _ _ 2 H9 (1 + 1) (6 + 1) 18 [(0, .ref x), (1, .int (nI sn))] []
  refine nw_wide (k' := 2) (n' := 7) (by omega) (by omega) ?_
  refine nw_aload_n C 0 dX1_words_18 rfl 19 rfl ?_
  have hAq : ∀ q8, q8 < H9.size → nwAC ro1 H9 q8 → nwAC ro H q8 := by
    intro q8 h8 h9
    rcases Nat.lt_or_ge q8 H.size with g9 | g9
    · rcases h9 with h9 | h9
      · exact Or.inl (by rw [hol1 q8 g9] at h9; exact h9)
      · omega
    · exact Or.inr g9
  refine nw_callV C (mX1_forgetAnswers _ C.hfl d ro1 ad1 x σ1 sm H9 hB hR ok) kX1_forgetAnswers q1117 (hx.is C (ci := 0) rfl) (As := []) (rest := []) rfl rfl ⟨⟨Nat.le_of_ble_eq_true rfl, Nat.le_of_ble_eq_true rfl⟩, (show 2 + 1 ≤ 4 by omega), (show 7 + 4 ≤ 20 by omega)⟩ (Nat.le_of_ble_eq_true rfl) hAq dX1_words_19 22 rfl (fun v9 H13 hR14 hz15 hq16 => ?_) nw_noX
  obtain ⟨rfl, hR2⟩ := hR14
  obtain ⟨σ2, hσ2⟩ : ∃ t9 : spSg, t9 = st_forget σ1 := ⟨_, rfl⟩
  rw [← hσ2] at hR2
  have hE := hE.kept (fun q9 g9 hb9 => hq16 q9 g9 (fun h9 => hb9 (C.hB q9 (hAq q9 g9 h9))))
  have hsz : H.size ≤ H13.size := Nat.le_trans hsz hz15
  have hB := Nat.le_trans hB0 hsz
  have ok : spOk σ2 := by rw [hσ2]; exact ⟨okg, okl, okf, oku.fresh, okp, oki, okw, okd, okk, oka⟩
  have hR := hR2
  have hW := hR.wc
  obtain ⟨hx, hcG, hcLa, hcFo, hcGu, hcPo, hcIn, hcWi, hcWo, hcKe⟩ := id hW
  obtain ⟨okg, okl, okf, oku, okp, oki, okw, okd, okk, oka⟩ := id ok
  have hn64 : gr_n (sg_gr σ2) ≤ 64 := okg.n
  have oku1 := oku.1
  have oki1 := oki.1
  have okp1 := okp.1
  have okw1 := okw.1
  have okl1 := okl.1
  have okf1 := okf.1
  show nwV X _ _ 2 H13 (2 + 1) (7 + 4) 22 [(0, .ref x), (1, .int (nI sn))] []
  refine nw_wide (k' := 3) (n' := 11) (by omega) (by omega) ?_
  refine nw_aload_n C 0 dX1_words_22 rfl 23 rfl ?_
  refine nw_get C hx (T := TX1) rfl in_X1 7 (by decide) q228 (Or.inl rfl) rfl dX1_words_23 26 rfl ?_
  refine nw_getN C hcWo.1 (T := TX2) rfl in_X2 2 (by decide) q204 rfl rfl dX1_words_26 29 rfl ?_
  refine nw_iconst C (nI 0) dX1_words_29 (by decide) 30 rfl ?_
  refine nw_ialdN C (nI (wo_n (sg_wo σ2) 0)) hcWo.2.2.1 (by omega) rfl dX1_words_30 31 rfl ?_
  have hop : op_words σ (nI sn) = (0, nI (sp_row sn 1), σ2) := by rw [hσ2, hσ1]; simp [op_words, en_sn, hb7]
  exact nw_iret C dX1_words_31 (by omega) (by omega) (by rw [hop]; exact ⟨⟨rfl, congrArg (fun z => some (Value.int (nI z))) (show wo_n (sg_wo σ2) 0 = sp_row sn 1 by rw [hσ2, hσ1]; rfl)⟩, ok, hsz, ro1, ad1, hR, hk1⟩)
set_option maxHeartbeats 4000000 in
theorem mX1_hourOf (l : Launch) (hf : l.flags = flags0) (d : nwD) (t : Nat) (H : Heap) (hB : nd_B d ≤ H.size) (ht : t < 2 ^ 31) : nwRd l d yX1_hourOf cX1_hourOf 1 (some .int) 1 20 [.int (nI t)] H (some (.int (nI (t / 60)))) := by
  refine nw_rd "NightwatchWall" "hourOf" hf (by decide +kernel) rfl rfl hB (Nat.le_of_ble_eq_true rfl) ?_
  intro X C
  show nwV X _ _ 1 H 0 0 0 [(0, .int (nI t))] []
  refine nw_iload_n C 0 dX1_hourOf_0 rfl 1 rfl ?_
  refine nw_bipush C (nI 60) dX1_hourOf_1 (by decide) 3 rfl ?_
  refine nw_idivN C (by omega) dX1_hourOf_3 4 rfl ?_
  exact nw_iret C dX1_hourOf_4 (Nat.le_refl _) (Nat.le_refl _) ⟨congrArg (fun z => some (Value.int (nI z))) (show (t / 60) = (t / 60) from rfl), rfl⟩
set_option maxHeartbeats 4000000 in
theorem mX1_answer (l : Launch) (hf : l.flags = flags0) (d : nwD) (ro ad : Nat → Nat) (x : Nat) (σ : spSg) (sm : Int64) (g : Int32) (t : Int32) (v : Int32) (H : Heap) (hB : nd_B d ≤ H.size) (hR : nwWR d ro ad x σ sm H) (ok : spOk σ) : nwMt l d yX1_answer cX1_answer 6 (some .int) 8 142 2 12 [.ref x, .int g, .int t, .int v] H (nwCv d ro x sm (op_answer σ g t v) H) (nwRx ((op_answer σ g t v).1, 0) [cIO, cIA] H) (nwAC ro H) := by
  refine nw_start "NightwatchWall" "answer" hf (by decide +kernel) rfl rfl (fun _ h => Or.inr h) (nwAC_B hR hB) (Nat.le_of_ble_eq_true rfl) ?_
  intro X C
  have hW := hR.wc
  have hrx0 := hR.2.1.2
  have hW0 := hW
  have hB0 := hB
  have hE := C.E0
  have hext : nwExt H H := nwExt.rfl
  obtain ⟨hx, hcG, hcLa, hcFo, hcGu, hcPo, hcIn, hcWi, hcWo, hcKe⟩ := id hW
  obtain ⟨okg, okl, okf, oku, okp, oki, okw, okd, okk, oka⟩ := id ok
  have hn64 : gr_n (sg_gr σ) ≤ 64 := okg.n
  have oku1 := oku.1
  have oki1 := oki.1
  have okp1 := okp.1
  have okw1 := okw.1
  have okl1 := okl.1
  have okf1 := okf.1
  show nwV X _ _ 6 H 0 0 0 [(0, .ref x), (1, .int g), (2, .int t), (3, .int v)] []
  refine nw_aload_n C 0 dX1_answer_0 rfl 1 rfl ?_
  refine nw_iload_n C 1 dX1_answer_1 rfl 2 rfl ?_
  refine nw_callV C (mX1_guardAt _ C.hfl d ro ad x σ sm g H hB hW ok) kX1_guardAt q1053 (hx.is C (ci := 0) rfl) (As := [.int g]) (rest := []) rfl rfl ⟨⟨Nat.le_of_ble_eq_true rfl, Nat.le_of_ble_eq_true rfl⟩, (show 0 + 1 ≤ 2 by omega), (show 0 + 6 ≤ 12 by omega)⟩ (Nat.le_of_ble_eq_true rfl) (fun _ h8 h9 => absurd h9 (Nat.not_le.mpr h8)) dX1_answer_2 5 rfl ?_ ?_
  rotate_left
  · intro E9 w9 H1 hR2 hz3 hq4
    obtain ⟨rfl, hb5, hx6⟩ := hR2
    exact nw_out C (show (0 + 1) ≤ 2 by omega) (show (0 + 6) ≤ 12 by omega) ⟨⟨0, by simp [op_answer, hb5], rfl⟩, hext.trans hx6⟩
  intro v9 H1 hR2 hz3 hq4
  obtain ⟨rfl, hb7, rfl⟩ := hR2
  obtain ⟨gn, hk8, rfl⟩ := nw_ix_nat (by omega) hb7
  have en_gn : nw_nn (nI gn) = gn := nw_nn_nI (by omega)
  rw [en_gn]
  have hg9 : nwGd d (ad (300 + gn)) (ad (400 + gn)) (fun q => ro q = 2401 + gn) ((sg_gu σ).2 gn) H := hcGu.2 gn (by omega)
  have hk10 : okGd (sg_gr σ) ((sg_gu σ).2 gn) := oku.2 gn (by omega)
  have hg11 : nwO d (ad (300 + gn)) 4 [.int (nI (gd_a ((sg_gu σ).2 gn))), .int (nI (gd_b ((sg_gu σ).2 gn))), .int (nI (gd_s ((sg_gu σ).2 gn))), .ref (ad (400 + gn)), .int (nI (gd_k ((sg_gu σ).2 gn))), .int (gd_h ((sg_gu σ).2 gn))] H := hg9.1
  show nwV X _ _ 6 H (0 + 1) (0 + 6) 5 [(0, .ref x), (1, .int (nI gn)), (2, .int t), (3, .int v)] [.ref (ad (300 + gn))]
  refine nw_wide (k' := 1) (n' := 6) (by omega) (by omega) ?_
  refine nw_astore C [(4, .ref (ad (300 + gn))), (0, .ref x), (1, .int (nI gn)), (2, .int t), (3, .int v)] dX1_answer_5 (by decide) rfl 7 rfl ?_
  refine nw_iload_n C 3 dX1_answer_7 rfl 8 rfl ?_
  refine nw_callS C (mX1_requireMinute _ C.hfl d t H hB) kX1_requireMinute q1072 (As := [.int t]) (rest := []) rfl rfl ⟨⟨Nat.le_of_ble_eq_true rfl, Nat.le_of_ble_eq_true rfl⟩, (show 1 + 1 ≤ 2 by omega), (show 6 + 6 ≤ 12 by omega)⟩ (Nat.le_of_ble_eq_true rfl) (fun _ h8 h9 => absurd h9 (Nat.not_le.mpr h8)) dX1_answer_8 11 rfl ?_ ?_
  rotate_left
  · intro E9 w9 H12 hR13 hz14 hq15
    obtain ⟨rfl, hb16, hx17⟩ := hR13
    exact nw_out C (show (1 + 1) ≤ 2 by omega) (show (6 + 6) ≤ 12 by omega) ⟨⟨1, by simp [op_answer, en_gn, hb7, hb16], rfl⟩, hext.trans hx17⟩
  intro v9 H12 hR13 hz14 hq15
  obtain ⟨rfl, hb18, rfl⟩ := hR13
  obtain ⟨tn, hk19, rfl⟩ := nw_rg_nat (by decide) (by decide) hb18
  have en_tn : nw_nn (nI tn) = tn := nw_nn_nI (by omega)
  show nwV X _ _ 6 H (1 + 1) (6 + 6) 11 [(4, .ref (ad (300 + gn))), (0, .ref x), (1, .int (nI gn)), (2, .int (nI tn)), (3, .int v)] []
  refine nw_wide (k' := 2) (n' := 12) (by omega) (by omega) ?_
  refine nw_aload_n C 1 dX1_answer_11 rfl 12 rfl ?_
  refine nw_get C hx (T := TX1) rfl in_X1 7 (by decide) q228 (Or.inl rfl) rfl dX1_answer_12 15 rfl ?_
  refine nw_aload C 0 dX1_answer_15 rfl 17 rfl ?_
  refine nw_iload_n C 3 dX1_answer_17 rfl 18 rfl ?_
  refine nw_callS C (mX1_hourOf _ C.hfl d tn H hB (by omega)) kX1_hourOf q1146 (As := [.int (nI tn)]) (rest := [.ref (ad (300 + gn)), .ref (ad 7)]) rfl rfl ⟨⟨Nat.le_of_ble_eq_true rfl, Nat.le_of_ble_eq_true rfl⟩, Nat.le_of_ble_eq_true rfl, Nat.le_of_ble_eq_true rfl⟩ (Nat.le_of_ble_eq_true rfl) (fun _ h8 h9 => absurd h9 (Nat.not_le.mpr h8)) dX1_answer_18 21 rfl (nw_rdK ?_) nw_noX
  refine nw_iload_n C 4 dX1_answer_21 rfl 22 rfl ?_
  have hRc := hR.ext hext
  have hr9 : ro (ad (300 + gn)) = 301 + gn := (hR.2.2.2.2.2.1.2.2.2 gn (by omega)).1
  have hai9 := hR.ok0 (show ro (ad (300 + gn)) ≠ 0 by rw [hr9]; omega)
  have hg7 : ad 7 ≠ ad (300 + gn) := fun e9 => by have p8 := hR.wr.2.1; rw [e9, hr9] at p8; omega
  have hAq : ∀ q8, q8 < H.size → (q8 = ad (300 + gn) ∨ H.size ≤ q8) → nwAC ro H q8 := fun q8 h8 h9 => h9.elim (fun e9 => by rw [e9]; exact nwAC_r hr9 (by rw [rp_301 gn (by omega)]; decide)) (fun e9 => absurd h8 (Nat.not_lt.mpr e9))
  have hk9 := hk10
  refine nw_callV C (mX2_answer _ C.hfl d (ad 7) (ad 13) (ad 11) (ad 12) (fun q => ro q = 2013) (sg_wo σ) (ad (300 + gn)) (ad (400 + gn)) (fun q => ro q = 2401 + gn) ((sg_gu σ).2 gn) (sg_gr σ) (tn / 60) v H hB hcWo.1 hcWo.2.1 hcWo.2.2.1 hcWo.2.2.2 okd hg9 hk10 hai9.1 hg7 (by omega)) kX2_answer q1149 (hcWo.1.is C (ci := 5) rfl) (As := [.ref (ad (300 + gn)), .int (nI (tn / 60)), .int v]) (rest := []) rfl rfl ⟨⟨Nat.le_of_ble_eq_true rfl, Nat.le_of_ble_eq_true rfl⟩, (show 2 + 0 ≤ 2 by omega), (show 12 + 0 ≤ 12 by omega)⟩ (Nat.le_of_ble_eq_true rfl) hAq dX1_answer_22 25 rfl (fun v9 H20 hR21 hz22 hq23 => ?_) nw_noX
  obtain ⟨rfl, ho8⟩ := hR21
  obtain ⟨tl, htl⟩ : ∃ r, r = sp_told σ gn tn v := ⟨_, rfl⟩
  have htl2 : wo_answer (sg_wo σ) ((sg_gu σ).2 gn) (tn / 60) v = tl := htl.symm
  rw [htl2] at ho8 ⊢
  have htk : okGd (sg_gr σ) tl.2 ∧ tl.1 < 5 ∧ tl.2.2.1 = ((sg_gu σ).2 gn).2.1 ∧ tl.2.1 = ((sg_gu σ).2 gn).1 := by rw [← htl2]; exact wo_answer_ok hk9
  have hR1 := tr_pGu1 hRc (k := gn) (v := tl.2) (by omega) hz22 (fun q9 g9 n9 => hq23 q9 g9 (fun e9 => e9.elim n9 (Nat.not_le.mpr g9))) htk.2.2.1 ho8
  obtain ⟨σ1, hσ1⟩ : ∃ t9 : spSg, t9 = st_gu σ ((sg_gu σ).1, sp_up (sg_gu σ).2 gn tl.2) := ⟨_, rfl⟩
  rw [← hσ1] at hR1
  have hE := hE.kept (fun q9 g9 hb9 => hq23 q9 g9 (fun h9 => hb9 (C.hB q9 (hAq q9 g9 h9))))
  have hsz : H.size ≤ H20.size := Nat.le_trans hext.1 hz22
  have hB := Nat.le_trans hB0 hsz
  have ok : spOk σ1 := by rw [hσ1]; exact ⟨okg, okl, okf, oku.put htk.1, okp, oki, okw, okd, okk, oka⟩
  have hR := hR1
  have hW := hR.wc
  obtain ⟨hx, hcG, hcLa, hcFo, hcGu, hcPo, hcIn, hcWi, hcWo, hcKe⟩ := id hW
  obtain ⟨okg, okl, okf, oku, okp, oki, okw, okd, okk, oka⟩ := id ok
  have hn64 : gr_n (sg_gr σ1) ≤ 64 := okg.n
  have oku1 := oku.1
  have oki1 := oki.1
  have okp1 := okp.1
  have okw1 := okw.1
  have okl1 := okl.1
  have okf1 := okf.1
  show nwV X _ _ 6 H20 (2 + 0) (12 + 0) 25 [(4, .ref (ad (300 + gn))), (0, .ref x), (1, .int (nI gn)), (2, .int (nI tn)), (3, .int v)] [.int (nI tl.1)]
  refine nw_wide (k' := 2) (n' := 12) (by omega) (by omega) ?_
  refine nw_istore C [(5, .int (nI tl.1)), (4, .ref (ad (300 + gn))), (0, .ref x), (1, .int (nI gn)), (2, .int (nI tn)), (3, .int v)] dX1_answer_25 (by decide) rfl 27 rfl ?_
  refine nw_aload_n C 2 dX1_answer_27 rfl 28 rfl ?_
  refine nw_dup C dX1_answer_28 rfl 29 rfl ?_
  refine nw_get C hx (T := TX1) rfl in_X1 11 (by decide) q232 (Or.inl rfl) rfl dX1_answer_29 32 rfl ?_
  refine nw_iload C 0 dX1_answer_32 rfl 34 rfl ?_
  refine nw_ifneN C (by omega) 41 dX1_answer_34 (by decide) 37 rfl (fun h24 => ?_) (fun h24 => ?_)
  · refine nw_iconst C (nI 0) dX1_answer_41 (by decide) 42 rfl ?_
    refine nw_iaddN C dX1_answer_42 43 rfl ?_
    refine nw_put C hx (Or.inl (by rw [hrx0]; decide +kernel)) (T := TX1) (ty0 := tyX1) rfl in_X1 tyX1_ok nmX1 11 (by decide) q232 (Or.inl rfl) rfl rfl rfl (Nat.le_of_ble_eq_true rfl) dX1_answer_43 46 rfl (fun H25 ho26 hz27 hq28 => ?_)
    have ho26 : nwO d x 0 [.ref (ad 0), .ref (ad 1), .ref (ad 2), .ref (ad 3), .ref (ad 4), .ref (ad 5), .ref (ad 6), .ref (ad 7), .ref (ad 8), .int (nI (ga_f (sg_ga σ1))), .int (nI (ga_t (sg_ga σ1))), .int (nI (sg_ri σ1 + 0)), .int (nI (sg_rf σ1)), .long sm] H25 := ho26
    have hri9 : sg_ri σ1 + 0 = sg_ri σ + (if tl.1 = 0 then 1 else 0) := by rw [hσ1, if_neg (by omega)]; rfl
    have ho9 := ho26
    rw [hri9, hσ1] at ho9
    have hR2 := tr_pX hR (t := st_answer σ gn tl) (sm' := sm) hz27 hq28 (by rw [hσ1]; exact ⟨Or.inl rfl, Or.inr rfl, Or.inr rfl, Or.inr rfl, Or.inr rfl, Or.inr rfl, Or.inr rfl, Or.inr rfl, Or.inr rfl, Or.inr rfl⟩) ho9
    have hAq : ∀ q8, q8 < H20.size → q8 = x → nwAC ro H q8 := fun q8 _ h9 => by rw [h9]; exact (Or.inl (by rw [hrx0]; decide +kernel))
    obtain ⟨σ2, hσ2⟩ : ∃ t9 : spSg, t9 = st_answer σ gn tl := ⟨_, rfl⟩
    rw [← hσ2] at hR2
    have hE := hE.kept (fun q9 g9 hb9 => (fun q9 _ n9 => hq28 q9 n9) q9 g9 (fun h9 => hb9 (C.hB q9 (hAq q9 g9 h9))))
    have hsz : H.size ≤ H25.size := Nat.le_trans hsz (Nat.le_of_eq hz27.symm)
    have hB := Nat.le_trans hB0 hsz
    have ok : spOk σ2 := by rw [hσ2]; exact by have ok9 := ok; rw [hσ1] at ok9; exact ok9
    have hR := hR2
    have hW := hR.wc
    obtain ⟨hx, hcG, hcLa, hcFo, hcGu, hcPo, hcIn, hcWi, hcWo, hcKe⟩ := id hW
    obtain ⟨okg, okl, okf, oku, okp, oki, okw, okd, okk, oka⟩ := id ok
    have hn64 : gr_n (sg_gr σ2) ≤ 64 := okg.n
    have oku1 := oku.1
    have oki1 := oki.1
    have okp1 := okp.1
    have okw1 := okw.1
    have okl1 := okl.1
    have okf1 := okf.1
    refine nw_iload C 0 dX1_answer_46 rfl 48 rfl ?_
    have hop : op_answer σ (nI gn) (nI tn) v = (0, nI tl.1, st_answer σ gn tl) := by rw [htl]; simp [op_answer, en_gn, en_tn, hb7, hb18]
    exact nw_iret C dX1_answer_48 (by omega) (by omega) (by rw [hop]; rw [hσ2] at hR ok; exact ⟨⟨rfl, rfl⟩, ok, hsz, ro, ad, hR, (fun _ _ => rfl)⟩)
  · refine nw_iconst C (nI 1) dX1_answer_37 (by decide) 38 rfl ?_
    refine nw_goto C 42 dX1_answer_38 (by decide) ?_
    refine nw_iaddN C dX1_answer_42 43 rfl ?_
    refine nw_put C hx (Or.inl (by rw [hrx0]; decide +kernel)) (T := TX1) (ty0 := tyX1) rfl in_X1 tyX1_ok nmX1 11 (by decide) q232 (Or.inl rfl) rfl rfl rfl (Nat.le_of_ble_eq_true rfl) dX1_answer_43 46 rfl (fun H29 ho30 hz31 hq32 => ?_)
    have ho30 : nwO d x 0 [.ref (ad 0), .ref (ad 1), .ref (ad 2), .ref (ad 3), .ref (ad 4), .ref (ad 5), .ref (ad 6), .ref (ad 7), .ref (ad 8), .int (nI (ga_f (sg_ga σ1))), .int (nI (ga_t (sg_ga σ1))), .int (nI (sg_ri σ1 + 1)), .int (nI (sg_rf σ1)), .long sm] H29 := ho30
    have hri9 : sg_ri σ1 + 1 = sg_ri σ + (if tl.1 = 0 then 1 else 0) := by rw [hσ1, if_pos h24]; rfl
    have ho9 := ho30
    rw [hri9, hσ1] at ho9
    have hR2 := tr_pX hR (t := st_answer σ gn tl) (sm' := sm) hz31 hq32 (by rw [hσ1]; exact ⟨Or.inl rfl, Or.inr rfl, Or.inr rfl, Or.inr rfl, Or.inr rfl, Or.inr rfl, Or.inr rfl, Or.inr rfl, Or.inr rfl, Or.inr rfl⟩) ho9
    have hAq : ∀ q8, q8 < H20.size → q8 = x → nwAC ro H q8 := fun q8 _ h9 => by rw [h9]; exact (Or.inl (by rw [hrx0]; decide +kernel))
    obtain ⟨σ2, hσ2⟩ : ∃ t9 : spSg, t9 = st_answer σ gn tl := ⟨_, rfl⟩
    rw [← hσ2] at hR2
    have hE := hE.kept (fun q9 g9 hb9 => (fun q9 _ n9 => hq32 q9 n9) q9 g9 (fun h9 => hb9 (C.hB q9 (hAq q9 g9 h9))))
    have hsz : H.size ≤ H29.size := Nat.le_trans hsz (Nat.le_of_eq hz31.symm)
    have hB := Nat.le_trans hB0 hsz
    have ok : spOk σ2 := by rw [hσ2]; exact by have ok9 := ok; rw [hσ1] at ok9; exact ok9
    have hR := hR2
    have hW := hR.wc
    obtain ⟨hx, hcG, hcLa, hcFo, hcGu, hcPo, hcIn, hcWi, hcWo, hcKe⟩ := id hW
    obtain ⟨okg, okl, okf, oku, okp, oki, okw, okd, okk, oka⟩ := id ok
    have hn64 : gr_n (sg_gr σ2) ≤ 64 := okg.n
    have oku1 := oku.1
    have oki1 := oki.1
    have okp1 := okp.1
    have okw1 := okw.1
    have okl1 := okl.1
    have okf1 := okf.1
    refine nw_iload C 0 dX1_answer_46 rfl 48 rfl ?_
    have hop : op_answer σ (nI gn) (nI tn) v = (0, nI tl.1, st_answer σ gn tl) := by rw [htl]; simp [op_answer, en_gn, en_tn, hb7, hb18]
    exact nw_iret C dX1_answer_48 (by omega) (by omega) (by rw [hop]; rw [hσ2] at hR ok; exact ⟨⟨rfl, rfl⟩, ok, hsz, ro, ad, hR, (fun _ _ => rfl)⟩)
