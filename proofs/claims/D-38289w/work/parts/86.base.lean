/-! ===== base, the component's constructor ===== -/
theorem nwM3.a1 (e r e2 r2 e3 r3 : Nat) : nwM3 e r e2 r2 e3 r3 e = r := if_pos rfl
theorem nwM3.a2 {e r e2 r2 e3 r3 : Nat} (h : e2 ≠ e) : nwM3 e r e2 r2 e3 r3 e2 = r2 := (if_neg h).trans (if_pos rfl)
theorem nwM3.a3 {e r e2 r2 e3 r3 : Nat} (h : e3 ≠ e) (h2 : e3 ≠ e2) : nwM3 e r e2 r2 e3 r3 e3 = r3 := (if_neg h).trans ((if_neg h2).trans (if_pos rfl))
/-- a new ground is laid -/
theorem tr_base {d : nwD} {ro ad : Nat → Nat} {Hc Hn : Heap} {x : Nat} {s : spSg} {sm : Int64} {gr : spGr} {o g ka : Nat} (h : nwWR d ro ad x s sm Hc) (og : spGrOk gr) (hr : ro o = 0 ∧ ro g = 0 ∧ ro ka = 0) (hb : nd_B d ≤ o ∧ nd_B d ≤ g ∧ nd_B d ≤ ka) (hl : o < Hc.size ∧ g < Hc.size ∧ ka < Hc.size) (hne : o ≠ g ∧ o ≠ ka ∧ g ≠ ka) (hz : Hn.size = Hc.size) (hq : ∀ q, q ≠ x → Hn[q]? = Hc[q]?)
    (hx : nwO d x 0 [.ref o, .ref (ad 1), .ref (ad 2), .ref (ad 3), .ref (ad 4), .ref (ad 5), .ref (ad 6), .ref (ad 7), .ref (ad 8), .int (nI (ga_f (sg_ga s))), .int (nI (ga_t (sg_ga s))), .int (nI (sg_ri s)), .int (nI (sg_rf s)), .long sm] Hn) (ho : nwO d o 15 [.ref g] Hn) (hg : nwGr d g ka gr Hn) : ∃ ro' ad' : Nat → Nat, nwWR d ro' ad' x (st_gr s gr) sm Hn ∧ (∀ q, ro q ≠ 0 → ro' q = ro q) := by
  have hm : nwMo d ro (nwM3 o 1 g 10 ka 11) Hc := nwM3.ok ⟨hr.1, hb.1, hl.1⟩ ⟨hr.2.1, hb.2.1, hl.2.1⟩ ⟨hr.2.2, hb.2.2, hl.2.2⟩
  have hk := nwRn.keep (Hn := Hn) (r2 := 1) h.1 hm
  have a0 : ∀ i, i ≠ 0 → i ≠ 9 → i ≠ 10 → sp_up (sp_up (sp_up ad 0 o) 9 g) 10 ka i = ad i := fun i h0 h9 h10 => ((sp_up_ne _ _ h10).trans (sp_up_ne _ _ h9)).trans (sp_up_ne _ _ h0)
  have b0 : sp_up (sp_up (sp_up ad 0 o) 9 g) 10 ka 0 = o := ((sp_up_ne _ _ (by decide)).trans (sp_up_ne _ _ (by decide))).trans (sp_up_at _ _ _)
  have b9 : sp_up (sp_up (sp_up ad 0 o) 9 g) 10 ka 9 = g := (sp_up_ne _ _ (by decide)).trans (sp_up_at _ _ _)
  have b10 : sp_up (sp_up (sp_up ad 0 o) 9 g) 10 ka 10 = ka := sp_up_at _ _ _
  generalize sp_up (sp_up (sp_up ad 0 o) 9 g) 10 ka = ad' at *
  refine ⟨nwRn ro (nwM3 o 1 g 10 ka 11) Hc Hn 1, ad', h.upd (fun p => p == 1 || p == 2) (nwRn.ok h.1 hm (Nat.le_of_eq hz.symm) (Nat.le_trans hb.1 (Nat.le_of_lt hl.1))) hk (fun i hi => a0 i (fun e => ?_) (fun e => ?_) (fun e => ?_)) (fun e => absurd e (by decide)) (fun q g hS h0 => hq q (fun e => ?_)) ⟨Or.inl rfl, Or.inl rfl, Or.inr rfl, Or.inr rfl, Or.inr rfl, Or.inr rfl, Or.inr rfl, Or.inr rfl, Or.inr rfl, Or.inr rfl⟩ ⟨fun _ => ⟨?_, ?_⟩, fun _ => ⟨Or.inr ⟨og, ?_, ?_⟩, fun _ => ⟨?_, ?_, ?_⟩⟩, fun h => absurd h (by decide), fun h => absurd h (by decide), fun h => absurd h (by decide), fun h => absurd h (by decide), fun h => absurd h (by decide), fun h => absurd h (by decide), fun h => absurd h (by decide), fun h => absurd h (by decide)⟩, hk⟩
  · rw [e] at hi; exact absurd hi (by decide +kernel)
  · rw [e] at hi; exact absurd hi (by decide +kernel)
  · rw [e] at hi; exact absurd hi (by decide +kernel)
  · rw [e, h.2.1.2] at hS; exact absurd hS (by decide +kernel)
  · unfold wcX
    rw [b0, a0 1 (by decide) (by decide) (by decide), a0 2 (by decide) (by decide) (by decide), a0 3 (by decide) (by decide) (by decide), a0 4 (by decide) (by decide) (by decide), a0 5 (by decide) (by decide) (by decide), a0 6 (by decide) (by decide) (by decide), a0 7 (by decide) (by decide) (by decide), a0 8 (by decide) (by decide) (by decide)]
    exact hx
  · exact nw_rt hk h.2.1.2 (by decide)
  · rw [b0, b9]; exact ho
  · rw [b9, b10]; exact hg
  · rw [b0]; exact nwRn.is (nwM3.a1 _ _ _ _ _ _) (by decide)
  · rw [b9]; exact nwRn.is (nwM3.a2 (Ne.symm hne.1)) (by decide)
  · rw [b10]; exact nwRn.is (nwM3.a3 (Ne.symm hne.2.1) (Ne.symm hne.2.2)) (by decide)
theorem sp_kind_lt (s r : Nat) : sp_kind s r < 4 := by unfold sp_kind; (repeat' split) <;> omega
theorem sp_laid_ok {w h s : Nat} (hw : 3 ≤ w ∧ w ≤ 8) (hh : 3 ≤ h ∧ h ≤ 8) : spGrOk (sp_laid w h s) := ⟨⟨hw.1, hw.2, hh.1, hh.2⟩, fun c _ => sp_kind_lt _ _⟩
theorem spOk.clear {s : spSg} (h : spOk s) : spOk (st_clear s) := by
  obtain ⟨a1, a2, a3, a4, a5, a6, a7, a8, a9, a10⟩ := h
  exact ⟨a1, ⟨Nat.zero_le _, fun k hk => absurd hk (Nat.not_lt_zero k)⟩, ⟨Nat.zero_le _, fun k hk => absurd hk (Nat.not_lt_zero k)⟩, ⟨Nat.zero_le _, fun k hk => absurd hk (Nat.not_lt_zero k)⟩, ⟨Nat.zero_le _, fun k hk => absurd hk (Nat.not_lt_zero k)⟩, ⟨Nat.zero_le _, fun k hk => absurd hk (Nat.not_lt_zero k)⟩, ⟨Nat.zero_le _, fun k hk => absurd hk (Nat.not_lt_zero k)⟩, a8, fun k _ g e => (by cases e), fun a b e => (by cases e)⟩
theorem spOk.base {s : spSg} (h : spOk s) {w hh sd : Nat} (hw : 3 ≤ w ∧ w ≤ 8) (h2 : 3 ≤ hh ∧ hh ≤ 8) : spOk (st_base s w hh sd) := by
  have h8 := h.2.2.2.2.2.2.2.1
  obtain ⟨a1, a2, a3, a4, a5, a6, a7, a8, a9, a10⟩ := h.clear
  exact ⟨Or.inr (sp_laid_ok hw h2), ⟨Nat.zero_le _, fun k hk => absurd hk (Nat.not_lt_zero k)⟩, a3, ⟨Nat.zero_le _, fun k hk => absurd hk (Nat.not_lt_zero k)⟩, ⟨Nat.zero_le _, fun k hk => absurd hk (Nat.not_lt_zero k)⟩, ⟨Nat.zero_le _, fun k hk => absurd hk (Nat.not_lt_zero k)⟩, ⟨Nat.zero_le _, fun k hk => absurd hk (Nat.not_lt_zero k)⟩, okWo.begin h8.1.1 _, a9, a10⟩
theorem nw_cntW (p : Nat → Bool) (n : Nat) : nI n - nI (sp_cnt p n) = nI (sp_cnt (fun c => !p c) n) := by
  have h := sp_cnt_not p n
  rw [pk_sub (sp_cnt_le p n)]
  congr 1
  omega
theorem sp_up_lt9 {f g : Nat → Nat} {n v : Nat} (h : ∀ k, k < n → f k = g k) (hv : v = g n) : ∀ k, k < n + 1 → sp_up f n v k = g k := by
  intro k hk
  by_cases e : k = n
  · rw [e, sp_up_at]; exact hv
  · rw [sp_up_ne _ _ e]; exact h k (by omega)
theorem kX1_clear : nwPV "NightwatchWall" yX1_clear cX1_clear 2 none 0 := ⟨⟨q218, qs0, q86, q219⟩, rfl, by decide +kernel, by decide +kernel, by decide +kernel⟩
theorem kX6_init : nwPI yX6_init cX6_init 4 2 := ⟨⟨q101, q725, q726⟩, rfl, by decide +kernel, by decide +kernel, by decide +kernel⟩
set_option maxHeartbeats 4000000 in
theorem mX1_base (l : Launch) (hf : l.flags = flags0) (d : nwD) (ro ad : Nat → Nat) (x : Nat) (σ : spSg) (sm : Int64) (w : Int32) (h : Int32) (sd : Int32) (H : Heap) (hB : nd_B d ≤ H.size) (hR : nwWR d ro ad x σ sm H) (ok : spOk σ) : nwMt l d yX1_base cX1_base 8 (some .int) 7 120 6 90 [.ref x, .int w, .int h, .int sd] H (nwCv d ro x sm (op_base σ w h sd) H) (nwRx ((op_base σ w h sd).1, 0) [cIA] H) (nwAC ro H) := by
  refine nw_start "NightwatchWall" "base" hf (by decide +kernel) rfl rfl (fun _ h => Or.inr h) (nwAC_B hR hB) (Nat.le_of_ble_eq_true rfl) ?_
  intro X C
  have hW := hR.wc
  have hrx0 := hR.2.1.2
  have hW0 := hW
  have hB0 := hB
  have hE := C.E0
  have hext : nwExt H H := nwExt.rfl
  obtain ⟨hx, hcG, hcLa, hcFo, hcGu, hcPo, hcIn, hcWi, hcWo, hcKe⟩ := id hW
  obtain ⟨okg, okl, okf, oku, okp, oki, okw, okd, okk, oka⟩ := id ok
  have hn64 : gr_n (sg_gr σ) ≤ 64 := okg.n
  have oku1 := oku.1
  have oki1 := oki.1
  have okp1 := okp.1
  have okw1 := okw.1
  have okl1 := okl.1
  have okf1 := okf.1
  show nwV X _ _ 8 H 0 0 0 [(0, .ref x), (1, .int w), (2, .int h), (3, .int sd)] []
  have ok0 := ok
  refine nw_iconst C (nI 3) dX1_base_0 (by decide) 1 rfl ?_
  refine nw_bipush C (nI 8) dX1_base_1 (by decide) 3 rfl ?_
  refine nw_iload_n C 1 dX1_base_3 rfl 4 rfl ?_
  refine nw_callS C (mX1_isFromR _ C.hfl d (nI 3) (nI 8) w H hB) kX1_isFrom q579 (As := [.int (nI 3), .int (nI 8), .int w]) (rest := []) rfl rfl ⟨⟨Nat.le_of_ble_eq_true rfl, Nat.le_of_ble_eq_true rfl⟩, Nat.le_of_ble_eq_true rfl, Nat.le_of_ble_eq_true rfl⟩ (Nat.le_of_ble_eq_true rfl) (fun _ h8 h9 => absurd h9 (Nat.not_le.mpr h8)) dX1_base_4 7 rfl (nw_rdK ?_) nw_noX
  show nwV X _ _ 8 H 0 0 7 [(0, .ref x), (1, .int w), (2, .int h), (3, .int sd)] [.int (b2i (nw_rg 3 8 w))]
  refine nw_ifeqB C 34 dX1_base_7 (by decide) 10 rfl (fun h1 => ?_) (fun h1 => ?_)
  · refine nw_iconst C (nI 0) dX1_base_34 (by decide) 35 rfl ?_
    refine nw_callS C (mX1_require _ C.hfl d false H hB) kX1_require q655 (As := [.int (b2i false)]) (rest := []) rfl rfl ⟨⟨Nat.le_of_ble_eq_true rfl, Nat.le_of_ble_eq_true rfl⟩, (show 0 + 1 ≤ 6 by omega), (show 0 + 6 ≤ 90 by omega)⟩ (Nat.le_of_ble_eq_true rfl) (fun _ h8 h9 => absurd h9 (Nat.not_le.mpr h8)) dX1_base_35 38 rfl ?_ ?_
    rotate_left
    · intro E9 w9 H2 hR3 hz4 hq5
      obtain ⟨rfl, hb6, hx7⟩ := hR3
      exact nw_out C (show (0 + 1) ≤ 6 by omega) (show (0 + 6) ≤ 90 by omega) ⟨⟨0, by simp [op_base, h1, hb6], rfl⟩, hext.trans hx7⟩
    intro v9 H2 hR3 hz4 hq5
    obtain ⟨rfl, hb8, rfl⟩ := hR3
    cases hb8
  · obtain ⟨wn, hk9, rfl⟩ := nw_rg_nat (by decide) (by decide) h1
    have en_wn : nw_nn (nI wn) = wn := nw_nn_nI (by omega)
    refine nw_iconst C (nI 3) dX1_base_10 (by decide) 11 rfl ?_
    refine nw_bipush C (nI 8) dX1_base_11 (by decide) 13 rfl ?_
    refine nw_iload_n C 2 dX1_base_13 rfl 14 rfl ?_
    refine nw_callS C (mX1_isFromR _ C.hfl d (nI 3) (nI 8) h H hB) kX1_isFrom q579 (As := [.int (nI 3), .int (nI 8), .int h]) (rest := []) rfl rfl ⟨⟨Nat.le_of_ble_eq_true rfl, Nat.le_of_ble_eq_true rfl⟩, Nat.le_of_ble_eq_true rfl, Nat.le_of_ble_eq_true rfl⟩ (Nat.le_of_ble_eq_true rfl) (fun _ h8 h9 => absurd h9 (Nat.not_le.mpr h8)) dX1_base_14 17 rfl (nw_rdK ?_) nw_noX
    show nwV X _ _ 8 H 0 0 17 [(0, .ref x), (1, .int (nI wn)), (2, .int h), (3, .int sd)] [.int (b2i (nw_rg 3 8 h))]
    refine nw_ifeqB C 34 dX1_base_17 (by decide) 20 rfl (fun h10 => ?_) (fun h10 => ?_)
    · refine nw_iconst C (nI 0) dX1_base_34 (by decide) 35 rfl ?_
      refine nw_callS C (mX1_require _ C.hfl d false H hB) kX1_require q655 (As := [.int (b2i false)]) (rest := []) rfl rfl ⟨⟨Nat.le_of_ble_eq_true rfl, Nat.le_of_ble_eq_true rfl⟩, (show 0 + 1 ≤ 6 by omega), (show 0 + 6 ≤ 90 by omega)⟩ (Nat.le_of_ble_eq_true rfl) (fun _ h8 h9 => absurd h9 (Nat.not_le.mpr h8)) dX1_base_35 38 rfl ?_ ?_
      rotate_left
      · intro E9 w9 H11 hR12 hz13 hq14
        obtain ⟨rfl, hb15, hx16⟩ := hR12
        exact nw_out C (show (0 + 1) ≤ 6 by omega) (show (0 + 6) ≤ 90 by omega) ⟨⟨0, by simp [op_base, h1, h10, en_wn, hb15], rfl⟩, hext.trans hx16⟩
      intro v9 H11 hR12 hz13 hq14
      obtain ⟨rfl, hb17, rfl⟩ := hR12
      cases hb17
    · obtain ⟨hn, hk18, rfl⟩ := nw_rg_nat (by decide) (by decide) h10
      have en_hn : nw_nn (nI hn) = hn := nw_nn_nI (by omega)
      refine nw_iconst C (nI 0) dX1_base_20 (by decide) 21 rfl ?_
      refine nw_bipush C (nI 100) dX1_base_21 (by decide) 23 rfl ?_
      refine nw_iload_n C 3 dX1_base_23 rfl 24 rfl ?_
      refine nw_callS C (mX1_isFromR _ C.hfl d (nI 0) (nI 100) sd H hB) kX1_isFrom q579 (As := [.int (nI 0), .int (nI 100), .int sd]) (rest := []) rfl rfl ⟨⟨Nat.le_of_ble_eq_true rfl, Nat.le_of_ble_eq_true rfl⟩, Nat.le_of_ble_eq_true rfl, Nat.le_of_ble_eq_true rfl⟩ (Nat.le_of_ble_eq_true rfl) (fun _ h8 h9 => absurd h9 (Nat.not_le.mpr h8)) dX1_base_24 27 rfl (nw_rdK ?_) nw_noX
      show nwV X _ _ 8 H 0 0 27 [(0, .ref x), (1, .int (nI wn)), (2, .int (nI hn)), (3, .int sd)] [.int (b2i (nw_rg 0 100 sd))]
      refine nw_ifeqB C 34 dX1_base_27 (by decide) 30 rfl (fun h19 => ?_) (fun h19 => ?_)
      · refine nw_iconst C (nI 0) dX1_base_34 (by decide) 35 rfl ?_
        refine nw_callS C (mX1_require _ C.hfl d false H hB) kX1_require q655 (As := [.int (b2i false)]) (rest := []) rfl rfl ⟨⟨Nat.le_of_ble_eq_true rfl, Nat.le_of_ble_eq_true rfl⟩, (show 0 + 1 ≤ 6 by omega), (show 0 + 6 ≤ 90 by omega)⟩ (Nat.le_of_ble_eq_true rfl) (fun _ h8 h9 => absurd h9 (Nat.not_le.mpr h8)) dX1_base_35 38 rfl ?_ ?_
        rotate_left
        · intro E9 w9 H20 hR21 hz22 hq23
          obtain ⟨rfl, hb24, hx25⟩ := hR21
          exact nw_out C (show (0 + 1) ≤ 6 by omega) (show (0 + 6) ≤ 90 by omega) ⟨⟨0, by simp [op_base, h1, h10, h19, en_wn, en_hn, hb24], rfl⟩, hext.trans hx25⟩
        intro v9 H20 hR21 hz22 hq23
        obtain ⟨rfl, hb26, rfl⟩ := hR21
        cases hb26
      · obtain ⟨sn, hk27, rfl⟩ := nw_rg_nat (by decide) (by decide) h19
        have en_sn : nw_nn (nI sn) = sn := nw_nn_nI (by omega)
        refine nw_iconst C (nI 1) dX1_base_30 (by decide) 31 rfl ?_
        refine nw_goto C 35 dX1_base_31 (by decide) ?_
        refine nw_callS C (mX1_requireT _ C.hfl d H hB) kX1_require q655 (As := [.int (b2i true)]) (rest := []) rfl rfl ⟨⟨Nat.le_of_ble_eq_true rfl, Nat.le_of_ble_eq_true rfl⟩, Nat.le_of_ble_eq_true rfl, Nat.le_of_ble_eq_true rfl⟩ (Nat.le_of_ble_eq_true rfl) (fun _ h8 h9 => absurd h9 (Nat.not_le.mpr h8)) dX1_base_35 38 rfl (nw_rdK ?_) nw_noX
        refine nw_aload_n C 0 dX1_base_38 rfl 39 rfl ?_
        have hRc := hR.ext hext
        have hw8 : wn * hn ≤ 8 * 8 := Nat.mul_le_mul (by omega) (by omega)
        have hw9 : 3 * 3 ≤ wn * hn := Nat.mul_le_mul (by omega) (by omega)
        have hAq : ∀ q8, q8 < H.size → nwAC ro H q8 → nwAC ro H q8 := fun q8 h8 h9 => h9.elim Or.inl (fun e9 => absurd h8 (Nat.not_lt.mpr e9))
        refine nw_callV C (mX1_clear _ C.hfl d ro ad x σ sm H hB hRc) kX1_clear q216 (hx.is C (ci := 0) rfl) (As := []) (rest := []) rfl rfl ⟨⟨Nat.le_of_ble_eq_true rfl, Nat.le_of_ble_eq_true rfl⟩, (show 0 + 0 ≤ 6 by omega), (show 0 + 0 ≤ 90 by omega)⟩ (Nat.le_of_ble_eq_true rfl) hAq dX1_base_39 42 rfl (fun v9 H28 hR29 hz30 hq31 => ?_) nw_noX
        obtain ⟨rfl, hR1⟩ := hR29
        obtain ⟨σ1, hσ1⟩ : ∃ t9 : spSg, t9 = st_clear σ := ⟨_, rfl⟩
        rw [← hσ1] at hR1
        have hE := hE.kept (fun q9 g9 hb9 => hq31 q9 g9 (fun h9 => hb9 (C.hB q9 (hAq q9 g9 h9))))
        have hsz : H.size ≤ H28.size := Nat.le_trans hext.1 hz30
        have hB := Nat.le_trans hB0 hsz
        have ok : spOk σ1 := by rw [hσ1]; exact ok.clear
        have hR := hR1
        have hW := hR.wc
        obtain ⟨hx, hcG, hcLa, hcFo, hcGu, hcPo, hcIn, hcWi, hcWo, hcKe⟩ := id hW
        obtain ⟨okg, okl, okf, oku, okp, oki, okw, okd, okk, oka⟩ := id ok
        have hn64 : gr_n (sg_gr σ1) ≤ 64 := okg.n
        have oku1 := oku.1
        have oki1 := oki.1
        have okp1 := okp.1
        have okw1 := okw.1
        have okl1 := okl.1
        have okf1 := okf.1
        show nwV X _ _ 8 H28 (0 + 0) (0 + 0) 42 [(0, .ref x), (1, .int (nI wn)), (2, .int (nI hn)), (3, .int (nI sn))] []
        refine nw_wide (k' := 0) (n' := 0) (by omega) (by omega) ?_
        refine nw_aload_n C 0 dX1_base_42 rfl 43 rfl ?_
        refine nw_get C hx (T := TX1) rfl in_X1 7 (by decide) q228 (Or.inl rfl) rfl dX1_base_43 46 rfl ?_
        refine nw_aload_n C 0 dX1_base_46 rfl 47 rfl ?_
        refine nw_get C hx (T := TX1) rfl in_X1 7 (by decide) q228 (Or.inl rfl) rfl dX1_base_47 50 rfl ?_
        refine nw_getN C hcWo.1 (T := TX2) rfl in_X2 0 (by decide) q201 rfl rfl dX1_base_50 53 rfl ?_
        obtain ⟨hwne, hwnP, hwB⟩ := nwWR.wne hR
        have hRc := hR
        have hAq : ∀ q8, q8 < H28.size → (q8 = ad 7 ∨ q8 = ad 11 ∨ q8 = ad 12 ∨ ro q8 = 2013 ∨ H28.size ≤ q8) → nwAC ro H q8 := by
          intro q8 h8 h9
          rcases nwAC_wb hR q8 h8 h9 with h9 | h9
          · exact Or.inl h9
          · exact Or.inr (Nat.le_trans hsz h9)
        refine nw_callV C (mX2_begin _ C.hfl d (ad 7) (ad 11) (ad 12) (fun q => ro q = 2013) (nI (wo_s (sg_wo σ1))) (.ref (ad 13)) (fun h => nI (wo_n (sg_wo σ1) h)) (wo_m (sg_wo σ1)) (fun k => nd_bx d (wo_o (sg_wo σ1) k)) (wo_s (sg_wo σ1)) H28 hB hcWo.1 hcWo.2.2.1 hcWo.2.2.2 ⟨hwB.1, hwB.2.1, hwB.2.2.2⟩ (fun q9 e9 => (hR.ok0 (show ro q9 ≠ 0 by rw [e9]; decide)).1) (fun q9 e9 => (hR.ok0 (show ro q9 ≠ 0 by rw [e9]; decide)).2) ⟨hwne.1, hwne.2.2.1, hwne.2.2.2.2.1⟩ ⟨hwnP.1, hwnP.2.1, hwnP.2.2.2⟩ (Nat.lt_trans okd.1.1 (by decide))) kX2_begin q723 (hcWo.1.is C (ci := 5) rfl) (As := [.int (nI (wo_s (sg_wo σ1)))]) (rest := []) rfl rfl ⟨⟨Nat.le_of_ble_eq_true rfl, Nat.le_of_ble_eq_true rfl⟩, (show 0 + 1 ≤ 6 by omega), (show 0 + 1 ≤ 90 by omega)⟩ (Nat.le_of_ble_eq_true rfl) hAq dX1_base_53 56 rfl (fun v9 H32 hR33 hz34 hq35 => ?_) nw_noX
        obtain ⟨rfl, row8, mo8, ar8, cap8, f8, hrow8, h78, hr8, hn8, hL8⟩ := hR33
        obtain ⟨ro2, ad2, hR2, hk1, hol1, had1⟩ := tr_wb hRc hB hz34 hq35 hrow8 h78 hr8 hn8 hL8
        obtain ⟨σ2, hσ2⟩ : ∃ t9 : spSg, t9 = st_wo σ1 (sp_words (wo_s (sg_wo σ1)) (wo_o (sg_wo σ1))) := ⟨_, rfl⟩
        rw [← hσ2] at hR2
        have hE := hE.kept (fun q9 g9 hb9 => hq35 q9 g9 (fun h9 => hb9 (C.hB q9 (hAq q9 g9 h9))))
        have hsz : H.size ≤ H32.size := Nat.le_trans hsz hz34
        have hB := Nat.le_trans hB0 hsz
        have ok : spOk σ2 := by rw [hσ2]; exact ⟨okg, okl, okf, oku, okp, oki, okw, okWo.begin okd.1.1 _, okk, oka⟩
        have hR := hR2
        have hW := hR.wc
        show nwV X _ _ 8 H32 (0 + 1) (0 + 1) 56 [(0, .ref x), (1, .int (nI wn)), (2, .int (nI hn)), (3, .int (nI sn))] []
        refine nw_wide (k' := 1) (n' := 1) (by omega) (by omega) ?_
        refine nw_new C (ci := 1) (T := TX6) (ty0 := tyX6) [.int (nI 0), .int (nI 0), .null] rfl in_X6 tyX6_ok q284 q447 q101 (fun j hj => by rcases (show j = 0 ∨ j = 1 ∨ j = 2 by omega) with rfl | rfl | rfl <;> rfl) 2 4 (by omega) (by omega) ⟨(show 2 ≤ 6 by omega), (show 4 ≤ 90 by omega)⟩ dX1_base_56 59 rfl (fun a36 H37 hx38 ho39 hz40 hq41 => ?_)
        have hn42 : H.size ≤ a36 := by rw [hx38]; exact hsz
        have hr043 : ro2 a36 = 0 := nwWR.new0 hR (by rw [hx38]; exact Nat.le_refl _)
        have hR := hR.kp (show H32.size ≤ H37.size by omega) (fun q9 g9 _ => hq41 q9 g9)
        have hsz := Nat.le_trans hsz (show _ ≤ H37.size by omega)
        have hB := Nat.le_trans hB0 hsz
        refine nw_dup C dX1_base_59 rfl 60 rfl ?_
        refine nw_iload_n C 1 dX1_base_60 rfl 61 rfl ?_
        refine nw_iload_n C 2 dX1_base_61 rfl 62 rfl ?_
        refine nw_callI C (mX6_init _ C.hfl d a36 wn hn H37 hB (Nat.le_trans hB0 hn42) ho39 (by omega) (by omega)) kX6_init q724 (As := [.int (nI wn), .int (nI hn)]) (rest := [.ref a36]) rfl rfl ⟨⟨Nat.le_of_ble_eq_true rfl, Nat.le_of_ble_eq_true rfl⟩, (show 2 + 1 ≤ 6 by omega), (show 4 + 64 ≤ 90 by omega)⟩ (Nat.le_of_ble_eq_true rfl) (fun q8 h8 h9 => h9.elim (fun e9 => by rw [e9]; exact (Or.inr hn42)) (fun e9 => absurd h8 (Nat.not_lt.mpr e9))) dX1_base_62 65 rfl (fun v9 H44 hR45 hz46 hq47 => ?_) nw_noX
        obtain ⟨rfl, kar, hkan, hgo9, hka9⟩ := hR45
        have hkaN : H.size ≤ kar := Nat.le_trans hsz hkan
        have hgk9 : a36 ≠ kar := Nat.ne_of_lt (Nat.lt_of_lt_of_le ho39.lt hkan)
        have hka0 : ro2 kar = 0 := nwWR.new0 hR hkan
        have hR := hR.kp hz46 (fun q9 g9 e8 => hq47 q9 g9 (fun e9 => e9.elim (fun e9 => e8 (by rw [e9]; exact hr043)) (Nat.not_le.mpr g9)))
        have hsz := Nat.le_trans hsz hz46
        have hB := Nat.le_trans hB0 hsz
        show nwV X _ _ 8 H44 (2 + 1) (4 + 64) 65 [(0, .ref x), (1, .int (nI wn)), (2, .int (nI hn)), (3, .int (nI sn))] [.ref a36]
        refine nw_wide (k' := 3) (n' := 68) (by omega) (by omega) ?_
        refine nw_astore C [(4, .ref a36), (0, .ref x), (1, .int (nI wn)), (2, .int (nI hn)), (3, .int (nI sn))] dX1_base_65 (by decide) rfl 67 rfl ?_
        refine nw_new C (ci := 6) (T := TX3) (ty0 := tyX3) [.int (nI 0)] rfl in_X3 tyX3_ok q744 q182 q92 (fun j hj => by rcases (show j = 0 by omega) with rfl <;> rfl) 4 69 (by omega) (by omega) ⟨(show 4 ≤ 6 by omega), (show 69 ≤ 90 by omega)⟩ dX1_base_67 70 rfl (fun a48 H49 hx50 ho51 hz52 hq53 => ?_)
        have hn54 : H.size ≤ a48 := by rw [hx50]; exact hsz
        have hr055 : ro2 a48 = 0 := nwWR.new0 hR (by rw [hx50]; exact Nat.le_refl _)
        have hR := hR.kp (show H44.size ≤ H49.size by omega) (fun q9 g9 _ => hq53 q9 g9)
        have hsz := Nat.le_trans hsz (show _ ≤ H49.size by omega)
        have hne56 : a36 ≠ a48 := Nat.ne_of_lt (by rw [hx50]; exact hgo9.lt)
        have ho57 := hgo9.kept (hq53 _ hgo9.lt)
        have hne58 : kar ≠ a48 := Nat.ne_of_lt (by rw [hx50]; exact hka9.lt)
        have ho59 := hka9.kept (hq53 _ hka9.lt)
        have hB := Nat.le_trans hB0 hsz
        refine nw_dup C dX1_base_70 rfl 71 rfl ?_
        refine nw_iload_n C 4 dX1_base_71 rfl 72 rfl ?_
        refine nw_callI C (mX3_init _ C.hfl d a48 sn H49 hB (Nat.le_trans hB0 hn54) ho51 ) kX3_init q745 (As := [.int (nI sn)]) (rest := [.ref a48]) rfl rfl ⟨⟨Nat.le_of_ble_eq_true rfl, Nat.le_of_ble_eq_true rfl⟩, (show 4 + 0 ≤ 6 by omega), (show 69 + 0 ≤ 90 by omega)⟩ (Nat.le_of_ble_eq_true rfl) (fun q8 h8 h9 => h9.elim (fun e9 => by rw [e9]; exact (Or.inr hn54)) (fun e9 => absurd h8 (Nat.not_lt.mpr e9))) dX1_base_72 75 rfl (fun v9 H60 hR61 hz62 hq63 => ?_) nw_noX
        obtain ⟨rfl, ho64⟩ := hR61
        have hR := hR.kp hz62 (fun q9 g9 e8 => hq63 q9 g9 (fun e9 => e9.elim (fun e9 => e8 (by rw [e9]; exact hr055)) (Nat.not_le.mpr g9)))
        have hsz := Nat.le_trans hsz hz62
        have ho65 := ho57.kept (hq63 _ ho57.lt (fun e9 => e9.elim hne56 (Nat.not_le.mpr ho57.lt)))
        have ho66 := ho59.kept (hq63 _ ho59.lt (fun e9 => e9.elim hne58 (Nat.not_le.mpr ho59.lt)))
        have hB := Nat.le_trans hB0 hsz
        show nwV X _ _ 8 H60 (4 + 0) (69 + 0) 75 [(4, .ref a36), (0, .ref x), (1, .int (nI wn)), (2, .int (nI hn)), (3, .int (nI sn))] [.ref a48]
        refine nw_wide (k' := 4) (n' := 69) (by omega) (by omega) ?_
        refine nw_astore C [(5, .ref a48), (4, .ref a36), (0, .ref x), (1, .int (nI wn)), (2, .int (nI hn)), (3, .int (nI sn))] dX1_base_75 (by decide) rfl 77 rfl ?_
        refine nw_iconst C (nI 0) dX1_base_77 (by decide) 78 rfl ?_
        refine nw_istore C [(6, .int (nI 0)), (5, .ref a48), (4, .ref a36), (0, .ref x), (1, .int (nI wn)), (2, .int (nI hn)), (3, .int (nI sn))] dX1_base_78 (by decide) rfl 80 rfl ?_
        have lp67 : ∀ (fu : Nat) (H2 : Heap) (i : Nat) (kk : Nat → Nat), (i ≤ wn * hn) → (H.size ≤ H2.size) → (nwWR d ro2 ad2 x σ2 sm H2) → (nwO d a36 1 [.int (nI wn), .int (nI hn), .ref kar] H2) → (nwR d kar 4 (wn * hn) (fun c => some (nd_st d (kk c))) H2) → (nwO d a48 6 [.int (nI (sp_row sn i))] H2) → (∀ c, kk c < 4) → (∀ c, c < i → kk c = sp_kind sn (sp_row sn (c + 1) % 10)) → (∀ c, i ≤ c → kk c = 0) → (100 ≤ sn → i = 0) → wn * hn - i < fu → nwV X (nwAC ro H) (nwQE X (nwCv d ro x sm (op_base σ (nI wn) (nI hn) (nI sn)) H) (nwRx ((op_base σ (nI wn) (nI hn) (nI sn)).1, 0) [cIA] H) (nwAC ro H) 6 90) 8 H2 4 69 80 [(0, .ref x), (1, .int (nI wn)), (2, .int (nI hn)), (3, .int (nI sn)), (4, .ref a36), (5, .ref a48), (6, .int (nI i))] [] := by
          intro fu
          induction fu with
          | zero => intro H2 i kk _ _ _ _ _ _ _ _ _ _ hm; exact absurd hm (Nat.not_lt_zero _)
          | succ fu ih_lp67 =>
            intro H2 i kk hi hsz hR hgd2 hka2 hrw2 hkk hk1i hk2i h100 hm
            have hB := Nat.le_trans hB0 hsz
            have hgn9 : gr_n (wn, hn, kk) = wn * hn := rfl
            have hG9 : nwGr d a36 kar (wn, hn, kk) H2 := ⟨hgd2, hka2⟩
            have ho9 : spGrOk (wn, hn, kk) := ⟨⟨by show 3 ≤ wn; omega, by show wn ≤ 8; omega, by show 3 ≤ hn; omega, by show hn ≤ 8; omega⟩, fun c _ => hkk c⟩
            refine nw_iload C 6 dX1_base_80 rfl 82 rfl ?_
            refine nw_aload C 4 dX1_base_82 rfl 84 rfl ?_
            refine nw_callV C (mX6_size _ C.hfl d a36 kar (wn, hn, kk)  H2 hB hG9 ho9 ) kX6_size q285 (hgd2.is C (ci := 1) rfl) (As := []) (rest := [.int (nI i)]) rfl rfl ⟨⟨Nat.le_of_ble_eq_true rfl, Nat.le_of_ble_eq_true rfl⟩, Nat.le_of_ble_eq_true rfl, Nat.le_of_ble_eq_true rfl⟩ (Nat.le_of_ble_eq_true rfl) (fun _ h8 h9 => absurd h9 (Nat.not_le.mpr h8)) dX1_base_84 87 rfl (nw_rdK ?_) nw_noX
            refine nw_icmpgeN C (by omega) 159 dX1_base_87 (by decide) 90 rfl (fun h68 => ?_) (fun h68 => ?_)
            · have hlk : ∀ c, c < wn * hn → kk c = gr_k (sp_laid wn hn sn) c := by
                intro c hc
                rcases Nat.lt_or_ge sn 100 with h9 | h9
                · exact hk1i c (by omega)
                · rw [hk2i c (by rw [h100 h9]; exact Nat.zero_le _)]
                  show 0 = sp_kind sn _
                  unfold sp_kind
                  rw [if_pos (by omega)]
              have hka3 : nwR d kar 4 (gr_n (sp_laid wn hn sn)) (fun c => some (nd_st d (gr_k (sp_laid wn hn sn) c))) H2 := nwR.congr hka2 (fun c hc => by show some (nd_st d (kk c)) = _; rw [hlk c hc])
              refine nw_aload_n C 0 dX1_base_159 rfl 160 rfl ?_
              refine nw_aload C 4 dX1_base_160 rfl 162 rfl ?_
              refine nw_callS C (mJ0_of _ C.hfl d a36 H2 hB) kJ0_of q749 (As := [.ref a36]) (rest := [.ref x]) rfl rfl ⟨⟨Nat.le_of_ble_eq_true rfl, Nat.le_of_ble_eq_true rfl⟩, (show 4 + 1 ≤ 6 by omega), (show 69 + 1 ≤ 90 by omega)⟩ (Nat.le_of_ble_eq_true rfl) (fun _ h8 h9 => absurd h9 (Nat.not_le.mpr h8)) dX1_base_162 165 rfl (fun v9 H69 hR70 hz71 hq72 => ?_) nw_noX
              obtain ⟨⟨op9, rfl, hon9, hoo9⟩, hxe9⟩ := hR70
              have hr9o : ro2 op9 = 0 := nwWR.new0 hR hon9
              have hopN : H.size ≤ op9 := Nat.le_trans hsz hon9
              have hog9 : op9 ≠ a36 ∧ op9 ≠ kar := ⟨fun e9 => absurd hgd2.lt (Nat.not_lt.mpr (by rw [← e9]; exact hon9)), fun e9 => absurd hka3.lt (Nat.not_lt.mpr (by rw [← e9]; exact hon9))⟩
              have hR := hR.ext hxe9
              have ho73 := hgd2.ext hxe9.2
              have ho74 := hka3.ext hxe9.2
              have hsz := Nat.le_trans hsz hz71
              have hB := Nat.le_trans hB0 hsz
              show nwV X _ _ 8 H69 (4 + 1) (69 + 1) 165 [(0, .ref x), (1, .int (nI wn)), (2, .int (nI hn)), (3, .int (nI sn)), (4, .ref a36), (5, .ref a48), (6, .int (nI i))] [.ref op9, .ref x]
              refine nw_wide (k' := 5) (n' := 70) (by omega) (by omega) ?_
              refine nw_put C hR.2.1.1 (Or.inl (by rw [hrx0]; decide +kernel)) (T := TX1) (ty0 := tyX1) rfl in_X1 tyX1_ok nmX1 0 (by decide) q221 (Or.inl rfl) rfl rfl rfl (Nat.le_of_ble_eq_true rfl) dX1_base_165 168 rfl (fun H75 ho76 hz77 hq78 => ?_)
              have ho76 : nwO d x 0 [.ref op9, .ref (ad2 1), .ref (ad2 2), .ref (ad2 3), .ref (ad2 4), .ref (ad2 5), .ref (ad2 6), .ref (ad2 7), .ref (ad2 8), .int (nI (ga_f (sg_ga σ2))), .int (nI (ga_t (sg_ga σ2))), .int (nI (sg_ri σ2)), .int (nI (sg_rf σ2)), .long sm] H75 := ho76
              have hqx := hq78
              have hxg : x ≠ a36 ∧ x ≠ kar ∧ x ≠ op9 := ⟨fun e9 => by have p8 := hR.2.1.2; rw [e9, hr043] at p8; omega, fun e9 => by have p8 := hR.2.1.2; rw [e9, hka0] at p8; omega, fun e9 => by have p8 := hR.2.1.2; rw [e9, hr9o] at p8; omega⟩
              have hgd4 := ho73.kept (hqx _ (Ne.symm hxg.1))
              have hka4 := ho74.kept (hqx _ (Ne.symm hxg.2.1))
              have hop4 := hoo9.kept (hqx _ (Ne.symm hxg.2.2))
              have hG4 : nwGr d a36 kar (sp_laid wn hn sn) H75 := ⟨hgd4, hka4⟩
              have oG4 : spGrOk (sp_laid wn hn sn) := sp_laid_ok (by omega) (by omega)
              obtain ⟨ro3, ad3, hR3, hk3⟩ := tr_base hR oG4 ⟨hr9o, hr043, hka0⟩ ⟨Nat.le_trans hB0 hopN, Nat.le_trans hB0 hn42, Nat.le_trans hB0 hkaN⟩ ⟨hoo9.lt, ho73.lt, ho74.lt⟩ ⟨hog9.1, hog9.2, hgk9⟩ hz77 hq78 ho76 hop4 hG4
              have hk4 : ∀ q, ro q ≠ 0 → ro3 q = ro q := fun q e9 => by have p8 := hk1 q e9; rw [hk3 q (by rw [p8]; exact e9)]; exact p8
              have hsz : H.size ≤ H75.size := by rw [hz77]; exact hsz
              have hB := Nat.le_trans hB0 hsz
              refine nw_aload C 4 dX1_base_168 rfl 170 rfl ?_
              refine nw_callV C (mX6_size _ C.hfl d a36 kar (sp_laid wn hn sn)  H75 hB hG4 oG4 ) kX6_size q285 (hgd4.is C (ci := 1) rfl) (As := []) (rest := []) rfl rfl ⟨⟨Nat.le_of_ble_eq_true rfl, Nat.le_of_ble_eq_true rfl⟩, Nat.le_of_ble_eq_true rfl, Nat.le_of_ble_eq_true rfl⟩ (Nat.le_of_ble_eq_true rfl) (fun _ h8 h9 => absurd h9 (Nat.not_le.mpr h8)) dX1_base_170 173 rfl (nw_rdK ?_) nw_noX
              refine nw_aload C 4 dX1_base_173 rfl 175 rfl ?_
              refine nw_gets C (v := .ref (nd_st d 1)) (fun _ _ h9 => h9.2.2.1.2.1) q576 dX1_base_175 178 rfl ?_
              refine nw_callV C (mX6_count _ C.hfl d a36 kar (sp_laid wn hn sn) 1 H75 hB hG4 oG4 (by decide)) kX6_count q765 (hgd4.is C (ci := 1) rfl) (As := [.ref (nd_st d 1)]) (rest := [.int (nI (gr_n (sp_laid wn hn sn)))]) rfl rfl ⟨⟨Nat.le_of_ble_eq_true rfl, Nat.le_of_ble_eq_true rfl⟩, Nat.le_of_ble_eq_true rfl, Nat.le_of_ble_eq_true rfl⟩ (Nat.le_of_ble_eq_true rfl) (fun _ h8 h9 => absurd h9 (Nat.not_le.mpr h8)) dX1_base_178 181 rfl (nw_rdK ?_) nw_noX
              refine nw_isub C (nI (sp_cnt (fun c => !(gr_k (sp_laid wn hn sn) c == 1)) (wn * hn))) dX1_base_181 (nw_cntW (fun c => gr_k (sp_laid wn hn sn) c == 1) (wn * hn)) 182 rfl ?_
              have hop : op_base σ (nI wn) (nI hn) (nI sn) = (0, nI (sp_cnt (fun c => !(gr_k (sp_laid wn hn sn) c == 1)) (wn * hn)), st_base σ wn hn sn) := by simp [op_base, h1, h10, h19, en_wn, en_hn, en_sn]
              have hR9 : nwWR d ro3 ad3 x (st_base σ wn hn sn) sm H75 := by rw [hσ2, hσ1] at hR3; exact hR3
              exact nw_iret C dX1_base_182 (by omega) (by omega) (by rw [hop]; exact ⟨⟨rfl, rfl⟩, ok0.base (by omega) (by omega), hsz, ro3, ad3, hR9, hk4⟩)
            · refine nw_iload_n C 3 dX1_base_90 rfl 91 rfl ?_
              refine nw_bipush C (nI 100) dX1_base_91 (by decide) 93 rfl ?_
              refine nw_icmpgeN C (by omega) 159 dX1_base_93 (by decide) 96 rfl (fun h79 => ?_) (fun h79 => ?_)
              · have hlk : ∀ c, c < wn * hn → kk c = gr_k (sp_laid wn hn sn) c := by
                  intro c hc
                  rcases Nat.lt_or_ge sn 100 with h9 | h9
                  · exact hk1i c (by omega)
                  · rw [hk2i c (by rw [h100 h9]; exact Nat.zero_le _)]
                    show 0 = sp_kind sn _
                    unfold sp_kind
                    rw [if_pos (by omega)]
                have hka3 : nwR d kar 4 (gr_n (sp_laid wn hn sn)) (fun c => some (nd_st d (gr_k (sp_laid wn hn sn) c))) H2 := nwR.congr hka2 (fun c hc => by show some (nd_st d (kk c)) = _; rw [hlk c hc])
                refine nw_aload_n C 0 dX1_base_159 rfl 160 rfl ?_
                refine nw_aload C 4 dX1_base_160 rfl 162 rfl ?_
                refine nw_callS C (mJ0_of _ C.hfl d a36 H2 hB) kJ0_of q749 (As := [.ref a36]) (rest := [.ref x]) rfl rfl ⟨⟨Nat.le_of_ble_eq_true rfl, Nat.le_of_ble_eq_true rfl⟩, (show 4 + 1 ≤ 6 by omega), (show 69 + 1 ≤ 90 by omega)⟩ (Nat.le_of_ble_eq_true rfl) (fun _ h8 h9 => absurd h9 (Nat.not_le.mpr h8)) dX1_base_162 165 rfl (fun v9 H80 hR81 hz82 hq83 => ?_) nw_noX
                obtain ⟨⟨op9, rfl, hon9, hoo9⟩, hxe9⟩ := hR81
                have hr9o : ro2 op9 = 0 := nwWR.new0 hR hon9
                have hopN : H.size ≤ op9 := Nat.le_trans hsz hon9
                have hog9 : op9 ≠ a36 ∧ op9 ≠ kar := ⟨fun e9 => absurd hgd2.lt (Nat.not_lt.mpr (by rw [← e9]; exact hon9)), fun e9 => absurd hka3.lt (Nat.not_lt.mpr (by rw [← e9]; exact hon9))⟩
                have hR := hR.ext hxe9
                have ho84 := hgd2.ext hxe9.2
                have ho85 := hka3.ext hxe9.2
                have hsz := Nat.le_trans hsz hz82
                have hB := Nat.le_trans hB0 hsz
                show nwV X _ _ 8 H80 (4 + 1) (69 + 1) 165 [(0, .ref x), (1, .int (nI wn)), (2, .int (nI hn)), (3, .int (nI sn)), (4, .ref a36), (5, .ref a48), (6, .int (nI i))] [.ref op9, .ref x]
                refine nw_wide (k' := 5) (n' := 70) (by omega) (by omega) ?_
                refine nw_put C hR.2.1.1 (Or.inl (by rw [hrx0]; decide +kernel)) (T := TX1) (ty0 := tyX1) rfl in_X1 tyX1_ok nmX1 0 (by decide) q221 (Or.inl rfl) rfl rfl rfl (Nat.le_of_ble_eq_true rfl) dX1_base_165 168 rfl (fun H86 ho87 hz88 hq89 => ?_)
                have ho87 : nwO d x 0 [.ref op9, .ref (ad2 1), .ref (ad2 2), .ref (ad2 3), .ref (ad2 4), .ref (ad2 5), .ref (ad2 6), .ref (ad2 7), .ref (ad2 8), .int (nI (ga_f (sg_ga σ2))), .int (nI (ga_t (sg_ga σ2))), .int (nI (sg_ri σ2)), .int (nI (sg_rf σ2)), .long sm] H86 := ho87
                have hqx := hq89
                have hxg : x ≠ a36 ∧ x ≠ kar ∧ x ≠ op9 := ⟨fun e9 => by have p8 := hR.2.1.2; rw [e9, hr043] at p8; omega, fun e9 => by have p8 := hR.2.1.2; rw [e9, hka0] at p8; omega, fun e9 => by have p8 := hR.2.1.2; rw [e9, hr9o] at p8; omega⟩
                have hgd4 := ho84.kept (hqx _ (Ne.symm hxg.1))
                have hka4 := ho85.kept (hqx _ (Ne.symm hxg.2.1))
                have hop4 := hoo9.kept (hqx _ (Ne.symm hxg.2.2))
                have hG4 : nwGr d a36 kar (sp_laid wn hn sn) H86 := ⟨hgd4, hka4⟩
                have oG4 : spGrOk (sp_laid wn hn sn) := sp_laid_ok (by omega) (by omega)
                obtain ⟨ro3, ad3, hR3, hk3⟩ := tr_base hR oG4 ⟨hr9o, hr043, hka0⟩ ⟨Nat.le_trans hB0 hopN, Nat.le_trans hB0 hn42, Nat.le_trans hB0 hkaN⟩ ⟨hoo9.lt, ho84.lt, ho85.lt⟩ ⟨hog9.1, hog9.2, hgk9⟩ hz88 hq89 ho87 hop4 hG4
                have hk4 : ∀ q, ro q ≠ 0 → ro3 q = ro q := fun q e9 => by have p8 := hk1 q e9; rw [hk3 q (by rw [p8]; exact e9)]; exact p8
                have hsz : H.size ≤ H86.size := by rw [hz88]; exact hsz
                have hB := Nat.le_trans hB0 hsz
                refine nw_aload C 4 dX1_base_168 rfl 170 rfl ?_
                refine nw_callV C (mX6_size _ C.hfl d a36 kar (sp_laid wn hn sn)  H86 hB hG4 oG4 ) kX6_size q285 (hgd4.is C (ci := 1) rfl) (As := []) (rest := []) rfl rfl ⟨⟨Nat.le_of_ble_eq_true rfl, Nat.le_of_ble_eq_true rfl⟩, Nat.le_of_ble_eq_true rfl, Nat.le_of_ble_eq_true rfl⟩ (Nat.le_of_ble_eq_true rfl) (fun _ h8 h9 => absurd h9 (Nat.not_le.mpr h8)) dX1_base_170 173 rfl (nw_rdK ?_) nw_noX
                refine nw_aload C 4 dX1_base_173 rfl 175 rfl ?_
                refine nw_gets C (v := .ref (nd_st d 1)) (fun _ _ h9 => h9.2.2.1.2.1) q576 dX1_base_175 178 rfl ?_
                refine nw_callV C (mX6_count _ C.hfl d a36 kar (sp_laid wn hn sn) 1 H86 hB hG4 oG4 (by decide)) kX6_count q765 (hgd4.is C (ci := 1) rfl) (As := [.ref (nd_st d 1)]) (rest := [.int (nI (gr_n (sp_laid wn hn sn)))]) rfl rfl ⟨⟨Nat.le_of_ble_eq_true rfl, Nat.le_of_ble_eq_true rfl⟩, Nat.le_of_ble_eq_true rfl, Nat.le_of_ble_eq_true rfl⟩ (Nat.le_of_ble_eq_true rfl) (fun _ h8 h9 => absurd h9 (Nat.not_le.mpr h8)) dX1_base_178 181 rfl (nw_rdK ?_) nw_noX
                refine nw_isub C (nI (sp_cnt (fun c => !(gr_k (sp_laid wn hn sn) c == 1)) (wn * hn))) dX1_base_181 (nw_cntW (fun c => gr_k (sp_laid wn hn sn) c == 1) (wn * hn)) 182 rfl ?_
                have hop : op_base σ (nI wn) (nI hn) (nI sn) = (0, nI (sp_cnt (fun c => !(gr_k (sp_laid wn hn sn) c == 1)) (wn * hn)), st_base σ wn hn sn) := by simp [op_base, h1, h10, h19, en_wn, en_hn, en_sn]
                have hR9 : nwWR d ro3 ad3 x (st_base σ wn hn sn) sm H86 := by rw [hσ2, hσ1] at hR3; exact hR3
                exact nw_iret C dX1_base_182 (by omega) (by omega) (by rw [hop]; exact ⟨⟨rfl, rfl⟩, ok0.base (by omega) (by omega), hsz, ro3, ad3, hR9, hk4⟩)
              · refine nw_aload C 5 dX1_base_96 rfl 98 rfl ?_
                refine nw_callV C (mX3_next _ C.hfl d a48 (sp_row sn i) H2 hB (Nat.le_trans hB0 hn54) hrw2 (sp_row_b (by omega) i)) kX3_next q746 (hrw2.is C (ci := 6) rfl) (As := []) (rest := []) rfl rfl ⟨⟨Nat.le_of_ble_eq_true rfl, Nat.le_of_ble_eq_true rfl⟩, (show 4 + 0 ≤ 6 by omega), (show 69 + 0 ≤ 90 by omega)⟩ (Nat.le_of_ble_eq_true rfl) (fun q8 h8 h9 => h9.elim (fun e9 => by rw [e9]; exact (Or.inr hn54)) (fun e9 => absurd h8 (Nat.not_lt.mpr e9))) dX1_base_98 101 rfl (fun v9 H90 hR91 hz92 hq93 => ?_) nw_noX
                obtain ⟨rfl, ho94⟩ := hR91
                have hR := hR.kp hz92 (fun q9 g9 e8 => hq93 q9 g9 (fun e9 => e9.elim (fun e9 => e8 (by rw [e9]; exact hr055)) (Nat.not_le.mpr g9)))
                have hsz := Nat.le_trans hsz hz92
                have ho95 := hgd2.kept (hq93 _ hgd2.lt (fun e9 => e9.elim hne56 (Nat.not_le.mpr hgd2.lt)))
                have ho96 := hka2.kept (hq93 _ hka2.lt (fun e9 => e9.elim hne58 (Nat.not_le.mpr hka2.lt)))
                have hB := Nat.le_trans hB0 hsz
                have hrl9 := sp_row_lt sn i
                show nwV X _ _ 8 H90 (4 + 0) (69 + 0) 101 [(0, .ref x), (1, .int (nI wn)), (2, .int (nI hn)), (3, .int (nI sn)), (4, .ref a36), (5, .ref a48), (6, .int (nI i))] [.int (nI (sp_row sn (i + 1)))]
                refine nw_wide (k' := 4) (n' := 69) (by omega) (by omega) ?_
                refine nw_bipush C (nI 10) dX1_base_101 (by decide) 103 rfl ?_
                refine nw_iremN C (by omega) dX1_base_103 104 rfl ?_
                refine nw_istore C [(7, .int (nI ((sp_row sn (i + 1)) % 10))), (0, .ref x), (1, .int (nI wn)), (2, .int (nI hn)), (3, .int (nI sn)), (4, .ref a36), (5, .ref a48), (6, .int (nI i))] dX1_base_104 (by decide) rfl 106 rfl ?_
                refine nw_aload C 5 dX1_base_106 rfl 108 rfl ?_
                refine nw_getN C ho95 (T := TX6) rfl in_X6 2 (by decide) q736 rfl rfl dX1_base_108 111 rfl ?_
                refine nw_iload C 7 dX1_base_111 rfl 113 rfl ?_
                refine nw_iload C 0 dX1_base_113 rfl 115 rfl ?_
                refine nw_iconst C (nI 2) dX1_base_115 (by decide) 116 rfl ?_
                refine nw_icmpgeN C (by omega) 125 dX1_base_116 (by decide) 119 rfl (fun h97 => ?_) (fun h97 => ?_)
                · refine nw_iload C 0 dX1_base_125 rfl 127 rfl ?_
                  refine nw_iconst C (nI 2) dX1_base_127 (by decide) 128 rfl ?_
                  refine nw_icmpneN C (by omega) 137 dX1_base_128 (by decide) 131 rfl (fun h98 => ?_) (fun h98 => ?_)
                  · refine nw_iload C 0 dX1_base_137 rfl 139 rfl ?_
                    refine nw_iconst C (nI 3) dX1_base_139 (by decide) 140 rfl ?_
                    refine nw_icmpneN C (by omega) 149 dX1_base_140 (by decide) 143 rfl (fun h99 => ?_) (fun h99 => ?_)
                    · refine nw_gets C (v := .ref (nd_st d 0)) (fun _ _ h9 => h9.2.2.1.1) q748 dX1_base_149 152 rfl ?_
                      have hkd9 : 0 = sp_kind sn (sp_row sn (i + 1) % 10) := by unfold sp_kind; (repeat' split) <;> omega
                      refine nw_aastKk C hB0 ho96 (Or.inr hkaN) (by omega) (show 0 < 4 by decide) dX1_base_152 153 rfl (fun H100 ho101 hz102 hq103 => ?_)
                      have hR := hR.kp (Nat.le_of_eq hz102.symm) (fun q9 _ e8 => hq103 q9 (fun e9 => e8 (by rw [e9]; exact hka0)))
                      have hsz := Nat.le_trans hsz (Nat.le_of_eq hz102.symm)
                      have ho104 := ho95.kept (hq103 _ hgk9)
                      have ho105 := ho94.kept (hq103 _ (Ne.symm hne58))
                      have hB := Nat.le_trans hB0 hsz
                      have ho106 : nwR d kar 4 (wn * hn) (fun c => some (nd_st d (sp_up kk i 0 c))) H100 := nwR.congr ho101 (fun j _ => nw_upK)
                      refine nw_iincN C 7 (c0 := 1) [(6, .int (nI (i + 1))), (7, .int (nI ((sp_row sn (i + 1)) % 10))), (0, .ref x), (1, .int (nI wn)), (2, .int (nI hn)), (3, .int (nI sn)), (4, .ref a36), (5, .ref a48)] dX1_base_153 rfl (by decide) rfl 156 rfl ?_
                      refine nw_goto C 80 dX1_base_156 (by decide) ?_
                      exact nw_wide (by omega) (by omega) (nw_sub [2, 3, 4, 5, 6, 7, 0] rfl (ih_lp67 H100 (i + 1) (sp_up kk i 0) (by omega) hsz hR ho104 ho106 ho105 (fun c => by unfold sp_up; split; decide; exact hkk c) (sp_up_lt9 hk1i hkd9) (fun c hc => by rw [sp_up_ne _ _ (by omega)]; exact hk2i c (by omega)) (fun h9 => by omega) (by omega)))
                    · refine nw_gets C (v := .ref (nd_st d 3)) (fun _ _ h9 => h9.2.2.1.2.2.2) q577 dX1_base_143 146 rfl ?_
                      refine nw_goto C 152 dX1_base_146 (by decide) ?_
                      have hkd9 : 3 = sp_kind sn (sp_row sn (i + 1) % 10) := by unfold sp_kind; (repeat' split) <;> omega
                      refine nw_aastKk C hB0 ho96 (Or.inr hkaN) (by omega) (show 3 < 4 by decide) dX1_base_152 153 rfl (fun H107 ho108 hz109 hq110 => ?_)
                      have hR := hR.kp (Nat.le_of_eq hz109.symm) (fun q9 _ e8 => hq110 q9 (fun e9 => e8 (by rw [e9]; exact hka0)))
                      have hsz := Nat.le_trans hsz (Nat.le_of_eq hz109.symm)
                      have ho111 := ho95.kept (hq110 _ hgk9)
                      have ho112 := ho94.kept (hq110 _ (Ne.symm hne58))
                      have hB := Nat.le_trans hB0 hsz
                      have ho113 : nwR d kar 4 (wn * hn) (fun c => some (nd_st d (sp_up kk i 3 c))) H107 := nwR.congr ho108 (fun j _ => nw_upK)
                      refine nw_iincN C 7 (c0 := 1) [(6, .int (nI (i + 1))), (7, .int (nI ((sp_row sn (i + 1)) % 10))), (0, .ref x), (1, .int (nI wn)), (2, .int (nI hn)), (3, .int (nI sn)), (4, .ref a36), (5, .ref a48)] dX1_base_153 rfl (by decide) rfl 156 rfl ?_
                      refine nw_goto C 80 dX1_base_156 (by decide) ?_
                      exact nw_wide (by omega) (by omega) (nw_sub [2, 3, 4, 5, 6, 7, 0] rfl (ih_lp67 H107 (i + 1) (sp_up kk i 3) (by omega) hsz hR ho111 ho113 ho112 (fun c => by unfold sp_up; split; decide; exact hkk c) (sp_up_lt9 hk1i hkd9) (fun c hc => by rw [sp_up_ne _ _ (by omega)]; exact hk2i c (by omega)) (fun h9 => by omega) (by omega)))
                  · refine nw_gets C (v := .ref (nd_st d 2)) (fun _ _ h9 => h9.2.2.1.2.2.1) q747 dX1_base_131 134 rfl ?_
                    refine nw_goto C 152 dX1_base_134 (by decide) ?_
                    have hkd9 : 2 = sp_kind sn (sp_row sn (i + 1) % 10) := by unfold sp_kind; (repeat' split) <;> omega
                    refine nw_aastKk C hB0 ho96 (Or.inr hkaN) (by omega) (show 2 < 4 by decide) dX1_base_152 153 rfl (fun H114 ho115 hz116 hq117 => ?_)
                    have hR := hR.kp (Nat.le_of_eq hz116.symm) (fun q9 _ e8 => hq117 q9 (fun e9 => e8 (by rw [e9]; exact hka0)))
                    have hsz := Nat.le_trans hsz (Nat.le_of_eq hz116.symm)
                    have ho118 := ho95.kept (hq117 _ hgk9)
                    have ho119 := ho94.kept (hq117 _ (Ne.symm hne58))
                    have hB := Nat.le_trans hB0 hsz
                    have ho120 : nwR d kar 4 (wn * hn) (fun c => some (nd_st d (sp_up kk i 2 c))) H114 := nwR.congr ho115 (fun j _ => nw_upK)
                    refine nw_iincN C 7 (c0 := 1) [(6, .int (nI (i + 1))), (7, .int (nI ((sp_row sn (i + 1)) % 10))), (0, .ref x), (1, .int (nI wn)), (2, .int (nI hn)), (3, .int (nI sn)), (4, .ref a36), (5, .ref a48)] dX1_base_153 rfl (by decide) rfl 156 rfl ?_
                    refine nw_goto C 80 dX1_base_156 (by decide) ?_
                    exact nw_wide (by omega) (by omega) (nw_sub [2, 3, 4, 5, 6, 7, 0] rfl (ih_lp67 H114 (i + 1) (sp_up kk i 2) (by omega) hsz hR ho118 ho120 ho119 (fun c => by unfold sp_up; split; decide; exact hkk c) (sp_up_lt9 hk1i hkd9) (fun c hc => by rw [sp_up_ne _ _ (by omega)]; exact hk2i c (by omega)) (fun h9 => by omega) (by omega)))
                · refine nw_gets C (v := .ref (nd_st d 1)) (fun _ _ h9 => h9.2.2.1.2.1) q576 dX1_base_119 122 rfl ?_
                  refine nw_goto C 152 dX1_base_122 (by decide) ?_
                  have hkd9 : 1 = sp_kind sn (sp_row sn (i + 1) % 10) := by unfold sp_kind; (repeat' split) <;> omega
                  refine nw_aastKk C hB0 ho96 (Or.inr hkaN) (by omega) (show 1 < 4 by decide) dX1_base_152 153 rfl (fun H121 ho122 hz123 hq124 => ?_)
                  have hR := hR.kp (Nat.le_of_eq hz123.symm) (fun q9 _ e8 => hq124 q9 (fun e9 => e8 (by rw [e9]; exact hka0)))
                  have hsz := Nat.le_trans hsz (Nat.le_of_eq hz123.symm)
                  have ho125 := ho95.kept (hq124 _ hgk9)
                  have ho126 := ho94.kept (hq124 _ (Ne.symm hne58))
                  have hB := Nat.le_trans hB0 hsz
                  have ho127 : nwR d kar 4 (wn * hn) (fun c => some (nd_st d (sp_up kk i 1 c))) H121 := nwR.congr ho122 (fun j _ => nw_upK)
                  refine nw_iincN C 7 (c0 := 1) [(6, .int (nI (i + 1))), (7, .int (nI ((sp_row sn (i + 1)) % 10))), (0, .ref x), (1, .int (nI wn)), (2, .int (nI hn)), (3, .int (nI sn)), (4, .ref a36), (5, .ref a48)] dX1_base_153 rfl (by decide) rfl 156 rfl ?_
                  refine nw_goto C 80 dX1_base_156 (by decide) ?_
                  exact nw_wide (by omega) (by omega) (nw_sub [2, 3, 4, 5, 6, 7, 0] rfl (ih_lp67 H121 (i + 1) (sp_up kk i 1) (by omega) hsz hR ho125 ho127 ho126 (fun c => by unfold sp_up; split; decide; exact hkk c) (sp_up_lt9 hk1i hkd9) (fun c hc => by rw [sp_up_ne _ _ (by omega)]; exact hk2i c (by omega)) (fun h9 => by omega) (by omega)))
        exact nw_wide (by omega) (by omega) (nw_sub [3, 4, 5, 6, 2, 1, 0] rfl (lp67 _ H60 0 (fun _ => 0) (Nat.zero_le _) hsz hR ho65 ho66 ho64 (fun _ => by decide) (fun c hc => absurd hc (Nat.not_lt_zero c)) (fun _ _ => rfl) (fun _ => rfl) (Nat.lt_succ_self _)))
