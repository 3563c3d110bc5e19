/-! ===== the component's methods that add to a list ===== -/
section WADD
variable {d : nwD} {ro ad : Nat → Nat} {x : Nat} {s : spSg} {sm : Int64} {H H1 : Heap} {U : State}
theorem nwAC_B (h : nwWR d ro ad x s sm H) (hB : nd_B d ≤ H.size) : ∀ q, nwAC ro H q → nd_B d ≤ q := by
  intro q hq
  rcases hq with hq | hq
  · exact (h.ok0 (fun e => by rw [e] at hq; exact absurd hq (by decide +kernel))).1
  · exact Nat.le_trans hB hq
theorem nwWR.new0 (h : nwWR d ro ad x s sm H) {q : Nat} (hq : H.size ≤ q) : ro q = 0 := Decidable.byContradiction fun e => absurd (h.ok0 e).2 (Nat.not_lt.mpr hq)
theorem nwE.bxis (h : nwE d U H) {v : Nat} (hv : v < 128) : ∃ c, H[nd_bx d v]? = some c := by
  obtain ⟨c, h1, -⟩ := h.boxIs hv
  exact ⟨c, h1⟩
theorem nwE.bxlt (h : nwE d U H) {v : Nat} (hv : v < 128) : nd_bx d v < H.size := by
  obtain ⟨c, h1⟩ := h.bxis hv
  exact (Array.getElem?_eq_some_iff.mp h1).1
theorem nwE.bxne (h : nwE d U H) {v a : Nat} (hv : v < 128) (ha : nd_B d ≤ a) : nd_bx d v ≠ a := by
  obtain ⟨_, _, _, _, _, _, _, _, _, _, h6⟩ := h.box hv
  exact fun e => h6 (by rw [e]; exact ha)
theorem sp_up_lt {α : Type} {f : Nat → α} {n : Nat} {v : α} {Q : α → Prop} (h : ∀ k, k < n → Q (f k)) (hv : Q v) : ∀ k, k < n + 1 → Q (sp_up f n v k) := by
  intro k hk
  by_cases e : k = n
  · rw [e, sp_up_at]; exact hv
  · rw [sp_up_ne _ _ e]; exact h k (by omega)
theorem sp_up_all {α : Type} {f : Nat → α} {n j : Nat} {v : α} {Q : α → Prop} (h : ∀ k, k < n → Q (f k)) (hv : Q v) : ∀ k, k < n → Q (sp_up f j v k) := by
  intro k hk
  by_cases e : k = j
  · rw [e, sp_up_at]; exact hv
  · rw [sp_up_ne _ _ e]; exact h k hk
theorem okLa.add {g : spGr} {la : spLa} (h : okLa g la) (hn : la.1 < 6) {v : Nat × Nat × Bool} (hv : v.1 < gr_n g ∧ v.2.1 ≤ 4) : okLa g (la.1 + 1, sp_up la.2 la.1 v) := ⟨hn, sp_up_lt (Q := fun (v : Nat × Nat × Bool) => v.1 < gr_n g ∧ v.2.1 ≤ 4) h.2 hv⟩
theorem okLa.put {g : spGr} {la : spLa} (h : okLa g la) {k : Nat} {v : Nat × Nat × Bool} (hv : v.1 < gr_n g ∧ v.2.1 ≤ 4) : okLa g (la.1, sp_up la.2 k v) := ⟨h.1, sp_up_all (Q := fun (v : Nat × Nat × Bool) => v.1 < gr_n g ∧ v.2.1 ≤ 4) h.2 hv⟩
theorem okFo.add {fo : spFo} (h : okFo fo) (hn : fo.1 < 8) {v : Nat × Nat} (hv : v.1 < 240 ∧ v.2 ≤ 5) : okFo (fo.1 + 1, sp_up fo.2 fo.1 v) := ⟨hn, sp_up_lt (Q := fun (v : Nat × Nat) => v.1 < 240 ∧ v.2 ≤ 5) h.2 hv⟩
theorem okWi.add {g : spGr} {wi : spWs} (h : okWi g wi) (hn : wi.1 < 5) {v : Nat × Nat} (hv : v.1 < gr_n g ∧ v.2 ≤ 12) : okWi g (wi.1 + 1, sp_up wi.2 wi.1 v) := ⟨hn, sp_up_lt (Q := fun (v : Nat × Nat) => v.1 < gr_n g ∧ v.2 ≤ 12) h.2 hv⟩
theorem okPo.add {g : spGr} {po : spPo} (h : okPo g po) (hn : po.1 < 4) {v : Nat} (hv : v < gr_n g) : okPo g (po.1 + 1, sp_up po.2 po.1 v) := ⟨hn, sp_up_lt (Q := fun v => v < gr_n g) h.2 hv⟩
theorem okGu.add {g : spGr} {gu : spGu} (h : okGu g gu) (hn : gu.1 < 6) {v : spGd} (hv : okGd g v) : okGu g (gu.1 + 1, sp_up gu.2 gu.1 v) := ⟨hn, sp_up_lt (Q := okGd g) h.2 hv⟩
theorem okGu.put {g : spGr} {gu : spGu} (h : okGu g gu) {k : Nat} {v : spGd} (hv : okGd g v) : okGu g (gu.1, sp_up gu.2 k v) := ⟨h.1, sp_up_all (Q := okGd g) h.2 hv⟩
theorem okIn.add {g : spGr} {is : spIs} (h : okIn g is) (hn : is.1 < 4) {v : spI1} (hv : okI1 g v) : okIn g (is.1 + 1, sp_up is.2 is.1 v) := ⟨hn, sp_up_lt (Q := okI1 g) h.2 hv⟩
theorem okIn.put {g : spGr} {is : spIs} (h : okIn g is) {k : Nat} {v : spI1} (hv : okI1 g v) : okIn g (is.1, sp_up is.2 k v) := ⟨h.1, sp_up_all (Q := okI1 g) h.2 hv⟩
theorem okGd.add {g : spGr} {u : spGd} (h : okGd g u) (hn : gd_m u < 6) {c : Nat} (hc : c < gr_n g) : okGd g (gd_add u c) := ⟨⟨h.1.1, h.1.2.1, h.1.2.2.1, h.1.2.2.2.1, by show 1 ≤ gd_m u + 1; omega, by show gd_m u + 1 ≤ 6; omega, h.1.2.2.2.2.2.2⟩, sp_up_lt (Q := fun c => c < gr_n g) h.2 hc⟩
theorem okGd.one {g : spGr} {c a b s : Nat} (hc : c < gr_n g) (h : a ≤ b ∧ b < 240 ∧ 1 ≤ s ∧ s ≤ 20) : okGd g (sp_gd c a b s) := ⟨⟨h.1, h.2.1, h.2.2.1, h.2.2.2, Nat.le_refl 1, by show 1 ≤ 6; omega, by show 0 ≤ 3; omega⟩, fun _ _ => hc⟩
theorem okKe.more {gu gu' : spGu} {ke : Nat → Option Nat} (h : okKe gu ke) (hl : gu.1 ≤ gu'.1) : okKe gu' ke := fun k hk g e => Nat.lt_of_lt_of_le (h k hk g e) hl
end WADD
theorem kX1_requireState : nwPS yX1_requireState cX1_requireState 1 none 1 := ⟨⟨q833, q86, q834⟩, by decide +kernel, by decide +kernel, by decide +kernel⟩
theorem kJ3_add : nwPV "java/util/ArrayList" yJ3_add cJ3_add 2 (some .boolean) 1 := ⟨⟨q889, q890, q90, q891⟩, rfl, by decide +kernel, by decide +kernel, by decide +kernel⟩
theorem kX9_init : nwPI yX9_init cX9_init 3 2 := ⟨⟨q116, q974, q975⟩, rfl, by decide +kernel, by decide +kernel, by decide +kernel⟩
theorem kX14_init : nwPI yX14_init cX14_init 3 2 := ⟨⟨q122, q1223, q1224⟩, rfl, by decide +kernel, by decide +kernel, by decide +kernel⟩
theorem kJ19_valueOf : nwPS yJ19_valueOf cJ19_valueOf 1 (some (.object "java/lang/Integer")) 1 := ⟨⟨q1001, q115, q1002⟩, by decide +kernel, by decide +kernel, by decide +kernel⟩
theorem kJ3_init : nwPI yJ3_init cJ3_init 1 0 := ⟨⟨q90, q143, q144⟩, rfl, by decide +kernel, by decide +kernel, by decide +kernel⟩
theorem kX10_init : nwPI yX10_init cX10_init 5 4 := ⟨⟨q117, q995, q996⟩, rfl, by decide +kernel, by decide +kernel, by decide +kernel⟩
set_option maxHeartbeats 4000000 in
theorem mX1_lamp (l : Launch) (hf : l.flags = flags0) (d : nwD) (ro ad : Nat → Nat) (x : Nat) (σ : spSg) (sm : Int64) (c : Int32) (r : Int32) (H : Heap) (hB : nd_B d ≤ H.size) (hR : nwWR d ro ad x σ sm H) (ok : spOk σ) : nwMt l d yX1_lamp cX1_lamp 4 (some .int) 8 142 4 40 [.ref x, .int c, .int r] H (nwCv d ro x sm (op_lamp σ c r) H) (nwRx ((op_lamp σ c r).1, 0) [cIO, cIA, cIS] H) (nwAC ro H) := by
  refine nw_start "NightwatchWall" "lamp" hf (by decide +kernel) rfl rfl (fun _ h => Or.inr h) (nwAC_B hR hB) (Nat.le_of_ble_eq_true rfl) ?_
  intro X C
  have hW := hR.wc
  have hrx0 := hR.2.1.2
  have hW0 := hW
  have hB0 := hB
  have hE := C.E0
  have hext : nwExt H H := nwExt.rfl
  obtain ⟨hx, hcG, hcLa, hcFo, hcGu, hcPo, hcIn, hcWi, hcWo, hcKe⟩ := id hW
  obtain ⟨okg, okl, okf, oku, okp, oki, okw, okd, okk, oka⟩ := id ok
  have hn64 : gr_n (sg_gr σ) ≤ 64 := okg.n
  have oku1 := oku.1
  have oki1 := oki.1
  have okp1 := okp.1
  have okw1 := okw.1
  have okl1 := okl.1
  have okf1 := okf.1
  show nwV X _ _ 4 H 0 0 0 [(0, .ref x), (1, .int c), (2, .int r)] []
  refine nw_aload_n C 0 dX1_lamp_0 rfl 1 rfl ?_
  refine nw_iload_n C 1 dX1_lamp_1 rfl 2 rfl ?_
  refine nw_callV C (mX1_groundAt _ C.hfl d ro ad x σ sm c H hB hW ok) kX1_groundAt q810 (hx.is C (ci := 0) rfl) (As := [.int c]) (rest := []) rfl rfl ⟨⟨Nat.le_of_ble_eq_true rfl, Nat.le_of_ble_eq_true rfl⟩, (show 0 + 1 ≤ 4 by omega), (show 0 + 6 ≤ 40 by omega)⟩ (Nat.le_of_ble_eq_true rfl) (fun _ h8 h9 => absurd h9 (Nat.not_le.mpr h8)) dX1_lamp_2 5 rfl ?_ ?_
  rotate_left
  · intro E9 w9 H1 hR2 hz3 hq4
    obtain ⟨rfl, hb5, hx6⟩ := hR2
    exact nw_out C (show (0 + 1) ≤ 4 by omega) (show (0 + 6) ≤ 40 by omega) ⟨⟨0, by simp [op_lamp, hb5, sp_wall], rfl⟩, hext.trans hx6⟩
  intro v9 H1 hR2 hz3 hq4
  obtain ⟨rfl, hb7, rfl⟩ := hR2
  obtain ⟨cn, hk8, rfl⟩ := nw_ix_nat (by omega) hb7
  have en_cn : nw_nn (nI cn) = cn := nw_nn_nI (by omega)
  obtain ⟨hgro, hgrl, hgrg⟩ := hcG.here (by assumption)
  show nwV X _ _ 4 H (0 + 1) (0 + 6) 5 [(0, .ref x), (1, .int (nI cn)), (2, .int r)] [.ref (ad 9)]
  refine nw_wide (k' := 1) (n' := 6) (by omega) (by omega) ?_
  refine nw_astore_n C [(3, .ref (ad 9)), (0, .ref x), (1, .int (nI cn)), (2, .int r)] dX1_lamp_5 (by decide) rfl 6 rfl ?_
  refine nw_iconst C (nI 1) dX1_lamp_6 (by decide) 7 rfl ?_
  refine nw_iconst C (nI 4) dX1_lamp_7 (by decide) 8 rfl ?_
  refine nw_iload_n C 3 dX1_lamp_8 rfl 9 rfl ?_
  refine nw_callS C (mX1_isFromR _ C.hfl d (nI 1) (nI 4) r H hB) kX1_isFrom q579 (As := [.int (nI 1), .int (nI 4), .int r]) (rest := []) rfl rfl ⟨⟨Nat.le_of_ble_eq_true rfl, Nat.le_of_ble_eq_true rfl⟩, Nat.le_of_ble_eq_true rfl, Nat.le_of_ble_eq_true rfl⟩ (Nat.le_of_ble_eq_true rfl) (fun _ h8 h9 => absurd h9 (Nat.not_le.mpr h8)) dX1_lamp_9 12 rfl (nw_rdK ?_) nw_noX
  show nwV X _ _ 4 H 1 6 12 [(3, .ref (ad 9)), (0, .ref x), (1, .int (nI cn)), (2, .int r)] [.int (b2i (nw_rg 1 4 r))]
  refine nw_callS C (mX1_require _ C.hfl d (nw_rg 1 4 r) H hB) kX1_require q655 (As := [.int (b2i (nw_rg 1 4 r))]) (rest := []) rfl rfl ⟨⟨Nat.le_of_ble_eq_true rfl, Nat.le_of_ble_eq_true rfl⟩, (show 1 + 1 ≤ 4 by omega), (show 6 + 6 ≤ 40 by omega)⟩ (Nat.le_of_ble_eq_true rfl) (fun _ h8 h9 => absurd h9 (Nat.not_le.mpr h8)) dX1_lamp_12 15 rfl ?_ ?_
  rotate_left
  · intro E9 w9 H9 hR10 hz11 hq12
    obtain ⟨rfl, hb13, hx14⟩ := hR10
    exact nw_out C (show (1 + 1) ≤ 4 by omega) (show (6 + 6) ≤ 40 by omega) ⟨⟨1, by simp [op_lamp, en_cn, hb7, hb13, sp_wall], rfl⟩, hext.trans hx14⟩
  intro v9 H9 hR10 hz11 hq12
  obtain ⟨rfl, hb15, rfl⟩ := hR10
  obtain ⟨rn, hk16, rfl⟩ := nw_rg_nat (by decide) (by decide) hb15
  have en_rn : nw_nn (nI rn) = rn := nw_nn_nI (by omega)
  show nwV X _ _ 4 H (1 + 1) (6 + 6) 15 [(3, .ref (ad 9)), (0, .ref x), (1, .int (nI cn)), (2, .int (nI rn))] []
  refine nw_wide (k' := 2) (n' := 12) (by omega) (by omega) ?_
  refine nw_aload_n C 1 dX1_lamp_15 rfl 16 rfl ?_
  refine nw_get C hx (T := TX1) rfl in_X1 1 (by decide) q222 (Or.inl rfl) rfl dX1_lamp_16 19 rfl ?_
  refine nw_callV C (mJ3_size _ C.hfl d (ad 1) ((sg_la σ).1) (fun k => ad (100 + k)) (fun q => ro q = 2002) H hB hcLa.1) kJ3_size q346 (hcLa.1.is C) (As := []) (rest := []) rfl rfl ⟨⟨Nat.le_of_ble_eq_true rfl, Nat.le_of_ble_eq_true rfl⟩, Nat.le_of_ble_eq_true rfl, Nat.le_of_ble_eq_true rfl⟩ (Nat.le_of_ble_eq_true rfl) (fun _ h8 h9 => absurd h9 (Nat.not_le.mpr h8)) dX1_lamp_19 22 rfl (nw_rdK ?_) nw_noX
  refine nw_bipush C (nI 6) dX1_lamp_22 (by decide) 24 rfl ?_
  refine nw_icmpgeN C (by omega) 39 dX1_lamp_24 (by decide) 27 rfl (fun h17 => ?_) (fun h17 => ?_)
  · refine nw_iconst C (nI 0) dX1_lamp_39 (by decide) 40 rfl ?_
    refine nw_callS C (mX1_requireState _ C.hfl d false H hB) kX1_requireState q832 (As := [.int (b2i false)]) (rest := []) rfl rfl ⟨⟨Nat.le_of_ble_eq_true rfl, Nat.le_of_ble_eq_true rfl⟩, (show 2 + 1 ≤ 4 by omega), (show 12 + 6 ≤ 40 by omega)⟩ (Nat.le_of_ble_eq_true rfl) (fun _ h8 h9 => absurd h9 (Nat.not_le.mpr h8)) dX1_lamp_40 43 rfl ?_ ?_
    rotate_left
    · intro E9 w9 H18 hR19 hz20 hq21
      obtain ⟨rfl, hb22, hx23⟩ := hR19
      exact nw_out C (show (2 + 1) ≤ 4 by omega) (show (12 + 6) ≤ 40 by omega) ⟨⟨2, by simp [op_lamp, h17, en_cn, en_rn, hb7, hb15, hb22, sp_wall], rfl⟩, hext.trans hx23⟩
    intro v9 H18 hR19 hz20 hq21
    obtain ⟨rfl, hb24, rfl⟩ := hR19
    cases hb24
  · refine nw_aload_n C 0 dX1_lamp_27 rfl 28 rfl ?_
    refine nw_iload_n C 2 dX1_lamp_28 rfl 29 rfl ?_
    refine nw_callV C (mX6_isWall _ C.hfl d (ad 9) (ad 10) (sg_gr σ) cn H hB hgrg hgro (by omega)) kX6_isWall q289 (hgrg.1.is C (ci := 1) rfl) (As := [.int (nI cn)]) (rest := []) rfl rfl ⟨⟨Nat.le_of_ble_eq_true rfl, Nat.le_of_ble_eq_true rfl⟩, Nat.le_of_ble_eq_true rfl, Nat.le_of_ble_eq_true rfl⟩ (Nat.le_of_ble_eq_true rfl) (fun _ h8 h9 => absurd h9 (Nat.not_le.mpr h8)) dX1_lamp_29 32 rfl (nw_rdK ?_) nw_noX
    refine nw_ifneB C 39 dX1_lamp_32 (by decide) 35 rfl (fun h25 => ?_) (fun h25 => ?_)
    · refine nw_iconst C (nI 0) dX1_lamp_39 (by decide) 40 rfl ?_
      refine nw_callS C (mX1_requireState _ C.hfl d false H hB) kX1_requireState q832 (As := [.int (b2i false)]) (rest := []) rfl rfl ⟨⟨Nat.le_of_ble_eq_true rfl, Nat.le_of_ble_eq_true rfl⟩, (show 2 + 1 ≤ 4 by omega), (show 12 + 6 ≤ 40 by omega)⟩ (Nat.le_of_ble_eq_true rfl) (fun _ h8 h9 => absurd h9 (Nat.not_le.mpr h8)) dX1_lamp_40 43 rfl ?_ ?_
      rotate_left
      · intro E9 w9 H26 hR27 hz28 hq29
        obtain ⟨rfl, hb30, hx31⟩ := hR27
        exact nw_out C (show (2 + 1) ≤ 4 by omega) (show (12 + 6) ≤ 40 by omega) ⟨⟨2, by simp [op_lamp, h17, h25, en_cn, en_rn, hb7, hb15, hb30, sp_wall], rfl⟩, hext.trans hx31⟩
      intro v9 H26 hR27 hz28 hq29
      obtain ⟨rfl, hb32, rfl⟩ := hR27
      cases hb32
    · refine nw_iconst C (nI 1) dX1_lamp_35 (by decide) 36 rfl ?_
      refine nw_goto C 40 dX1_lamp_36 (by decide) ?_
      refine nw_callS C (mX1_requireStateT _ C.hfl d H hB) kX1_requireState q832 (As := [.int (b2i true)]) (rest := []) rfl rfl ⟨⟨Nat.le_of_ble_eq_true rfl, Nat.le_of_ble_eq_true rfl⟩, Nat.le_of_ble_eq_true rfl, Nat.le_of_ble_eq_true rfl⟩ (Nat.le_of_ble_eq_true rfl) (fun _ h8 h9 => absurd h9 (Nat.not_le.mpr h8)) dX1_lamp_40 43 rfl (nw_rdK ?_) nw_noX
      have hfull : ¬ 6 ≤ (sg_la σ).1 := by omega
      refine nw_aload_n C 1 dX1_lamp_43 rfl 44 rfl ?_
      refine nw_get C hx (T := TX1) rfl in_X1 1 (by decide) q222 (Or.inl rfl) rfl dX1_lamp_44 47 rfl ?_
      refine nw_new C (ci := 2) (T := TX8) (ty0 := tyX8) [.int (nI 0), .int (nI 0), .int (b2i false)] rfl in_X8 tyX8_ok q345 q871 q110 (fun j hj => by rcases (show j = 0 ∨ j = 1 ∨ j = 2 by omega) with rfl | rfl | rfl <;> rfl) 3 15 (by omega) (by omega) ⟨(show 3 ≤ 4 by omega), (show 15 ≤ 40 by omega)⟩ dX1_lamp_47 50 rfl (fun a33 H34 hx35 ho36 hz37 hq38 => ?_)
      have hn39 : H.size ≤ a33 := (by rw [hx35]; exact hext.1)
      have hext := hext.made hz37 hq38
      have hW := hW0.ext hext.2
      have hE := C.E0.ext hext.2
      have hB := Nat.le_trans hB0 hext.1
      obtain ⟨hx, hcG, hcLa, hcFo, hcGu, hcPo, hcIn, hcWi, hcWo, hcKe⟩ := id hW
      obtain ⟨okg, okl, okf, oku, okp, oki, okw, okd, okk, oka⟩ := id ok
      have hn64 : gr_n (sg_gr σ) ≤ 64 := okg.n
      have oku1 := oku.1
      have oki1 := oki.1
      have okp1 := okp.1
      have okw1 := okw.1
      have okl1 := okl.1
      have okf1 := okf.1
      obtain ⟨hgro, hgrl, hgrg⟩ := hcG.here (by assumption)
      refine nw_dup C dX1_lamp_50 rfl 51 rfl ?_
      refine nw_iload_n C 2 dX1_lamp_51 rfl 52 rfl ?_
      refine nw_iload_n C 3 dX1_lamp_52 rfl 53 rfl ?_
      refine nw_callI C (mX8_init _ C.hfl d a33 cn rn H34 hB (Nat.le_trans hB0 hn39) ho36 ) kX8_init q872 (As := [.int (nI cn), .int (nI rn)]) (rest := [.ref a33, .ref (ad 1)]) rfl rfl ⟨⟨Nat.le_of_ble_eq_true rfl, Nat.le_of_ble_eq_true rfl⟩, (show 3 + 0 ≤ 4 by omega), (show 15 + 0 ≤ 40 by omega)⟩ (Nat.le_of_ble_eq_true rfl) (fun q8 h8 h9 => h9.elim (fun e9 => by rw [e9]; exact (Or.inr hn39)) (fun e9 => absurd h8 (Nat.not_lt.mpr e9))) dX1_lamp_53 56 rfl (fun v9 H40 hR41 hz42 hq43 => ?_) nw_noX
      obtain ⟨rfl, ho44⟩ := hR41
      have hext := hext.step hz42 hq43 (fun q9 e9 => e9.elim (fun e9 => by rw [e9]; exact hn39) (fun e9 => Nat.le_trans hext.1 e9))
      have hW := hW0.ext hext.2
      have hE := C.E0.ext hext.2
      have hB := Nat.le_trans hB0 hext.1
      obtain ⟨hx, hcG, hcLa, hcFo, hcGu, hcPo, hcIn, hcWi, hcWo, hcKe⟩ := id hW
      obtain ⟨okg, okl, okf, oku, okp, oki, okw, okd, okk, oka⟩ := id ok
      have hn64 : gr_n (sg_gr σ) ≤ 64 := okg.n
      have oku1 := oku.1
      have oki1 := oki.1
      have okp1 := okp.1
      have okw1 := okw.1
      have okl1 := okl.1
      have okf1 := okf.1
      obtain ⟨hgro, hgrl, hgrg⟩ := hcG.here (by assumption)
      show nwV X _ _ 4 H40 (3 + 0) (15 + 0) 56 [(3, .ref (ad 9)), (0, .ref x), (1, .int (nI cn)), (2, .int (nI rn))] [.ref a33, .ref (ad 1)]
      refine nw_wide (k' := 3) (n' := 15) (by omega) (by omega) ?_
      have hRc := hR.ext hext
      obtain ⟨mo9, ar9, cap9, f9, hL9⟩ := nwLi_m hcLa.1
      have hr9 : ro (ad 1) = 2 := hR.2.2.2.1.2.2.1
      have hai9 := hR.ok0 (show ro (ad 1) ≠ 0 by rw [hr9]; decide)
      have hAq : ∀ q8, q8 < H40.size → (q8 = ad 1 ∨ ro q8 = 2002 ∨ H40.size ≤ q8) → nwAC ro H q8 := by
        intro q8 h8 h9
        rcases h9 with e9 | e9 | e9
        · exact Or.inl (by rw [e9, hr9]; decide +kernel)
        · exact Or.inl (by rw [e9]; decide +kernel)
        · exact absurd h8 (Nat.not_lt.mpr e9)
      refine nw_callV C (mJ3_add _ C.hfl d (ad 1) (sg_la σ).1 (fun k => ad (100 + k)) (fun q => ro q = 2002) mo9 ar9 cap9 f9 a33 "NightwatchWall$Lamp" H40 hB hai9.1 hL9 (fun q9 e9 => (hR.ok0 (show ro q9 ≠ 0 by rw [show ro q9 = 2002 from e9]; decide)).1) (show ¬ ro (ad 1) = 2002 by rw [hr9]; decide) (Or.inl ⟨2, _, _, _, ho44, rfl⟩) q2137 (fun e9 => absurd hai9.2 (Nat.not_lt.mpr (by rw [← e9]; exact hn39))) ho44.lt (by omega)) kJ3_add q888 (nwLi.is hcLa.1 C) (As := [.ref a33]) (rest := []) rfl rfl ⟨⟨Nat.le_of_ble_eq_true rfl, Nat.le_of_ble_eq_true rfl⟩, (show 3 + 1 ≤ 4 by omega), (show 15 + 10 ≤ 40 by omega)⟩ (Nat.le_of_ble_eq_true rfl) hAq dX1_lamp_56 59 rfl (fun v9 H45 hR46 hz47 hq48 => ?_) nw_noX
      obtain ⟨rfl, mo8, ar8, cap8, f8, hL8⟩ := hR46
      obtain ⟨ro1, ad1, hR1, hk1⟩ := tr_la hRc (v := (cn, rn, true)) (by omega) (nwWR.new0 hR hn39) (Nat.le_trans hB0 hn39) ho44 hz47 hq48 hL8
      obtain ⟨σ1, hσ1⟩ : ∃ t9 : spSg, t9 = st_la σ ((sg_la σ).1 + 1, sp_up (sg_la σ).2 (sg_la σ).1 (cn, rn, true)) := ⟨_, rfl⟩
      rw [← hσ1] at hR1
      have hlen : (sg_la σ1).1 = (sg_la σ).1 + 1 := by rw [hσ1]; rfl
      have hE := hE.kept (fun q9 g9 hb9 => hq48 q9 g9 (fun h9 => hb9 (C.hB q9 (hAq q9 g9 h9))))
      have hsz : H.size ≤ H45.size := Nat.le_trans hext.1 hz47
      have hB := Nat.le_trans hB0 hsz
      have ok : spOk σ1 := by rw [hσ1]; exact ⟨okg, okl.add (by omega) ⟨by assumption, by show rn ≤ 4; omega⟩, okf, oku, okp, oki, okw, okd, okk, oka⟩
      have hR := hR1
      have hW := hR.wc
      obtain ⟨hx, hcG, hcLa, hcFo, hcGu, hcPo, hcIn, hcWi, hcWo, hcKe⟩ := id hW
      obtain ⟨okg, okl, okf, oku, okp, oki, okw, okd, okk, oka⟩ := id ok
      have hn64 : gr_n (sg_gr σ1) ≤ 64 := okg.n
      have oku1 := oku.1
      have oki1 := oki.1
      have okp1 := okp.1
      have okw1 := okw.1
      have okl1 := okl.1
      have okf1 := okf.1
      show nwV X _ _ 4 H45 (3 + 1) (15 + 10) 59 [(3, .ref (ad 9)), (0, .ref x), (1, .int (nI cn)), (2, .int (nI rn))] [.int (b2i true)]
      refine nw_wide (k' := 4) (n' := 25) (by omega) (by omega) ?_
      refine nw_pop C dX1_lamp_59 rfl 60 rfl ?_
      refine nw_aload_n C 1 dX1_lamp_60 rfl 61 rfl ?_
      refine nw_get C hx (T := TX1) rfl in_X1 1 (by decide) q222 (Or.inl rfl) rfl dX1_lamp_61 64 rfl ?_
      refine nw_callV C (mJ3_size _ C.hfl d (ad1 1) ((sg_la σ1).1) (fun k => ad1 (100 + k)) (fun q => ro1 q = 2002) H45 hB hcLa.1) kJ3_size q346 (hcLa.1.is C) (As := []) (rest := []) rfl rfl ⟨⟨Nat.le_of_ble_eq_true rfl, Nat.le_of_ble_eq_true rfl⟩, Nat.le_of_ble_eq_true rfl, Nat.le_of_ble_eq_true rfl⟩ (Nat.le_of_ble_eq_true rfl) (fun _ h8 h9 => absurd h9 (Nat.not_le.mpr h8)) dX1_lamp_64 67 rfl (nw_rdK ?_) nw_noX
      refine nw_iconst C (nI 1) dX1_lamp_67 (by decide) 68 rfl ?_
      refine nw_isubN C (by omega) dX1_lamp_68 69 rfl ?_
      have hop : op_lamp σ (nI cn) (nI rn) = (0, nI (sg_la σ).1, σ1) := by rw [hσ1]; simp [op_lamp, h17, h25, en_cn, en_rn, hb7, hb15, hfull, sp_wall]
      exact nw_iret C dX1_lamp_69 (by omega) (by omega) (by rw [hop]; exact ⟨⟨rfl, congrArg (fun z => some (Value.int z)) (show nI ((sg_la σ1).1 - 1) = nI (sg_la σ).1 by rw [hlen]; rfl)⟩, ok, hsz, ro1, ad1, hR, hk1⟩)
set_option maxHeartbeats 4000000 in
theorem mX1_fog (l : Launch) (hf : l.flags = flags0) (d : nwD) (ro ad : Nat → Nat) (x : Nat) (σ : spSg) (sm : Int64) (t : Int32) (f : Int32) (H : Heap) (hB : nd_B d ≤ H.size) (hR : nwWR d ro ad x σ sm H) (ok : spOk σ) : nwMt l d yX1_fog cX1_fog 3 (some .int) 7 120 4 40 [.ref x, .int t, .int f] H (nwCv d ro x sm (op_fog σ t f) H) (nwRx ((op_fog σ t f).1, 0) [cIA, cIS] H) (nwAC ro H) := by
  refine nw_start "NightwatchWall" "fog" hf (by decide +kernel) rfl rfl (fun _ h => Or.inr h) (nwAC_B hR hB) (Nat.le_of_ble_eq_true rfl) ?_
  intro X C
  have hW := hR.wc
  have hrx0 := hR.2.1.2
  have hW0 := hW
  have hB0 := hB
  have hE := C.E0
  have hext : nwExt H H := nwExt.rfl
  obtain ⟨hx, hcG, hcLa, hcFo, hcGu, hcPo, hcIn, hcWi, hcWo, hcKe⟩ := id hW
  obtain ⟨okg, okl, okf, oku, okp, oki, okw, okd, okk, oka⟩ := id ok
  have hn64 : gr_n (sg_gr σ) ≤ 64 := okg.n
  have oku1 := oku.1
  have oki1 := oki.1
  have okp1 := okp.1
  have okw1 := okw.1
  have okl1 := okl.1
  have okf1 := okf.1
  show nwV X _ _ 3 H 0 0 0 [(0, .ref x), (1, .int t), (2, .int f)] []
  refine nw_iload_n C 1 dX1_fog_0 rfl 1 rfl ?_
  refine nw_callS C (mX1_isMinute _ C.hfl d t H hB) kX1_isMinute q861 (As := [.int t]) (rest := []) rfl rfl ⟨⟨Nat.le_of_ble_eq_true rfl, Nat.le_of_ble_eq_true rfl⟩, Nat.le_of_ble_eq_true rfl, Nat.le_of_ble_eq_true rfl⟩ (Nat.le_of_ble_eq_true rfl) (fun _ h8 h9 => absurd h9 (Nat.not_le.mpr h8)) dX1_fog_1 4 rfl (nw_rdK ?_) nw_noX
  refine nw_ifeqB C 20 dX1_fog_4 (by decide) 7 rfl (fun h1 => ?_) (fun h1 => ?_)
  · refine nw_iconst C (nI 0) dX1_fog_20 (by decide) 21 rfl ?_
    refine nw_callS C (mX1_require _ C.hfl d false H hB) kX1_require q655 (As := [.int (b2i false)]) (rest := []) rfl rfl ⟨⟨Nat.le_of_ble_eq_true rfl, Nat.le_of_ble_eq_true rfl⟩, (show 0 + 1 ≤ 4 by omega), (show 0 + 6 ≤ 40 by omega)⟩ (Nat.le_of_ble_eq_true rfl) (fun _ h8 h9 => absurd h9 (Nat.not_le.mpr h8)) dX1_fog_21 24 rfl ?_ ?_
    rotate_left
    · intro E9 w9 H2 hR3 hz4 hq5
      obtain ⟨rfl, hb6, hx7⟩ := hR3
      exact nw_out C (show (0 + 1) ≤ 4 by omega) (show (0 + 6) ≤ 40 by omega) ⟨⟨0, by simp [op_fog, h1, hb6], rfl⟩, hext.trans hx7⟩
    intro v9 H2 hR3 hz4 hq5
    obtain ⟨rfl, hb8, rfl⟩ := hR3
    cases hb8
  · obtain ⟨tn, hk9, rfl⟩ := nw_rg_nat (by decide) (by decide) h1
    have en_tn : nw_nn (nI tn) = tn := nw_nn_nI (by omega)
    refine nw_iconst C (nI 0) dX1_fog_7 (by decide) 8 rfl ?_
    refine nw_iconst C (nI 5) dX1_fog_8 (by decide) 9 rfl ?_
    refine nw_iload_n C 2 dX1_fog_9 rfl 10 rfl ?_
    refine nw_callS C (mX1_isFromR _ C.hfl d (nI 0) (nI 5) f H hB) kX1_isFrom q579 (As := [.int (nI 0), .int (nI 5), .int f]) (rest := []) rfl rfl ⟨⟨Nat.le_of_ble_eq_true rfl, Nat.le_of_ble_eq_true rfl⟩, Nat.le_of_ble_eq_true rfl, Nat.le_of_ble_eq_true rfl⟩ (Nat.le_of_ble_eq_true rfl) (fun _ h8 h9 => absurd h9 (Nat.not_le.mpr h8)) dX1_fog_10 13 rfl (nw_rdK ?_) nw_noX
    show nwV X _ _ 3 H 0 0 13 [(0, .ref x), (1, .int (nI tn)), (2, .int f)] [.int (b2i (nw_rg 0 5 f))]
    refine nw_ifeqB C 20 dX1_fog_13 (by decide) 16 rfl (fun h10 => ?_) (fun h10 => ?_)
    · refine nw_iconst C (nI 0) dX1_fog_20 (by decide) 21 rfl ?_
      refine nw_callS C (mX1_require _ C.hfl d false H hB) kX1_require q655 (As := [.int (b2i false)]) (rest := []) rfl rfl ⟨⟨Nat.le_of_ble_eq_true rfl, Nat.le_of_ble_eq_true rfl⟩, (show 0 + 1 ≤ 4 by omega), (show 0 + 6 ≤ 40 by omega)⟩ (Nat.le_of_ble_eq_true rfl) (fun _ h8 h9 => absurd h9 (Nat.not_le.mpr h8)) dX1_fog_21 24 rfl ?_ ?_
      rotate_left
      · intro E9 w9 H11 hR12 hz13 hq14
        obtain ⟨rfl, hb15, hx16⟩ := hR12
        exact nw_out C (show (0 + 1) ≤ 4 by omega) (show (0 + 6) ≤ 40 by omega) ⟨⟨0, by simp [op_fog, h1, h10, en_tn, hb15], rfl⟩, hext.trans hx16⟩
      intro v9 H11 hR12 hz13 hq14
      obtain ⟨rfl, hb17, rfl⟩ := hR12
      cases hb17
    · obtain ⟨fn, hk18, rfl⟩ := nw_rg_nat (by decide) (by decide) h10
      have en_fn : nw_nn (nI fn) = fn := nw_nn_nI (by omega)
      refine nw_iconst C (nI 1) dX1_fog_16 (by decide) 17 rfl ?_
      refine nw_goto C 21 dX1_fog_17 (by decide) ?_
      refine nw_callS C (mX1_requireT _ C.hfl d H hB) kX1_require q655 (As := [.int (b2i true)]) (rest := []) rfl rfl ⟨⟨Nat.le_of_ble_eq_true rfl, Nat.le_of_ble_eq_true rfl⟩, Nat.le_of_ble_eq_true rfl, Nat.le_of_ble_eq_true rfl⟩ (Nat.le_of_ble_eq_true rfl) (fun _ h8 h9 => absurd h9 (Nat.not_le.mpr h8)) dX1_fog_21 24 rfl (nw_rdK ?_) nw_noX
      refine nw_aload_n C 0 dX1_fog_24 rfl 25 rfl ?_
      refine nw_get C hx (T := TX1) rfl in_X1 2 (by decide) q223 (Or.inl rfl) rfl dX1_fog_25 28 rfl ?_
      refine nw_callV C (mJ3_size _ C.hfl d (ad 2) ((sg_fo σ).1) (fun k => ad (200 + k)) (fun q => ro q = 2003) H hB hcFo.1) kJ3_size q346 (hcFo.1.is C) (As := []) (rest := []) rfl rfl ⟨⟨Nat.le_of_ble_eq_true rfl, Nat.le_of_ble_eq_true rfl⟩, Nat.le_of_ble_eq_true rfl, Nat.le_of_ble_eq_true rfl⟩ (Nat.le_of_ble_eq_true rfl) (fun _ h8 h9 => absurd h9 (Nat.not_le.mpr h8)) dX1_fog_28 31 rfl (nw_rdK ?_) nw_noX
      refine nw_bipush C (nI 8) dX1_fog_31 (by decide) 33 rfl ?_
      refine nw_icmpgeN C (by omega) 40 dX1_fog_33 (by decide) 36 rfl (fun h19 => ?_) (fun h19 => ?_)
      · refine nw_iconst C (nI 0) dX1_fog_40 (by decide) 41 rfl ?_
        refine nw_callS C (mX1_requireState _ C.hfl d false H hB) kX1_requireState q832 (As := [.int (b2i false)]) (rest := []) rfl rfl ⟨⟨Nat.le_of_ble_eq_true rfl, Nat.le_of_ble_eq_true rfl⟩, (show 0 + 1 ≤ 4 by omega), (show 0 + 6 ≤ 40 by omega)⟩ (Nat.le_of_ble_eq_true rfl) (fun _ h8 h9 => absurd h9 (Nat.not_le.mpr h8)) dX1_fog_41 44 rfl ?_ ?_
        rotate_left
        · intro E9 w9 H20 hR21 hz22 hq23
          obtain ⟨rfl, hb24, hx25⟩ := hR21
          exact nw_out C (show (0 + 1) ≤ 4 by omega) (show (0 + 6) ≤ 40 by omega) ⟨⟨1, by simp [op_fog, h1, h10, h19, en_tn, en_fn, hb24], rfl⟩, hext.trans hx25⟩
        intro v9 H20 hR21 hz22 hq23
        obtain ⟨rfl, hb26, rfl⟩ := hR21
        cases hb26
      · refine nw_iconst C (nI 1) dX1_fog_36 (by decide) 37 rfl ?_
        refine nw_goto C 41 dX1_fog_37 (by decide) ?_
        refine nw_callS C (mX1_requireStateT _ C.hfl d H hB) kX1_requireState q832 (As := [.int (b2i true)]) (rest := []) rfl rfl ⟨⟨Nat.le_of_ble_eq_true rfl, Nat.le_of_ble_eq_true rfl⟩, Nat.le_of_ble_eq_true rfl, Nat.le_of_ble_eq_true rfl⟩ (Nat.le_of_ble_eq_true rfl) (fun _ h8 h9 => absurd h9 (Nat.not_le.mpr h8)) dX1_fog_41 44 rfl (nw_rdK ?_) nw_noX
        have hfull : ¬ 8 ≤ (sg_fo σ).1 := by omega
        refine nw_aload_n C 0 dX1_fog_44 rfl 45 rfl ?_
        refine nw_get C hx (T := TX1) rfl in_X1 2 (by decide) q223 (Or.inl rfl) rfl dX1_fog_45 48 rfl ?_
        refine nw_new C (ci := 3) (T := TX9) (ty0 := tyX9) [.int (nI 0), .int (nI 0)] rfl in_X9 tyX9_ok q424 q972 q116 (fun j hj => by rcases (show j = 0 ∨ j = 1 by omega) with rfl | rfl <;> rfl) 1 2 (by omega) (by omega) ⟨(show 1 ≤ 4 by omega), (show 2 ≤ 40 by omega)⟩ dX1_fog_48 51 rfl (fun a27 H28 hx29 ho30 hz31 hq32 => ?_)
        have hn33 : H.size ≤ a27 := (by rw [hx29]; exact hext.1)
        have hext := hext.made hz31 hq32
        have hW := hW0.ext hext.2
        have hE := C.E0.ext hext.2
        have hB := Nat.le_trans hB0 hext.1
        obtain ⟨hx, hcG, hcLa, hcFo, hcGu, hcPo, hcIn, hcWi, hcWo, hcKe⟩ := id hW
        obtain ⟨okg, okl, okf, oku, okp, oki, okw, okd, okk, oka⟩ := id ok
        have hn64 : gr_n (sg_gr σ) ≤ 64 := okg.n
        have oku1 := oku.1
        have oki1 := oki.1
        have okp1 := okp.1
        have okw1 := okw.1
        have okl1 := okl.1
        have okf1 := okf.1
        refine nw_dup C dX1_fog_51 rfl 52 rfl ?_
        refine nw_iload_n C 1 dX1_fog_52 rfl 53 rfl ?_
        refine nw_iload_n C 2 dX1_fog_53 rfl 54 rfl ?_
        refine nw_callI C (mX9_init _ C.hfl d a27 tn fn H28 hB (Nat.le_trans hB0 hn33) ho30 ) kX9_init q973 (As := [.int (nI tn), .int (nI fn)]) (rest := [.ref a27, .ref (ad 2)]) rfl rfl ⟨⟨Nat.le_of_ble_eq_true rfl, Nat.le_of_ble_eq_true rfl⟩, (show 1 + 0 ≤ 4 by omega), (show 2 + 0 ≤ 40 by omega)⟩ (Nat.le_of_ble_eq_true rfl) (fun q8 h8 h9 => h9.elim (fun e9 => by rw [e9]; exact (Or.inr hn33)) (fun e9 => absurd h8 (Nat.not_lt.mpr e9))) dX1_fog_54 57 rfl (fun v9 H34 hR35 hz36 hq37 => ?_) nw_noX
        obtain ⟨rfl, ho38⟩ := hR35
        have hext := hext.step hz36 hq37 (fun q9 e9 => e9.elim (fun e9 => by rw [e9]; exact hn33) (fun e9 => Nat.le_trans hext.1 e9))
        have hW := hW0.ext hext.2
        have hE := C.E0.ext hext.2
        have hB := Nat.le_trans hB0 hext.1
        obtain ⟨hx, hcG, hcLa, hcFo, hcGu, hcPo, hcIn, hcWi, hcWo, hcKe⟩ := id hW
        obtain ⟨okg, okl, okf, oku, okp, oki, okw, okd, okk, oka⟩ := id ok
        have hn64 : gr_n (sg_gr σ) ≤ 64 := okg.n
        have oku1 := oku.1
        have oki1 := oki.1
        have okp1 := okp.1
        have okw1 := okw.1
        have okl1 := okl.1
        have okf1 := okf.1
        show nwV X _ _ 3 H34 (1 + 0) (2 + 0) 57 [(0, .ref x), (1, .int (nI tn)), (2, .int (nI fn))] [.ref a27, .ref (ad 2)]
        refine nw_wide (k' := 1) (n' := 2) (by omega) (by omega) ?_
        have hRc := hR.ext hext
        obtain ⟨mo9, ar9, cap9, f9, hL9⟩ := nwLi_m hcFo.1
        have hr9 : ro (ad 2) = 3 := hR.2.2.2.2.1.2.2.1
        have hai9 := hR.ok0 (show ro (ad 2) ≠ 0 by rw [hr9]; decide)
        have hAq : ∀ q8, q8 < H34.size → (q8 = ad 2 ∨ ro q8 = 2003 ∨ H34.size ≤ q8) → nwAC ro H q8 := by
          intro q8 h8 h9
          rcases h9 with e9 | e9 | e9
          · exact Or.inl (by rw [e9, hr9]; decide +kernel)
          · exact Or.inl (by rw [e9]; decide +kernel)
          · exact absurd h8 (Nat.not_lt.mpr e9)
        refine nw_callV C (mJ3_add _ C.hfl d (ad 2) (sg_fo σ).1 (fun k => ad (200 + k)) (fun q => ro q = 2003) mo9 ar9 cap9 f9 a27 "NightwatchWall$Report" H34 hB hai9.1 hL9 (fun q9 e9 => (hR.ok0 (show ro q9 ≠ 0 by rw [show ro q9 = 2003 from e9]; decide)).1) (show ¬ ro (ad 2) = 2003 by rw [hr9]; decide) (Or.inl ⟨3, _, _, _, ho38, rfl⟩) q2138 (fun e9 => absurd hai9.2 (Nat.not_lt.mpr (by rw [← e9]; exact hn33))) ho38.lt (by omega)) kJ3_add q888 (nwLi.is hcFo.1 C) (As := [.ref a27]) (rest := []) rfl rfl ⟨⟨Nat.le_of_ble_eq_true rfl, Nat.le_of_ble_eq_true rfl⟩, (show 1 + 1 ≤ 4 by omega), (show 2 + 10 ≤ 40 by omega)⟩ (Nat.le_of_ble_eq_true rfl) hAq dX1_fog_57 60 rfl (fun v9 H39 hR40 hz41 hq42 => ?_) nw_noX
        obtain ⟨rfl, mo8, ar8, cap8, f8, hL8⟩ := hR40
        obtain ⟨ro1, ad1, hR1, hk1⟩ := tr_fo hRc (v := (tn, fn)) (by omega) (nwWR.new0 hR hn33) (Nat.le_trans hB0 hn33) ho38 hz41 hq42 hL8
        obtain ⟨σ1, hσ1⟩ : ∃ t9 : spSg, t9 = st_fo σ ((sg_fo σ).1 + 1, sp_up (sg_fo σ).2 (sg_fo σ).1 (tn, fn)) := ⟨_, rfl⟩
        rw [← hσ1] at hR1
        have hlen : (sg_fo σ1).1 = (sg_fo σ).1 + 1 := by rw [hσ1]; rfl
        have hE := hE.kept (fun q9 g9 hb9 => hq42 q9 g9 (fun h9 => hb9 (C.hB q9 (hAq q9 g9 h9))))
        have hsz : H.size ≤ H39.size := Nat.le_trans hext.1 hz41
        have hB := Nat.le_trans hB0 hsz
        have ok : spOk σ1 := by rw [hσ1]; exact ⟨okg, okl, okf.add (by omega) ⟨by show tn < 240; omega, by show fn ≤ 5; omega⟩, oku, okp, oki, okw, okd, okk, oka⟩
        have hR := hR1
        have hW := hR.wc
        obtain ⟨hx, hcG, hcLa, hcFo, hcGu, hcPo, hcIn, hcWi, hcWo, hcKe⟩ := id hW
        obtain ⟨okg, okl, okf, oku, okp, oki, okw, okd, okk, oka⟩ := id ok
        have hn64 : gr_n (sg_gr σ1) ≤ 64 := okg.n
        have oku1 := oku.1
        have oki1 := oki.1
        have okp1 := okp.1
        have okw1 := okw.1
        have okl1 := okl.1
        have okf1 := okf.1
        show nwV X _ _ 3 H39 (1 + 1) (2 + 10) 60 [(0, .ref x), (1, .int (nI tn)), (2, .int (nI fn))] [.int (b2i true)]
        refine nw_wide (k' := 2) (n' := 12) (by omega) (by omega) ?_
        refine nw_pop C dX1_fog_60 rfl 61 rfl ?_
        refine nw_aload_n C 0 dX1_fog_61 rfl 62 rfl ?_
        refine nw_get C hx (T := TX1) rfl in_X1 2 (by decide) q223 (Or.inl rfl) rfl dX1_fog_62 65 rfl ?_
        refine nw_callV C (mJ3_size _ C.hfl d (ad1 2) ((sg_fo σ1).1) (fun k => ad1 (200 + k)) (fun q => ro1 q = 2003) H39 hB hcFo.1) kJ3_size q346 (hcFo.1.is C) (As := []) (rest := []) rfl rfl ⟨⟨Nat.le_of_ble_eq_true rfl, Nat.le_of_ble_eq_true rfl⟩, Nat.le_of_ble_eq_true rfl, Nat.le_of_ble_eq_true rfl⟩ (Nat.le_of_ble_eq_true rfl) (fun _ h8 h9 => absurd h9 (Nat.not_le.mpr h8)) dX1_fog_65 68 rfl (nw_rdK ?_) nw_noX
        have hop : op_fog σ (nI tn) (nI fn) = (0, nI ((sg_fo σ).1 + 1), σ1) := by rw [hσ1]; simp [op_fog, h1, h10, h19, en_tn, en_fn, hfull]
        exact nw_iret C dX1_fog_68 (by omega) (by omega) (by rw [hop]; exact ⟨⟨rfl, congrArg (fun z => some (Value.int z)) (show nI (sg_fo σ1).1 = nI ((sg_fo σ).1 + 1) by rw [hlen])⟩, ok, hsz, ro1, ad1, hR, hk1⟩)
set_option maxHeartbeats 4000000 in
theorem mX1_wire (l : Launch) (hf : l.flags = flags0) (d : nwD) (ro ad : Nat → Nat) (x : Nat) (σ : spSg) (sm : Int64) (c : Int32) (b : Int32) (H : Heap) (hB : nd_B d ≤ H.size) (hR : nwWR d ro ad x σ sm H) (ok : spOk σ) : nwMt l d yX1_wire cX1_wire 3 (some .int) 8 142 4 40 [.ref x, .int c, .int b] H (nwCv d ro x sm (op_wire σ c b) H) (nwRx ((op_wire σ c b).1, 0) [cIO, cIA, cIS] H) (nwAC ro H) := by
  refine nw_start "NightwatchWall" "wire" hf (by decide +kernel) rfl rfl (fun _ h => Or.inr h) (nwAC_B hR hB) (Nat.le_of_ble_eq_true rfl) ?_
  intro X C
  have hW := hR.wc
  have hrx0 := hR.2.1.2
  have hW0 := hW
  have hB0 := hB
  have hE := C.E0
  have hext : nwExt H H := nwExt.rfl
  obtain ⟨hx, hcG, hcLa, hcFo, hcGu, hcPo, hcIn, hcWi, hcWo, hcKe⟩ := id hW
  obtain ⟨okg, okl, okf, oku, okp, oki, okw, okd, okk, oka⟩ := id ok
  have hn64 : gr_n (sg_gr σ) ≤ 64 := okg.n
  have oku1 := oku.1
  have oki1 := oki.1
  have okp1 := okp.1
  have okw1 := okw.1
  have okl1 := okl.1
  have okf1 := okf.1
  show nwV X _ _ 3 H 0 0 0 [(0, .ref x), (1, .int c), (2, .int b)] []
  refine nw_aload_n C 0 dX1_wire_0 rfl 1 rfl ?_
  refine nw_iload_n C 1 dX1_wire_1 rfl 2 rfl ?_
  refine nw_callV C (mX1_groundAt _ C.hfl d ro ad x σ sm c H hB hW ok) kX1_groundAt q810 (hx.is C (ci := 0) rfl) (As := [.int c]) (rest := []) rfl rfl ⟨⟨Nat.le_of_ble_eq_true rfl, Nat.le_of_ble_eq_true rfl⟩, (show 0 + 1 ≤ 4 by omega), (show 0 + 6 ≤ 40 by omega)⟩ (Nat.le_of_ble_eq_true rfl) (fun _ h8 h9 => absurd h9 (Nat.not_le.mpr h8)) dX1_wire_2 5 rfl ?_ ?_
  rotate_left
  · intro E9 w9 H1 hR2 hz3 hq4
    obtain ⟨rfl, hb5, hx6⟩ := hR2
    exact nw_out C (show (0 + 1) ≤ 4 by omega) (show (0 + 6) ≤ 40 by omega) ⟨⟨0, by simp [op_wire, hb5], rfl⟩, hext.trans hx6⟩
  intro v9 H1 hR2 hz3 hq4
  obtain ⟨rfl, hb7, rfl⟩ := hR2
  obtain ⟨cn, hk8, rfl⟩ := nw_ix_nat (by omega) hb7
  have en_cn : nw_nn (nI cn) = cn := nw_nn_nI (by omega)
  obtain ⟨hgro, hgrl, hgrg⟩ := hcG.here (by assumption)
  show nwV X _ _ 3 H (0 + 1) (0 + 6) 5 [(0, .ref x), (1, .int (nI cn)), (2, .int b)] [.ref (ad 9)]
  refine nw_wide (k' := 1) (n' := 6) (by omega) (by omega) ?_
  refine nw_pop C dX1_wire_5 rfl 6 rfl ?_
  refine nw_iconst C (nI 1) dX1_wire_6 (by decide) 7 rfl ?_
  refine nw_bipush C (nI 12) dX1_wire_7 (by decide) 9 rfl ?_
  refine nw_iload_n C 2 dX1_wire_9 rfl 10 rfl ?_
  refine nw_callS C (mX1_isFromR _ C.hfl d (nI 1) (nI 12) b H hB) kX1_isFrom q579 (As := [.int (nI 1), .int (nI 12), .int b]) (rest := []) rfl rfl ⟨⟨Nat.le_of_ble_eq_true rfl, Nat.le_of_ble_eq_true rfl⟩, Nat.le_of_ble_eq_true rfl, Nat.le_of_ble_eq_true rfl⟩ (Nat.le_of_ble_eq_true rfl) (fun _ h8 h9 => absurd h9 (Nat.not_le.mpr h8)) dX1_wire_10 13 rfl (nw_rdK ?_) nw_noX
  show nwV X _ _ 3 H 1 6 13 [(0, .ref x), (1, .int (nI cn)), (2, .int b)] [.int (b2i (nw_rg 1 12 b))]
  refine nw_callS C (mX1_require _ C.hfl d (nw_rg 1 12 b) H hB) kX1_require q655 (As := [.int (b2i (nw_rg 1 12 b))]) (rest := []) rfl rfl ⟨⟨Nat.le_of_ble_eq_true rfl, Nat.le_of_ble_eq_true rfl⟩, (show 1 + 1 ≤ 4 by omega), (show 6 + 6 ≤ 40 by omega)⟩ (Nat.le_of_ble_eq_true rfl) (fun _ h8 h9 => absurd h9 (Nat.not_le.mpr h8)) dX1_wire_13 16 rfl ?_ ?_
  rotate_left
  · intro E9 w9 H9 hR10 hz11 hq12
    obtain ⟨rfl, hb13, hx14⟩ := hR10
    exact nw_out C (show (1 + 1) ≤ 4 by omega) (show (6 + 6) ≤ 40 by omega) ⟨⟨1, by simp [op_wire, en_cn, hb7, hb13], rfl⟩, hext.trans hx14⟩
  intro v9 H9 hR10 hz11 hq12
  obtain ⟨rfl, hb15, rfl⟩ := hR10
  obtain ⟨bn, hk16, rfl⟩ := nw_rg_nat (by decide) (by decide) hb15
  have en_bn : nw_nn (nI bn) = bn := nw_nn_nI (by omega)
  show nwV X _ _ 3 H (1 + 1) (6 + 6) 16 [(0, .ref x), (1, .int (nI cn)), (2, .int (nI bn))] []
  refine nw_wide (k' := 2) (n' := 12) (by omega) (by omega) ?_
  refine nw_aload_n C 0 dX1_wire_16 rfl 17 rfl ?_
  refine nw_get C hx (T := TX1) rfl in_X1 6 (by decide) q227 (Or.inl rfl) rfl dX1_wire_17 20 rfl ?_
  refine nw_callV C (mJ3_size _ C.hfl d (ad 6) ((sg_wi σ).1) (fun k => ad (700 + k)) (fun q => ro q = 2007) H hB hcWi.1) kJ3_size q346 (hcWi.1.is C) (As := []) (rest := []) rfl rfl ⟨⟨Nat.le_of_ble_eq_true rfl, Nat.le_of_ble_eq_true rfl⟩, Nat.le_of_ble_eq_true rfl, Nat.le_of_ble_eq_true rfl⟩ (Nat.le_of_ble_eq_true rfl) (fun _ h8 h9 => absurd h9 (Nat.not_le.mpr h8)) dX1_wire_20 23 rfl (nw_rdK ?_) nw_noX
  refine nw_iconst C (nI 5) dX1_wire_23 (by decide) 24 rfl ?_
  refine nw_icmpgeN C (by omega) 31 dX1_wire_24 (by decide) 27 rfl (fun h17 => ?_) (fun h17 => ?_)
  · refine nw_iconst C (nI 0) dX1_wire_31 (by decide) 32 rfl ?_
    refine nw_callS C (mX1_requireState _ C.hfl d false H hB) kX1_requireState q832 (As := [.int (b2i false)]) (rest := []) rfl rfl ⟨⟨Nat.le_of_ble_eq_true rfl, Nat.le_of_ble_eq_true rfl⟩, (show 2 + 1 ≤ 4 by omega), (show 12 + 6 ≤ 40 by omega)⟩ (Nat.le_of_ble_eq_true rfl) (fun _ h8 h9 => absurd h9 (Nat.not_le.mpr h8)) dX1_wire_32 35 rfl ?_ ?_
    rotate_left
    · intro E9 w9 H18 hR19 hz20 hq21
      obtain ⟨rfl, hb22, hx23⟩ := hR19
      exact nw_out C (show (2 + 1) ≤ 4 by omega) (show (12 + 6) ≤ 40 by omega) ⟨⟨2, by simp [op_wire, h17, en_cn, en_bn, hb7, hb15, hb22], rfl⟩, hext.trans hx23⟩
    intro v9 H18 hR19 hz20 hq21
    obtain ⟨rfl, hb24, rfl⟩ := hR19
    cases hb24
  · refine nw_iconst C (nI 1) dX1_wire_27 (by decide) 28 rfl ?_
    refine nw_goto C 32 dX1_wire_28 (by decide) ?_
    refine nw_callS C (mX1_requireStateT _ C.hfl d H hB) kX1_requireState q832 (As := [.int (b2i true)]) (rest := []) rfl rfl ⟨⟨Nat.le_of_ble_eq_true rfl, Nat.le_of_ble_eq_true rfl⟩, Nat.le_of_ble_eq_true rfl, Nat.le_of_ble_eq_true rfl⟩ (Nat.le_of_ble_eq_true rfl) (fun _ h8 h9 => absurd h9 (Nat.not_le.mpr h8)) dX1_wire_32 35 rfl (nw_rdK ?_) nw_noX
    have hfull : ¬ 5 ≤ (sg_wi σ).1 := by omega
    refine nw_aload_n C 0 dX1_wire_35 rfl 36 rfl ?_
    refine nw_get C hx (T := TX1) rfl in_X1 6 (by decide) q227 (Or.inl rfl) rfl dX1_wire_36 39 rfl ?_
    refine nw_new C (ci := 8) (T := TX14) (ty0 := tyX14) [.int (nI 0), .int (nI 0)] rfl in_X14 tyX14_ok q621 q1221 q122 (fun j hj => by rcases (show j = 0 ∨ j = 1 by omega) with rfl | rfl <;> rfl) 3 14 (by omega) (by omega) ⟨(show 3 ≤ 4 by omega), (show 14 ≤ 40 by omega)⟩ dX1_wire_39 42 rfl (fun a25 H26 hx27 ho28 hz29 hq30 => ?_)
    have hn31 : H.size ≤ a25 := (by rw [hx27]; exact hext.1)
    have hext := hext.made hz29 hq30
    have hW := hW0.ext hext.2
    have hE := C.E0.ext hext.2
    have hB := Nat.le_trans hB0 hext.1
    obtain ⟨hx, hcG, hcLa, hcFo, hcGu, hcPo, hcIn, hcWi, hcWo, hcKe⟩ := id hW
    obtain ⟨okg, okl, okf, oku, okp, oki, okw, okd, okk, oka⟩ := id ok
    have hn64 : gr_n (sg_gr σ) ≤ 64 := okg.n
    have oku1 := oku.1
    have oki1 := oki.1
    have okp1 := okp.1
    have okw1 := okw.1
    have okl1 := okl.1
    have okf1 := okf.1
    obtain ⟨hgro, hgrl, hgrg⟩ := hcG.here (by assumption)
    refine nw_dup C dX1_wire_42 rfl 43 rfl ?_
    refine nw_iload_n C 1 dX1_wire_43 rfl 44 rfl ?_
    refine nw_iload_n C 2 dX1_wire_44 rfl 45 rfl ?_
    refine nw_callI C (mX14_init _ C.hfl d a25 cn bn H26 hB (Nat.le_trans hB0 hn31) ho28 ) kX14_init q1222 (As := [.int (nI cn), .int (nI bn)]) (rest := [.ref a25, .ref (ad 6)]) rfl rfl ⟨⟨Nat.le_of_ble_eq_true rfl, Nat.le_of_ble_eq_true rfl⟩, (show 3 + 0 ≤ 4 by omega), (show 14 + 0 ≤ 40 by omega)⟩ (Nat.le_of_ble_eq_true rfl) (fun q8 h8 h9 => h9.elim (fun e9 => by rw [e9]; exact (Or.inr hn31)) (fun e9 => absurd h8 (Nat.not_lt.mpr e9))) dX1_wire_45 48 rfl (fun v9 H32 hR33 hz34 hq35 => ?_) nw_noX
    obtain ⟨rfl, ho36⟩ := hR33
    have hext := hext.step hz34 hq35 (fun q9 e9 => e9.elim (fun e9 => by rw [e9]; exact hn31) (fun e9 => Nat.le_trans hext.1 e9))
    have hW := hW0.ext hext.2
    have hE := C.E0.ext hext.2
    have hB := Nat.le_trans hB0 hext.1
    obtain ⟨hx, hcG, hcLa, hcFo, hcGu, hcPo, hcIn, hcWi, hcWo, hcKe⟩ := id hW
    obtain ⟨okg, okl, okf, oku, okp, oki, okw, okd, okk, oka⟩ := id ok
    have hn64 : gr_n (sg_gr σ) ≤ 64 := okg.n
    have oku1 := oku.1
    have oki1 := oki.1
    have okp1 := okp.1
    have okw1 := okw.1
    have okl1 := okl.1
    have okf1 := okf.1
    obtain ⟨hgro, hgrl, hgrg⟩ := hcG.here (by assumption)
    show nwV X _ _ 3 H32 (3 + 0) (14 + 0) 48 [(0, .ref x), (1, .int (nI cn)), (2, .int (nI bn))] [.ref a25, .ref (ad 6)]
    refine nw_wide (k' := 3) (n' := 14) (by omega) (by omega) ?_
    have hRc := hR.ext hext
    obtain ⟨mo9, ar9, cap9, f9, hL9⟩ := nwLi_m hcWi.1
    have hr9 : ro (ad 6) = 7 := hR.2.2.2.2.2.2.2.2.1.2.2.1
    have hai9 := hR.ok0 (show ro (ad 6) ≠ 0 by rw [hr9]; decide)
    have hAq : ∀ q8, q8 < H32.size → (q8 = ad 6 ∨ ro q8 = 2007 ∨ H32.size ≤ q8) → nwAC ro H q8 := by
      intro q8 h8 h9
      rcases h9 with e9 | e9 | e9
      · exact Or.inl (by rw [e9, hr9]; decide +kernel)
      · exact Or.inl (by rw [e9]; decide +kernel)
      · exact absurd h8 (Nat.not_lt.mpr e9)
    refine nw_callV C (mJ3_add _ C.hfl d (ad 6) (sg_wi σ).1 (fun k => ad (700 + k)) (fun q => ro q = 2007) mo9 ar9 cap9 f9 a25 "NightwatchWall$Wire" H32 hB hai9.1 hL9 (fun q9 e9 => (hR.ok0 (show ro q9 ≠ 0 by rw [show ro q9 = 2007 from e9]; decide)).1) (show ¬ ro (ad 6) = 2007 by rw [hr9]; decide) (Or.inl ⟨8, _, _, _, ho36, rfl⟩) q2144 (fun e9 => absurd hai9.2 (Nat.not_lt.mpr (by rw [← e9]; exact hn31))) ho36.lt (by omega)) kJ3_add q888 (nwLi.is hcWi.1 C) (As := [.ref a25]) (rest := []) rfl rfl ⟨⟨Nat.le_of_ble_eq_true rfl, Nat.le_of_ble_eq_true rfl⟩, (show 3 + 1 ≤ 4 by omega), (show 14 + 10 ≤ 40 by omega)⟩ (Nat.le_of_ble_eq_true rfl) hAq dX1_wire_48 51 rfl (fun v9 H37 hR38 hz39 hq40 => ?_) nw_noX
    obtain ⟨rfl, mo8, ar8, cap8, f8, hL8⟩ := hR38
    obtain ⟨ro1, ad1, hR1, hk1⟩ := tr_wi hRc (v := (cn, bn)) (by omega) (nwWR.new0 hR hn31) (Nat.le_trans hB0 hn31) ho36 hz39 hq40 hL8
    obtain ⟨σ1, hσ1⟩ : ∃ t9 : spSg, t9 = st_wi σ ((sg_wi σ).1 + 1, sp_up (sg_wi σ).2 (sg_wi σ).1 (cn, bn)) := ⟨_, rfl⟩
    rw [← hσ1] at hR1
    have hlen : (sg_wi σ1).1 = (sg_wi σ).1 + 1 := by rw [hσ1]; rfl
    have hE := hE.kept (fun q9 g9 hb9 => hq40 q9 g9 (fun h9 => hb9 (C.hB q9 (hAq q9 g9 h9))))
    have hsz : H.size ≤ H37.size := Nat.le_trans hext.1 hz39
    have hB := Nat.le_trans hB0 hsz
    have ok : spOk σ1 := by rw [hσ1]; exact ⟨okg, okl, okf, oku, okp, oki, okw.add (by omega) ⟨by assumption, by show bn ≤ 12; omega⟩, okd, okk, oka⟩
    have hR := hR1
    have hW := hR.wc
    obtain ⟨hx, hcG, hcLa, hcFo, hcGu, hcPo, hcIn, hcWi, hcWo, hcKe⟩ := id hW
    obtain ⟨okg, okl, okf, oku, okp, oki, okw, okd, okk, oka⟩ := id ok
    have hn64 : gr_n (sg_gr σ1) ≤ 64 := okg.n
    have oku1 := oku.1
    have oki1 := oki.1
    have okp1 := okp.1
    have okw1 := okw.1
    have okl1 := okl.1
    have okf1 := okf.1
    show nwV X _ _ 3 H37 (3 + 1) (14 + 10) 51 [(0, .ref x), (1, .int (nI cn)), (2, .int (nI bn))] [.int (b2i true)]
    refine nw_wide (k' := 4) (n' := 24) (by omega) (by omega) ?_
    refine nw_pop C dX1_wire_51 rfl 52 rfl ?_
    refine nw_aload_n C 0 dX1_wire_52 rfl 53 rfl ?_
    refine nw_get C hx (T := TX1) rfl in_X1 6 (by decide) q227 (Or.inl rfl) rfl dX1_wire_53 56 rfl ?_
    refine nw_callV C (mJ3_size _ C.hfl d (ad1 6) ((sg_wi σ1).1) (fun k => ad1 (700 + k)) (fun q => ro1 q = 2007) H37 hB hcWi.1) kJ3_size q346 (hcWi.1.is C) (As := []) (rest := []) rfl rfl ⟨⟨Nat.le_of_ble_eq_true rfl, Nat.le_of_ble_eq_true rfl⟩, Nat.le_of_ble_eq_true rfl, Nat.le_of_ble_eq_true rfl⟩ (Nat.le_of_ble_eq_true rfl) (fun _ h8 h9 => absurd h9 (Nat.not_le.mpr h8)) dX1_wire_56 59 rfl (nw_rdK ?_) nw_noX
    refine nw_iconst C (nI 1) dX1_wire_59 (by decide) 60 rfl ?_
    refine nw_isubN C (by omega) dX1_wire_60 61 rfl ?_
    have hop : op_wire σ (nI cn) (nI bn) = (0, nI (sg_wi σ).1, σ1) := by rw [hσ1]; simp [op_wire, h17, en_cn, en_bn, hb7, hb15, hfull]
    exact nw_iret C dX1_wire_61 (by omega) (by omega) (by rw [hop]; exact ⟨⟨rfl, congrArg (fun z => some (Value.int z)) (show nI ((sg_wi σ1).1 - 1) = nI (sg_wi σ).1 by rw [hlen]; rfl)⟩, ok, hsz, ro1, ad1, hR, hk1⟩)
set_option maxHeartbeats 4000000 in
theorem mX1_post (l : Launch) (hf : l.flags = flags0) (d : nwD) (ro ad : Nat → Nat) (x : Nat) (σ : spSg) (sm : Int64) (c : Int32) (H : Heap) (hB : nd_B d ≤ H.size) (hR : nwWR d ro ad x σ sm H) (ok : spOk σ) : nwMt l d yX1_post cX1_post 3 (some .int) 8 142 3 30 [.ref x, .int c] H (nwCv d ro x sm (op_post σ c) H) (nwRx ((op_post σ c).1, 0) [cIO, cIS] H) (nwAC ro H) := by
  refine nw_start "NightwatchWall" "post" hf (by decide +kernel) rfl rfl (fun _ h => Or.inr h) (nwAC_B hR hB) (Nat.le_of_ble_eq_true rfl) ?_
  intro X C
  have hW := hR.wc
  have hrx0 := hR.2.1.2
  have hW0 := hW
  have hB0 := hB
  have hE := C.E0
  have hext : nwExt H H := nwExt.rfl
  obtain ⟨hx, hcG, hcLa, hcFo, hcGu, hcPo, hcIn, hcWi, hcWo, hcKe⟩ := id hW
  obtain ⟨okg, okl, okf, oku, okp, oki, okw, okd, okk, oka⟩ := id ok
  have hn64 : gr_n (sg_gr σ) ≤ 64 := okg.n
  have oku1 := oku.1
  have oki1 := oki.1
  have okp1 := okp.1
  have okw1 := okw.1
  have okl1 := okl.1
  have okf1 := okf.1
  show nwV X _ _ 3 H 0 0 0 [(0, .ref x), (1, .int c)] []
  refine nw_aload_n C 0 dX1_post_0 rfl 1 rfl ?_
  refine nw_iload_n C 1 dX1_post_1 rfl 2 rfl ?_
  refine nw_callV C (mX1_groundAt _ C.hfl d ro ad x σ sm c H hB hW ok) kX1_groundAt q810 (hx.is C (ci := 0) rfl) (As := [.int c]) (rest := []) rfl rfl ⟨⟨Nat.le_of_ble_eq_true rfl, Nat.le_of_ble_eq_true rfl⟩, (show 0 + 1 ≤ 3 by omega), (show 0 + 6 ≤ 30 by omega)⟩ (Nat.le_of_ble_eq_true rfl) (fun _ h8 h9 => absurd h9 (Nat.not_le.mpr h8)) dX1_post_2 5 rfl ?_ ?_
  rotate_left
  · intro E9 w9 H1 hR2 hz3 hq4
    obtain ⟨rfl, hb5, hx6⟩ := hR2
    exact nw_out C (show (0 + 1) ≤ 3 by omega) (show (0 + 6) ≤ 30 by omega) ⟨⟨0, by simp [op_post, hb5, sp_wall], rfl⟩, hext.trans hx6⟩
  intro v9 H1 hR2 hz3 hq4
  obtain ⟨rfl, hb7, rfl⟩ := hR2
  obtain ⟨cn, hk8, rfl⟩ := nw_ix_nat (by omega) hb7
  have en_cn : nw_nn (nI cn) = cn := nw_nn_nI (by omega)
  obtain ⟨hgro, hgrl, hgrg⟩ := hcG.here (by assumption)
  show nwV X _ _ 3 H (0 + 1) (0 + 6) 5 [(0, .ref x), (1, .int (nI cn))] [.ref (ad 9)]
  refine nw_wide (k' := 1) (n' := 6) (by omega) (by omega) ?_
  refine nw_astore_n C [(2, .ref (ad 9)), (0, .ref x), (1, .int (nI cn))] dX1_post_5 (by decide) rfl 6 rfl ?_
  refine nw_aload_n C 1 dX1_post_6 rfl 7 rfl ?_
  refine nw_get C hx (T := TX1) rfl in_X1 4 (by decide) q225 (Or.inl rfl) rfl dX1_post_7 10 rfl ?_
  refine nw_callV C (mJ3_size _ C.hfl d (ad 4) ((sg_po σ).1) (fun k => nd_bx d ((sg_po σ).2 k)) (fun q => ro q = 2005) H hB hcPo) kJ3_size q346 (hcPo.is C) (As := []) (rest := []) rfl rfl ⟨⟨Nat.le_of_ble_eq_true rfl, Nat.le_of_ble_eq_true rfl⟩, Nat.le_of_ble_eq_true rfl, Nat.le_of_ble_eq_true rfl⟩ (Nat.le_of_ble_eq_true rfl) (fun _ h8 h9 => absurd h9 (Nat.not_le.mpr h8)) dX1_post_10 13 rfl (nw_rdK ?_) nw_noX
  refine nw_iconst C (nI 4) dX1_post_13 (by decide) 14 rfl ?_
  refine nw_icmpgeN C (by omega) 29 dX1_post_14 (by decide) 17 rfl (fun h9 => ?_) (fun h9 => ?_)
  · refine nw_iconst C (nI 0) dX1_post_29 (by decide) 30 rfl ?_
    refine nw_callS C (mX1_requireState _ C.hfl d false H hB) kX1_requireState q832 (As := [.int (b2i false)]) (rest := []) rfl rfl ⟨⟨Nat.le_of_ble_eq_true rfl, Nat.le_of_ble_eq_true rfl⟩, (show 1 + 1 ≤ 3 by omega), (show 6 + 6 ≤ 30 by omega)⟩ (Nat.le_of_ble_eq_true rfl) (fun _ h8 h9 => absurd h9 (Nat.not_le.mpr h8)) dX1_post_30 33 rfl ?_ ?_
    rotate_left
    · intro E9 w9 H10 hR11 hz12 hq13
      obtain ⟨rfl, hb14, hx15⟩ := hR11
      exact nw_out C (show (1 + 1) ≤ 3 by omega) (show (6 + 6) ≤ 30 by omega) ⟨⟨1, by simp [op_post, h9, en_cn, hb7, hb14, sp_wall], rfl⟩, hext.trans hx15⟩
    intro v9 H10 hR11 hz12 hq13
    obtain ⟨rfl, hb16, rfl⟩ := hR11
    cases hb16
  · refine nw_aload_n C 0 dX1_post_17 rfl 18 rfl ?_
    refine nw_iload_n C 2 dX1_post_18 rfl 19 rfl ?_
    refine nw_callV C (mX6_isWall _ C.hfl d (ad 9) (ad 10) (sg_gr σ) cn H hB hgrg hgro (by omega)) kX6_isWall q289 (hgrg.1.is C (ci := 1) rfl) (As := [.int (nI cn)]) (rest := []) rfl rfl ⟨⟨Nat.le_of_ble_eq_true rfl, Nat.le_of_ble_eq_true rfl⟩, Nat.le_of_ble_eq_true rfl, Nat.le_of_ble_eq_true rfl⟩ (Nat.le_of_ble_eq_true rfl) (fun _ h8 h9 => absurd h9 (Nat.not_le.mpr h8)) dX1_post_19 22 rfl (nw_rdK ?_) nw_noX
    refine nw_ifneB C 29 dX1_post_22 (by decide) 25 rfl (fun h17 => ?_) (fun h17 => ?_)
    · refine nw_iconst C (nI 0) dX1_post_29 (by decide) 30 rfl ?_
      refine nw_callS C (mX1_requireState _ C.hfl d false H hB) kX1_requireState q832 (As := [.int (b2i false)]) (rest := []) rfl rfl ⟨⟨Nat.le_of_ble_eq_true rfl, Nat.le_of_ble_eq_true rfl⟩, (show 1 + 1 ≤ 3 by omega), (show 6 + 6 ≤ 30 by omega)⟩ (Nat.le_of_ble_eq_true rfl) (fun _ h8 h9 => absurd h9 (Nat.not_le.mpr h8)) dX1_post_30 33 rfl ?_ ?_
      rotate_left
      · intro E9 w9 H18 hR19 hz20 hq21
        obtain ⟨rfl, hb22, hx23⟩ := hR19
        exact nw_out C (show (1 + 1) ≤ 3 by omega) (show (6 + 6) ≤ 30 by omega) ⟨⟨1, by simp [op_post, h9, h17, en_cn, hb7, hb22, sp_wall], rfl⟩, hext.trans hx23⟩
      intro v9 H18 hR19 hz20 hq21
      obtain ⟨rfl, hb24, rfl⟩ := hR19
      cases hb24
    · refine nw_iconst C (nI 1) dX1_post_25 (by decide) 26 rfl ?_
      refine nw_goto C 30 dX1_post_26 (by decide) ?_
      refine nw_callS C (mX1_requireStateT _ C.hfl d H hB) kX1_requireState q832 (As := [.int (b2i true)]) (rest := []) rfl rfl ⟨⟨Nat.le_of_ble_eq_true rfl, Nat.le_of_ble_eq_true rfl⟩, Nat.le_of_ble_eq_true rfl, Nat.le_of_ble_eq_true rfl⟩ (Nat.le_of_ble_eq_true rfl) (fun _ h8 h9 => absurd h9 (Nat.not_le.mpr h8)) dX1_post_30 33 rfl (nw_rdK ?_) nw_noX
      have hfull : ¬ 4 ≤ (sg_po σ).1 := by omega
      refine nw_aload_n C 1 dX1_post_33 rfl 34 rfl ?_
      refine nw_get C hx (T := TX1) rfl in_X1 4 (by decide) q225 (Or.inl rfl) rfl dX1_post_34 37 rfl ?_
      refine nw_iload_n C 2 dX1_post_37 rfl 38 rfl ?_
      refine nw_callS C (mJ19_valueOf _ C.hfl d cn H hB (by omega)) kJ19_valueOf q1057 (As := [.int (nI cn)]) (rest := [.ref (ad 4)]) rfl rfl ⟨⟨Nat.le_of_ble_eq_true rfl, Nat.le_of_ble_eq_true rfl⟩, Nat.le_of_ble_eq_true rfl, Nat.le_of_ble_eq_true rfl⟩ (Nat.le_of_ble_eq_true rfl) (fun _ h8 h9 => absurd h9 (Nat.not_le.mpr h8)) dX1_post_38 41 rfl (nw_rdK ?_) nw_noX
      have hRc := hR.ext hext
      obtain ⟨mo9, ar9, cap9, f9, hL9⟩ := nwLi_m hcPo
      have hr9 : ro (ad 4) = 5 := hR.2.2.2.2.2.2.1.2
      have hai9 := hR.ok0 (show ro (ad 4) ≠ 0 by rw [hr9]; decide)
      have hAq : ∀ q8, q8 < H.size → (q8 = ad 4 ∨ ro q8 = 2005 ∨ H.size ≤ q8) → nwAC ro H q8 := by
        intro q8 h8 h9
        rcases h9 with e9 | e9 | e9
        · exact Or.inl (by rw [e9, hr9]; decide +kernel)
        · exact Or.inl (by rw [e9]; decide +kernel)
        · exact absurd h8 (Nat.not_lt.mpr e9)
      refine nw_callV C (mJ3_add _ C.hfl d (ad 4) (sg_po σ).1 (fun k => nd_bx d ((sg_po σ).2 k)) (fun q => ro q = 2005) mo9 ar9 cap9 f9 (nd_bx d cn) "java/lang/Integer" H hB hai9.1 hL9 (fun q9 e9 => (hR.ok0 (show ro q9 ≠ 0 by rw [show ro q9 = 2005 from e9]; decide)).1) (show ¬ ro (ad 4) = 2005 by rw [hr9]; decide) (nwEl.box (by omega)) q2140 (nwE.bxne hE (by omega) hai9.1) (nwE.bxlt hE (by omega)) (by omega)) kJ3_add q888 (nwLi.is hcPo C) (As := [.ref (nd_bx d cn)]) (rest := []) rfl rfl ⟨⟨Nat.le_of_ble_eq_true rfl, Nat.le_of_ble_eq_true rfl⟩, (show 1 + 1 ≤ 3 by omega), (show 6 + 10 ≤ 30 by omega)⟩ (Nat.le_of_ble_eq_true rfl) hAq dX1_post_41 44 rfl (fun v9 H25 hR26 hz27 hq28 => ?_) nw_noX
      obtain ⟨rfl, mo8, ar8, cap8, f8, hL8⟩ := hR26
      obtain ⟨ro1, ad1, hR1, hk1⟩ := tr_po hRc hB hz27 hq28 hL8
      obtain ⟨σ1, hσ1⟩ : ∃ t9 : spSg, t9 = st_po σ ((sg_po σ).1 + 1, sp_up (sg_po σ).2 (sg_po σ).1 cn) := ⟨_, rfl⟩
      rw [← hσ1] at hR1
      have hlen : (sg_po σ1).1 = (sg_po σ).1 + 1 := by rw [hσ1]; rfl
      have hE := hE.kept (fun q9 g9 hb9 => hq28 q9 g9 (fun h9 => hb9 (C.hB q9 (hAq q9 g9 h9))))
      have hsz : H.size ≤ H25.size := Nat.le_trans hext.1 hz27
      have hB := Nat.le_trans hB0 hsz
      have ok : spOk σ1 := by rw [hσ1]; exact ⟨okg, okl, okf, oku, okp.add (by omega) (by assumption), oki, okw, okd, okk, oka⟩
      have hR := hR1
      have hW := hR.wc
      obtain ⟨hx, hcG, hcLa, hcFo, hcGu, hcPo, hcIn, hcWi, hcWo, hcKe⟩ := id hW
      obtain ⟨okg, okl, okf, oku, okp, oki, okw, okd, okk, oka⟩ := id ok
      have hn64 : gr_n (sg_gr σ1) ≤ 64 := okg.n
      have oku1 := oku.1
      have oki1 := oki.1
      have okp1 := okp.1
      have okw1 := okw.1
      have okl1 := okl.1
      have okf1 := okf.1
      show nwV X _ _ 3 H25 (1 + 1) (6 + 10) 44 [(2, .ref (ad 9)), (0, .ref x), (1, .int (nI cn))] [.int (b2i true)]
      refine nw_wide (k' := 2) (n' := 16) (by omega) (by omega) ?_
      refine nw_pop C dX1_post_44 rfl 45 rfl ?_
      refine nw_aload_n C 1 dX1_post_45 rfl 46 rfl ?_
      refine nw_get C hx (T := TX1) rfl in_X1 4 (by decide) q225 (Or.inl rfl) rfl dX1_post_46 49 rfl ?_
      refine nw_callV C (mJ3_size _ C.hfl d (ad1 4) ((sg_po σ1).1) (fun k => nd_bx d ((sg_po σ1).2 k)) (fun q => ro1 q = 2005) H25 hB hcPo) kJ3_size q346 (hcPo.is C) (As := []) (rest := []) rfl rfl ⟨⟨Nat.le_of_ble_eq_true rfl, Nat.le_of_ble_eq_true rfl⟩, Nat.le_of_ble_eq_true rfl, Nat.le_of_ble_eq_true rfl⟩ (Nat.le_of_ble_eq_true rfl) (fun _ h8 h9 => absurd h9 (Nat.not_le.mpr h8)) dX1_post_49 52 rfl (nw_rdK ?_) nw_noX
      refine nw_iconst C (nI 1) dX1_post_52 (by decide) 53 rfl ?_
      refine nw_isubN C (by omega) dX1_post_53 54 rfl ?_
      have hop : op_post σ (nI cn) = (0, nI (sg_po σ).1, σ1) := by rw [hσ1]; simp [op_post, h9, h17, en_cn, hb7, hfull, sp_wall]
      exact nw_iret C dX1_post_54 (by omega) (by omega) (by rw [hop]; exact ⟨⟨rfl, congrArg (fun z => some (Value.int z)) (show nI ((sg_po σ1).1 - 1) = nI (sg_po σ).1 by rw [hlen]; rfl)⟩, ok, hsz, ro1, ad1, hR, hk1⟩)
set_option maxHeartbeats 4000000 in
theorem mX10_init (l : Launch) (hf : l.flags = flags0) (d : nwD) (g : Nat) (c fr to st : Nat) (H : Heap) (hB : nd_B d ≤ H.size) (hgB : nd_B d ≤ g) (hg : nwO d g 4 [.int (nI 0), .int (nI 0), .int (nI 0), .null, .int (nI 0), .int (nI 0)] H) (hc : c < 128) : nwMt l d yX10_init cX10_init 5 none 5 108 2 13 [.ref g, .int (nI c), .int (nI fr), .int (nI to), .int (nI st)] H (fun v H1 => v = none ∧ ∃ (cl car ccap : Nat) (cmo : Int32) (cf : Nat → Option Nat), (H.size ≤ cl ∧ H.size ≤ car ∧ cl ≠ car) ∧ 0 < ccap ∧ nwO d g 4 [.int (nI fr), .int (nI to), .int (nI st), .ref cl, .int (nI 0), .int (nI 0)] H1 ∧ nwLm d cl 1 (fun _ => nd_bx d c) (fun _ => True) cmo car ccap cf H1) nwNo (fun q => q = g ∨ H.size ≤ q) := by
  refine nw_start "NightwatchWall$Guard" "<init>" hf (by decide +kernel) rfl rfl (fun _ h => Or.inr h) (fun q h => h.elim (fun e => by rw [e]; exact hgB) (fun h => Nat.le_trans hB h)) (Nat.le_of_ble_eq_true rfl) ?_
  intro X C
  have hE := C.E0
  have hB0 := hB
  have hsz : H.size ≤ H.size := Nat.le_refl _
  show nwV X _ _ 5 H 0 0 0 [(0, .ref g), (1, .int (nI c)), (2, .int (nI fr)), (3, .int (nI to)), (4, .int (nI st))] []
  refine nw_aload_n C 0 dX10_init_0 rfl 1 rfl ?_
  refine nw_objInit C q997 q133 q134 dX10_init_1 ⟨Nat.le_of_ble_eq_true rfl, Nat.le_of_ble_eq_true rfl⟩ (Nat.le_of_ble_eq_true rfl) 4 rfl ?_
  refine nw_aload_n C 0 dX10_init_4 rfl 5 rfl ?_
  refine nw_new C (ci := 13) (T := TJ3) (ty0 := tyJ3) [.int (nI 0), .null, .int (nI 0)] rfl in_J3 tyJ3_ok q998 q141 q90 (fun j hj => by rcases (show j = 0 ∨ j = 1 ∨ j = 2 by omega) with rfl | rfl | rfl <;> rfl) 1 3 (by omega) (by omega) ⟨(show 1 ≤ 2 by omega), (show 3 ≤ 13 by omega)⟩ dX10_init_5 8 rfl (fun a1 H2 hx3 ho4 hz5 hq6 => ?_)
  have hn7 : H.size ≤ a1 := by rw [hx3]; exact hsz
  have hsz := Nat.le_trans hsz (show _ ≤ H2.size by omega)
  have hB := Nat.le_trans hB0 hsz
  have hE := hE.ext hq6
  have hne8 : g ≠ a1 := Nat.ne_of_lt (by rw [hx3]; exact hg.lt)
  have ho9 := hg.kept (hq6 _ hg.lt)
  refine nw_dup C dX10_init_8 rfl 9 rfl ?_
  refine nw_callI C (mJ3_init _ C.hfl d a1  H2 hB (Nat.le_trans hB0 hn7) ho4 ) kJ3_init q999 (As := []) (rest := [.ref a1, .ref g]) rfl rfl ⟨⟨Nat.le_of_ble_eq_true rfl, Nat.le_of_ble_eq_true rfl⟩, (show 1 + 0 ≤ 2 by omega), (show 3 + 0 ≤ 13 by omega)⟩ (Nat.le_of_ble_eq_true rfl) (fun q8 h8 h9 => h9.elim (fun e9 => by rw [e9]; exact (Or.inr hn7)) (fun e9 => absurd h8 (Nat.not_lt.mpr e9))) dX10_init_9 12 rfl (fun v9 H10 hR11 hz12 hq13 => ?_) nw_noX
  obtain ⟨rfl, ho14⟩ := hR11
  have ho15 := ho9.kept (hq13 _ ho9.lt (fun e9 => e9.elim hne8 (Nat.not_le.mpr ho9.lt)))
  have hE := hE.kept (fun q9 g9 hb9 => hq13 q9 g9 (fun e9 => hb9 (e9.elim (fun e9 => by rw [e9]; exact (Nat.le_trans hB0 hn7)) (fun e9 => Nat.le_trans hB e9))))
  have hsz := Nat.le_trans hsz hz12
  have hB := Nat.le_trans hB0 hsz
  show nwV X _ _ 5 H10 (1 + 0) (3 + 0) 12 [(0, .ref g), (1, .int (nI c)), (2, .int (nI fr)), (3, .int (nI to)), (4, .int (nI st))] [.ref a1, .ref g]
  refine nw_wide (k' := 1) (n' := 3) (by omega) (by omega) ?_
  refine nw_putF C ho15 (Or.inl rfl) (T := TX10) (ty0 := tyX10) rfl in_X10 tyX10_ok nmX10 3 (by decide) q1027 rfl rfl rfl rfl (Nat.le_of_ble_eq_true rfl) dX10_init_12 15 rfl (fun H16 ho17 hz18 hq19 => ?_)
  have ho17 : nwO d g 4 [.int (nI 0), .int (nI 0), .int (nI 0), .ref a1, .int (nI 0), .int (nI 0)] H16 := ho17
  have hsz := Nat.le_trans hsz (Nat.le_of_eq hz18.symm)
  have hE := hE.kept (fun q9 _ hb9 => hq19 q9 (fun e9 => hb9 (by rw [e9]; exact hgB)))
  have hB := Nat.le_trans hB0 hsz
  have ho20 := ho14.kept (hq19 _ (Ne.symm hne8))
  refine nw_aload_n C 0 dX10_init_15 rfl 16 rfl ?_
  refine nw_iload_n C 2 dX10_init_16 rfl 17 rfl ?_
  refine nw_putF C ho17 (Or.inl rfl) (T := TX10) (ty0 := tyX10) rfl in_X10 tyX10_ok nmX10 0 (by decide) q1021 rfl rfl rfl rfl (Nat.le_of_ble_eq_true rfl) dX10_init_17 20 rfl (fun H21 ho22 hz23 hq24 => ?_)
  have ho22 : nwO d g 4 [.int (nI fr), .int (nI 0), .int (nI 0), .ref a1, .int (nI 0), .int (nI 0)] H21 := ho22
  have hsz := Nat.le_trans hsz (Nat.le_of_eq hz23.symm)
  have hE := hE.kept (fun q9 _ hb9 => hq24 q9 (fun e9 => hb9 (by rw [e9]; exact hgB)))
  have hB := Nat.le_trans hB0 hsz
  have ho25 := ho20.kept (hq24 _ (Ne.symm hne8))
  refine nw_aload_n C 0 dX10_init_20 rfl 21 rfl ?_
  refine nw_iload_n C 3 dX10_init_21 rfl 22 rfl ?_
  refine nw_putF C ho22 (Or.inl rfl) (T := TX10) (ty0 := tyX10) rfl in_X10 tyX10_ok nmX10 1 (by decide) q1023 rfl rfl rfl rfl (Nat.le_of_ble_eq_true rfl) dX10_init_22 25 rfl (fun H26 ho27 hz28 hq29 => ?_)
  have ho27 : nwO d g 4 [.int (nI fr), .int (nI to), .int (nI 0), .ref a1, .int (nI 0), .int (nI 0)] H26 := ho27
  have hsz := Nat.le_trans hsz (Nat.le_of_eq hz28.symm)
  have hE := hE.kept (fun q9 _ hb9 => hq29 q9 (fun e9 => hb9 (by rw [e9]; exact hgB)))
  have hB := Nat.le_trans hB0 hsz
  have ho30 := ho25.kept (hq29 _ (Ne.symm hne8))
  refine nw_aload_n C 0 dX10_init_25 rfl 26 rfl ?_
  refine nw_iload C 4 dX10_init_26 rfl 28 rfl ?_
  refine nw_putF C ho27 (Or.inl rfl) (T := TX10) (ty0 := tyX10) rfl in_X10 tyX10_ok nmX10 2 (by decide) q1025 rfl rfl rfl rfl (Nat.le_of_ble_eq_true rfl) dX10_init_28 31 rfl (fun H31 ho32 hz33 hq34 => ?_)
  have ho32 : nwO d g 4 [.int (nI fr), .int (nI to), .int (nI st), .ref a1, .int (nI 0), .int (nI 0)] H31 := ho32
  have hsz := Nat.le_trans hsz (Nat.le_of_eq hz33.symm)
  have hE := hE.kept (fun q9 _ hb9 => hq34 q9 (fun e9 => hb9 (by rw [e9]; exact hgB)))
  have hB := Nat.le_trans hB0 hsz
  have ho35 := ho30.kept (hq34 _ (Ne.symm hne8))
  refine nw_aload_n C 0 dX10_init_31 rfl 32 rfl ?_
  refine nw_get C ho32 (T := TX10) rfl in_X10 3 (by decide) q1027 (Or.inl rfl) rfl dX10_init_32 35 rfl ?_
  refine nw_iload_n C 1 dX10_init_35 rfl 36 rfl ?_
  refine nw_callS C (mJ19_valueOf _ C.hfl d c H31 hB (by omega)) kJ19_valueOf q1000 (As := [.int (nI c)]) (rest := [.ref a1]) rfl rfl ⟨⟨Nat.le_of_ble_eq_true rfl, Nat.le_of_ble_eq_true rfl⟩, Nat.le_of_ble_eq_true rfl, Nat.le_of_ble_eq_true rfl⟩ (Nat.le_of_ble_eq_true rfl) (fun _ h8 h9 => absurd h9 (Nat.not_le.mpr h8)) dX10_init_36 39 rfl (nw_rdK ?_) nw_noX
  refine nw_callV C (mJ3_add _ C.hfl d a1 0 (fun _ => 0) (fun _ => False) (nI 0) (nd_st d 5) 0 (fun _ => none) (nd_bx d c) "java/lang/Integer" H31 hB (Nat.le_trans hB0 hn7) ⟨⟨ho35, Nat.le_refl 0, by decide, Or.inl ⟨rfl, rfl⟩⟩, fun h9 => absurd h9 (by decide), fun k hk => absurd hk (Nat.not_lt_zero k)⟩ (fun _ h9 => h9.elim) (fun h9 => h9) (nwEl.box (by omega)) q2140 (nwE.bxne hE (by omega) (Nat.le_trans hB0 hn7)) (nwE.bxlt hE (by omega)) (by decide)) kJ3_add q1020 (ho35.is C (ci := 13) rfl) (As := [.ref (nd_bx d c)]) (rest := []) rfl rfl ⟨⟨Nat.le_of_ble_eq_true rfl, Nat.le_of_ble_eq_true rfl⟩, (show 1 + 1 ≤ 2 by omega), (show 3 + 10 ≤ 13 by omega)⟩ (Nat.le_of_ble_eq_true rfl) (fun q8 h8 h9 => h9.elim (fun e9 => Or.inr (by rw [e9]; exact hn7)) (fun e9 => e9.elim False.elim (fun e9 => absurd h8 (Nat.not_lt.mpr e9)))) dX10_init_39 42 rfl (fun v9 H36 hR37 hz38 hq39 => ?_) nw_noX
  obtain ⟨rfl, cmo, car, ccap, cf, hcl⟩ := hR37
  have hcarn : H31.size ≤ car := (hcl.2.1 (Nat.lt_of_lt_of_le Nat.one_pos hcl.1.2.1)).elim False.elim id
  have hclar : a1 ≠ car := Nat.ne_of_lt (Nat.lt_of_lt_of_le ho35.lt hcarn)
  have ho40 := ho32.kept (hq39 _ ho32.lt (fun e9 => e9.elim hne8 (fun e9 => e9.elim False.elim (Nat.not_le.mpr ho32.lt))))
  have hcarN : H.size ≤ car := Nat.le_trans hsz hcarn
  have hsz := Nat.le_trans hsz hz38
  have hB := Nat.le_trans hB0 hsz
  show nwV X _ _ 5 H36 (1 + 1) (3 + 10) 42 [(0, .ref g), (1, .int (nI c)), (2, .int (nI fr)), (3, .int (nI to)), (4, .int (nI st))] [.int (b2i true)]
  refine nw_wide (k' := 2) (n' := 13) (by omega) (by omega) ?_
  refine nw_pop C dX10_init_42 rfl 43 rfl ?_
  exact nw_vret C dX10_init_43 (by omega) (by omega) ⟨rfl, a1, car, ccap, cmo, cf, ⟨hn7, hcarN, hclar⟩, Nat.lt_of_lt_of_le Nat.one_pos hcl.1.2.1, ho40, ⟨hcl.1, fun _ => trivial, fun k hk => by rw [hcl.2.2 k hk]; show some (if k = 0 then _ else _) = _; rw [if_pos (by omega)]⟩⟩
set_option maxHeartbeats 4000000 in
theorem mX1_guard (l : Launch) (hf : l.flags = flags0) (d : nwD) (ro ad : Nat → Nat) (x : Nat) (σ : spSg) (sm : Int64) (c : Int32) (a : Int32) (b : Int32) (st : Int32) (H : Heap) (hB : nd_B d ≤ H.size) (hR : nwWR d ro ad x σ sm H) (ok : spOk σ) : nwMt l d yX1_guard cX1_guard 6 (some .int) 8 142 6 60 [.ref x, .int c, .int a, .int b, .int st] H (nwCv d ro x sm (op_guard σ c a b st) H) (nwRx ((op_guard σ c a b st).1, 0) [cIO, cIA, cIS] H) (nwAC ro H) := by
  refine nw_start "NightwatchWall" "guard" hf (by decide +kernel) rfl rfl (fun _ h => Or.inr h) (nwAC_B hR hB) (Nat.le_of_ble_eq_true rfl) ?_
  intro X C
  have hW := hR.wc
  have hrx0 := hR.2.1.2
  have hW0 := hW
  have hB0 := hB
  have hE := C.E0
  have hext : nwExt H H := nwExt.rfl
  obtain ⟨hx, hcG, hcLa, hcFo, hcGu, hcPo, hcIn, hcWi, hcWo, hcKe⟩ := id hW
  obtain ⟨okg, okl, okf, oku, okp, oki, okw, okd, okk, oka⟩ := id ok
  have hn64 : gr_n (sg_gr σ) ≤ 64 := okg.n
  have oku1 := oku.1
  have oki1 := oki.1
  have okp1 := okp.1
  have okw1 := okw.1
  have okl1 := okl.1
  have okf1 := okf.1
  show nwV X _ _ 6 H 0 0 0 [(0, .ref x), (1, .int c), (2, .int a), (3, .int b), (4, .int st)] []
  refine nw_aload_n C 0 dX1_guard_0 rfl 1 rfl ?_
  refine nw_iload_n C 1 dX1_guard_1 rfl 2 rfl ?_
  refine nw_callV C (mX1_groundAt _ C.hfl d ro ad x σ sm c H hB hW ok) kX1_groundAt q810 (hx.is C (ci := 0) rfl) (As := [.int c]) (rest := []) rfl rfl ⟨⟨Nat.le_of_ble_eq_true rfl, Nat.le_of_ble_eq_true rfl⟩, (show 0 + 1 ≤ 6 by omega), (show 0 + 6 ≤ 60 by omega)⟩ (Nat.le_of_ble_eq_true rfl) (fun _ h8 h9 => absurd h9 (Nat.not_le.mpr h8)) dX1_guard_2 5 rfl ?_ ?_
  rotate_left
  · intro E9 w9 H1 hR2 hz3 hq4
    obtain ⟨rfl, hb5, hx6⟩ := hR2
    exact nw_out C (show (0 + 1) ≤ 6 by omega) (show (0 + 6) ≤ 60 by omega) ⟨⟨0, by simp [op_guard, hb5, sp_wall], rfl⟩, hext.trans hx6⟩
  intro v9 H1 hR2 hz3 hq4
  obtain ⟨rfl, hb7, rfl⟩ := hR2
  obtain ⟨cn, hk8, rfl⟩ := nw_ix_nat (by omega) hb7
  have en_cn : nw_nn (nI cn) = cn := nw_nn_nI (by omega)
  obtain ⟨hgro, hgrl, hgrg⟩ := hcG.here (by assumption)
  show nwV X _ _ 6 H (0 + 1) (0 + 6) 5 [(0, .ref x), (1, .int (nI cn)), (2, .int a), (3, .int b), (4, .int st)] [.ref (ad 9)]
  refine nw_wide (k' := 1) (n' := 6) (by omega) (by omega) ?_
  refine nw_astore C [(5, .ref (ad 9)), (0, .ref x), (1, .int (nI cn)), (2, .int a), (3, .int b), (4, .int st)] dX1_guard_5 (by decide) rfl 7 rfl ?_
  refine nw_iload_n C 3 dX1_guard_7 rfl 8 rfl ?_
  refine nw_callS C (mX1_isMinute _ C.hfl d a H hB) kX1_isMinute q861 (As := [.int a]) (rest := []) rfl rfl ⟨⟨Nat.le_of_ble_eq_true rfl, Nat.le_of_ble_eq_true rfl⟩, Nat.le_of_ble_eq_true rfl, Nat.le_of_ble_eq_true rfl⟩ (Nat.le_of_ble_eq_true rfl) (fun _ h8 h9 => absurd h9 (Nat.not_le.mpr h8)) dX1_guard_8 11 rfl (nw_rdK ?_) nw_noX
  refine nw_ifeqB C 41 dX1_guard_11 (by decide) 14 rfl (fun h9 => ?_) (fun h9 => ?_)
  · refine nw_iconst C (nI 0) dX1_guard_41 (by decide) 42 rfl ?_
    refine nw_callS C (mX1_require _ C.hfl d false H hB) kX1_require q655 (As := [.int (b2i false)]) (rest := []) rfl rfl ⟨⟨Nat.le_of_ble_eq_true rfl, Nat.le_of_ble_eq_true rfl⟩, (show 1 + 1 ≤ 6 by omega), (show 6 + 6 ≤ 60 by omega)⟩ (Nat.le_of_ble_eq_true rfl) (fun _ h8 h9 => absurd h9 (Nat.not_le.mpr h8)) dX1_guard_42 45 rfl ?_ ?_
    rotate_left
    · intro E9 w9 H10 hR11 hz12 hq13
      obtain ⟨rfl, hb14, hx15⟩ := hR11
      exact nw_out C (show (1 + 1) ≤ 6 by omega) (show (6 + 6) ≤ 60 by omega) ⟨⟨1, by simp [op_guard, h9, en_cn, hb7, hb14, sp_wall], rfl⟩, hext.trans hx15⟩
    intro v9 H10 hR11 hz12 hq13
    obtain ⟨rfl, hb16, rfl⟩ := hR11
    cases hb16
  · obtain ⟨an, hk17, rfl⟩ := nw_rg_nat (by decide) (by decide) h9
    have en_an : nw_nn (nI an) = an := nw_nn_nI (by omega)
    refine nw_iload_n C 4 dX1_guard_14 rfl 15 rfl ?_
    refine nw_callS C (mX1_isMinute _ C.hfl d b H hB) kX1_isMinute q861 (As := [.int b]) (rest := []) rfl rfl ⟨⟨Nat.le_of_ble_eq_true rfl, Nat.le_of_ble_eq_true rfl⟩, Nat.le_of_ble_eq_true rfl, Nat.le_of_ble_eq_true rfl⟩ (Nat.le_of_ble_eq_true rfl) (fun _ h8 h9 => absurd h9 (Nat.not_le.mpr h8)) dX1_guard_15 18 rfl (nw_rdK ?_) nw_noX
    refine nw_ifeqB C 41 dX1_guard_18 (by decide) 21 rfl (fun h18 => ?_) (fun h18 => ?_)
    · refine nw_iconst C (nI 0) dX1_guard_41 (by decide) 42 rfl ?_
      refine nw_callS C (mX1_require _ C.hfl d false H hB) kX1_require q655 (As := [.int (b2i false)]) (rest := []) rfl rfl ⟨⟨Nat.le_of_ble_eq_true rfl, Nat.le_of_ble_eq_true rfl⟩, (show 1 + 1 ≤ 6 by omega), (show 6 + 6 ≤ 60 by omega)⟩ (Nat.le_of_ble_eq_true rfl) (fun _ h8 h9 => absurd h9 (Nat.not_le.mpr h8)) dX1_guard_42 45 rfl ?_ ?_
      rotate_left
      · intro E9 w9 H19 hR20 hz21 hq22
        obtain ⟨rfl, hb23, hx24⟩ := hR20
        exact nw_out C (show (1 + 1) ≤ 6 by omega) (show (6 + 6) ≤ 60 by omega) ⟨⟨1, by simp [op_guard, h9, h18, en_cn, en_an, hb7, hb23, sp_wall], rfl⟩, hext.trans hx24⟩
      intro v9 H19 hR20 hz21 hq22
      obtain ⟨rfl, hb25, rfl⟩ := hR20
      cases hb25
    · obtain ⟨bn, hk26, rfl⟩ := nw_rg_nat (by decide) (by decide) h18
      have en_bn : nw_nn (nI bn) = bn := nw_nn_nI (by omega)
      refine nw_iload_n C 3 dX1_guard_21 rfl 22 rfl ?_
      refine nw_iload_n C 4 dX1_guard_22 rfl 23 rfl ?_
      refine nw_icmpgtN C (by omega) 41 dX1_guard_23 (by decide) 26 rfl (fun h27 => ?_) (fun h27 => ?_)
      · have hab9 : nI bn < nI an := (nI_ltI (by omega) (by omega)).mpr (by omega)
        refine nw_iconst C (nI 0) dX1_guard_41 (by decide) 42 rfl ?_
        refine nw_callS C (mX1_require _ C.hfl d false H hB) kX1_require q655 (As := [.int (b2i false)]) (rest := []) rfl rfl ⟨⟨Nat.le_of_ble_eq_true rfl, Nat.le_of_ble_eq_true rfl⟩, (show 1 + 1 ≤ 6 by omega), (show 6 + 6 ≤ 60 by omega)⟩ (Nat.le_of_ble_eq_true rfl) (fun _ h8 h9 => absurd h9 (Nat.not_le.mpr h8)) dX1_guard_42 45 rfl ?_ ?_
        rotate_left
        · intro E9 w9 H28 hR29 hz30 hq31
          obtain ⟨rfl, hb32, hx33⟩ := hR29
          exact nw_out C (show (1 + 1) ≤ 6 by omega) (show (6 + 6) ≤ 60 by omega) ⟨⟨1, by simp [op_guard, h9, h18, h27, en_cn, en_an, en_bn, hb7, hab9, hb32, sp_wall], rfl⟩, hext.trans hx33⟩
        intro v9 H28 hR29 hz30 hq31
        obtain ⟨rfl, hb34, rfl⟩ := hR29
        cases hb34
      · have hab9 : ¬ nI bn < nI an := fun e9 => absurd ((nI_ltI (by omega) (by omega)).mp e9) (by omega)
        refine nw_iconst C (nI 1) dX1_guard_26 (by decide) 27 rfl ?_
        refine nw_bipush C (nI 20) dX1_guard_27 (by decide) 29 rfl ?_
        refine nw_iload C 5 dX1_guard_29 rfl 31 rfl ?_
        refine nw_callS C (mX1_isFromR _ C.hfl d (nI 1) (nI 20) st H hB) kX1_isFrom q579 (As := [.int (nI 1), .int (nI 20), .int st]) (rest := []) rfl rfl ⟨⟨Nat.le_of_ble_eq_true rfl, Nat.le_of_ble_eq_true rfl⟩, Nat.le_of_ble_eq_true rfl, Nat.le_of_ble_eq_true rfl⟩ (Nat.le_of_ble_eq_true rfl) (fun _ h8 h9 => absurd h9 (Nat.not_le.mpr h8)) dX1_guard_31 34 rfl (nw_rdK ?_) nw_noX
        show nwV X _ _ 6 H 1 6 34 [(5, .ref (ad 9)), (0, .ref x), (1, .int (nI cn)), (2, .int (nI an)), (3, .int (nI bn)), (4, .int st)] [.int (b2i (nw_rg 1 20 st))]
        refine nw_ifeqB C 41 dX1_guard_34 (by decide) 37 rfl (fun h35 => ?_) (fun h35 => ?_)
        · refine nw_iconst C (nI 0) dX1_guard_41 (by decide) 42 rfl ?_
          refine nw_callS C (mX1_require _ C.hfl d false H hB) kX1_require q655 (As := [.int (b2i false)]) (rest := []) rfl rfl ⟨⟨Nat.le_of_ble_eq_true rfl, Nat.le_of_ble_eq_true rfl⟩, (show 1 + 1 ≤ 6 by omega), (show 6 + 6 ≤ 60 by omega)⟩ (Nat.le_of_ble_eq_true rfl) (fun _ h8 h9 => absurd h9 (Nat.not_le.mpr h8)) dX1_guard_42 45 rfl ?_ ?_
          rotate_left
          · intro E9 w9 H36 hR37 hz38 hq39
            obtain ⟨rfl, hb40, hx41⟩ := hR37
            exact nw_out C (show (1 + 1) ≤ 6 by omega) (show (6 + 6) ≤ 60 by omega) ⟨⟨1, by simp [op_guard, h9, h18, h27, h35, en_cn, en_an, en_bn, hb7, hab9, hb40, sp_wall], rfl⟩, hext.trans hx41⟩
          intro v9 H36 hR37 hz38 hq39
          obtain ⟨rfl, hb42, rfl⟩ := hR37
          cases hb42
        · obtain ⟨sn, hk43, rfl⟩ := nw_rg_nat (by decide) (by decide) h35
          have en_sn : nw_nn (nI sn) = sn := nw_nn_nI (by omega)
          refine nw_iconst C (nI 1) dX1_guard_37 (by decide) 38 rfl ?_
          refine nw_goto C 42 dX1_guard_38 (by decide) ?_
          refine nw_callS C (mX1_requireT _ C.hfl d H hB) kX1_require q655 (As := [.int (b2i true)]) (rest := []) rfl rfl ⟨⟨Nat.le_of_ble_eq_true rfl, Nat.le_of_ble_eq_true rfl⟩, Nat.le_of_ble_eq_true rfl, Nat.le_of_ble_eq_true rfl⟩ (Nat.le_of_ble_eq_true rfl) (fun _ h8 h9 => absurd h9 (Nat.not_le.mpr h8)) dX1_guard_42 45 rfl (nw_rdK ?_) nw_noX
          refine nw_aload_n C 1 dX1_guard_45 rfl 46 rfl ?_
          refine nw_get C hx (T := TX1) rfl in_X1 3 (by decide) q224 (Or.inl rfl) rfl dX1_guard_46 49 rfl ?_
          refine nw_callV C (mJ3_size _ C.hfl d (ad 3) ((sg_gu σ).1) (fun k => ad (300 + k)) (fun q => ro q = 2004) H hB hcGu.1) kJ3_size q346 (hcGu.1.is C) (As := []) (rest := []) rfl rfl ⟨⟨Nat.le_of_ble_eq_true rfl, Nat.le_of_ble_eq_true rfl⟩, Nat.le_of_ble_eq_true rfl, Nat.le_of_ble_eq_true rfl⟩ (Nat.le_of_ble_eq_true rfl) (fun _ h8 h9 => absurd h9 (Nat.not_le.mpr h8)) dX1_guard_49 52 rfl (nw_rdK ?_) nw_noX
          refine nw_bipush C (nI 6) dX1_guard_52 (by decide) 54 rfl ?_
          refine nw_icmpgeN C (by omega) 70 dX1_guard_54 (by decide) 57 rfl (fun h44 => ?_) (fun h44 => ?_)
          · refine nw_iconst C (nI 0) dX1_guard_70 (by decide) 71 rfl ?_
            refine nw_callS C (mX1_requireState _ C.hfl d false H hB) kX1_requireState q832 (As := [.int (b2i false)]) (rest := []) rfl rfl ⟨⟨Nat.le_of_ble_eq_true rfl, Nat.le_of_ble_eq_true rfl⟩, (show 1 + 1 ≤ 6 by omega), (show 6 + 6 ≤ 60 by omega)⟩ (Nat.le_of_ble_eq_true rfl) (fun _ h8 h9 => absurd h9 (Nat.not_le.mpr h8)) dX1_guard_71 74 rfl ?_ ?_
            rotate_left
            · intro E9 w9 H45 hR46 hz47 hq48
              obtain ⟨rfl, hb49, hx50⟩ := hR46
              exact nw_out C (show (1 + 1) ≤ 6 by omega) (show (6 + 6) ≤ 60 by omega) ⟨⟨2, by simp [op_guard, h9, h18, h27, h35, h44, en_cn, en_an, en_bn, en_sn, hb7, hab9, hb49, sp_wall], rfl⟩, hext.trans hx50⟩
            intro v9 H45 hR46 hz47 hq48
            obtain ⟨rfl, hb51, rfl⟩ := hR46
            cases hb51
          · refine nw_aload C 0 dX1_guard_57 rfl 59 rfl ?_
            refine nw_iload_n C 2 dX1_guard_59 rfl 60 rfl ?_
            refine nw_callV C (mX6_isWall _ C.hfl d (ad 9) (ad 10) (sg_gr σ) cn H hB hgrg hgro (by omega)) kX6_isWall q289 (hgrg.1.is C (ci := 1) rfl) (As := [.int (nI cn)]) (rest := []) rfl rfl ⟨⟨Nat.le_of_ble_eq_true rfl, Nat.le_of_ble_eq_true rfl⟩, Nat.le_of_ble_eq_true rfl, Nat.le_of_ble_eq_true rfl⟩ (Nat.le_of_ble_eq_true rfl) (fun _ h8 h9 => absurd h9 (Nat.not_le.mpr h8)) dX1_guard_60 63 rfl (nw_rdK ?_) nw_noX
            refine nw_ifneB C 70 dX1_guard_63 (by decide) 66 rfl (fun h52 => ?_) (fun h52 => ?_)
            · refine nw_iconst C (nI 0) dX1_guard_70 (by decide) 71 rfl ?_
              refine nw_callS C (mX1_requireState _ C.hfl d false H hB) kX1_requireState q832 (As := [.int (b2i false)]) (rest := []) rfl rfl ⟨⟨Nat.le_of_ble_eq_true rfl, Nat.le_of_ble_eq_true rfl⟩, (show 1 + 1 ≤ 6 by omega), (show 6 + 6 ≤ 60 by omega)⟩ (Nat.le_of_ble_eq_true rfl) (fun _ h8 h9 => absurd h9 (Nat.not_le.mpr h8)) dX1_guard_71 74 rfl ?_ ?_
              rotate_left
              · intro E9 w9 H53 hR54 hz55 hq56
                obtain ⟨rfl, hb57, hx58⟩ := hR54
                exact nw_out C (show (1 + 1) ≤ 6 by omega) (show (6 + 6) ≤ 60 by omega) ⟨⟨2, by simp [op_guard, h9, h18, h27, h35, h44, h52, en_cn, en_an, en_bn, en_sn, hb7, hab9, hb57, sp_wall], rfl⟩, hext.trans hx58⟩
              intro v9 H53 hR54 hz55 hq56
              obtain ⟨rfl, hb59, rfl⟩ := hR54
              cases hb59
            · refine nw_iconst C (nI 1) dX1_guard_66 (by decide) 67 rfl ?_
              refine nw_goto C 71 dX1_guard_67 (by decide) ?_
              refine nw_callS C (mX1_requireStateT _ C.hfl d H hB) kX1_requireState q832 (As := [.int (b2i true)]) (rest := []) rfl rfl ⟨⟨Nat.le_of_ble_eq_true rfl, Nat.le_of_ble_eq_true rfl⟩, Nat.le_of_ble_eq_true rfl, Nat.le_of_ble_eq_true rfl⟩ (Nat.le_of_ble_eq_true rfl) (fun _ h8 h9 => absurd h9 (Nat.not_le.mpr h8)) dX1_guard_71 74 rfl (nw_rdK ?_) nw_noX
              have hfull : ¬ 6 ≤ (sg_gu σ).1 := by omega
              refine nw_aload_n C 1 dX1_guard_74 rfl 75 rfl ?_
              refine nw_get C hx (T := TX1) rfl in_X1 3 (by decide) q224 (Or.inl rfl) rfl dX1_guard_75 78 rfl ?_
              refine nw_new C (ci := 4) (T := TX10) (ty0 := tyX10) [.int (nI 0), .int (nI 0), .int (nI 0), .null, .int (nI 0), .int (nI 0)] rfl in_X10 tyX10_ok q369 q993 q117 (fun j hj => by rcases (show j = 0 ∨ j = 1 ∨ j = 2 ∨ j = 3 ∨ j = 4 ∨ j = 5 by omega) with rfl | rfl | rfl | rfl | rfl | rfl <;> rfl) 2 12 (by omega) (by omega) ⟨(show 2 ≤ 6 by omega), (show 12 ≤ 60 by omega)⟩ dX1_guard_78 81 rfl (fun a60 H61 hx62 ho63 hz64 hq65 => ?_)
              have hn66 : H.size ≤ a60 := (by rw [hx62]; exact hext.1)
              have hext := hext.made hz64 hq65
              have hW := hW0.ext hext.2
              have hE := C.E0.ext hext.2
              have hB := Nat.le_trans hB0 hext.1
              obtain ⟨hx, hcG, hcLa, hcFo, hcGu, hcPo, hcIn, hcWi, hcWo, hcKe⟩ := id hW
              obtain ⟨okg, okl, okf, oku, okp, oki, okw, okd, okk, oka⟩ := id ok
              have hn64 : gr_n (sg_gr σ) ≤ 64 := okg.n
              have oku1 := oku.1
              have oki1 := oki.1
              have okp1 := okp.1
              have okw1 := okw.1
              have okl1 := okl.1
              have okf1 := okf.1
              obtain ⟨hgro, hgrl, hgrg⟩ := hcG.here (by assumption)
              refine nw_dup C dX1_guard_81 rfl 82 rfl ?_
              refine nw_iload_n C 2 dX1_guard_82 rfl 83 rfl ?_
              refine nw_iload_n C 3 dX1_guard_83 rfl 84 rfl ?_
              refine nw_iload_n C 4 dX1_guard_84 rfl 85 rfl ?_
              refine nw_iload C 5 dX1_guard_85 rfl 87 rfl ?_
              have hB9 := (Nat.le_trans hB0 hn66)
              refine nw_callI C (mX10_init _ C.hfl d a60 cn an bn sn H61 hB (Nat.le_trans hB0 hn66) ho63 (by omega)) kX10_init q994 (As := [.int (nI cn), .int (nI an), .int (nI bn), .int (nI sn)]) (rest := [.ref a60, .ref (ad 3)]) rfl rfl ⟨⟨Nat.le_of_ble_eq_true rfl, Nat.le_of_ble_eq_true rfl⟩, (show 2 + 2 ≤ 6 by omega), (show 12 + 13 ≤ 60 by omega)⟩ (Nat.le_of_ble_eq_true rfl) (fun q8 h8 h9 => h9.elim (fun e9 => by rw [e9]; exact (Or.inr hn66)) (fun e9 => absurd h8 (Nat.not_lt.mpr e9))) dX1_guard_87 90 rfl (fun v9 H67 hR68 hz69 hq70 => ?_) nw_noX
              obtain ⟨rfl, cl, car, ccap, cmo, cf, ⟨hcl1, hcl2, hcl3⟩, hcc, hgo, hcl⟩ := hR68
              have hcl1 := Nat.le_trans hext.1 hcl1
              have hcl2 := Nat.le_trans hext.1 hcl2
              have hecl : a60 ≠ cl ∧ a60 ≠ car := ⟨Nat.ne_of_lt (Nat.lt_of_lt_of_le ho63.lt (by assumption)), Nat.ne_of_lt (Nat.lt_of_lt_of_le ho63.lt (by assumption))⟩
              have hext := hext.step hz69 hq70 (fun q9 e9 => e9.elim (fun e9 => by rw [e9]; exact hn66) (fun e9 => Nat.le_trans hext.1 e9))
              have hW := hW0.ext hext.2
              have hE := C.E0.ext hext.2
              have hB := Nat.le_trans hB0 hext.1
              obtain ⟨hx, hcG, hcLa, hcFo, hcGu, hcPo, hcIn, hcWi, hcWo, hcKe⟩ := id hW
              obtain ⟨okg, okl, okf, oku, okp, oki, okw, okd, okk, oka⟩ := id ok
              have hn64 : gr_n (sg_gr σ) ≤ 64 := okg.n
              have oku1 := oku.1
              have oki1 := oki.1
              have okp1 := okp.1
              have okw1 := okw.1
              have okl1 := okl.1
              have okf1 := okf.1
              obtain ⟨hgro, hgrl, hgrg⟩ := hcG.here (by assumption)
              show nwV X _ _ 6 H67 (2 + 2) (12 + 13) 90 [(5, .ref (ad 9)), (0, .ref x), (1, .int (nI cn)), (2, .int (nI an)), (3, .int (nI bn)), (4, .int (nI sn))] [.ref a60, .ref (ad 3)]
              refine nw_wide (k' := 4) (n' := 25) (by omega) (by omega) ?_
              have hRc := hR.ext hext
              obtain ⟨mo9, ar9, cap9, f9, hL9⟩ := nwLi_m hcGu.1
              have hr9 : ro (ad 3) = 4 := hR.2.2.2.2.2.1.2.2.1
              have hai9 := hR.ok0 (show ro (ad 3) ≠ 0 by rw [hr9]; decide)
              have hAq : ∀ q8, q8 < H67.size → (q8 = ad 3 ∨ ro q8 = 2004 ∨ H67.size ≤ q8) → nwAC ro H q8 := by
                intro q8 h8 h9
                rcases h9 with e9 | e9 | e9
                · exact Or.inl (by rw [e9, hr9]; decide +kernel)
                · exact Or.inl (by rw [e9]; decide +kernel)
                · exact absurd h8 (Nat.not_lt.mpr e9)
              refine nw_callV C (mJ3_add _ C.hfl d (ad 3) (sg_gu σ).1 (fun k => ad (300 + k)) (fun q => ro q = 2004) mo9 ar9 cap9 f9 a60 "NightwatchWall$Guard" H67 hB hai9.1 hL9 (fun q9 e9 => (hR.ok0 (show ro q9 ≠ 0 by rw [show ro q9 = 2004 from e9]; decide)).1) (show ¬ ro (ad 3) = 2004 by rw [hr9]; decide) (Or.inl ⟨4, _, _, _, hgo, rfl⟩) q2139 (fun e9 => absurd hai9.2 (Nat.not_lt.mpr (by rw [← e9]; exact hn66))) hgo.lt (by omega)) kJ3_add q888 (nwLi.is hcGu.1 C) (As := [.ref a60]) (rest := []) rfl rfl ⟨⟨Nat.le_of_ble_eq_true rfl, Nat.le_of_ble_eq_true rfl⟩, (show 4 + 1 ≤ 6 by omega), (show 25 + 10 ≤ 60 by omega)⟩ (Nat.le_of_ble_eq_true rfl) hAq dX1_guard_90 93 rfl (fun v9 H71 hR72 hz73 hq74 => ?_) nw_noX
              obtain ⟨rfl, mo8, ar8, cap8, f8, hL8⟩ := hR72
              obtain ⟨ro1, ad1, hR1, hk1⟩ := tr_gu hRc (v := sp_gd cn an bn sn) (by omega) ⟨(nwWR.new0 hR hn66), (Nat.le_trans hB0 hn66)⟩ ⟨nwWR.new0 hR hcl1, Nat.le_trans hB0 hcl1⟩ ⟨nwWR.new0 hR hcl2, Nat.le_trans hB0 hcl2⟩ ⟨hecl.1, hecl.2, hcl3⟩ hcc hgo hcl hz73 hq74 hL8
              obtain ⟨σ1, hσ1⟩ : ∃ t9 : spSg, t9 = st_gu σ ((sg_gu σ).1 + 1, sp_up (sg_gu σ).2 (sg_gu σ).1 (sp_gd cn an bn sn)) := ⟨_, rfl⟩
              rw [← hσ1] at hR1
              have hlen : (sg_gu σ1).1 = (sg_gu σ).1 + 1 := by rw [hσ1]; rfl
              have hE := hE.kept (fun q9 g9 hb9 => hq74 q9 g9 (fun h9 => hb9 (C.hB q9 (hAq q9 g9 h9))))
              have hsz : H.size ≤ H71.size := Nat.le_trans hext.1 hz73
              have hB := Nat.le_trans hB0 hsz
              have ok : spOk σ1 := by rw [hσ1]; exact ⟨okg, okl, okf, oku.add (by omega) (okGd.one (by assumption) ⟨by omega, by omega, by omega, by omega⟩), okp, oki, okw, okd, okk.more (by show _ ≤ _ + 1; omega), oka⟩
              have hR := hR1
              have hW := hR.wc
              obtain ⟨hx, hcG, hcLa, hcFo, hcGu, hcPo, hcIn, hcWi, hcWo, hcKe⟩ := id hW
              obtain ⟨okg, okl, okf, oku, okp, oki, okw, okd, okk, oka⟩ := id ok
              have hn64 : gr_n (sg_gr σ1) ≤ 64 := okg.n
              have oku1 := oku.1
              have oki1 := oki.1
              have okp1 := okp.1
              have okw1 := okw.1
              have okl1 := okl.1
              have okf1 := okf.1
              show nwV X _ _ 6 H71 (4 + 1) (25 + 10) 93 [(5, .ref (ad 9)), (0, .ref x), (1, .int (nI cn)), (2, .int (nI an)), (3, .int (nI bn)), (4, .int (nI sn))] [.int (b2i true)]
              refine nw_wide (k' := 5) (n' := 35) (by omega) (by omega) ?_
              refine nw_pop C dX1_guard_93 rfl 94 rfl ?_
              refine nw_aload_n C 1 dX1_guard_94 rfl 95 rfl ?_
              refine nw_get C hx (T := TX1) rfl in_X1 3 (by decide) q224 (Or.inl rfl) rfl dX1_guard_95 98 rfl ?_
              refine nw_callV C (mJ3_size _ C.hfl d (ad1 3) ((sg_gu σ1).1) (fun k => ad1 (300 + k)) (fun q => ro1 q = 2004) H71 hB hcGu.1) kJ3_size q346 (hcGu.1.is C) (As := []) (rest := []) rfl rfl ⟨⟨Nat.le_of_ble_eq_true rfl, Nat.le_of_ble_eq_true rfl⟩, Nat.le_of_ble_eq_true rfl, Nat.le_of_ble_eq_true rfl⟩ (Nat.le_of_ble_eq_true rfl) (fun _ h8 h9 => absurd h9 (Nat.not_le.mpr h8)) dX1_guard_98 101 rfl (nw_rdK ?_) nw_noX
              refine nw_iconst C (nI 1) dX1_guard_101 (by decide) 102 rfl ?_
              refine nw_isubN C (by omega) dX1_guard_102 103 rfl ?_
              have hop : op_guard σ (nI cn) (nI an) (nI bn) (nI sn) = (0, nI (sg_gu σ).1, σ1) := by rw [hσ1]; simp [op_guard, h9, h18, h27, h35, h44, h52, en_cn, en_an, en_bn, en_sn, hb7, hab9, hfull, sp_wall]
              exact nw_iret C dX1_guard_103 (by omega) (by omega) (by rw [hop]; exact ⟨⟨rfl, congrArg (fun z => some (Value.int z)) (show nI ((sg_gu σ1).1 - 1) = nI (sg_gu σ).1 by rw [hlen]; rfl)⟩, ok, hsz, ro1, ad1, hR, hk1⟩)
set_option maxHeartbeats 4000000 in
theorem mX1_round (l : Launch) (hf : l.flags = flags0) (d : nwD) (ro ad : Nat → Nat) (x : Nat) (σ : spSg) (sm : Int64) (g : Int32) (c : Int32) (H : Heap) (hB : nd_B d ≤ H.size) (hR : nwWR d ro ad x σ sm H) (ok : spOk σ) : nwMt l d yX1_round cX1_round 5 (some .int) 8 142 4 40 [.ref x, .int g, .int c] H (nwCv d ro x sm (op_round σ g c) H) (nwRx ((op_round σ g c).1, 0) [cIO, cIS] H) (nwAC ro H) := by
  refine nw_start "NightwatchWall" "round" hf (by decide +kernel) rfl rfl (fun _ h => Or.inr h) (nwAC_B hR hB) (Nat.le_of_ble_eq_true rfl) ?_
  intro X C
  have hW := hR.wc
  have hrx0 := hR.2.1.2
  have hW0 := hW
  have hB0 := hB
  have hE := C.E0
  have hext : nwExt H H := nwExt.rfl
  obtain ⟨hx, hcG, hcLa, hcFo, hcGu, hcPo, hcIn, hcWi, hcWo, hcKe⟩ := id hW
  obtain ⟨okg, okl, okf, oku, okp, oki, okw, okd, okk, oka⟩ := id ok
  have hn64 : gr_n (sg_gr σ) ≤ 64 := okg.n
  have oku1 := oku.1
  have oki1 := oki.1
  have okp1 := okp.1
  have okw1 := okw.1
  have okl1 := okl.1
  have okf1 := okf.1
  show nwV X _ _ 5 H 0 0 0 [(0, .ref x), (1, .int g), (2, .int c)] []
  refine nw_aload_n C 0 dX1_round_0 rfl 1 rfl ?_
  refine nw_iload_n C 1 dX1_round_1 rfl 2 rfl ?_
  refine nw_callV C (mX1_guardAt _ C.hfl d ro ad x σ sm g H hB hW ok) kX1_guardAt q1053 (hx.is C (ci := 0) rfl) (As := [.int g]) (rest := []) rfl rfl ⟨⟨Nat.le_of_ble_eq_true rfl, Nat.le_of_ble_eq_true rfl⟩, (show 0 + 1 ≤ 4 by omega), (show 0 + 6 ≤ 40 by omega)⟩ (Nat.le_of_ble_eq_true rfl) (fun _ h8 h9 => absurd h9 (Nat.not_le.mpr h8)) dX1_round_2 5 rfl ?_ ?_
  rotate_left
  · intro E9 w9 H1 hR2 hz3 hq4
    obtain ⟨rfl, hb5, hx6⟩ := hR2
    exact nw_out C (show (0 + 1) ≤ 4 by omega) (show (0 + 6) ≤ 40 by omega) ⟨⟨0, by simp [op_round, hb5, sp_wall], rfl⟩, hext.trans hx6⟩
  intro v9 H1 hR2 hz3 hq4
  obtain ⟨rfl, hb7, rfl⟩ := hR2
  obtain ⟨gn, hk8, rfl⟩ := nw_ix_nat (by omega) hb7
  have en_gn : nw_nn (nI gn) = gn := nw_nn_nI (by omega)
  rw [en_gn]
  have hg9 : nwGd d (ad (300 + gn)) (ad (400 + gn)) (fun q => ro q = 2401 + gn) ((sg_gu σ).2 gn) H := hcGu.2 gn (by omega)
  have hk10 : okGd (sg_gr σ) ((sg_gu σ).2 gn) := oku.2 gn (by omega)
  have hg11 : nwO d (ad (300 + gn)) 4 [.int (nI (gd_a ((sg_gu σ).2 gn))), .int (nI (gd_b ((sg_gu σ).2 gn))), .int (nI (gd_s ((sg_gu σ).2 gn))), .ref (ad (400 + gn)), .int (nI (gd_k ((sg_gu σ).2 gn))), .int (gd_h ((sg_gu σ).2 gn))] H := hg9.1
  show nwV X _ _ 5 H (0 + 1) (0 + 6) 5 [(0, .ref x), (1, .int (nI gn)), (2, .int c)] [.ref (ad (300 + gn))]
  refine nw_wide (k' := 1) (n' := 6) (by omega) (by omega) ?_
  refine nw_astore_n C [(3, .ref (ad (300 + gn))), (0, .ref x), (1, .int (nI gn)), (2, .int c)] dX1_round_5 (by decide) rfl 6 rfl ?_
  refine nw_aload_n C 1 dX1_round_6 rfl 7 rfl ?_
  refine nw_iload_n C 3 dX1_round_7 rfl 8 rfl ?_
  refine nw_callV C (mX1_groundAt _ C.hfl d ro ad x σ sm c H hB hW ok) kX1_groundAt q810 (hx.is C (ci := 0) rfl) (As := [.int c]) (rest := []) rfl rfl ⟨⟨Nat.le_of_ble_eq_true rfl, Nat.le_of_ble_eq_true rfl⟩, (show 1 + 1 ≤ 4 by omega), (show 6 + 6 ≤ 40 by omega)⟩ (Nat.le_of_ble_eq_true rfl) (fun _ h8 h9 => absurd h9 (Nat.not_le.mpr h8)) dX1_round_8 11 rfl ?_ ?_
  rotate_left
  · intro E9 w9 H12 hR13 hz14 hq15
    obtain ⟨rfl, hb16, hx17⟩ := hR13
    exact nw_out C (show (1 + 1) ≤ 4 by omega) (show (6 + 6) ≤ 40 by omega) ⟨⟨0, by simp [op_round, en_gn, hb7, hb16, sp_wall], rfl⟩, hext.trans hx17⟩
  intro v9 H12 hR13 hz14 hq15
  obtain ⟨rfl, hb18, rfl⟩ := hR13
  obtain ⟨cn, hk19, rfl⟩ := nw_ix_nat (by omega) hb18
  have en_cn : nw_nn (nI cn) = cn := nw_nn_nI (by omega)
  obtain ⟨hgro, hgrl, hgrg⟩ := hcG.here (by assumption)
  show nwV X _ _ 5 H (1 + 1) (6 + 6) 11 [(3, .ref (ad (300 + gn))), (0, .ref x), (1, .int (nI gn)), (2, .int (nI cn))] [.ref (ad 9)]
  refine nw_wide (k' := 2) (n' := 12) (by omega) (by omega) ?_
  refine nw_astore C [(4, .ref (ad 9)), (3, .ref (ad (300 + gn))), (0, .ref x), (1, .int (nI gn)), (2, .int (nI cn))] dX1_round_11 (by decide) rfl 13 rfl ?_
  have hgm9 := (oku.2 gn (by omega)).1.2.2.2.2.2.1
  refine nw_aload_n C 1 dX1_round_13 rfl 14 rfl ?_
  refine nw_getN C hg11 (T := TX10) rfl in_X10 3 (by decide) q1028 rfl rfl dX1_round_14 17 rfl ?_
  refine nw_callV C (mJ3_size _ C.hfl d (ad (400 + gn)) (gd_m ((sg_gu σ).2 gn)) (fun j => nd_bx d (gd_c ((sg_gu σ).2 gn) j)) (fun q => ro q = 2401 + gn) H hB hg9.2) kJ3_size q346 (hg9.2.is C) (As := []) (rest := []) rfl rfl ⟨⟨Nat.le_of_ble_eq_true rfl, Nat.le_of_ble_eq_true rfl⟩, Nat.le_of_ble_eq_true rfl, Nat.le_of_ble_eq_true rfl⟩ (Nat.le_of_ble_eq_true rfl) (fun _ h8 h9 => absurd h9 (Nat.not_le.mpr h8)) dX1_round_17 20 rfl (nw_rdK ?_) nw_noX
  refine nw_bipush C (nI 6) dX1_round_20 (by decide) 22 rfl ?_
  refine nw_icmpgeN C (by omega) 38 dX1_round_22 (by decide) 25 rfl (fun h20 => ?_) (fun h20 => ?_)
  · refine nw_iconst C (nI 0) dX1_round_38 (by decide) 39 rfl ?_
    refine nw_callS C (mX1_requireState _ C.hfl d false H hB) kX1_requireState q832 (As := [.int (b2i false)]) (rest := []) rfl rfl ⟨⟨Nat.le_of_ble_eq_true rfl, Nat.le_of_ble_eq_true rfl⟩, (show 2 + 1 ≤ 4 by omega), (show 12 + 6 ≤ 40 by omega)⟩ (Nat.le_of_ble_eq_true rfl) (fun _ h8 h9 => absurd h9 (Nat.not_le.mpr h8)) dX1_round_39 42 rfl ?_ ?_
    rotate_left
    · intro E9 w9 H21 hR22 hz23 hq24
      obtain ⟨rfl, hb25, hx26⟩ := hR22
      exact nw_out C (show (2 + 1) ≤ 4 by omega) (show (12 + 6) ≤ 40 by omega) ⟨⟨1, by simp [op_round, h20, en_gn, en_cn, hb7, hb18, hb25, sp_wall], rfl⟩, hext.trans hx26⟩
    intro v9 H21 hR22 hz23 hq24
    obtain ⟨rfl, hb27, rfl⟩ := hR22
    cases hb27
  · refine nw_aload C 0 dX1_round_25 rfl 27 rfl ?_
    refine nw_iload_n C 4 dX1_round_27 rfl 28 rfl ?_
    refine nw_callV C (mX6_isWall _ C.hfl d (ad 9) (ad 10) (sg_gr σ) cn H hB hgrg hgro (by omega)) kX6_isWall q289 (hgrg.1.is C (ci := 1) rfl) (As := [.int (nI cn)]) (rest := []) rfl rfl ⟨⟨Nat.le_of_ble_eq_true rfl, Nat.le_of_ble_eq_true rfl⟩, Nat.le_of_ble_eq_true rfl, Nat.le_of_ble_eq_true rfl⟩ (Nat.le_of_ble_eq_true rfl) (fun _ h8 h9 => absurd h9 (Nat.not_le.mpr h8)) dX1_round_28 31 rfl (nw_rdK ?_) nw_noX
    refine nw_ifneB C 38 dX1_round_31 (by decide) 34 rfl (fun h28 => ?_) (fun h28 => ?_)
    · refine nw_iconst C (nI 0) dX1_round_38 (by decide) 39 rfl ?_
      refine nw_callS C (mX1_requireState _ C.hfl d false H hB) kX1_requireState q832 (As := [.int (b2i false)]) (rest := []) rfl rfl ⟨⟨Nat.le_of_ble_eq_true rfl, Nat.le_of_ble_eq_true rfl⟩, (show 2 + 1 ≤ 4 by omega), (show 12 + 6 ≤ 40 by omega)⟩ (Nat.le_of_ble_eq_true rfl) (fun _ h8 h9 => absurd h9 (Nat.not_le.mpr h8)) dX1_round_39 42 rfl ?_ ?_
      rotate_left
      · intro E9 w9 H29 hR30 hz31 hq32
        obtain ⟨rfl, hb33, hx34⟩ := hR30
        exact nw_out C (show (2 + 1) ≤ 4 by omega) (show (12 + 6) ≤ 40 by omega) ⟨⟨1, by simp [op_round, h20, h28, en_gn, en_cn, hb7, hb18, hb33, sp_wall], rfl⟩, hext.trans hx34⟩
      intro v9 H29 hR30 hz31 hq32
      obtain ⟨rfl, hb35, rfl⟩ := hR30
      cases hb35
    · refine nw_iconst C (nI 1) dX1_round_34 (by decide) 35 rfl ?_
      refine nw_goto C 39 dX1_round_35 (by decide) ?_
      refine nw_callS C (mX1_requireStateT _ C.hfl d H hB) kX1_requireState q832 (As := [.int (b2i true)]) (rest := []) rfl rfl ⟨⟨Nat.le_of_ble_eq_true rfl, Nat.le_of_ble_eq_true rfl⟩, Nat.le_of_ble_eq_true rfl, Nat.le_of_ble_eq_true rfl⟩ (Nat.le_of_ble_eq_true rfl) (fun _ h8 h9 => absurd h9 (Nat.not_le.mpr h8)) dX1_round_39 42 rfl (nw_rdK ?_) nw_noX
      have hfull : ¬ 6 ≤ gd_m ((sg_gu σ).2 gn) := by omega
      refine nw_aload_n C 1 dX1_round_42 rfl 43 rfl ?_
      refine nw_getN C hg11 (T := TX10) rfl in_X10 3 (by decide) q1028 rfl rfl dX1_round_43 46 rfl ?_
      refine nw_iload_n C 4 dX1_round_46 rfl 47 rfl ?_
      refine nw_callS C (mJ19_valueOf _ C.hfl d cn H hB (by omega)) kJ19_valueOf q1057 (As := [.int (nI cn)]) (rest := [.ref (ad (400 + gn))]) rfl rfl ⟨⟨Nat.le_of_ble_eq_true rfl, Nat.le_of_ble_eq_true rfl⟩, Nat.le_of_ble_eq_true rfl, Nat.le_of_ble_eq_true rfl⟩ (Nat.le_of_ble_eq_true rfl) (fun _ h8 h9 => absurd h9 (Nat.not_le.mpr h8)) dX1_round_47 50 rfl (nw_rdK ?_) nw_noX
      have hRc := hR.ext hext
      obtain ⟨mo9, ar9, cap9, f9, hL9⟩ := nwLi_m hg9.2
      have hr9 : ro (ad (400 + gn)) = 401 + gn := (hR.2.2.2.2.2.1.2.2.2 gn (by omega)).2
      have hai9 := hR.ok0 (show ro (ad (400 + gn)) ≠ 0 by rw [hr9]; omega)
      have hAq : ∀ q8, q8 < H.size → (q8 = ad (400 + gn) ∨ ro q8 = 2401 + gn ∨ H.size ≤ q8) → nwAC ro H q8 := by
        intro q8 h8 h9
        rcases h9 with e9 | e9 | e9
        · exact Or.inl (by rw [e9, hr9, rp_401 gn (by omega)]; decide)
        · exact Or.inl (by rw [e9, rp_2401 gn (by omega)]; decide)
        · exact absurd h8 (Nat.not_lt.mpr e9)
      have hk9 := hk10
      refine nw_callV C (mJ3_add _ C.hfl d (ad (400 + gn)) (gd_m ((sg_gu σ).2 gn)) (fun k => nd_bx d (gd_c ((sg_gu σ).2 gn) k)) (fun q => ro q = 2401 + gn) mo9 ar9 cap9 f9 (nd_bx d cn) "java/lang/Integer" H hB hai9.1 hL9 (fun q9 e9 => (hR.ok0 (show ro q9 ≠ 0 by rw [show ro q9 = 2401 + gn from e9]; omega)).1) (show ¬ ro (ad (400 + gn)) = 2401 + gn by rw [hr9]; omega) (nwEl.box (by omega)) q2140 (nwE.bxne hE (by omega) hai9.1) (nwE.bxlt hE (by omega)) (by omega)) kJ3_add q888 (nwLi.is hg9.2 C) (As := [.ref (nd_bx d cn)]) (rest := []) rfl rfl ⟨⟨Nat.le_of_ble_eq_true rfl, Nat.le_of_ble_eq_true rfl⟩, (show 2 + 1 ≤ 4 by omega), (show 12 + 10 ≤ 40 by omega)⟩ (Nat.le_of_ble_eq_true rfl) hAq dX1_round_50 53 rfl (fun v9 H36 hR37 hz38 hq39 => ?_) nw_noX
      obtain ⟨rfl, mo8, ar8, cap8, f8, hL8⟩ := hR37
      obtain ⟨ro1, hR1, hk1⟩ := tr_gc hRc (c := cn) hB (by omega) hz38 hq39 hL8
      obtain ⟨ad1, had1⟩ : ∃ t9 : Nat → Nat, t9 = ad := ⟨_, rfl⟩
      rw [← had1] at hR1
      obtain ⟨σ1, hσ1⟩ : ∃ t9 : spSg, t9 = st_gu σ ((sg_gu σ).1, sp_up (sg_gu σ).2 gn (gd_add ((sg_gu σ).2 gn) cn)) := ⟨_, rfl⟩
      rw [← hσ1] at hR1
      have hlen : (sg_gu σ1).1 = (sg_gu σ).1 := by rw [hσ1]; rfl
      have hgd1 : (sg_gu σ1).2 gn = gd_add ((sg_gu σ).2 gn) cn := by rw [hσ1]; exact sp_up_at _ _ _
      have hE := hE.kept (fun q9 g9 hb9 => hq39 q9 g9 (fun h9 => hb9 (C.hB q9 (hAq q9 g9 h9))))
      have hsz : H.size ≤ H36.size := Nat.le_trans hext.1 hz38
      have hB := Nat.le_trans hB0 hsz
      have ok : spOk σ1 := by rw [hσ1]; exact ⟨okg, okl, okf, oku.put (hk9.add (by omega) (by assumption)), okp, oki, okw, okd, okk, oka⟩
      have hR := hR1
      have hW := hR.wc
      obtain ⟨hx, hcG, hcLa, hcFo, hcGu, hcPo, hcIn, hcWi, hcWo, hcKe⟩ := id hW
      obtain ⟨okg, okl, okf, oku, okp, oki, okw, okd, okk, oka⟩ := id ok
      have hn64 : gr_n (sg_gr σ1) ≤ 64 := okg.n
      have oku1 := oku.1
      have oki1 := oki.1
      have okp1 := okp.1
      have okw1 := okw.1
      have okl1 := okl.1
      have okf1 := okf.1
      have hgd9 := hcGu.2 gn (by rw [hlen]; omega)
      have hg40 : nwGd d (ad1 (300 + gn)) (ad1 (400 + gn)) (fun q => ro1 q = 2401 + gn) ((sg_gu σ1).2 gn) H36 := hcGu.2 gn (by omega)
      have hk41 : okGd (sg_gr σ1) ((sg_gu σ1).2 gn) := oku.2 gn (by omega)
      have hg42 : nwO d (ad1 (300 + gn)) 4 [.int (nI (gd_a ((sg_gu σ1).2 gn))), .int (nI (gd_b ((sg_gu σ1).2 gn))), .int (nI (gd_s ((sg_gu σ1).2 gn))), .ref (ad1 (400 + gn)), .int (nI (gd_k ((sg_gu σ1).2 gn))), .int (gd_h ((sg_gu σ1).2 gn))] H36 := hg40.1
      have had9 : ad (300 + gn) = ad1 (300 + gn) := by rw [had1]
      rw [had9]
      show nwV X _ _ 5 H36 (2 + 1) (12 + 10) 53 [(4, .ref (ad 9)), (3, .ref (ad1 (300 + gn))), (0, .ref x), (1, .int (nI gn)), (2, .int (nI cn))] [.int (b2i true)]
      refine nw_wide (k' := 3) (n' := 22) (by omega) (by omega) ?_
      refine nw_pop C dX1_round_53 rfl 54 rfl ?_
      refine nw_aload_n C 1 dX1_round_54 rfl 55 rfl ?_
      refine nw_getN C hg42 (T := TX10) rfl in_X10 3 (by decide) q1028 rfl rfl dX1_round_55 58 rfl ?_
      refine nw_callV C (mJ3_size _ C.hfl d (ad1 (400 + gn)) (gd_m ((sg_gu σ1).2 gn)) (fun j => nd_bx d (gd_c ((sg_gu σ1).2 gn) j)) (fun q => ro1 q = 2401 + gn) H36 hB hg40.2) kJ3_size q346 (hg40.2.is C) (As := []) (rest := []) rfl rfl ⟨⟨Nat.le_of_ble_eq_true rfl, Nat.le_of_ble_eq_true rfl⟩, Nat.le_of_ble_eq_true rfl, Nat.le_of_ble_eq_true rfl⟩ (Nat.le_of_ble_eq_true rfl) (fun _ h8 h9 => absurd h9 (Nat.not_le.mpr h8)) dX1_round_58 61 rfl (nw_rdK ?_) nw_noX
      have hop : op_round σ (nI gn) (nI cn) = (0, nI (gd_m ((sg_gu σ).2 gn) + 1), σ1) := by rw [hσ1]; simp [op_round, h20, h28, en_gn, en_cn, hb7, hb18, hfull, sp_wall]
      exact nw_iret C dX1_round_61 (by omega) (by omega) (by rw [hop]; exact ⟨⟨rfl, congrArg (fun z => some (Value.int z)) (show nI (gd_m ((sg_gu σ1).2 gn)) = nI (gd_m ((sg_gu σ).2 gn) + 1) by rw [hgd1]; rfl)⟩, ok, hsz, ro1, ad1, hR, hk1⟩)
