/-! ===== the reference's readers: numbers, the ground, light ===== -/
/-- as spOk; a lamp more may burn for a while -/
def okLaM (g : spGr) (la : spLa) : Prop := la.1 ≤ 7 ∧ ∀ k, k < la.1 → (la.2 k).1 < gr_n g ∧ (la.2 k).2.1 ≤ 4
def spOkM (s : spSg) : Prop := okGr (sg_gr s) ∧ okLaM (sg_gr s) (sg_la s) ∧ okFo (sg_fo s) ∧ okGu (sg_gr s) (sg_gu s) ∧ okPo (sg_gr s) (sg_po s) ∧ okIn (sg_gr s) (sg_in s) ∧ okWi (sg_gr s) (sg_wi s) ∧ okWo (sg_wo s) ∧ okKe (sg_gu s) (sg_ke s) ∧ okGa (sg_ga s)
theorem spOk.m {s : spSg} (h : spOk s) : spOkM s := ⟨h.1, ⟨Nat.le_succ_of_le h.2.1.1, h.2.1.2⟩, h.2.2⟩
theorem sp_dist_comm (a b : Nat) : sp_dist a b = sp_dist b a := by unfold sp_dist; omega
theorem nI_sub0 {a b : Nat} (ha : a < 2 ^ 31) (hb : b < 2 ^ 31) : nI a - nI b = 0 ↔ sp_dist a b = 0 := by
  constructor
  · intro h
    have h1 : nI a = nI b := by have h2 : nI a - nI b + nI b = nI a := by grind
                                rw [h] at h2; rw [← h2]; grind
    have h3 := (nI_eq ha hb).mp h1
    unfold sp_dist; omega
  · intro h
    have h3 : a = b := by unfold sp_dist at h; omega
    rw [h3]; grind
theorem on_mul {gr : spGr} (ho : spGrOk gr) {a b : Nat} (hp : a < gr_n gr) (hq : b < gr_n gr) (hln : sp_line (gr_w gr) a b = true) : ∀ k, k ≤ sp_apart (gr_w gr) a b → nI a + nI k * (nw_sig (nI (b / gr_w gr) - nI (a / gr_w gr)) * nI (gr_w gr) + nw_sig (nI (b % gr_w gr) - nI (a % gr_w gr))) = nI (sp_onway (gr_w gr) a b k) := by
  intro k
  induction k with
  | zero =>
    intro _
    rw [on_0, nI_0]
    grind
  | succ k ih =>
    intro hk
    rw [← on_step ho hp hq hln (Or.inl (by omega)), ← ih (by omega), ← nI_add k 1]
    have h1 : nI 1 = 1 := rfl
    grind
theorem nw_ixD {v : Int32} {n : Nat} (hn : n < 2 ^ 31) : (decide (nI 0 ≤ v) && decide (v ≤ nI n - nI 1)) = nw_ix v n := by
  unfold nw_ix
  rw [nI_0]
  by_cases h0 : (0 : Int32) ≤ v
  · have h1 : v ≤ nI n - nI 1 ↔ v < nI n := by
      have h2 := Int32.le_iff_toInt_le.mp h0
      rw [show (0 : Int32).toInt = 0 by decide] at h2
      rw [Int32.le_iff_toInt_le, Int32.lt_iff_toInt_lt, nI_toInt hn]
      cases n with
      | zero =>
        rw [show (nI 0 - nI 1).toInt = -1 by decide]
        omega
      | succ n =>
        rw [pk_sub (Nat.le_add_left 1 n), Nat.add_sub_cancel, nI_toInt (by omega)]
        omega
    simp [h0, h1]
  · simp [h0]
/-- what fogAt of the reference keeps: since when, and the fog -/
def fogM (fo : spFo) (o : Option Nat) : Option Nat × Nat := match o with
  | none => (none, 0)
  | some b => (some (fo.2 b).1, (fo.2 b).2)
theorem nw_ge_m1 {n : Nat} (h : n < 2 ^ 31) : nI n ≥ oI none := by
  apply Int32.le_iff_toInt_le.mpr
  rw [nI_toInt h]
  have h3 : (oI none).toInt = -1 := by decide
  omega
theorem fogM_some {fo : spFo} {t i v f : Nat} (h : (some v, f) = fogM fo (sp_fogI fo t i)) : ∃ b, sp_fogI fo t i = some b ∧ v = (fo.2 b).1 ∧ f = (fo.2 b).2 := by
  cases hb : sp_fogI fo t i with
  | none => rw [hb] at h; cases h
  | some b => rw [hb] at h; cases h; exact ⟨b, rfl, rfl, rfl⟩
theorem fogM_none {fo : spFo} {t i f : Nat} (h : (none, f) = fogM fo (sp_fogI fo t i)) : sp_fogI fo t i = none := by
  cases hb : sp_fogI fo t i with
  | none => rfl
  | some b => rw [hb] at h; cases h
theorem fogM_new {fo : spFo} {t i f : Nat} (h1 : (fo.2 i).1 ≤ t) (h : (none, f) = fogM fo (sp_fogI fo t i)) : (some (fo.2 i).1, (fo.2 i).2) = fogM fo (sp_fogI fo t (i + 1)) := by
  unfold sp_fogI
  rw [if_pos h1, fogM_none h]
  rfl
theorem fogM_more {fo : spFo} {t i v f : Nat} (h1 : (fo.2 i).1 ≤ t) (h : (some v, f) = fogM fo (sp_fogI fo t i)) (h2 : v ≤ (fo.2 i).1) : (some (fo.2 i).1, (fo.2 i).2) = fogM fo (sp_fogI fo t (i + 1)) := by
  obtain ⟨b, e1, e2, e3⟩ := fogM_some h
  unfold sp_fogI
  rw [if_pos h1, e1]
  show _ = fogM fo (if (fo.2 b).1 ≤ (fo.2 i).1 then some i else some b)
  rw [if_pos (by omega)]
  rfl
theorem fogM_less {fo : spFo} {t i v f : Nat} (h1 : (fo.2 i).1 ≤ t) (h : (some v, f) = fogM fo (sp_fogI fo t i)) (h2 : (fo.2 i).1 < v) : (some v, f) = fogM fo (sp_fogI fo t (i + 1)) := by
  have h0 := h
  obtain ⟨b, e1, e2, e3⟩ := fogM_some h
  unfold sp_fogI
  rw [if_pos h1, e1]
  show _ = fogM fo (if (fo.2 b).1 ≤ (fo.2 i).1 then some i else some b)
  rw [if_neg (by omega), e2, e3]
  rfl
theorem kX4_in : nwPS yX4_in cX4_in 3 (some .boolean) 3 := ⟨⟨q1692, q93, q1693⟩, by decide +kernel, by decide +kernel, by decide +kernel⟩
theorem kX4_apart : nwPV "NightwatchWallModel" yX4_apart cX4_apart 3 (some .int) 2 := ⟨⟨q1754, qs55, q93, q1755⟩, rfl, by decide +kernel, by decide +kernel, by decide +kernel⟩
theorem kX4_isClear : nwPV "NightwatchWallModel" yX4_isClear cX4_isClear 8 (some .boolean) 2 := ⟨⟨q1760, qs56, q93, q1761⟩, rfl, by decide +kernel, by decide +kernel, by decide +kernel⟩
theorem kX4_isLitBy : nwPV "NightwatchWallModel" yX4_isLitBy cX4_isLitBy 4 (some .boolean) 3 := ⟨⟨q1750, qs54, q93, q1751⟩, rfl, by decide +kernel, by decide +kernel, by decide +kernel⟩
theorem kX4_isBright : nwPV "NightwatchWallModel" yX4_isBright cX4_isBright 3 (some .boolean) 1 := ⟨⟨q1746, qs53, q93, q1747⟩, rfl, by decide +kernel, by decide +kernel, by decide +kernel⟩
set_option maxHeartbeats 4000000 in
theorem mX4_in (l : Launch) (hf : l.flags = flags0) (d : nwD) (a b c : Nat) (H : Heap) (hB : nd_B d ≤ H.size) (hb : a < 2 ^ 31 ∧ b < 2 ^ 31 ∧ c < 2 ^ 31) : nwRd l d yX4_in cX4_in 3 (some .boolean) 1 20 [.int (nI a), .int (nI b), .int (nI c)] H (some (.int (b2i (decide (b ≤ a) && decide (a ≤ c))))) := by
  refine nw_rd "NightwatchWallModel" "in" hf (by decide +kernel) rfl rfl hB (Nat.le_of_ble_eq_true rfl) ?_
  intro X C
  show nwV X _ _ 3 H 0 0 0 [(0, .int (nI a)), (1, .int (nI b)), (2, .int (nI c))] []
  refine nw_iload_n C 0 dX4_in_0 rfl 1 rfl ?_
  refine nw_iload_n C 1 dX4_in_1 rfl 2 rfl ?_
  refine nw_icmpltN C (by omega) 14 dX4_in_2 (by decide) 5 rfl (fun h1 => ?_) (fun h1 => ?_)
  · refine nw_iconst C (nI 0) dX4_in_14 (by decide) 15 rfl ?_
    exact nw_nret C dX4_in_15 (b2i_narrow false) (Nat.le_refl _) (Nat.le_refl _) ⟨congrArg (fun z => some (Value.int (b2i z))) (show (false) = (decide (b ≤ a) && decide (a ≤ c)) from (by simp; omega)), rfl⟩
  · refine nw_iload_n C 0 dX4_in_5 rfl 6 rfl ?_
    refine nw_iload_n C 2 dX4_in_6 rfl 7 rfl ?_
    refine nw_icmpgtN C (by omega) 14 dX4_in_7 (by decide) 10 rfl (fun h2 => ?_) (fun h2 => ?_)
    · refine nw_iconst C (nI 0) dX4_in_14 (by decide) 15 rfl ?_
      exact nw_nret C dX4_in_15 (b2i_narrow false) (Nat.le_refl _) (Nat.le_refl _) ⟨congrArg (fun z => some (Value.int (b2i z))) (show (false) = (decide (b ≤ a) && decide (a ≤ c)) from (by simp; omega)), rfl⟩
    · refine nw_iconst C (nI 1) dX4_in_10 (by decide) 11 rfl ?_
      refine nw_goto C 15 dX4_in_11 (by decide) ?_
      exact nw_nret C dX4_in_15 (b2i_narrow true) (Nat.le_refl _) (Nat.le_refl _) ⟨congrArg (fun z => some (Value.int (b2i z))) (show (true) = (decide (b ≤ a) && decide (a ≤ c)) from (by simp; omega)), rfl⟩
set_option maxHeartbeats 4000000 in
theorem mX4_inR (l : Launch) (hf : l.flags = flags0) (d : nwD) (a b c : Int32) (H : Heap) (hB : nd_B d ≤ H.size)  : nwRd l d yX4_in cX4_in 3 (some .boolean) 1 20 [.int a, .int b, .int c] H (some (.int (b2i (decide (b ≤ a) && decide (a ≤ c))))) := by
  refine nw_rd "NightwatchWallModel" "in" hf (by decide +kernel) rfl rfl hB (Nat.le_of_ble_eq_true rfl) ?_
  intro X C
  show nwV X _ _ 3 H 0 0 0 [(0, .int a), (1, .int b), (2, .int c)] []
  refine nw_iload_n C 0 dX4_in_0 rfl 1 rfl ?_
  refine nw_iload_n C 1 dX4_in_1 rfl 2 rfl ?_
  refine nw_icmplt C 14 dX4_in_2 (by decide) 5 rfl (fun h1 => ?_) (fun h1 => ?_)
  · refine nw_iconst C (nI 0) dX4_in_14 (by decide) 15 rfl ?_
    exact nw_nret C dX4_in_15 (b2i_narrow false) (Nat.le_refl _) (Nat.le_refl _) ⟨congrArg (fun z => some (Value.int (b2i z))) (show (false) = (decide (b ≤ a) && decide (a ≤ c)) from (nw_inR1 h1)), rfl⟩
  · refine nw_iload_n C 0 dX4_in_5 rfl 6 rfl ?_
    refine nw_iload_n C 2 dX4_in_6 rfl 7 rfl ?_
    refine nw_icmpgt C 14 dX4_in_7 (by decide) 10 rfl (fun h2 => ?_) (fun h2 => ?_)
    · refine nw_iconst C (nI 0) dX4_in_14 (by decide) 15 rfl ?_
      exact nw_nret C dX4_in_15 (b2i_narrow false) (Nat.le_refl _) (Nat.le_refl _) ⟨congrArg (fun z => some (Value.int (b2i z))) (show (false) = (decide (b ≤ a) && decide (a ≤ c)) from (nw_inR2 h2)), rfl⟩
    · refine nw_iconst C (nI 1) dX4_in_10 (by decide) 11 rfl ?_
      refine nw_goto C 15 dX4_in_11 (by decide) ?_
      exact nw_nret C dX4_in_15 (b2i_narrow true) (Nat.le_refl _) (Nat.le_refl _) ⟨congrArg (fun z => some (Value.int (b2i z))) (show (true) = (decide (b ≤ a) && decide (a ≤ c)) from (nw_inR3 h1 h2)), rfl⟩
set_option maxHeartbeats 4000000 in
theorem mX4_isMinute (l : Launch) (hf : l.flags = flags0) (d : nwD) (t : Int32) (H : Heap) (hB : nd_B d ≤ H.size)  : nwRd l d yX4_isMinute cX4_isMinute 1 (some .boolean) 2 42 [.int t] H (some (.int (b2i (nw_rg 0 239 t)))) := by
  refine nw_rd "NightwatchWallModel" "isMinute" hf (by decide +kernel) rfl rfl hB (Nat.le_of_ble_eq_true rfl) ?_
  intro X C
  show nwV X _ _ 1 H 0 0 0 [(0, .int t)] []
  refine nw_iload_n C 0 dX4_isMinute_0 rfl 1 rfl ?_
  refine nw_iconst C (nI 0) dX4_isMinute_1 (by decide) 2 rfl ?_
  refine nw_sipush C (nI 239) dX4_isMinute_2 (by decide) 5 rfl ?_
  refine nw_callS C (mX4_inR _ C.hfl d t (nI 0) (nI 239) H hB) kX4_in q1691 (As := [.int t, .int (nI 0), .int (nI 239)]) (rest := []) rfl rfl ⟨⟨Nat.le_of_ble_eq_true rfl, Nat.le_of_ble_eq_true rfl⟩, Nat.le_of_ble_eq_true rfl, Nat.le_of_ble_eq_true rfl⟩ (Nat.le_of_ble_eq_true rfl) (fun _ h8 h9 => absurd h9 (Nat.not_le.mpr h8)) dX4_isMinute_5 8 rfl (nw_rdK ?_) nw_noX
  show nwV X _ _ 1 H 0 0 8 [(0, .int t)] [.int (b2i (nw_rg 0 239 t))]
  exact nw_nret C dX4_isMinute_8 (b2i_narrow _) (Nat.le_refl _) (Nat.le_refl _) ⟨congrArg (fun z => some (Value.int (b2i z))) (show (nw_rg 0 239 t) = (nw_rg 0 239 t) from rfl), rfl⟩
set_option maxHeartbeats 4000000 in
theorem mX4_isCell (l : Launch) (hf : l.flags = flags0) (d : nwD) (ro am : Nat → Nat) (y : Nat) (σ : spSg) (th : Int32) (v : Int32) (H : Heap) (hB : nd_B d ≤ H.size) (hW : nwMC d ro am y σ th H) (okM : spOkM σ)  : nwRd l d yX4_isCell cX4_isCell 2 (some .boolean) 2 42 [.ref y, .int v] H (some (.int (b2i (nw_ix v (gr_n (sg_gr σ)))))) := by
  refine nw_rd "NightwatchWallModel" "isCell" hf (by decide +kernel) rfl rfl hB (Nat.le_of_ble_eq_true rfl) ?_
  intro X C
  obtain ⟨hmX, hmKi, hmLa, hmFo, hmGu, hmPo, hmIn, hmWi, hmWo, hmKe⟩ := id hW
  obtain ⟨okg, okl, okf, oku, okp, oki, okw, okd, okk, oka⟩ := id okM
  have hn64 : gr_n (sg_gr σ) ≤ 64 := okg.n
  have oku1 := oku.1
  have oki1 := oki.1
  have okp1 := okp.1
  have okw1 := okw.1
  have okl1 := okl.1
  have okf1 := okf.1
  have hE := C.E0
  show nwV X _ _ 2 H 0 0 0 [(0, .ref y), (1, .int v)] []
  refine nw_iload_n C 1 dX4_isCell_0 rfl 1 rfl ?_
  refine nw_iconst C (nI 0) dX4_isCell_1 (by decide) 2 rfl ?_
  refine nw_aload_n C 0 dX4_isCell_2 rfl 3 rfl ?_
  refine nw_get C hmX (T := TX4) rfl in_X4 3 (by decide) q1625 (Or.inl rfl) rfl dX4_isCell_3 6 rfl ?_
  refine nw_alenI C hmKi (by decide) dX4_isCell_6 7 rfl ?_
  refine nw_iconst C (nI 1) dX4_isCell_7 (by decide) 8 rfl ?_
  refine nw_isub C (nI (gr_n (sg_gr σ)) - nI 1) dX4_isCell_8 rfl 9 rfl ?_
  refine nw_callS C (mX4_inR _ C.hfl d v (nI 0) (nI (gr_n (sg_gr σ)) - nI 1) H hB) kX4_in q1691 (As := [.int v, .int (nI 0), .int (nI (gr_n (sg_gr σ)) - nI 1)]) (rest := []) rfl rfl ⟨⟨Nat.le_of_ble_eq_true rfl, Nat.le_of_ble_eq_true rfl⟩, Nat.le_of_ble_eq_true rfl, Nat.le_of_ble_eq_true rfl⟩ (Nat.le_of_ble_eq_true rfl) (fun _ h8 h9 => absurd h9 (Nat.not_le.mpr h8)) dX4_isCell_9 12 rfl (nw_rdK ?_) nw_noX
  exact nw_nret C dX4_isCell_12 (b2i_narrow _) (Nat.le_refl _) (Nat.le_refl _) ⟨congrArg (fun z => some (Value.int (b2i z))) (show (decide ((nI 0) ≤ v) && decide (v ≤ (nI (gr_n (sg_gr σ)) - nI 1))) = (nw_ix v (gr_n (sg_gr σ))) from (nw_ixD (by omega))), rfl⟩
set_option maxHeartbeats 4000000 in
theorem mX4_isGuard (l : Launch) (hf : l.flags = flags0) (d : nwD) (ro am : Nat → Nat) (y : Nat) (σ : spSg) (th : Int32) (v : Int32) (H : Heap) (hB : nd_B d ≤ H.size) (hW : nwMC d ro am y σ th H) (okM : spOkM σ)  : nwRd l d yX4_isGuard cX4_isGuard 2 (some .boolean) 2 42 [.ref y, .int v] H (some (.int (b2i (nw_ix v ((sg_gu σ).1))))) := by
  refine nw_rd "NightwatchWallModel" "isGuard" hf (by decide +kernel) rfl rfl hB (Nat.le_of_ble_eq_true rfl) ?_
  intro X C
  obtain ⟨hmX, hmKi, hmLa, hmFo, hmGu, hmPo, hmIn, hmWi, hmWo, hmKe⟩ := id hW
  obtain ⟨okg, okl, okf, oku, okp, oki, okw, okd, okk, oka⟩ := id okM
  have hn64 : gr_n (sg_gr σ) ≤ 64 := okg.n
  have oku1 := oku.1
  have oki1 := oki.1
  have okp1 := okp.1
  have okw1 := okw.1
  have okl1 := okl.1
  have okf1 := okf.1
  have hE := C.E0
  show nwV X _ _ 2 H 0 0 0 [(0, .ref y), (1, .int v)] []
  refine nw_iload_n C 1 dX4_isGuard_0 rfl 1 rfl ?_
  refine nw_iconst C (nI 0) dX4_isGuard_1 (by decide) 2 rfl ?_
  refine nw_aload_n C 0 dX4_isGuard_2 rfl 3 rfl ?_
  refine nw_get C hmX (T := TX4) rfl in_X4 8 (by decide) q1630 (Or.inl rfl) rfl dX4_isGuard_3 6 rfl ?_
  refine nw_callF C (mJ3_size _ C.hfl d (am 3) ((sg_gu σ).1) (fun k => am (300 + k)) (fun q => ro q = 7004) H hB hmGu.1) kJ3_size (ci := 13) rfl q1607 q1611 (by decide +kernel) fc_List_size (hmGu.1.is C) (As := []) (rest := [.int (nI 0), .int v]) rfl rfl ⟨⟨Nat.le_of_ble_eq_true rfl, Nat.le_of_ble_eq_true rfl⟩, Nat.le_of_ble_eq_true rfl, Nat.le_of_ble_eq_true rfl⟩ (Nat.le_of_ble_eq_true rfl) (fun _ h8 h9 => absurd h9 (Nat.not_le.mpr h8)) dX4_isGuard_6 11 rfl (nw_rdK ?_) nw_noX
  refine nw_iconst C (nI 1) dX4_isGuard_11 (by decide) 12 rfl ?_
  refine nw_isub C (nI ((sg_gu σ).1) - nI 1) dX4_isGuard_12 rfl 13 rfl ?_
  refine nw_callS C (mX4_inR _ C.hfl d v (nI 0) (nI ((sg_gu σ).1) - nI 1) H hB) kX4_in q1691 (As := [.int v, .int (nI 0), .int (nI ((sg_gu σ).1) - nI 1)]) (rest := []) rfl rfl ⟨⟨Nat.le_of_ble_eq_true rfl, Nat.le_of_ble_eq_true rfl⟩, Nat.le_of_ble_eq_true rfl, Nat.le_of_ble_eq_true rfl⟩ (Nat.le_of_ble_eq_true rfl) (fun _ h8 h9 => absurd h9 (Nat.not_le.mpr h8)) dX4_isGuard_13 16 rfl (nw_rdK ?_) nw_noX
  exact nw_nret C dX4_isGuard_16 (b2i_narrow _) (Nat.le_refl _) (Nat.le_refl _) ⟨congrArg (fun z => some (Value.int (b2i z))) (show (decide ((nI 0) ≤ v) && decide (v ≤ (nI ((sg_gu σ).1) - nI 1))) = (nw_ix v ((sg_gu σ).1)) from (nw_ixD (by omega))), rfl⟩
set_option maxHeartbeats 4000000 in
theorem mX4_isIntruder (l : Launch) (hf : l.flags = flags0) (d : nwD) (ro am : Nat → Nat) (y : Nat) (σ : spSg) (th : Int32) (v : Int32) (H : Heap) (hB : nd_B d ≤ H.size) (hW : nwMC d ro am y σ th H) (okM : spOkM σ)  : nwRd l d yX4_isIntruder cX4_isIntruder 2 (some .boolean) 2 42 [.ref y, .int v] H (some (.int (b2i (nw_ix v ((sg_in σ).1))))) := by
  refine nw_rd "NightwatchWallModel" "isIntruder" hf (by decide +kernel) rfl rfl hB (Nat.le_of_ble_eq_true rfl) ?_
  intro X C
  obtain ⟨hmX, hmKi, hmLa, hmFo, hmGu, hmPo, hmIn, hmWi, hmWo, hmKe⟩ := id hW
  obtain ⟨okg, okl, okf, oku, okp, oki, okw, okd, okk, oka⟩ := id okM
  have hn64 : gr_n (sg_gr σ) ≤ 64 := okg.n
  have oku1 := oku.1
  have oki1 := oki.1
  have okp1 := okp.1
  have okw1 := okw.1
  have okl1 := okl.1
  have okf1 := okf.1
  have hE := C.E0
  show nwV X _ _ 2 H 0 0 0 [(0, .ref y), (1, .int v)] []
  refine nw_iload_n C 1 dX4_isIntruder_0 rfl 1 rfl ?_
  refine nw_iconst C (nI 0) dX4_isIntruder_1 (by decide) 2 rfl ?_
  refine nw_aload_n C 0 dX4_isIntruder_2 rfl 3 rfl ?_
  refine nw_get C hmX (T := TX4) rfl in_X4 17 (by decide) q1639 (Or.inl rfl) rfl dX4_isIntruder_3 6 rfl ?_
  refine nw_callF C (mJ3_size _ C.hfl d (am 5) ((sg_in σ).1) (fun k => am (500 + k)) (fun q => ro q = 7006) H hB hmIn.1) kJ3_size (ci := 13) rfl q1607 q1611 (by decide +kernel) fc_List_size (hmIn.1.is C) (As := []) (rest := [.int (nI 0), .int v]) rfl rfl ⟨⟨Nat.le_of_ble_eq_true rfl, Nat.le_of_ble_eq_true rfl⟩, Nat.le_of_ble_eq_true rfl, Nat.le_of_ble_eq_true rfl⟩ (Nat.le_of_ble_eq_true rfl) (fun _ h8 h9 => absurd h9 (Nat.not_le.mpr h8)) dX4_isIntruder_6 11 rfl (nw_rdK ?_) nw_noX
  refine nw_iconst C (nI 1) dX4_isIntruder_11 (by decide) 12 rfl ?_
  refine nw_isub C (nI ((sg_in σ).1) - nI 1) dX4_isIntruder_12 rfl 13 rfl ?_
  refine nw_callS C (mX4_inR _ C.hfl d v (nI 0) (nI ((sg_in σ).1) - nI 1) H hB) kX4_in q1691 (As := [.int v, .int (nI 0), .int (nI ((sg_in σ).1) - nI 1)]) (rest := []) rfl rfl ⟨⟨Nat.le_of_ble_eq_true rfl, Nat.le_of_ble_eq_true rfl⟩, Nat.le_of_ble_eq_true rfl, Nat.le_of_ble_eq_true rfl⟩ (Nat.le_of_ble_eq_true rfl) (fun _ h8 h9 => absurd h9 (Nat.not_le.mpr h8)) dX4_isIntruder_13 16 rfl (nw_rdK ?_) nw_noX
  exact nw_nret C dX4_isIntruder_16 (b2i_narrow _) (Nat.le_refl _) (Nat.le_refl _) ⟨congrArg (fun z => some (Value.int (b2i z))) (show (decide ((nI 0) ≤ v) && decide (v ≤ (nI ((sg_in σ).1) - nI 1))) = (nw_ix v ((sg_in σ).1)) from (nw_ixD (by omega))), rfl⟩
set_option maxHeartbeats 4000000 in
theorem mX4_after (l : Launch) (hf : l.flags = flags0) (d : nwD) (n : Nat) (H : Heap) (hB : nd_B d ≤ H.size) (hn : n < 2 ^ 20) : nwRd l d yX4_after cX4_after 1 (some .int) 1 20 [.int (nI n)] H (some (.int (nI (sp_after n)))) := by
  refine nw_rd "NightwatchWallModel" "after" hf (by decide +kernel) rfl rfl hB (Nat.le_of_ble_eq_true rfl) ?_
  intro X C
  show nwV X _ _ 1 H 0 0 0 [(0, .int (nI n))] []
  refine nw_bipush C (nI 23) dX4_after_0 (by decide) 2 rfl ?_
  refine nw_iload_n C 0 dX4_after_2 rfl 3 rfl ?_
  refine nw_imulN C dX4_after_3 4 rfl ?_
  refine nw_bipush C (nI 15) dX4_after_4 (by decide) 6 rfl ?_
  refine nw_iaddN C dX4_after_6 7 rfl ?_
  refine nw_bipush C (nI 97) dX4_after_7 (by decide) 9 rfl ?_
  refine nw_iremN C (by omega) dX4_after_9 10 rfl ?_
  exact nw_iret C dX4_after_10 (Nat.le_refl _) (Nat.le_refl _) ⟨congrArg (fun z => some (Value.int (nI z))) (show ((23 * n + 15) % 97) = (sp_after n) from rfl), rfl⟩
set_option maxHeartbeats 4000000 in
theorem mX4_apart (l : Launch) (hf : l.flags = flags0) (d : nwD) (ro am : Nat → Nat) (y : Nat) (σ : spSg) (th : Int32) (a b : Nat) (H : Heap) (hB : nd_B d ≤ H.size) (hW : nwMC d ro am y σ th H) (okM : spOkM σ) (hp : a < gr_n (sg_gr σ)) (hq : b < gr_n (sg_gr σ)) : nwRd l d yX4_apart cX4_apart 3 (some .int) 1 21 [.ref y, .int (nI a), .int (nI b)] H (some (.int (nI (sp_apart (gr_w (sg_gr σ)) a b)))) := by
  refine nw_rd "NightwatchWallModel" "apart" hf (by decide +kernel) rfl rfl hB (Nat.le_of_ble_eq_true rfl) ?_
  intro X C
  obtain ⟨hmX, hmKi, hmLa, hmFo, hmGu, hmPo, hmIn, hmWi, hmWo, hmKe⟩ := id hW
  obtain ⟨okg, okl, okf, oku, okp, oki, okw, okd, okk, oka⟩ := id okM
  have hn64 : gr_n (sg_gr σ) ≤ 64 := okg.n
  have oku1 := oku.1
  have oki1 := oki.1
  have okp1 := okp.1
  have okw1 := okw.1
  have okl1 := okl.1
  have okf1 := okf.1
  have hE := C.E0
  have hgro := okg.here hp
  have hr1 := hgro.row hp
  have hc1 := hgro.col a
  have hr2 := hgro.row hq
  have hc2 := hgro.col b
  have hw38 := hgro.1
  have hd1 : sp_dist (a / (gr_w (sg_gr σ))) (b / (gr_w (sg_gr σ))) < 8 := sp_dist_lt (by omega) (by omega)
  have hd2 : sp_dist (a % (gr_w (sg_gr σ))) (b % (gr_w (sg_gr σ))) < 8 := sp_dist_lt (by omega) (by omega)
  show nwV X _ _ 3 H 0 0 0 [(0, .ref y), (1, .int (nI a)), (2, .int (nI b))] []
  refine nw_iload_n C 1 dX4_apart_0 rfl 1 rfl ?_
  refine nw_aload_n C 0 dX4_apart_1 rfl 2 rfl ?_
  refine nw_get C hmX (T := TX4) rfl in_X4 1 (by decide) q1623 (Or.inl rfl) rfl dX4_apart_2 5 rfl ?_
  refine nw_idivN C (by omega) dX4_apart_5 6 rfl ?_
  refine nw_iload_n C 2 dX4_apart_6 rfl 7 rfl ?_
  refine nw_aload_n C 0 dX4_apart_7 rfl 8 rfl ?_
  refine nw_get C hmX (T := TX4) rfl in_X4 1 (by decide) q1623 (Or.inl rfl) rfl dX4_apart_8 11 rfl ?_
  refine nw_idivN C (by omega) dX4_apart_11 12 rfl ?_
  refine nw_isub C _ dX4_apart_12 rfl 13 rfl ?_
  refine nw_mabs C (nI (sp_dist (a / (gr_w (sg_gr σ))) (b / (gr_w (sg_gr σ))))) q1756 q454 q108 q455 (nw_dist2 (by omega) (by omega)) ⟨Nat.le_of_ble_eq_true rfl, Nat.le_of_ble_eq_true rfl, Nat.le_of_ble_eq_true rfl, Nat.le_of_ble_eq_true rfl⟩ (Nat.le_of_ble_eq_true rfl) dX4_apart_13 16 rfl ?_
  refine nw_iload_n C 1 dX4_apart_16 rfl 17 rfl ?_
  refine nw_aload_n C 0 dX4_apart_17 rfl 18 rfl ?_
  refine nw_get C hmX (T := TX4) rfl in_X4 1 (by decide) q1623 (Or.inl rfl) rfl dX4_apart_18 21 rfl ?_
  refine nw_iremN C (by omega) dX4_apart_21 22 rfl ?_
  refine nw_iload_n C 2 dX4_apart_22 rfl 23 rfl ?_
  refine nw_aload_n C 0 dX4_apart_23 rfl 24 rfl ?_
  refine nw_get C hmX (T := TX4) rfl in_X4 1 (by decide) q1623 (Or.inl rfl) rfl dX4_apart_24 27 rfl ?_
  refine nw_iremN C (by omega) dX4_apart_27 28 rfl ?_
  refine nw_isub C _ dX4_apart_28 rfl 29 rfl ?_
  refine nw_mabs C (nI (sp_dist (a % (gr_w (sg_gr σ))) (b % (gr_w (sg_gr σ))))) q1756 q454 q108 q455 (nw_dist2 (by omega) (by omega)) ⟨Nat.le_of_ble_eq_true rfl, Nat.le_of_ble_eq_true rfl, Nat.le_of_ble_eq_true rfl, Nat.le_of_ble_eq_true rfl⟩ (Nat.le_of_ble_eq_true rfl) dX4_apart_29 32 rfl ?_
  refine nw_mmax C (nI (max (sp_dist (a / (gr_w (sg_gr σ))) (b / (gr_w (sg_gr σ)))) (sp_dist (a % (gr_w (sg_gr σ))) (b % (gr_w (sg_gr σ)))))) q1757 q483 q108 q484 (nw_maxN (by omega)) ⟨Nat.le_of_ble_eq_true rfl, Nat.le_of_ble_eq_true rfl, Nat.le_of_ble_eq_true rfl, Nat.le_of_ble_eq_true rfl⟩ (Nat.le_of_ble_eq_true rfl) dX4_apart_32 35 rfl ?_
  exact nw_iret C dX4_apart_35 (Nat.le_refl _) (Nat.le_refl _) ⟨congrArg (fun z => some (Value.int (nI z))) (show (max (sp_dist (a / (gr_w (sg_gr σ))) (b / (gr_w (sg_gr σ)))) (sp_dist (a % (gr_w (sg_gr σ))) (b % (gr_w (sg_gr σ))))) = (sp_apart (gr_w (sg_gr σ)) a b) from rfl), rfl⟩
set_option maxHeartbeats 4000000 in
theorem mX4_isClear (l : Launch) (hf : l.flags = flags0) (d : nwD) (ro am : Nat → Nat) (y : Nat) (σ : spSg) (th : Int32) (a b : Nat) (H : Heap) (hB : nd_B d ≤ H.size) (hW : nwMC d ro am y σ th H) (okM : spOkM σ) (hp : a < gr_n (sg_gr σ)) (hq : b < gr_n (sg_gr σ)) : nwRd l d yX4_isClear cX4_isClear 8 (some .boolean) 2 43 [.ref y, .int (nI a), .int (nI b)] H (some (.int (b2i (sp_clear (sg_gr σ) a b)))) := by
  refine nw_rd "NightwatchWallModel" "isClear" hf (by decide +kernel) rfl rfl hB (Nat.le_of_ble_eq_true rfl) ?_
  intro X C
  obtain ⟨hmX, hmKi, hmLa, hmFo, hmGu, hmPo, hmIn, hmWi, hmWo, hmKe⟩ := id hW
  obtain ⟨okg, okl, okf, oku, okp, oki, okw, okd, okk, oka⟩ := id okM
  have hn64 : gr_n (sg_gr σ) ≤ 64 := okg.n
  have oku1 := oku.1
  have oki1 := oki.1
  have okp1 := okp.1
  have okw1 := okw.1
  have okl1 := okl.1
  have okf1 := okf.1
  have hE := C.E0
  have hgro := okg.here hp
  have hr1 := hgro.row hp
  have hc1 := hgro.col a
  have hr2 := hgro.row hq
  have hc2 := hgro.col b
  have hw38 := hgro.1
  have hd1 : sp_dist (b / (gr_w (sg_gr σ))) (a / (gr_w (sg_gr σ))) < 8 := sp_dist_lt (by omega) (by omega)
  have hd2 : sp_dist (b % (gr_w (sg_gr σ))) (a % (gr_w (sg_gr σ))) < 8 := sp_dist_lt (by omega) (by omega)
  have hd3 : sp_dist (a / (gr_w (sg_gr σ))) (b / (gr_w (sg_gr σ))) < 8 := sp_dist_lt (by omega) (by omega)
  have hd4 : sp_dist (a % (gr_w (sg_gr σ))) (b % (gr_w (sg_gr σ))) < 8 := sp_dist_lt (by omega) (by omega)
  show nwV X _ _ 8 H 0 0 0 [(0, .ref y), (1, .int (nI a)), (2, .int (nI b))] []
  refine nw_iload_n C 2 dX4_isClear_0 rfl 1 rfl ?_
  refine nw_aload_n C 0 dX4_isClear_1 rfl 2 rfl ?_
  refine nw_get C hmX (T := TX4) rfl in_X4 1 (by decide) q1623 (Or.inl rfl) rfl dX4_isClear_2 5 rfl ?_
  refine nw_idivN C (by omega) dX4_isClear_5 6 rfl ?_
  refine nw_iload_n C 1 dX4_isClear_6 rfl 7 rfl ?_
  refine nw_aload_n C 0 dX4_isClear_7 rfl 8 rfl ?_
  refine nw_get C hmX (T := TX4) rfl in_X4 1 (by decide) q1623 (Or.inl rfl) rfl dX4_isClear_8 11 rfl ?_
  refine nw_idivN C (by omega) dX4_isClear_11 12 rfl ?_
  refine nw_isub C _ dX4_isClear_12 rfl 13 rfl ?_
  refine nw_istore_n C [(3, .int ((nI (b / (gr_w (sg_gr σ)))) - (nI (a / (gr_w (sg_gr σ)))))), (0, .ref y), (1, .int (nI a)), (2, .int (nI b))] dX4_isClear_13 (by decide) rfl 14 rfl ?_
  refine nw_iload_n C 3 dX4_isClear_14 rfl 15 rfl ?_
  refine nw_aload_n C 1 dX4_isClear_15 rfl 16 rfl ?_
  refine nw_get C hmX (T := TX4) rfl in_X4 1 (by decide) q1623 (Or.inl rfl) rfl dX4_isClear_16 19 rfl ?_
  refine nw_iremN C (by omega) dX4_isClear_19 20 rfl ?_
  refine nw_iload_n C 2 dX4_isClear_20 rfl 21 rfl ?_
  refine nw_aload_n C 1 dX4_isClear_21 rfl 22 rfl ?_
  refine nw_get C hmX (T := TX4) rfl in_X4 1 (by decide) q1623 (Or.inl rfl) rfl dX4_isClear_22 25 rfl ?_
  refine nw_iremN C (by omega) dX4_isClear_25 26 rfl ?_
  refine nw_isub C _ dX4_isClear_26 rfl 27 rfl ?_
  refine nw_istore C [(4, .int ((nI (b % (gr_w (sg_gr σ)))) - (nI (a % (gr_w (sg_gr σ)))))), (3, .int ((nI (b / (gr_w (sg_gr σ)))) - (nI (a / (gr_w (sg_gr σ)))))), (0, .ref y), (1, .int (nI a)), (2, .int (nI b))] dX4_isClear_27 (by decide) rfl 29 rfl ?_
  refine nw_iload_n C 1 dX4_isClear_29 rfl 30 rfl ?_
  refine nw_ifeq C 52 dX4_isClear_30 (by decide) 33 rfl (fun h2 => ?_) (fun h2 => ?_)
  · have hln : sp_line (gr_w (sg_gr σ)) a b = true := (by unfold sp_line; rw [sp_dist_comm, (nI_sub0 (by omega) (by omega)).mp h2]; simp)
    have ha7 : sp_apart (gr_w (sg_gr σ)) a b < 8 := by unfold sp_apart; omega
    refine nw_aload_n C 2 dX4_isClear_52 rfl 53 rfl ?_
    refine nw_iload_n C 3 dX4_isClear_53 rfl 54 rfl ?_
    refine nw_iload_n C 4 dX4_isClear_54 rfl 55 rfl ?_
    refine nw_callV C (mX4_apart _ C.hfl d ro am y σ th a b H hB hW okM (by omega) (by omega)) kX4_apart q1752 (hmX.is C (ci := 9) rfl) (As := [.int (nI a), .int (nI b)]) (rest := []) rfl rfl ⟨⟨Nat.le_of_ble_eq_true rfl, Nat.le_of_ble_eq_true rfl⟩, Nat.le_of_ble_eq_true rfl, Nat.le_of_ble_eq_true rfl⟩ (Nat.le_of_ble_eq_true rfl) (fun _ h8 h9 => absurd h9 (Nat.not_le.mpr h8)) dX4_isClear_55 58 rfl (nw_rdK ?_) nw_noX
    refine nw_istore C [(5, .int (nI (sp_apart (gr_w (sg_gr σ)) a b))), (4, .int ((nI (b % (gr_w (sg_gr σ)))) - (nI (a % (gr_w (sg_gr σ)))))), (3, .int ((nI (b / (gr_w (sg_gr σ)))) - (nI (a / (gr_w (sg_gr σ)))))), (0, .ref y), (1, .int (nI a)), (2, .int (nI b))] dX4_isClear_58 (by decide) rfl 60 rfl ?_
    refine nw_iload_n C 2 dX4_isClear_60 rfl 61 rfl ?_
    refine nw_callS C (mJ19_signum _ C.hfl d ((nI (b / (gr_w (sg_gr σ)))) - (nI (a / (gr_w (sg_gr σ))))) H hB) kJ19_signum q1762 (As := [.int ((nI (b / (gr_w (sg_gr σ)))) - (nI (a / (gr_w (sg_gr σ)))))]) (rest := []) rfl rfl ⟨⟨Nat.le_of_ble_eq_true rfl, Nat.le_of_ble_eq_true rfl⟩, Nat.le_of_ble_eq_true rfl, Nat.le_of_ble_eq_true rfl⟩ (Nat.le_of_ble_eq_true rfl) (fun _ h8 h9 => absurd h9 (Nat.not_le.mpr h8)) dX4_isClear_61 64 rfl (nw_rdK ?_) nw_noX
    refine nw_aload_n C 3 dX4_isClear_64 rfl 65 rfl ?_
    refine nw_get C hmX (T := TX4) rfl in_X4 1 (by decide) q1623 (Or.inl rfl) rfl dX4_isClear_65 68 rfl ?_
    refine nw_imul C (nw_sig (nI (b / (gr_w (sg_gr σ))) - nI (a / (gr_w (sg_gr σ)))) * nI (gr_w (sg_gr σ))) dX4_isClear_68 rfl 69 rfl ?_
    refine nw_iload C 1 dX4_isClear_69 rfl 71 rfl ?_
    refine nw_callS C (mJ19_signum _ C.hfl d ((nI (b % (gr_w (sg_gr σ)))) - (nI (a % (gr_w (sg_gr σ))))) H hB) kJ19_signum q1762 (As := [.int ((nI (b % (gr_w (sg_gr σ)))) - (nI (a % (gr_w (sg_gr σ)))))]) (rest := [.int (nw_sig (nI (b / (gr_w (sg_gr σ))) - nI (a / (gr_w (sg_gr σ)))) * nI (gr_w (sg_gr σ)))]) rfl rfl ⟨⟨Nat.le_of_ble_eq_true rfl, Nat.le_of_ble_eq_true rfl⟩, Nat.le_of_ble_eq_true rfl, Nat.le_of_ble_eq_true rfl⟩ (Nat.le_of_ble_eq_true rfl) (fun _ h8 h9 => absurd h9 (Nat.not_le.mpr h8)) dX4_isClear_71 74 rfl (nw_rdK ?_) nw_noX
    refine nw_iadd C (nw_sig (nI (b / (gr_w (sg_gr σ))) - nI (a / (gr_w (sg_gr σ)))) * nI (gr_w (sg_gr σ)) + nw_sig (nI (b % (gr_w (sg_gr σ))) - nI (a % (gr_w (sg_gr σ))))) dX4_isClear_74 rfl 75 rfl ?_
    refine nw_istore C [(6, .int (nw_sig (nI (b / (gr_w (sg_gr σ))) - nI (a / (gr_w (sg_gr σ)))) * nI (gr_w (sg_gr σ)) + nw_sig (nI (b % (gr_w (sg_gr σ))) - nI (a % (gr_w (sg_gr σ)))))), (5, .int (nI (sp_apart (gr_w (sg_gr σ)) a b))), (4, .int ((nI (b % (gr_w (sg_gr σ)))) - (nI (a % (gr_w (sg_gr σ)))))), (3, .int ((nI (b / (gr_w (sg_gr σ)))) - (nI (a / (gr_w (sg_gr σ)))))), (0, .ref y), (1, .int (nI a)), (2, .int (nI b))] dX4_isClear_75 (by decide) rfl 77 rfl ?_
    refine nw_iconst C (nI 1) dX4_isClear_77 (by decide) 78 rfl ?_
    refine nw_istore C [(7, .int (nI 1)), (6, .int (nw_sig (nI (b / (gr_w (sg_gr σ))) - nI (a / (gr_w (sg_gr σ)))) * nI (gr_w (sg_gr σ)) + nw_sig (nI (b % (gr_w (sg_gr σ))) - nI (a % (gr_w (sg_gr σ)))))), (5, .int (nI (sp_apart (gr_w (sg_gr σ)) a b))), (4, .int ((nI (b % (gr_w (sg_gr σ)))) - (nI (a % (gr_w (sg_gr σ)))))), (3, .int ((nI (b / (gr_w (sg_gr σ)))) - (nI (a / (gr_w (sg_gr σ)))))), (0, .ref y), (1, .int (nI a)), (2, .int (nI b))] dX4_isClear_78 (by decide) rfl 80 rfl ?_
    have lp1 : ∀ (fu : Nat) (j : Nat), (1 ≤ j) → (j ≤ 8) → (∀ i, 0 < i → i < j → sp_opq (gr_k (sg_gr σ) (sp_onway (gr_w (sg_gr σ)) a b i)) = false) → 9 - j < fu → nwV X (nwNew H) (nwQE X (fun v H1 => v = some (.int (b2i (sp_clear (sg_gr σ) a b))) ∧ H1 = H) nwNo (nwNew H) 0 0) 8 H 0 0 80 [(0, .ref y), (1, .int (nI a)), (2, .int (nI b)), (5, .int (nI (sp_apart (gr_w (sg_gr σ)) a b))), (6, .int (nw_sig (nI (b / (gr_w (sg_gr σ))) - nI (a / (gr_w (sg_gr σ)))) * nI (gr_w (sg_gr σ)) + nw_sig (nI (b % (gr_w (sg_gr σ))) - nI (a % (gr_w (sg_gr σ)))))), (7, .int (nI j))] [] := by
      intro fu
      induction fu with
      | zero => intro j _ _ _ hm; exact absurd hm (Nat.not_lt_zero _)
      | succ fu ih_lp1 =>
        intro j hj1 hj8 hop hm
        refine nw_iload C 5 dX4_isClear_80 rfl 82 rfl ?_
        refine nw_iload C 3 dX4_isClear_82 rfl 84 rfl ?_
        refine nw_icmpgeN C (by omega) 127 dX4_isClear_84 (by decide) 87 rfl (fun h3 => ?_) (fun h3 => ?_)
        · refine nw_iconst C (nI 1) dX4_isClear_127 (by decide) 128 rfl ?_
          exact nw_nret C dX4_isClear_128 (b2i_narrow true) (Nat.le_refl _) (Nat.le_refl _) ⟨congrArg (fun z => some (Value.int (b2i z))) (show (true) = (sp_clear (sg_gr σ) a b) from cl_true hln (fun i h1 h2 => hop i h1 (by omega))), rfl⟩
        · have hol := on_lt hgro hp hq hln (show j ≤ _ by omega)
          have hk4 := hgro.2 _ hol
          refine nw_aload_n C 0 dX4_isClear_87 rfl 88 rfl ?_
          refine nw_get C hmX (T := TX4) rfl in_X4 3 (by decide) q1625 (Or.inl rfl) rfl dX4_isClear_88 91 rfl ?_
          refine nw_iload_n C 1 dX4_isClear_91 rfl 92 rfl ?_
          refine nw_iload C 5 dX4_isClear_92 rfl 94 rfl ?_
          refine nw_iload C 4 dX4_isClear_94 rfl 96 rfl ?_
          refine nw_imul C (nI j * (nw_sig (nI (b / (gr_w (sg_gr σ))) - nI (a / (gr_w (sg_gr σ)))) * nI (gr_w (sg_gr σ)) + nw_sig (nI (b % (gr_w (sg_gr σ))) - nI (a % (gr_w (sg_gr σ)))))) dX4_isClear_96 rfl 97 rfl ?_
          refine nw_iadd C (nI (sp_onway (gr_w (sg_gr σ)) a b j)) dX4_isClear_97 (on_mul hgro hp hq hln j (by omega)) 98 rfl ?_
          refine nw_ialdN C (nI (gr_k (sg_gr σ) (sp_onway (gr_w (sg_gr σ)) a b j))) hmKi (by omega) rfl dX4_isClear_98 99 rfl ?_
          refine nw_iconst C (nI 1) dX4_isClear_99 (by decide) 100 rfl ?_
          refine nw_icmpeqN C (by omega) 119 dX4_isClear_100 (by decide) 103 rfl (fun h4 => ?_) (fun h4 => ?_)
          · refine nw_iconst C (nI 0) dX4_isClear_119 (by decide) 120 rfl ?_
            exact nw_nret C dX4_isClear_120 (b2i_narrow false) (Nat.le_refl _) (Nat.le_refl _) ⟨congrArg (fun z => some (Value.int (b2i z))) (show (false) = (sp_clear (sg_gr σ) a b) from cl_false (by omega) (by omega) (show sp_opq (gr_k (sg_gr σ) (sp_onway (gr_w (sg_gr σ)) a b j)) = true by unfold sp_opq; simp [h4])), rfl⟩
          · refine nw_aload_n C 0 dX4_isClear_103 rfl 104 rfl ?_
            refine nw_get C hmX (T := TX4) rfl in_X4 3 (by decide) q1625 (Or.inl rfl) rfl dX4_isClear_104 107 rfl ?_
            refine nw_iload_n C 1 dX4_isClear_107 rfl 108 rfl ?_
            refine nw_iload C 5 dX4_isClear_108 rfl 110 rfl ?_
            refine nw_iload C 4 dX4_isClear_110 rfl 112 rfl ?_
            refine nw_imul C (nI j * (nw_sig (nI (b / (gr_w (sg_gr σ))) - nI (a / (gr_w (sg_gr σ)))) * nI (gr_w (sg_gr σ)) + nw_sig (nI (b % (gr_w (sg_gr σ))) - nI (a % (gr_w (sg_gr σ)))))) dX4_isClear_112 rfl 113 rfl ?_
            refine nw_iadd C (nI (sp_onway (gr_w (sg_gr σ)) a b j)) dX4_isClear_113 (on_mul hgro hp hq hln j (by omega)) 114 rfl ?_
            refine nw_ialdN C (nI (gr_k (sg_gr σ) (sp_onway (gr_w (sg_gr σ)) a b j))) hmKi (by omega) rfl dX4_isClear_114 115 rfl ?_
            refine nw_iconst C (nI 2) dX4_isClear_115 (by decide) 116 rfl ?_
            refine nw_icmpneN C (by omega) 121 dX4_isClear_116 (by decide) 119 rfl (fun h5 => ?_) (fun h5 => ?_)
            · refine nw_iincN C 5 (c0 := 1) [(7, .int (nI (j + 1))), (0, .ref y), (1, .int (nI a)), (2, .int (nI b)), (5, .int (nI (sp_apart (gr_w (sg_gr σ)) a b))), (6, .int (nw_sig (nI (b / (gr_w (sg_gr σ))) - nI (a / (gr_w (sg_gr σ)))) * nI (gr_w (sg_gr σ)) + nw_sig (nI (b % (gr_w (sg_gr σ))) - nI (a % (gr_w (sg_gr σ))))))] dX4_isClear_121 rfl (by decide) rfl 124 rfl ?_
              refine nw_goto C 80 dX4_isClear_124 (by decide) ?_
              exact (nw_sub [1, 2, 3, 4, 5, 0] rfl (ih_lp1 (j + 1) (by omega) (by omega) (fun i h1 h2 => (Nat.lt_or_ge i j).elim (fun g5 => hop i h1 g5) (fun g5 => by rw [show i = j by omega]; unfold sp_opq; simp [h4, h5])) (by omega)))
            · refine nw_iconst C (nI 0) dX4_isClear_119 (by decide) 120 rfl ?_
              exact nw_nret C dX4_isClear_120 (b2i_narrow false) (Nat.le_refl _) (Nat.le_refl _) ⟨congrArg (fun z => some (Value.int (b2i z))) (show (false) = (sp_clear (sg_gr σ) a b) from cl_false (by omega) (by omega) (show sp_opq (gr_k (sg_gr σ) (sp_onway (gr_w (sg_gr σ)) a b j)) = true by unfold sp_opq; simp [h5])), rfl⟩
    exact (nw_sub [5, 6, 7, 2, 1, 0] rfl (lp1 _ 1 (Nat.le_refl _) (by decide) (fun i h1 h2 => by omega) (Nat.lt_succ_self _)))
  · refine nw_iload C 0 dX4_isClear_33 rfl 35 rfl ?_
    refine nw_ifeq C 52 dX4_isClear_35 (by decide) 38 rfl (fun h6 => ?_) (fun h6 => ?_)
    · have hln : sp_line (gr_w (sg_gr σ)) a b = true := (by unfold sp_line; rw [sp_dist_comm (a % (gr_w (sg_gr σ))), (nI_sub0 (by omega) (by omega)).mp h6]; simp)
      have ha7 : sp_apart (gr_w (sg_gr σ)) a b < 8 := by unfold sp_apart; omega
      refine nw_aload_n C 2 dX4_isClear_52 rfl 53 rfl ?_
      refine nw_iload_n C 3 dX4_isClear_53 rfl 54 rfl ?_
      refine nw_iload_n C 4 dX4_isClear_54 rfl 55 rfl ?_
      refine nw_callV C (mX4_apart _ C.hfl d ro am y σ th a b H hB hW okM (by omega) (by omega)) kX4_apart q1752 (hmX.is C (ci := 9) rfl) (As := [.int (nI a), .int (nI b)]) (rest := []) rfl rfl ⟨⟨Nat.le_of_ble_eq_true rfl, Nat.le_of_ble_eq_true rfl⟩, Nat.le_of_ble_eq_true rfl, Nat.le_of_ble_eq_true rfl⟩ (Nat.le_of_ble_eq_true rfl) (fun _ h8 h9 => absurd h9 (Nat.not_le.mpr h8)) dX4_isClear_55 58 rfl (nw_rdK ?_) nw_noX
      refine nw_istore C [(5, .int (nI (sp_apart (gr_w (sg_gr σ)) a b))), (4, .int ((nI (b % (gr_w (sg_gr σ)))) - (nI (a % (gr_w (sg_gr σ)))))), (3, .int ((nI (b / (gr_w (sg_gr σ)))) - (nI (a / (gr_w (sg_gr σ)))))), (0, .ref y), (1, .int (nI a)), (2, .int (nI b))] dX4_isClear_58 (by decide) rfl 60 rfl ?_
      refine nw_iload_n C 2 dX4_isClear_60 rfl 61 rfl ?_
      refine nw_callS C (mJ19_signum _ C.hfl d ((nI (b / (gr_w (sg_gr σ)))) - (nI (a / (gr_w (sg_gr σ))))) H hB) kJ19_signum q1762 (As := [.int ((nI (b / (gr_w (sg_gr σ)))) - (nI (a / (gr_w (sg_gr σ)))))]) (rest := []) rfl rfl ⟨⟨Nat.le_of_ble_eq_true rfl, Nat.le_of_ble_eq_true rfl⟩, Nat.le_of_ble_eq_true rfl, Nat.le_of_ble_eq_true rfl⟩ (Nat.le_of_ble_eq_true rfl) (fun _ h8 h9 => absurd h9 (Nat.not_le.mpr h8)) dX4_isClear_61 64 rfl (nw_rdK ?_) nw_noX
      refine nw_aload_n C 3 dX4_isClear_64 rfl 65 rfl ?_
      refine nw_get C hmX (T := TX4) rfl in_X4 1 (by decide) q1623 (Or.inl rfl) rfl dX4_isClear_65 68 rfl ?_
      refine nw_imul C (nw_sig (nI (b / (gr_w (sg_gr σ))) - nI (a / (gr_w (sg_gr σ)))) * nI (gr_w (sg_gr σ))) dX4_isClear_68 rfl 69 rfl ?_
      refine nw_iload C 1 dX4_isClear_69 rfl 71 rfl ?_
      refine nw_callS C (mJ19_signum _ C.hfl d ((nI (b % (gr_w (sg_gr σ)))) - (nI (a % (gr_w (sg_gr σ))))) H hB) kJ19_signum q1762 (As := [.int ((nI (b % (gr_w (sg_gr σ)))) - (nI (a % (gr_w (sg_gr σ)))))]) (rest := [.int (nw_sig (nI (b / (gr_w (sg_gr σ))) - nI (a / (gr_w (sg_gr σ)))) * nI (gr_w (sg_gr σ)))]) rfl rfl ⟨⟨Nat.le_of_ble_eq_true rfl, Nat.le_of_ble_eq_true rfl⟩, Nat.le_of_ble_eq_true rfl, Nat.le_of_ble_eq_true rfl⟩ (Nat.le_of_ble_eq_true rfl) (fun _ h8 h9 => absurd h9 (Nat.not_le.mpr h8)) dX4_isClear_71 74 rfl (nw_rdK ?_) nw_noX
      refine nw_iadd C (nw_sig (nI (b / (gr_w (sg_gr σ))) - nI (a / (gr_w (sg_gr σ)))) * nI (gr_w (sg_gr σ)) + nw_sig (nI (b % (gr_w (sg_gr σ))) - nI (a % (gr_w (sg_gr σ))))) dX4_isClear_74 rfl 75 rfl ?_
      refine nw_istore C [(6, .int (nw_sig (nI (b / (gr_w (sg_gr σ))) - nI (a / (gr_w (sg_gr σ)))) * nI (gr_w (sg_gr σ)) + nw_sig (nI (b % (gr_w (sg_gr σ))) - nI (a % (gr_w (sg_gr σ)))))), (5, .int (nI (sp_apart (gr_w (sg_gr σ)) a b))), (4, .int ((nI (b % (gr_w (sg_gr σ)))) - (nI (a % (gr_w (sg_gr σ)))))), (3, .int ((nI (b / (gr_w (sg_gr σ)))) - (nI (a / (gr_w (sg_gr σ)))))), (0, .ref y), (1, .int (nI a)), (2, .int (nI b))] dX4_isClear_75 (by decide) rfl 77 rfl ?_
      refine nw_iconst C (nI 1) dX4_isClear_77 (by decide) 78 rfl ?_
      refine nw_istore C [(7, .int (nI 1)), (6, .int (nw_sig (nI (b / (gr_w (sg_gr σ))) - nI (a / (gr_w (sg_gr σ)))) * nI (gr_w (sg_gr σ)) + nw_sig (nI (b % (gr_w (sg_gr σ))) - nI (a % (gr_w (sg_gr σ)))))), (5, .int (nI (sp_apart (gr_w (sg_gr σ)) a b))), (4, .int ((nI (b % (gr_w (sg_gr σ)))) - (nI (a % (gr_w (sg_gr σ)))))), (3, .int ((nI (b / (gr_w (sg_gr σ)))) - (nI (a / (gr_w (sg_gr σ)))))), (0, .ref y), (1, .int (nI a)), (2, .int (nI b))] dX4_isClear_78 (by decide) rfl 80 rfl ?_
      have lp1 : ∀ (fu : Nat) (j : Nat), (1 ≤ j) → (j ≤ 8) → (∀ i, 0 < i → i < j → sp_opq (gr_k (sg_gr σ) (sp_onway (gr_w (sg_gr σ)) a b i)) = false) → 9 - j < fu → nwV X (nwNew H) (nwQE X (fun v H1 => v = some (.int (b2i (sp_clear (sg_gr σ) a b))) ∧ H1 = H) nwNo (nwNew H) 0 0) 8 H 0 0 80 [(0, .ref y), (1, .int (nI a)), (2, .int (nI b)), (5, .int (nI (sp_apart (gr_w (sg_gr σ)) a b))), (6, .int (nw_sig (nI (b / (gr_w (sg_gr σ))) - nI (a / (gr_w (sg_gr σ)))) * nI (gr_w (sg_gr σ)) + nw_sig (nI (b % (gr_w (sg_gr σ))) - nI (a % (gr_w (sg_gr σ)))))), (7, .int (nI j))] [] := by
        intro fu
        induction fu with
        | zero => intro j _ _ _ hm; exact absurd hm (Nat.not_lt_zero _)
        | succ fu ih_lp1 =>
          intro j hj1 hj8 hop hm
          refine nw_iload C 5 dX4_isClear_80 rfl 82 rfl ?_
          refine nw_iload C 3 dX4_isClear_82 rfl 84 rfl ?_
          refine nw_icmpgeN C (by omega) 127 dX4_isClear_84 (by decide) 87 rfl (fun h7 => ?_) (fun h7 => ?_)
          · refine nw_iconst C (nI 1) dX4_isClear_127 (by decide) 128 rfl ?_
            exact nw_nret C dX4_isClear_128 (b2i_narrow true) (Nat.le_refl _) (Nat.le_refl _) ⟨congrArg (fun z => some (Value.int (b2i z))) (show (true) = (sp_clear (sg_gr σ) a b) from cl_true hln (fun i h1 h2 => hop i h1 (by omega))), rfl⟩
          · have hol := on_lt hgro hp hq hln (show j ≤ _ by omega)
            have hk4 := hgro.2 _ hol
            refine nw_aload_n C 0 dX4_isClear_87 rfl 88 rfl ?_
            refine nw_get C hmX (T := TX4) rfl in_X4 3 (by decide) q1625 (Or.inl rfl) rfl dX4_isClear_88 91 rfl ?_
            refine nw_iload_n C 1 dX4_isClear_91 rfl 92 rfl ?_
            refine nw_iload C 5 dX4_isClear_92 rfl 94 rfl ?_
            refine nw_iload C 4 dX4_isClear_94 rfl 96 rfl ?_
            refine nw_imul C (nI j * (nw_sig (nI (b / (gr_w (sg_gr σ))) - nI (a / (gr_w (sg_gr σ)))) * nI (gr_w (sg_gr σ)) + nw_sig (nI (b % (gr_w (sg_gr σ))) - nI (a % (gr_w (sg_gr σ)))))) dX4_isClear_96 rfl 97 rfl ?_
            refine nw_iadd C (nI (sp_onway (gr_w (sg_gr σ)) a b j)) dX4_isClear_97 (on_mul hgro hp hq hln j (by omega)) 98 rfl ?_
            refine nw_ialdN C (nI (gr_k (sg_gr σ) (sp_onway (gr_w (sg_gr σ)) a b j))) hmKi (by omega) rfl dX4_isClear_98 99 rfl ?_
            refine nw_iconst C (nI 1) dX4_isClear_99 (by decide) 100 rfl ?_
            refine nw_icmpeqN C (by omega) 119 dX4_isClear_100 (by decide) 103 rfl (fun h8 => ?_) (fun h8 => ?_)
            · refine nw_iconst C (nI 0) dX4_isClear_119 (by decide) 120 rfl ?_
              exact nw_nret C dX4_isClear_120 (b2i_narrow false) (Nat.le_refl _) (Nat.le_refl _) ⟨congrArg (fun z => some (Value.int (b2i z))) (show (false) = (sp_clear (sg_gr σ) a b) from cl_false (by omega) (by omega) (show sp_opq (gr_k (sg_gr σ) (sp_onway (gr_w (sg_gr σ)) a b j)) = true by unfold sp_opq; simp [h8])), rfl⟩
            · refine nw_aload_n C 0 dX4_isClear_103 rfl 104 rfl ?_
              refine nw_get C hmX (T := TX4) rfl in_X4 3 (by decide) q1625 (Or.inl rfl) rfl dX4_isClear_104 107 rfl ?_
              refine nw_iload_n C 1 dX4_isClear_107 rfl 108 rfl ?_
              refine nw_iload C 5 dX4_isClear_108 rfl 110 rfl ?_
              refine nw_iload C 4 dX4_isClear_110 rfl 112 rfl ?_
              refine nw_imul C (nI j * (nw_sig (nI (b / (gr_w (sg_gr σ))) - nI (a / (gr_w (sg_gr σ)))) * nI (gr_w (sg_gr σ)) + nw_sig (nI (b % (gr_w (sg_gr σ))) - nI (a % (gr_w (sg_gr σ)))))) dX4_isClear_112 rfl 113 rfl ?_
              refine nw_iadd C (nI (sp_onway (gr_w (sg_gr σ)) a b j)) dX4_isClear_113 (on_mul hgro hp hq hln j (by omega)) 114 rfl ?_
              refine nw_ialdN C (nI (gr_k (sg_gr σ) (sp_onway (gr_w (sg_gr σ)) a b j))) hmKi (by omega) rfl dX4_isClear_114 115 rfl ?_
              refine nw_iconst C (nI 2) dX4_isClear_115 (by decide) 116 rfl ?_
              refine nw_icmpneN C (by omega) 121 dX4_isClear_116 (by decide) 119 rfl (fun h9 => ?_) (fun h9 => ?_)
              · refine nw_iincN C 5 (c0 := 1) [(7, .int (nI (j + 1))), (0, .ref y), (1, .int (nI a)), (2, .int (nI b)), (5, .int (nI (sp_apart (gr_w (sg_gr σ)) a b))), (6, .int (nw_sig (nI (b / (gr_w (sg_gr σ))) - nI (a / (gr_w (sg_gr σ)))) * nI (gr_w (sg_gr σ)) + nw_sig (nI (b % (gr_w (sg_gr σ))) - nI (a % (gr_w (sg_gr σ))))))] dX4_isClear_121 rfl (by decide) rfl 124 rfl ?_
                refine nw_goto C 80 dX4_isClear_124 (by decide) ?_
                exact (nw_sub [1, 2, 3, 4, 5, 0] rfl (ih_lp1 (j + 1) (by omega) (by omega) (fun i h1 h2 => (Nat.lt_or_ge i j).elim (fun g5 => hop i h1 g5) (fun g5 => by rw [show i = j by omega]; unfold sp_opq; simp [h8, h9])) (by omega)))
              · refine nw_iconst C (nI 0) dX4_isClear_119 (by decide) 120 rfl ?_
                exact nw_nret C dX4_isClear_120 (b2i_narrow false) (Nat.le_refl _) (Nat.le_refl _) ⟨congrArg (fun z => some (Value.int (b2i z))) (show (false) = (sp_clear (sg_gr σ) a b) from cl_false (by omega) (by omega) (show sp_opq (gr_k (sg_gr σ) (sp_onway (gr_w (sg_gr σ)) a b j)) = true by unfold sp_opq; simp [h9])), rfl⟩
      exact (nw_sub [5, 6, 7, 2, 1, 0] rfl (lp1 _ 1 (Nat.le_refl _) (by decide) (fun i h1 h2 => by omega) (Nat.lt_succ_self _)))
    · refine nw_iload_n C 1 dX4_isClear_38 rfl 39 rfl ?_
      refine nw_mabs C (nI (sp_dist (b / (gr_w (sg_gr σ))) (a / (gr_w (sg_gr σ))))) q1756 q454 q108 q455 (nw_dist2 (by omega) (by omega)) ⟨Nat.le_of_ble_eq_true rfl, Nat.le_of_ble_eq_true rfl, Nat.le_of_ble_eq_true rfl, Nat.le_of_ble_eq_true rfl⟩ (Nat.le_of_ble_eq_true rfl) dX4_isClear_39 42 rfl ?_
      refine nw_iload C 0 dX4_isClear_42 rfl 44 rfl ?_
      refine nw_mabs C (nI (sp_dist (b % (gr_w (sg_gr σ))) (a % (gr_w (sg_gr σ))))) q1756 q454 q108 q455 (nw_dist2 (by omega) (by omega)) ⟨Nat.le_of_ble_eq_true rfl, Nat.le_of_ble_eq_true rfl, Nat.le_of_ble_eq_true rfl, Nat.le_of_ble_eq_true rfl⟩ (Nat.le_of_ble_eq_true rfl) dX4_isClear_44 47 rfl ?_
      refine nw_icmpeqN C (by omega) 52 dX4_isClear_47 (by decide) 50 rfl (fun h10 => ?_) (fun h10 => ?_)
      · have hln : sp_line (gr_w (sg_gr σ)) a b = true := (by unfold sp_line; rw [sp_dist_comm (a / (gr_w (sg_gr σ))), sp_dist_comm (a % (gr_w (sg_gr σ)))]; simp [h10])
        have ha7 : sp_apart (gr_w (sg_gr σ)) a b < 8 := by unfold sp_apart; omega
        refine nw_aload_n C 2 dX4_isClear_52 rfl 53 rfl ?_
        refine nw_iload_n C 3 dX4_isClear_53 rfl 54 rfl ?_
        refine nw_iload_n C 4 dX4_isClear_54 rfl 55 rfl ?_
        refine nw_callV C (mX4_apart _ C.hfl d ro am y σ th a b H hB hW okM (by omega) (by omega)) kX4_apart q1752 (hmX.is C (ci := 9) rfl) (As := [.int (nI a), .int (nI b)]) (rest := []) rfl rfl ⟨⟨Nat.le_of_ble_eq_true rfl, Nat.le_of_ble_eq_true rfl⟩, Nat.le_of_ble_eq_true rfl, Nat.le_of_ble_eq_true rfl⟩ (Nat.le_of_ble_eq_true rfl) (fun _ h8 h9 => absurd h9 (Nat.not_le.mpr h8)) dX4_isClear_55 58 rfl (nw_rdK ?_) nw_noX
        refine nw_istore C [(5, .int (nI (sp_apart (gr_w (sg_gr σ)) a b))), (4, .int ((nI (b % (gr_w (sg_gr σ)))) - (nI (a % (gr_w (sg_gr σ)))))), (3, .int ((nI (b / (gr_w (sg_gr σ)))) - (nI (a / (gr_w (sg_gr σ)))))), (0, .ref y), (1, .int (nI a)), (2, .int (nI b))] dX4_isClear_58 (by decide) rfl 60 rfl ?_
        refine nw_iload_n C 2 dX4_isClear_60 rfl 61 rfl ?_
        refine nw_callS C (mJ19_signum _ C.hfl d ((nI (b / (gr_w (sg_gr σ)))) - (nI (a / (gr_w (sg_gr σ))))) H hB) kJ19_signum q1762 (As := [.int ((nI (b / (gr_w (sg_gr σ)))) - (nI (a / (gr_w (sg_gr σ)))))]) (rest := []) rfl rfl ⟨⟨Nat.le_of_ble_eq_true rfl, Nat.le_of_ble_eq_true rfl⟩, Nat.le_of_ble_eq_true rfl, Nat.le_of_ble_eq_true rfl⟩ (Nat.le_of_ble_eq_true rfl) (fun _ h8 h9 => absurd h9 (Nat.not_le.mpr h8)) dX4_isClear_61 64 rfl (nw_rdK ?_) nw_noX
        refine nw_aload_n C 3 dX4_isClear_64 rfl 65 rfl ?_
        refine nw_get C hmX (T := TX4) rfl in_X4 1 (by decide) q1623 (Or.inl rfl) rfl dX4_isClear_65 68 rfl ?_
        refine nw_imul C (nw_sig (nI (b / (gr_w (sg_gr σ))) - nI (a / (gr_w (sg_gr σ)))) * nI (gr_w (sg_gr σ))) dX4_isClear_68 rfl 69 rfl ?_
        refine nw_iload C 1 dX4_isClear_69 rfl 71 rfl ?_
        refine nw_callS C (mJ19_signum _ C.hfl d ((nI (b % (gr_w (sg_gr σ)))) - (nI (a % (gr_w (sg_gr σ))))) H hB) kJ19_signum q1762 (As := [.int ((nI (b % (gr_w (sg_gr σ)))) - (nI (a % (gr_w (sg_gr σ)))))]) (rest := [.int (nw_sig (nI (b / (gr_w (sg_gr σ))) - nI (a / (gr_w (sg_gr σ)))) * nI (gr_w (sg_gr σ)))]) rfl rfl ⟨⟨Nat.le_of_ble_eq_true rfl, Nat.le_of_ble_eq_true rfl⟩, Nat.le_of_ble_eq_true rfl, Nat.le_of_ble_eq_true rfl⟩ (Nat.le_of_ble_eq_true rfl) (fun _ h8 h9 => absurd h9 (Nat.not_le.mpr h8)) dX4_isClear_71 74 rfl (nw_rdK ?_) nw_noX
        refine nw_iadd C (nw_sig (nI (b / (gr_w (sg_gr σ))) - nI (a / (gr_w (sg_gr σ)))) * nI (gr_w (sg_gr σ)) + nw_sig (nI (b % (gr_w (sg_gr σ))) - nI (a % (gr_w (sg_gr σ))))) dX4_isClear_74 rfl 75 rfl ?_
        refine nw_istore C [(6, .int (nw_sig (nI (b / (gr_w (sg_gr σ))) - nI (a / (gr_w (sg_gr σ)))) * nI (gr_w (sg_gr σ)) + nw_sig (nI (b % (gr_w (sg_gr σ))) - nI (a % (gr_w (sg_gr σ)))))), (5, .int (nI (sp_apart (gr_w (sg_gr σ)) a b))), (4, .int ((nI (b % (gr_w (sg_gr σ)))) - (nI (a % (gr_w (sg_gr σ)))))), (3, .int ((nI (b / (gr_w (sg_gr σ)))) - (nI (a / (gr_w (sg_gr σ)))))), (0, .ref y), (1, .int (nI a)), (2, .int (nI b))] dX4_isClear_75 (by decide) rfl 77 rfl ?_
        refine nw_iconst C (nI 1) dX4_isClear_77 (by decide) 78 rfl ?_
        refine nw_istore C [(7, .int (nI 1)), (6, .int (nw_sig (nI (b / (gr_w (sg_gr σ))) - nI (a / (gr_w (sg_gr σ)))) * nI (gr_w (sg_gr σ)) + nw_sig (nI (b % (gr_w (sg_gr σ))) - nI (a % (gr_w (sg_gr σ)))))), (5, .int (nI (sp_apart (gr_w (sg_gr σ)) a b))), (4, .int ((nI (b % (gr_w (sg_gr σ)))) - (nI (a % (gr_w (sg_gr σ)))))), (3, .int ((nI (b / (gr_w (sg_gr σ)))) - (nI (a / (gr_w (sg_gr σ)))))), (0, .ref y), (1, .int (nI a)), (2, .int (nI b))] dX4_isClear_78 (by decide) rfl 80 rfl ?_
        have lp1 : ∀ (fu : Nat) (j : Nat), (1 ≤ j) → (j ≤ 8) → (∀ i, 0 < i → i < j → sp_opq (gr_k (sg_gr σ) (sp_onway (gr_w (sg_gr σ)) a b i)) = false) → 9 - j < fu → nwV X (nwNew H) (nwQE X (fun v H1 => v = some (.int (b2i (sp_clear (sg_gr σ) a b))) ∧ H1 = H) nwNo (nwNew H) 0 0) 8 H 0 0 80 [(0, .ref y), (1, .int (nI a)), (2, .int (nI b)), (5, .int (nI (sp_apart (gr_w (sg_gr σ)) a b))), (6, .int (nw_sig (nI (b / (gr_w (sg_gr σ))) - nI (a / (gr_w (sg_gr σ)))) * nI (gr_w (sg_gr σ)) + nw_sig (nI (b % (gr_w (sg_gr σ))) - nI (a % (gr_w (sg_gr σ)))))), (7, .int (nI j))] [] := by
          intro fu
          induction fu with
          | zero => intro j _ _ _ hm; exact absurd hm (Nat.not_lt_zero _)
          | succ fu ih_lp1 =>
            intro j hj1 hj8 hop hm
            refine nw_iload C 5 dX4_isClear_80 rfl 82 rfl ?_
            refine nw_iload C 3 dX4_isClear_82 rfl 84 rfl ?_
            refine nw_icmpgeN C (by omega) 127 dX4_isClear_84 (by decide) 87 rfl (fun h11 => ?_) (fun h11 => ?_)
            · refine nw_iconst C (nI 1) dX4_isClear_127 (by decide) 128 rfl ?_
              exact nw_nret C dX4_isClear_128 (b2i_narrow true) (Nat.le_refl _) (Nat.le_refl _) ⟨congrArg (fun z => some (Value.int (b2i z))) (show (true) = (sp_clear (sg_gr σ) a b) from cl_true hln (fun i h1 h2 => hop i h1 (by omega))), rfl⟩
            · have hol := on_lt hgro hp hq hln (show j ≤ _ by omega)
              have hk4 := hgro.2 _ hol
              refine nw_aload_n C 0 dX4_isClear_87 rfl 88 rfl ?_
              refine nw_get C hmX (T := TX4) rfl in_X4 3 (by decide) q1625 (Or.inl rfl) rfl dX4_isClear_88 91 rfl ?_
              refine nw_iload_n C 1 dX4_isClear_91 rfl 92 rfl ?_
              refine nw_iload C 5 dX4_isClear_92 rfl 94 rfl ?_
              refine nw_iload C 4 dX4_isClear_94 rfl 96 rfl ?_
              refine nw_imul C (nI j * (nw_sig (nI (b / (gr_w (sg_gr σ))) - nI (a / (gr_w (sg_gr σ)))) * nI (gr_w (sg_gr σ)) + nw_sig (nI (b % (gr_w (sg_gr σ))) - nI (a % (gr_w (sg_gr σ)))))) dX4_isClear_96 rfl 97 rfl ?_
              refine nw_iadd C (nI (sp_onway (gr_w (sg_gr σ)) a b j)) dX4_isClear_97 (on_mul hgro hp hq hln j (by omega)) 98 rfl ?_
              refine nw_ialdN C (nI (gr_k (sg_gr σ) (sp_onway (gr_w (sg_gr σ)) a b j))) hmKi (by omega) rfl dX4_isClear_98 99 rfl ?_
              refine nw_iconst C (nI 1) dX4_isClear_99 (by decide) 100 rfl ?_
              refine nw_icmpeqN C (by omega) 119 dX4_isClear_100 (by decide) 103 rfl (fun h12 => ?_) (fun h12 => ?_)
              · refine nw_iconst C (nI 0) dX4_isClear_119 (by decide) 120 rfl ?_
                exact nw_nret C dX4_isClear_120 (b2i_narrow false) (Nat.le_refl _) (Nat.le_refl _) ⟨congrArg (fun z => some (Value.int (b2i z))) (show (false) = (sp_clear (sg_gr σ) a b) from cl_false (by omega) (by omega) (show sp_opq (gr_k (sg_gr σ) (sp_onway (gr_w (sg_gr σ)) a b j)) = true by unfold sp_opq; simp [h12])), rfl⟩
              · refine nw_aload_n C 0 dX4_isClear_103 rfl 104 rfl ?_
                refine nw_get C hmX (T := TX4) rfl in_X4 3 (by decide) q1625 (Or.inl rfl) rfl dX4_isClear_104 107 rfl ?_
                refine nw_iload_n C 1 dX4_isClear_107 rfl 108 rfl ?_
                refine nw_iload C 5 dX4_isClear_108 rfl 110 rfl ?_
                refine nw_iload C 4 dX4_isClear_110 rfl 112 rfl ?_
                refine nw_imul C (nI j * (nw_sig (nI (b / (gr_w (sg_gr σ))) - nI (a / (gr_w (sg_gr σ)))) * nI (gr_w (sg_gr σ)) + nw_sig (nI (b % (gr_w (sg_gr σ))) - nI (a % (gr_w (sg_gr σ)))))) dX4_isClear_112 rfl 113 rfl ?_
                refine nw_iadd C (nI (sp_onway (gr_w (sg_gr σ)) a b j)) dX4_isClear_113 (on_mul hgro hp hq hln j (by omega)) 114 rfl ?_
                refine nw_ialdN C (nI (gr_k (sg_gr σ) (sp_onway (gr_w (sg_gr σ)) a b j))) hmKi (by omega) rfl dX4_isClear_114 115 rfl ?_
                refine nw_iconst C (nI 2) dX4_isClear_115 (by decide) 116 rfl ?_
                refine nw_icmpneN C (by omega) 121 dX4_isClear_116 (by decide) 119 rfl (fun h13 => ?_) (fun h13 => ?_)
                · refine nw_iincN C 5 (c0 := 1) [(7, .int (nI (j + 1))), (0, .ref y), (1, .int (nI a)), (2, .int (nI b)), (5, .int (nI (sp_apart (gr_w (sg_gr σ)) a b))), (6, .int (nw_sig (nI (b / (gr_w (sg_gr σ))) - nI (a / (gr_w (sg_gr σ)))) * nI (gr_w (sg_gr σ)) + nw_sig (nI (b % (gr_w (sg_gr σ))) - nI (a % (gr_w (sg_gr σ))))))] dX4_isClear_121 rfl (by decide) rfl 124 rfl ?_
                  refine nw_goto C 80 dX4_isClear_124 (by decide) ?_
                  exact (nw_sub [1, 2, 3, 4, 5, 0] rfl (ih_lp1 (j + 1) (by omega) (by omega) (fun i h1 h2 => (Nat.lt_or_ge i j).elim (fun g5 => hop i h1 g5) (fun g5 => by rw [show i = j by omega]; unfold sp_opq; simp [h12, h13])) (by omega)))
                · refine nw_iconst C (nI 0) dX4_isClear_119 (by decide) 120 rfl ?_
                  exact nw_nret C dX4_isClear_120 (b2i_narrow false) (Nat.le_refl _) (Nat.le_refl _) ⟨congrArg (fun z => some (Value.int (b2i z))) (show (false) = (sp_clear (sg_gr σ) a b) from cl_false (by omega) (by omega) (show sp_opq (gr_k (sg_gr σ) (sp_onway (gr_w (sg_gr σ)) a b j)) = true by unfold sp_opq; simp [h13])), rfl⟩
        exact (nw_sub [5, 6, 7, 2, 1, 0] rfl (lp1 _ 1 (Nat.le_refl _) (by decide) (fun i h1 h2 => by omega) (Nat.lt_succ_self _)))
      · have hlf : sp_line (gr_w (sg_gr σ)) a b = false := by
          have n1 : ¬ sp_dist (b / (gr_w (sg_gr σ))) (a / (gr_w (sg_gr σ))) = 0 := fun e => h2 ((nI_sub0 (by omega) (by omega)).mpr e)
          have n2 : ¬ sp_dist (b % (gr_w (sg_gr σ))) (a % (gr_w (sg_gr σ))) = 0 := fun e => h6 ((nI_sub0 (by omega) (by omega)).mpr e)
          unfold sp_line
          rw [sp_dist_comm (a / (gr_w (sg_gr σ))), sp_dist_comm (a % (gr_w (sg_gr σ)))]
          simp [n1, n2, h10]
        refine nw_iconst C (nI 0) dX4_isClear_50 (by decide) 51 rfl ?_
        exact nw_nret C dX4_isClear_51 (b2i_narrow false) (Nat.le_refl _) (Nat.le_refl _) ⟨congrArg (fun z => some (Value.int (b2i z))) (show (false) = (sp_clear (sg_gr σ) a b) from cl_line hlf), rfl⟩
set_option maxHeartbeats 4000000 in
theorem mX4_isLitBy (l : Launch) (hf : l.flags = flags0) (d : nwD) (ro am : Nat → Nat) (y : Nat) (σ : spSg) (th : Int32) (c r o : Nat) (H : Heap) (hB : nd_B d ≤ H.size) (hW : nwMC d ro am y σ th H) (okM : spOkM σ) (hp : c < gr_n (sg_gr σ)) (hr : r < 2 ^ 31) (hq : o < gr_n (sg_gr σ)) : nwRd l d yX4_isLitBy cX4_isLitBy 4 (some .boolean) 3 70 [.ref y, .int (nI c), .int (nI r), .int (nI o)] H (some (.int (b2i (decide (sp_apart (gr_w (sg_gr σ)) c o ≤ r) && sp_clear (sg_gr σ) c o)))) := by
  refine nw_rd "NightwatchWallModel" "isLitBy" hf (by decide +kernel) rfl rfl hB (Nat.le_of_ble_eq_true rfl) ?_
  intro X C
  obtain ⟨hmX, hmKi, hmLa, hmFo, hmGu, hmPo, hmIn, hmWi, hmWo, hmKe⟩ := id hW
  obtain ⟨okg, okl, okf, oku, okp, oki, okw, okd, okk, oka⟩ := id okM
  have hn64 : gr_n (sg_gr σ) ≤ 64 := okg.n
  have oku1 := oku.1
  have oki1 := oki.1
  have okp1 := okp.1
  have okw1 := okw.1
  have okl1 := okl.1
  have okf1 := okf.1
  have hE := C.E0
  have hap := sp_apart_lt (okg.here hp) hp hq
  show nwV X _ _ 4 H 0 0 0 [(0, .ref y), (1, .int (nI c)), (2, .int (nI r)), (3, .int (nI o))] []
  refine nw_aload_n C 0 dX4_isLitBy_0 rfl 1 rfl ?_
  refine nw_iload_n C 1 dX4_isLitBy_1 rfl 2 rfl ?_
  refine nw_iload_n C 3 dX4_isLitBy_2 rfl 3 rfl ?_
  refine nw_callV C (mX4_apart _ C.hfl d ro am y σ th c o H hB hW okM (by omega) (by omega)) kX4_apart q1752 (hmX.is C (ci := 9) rfl) (As := [.int (nI c), .int (nI o)]) (rest := []) rfl rfl ⟨⟨Nat.le_of_ble_eq_true rfl, Nat.le_of_ble_eq_true rfl⟩, Nat.le_of_ble_eq_true rfl, Nat.le_of_ble_eq_true rfl⟩ (Nat.le_of_ble_eq_true rfl) (fun _ h8 h9 => absurd h9 (Nat.not_le.mpr h8)) dX4_isLitBy_3 6 rfl (nw_rdK ?_) nw_noX
  refine nw_iload_n C 2 dX4_isLitBy_6 rfl 7 rfl ?_
  refine nw_icmpgtN C (by omega) 23 dX4_isLitBy_7 (by decide) 10 rfl (fun h1 => ?_) (fun h1 => ?_)
  · refine nw_iconst C (nI 0) dX4_isLitBy_23 (by decide) 24 rfl ?_
    exact nw_nret C dX4_isLitBy_24 (b2i_narrow false) (Nat.le_refl _) (Nat.le_refl _) ⟨congrArg (fun z => some (Value.int (b2i z))) (show (false) = (decide (sp_apart (gr_w (sg_gr σ)) c o ≤ r) && sp_clear (sg_gr σ) c o) from (by simp; omega)), rfl⟩
  · refine nw_aload_n C 0 dX4_isLitBy_10 rfl 11 rfl ?_
    refine nw_iload_n C 1 dX4_isLitBy_11 rfl 12 rfl ?_
    refine nw_iload_n C 3 dX4_isLitBy_12 rfl 13 rfl ?_
    refine nw_callV C (mX4_isClear _ C.hfl d ro am y σ th c o H hB hW okM (by omega) (by omega)) kX4_isClear q1758 (hmX.is C (ci := 9) rfl) (As := [.int (nI c), .int (nI o)]) (rest := []) rfl rfl ⟨⟨Nat.le_of_ble_eq_true rfl, Nat.le_of_ble_eq_true rfl⟩, Nat.le_of_ble_eq_true rfl, Nat.le_of_ble_eq_true rfl⟩ (Nat.le_of_ble_eq_true rfl) (fun _ h8 h9 => absurd h9 (Nat.not_le.mpr h8)) dX4_isLitBy_13 16 rfl (nw_rdK ?_) nw_noX
    refine nw_ifeqB C 23 dX4_isLitBy_16 (by decide) 19 rfl (fun h2 => ?_) (fun h2 => ?_)
    · refine nw_iconst C (nI 0) dX4_isLitBy_23 (by decide) 24 rfl ?_
      exact nw_nret C dX4_isLitBy_24 (b2i_narrow false) (Nat.le_refl _) (Nat.le_refl _) ⟨congrArg (fun z => some (Value.int (b2i z))) (show (false) = (decide (sp_apart (gr_w (sg_gr σ)) c o ≤ r) && sp_clear (sg_gr σ) c o) from (by simp [h1, h2])), rfl⟩
    · refine nw_iconst C (nI 1) dX4_isLitBy_19 (by decide) 20 rfl ?_
      refine nw_goto C 24 dX4_isLitBy_20 (by decide) ?_
      exact nw_nret C dX4_isLitBy_24 (b2i_narrow true) (Nat.le_refl _) (Nat.le_refl _) ⟨congrArg (fun z => some (Value.int (b2i z))) (show (true) = (decide (sp_apart (gr_w (sg_gr σ)) c o ≤ r) && sp_clear (sg_gr σ) c o) from (by simp [h1, h2])), rfl⟩
set_option maxHeartbeats 4000000 in
theorem mX4_isBright (l : Launch) (hf : l.flags = flags0) (d : nwD) (ro am : Nat → Nat) (y : Nat) (σ : spSg) (th : Int32) (c : Nat) (H : Heap) (hB : nd_B d ≤ H.size) (hW : nwMC d ro am y σ th H) (okM : spOkM σ) (hc : c < gr_n (sg_gr σ)) : nwRd l d yX4_isBright cX4_isBright 3 (some .boolean) 4 93 [.ref y, .int (nI c)] H (some (.int (b2i (sp_bright (sg_gr σ) (sg_la σ) c)))) := by
  refine nw_rd "NightwatchWallModel" "isBright" hf (by decide +kernel) rfl rfl hB (Nat.le_of_ble_eq_true rfl) ?_
  intro X C
  obtain ⟨hmX, hmKi, hmLa, hmFo, hmGu, hmPo, hmIn, hmWi, hmWo, hmKe⟩ := id hW
  obtain ⟨okg, okl, okf, oku, okp, oki, okw, okd, okk, oka⟩ := id okM
  have hn64 : gr_n (sg_gr σ) ≤ 64 := okg.n
  have oku1 := oku.1
  have oki1 := oki.1
  have okp1 := okp.1
  have okw1 := okw.1
  have okl1 := okl.1
  have okf1 := okf.1
  have hE := C.E0
  show nwV X _ _ 3 H 0 0 0 [(0, .ref y), (1, .int (nI c))] []
  refine nw_iconst C (nI 0) dX4_isBright_0 (by decide) 1 rfl ?_
  refine nw_istore_n C [(2, .int (nI 0)), (0, .ref y), (1, .int (nI c))] dX4_isBright_1 (by decide) rfl 2 rfl ?_
  have lp1 : ∀ (fu : Nat) (i : Nat), (i ≤ (sg_la σ).1) → (∀ k, k < i → sp_lights (sg_gr σ) ((sg_la σ).2 k) c = false) → (sg_la σ).1 - i < fu → nwV X (nwNew H) (nwQE X (fun v H1 => v = some (.int (b2i (sp_bright (sg_gr σ) (sg_la σ) c))) ∧ H1 = H) nwNo (nwNew H) 0 0) 3 H 0 0 2 [(0, .ref y), (1, .int (nI c)), (2, .int (nI i))] [] := by
    intro fu
    induction fu with
    | zero => intro i _ _ hm; exact absurd hm (Nat.not_lt_zero _)
    | succ fu ih_lp1 =>
      intro i hi hno hm
      refine nw_iload_n C 2 dX4_isBright_2 rfl 3 rfl ?_
      refine nw_aload_n C 0 dX4_isBright_3 rfl 4 rfl ?_
      refine nw_get C hmX (T := TX4) rfl in_X4 6 (by decide) q1628 (Or.inl rfl) rfl dX4_isBright_4 7 rfl ?_
      refine nw_callF C (mJ3_size _ C.hfl d (am 1) ((sg_la σ).1) (fun k => am (100 + k)) (fun q => ro q = 7002) H hB hmLa.1) kJ3_size (ci := 13) rfl q1607 q1611 (by decide +kernel) fc_List_size (hmLa.1.is C) (As := []) (rest := [.int (nI i)]) rfl rfl ⟨⟨Nat.le_of_ble_eq_true rfl, Nat.le_of_ble_eq_true rfl⟩, Nat.le_of_ble_eq_true rfl, Nat.le_of_ble_eq_true rfl⟩ (Nat.le_of_ble_eq_true rfl) (fun _ h8 h9 => absurd h9 (Nat.not_le.mpr h8)) dX4_isBright_7 12 rfl (nw_rdK ?_) nw_noX
      refine nw_icmpgeN C (by omega) 80 dX4_isBright_12 (by decide) 15 rfl (fun h2 => ?_) (fun h2 => ?_)
      · refine nw_iconst C (nI 0) dX4_isBright_80 (by decide) 81 rfl ?_
        exact nw_nret C dX4_isBright_81 (b2i_narrow false) (Nat.le_refl _) (Nat.le_refl _) ⟨congrArg (fun z => some (Value.int (b2i z))) (show (false) = (sp_bright (sg_gr σ) (sg_la σ) c) from (sp_any_false.mpr (fun k hk => hno k (by omega))).symm), rfl⟩
      · have hlk := okl.2 i (by omega)
        refine nw_aload_n C 0 dX4_isBright_15 rfl 16 rfl ?_
        refine nw_get C hmX (T := TX4) rfl in_X4 6 (by decide) q1628 (Or.inl rfl) rfl dX4_isBright_16 19 rfl ?_
        refine nw_iload_n C 2 dX4_isBright_19 rfl 20 rfl ?_
        refine nw_callF C (mJ3_get _ C.hfl d (am 1) ((sg_la σ).1) (fun k => am (100 + k)) (fun q => ro q = 7002) i H hB hmLa.1 (by omega)) kJ3_get (ci := 13) rfl q1615 q1618 (by decide +kernel) fc_List_get (hmLa.1.is C) (As := [.int (nI i)]) (rest := []) rfl rfl ⟨⟨Nat.le_of_ble_eq_true rfl, Nat.le_of_ble_eq_true rfl⟩, Nat.le_of_ble_eq_true rfl, Nat.le_of_ble_eq_true rfl⟩ (Nat.le_of_ble_eq_true rfl) (fun _ h8 h9 => absurd h9 (Nat.not_le.mpr h8)) dX4_isBright_20 25 rfl (nw_rdK ?_) nw_noX
        have hg3 : nwI d (am (100 + i)) 0 3 (fn3 (nI (((sg_la σ).2 i).1)) (nI (((sg_la σ).2 i).2.1)) (b2i (((sg_la σ).2 i).2.2))) H := hmLa.2 i (by omega)
        refine nw_castI C hg3 q1710 dX4_isBright_25 28 rfl ?_
        refine nw_iconst C (nI 2) dX4_isBright_28 (by decide) 29 rfl ?_
        refine nw_ialdN C (b2i (((sg_la σ).2 i).2.2)) hg3 (by omega) rfl dX4_isBright_29 30 rfl ?_
        refine nw_iconst C (nI 1) dX4_isBright_30 (by decide) 31 rfl ?_
        generalize hlit : ((sg_la σ).2 i).2.2 = lit
        cases lit
        · refine nw_icmpneT C (by decide) 74 dX4_isBright_31 (by decide) ?_
          have hlf : sp_lights (sg_gr σ) ((sg_la σ).2 i) c = false := by unfold sp_lights; rw [hlit]; rfl
          refine nw_iincN C 2 (c0 := 1) [(2, .int (nI (i + 1))), (0, .ref y), (1, .int (nI c))] dX4_isBright_74 rfl (by decide) rfl 77 rfl ?_
          refine nw_goto C 2 dX4_isBright_77 (by decide) ?_
          exact (nw_sub [1, 2, 0] rfl (ih_lp1 (i + 1) (by omega) (fun k hk => (Nat.lt_or_ge k i).elim (fun g5 => hno k g5) (fun g5 => by rw [show k = i by omega]; exact hlf)) (by omega)))
        · refine nw_icmpneF C (by decide) 74 dX4_isBright_31 (by decide) 34 rfl ?_
          refine nw_aload_n C 0 dX4_isBright_34 rfl 35 rfl ?_
          refine nw_aload_n C 0 dX4_isBright_35 rfl 36 rfl ?_
          refine nw_get C hmX (T := TX4) rfl in_X4 6 (by decide) q1628 (Or.inl rfl) rfl dX4_isBright_36 39 rfl ?_
          refine nw_iload_n C 2 dX4_isBright_39 rfl 40 rfl ?_
          refine nw_callF C (mJ3_get _ C.hfl d (am 1) ((sg_la σ).1) (fun k => am (100 + k)) (fun q => ro q = 7002) i H hB hmLa.1 (by omega)) kJ3_get (ci := 13) rfl q1615 q1618 (by decide +kernel) fc_List_get (hmLa.1.is C) (As := [.int (nI i)]) (rest := [.ref y]) rfl rfl ⟨⟨Nat.le_of_ble_eq_true rfl, Nat.le_of_ble_eq_true rfl⟩, Nat.le_of_ble_eq_true rfl, Nat.le_of_ble_eq_true rfl⟩ (Nat.le_of_ble_eq_true rfl) (fun _ h8 h9 => absurd h9 (Nat.not_le.mpr h8)) dX4_isBright_40 45 rfl (nw_rdK ?_) nw_noX
          have hg4 : nwI d (am (100 + i)) 0 3 (fn3 (nI (((sg_la σ).2 i).1)) (nI (((sg_la σ).2 i).2.1)) (b2i (((sg_la σ).2 i).2.2))) H := hmLa.2 i (by omega)
          refine nw_castI C hg4 q1710 dX4_isBright_45 48 rfl ?_
          refine nw_iconst C (nI 0) dX4_isBright_48 (by decide) 49 rfl ?_
          refine nw_ialdN C (nI (((sg_la σ).2 i).1)) hg4 (by omega) rfl dX4_isBright_49 50 rfl ?_
          refine nw_aload_n C 0 dX4_isBright_50 rfl 51 rfl ?_
          refine nw_get C hmX (T := TX4) rfl in_X4 6 (by decide) q1628 (Or.inl rfl) rfl dX4_isBright_51 54 rfl ?_
          refine nw_iload_n C 2 dX4_isBright_54 rfl 55 rfl ?_
          refine nw_callF C (mJ3_get _ C.hfl d (am 1) ((sg_la σ).1) (fun k => am (100 + k)) (fun q => ro q = 7002) i H hB hmLa.1 (by omega)) kJ3_get (ci := 13) rfl q1615 q1618 (by decide +kernel) fc_List_get (hmLa.1.is C) (As := [.int (nI i)]) (rest := [.int (nI (((sg_la σ).2 i).1)), .ref y]) rfl rfl ⟨⟨Nat.le_of_ble_eq_true rfl, Nat.le_of_ble_eq_true rfl⟩, Nat.le_of_ble_eq_true rfl, Nat.le_of_ble_eq_true rfl⟩ (Nat.le_of_ble_eq_true rfl) (fun _ h8 h9 => absurd h9 (Nat.not_le.mpr h8)) dX4_isBright_55 60 rfl (nw_rdK ?_) nw_noX
          have hg5 : nwI d (am (100 + i)) 0 3 (fn3 (nI (((sg_la σ).2 i).1)) (nI (((sg_la σ).2 i).2.1)) (b2i (((sg_la σ).2 i).2.2))) H := hmLa.2 i (by omega)
          refine nw_castI C hg5 q1710 dX4_isBright_60 63 rfl ?_
          refine nw_iconst C (nI 1) dX4_isBright_63 (by decide) 64 rfl ?_
          refine nw_ialdN C (nI (((sg_la σ).2 i).2.1)) hg5 (by omega) rfl dX4_isBright_64 65 rfl ?_
          refine nw_iload_n C 1 dX4_isBright_65 rfl 66 rfl ?_
          refine nw_callV C (mX4_isLitBy _ C.hfl d ro am y σ th (((sg_la σ).2 i).1) (((sg_la σ).2 i).2.1) c H hB hW okM (by omega) (by omega) (by omega)) kX4_isLitBy q1748 (hmX.is C (ci := 9) rfl) (As := [.int (nI (((sg_la σ).2 i).1)), .int (nI (((sg_la σ).2 i).2.1)), .int (nI c)]) (rest := []) rfl rfl ⟨⟨Nat.le_of_ble_eq_true rfl, Nat.le_of_ble_eq_true rfl⟩, Nat.le_of_ble_eq_true rfl, Nat.le_of_ble_eq_true rfl⟩ (Nat.le_of_ble_eq_true rfl) (fun _ h8 h9 => absurd h9 (Nat.not_le.mpr h8)) dX4_isBright_66 69 rfl (nw_rdK ?_) nw_noX
          refine nw_ifeqB C 74 dX4_isBright_69 (by decide) 72 rfl (fun h6 => ?_) (fun h6 => ?_)
          · have hlf : sp_lights (sg_gr σ) ((sg_la σ).2 i) c = false := by unfold sp_lights; rw [hlit, Bool.true_and, Bool.and_comm]; exact h6
            refine nw_iincN C 2 (c0 := 1) [(2, .int (nI (i + 1))), (0, .ref y), (1, .int (nI c))] dX4_isBright_74 rfl (by decide) rfl 77 rfl ?_
            refine nw_goto C 2 dX4_isBright_77 (by decide) ?_
            exact (nw_sub [1, 2, 0] rfl (ih_lp1 (i + 1) (by omega) (fun k hk => (Nat.lt_or_ge k i).elim (fun g5 => hno k g5) (fun g5 => by rw [show k = i by omega]; exact hlf)) (by omega)))
          · have hlt : sp_lights (sg_gr σ) ((sg_la σ).2 i) c = true := by unfold sp_lights; rw [hlit, Bool.true_and, Bool.and_comm]; exact h6
            refine nw_iconst C (nI 1) dX4_isBright_72 (by decide) 73 rfl ?_
            exact nw_nret C dX4_isBright_73 (b2i_narrow true) (Nat.le_refl _) (Nat.le_refl _) ⟨congrArg (fun z => some (Value.int (b2i z))) (show (true) = (sp_bright (sg_gr σ) (sg_la σ) c) from (sp_any_iff.mpr ⟨i, by omega, hlt⟩).symm), rfl⟩
  exact (nw_sub [1, 2, 0] rfl (lp1 _ 0 (Nat.zero_le _) (fun k hk => absurd hk (Nat.not_lt_zero k)) (Nat.lt_succ_self _)))
set_option maxHeartbeats 4000000 in
theorem mX4_brights (l : Launch) (hf : l.flags = flags0) (d : nwD) (ro am : Nat → Nat) (y : Nat) (σ : spSg) (th : Int32)  (H : Heap) (hB : nd_B d ≤ H.size) (hW : nwMC d ro am y σ th H) (okM : spOkM σ)  : nwRd l d yX4_brights cX4_brights 3 (some .int) 5 115 [.ref y] H (some (.int (nI (sp_brights (sg_gr σ) (sg_la σ))))) := by
  refine nw_rd "NightwatchWallModel" "brights" hf (by decide +kernel) rfl rfl hB (Nat.le_of_ble_eq_true rfl) ?_
  intro X C
  obtain ⟨hmX, hmKi, hmLa, hmFo, hmGu, hmPo, hmIn, hmWi, hmWo, hmKe⟩ := id hW
  obtain ⟨okg, okl, okf, oku, okp, oki, okw, okd, okk, oka⟩ := id okM
  have hn64 : gr_n (sg_gr σ) ≤ 64 := okg.n
  have oku1 := oku.1
  have oki1 := oki.1
  have okp1 := okp.1
  have okw1 := okw.1
  have okl1 := okl.1
  have okf1 := okf.1
  have hE := C.E0
  show nwV X _ _ 3 H 0 0 0 [(0, .ref y)] []
  refine nw_iconst C (nI 0) dX4_brights_0 (by decide) 1 rfl ?_
  refine nw_istore_n C [(1, .int (nI 0)), (0, .ref y)] dX4_brights_1 (by decide) rfl 2 rfl ?_
  refine nw_iconst C (nI 0) dX4_brights_2 (by decide) 3 rfl ?_
  refine nw_istore_n C [(2, .int (nI 0)), (1, .int (nI 0)), (0, .ref y)] dX4_brights_3 (by decide) rfl 4 rfl ?_
  have lp1 : ∀ (fu : Nat) (i : Nat) (m : Nat), (i ≤ gr_n (sg_gr σ)) → (m = sp_cnt (fun k => sp_bright (sg_gr σ) (sg_la σ) k) i) → gr_n (sg_gr σ) - i < fu → nwV X (nwNew H) (nwQE X (fun v H1 => v = some (.int (nI (sp_brights (sg_gr σ) (sg_la σ)))) ∧ H1 = H) nwNo (nwNew H) 0 0) 3 H 0 0 4 [(0, .ref y), (1, .int (nI m)), (2, .int (nI i))] [] := by
    intro fu
    induction fu with
    | zero => intro i m _ _ hm; exact absurd hm (Nat.not_lt_zero _)
    | succ fu ih_lp1 =>
      intro i m hi hmm hm
      refine nw_iload_n C 2 dX4_brights_4 rfl 5 rfl ?_
      refine nw_aload_n C 0 dX4_brights_5 rfl 6 rfl ?_
      refine nw_get C hmX (T := TX4) rfl in_X4 3 (by decide) q1625 (Or.inl rfl) rfl dX4_brights_6 9 rfl ?_
      refine nw_alenI C hmKi (by decide) dX4_brights_9 10 rfl ?_
      refine nw_icmpgeN C (by omega) 35 dX4_brights_10 (by decide) 13 rfl (fun h2 => ?_) (fun h2 => ?_)
      · refine nw_iload_n C 1 dX4_brights_35 rfl 36 rfl ?_
        exact nw_iret C dX4_brights_36 (Nat.le_refl _) (Nat.le_refl _) ⟨congrArg (fun z => some (Value.int (nI z))) (show (m) = (sp_brights (sg_gr σ) (sg_la σ)) from (by rw [hmm, show i = gr_n (sg_gr σ) by omega]; rfl)), rfl⟩
      · refine nw_iload_n C 1 dX4_brights_13 rfl 14 rfl ?_
        refine nw_aload_n C 0 dX4_brights_14 rfl 15 rfl ?_
        refine nw_iload_n C 2 dX4_brights_15 rfl 16 rfl ?_
        refine nw_callV C (mX4_isBright _ C.hfl d ro am y σ th i H hB hW okM (by omega)) kX4_isBright q1744 (hmX.is C (ci := 9) rfl) (As := [.int (nI i)]) (rest := [.int (nI m)]) rfl rfl ⟨⟨Nat.le_of_ble_eq_true rfl, Nat.le_of_ble_eq_true rfl⟩, Nat.le_of_ble_eq_true rfl, Nat.le_of_ble_eq_true rfl⟩ (Nat.le_of_ble_eq_true rfl) (fun _ h8 h9 => absurd h9 (Nat.not_le.mpr h8)) dX4_brights_16 19 rfl (nw_rdK ?_) nw_noX
        refine nw_ifeqB C 26 dX4_brights_19 (by decide) 22 rfl (fun h3 => ?_) (fun h3 => ?_)
        · refine nw_iconst C (nI 0) dX4_brights_26 (by decide) 27 rfl ?_
          refine nw_iaddN C dX4_brights_27 28 rfl ?_
          refine nw_istore_n C [(1, .int (nI (m + 0))), (0, .ref y), (2, .int (nI i))] dX4_brights_28 (by decide) rfl 29 rfl ?_
          refine nw_iincN C 2 (c0 := 1) [(2, .int (nI (i + 1))), (1, .int (nI (m + 0))), (0, .ref y)] dX4_brights_29 rfl (by decide) rfl 32 rfl ?_
          refine nw_goto C 4 dX4_brights_32 (by decide) ?_
          exact (nw_sub [2, 1, 0] rfl (ih_lp1 (i + 1) m (by omega) (by rw [sp_cnt_f (p := (fun k => sp_bright (sg_gr σ) (sg_la σ) k)) (n := i) (by simp [h3])]; omega) (by omega)))
        · refine nw_iconst C (nI 1) dX4_brights_22 (by decide) 23 rfl ?_
          refine nw_goto C 27 dX4_brights_23 (by decide) ?_
          refine nw_iaddN C dX4_brights_27 28 rfl ?_
          refine nw_istore_n C [(1, .int (nI (m + 1))), (0, .ref y), (2, .int (nI i))] dX4_brights_28 (by decide) rfl 29 rfl ?_
          refine nw_iincN C 2 (c0 := 1) [(2, .int (nI (i + 1))), (1, .int (nI (m + 1))), (0, .ref y)] dX4_brights_29 rfl (by decide) rfl 32 rfl ?_
          refine nw_goto C 4 dX4_brights_32 (by decide) ?_
          exact (nw_sub [2, 1, 0] rfl (ih_lp1 (i + 1) (m + 1) (by omega) (by rw [sp_cnt_t (p := (fun k => sp_bright (sg_gr σ) (sg_la σ) k)) (n := i) (by simp [h3])]; omega) (by omega)))
  exact (nw_sub [2, 1, 0] rfl (lp1 _ 0 0 (Nat.zero_le _) rfl (Nat.lt_succ_self _)))
set_option maxHeartbeats 4000000 in
theorem mX4_fogAt (l : Launch) (hf : l.flags = flags0) (d : nwD) (ro am : Nat → Nat) (y : Nat) (σ : spSg) (th : Int32) (t : Nat) (H : Heap) (hB : nd_B d ≤ H.size) (hW : nwMC d ro am y σ th H) (okM : spOkM σ) (ht : t < 2 ^ 31) : nwRd l d yX4_fogAt cX4_fogAt 5 (some .int) 4 84 [.ref y, .int (nI t)] H (some (.int (nI (sp_fog (sg_fo σ) t)))) := by
  refine nw_rd "NightwatchWallModel" "fogAt" hf (by decide +kernel) rfl rfl hB (Nat.le_of_ble_eq_true rfl) ?_
  intro X C
  obtain ⟨hmX, hmKi, hmLa, hmFo, hmGu, hmPo, hmIn, hmWi, hmWo, hmKe⟩ := id hW
  obtain ⟨okg, okl, okf, oku, okp, oki, okw, okd, okk, oka⟩ := id okM
  have hn64 : gr_n (sg_gr σ) ≤ 64 := okg.n
  have oku1 := oku.1
  have oki1 := oki.1
  have okp1 := okp.1
  have okw1 := okw.1
  have okl1 := okl.1
  have okf1 := okf.1
  have hE := C.E0
  show nwV X _ _ 5 H 0 0 0 [(0, .ref y), (1, .int (nI t))] []
  refine nw_iconst C (oI none) dX4_fogAt_0 (by decide) 1 rfl ?_
  refine nw_istore_n C [(2, .int (oI none)), (0, .ref y), (1, .int (nI t))] dX4_fogAt_1 (by decide) rfl 2 rfl ?_
  refine nw_iconst C (nI 0) dX4_fogAt_2 (by decide) 3 rfl ?_
  refine nw_istore_n C [(3, .int (nI 0)), (2, .int (oI none)), (0, .ref y), (1, .int (nI t))] dX4_fogAt_3 (by decide) rfl 4 rfl ?_
  refine nw_iconst C (nI 0) dX4_fogAt_4 (by decide) 5 rfl ?_
  refine nw_istore C [(4, .int (nI 0)), (3, .int (nI 0)), (2, .int (oI none)), (0, .ref y), (1, .int (nI t))] dX4_fogAt_5 (by decide) rfl 7 rfl ?_
  have lp1 : ∀ (fu : Nat) (i : Nat) (sn : Option Nat) (fg : Nat), (i ≤ (sg_fo σ).1) → ((sn, fg) = fogM (sg_fo σ) (sp_fogI (sg_fo σ) t i)) → (∀ v, sn = some v → v < 240) → (fg ≤ 5) → (sg_fo σ).1 - i < fu → nwV X (nwNew H) (nwQE X (fun v H1 => v = some (.int (nI (sp_fog (sg_fo σ) t))) ∧ H1 = H) nwNo (nwNew H) 0 0) 5 H 0 0 7 [(0, .ref y), (1, .int (nI t)), (2, .int (oI sn)), (3, .int (nI fg)), (4, .int (nI i))] [] := by
    intro fu
    induction fu with
    | zero => intro i sn fg _ _ _ _ hm; exact absurd hm (Nat.not_lt_zero _)
    | succ fu ih_lp1 =>
      intro i sn fg hi hst hsb hfb hm
      refine nw_iload C 4 dX4_fogAt_7 rfl 9 rfl ?_
      refine nw_aload_n C 0 dX4_fogAt_9 rfl 10 rfl ?_
      refine nw_get C hmX (T := TX4) rfl in_X4 7 (by decide) q1629 (Or.inl rfl) rfl dX4_fogAt_10 13 rfl ?_
      refine nw_callF C (mJ3_size _ C.hfl d (am 2) ((sg_fo σ).1) (fun k => am (200 + k)) (fun q => ro q = 7003) H hB hmFo.1) kJ3_size (ci := 13) rfl q1607 q1611 (by decide +kernel) fc_List_size (hmFo.1.is C) (As := []) (rest := [.int (nI i)]) rfl rfl ⟨⟨Nat.le_of_ble_eq_true rfl, Nat.le_of_ble_eq_true rfl⟩, Nat.le_of_ble_eq_true rfl, Nat.le_of_ble_eq_true rfl⟩ (Nat.le_of_ble_eq_true rfl) (fun _ h8 h9 => absurd h9 (Nat.not_le.mpr h8)) dX4_fogAt_13 18 rfl (nw_rdK ?_) nw_noX
      refine nw_icmpgeN C (by omega) 104 dX4_fogAt_18 (by decide) 21 rfl (fun h2 => ?_) (fun h2 => ?_)
      · refine nw_iload_n C 3 dX4_fogAt_104 rfl 105 rfl ?_
        exact nw_iret C dX4_fogAt_105 (Nat.le_refl _) (Nat.le_refl _) ⟨congrArg (fun z => some (Value.int (nI z))) (show (fg) = (sp_fog (sg_fo σ) t) from (by unfold sp_fog; rw [show i = (sg_fo σ).1 by omega] at hst; generalize sp_fogI (sg_fo σ) t (sg_fo σ).1 = ob at hst; cases ob <;> (cases hst; rfl))), rfl⟩
      · have hfi := okf.2 i (by omega)
        refine nw_aload_n C 0 dX4_fogAt_21 rfl 22 rfl ?_
        refine nw_get C hmX (T := TX4) rfl in_X4 7 (by decide) q1629 (Or.inl rfl) rfl dX4_fogAt_22 25 rfl ?_
        refine nw_iload C 4 dX4_fogAt_25 rfl 27 rfl ?_
        refine nw_callF C (mJ3_get _ C.hfl d (am 2) ((sg_fo σ).1) (fun k => am (200 + k)) (fun q => ro q = 7003) i H hB hmFo.1 (by omega)) kJ3_get (ci := 13) rfl q1615 q1618 (by decide +kernel) fc_List_get (hmFo.1.is C) (As := [.int (nI i)]) (rest := []) rfl rfl ⟨⟨Nat.le_of_ble_eq_true rfl, Nat.le_of_ble_eq_true rfl⟩, Nat.le_of_ble_eq_true rfl, Nat.le_of_ble_eq_true rfl⟩ (Nat.le_of_ble_eq_true rfl) (fun _ h8 h9 => absurd h9 (Nat.not_le.mpr h8)) dX4_fogAt_27 32 rfl (nw_rdK ?_) nw_noX
        have hg3 : nwI d (am (200 + i)) 0 2 (fn2 (nI (((sg_fo σ).2 i).1)) (nI (((sg_fo σ).2 i).2))) H := hmFo.2 i (by omega)
        refine nw_castI C hg3 q1710 dX4_fogAt_32 35 rfl ?_
        refine nw_iconst C (nI 0) dX4_fogAt_35 (by decide) 36 rfl ?_
        refine nw_ialdN C (nI (((sg_fo σ).2 i).1)) hg3 (by omega) rfl dX4_fogAt_36 37 rfl ?_
        refine nw_iload_n C 1 dX4_fogAt_37 rfl 38 rfl ?_
        refine nw_icmpgtN C (by omega) 98 dX4_fogAt_38 (by decide) 41 rfl (fun h4 => ?_) (fun h4 => ?_)
        · refine nw_iincN C 4 (c0 := 1) [(4, .int (nI (i + 1))), (0, .ref y), (1, .int (nI t)), (2, .int (oI sn)), (3, .int (nI fg))] dX4_fogAt_98 rfl (by decide) rfl 101 rfl ?_
          refine nw_goto C 7 dX4_fogAt_101 (by decide) ?_
          exact (nw_sub [1, 2, 3, 4, 0] rfl (ih_lp1 (i + 1) sn fg (by omega) (by unfold sp_fogI; rw [if_neg (by omega)]; exact hst) hsb hfb (by omega)))
        · refine nw_aload_n C 0 dX4_fogAt_41 rfl 42 rfl ?_
          refine nw_get C hmX (T := TX4) rfl in_X4 7 (by decide) q1629 (Or.inl rfl) rfl dX4_fogAt_42 45 rfl ?_
          refine nw_iload C 4 dX4_fogAt_45 rfl 47 rfl ?_
          refine nw_callF C (mJ3_get _ C.hfl d (am 2) ((sg_fo σ).1) (fun k => am (200 + k)) (fun q => ro q = 7003) i H hB hmFo.1 (by omega)) kJ3_get (ci := 13) rfl q1615 q1618 (by decide +kernel) fc_List_get (hmFo.1.is C) (As := [.int (nI i)]) (rest := []) rfl rfl ⟨⟨Nat.le_of_ble_eq_true rfl, Nat.le_of_ble_eq_true rfl⟩, Nat.le_of_ble_eq_true rfl, Nat.le_of_ble_eq_true rfl⟩ (Nat.le_of_ble_eq_true rfl) (fun _ h8 h9 => absurd h9 (Nat.not_le.mpr h8)) dX4_fogAt_47 52 rfl (nw_rdK ?_) nw_noX
          have hg5 : nwI d (am (200 + i)) 0 2 (fn2 (nI (((sg_fo σ).2 i).1)) (nI (((sg_fo σ).2 i).2))) H := hmFo.2 i (by omega)
          refine nw_castI C hg5 q1710 dX4_fogAt_52 55 rfl ?_
          refine nw_iconst C (nI 0) dX4_fogAt_55 (by decide) 56 rfl ?_
          refine nw_ialdN C (nI (((sg_fo σ).2 i).1)) hg5 (by omega) rfl dX4_fogAt_56 57 rfl ?_
          refine nw_iload_n C 2 dX4_fogAt_57 rfl 58 rfl ?_
          rcases sn with _ | v9
          · show nwV X _ _ 5 H 0 0 58 [(0, .ref y), (1, .int (nI t)), (2, .int (oI none)), (3, .int (nI fg)), (4, .int (nI i))] [.int (oI none), .int (nI (((sg_fo σ).2 i).1))]
            refine nw_icmpge C 64 dX4_fogAt_58 (by decide) 61 rfl (fun _ => ?_) (fun h6 => absurd (nw_ge_m1 (by omega)) h6)
            refine nw_aload_n C 0 dX4_fogAt_64 rfl 65 rfl ?_
            refine nw_get C hmX (T := TX4) rfl in_X4 7 (by decide) q1629 (Or.inl rfl) rfl dX4_fogAt_65 68 rfl ?_
            refine nw_iload C 4 dX4_fogAt_68 rfl 70 rfl ?_
            refine nw_callF C (mJ3_get _ C.hfl d (am 2) ((sg_fo σ).1) (fun k => am (200 + k)) (fun q => ro q = 7003) i H hB hmFo.1 (by omega)) kJ3_get (ci := 13) rfl q1615 q1618 (by decide +kernel) fc_List_get (hmFo.1.is C) (As := [.int (nI i)]) (rest := []) rfl rfl ⟨⟨Nat.le_of_ble_eq_true rfl, Nat.le_of_ble_eq_true rfl⟩, Nat.le_of_ble_eq_true rfl, Nat.le_of_ble_eq_true rfl⟩ (Nat.le_of_ble_eq_true rfl) (fun _ h8 h9 => absurd h9 (Nat.not_le.mpr h8)) dX4_fogAt_70 75 rfl (nw_rdK ?_) nw_noX
            have hg7 : nwI d (am (200 + i)) 0 2 (fn2 (nI (((sg_fo σ).2 i).1)) (nI (((sg_fo σ).2 i).2))) H := hmFo.2 i (by omega)
            refine nw_castI C hg7 q1710 dX4_fogAt_75 78 rfl ?_
            refine nw_iconst C (nI 0) dX4_fogAt_78 (by decide) 79 rfl ?_
            refine nw_ialdN C (nI (((sg_fo σ).2 i).1)) hg7 (by omega) rfl dX4_fogAt_79 80 rfl ?_
            refine nw_istore_n C [(2, .int (nI (((sg_fo σ).2 i).1))), (0, .ref y), (1, .int (nI t)), (3, .int (nI fg)), (4, .int (nI i))] dX4_fogAt_80 (by decide) rfl 81 rfl ?_
            refine nw_aload_n C 1 dX4_fogAt_81 rfl 82 rfl ?_
            refine nw_get C hmX (T := TX4) rfl in_X4 7 (by decide) q1629 (Or.inl rfl) rfl dX4_fogAt_82 85 rfl ?_
            refine nw_iload C 4 dX4_fogAt_85 rfl 87 rfl ?_
            refine nw_callF C (mJ3_get _ C.hfl d (am 2) ((sg_fo σ).1) (fun k => am (200 + k)) (fun q => ro q = 7003) i H hB hmFo.1 (by omega)) kJ3_get (ci := 13) rfl q1615 q1618 (by decide +kernel) fc_List_get (hmFo.1.is C) (As := [.int (nI i)]) (rest := []) rfl rfl ⟨⟨Nat.le_of_ble_eq_true rfl, Nat.le_of_ble_eq_true rfl⟩, Nat.le_of_ble_eq_true rfl, Nat.le_of_ble_eq_true rfl⟩ (Nat.le_of_ble_eq_true rfl) (fun _ h8 h9 => absurd h9 (Nat.not_le.mpr h8)) dX4_fogAt_87 92 rfl (nw_rdK ?_) nw_noX
            have hg8 : nwI d (am (200 + i)) 0 2 (fn2 (nI (((sg_fo σ).2 i).1)) (nI (((sg_fo σ).2 i).2))) H := hmFo.2 i (by omega)
            refine nw_castI C hg8 q1710 dX4_fogAt_92 95 rfl ?_
            refine nw_iconst C (nI 1) dX4_fogAt_95 (by decide) 96 rfl ?_
            refine nw_ialdN C (nI (((sg_fo σ).2 i).2)) hg8 (by omega) rfl dX4_fogAt_96 97 rfl ?_
            refine nw_istore_n C [(3, .int (nI (((sg_fo σ).2 i).2))), (2, .int (nI (((sg_fo σ).2 i).1))), (0, .ref y), (1, .int (nI t)), (4, .int (nI i))] dX4_fogAt_97 (by decide) rfl 98 rfl ?_
            refine nw_iincN C 4 (c0 := 1) [(4, .int (nI (i + 1))), (3, .int (nI (((sg_fo σ).2 i).2))), (2, .int (nI (((sg_fo σ).2 i).1))), (0, .ref y), (1, .int (nI t))] dX4_fogAt_98 rfl (by decide) rfl 101 rfl ?_
            refine nw_goto C 7 dX4_fogAt_101 (by decide) ?_
            exact (nw_sub [3, 4, 2, 1, 0] rfl (ih_lp1 (i + 1) (some ((sg_fo σ).2 i).1) (((sg_fo σ).2 i).2) (by omega) (fogM_new h4 hst) (fun v hv => by cases hv; omega) (by omega) (by omega)))
          · show nwV X _ _ 5 H 0 0 58 [(0, .ref y), (1, .int (nI t)), (2, .int (nI v9)), (3, .int (nI fg)), (4, .int (nI i))] [.int (nI v9), .int (nI (((sg_fo σ).2 i).1))]
            have hsv := hsb v9 rfl
            refine nw_icmpgeN C (by omega) 64 dX4_fogAt_58 (by decide) 61 rfl (fun h9 => ?_) (fun h9 => ?_)
            · refine nw_aload_n C 0 dX4_fogAt_64 rfl 65 rfl ?_
              refine nw_get C hmX (T := TX4) rfl in_X4 7 (by decide) q1629 (Or.inl rfl) rfl dX4_fogAt_65 68 rfl ?_
              refine nw_iload C 4 dX4_fogAt_68 rfl 70 rfl ?_
              refine nw_callF C (mJ3_get _ C.hfl d (am 2) ((sg_fo σ).1) (fun k => am (200 + k)) (fun q => ro q = 7003) i H hB hmFo.1 (by omega)) kJ3_get (ci := 13) rfl q1615 q1618 (by decide +kernel) fc_List_get (hmFo.1.is C) (As := [.int (nI i)]) (rest := []) rfl rfl ⟨⟨Nat.le_of_ble_eq_true rfl, Nat.le_of_ble_eq_true rfl⟩, Nat.le_of_ble_eq_true rfl, Nat.le_of_ble_eq_true rfl⟩ (Nat.le_of_ble_eq_true rfl) (fun _ h8 h9 => absurd h9 (Nat.not_le.mpr h8)) dX4_fogAt_70 75 rfl (nw_rdK ?_) nw_noX
              have hg10 : nwI d (am (200 + i)) 0 2 (fn2 (nI (((sg_fo σ).2 i).1)) (nI (((sg_fo σ).2 i).2))) H := hmFo.2 i (by omega)
              refine nw_castI C hg10 q1710 dX4_fogAt_75 78 rfl ?_
              refine nw_iconst C (nI 0) dX4_fogAt_78 (by decide) 79 rfl ?_
              refine nw_ialdN C (nI (((sg_fo σ).2 i).1)) hg10 (by omega) rfl dX4_fogAt_79 80 rfl ?_
              refine nw_istore_n C [(2, .int (nI (((sg_fo σ).2 i).1))), (0, .ref y), (1, .int (nI t)), (3, .int (nI fg)), (4, .int (nI i))] dX4_fogAt_80 (by decide) rfl 81 rfl ?_
              refine nw_aload_n C 1 dX4_fogAt_81 rfl 82 rfl ?_
              refine nw_get C hmX (T := TX4) rfl in_X4 7 (by decide) q1629 (Or.inl rfl) rfl dX4_fogAt_82 85 rfl ?_
              refine nw_iload C 4 dX4_fogAt_85 rfl 87 rfl ?_
              refine nw_callF C (mJ3_get _ C.hfl d (am 2) ((sg_fo σ).1) (fun k => am (200 + k)) (fun q => ro q = 7003) i H hB hmFo.1 (by omega)) kJ3_get (ci := 13) rfl q1615 q1618 (by decide +kernel) fc_List_get (hmFo.1.is C) (As := [.int (nI i)]) (rest := []) rfl rfl ⟨⟨Nat.le_of_ble_eq_true rfl, Nat.le_of_ble_eq_true rfl⟩, Nat.le_of_ble_eq_true rfl, Nat.le_of_ble_eq_true rfl⟩ (Nat.le_of_ble_eq_true rfl) (fun _ h8 h9 => absurd h9 (Nat.not_le.mpr h8)) dX4_fogAt_87 92 rfl (nw_rdK ?_) nw_noX
              have hg11 : nwI d (am (200 + i)) 0 2 (fn2 (nI (((sg_fo σ).2 i).1)) (nI (((sg_fo σ).2 i).2))) H := hmFo.2 i (by omega)
              refine nw_castI C hg11 q1710 dX4_fogAt_92 95 rfl ?_
              refine nw_iconst C (nI 1) dX4_fogAt_95 (by decide) 96 rfl ?_
              refine nw_ialdN C (nI (((sg_fo σ).2 i).2)) hg11 (by omega) rfl dX4_fogAt_96 97 rfl ?_
              refine nw_istore_n C [(3, .int (nI (((sg_fo σ).2 i).2))), (2, .int (nI (((sg_fo σ).2 i).1))), (0, .ref y), (1, .int (nI t)), (4, .int (nI i))] dX4_fogAt_97 (by decide) rfl 98 rfl ?_
              refine nw_iincN C 4 (c0 := 1) [(4, .int (nI (i + 1))), (3, .int (nI (((sg_fo σ).2 i).2))), (2, .int (nI (((sg_fo σ).2 i).1))), (0, .ref y), (1, .int (nI t))] dX4_fogAt_98 rfl (by decide) rfl 101 rfl ?_
              refine nw_goto C 7 dX4_fogAt_101 (by decide) ?_
              exact (nw_sub [3, 4, 2, 1, 0] rfl (ih_lp1 (i + 1) (some ((sg_fo σ).2 i).1) (((sg_fo σ).2 i).2) (by omega) (fogM_more h4 hst h9) (fun v hv => by cases hv; omega) (by omega) (by omega)))
            · refine nw_goto C 98 dX4_fogAt_61 (by decide) ?_
              refine nw_iincN C 4 (c0 := 1) [(4, .int (nI (i + 1))), (0, .ref y), (1, .int (nI t)), (2, .int (nI v9)), (3, .int (nI fg))] dX4_fogAt_98 rfl (by decide) rfl 101 rfl ?_
              refine nw_goto C 7 dX4_fogAt_101 (by decide) ?_
              exact (nw_sub [1, 2, 3, 4, 0] rfl (ih_lp1 (i + 1) (some v9) fg (by omega) (fogM_less h4 hst h9) hsb hfb (by omega)))
  exact (nw_sub [3, 4, 2, 1, 0] rfl (lp1 _ 0 none 0 (Nat.zero_le _) rfl (fun v hv => by cases hv) (Nat.zero_le _) (Nat.lt_succ_self _)))
