/-! ===== the reference's readers: guards and what they see ===== -/
/-- minute t is not behind minute o; no minute o is ahead of each -/
def nw_geO (t : Nat) (o : Option Nat) : Bool := match o with
  | none => false
  | some b => decide (t ≤ b)
theorem ga_isM (ga : Option (Nat × Nat)) (t : Nat) (ht : t < 240) : sp_gate ga t = (decide (gaM_f ga ≤ t) && nw_geO t (gaM_t ga)) := by
  unfold gaM_f gaM_t sp_gate nw_geO
  cases ga with
  | none => simp
  | some p => obtain ⟨a, b⟩ := p; rfl
/-- one is near, in sight: or it is the very cell -/
theorem sp_clear_self {g : spGr} (c : Nat) : sp_clear g c c = true := by
  have h0 : sp_apart (gr_w g) c c = 0 := by unfold sp_apart sp_dist; omega
  have h1 : sp_line (gr_w g) c c = true := by
    unfold sp_line sp_dist
    simp
  unfold sp_clear
  rw [h0, h1]
  rfl
theorem sp_seesM {gr : spGr} {u : spGd} {c t p fog : Nat} {br : Bool} (hp : sp_place u t = some p) : sp_sees gr u c t br fog = (sp_clear gr p c && decide (sp_apart (gr_w gr) p c ≤ sp_range br (sp_tired u t) fog)) := by
  unfold sp_sees sp_view
  rw [hp]
  dsimp only
  cases sp_clear gr p c with
  | true => rfl
  | false => rfl
theorem sp_apart_pos {g : spGr} (ho : spGrOk g) {a b : Nat} (ha : a < gr_n g) (hb : b < gr_n g) (h : ¬ a = b) : 0 < sp_apart (gr_w g) a b := by
  have h1 := Nat.div_add_mod a (gr_w g)
  have h2 := Nat.div_add_mod b (gr_w g)
  apply Nat.pos_of_ne_zero
  intro h0
  have h3 : a / gr_w g = b / gr_w g := by unfold sp_apart sp_dist at h0; omega
  have h4 : a % gr_w g = b % gr_w g := by unfold sp_apart sp_dist at h0; omega
  apply h
  rw [← h1, ← h2, h3, h4]
theorem nw_gtS {p a b : Nat} (h0 : 0 < p) (hp : p < 2 ^ 30) (ha : a < 2 ^ 30) (hb : b < 2 ^ 30) : (nI p > nI a - nI b) ↔ a - b < p := by
  rcases Nat.lt_or_ge a b with h | h
  · have e : nI a - nI b = -(nI (b - a)) := by rw [← pk_sub (Nat.le_of_lt h)]; grind
    rw [e]
    constructor
    · intro _; omega
    · intro _
      apply Int32.lt_iff_toInt_lt.mpr
      rw [Int32.toInt_neg, nI_toInt (by omega : b - a < 2 ^ 31), nI_toInt (by omega : p < 2 ^ 31)]
      rw [Int.bmod_eq_of_le] <;> omega
  · rw [pk_sub h]
    exact nI_ltI (by omega) (by omega)
theorem gaM_lt {ga : Option (Nat × Nat)} (h : okGa ga) : gaM_f ga < 240 ∧ ∀ v, gaM_t ga = some v → v < 240 := by
  unfold gaM_f gaM_t
  cases ga with
  | none => exact ⟨by simp, fun v hv => by simp at hv⟩
  | some p => obtain ⟨a, b⟩ := p; exact ⟨(h a b rfl).1, fun v hv => by cases hv; exact (h a b rfl).2⟩
theorem nw_leO {t : Nat} {o : Option Nat} (ht : t < 2 ^ 31) (ho : ∀ v, o = some v → v < 2 ^ 31) : decide (nI t ≤ oI o) = nw_geO t o := by
  cases o with
  | none =>
    have h : ¬ nI t ≤ oI none := by
      rw [Int32.le_iff_toInt_le, nI_toInt ht, show (oI none).toInt = -1 by decide]
      omega
    simp [nw_geO, h]
  | some b => exact decide_eq_decide.mpr (by show nI t ≤ nI b ↔ _; rw [nI_leI' ht (ho b rfl)])
theorem mX4_inO (l : Launch) (hf : l.flags = flags0) (d : nwD) (t a : Nat) (o : Option Nat) (H : Heap) (hB : nd_B d ≤ H.size) (hb : t < 2 ^ 31 ∧ a < 2 ^ 31) (ho : ∀ v, o = some v → v < 2 ^ 31) : nwRd l d yX4_in cX4_in 3 (some .boolean) 1 20 [.int (nI t), .int (nI a), .int (oI o)] H (some (.int (b2i (decide (a ≤ t) && nw_geO t o)))) := by
  have h := mX4_inR l hf d (nI t) (nI a) (oI o) H hB
  rw [nw_leO hb.1 ho, show decide (nI a ≤ nI t) = decide (a ≤ t) from decide_eq_decide.mpr (nI_leI' hb.2 hb.1)] at h
  exact h
theorem sp_fst_at0 {p : Nat → Bool} {m : Nat} {n : Nat} (h : ∀ k, k < m → p k = false) (hm : m < n) (hp : p m = true) : sp_fst p 0 n = some m := by
  exact sp_fst_at (fun k _ h6 => h k h6) (Nat.zero_le _) (by omega) hp
theorem sp_fst_no0 {p : Nat → Bool} {n : Nat} (h : ∀ k, k < n → p k = false) : sp_fst p 0 n = none := sp_fst_no (fun k _ h6 => h k (by omega))
theorem kX11_isOnDuty : nwPV "NightwatchWallModel$Guard" yX11_isOnDuty cX11_isOnDuty 2 (some .boolean) 1 := ⟨⟨q1826, q1827, q119, q1828⟩, rfl, by decide +kernel, by decide +kernel, by decide +kernel⟩
theorem kX11_place : nwPV "NightwatchWallModel$Guard" yX11_place cX11_place 2 (some .int) 1 := ⟨⟨q1822, q1823, q119, q1824⟩, rfl, by decide +kernel, by decide +kernel, by decide +kernel⟩
theorem kX11_isTired : nwPV "NightwatchWallModel$Guard" yX11_isTired cX11_isTired 2 (some .boolean) 1 := ⟨⟨q1853, q1854, q119, q1855⟩, rfl, by decide +kernel, by decide +kernel, by decide +kernel⟩
theorem kX4_fogAt : nwPV "NightwatchWallModel" yX4_fogAt cX4_fogAt 5 (some .int) 1 := ⟨⟨q1846, qs59, q93, q1847⟩, rfl, by decide +kernel, by decide +kernel, by decide +kernel⟩
theorem kX4_sees_2 : nwPV "NightwatchWallModel" yX4_sees_2 cX4_sees_2 8 (some .boolean) 5 := ⟨⟨q1850, qs60, q93, q1851⟩, rfl, by decide +kernel, by decide +kernel, by decide +kernel⟩
theorem kX4_seers : nwPV "NightwatchWallModel" yX4_seers cX4_seers 7 (some .int) 2 := ⟨⟨q1858, qs61, q93, q1859⟩, rfl, by decide +kernel, by decide +kernel, by decide +kernel⟩
theorem kX4_onCell : nwPV "NightwatchWallModel" yX4_onCell cX4_onCell 5 (some .int) 2 := ⟨⟨q1870, qs63, q93, q1871⟩, rfl, by decide +kernel, by decide +kernel, by decide +kernel⟩
theorem kX4_isWalked : nwPV "NightwatchWallModel" yX4_isWalked cX4_isWalked 3 (some .boolean) 2 := ⟨⟨q1874, qs64, q93, q1875⟩, rfl, by decide +kernel, by decide +kernel, by decide +kernel⟩
theorem kX4_isEmpty : nwPV "NightwatchWallModel" yX4_isEmpty cX4_isEmpty 3 (some .boolean) 2 := ⟨⟨q1887, qs66, q93, q1888⟩, rfl, by decide +kernel, by decide +kernel, by decide +kernel⟩
theorem kX4_isWatched : nwPV "NightwatchWallModel" yX4_isWatched cX4_isWatched 6 (some .boolean) 2 := ⟨⟨q1842, qs58, q93, q1843⟩, rfl, by decide +kernel, by decide +kernel, by decide +kernel⟩
theorem kX4_brights : nwPV "NightwatchWallModel" yX4_brights cX4_brights 3 (some .int) 0 := ⟨⟨q1742, qs52, q93, q1743⟩, rfl, by decide +kernel, by decide +kernel, by decide +kernel⟩
set_option maxHeartbeats 4000000 in
theorem mX11_isOnDuty (l : Launch) (hf : l.flags = flags0) (d : nwD) (g cl : Nat) (P : Nat → Prop) (u : spGd) (gr : spGr) (t : Nat) (H : Heap) (hB : nd_B d ≤ H.size) (hg : nwMGd d g cl P u H) (hk : okGd gr u) (ht : t < 2 ^ 31) : nwRd l d yX11_isOnDuty cX11_isOnDuty 2 (some .boolean) 2 42 [.ref g, .int (nI t)] H (some (.int (b2i (sp_on u t)))) := by
  refine nw_rd "NightwatchWallModel$Guard" "isOnDuty" hf (by decide +kernel) rfl rfl hB (Nat.le_of_ble_eq_true rfl) ?_
  intro X C
  obtain ⟨⟨hab, hb2, hs1, hs2, hm1, hm2, hk3⟩, hcs⟩ := id hk
  obtain ⟨hgo, hgl⟩ := id hg
  show nwV X _ _ 2 H 0 0 0 [(0, .ref g), (1, .int (nI t))] []
  refine nw_iload_n C 1 dX11_isOnDuty_0 rfl 1 rfl ?_
  refine nw_aload_n C 0 dX11_isOnDuty_1 rfl 2 rfl ?_
  refine nw_get C hgo (T := TX11) rfl in_X11 0 (by decide) q1781 (Or.inl rfl) rfl dX11_isOnDuty_2 5 rfl ?_
  refine nw_aload_n C 0 dX11_isOnDuty_5 rfl 6 rfl ?_
  refine nw_get C hgo (T := TX11) rfl in_X11 1 (by decide) q1783 (Or.inl rfl) rfl dX11_isOnDuty_6 9 rfl ?_
  refine nw_callSN C (mX4_in _ C.hfl d t (gd_a u) (gd_b u) H hB (by omega)) kX4_in q1829 (As := [.int (nI t), .int (nI (gd_a u)), .int (nI (gd_b u))]) (rest := []) rfl rfl ⟨⟨Nat.le_of_ble_eq_true rfl, Nat.le_of_ble_eq_true rfl⟩, Nat.le_of_ble_eq_true rfl, Nat.le_of_ble_eq_true rfl⟩ (Nat.le_of_ble_eq_true rfl) (fun _ h8 h9 => absurd h9 (Nat.not_le.mpr h8)) dX11_isOnDuty_9 12 rfl (nw_rdK ?_) nw_noX
  exact nw_nret C dX11_isOnDuty_12 (b2i_narrow _) (Nat.le_refl _) (Nat.le_refl _) ⟨congrArg (fun z => some (Value.int (b2i z))) (show (decide ((gd_a u) ≤ t) && decide (t ≤ (gd_b u))) = (sp_on u t) from rfl), rfl⟩
set_option maxHeartbeats 4000000 in
theorem mX11_place (l : Launch) (hf : l.flags = flags0) (d : nwD) (g cl : Nat) (P : Nat → Prop) (u : spGd) (gr : spGr) (t : Nat) (H : Heap) (hB : nd_B d ≤ H.size) (hg : nwMGd d g cl P u H) (hk : okGd gr u) (hn : gr_n gr ≤ 64) (ht : t < 2 ^ 31) : nwRd l d yX11_place cX11_place 2 (some .int) 4 84 [.ref g, .int (nI t)] H (some (.int (oI (sp_place u t)))) := by
  refine nw_rd "NightwatchWallModel$Guard" "place" hf (by decide +kernel) rfl rfl hB (Nat.le_of_ble_eq_true rfl) ?_
  intro X C
  obtain ⟨⟨hab, hb2, hs1, hs2, hm1, hm2, hk3⟩, hcs⟩ := id hk
  obtain ⟨hgo, hgl⟩ := id hg
  show nwV X _ _ 2 H 0 0 0 [(0, .ref g), (1, .int (nI t))] []
  refine nw_aload_n C 0 dX11_place_0 rfl 1 rfl ?_
  refine nw_iload_n C 1 dX11_place_1 rfl 2 rfl ?_
  refine nw_callV C (mX11_isOnDuty _ C.hfl d g cl P u gr t H hB hg hk (by omega)) kX11_isOnDuty q1825 (hgo.is C (ci := 10) rfl) (As := [.int (nI t)]) (rest := []) rfl rfl ⟨⟨Nat.le_of_ble_eq_true rfl, Nat.le_of_ble_eq_true rfl⟩, Nat.le_of_ble_eq_true rfl, Nat.le_of_ble_eq_true rfl⟩ (Nat.le_of_ble_eq_true rfl) (fun _ h8 h9 => absurd h9 (Nat.not_le.mpr h8)) dX11_place_2 5 rfl (nw_rdK ?_) nw_noX
  refine nw_ifeqB C 47 dX11_place_5 (by decide) 8 rfl (fun h1 => ?_) (fun h1 => ?_)
  · refine nw_iconst C (oI none) dX11_place_47 (by decide) 48 rfl ?_
    exact nw_iret C dX11_place_48 (Nat.le_refl _) (Nat.le_refl _) ⟨congrArg (fun z => some (Value.int (oI z))) (show (none) = (sp_place u t) from (by unfold sp_place; simp [h1])), rfl⟩
  · obtain ⟨ha1, ha2⟩ := sp_on_iff.mp h1
    refine nw_aload_n C 0 dX11_place_8 rfl 9 rfl ?_
    refine nw_get C hgo (T := TX11) rfl in_X11 3 (by decide) q1787 (Or.inl rfl) rfl dX11_place_9 12 rfl ?_
    refine nw_iload_n C 1 dX11_place_12 rfl 13 rfl ?_
    refine nw_aload_n C 0 dX11_place_13 rfl 14 rfl ?_
    refine nw_get C hgo (T := TX11) rfl in_X11 0 (by decide) q1781 (Or.inl rfl) rfl dX11_place_14 17 rfl ?_
    refine nw_isubN C (by omega) dX11_place_17 18 rfl ?_
    refine nw_aload_n C 0 dX11_place_18 rfl 19 rfl ?_
    refine nw_get C hgo (T := TX11) rfl in_X11 2 (by decide) q1785 (Or.inl rfl) rfl dX11_place_19 22 rfl ?_
    refine nw_idivN C (by omega) dX11_place_22 23 rfl ?_
    have hd1 : (t - gd_a u) / gd_s u < 2 ^ 31 := Nat.lt_of_le_of_lt (Nat.div_le_self _ _) (by omega)
    refine nw_aload_n C 0 dX11_place_23 rfl 24 rfl ?_
    refine nw_get C hgo (T := TX11) rfl in_X11 3 (by decide) q1787 (Or.inl rfl) rfl dX11_place_24 27 rfl ?_
    refine nw_callF C (mJ3_size _ C.hfl d cl (gd_m u) (fun j => nd_bx d (gd_c u j)) P H hB hgl) kJ3_size (ci := 13) rfl q1831 q1611 (by decide +kernel) fc_List_size (hgl.is C) (As := []) (rest := [.int (nI ((t - (gd_a u)) / (gd_s u))), .ref cl]) rfl rfl ⟨⟨Nat.le_of_ble_eq_true rfl, Nat.le_of_ble_eq_true rfl⟩, Nat.le_of_ble_eq_true rfl, Nat.le_of_ble_eq_true rfl⟩ (Nat.le_of_ble_eq_true rfl) (fun _ h8 h9 => absurd h9 (Nat.not_le.mpr h8)) dX11_place_27 32 rfl (nw_rdK ?_) nw_noX
    refine nw_iremN C (by omega) dX11_place_32 33 rfl ?_
    have hd2 : (t - gd_a u) / gd_s u % gd_m u < gd_m u := Nat.mod_lt _ (by omega)
    refine nw_callF C (mJ3_get _ C.hfl d cl (gd_m u) (fun j => nd_bx d (gd_c u j)) P (((t - (gd_a u)) / (gd_s u)) % (gd_m u)) H hB hgl (by omega)) kJ3_get (ci := 13) rfl q1833 q1618 (by decide +kernel) fc_List_get (hgl.is C) (As := [.int (nI (((t - (gd_a u)) / (gd_s u)) % (gd_m u)))]) (rest := []) rfl rfl ⟨⟨Nat.le_of_ble_eq_true rfl, Nat.le_of_ble_eq_true rfl⟩, Nat.le_of_ble_eq_true rfl, Nat.le_of_ble_eq_true rfl⟩ (Nat.le_of_ble_eq_true rfl) (fun _ h8 h9 => absurd h9 (Nat.not_le.mpr h8)) dX11_place_33 38 rfl (nw_rdK ?_) nw_noX
    have hb2 : gd_c u (((t - (gd_a u)) / (gd_s u)) % (gd_m u)) < 128 := (by have := hcs (((t - (gd_a u)) / (gd_s u)) % (gd_m u)) (Nat.mod_lt _ (by omega)); omega)
    refine nw_cast C (ci := 16) rfl (C.E0.boxIs hb2) q1834 dX11_place_38 41 rfl ?_
    refine nw_callV C (mJ19_intValue _ C.hfl d (gd_c u (((t - (gd_a u)) / (gd_s u)) % (gd_m u))) H hB (by omega)) kJ19_intValue q1835 (C.E0.boxIs (by omega)) (As := []) (rest := []) rfl rfl ⟨⟨Nat.le_of_ble_eq_true rfl, Nat.le_of_ble_eq_true rfl⟩, Nat.le_of_ble_eq_true rfl, Nat.le_of_ble_eq_true rfl⟩ (Nat.le_of_ble_eq_true rfl) (fun _ h8 h9 => absurd h9 (Nat.not_le.mpr h8)) dX11_place_41 44 rfl (nw_rdK ?_) nw_noX
    refine nw_goto C 48 dX11_place_44 (by decide) ?_
    exact nw_iret C dX11_place_48 (Nat.le_refl _) (Nat.le_refl _) ⟨congrArg (fun z => some (Value.int (oI z))) (show (some (gd_c u (((t - (gd_a u)) / (gd_s u)) % (gd_m u)))) = (sp_place u t) from (by unfold sp_place; simp [h1])), rfl⟩
set_option maxHeartbeats 4000000 in
theorem mX11_isTired (l : Launch) (hf : l.flags = flags0) (d : nwD) (g cl : Nat) (P : Nat → Prop) (u : spGd) (gr : spGr) (t : Nat) (H : Heap) (hB : nd_B d ≤ H.size) (hg : nwMGd d g cl P u H) (hk : okGd gr u) (ht : t < 2 ^ 31) : nwRd l d yX11_isTired cX11_isTired 2 (some .boolean) 3 63 [.ref g, .int (nI t)] H (some (.int (b2i (sp_tired u t)))) := by
  refine nw_rd "NightwatchWallModel$Guard" "isTired" hf (by decide +kernel) rfl rfl hB (Nat.le_of_ble_eq_true rfl) ?_
  intro X C
  obtain ⟨⟨hab, hb2, hs1, hs2, hm1, hm2, hk3⟩, hcs⟩ := id hk
  obtain ⟨hgo, hgl⟩ := id hg
  show nwV X _ _ 2 H 0 0 0 [(0, .ref g), (1, .int (nI t))] []
  refine nw_aload_n C 0 dX11_isTired_0 rfl 1 rfl ?_
  refine nw_iload_n C 1 dX11_isTired_1 rfl 2 rfl ?_
  refine nw_callV C (mX11_isOnDuty _ C.hfl d g cl P u gr t H hB hg hk (by omega)) kX11_isOnDuty q1825 (hgo.is C (ci := 10) rfl) (As := [.int (nI t)]) (rest := []) rfl rfl ⟨⟨Nat.le_of_ble_eq_true rfl, Nat.le_of_ble_eq_true rfl⟩, Nat.le_of_ble_eq_true rfl, Nat.le_of_ble_eq_true rfl⟩ (Nat.le_of_ble_eq_true rfl) (fun _ h8 h9 => absurd h9 (Nat.not_le.mpr h8)) dX11_isTired_2 5 rfl (nw_rdK ?_) nw_noX
  refine nw_ifeqB C 23 dX11_isTired_5 (by decide) 8 rfl (fun h1 => ?_) (fun h1 => ?_)
  · refine nw_iconst C (nI 0) dX11_isTired_23 (by decide) 24 rfl ?_
    exact nw_nret C dX11_isTired_24 (b2i_narrow false) (Nat.le_refl _) (Nat.le_refl _) ⟨congrArg (fun z => some (Value.int (b2i z))) (show (false) = (sp_tired u t) from (by unfold sp_tired; simp [h1])), rfl⟩
  · obtain ⟨ha1, ha2⟩ := sp_on_iff.mp h1
    refine nw_iload_n C 1 dX11_isTired_8 rfl 9 rfl ?_
    refine nw_aload_n C 0 dX11_isTired_9 rfl 10 rfl ?_
    refine nw_get C hgo (T := TX11) rfl in_X11 0 (by decide) q1781 (Or.inl rfl) rfl dX11_isTired_10 13 rfl ?_
    refine nw_isubN C (by omega) dX11_isTired_13 14 rfl ?_
    refine nw_bipush C (nI 90) dX11_isTired_14 (by decide) 16 rfl ?_
    refine nw_icmpltN C (by omega) 23 dX11_isTired_16 (by decide) 19 rfl (fun h2 => ?_) (fun h2 => ?_)
    · refine nw_iconst C (nI 0) dX11_isTired_23 (by decide) 24 rfl ?_
      exact nw_nret C dX11_isTired_24 (b2i_narrow false) (Nat.le_refl _) (Nat.le_refl _) ⟨congrArg (fun z => some (Value.int (b2i z))) (show (false) = (sp_tired u t) from (by unfold sp_tired; simp [h1]; omega)), rfl⟩
    · refine nw_iconst C (nI 1) dX11_isTired_19 (by decide) 20 rfl ?_
      refine nw_goto C 24 dX11_isTired_20 (by decide) ?_
      exact nw_nret C dX11_isTired_24 (b2i_narrow true) (Nat.le_refl _) (Nat.le_refl _) ⟨congrArg (fun z => some (Value.int (b2i z))) (show (true) = (sp_tired u t) from (by unfold sp_tired; simp [h1]; omega)), rfl⟩
set_option maxHeartbeats 4000000 in
theorem mX4_seesG (l : Launch) (hf : l.flags = flags0) (d : nwD) (ro am : Nat → Nat) (y : Nat) (σ : spSg) (th : Int32) (g cl : Nat) (P : Nat → Prop) (u : spGd) (c t : Nat) (br : Bool) (fog : Nat) (H : Heap) (hB : nd_B d ≤ H.size) (hW : nwMC d ro am y σ th H) (okM : spOkM σ) (hg : nwMGd d g cl P u H) (hk : okGd (sg_gr σ) u) (hc : c < gr_n (sg_gr σ)) (ht : t < 2 ^ 31) (hf5 : fog ≤ 5) : nwRd l d yX4_sees_2 cX4_sees_2 8 (some .boolean) 5 105 [.ref y, .ref g, .int (nI c), .int (nI t), .int (b2i br), .int (nI fog)] H (some (.int (b2i (sp_sees (sg_gr σ) u c t br fog)))) := by
  refine nw_rd "NightwatchWallModel" "sees" hf (by decide +kernel) rfl rfl hB (Nat.le_of_ble_eq_true rfl) ?_
  intro X C
  obtain ⟨hmX, hmKi, hmLa, hmFo, hmGu, hmPo, hmIn, hmWi, hmWo, hmKe⟩ := id hW
  obtain ⟨okg, okl, okf, oku, okp, oki, okw, okd, okk, oka⟩ := id okM
  have hn64 : gr_n (sg_gr σ) ≤ 64 := okg.n
  have oku1 := oku.1
  have oki1 := oki.1
  have okp1 := okp.1
  have okw1 := okw.1
  have okl1 := okl.1
  have okf1 := okf.1
  have hE := C.E0
  show nwV X _ _ 8 H 0 0 0 [(0, .ref y), (1, .ref g), (2, .int (nI c)), (3, .int (nI t)), (4, .int (b2i br)), (5, .int (nI fog))] []
  refine nw_aload_n C 1 dX4_sees_2_0 rfl 1 rfl ?_
  refine nw_iload_n C 3 dX4_sees_2_1 rfl 2 rfl ?_
  refine nw_callV C (mX11_place _ C.hfl d g cl P u (sg_gr σ) t H hB hg hk (by omega) (by omega)) kX11_place q1821 (hg.1.is C (ci := 10) rfl) (As := [.int (nI t)]) (rest := []) rfl rfl ⟨⟨Nat.le_of_ble_eq_true rfl, Nat.le_of_ble_eq_true rfl⟩, Nat.le_of_ble_eq_true rfl, Nat.le_of_ble_eq_true rfl⟩ (Nat.le_of_ble_eq_true rfl) (fun _ h8 h9 => absurd h9 (Nat.not_le.mpr h8)) dX4_sees_2_2 5 rfl (nw_rdK ?_) nw_noX
  refine nw_istore C [(6, .int (oI (sp_place u t))), (0, .ref y), (1, .ref g), (2, .int (nI c)), (3, .int (nI t)), (4, .int (b2i br)), (5, .int (nI fog))] dX4_sees_2_5 (by decide) rfl 7 rfl ?_
  generalize hpl : sp_place u t = o
  rcases o with _ | p
  · show nwV X _ _ 8 H 0 0 7 [(6, .int (oI none)), (0, .ref y), (1, .ref g), (2, .int (nI c)), (3, .int (nI t)), (4, .int (b2i br)), (5, .int (nI fog))] []
    refine nw_iload C 0 dX4_sees_2_7 rfl 9 rfl ?_
    refine nw_iconst C (oI none) dX4_sees_2_9 (by decide) 10 rfl ?_
    refine nw_icmpneF C rfl 15 dX4_sees_2_10 (by decide) 13 rfl ?_
    refine nw_iconst C (nI 0) dX4_sees_2_13 (by decide) 14 rfl ?_
    exact nw_nret C dX4_sees_2_14 (b2i_narrow false) (Nat.le_refl _) (Nat.le_refl _) ⟨congrArg (fun z => some (Value.int (b2i z))) (show (false) = (sp_sees (sg_gr σ) u c t br fog) from (by unfold sp_sees sp_view; rw [hpl]; rfl)), rfl⟩
  · show nwV X _ _ 8 H 0 0 7 [(6, .int (nI p)), (0, .ref y), (1, .ref g), (2, .int (nI c)), (3, .int (nI t)), (4, .int (b2i br)), (5, .int (nI fog))] []
    have hpn := hk.cell hpl
    have hap := sp_apart_lt (okg.here hc) hpn hc
    refine nw_iload C 0 dX4_sees_2_7 rfl 9 rfl ?_
    refine nw_iconst C (oI none) dX4_sees_2_9 (by decide) 10 rfl ?_
    refine nw_icmpneT C (nI_m1 (by omega)) 15 dX4_sees_2_10 (by decide) ?_
    refine nw_iload C 5 dX4_sees_2_15 rfl 17 rfl ?_
    refine nw_ifeqB C 28 dX4_sees_2_17 (by decide) 20 rfl (fun h3 => ?_) (fun h3 => ?_)
    · refine nw_iconst C (nI 2) dX4_sees_2_28 (by decide) 29 rfl ?_
      refine nw_iload C 6 dX4_sees_2_29 rfl 31 rfl ?_
      refine nw_iconst C (nI 2) dX4_sees_2_31 (by decide) 32 rfl ?_
      refine nw_idivN C (by omega) dX4_sees_2_32 33 rfl ?_
      refine nw_isubN C (by omega) dX4_sees_2_33 34 rfl ?_
      refine nw_aload_n C 2 dX4_sees_2_34 rfl 35 rfl ?_
      refine nw_iload_n C 4 dX4_sees_2_35 rfl 36 rfl ?_
      refine nw_callV C (mX11_isTired _ C.hfl d g cl P u (sg_gr σ) t H hB hg hk (by omega)) kX11_isTired q1852 (hg.1.is C (ci := 10) rfl) (As := [.int (nI t)]) (rest := [.int (nI (2 - (fog / 2)))]) rfl rfl ⟨⟨Nat.le_of_ble_eq_true rfl, Nat.le_of_ble_eq_true rfl⟩, Nat.le_of_ble_eq_true rfl, Nat.le_of_ble_eq_true rfl⟩ (Nat.le_of_ble_eq_true rfl) (fun _ h8 h9 => absurd h9 (Nat.not_le.mpr h8)) dX4_sees_2_36 39 rfl (nw_rdK ?_) nw_noX
      refine nw_ifeqB C 46 dX4_sees_2_39 (by decide) 42 rfl (fun h4 => ?_) (fun h4 => ?_)
      · refine nw_iconst C (nI 0) dX4_sees_2_46 (by decide) 47 rfl ?_
        refine nw_isub C (nI (2 - (fog / 2)) - nI 0) dX4_sees_2_47 rfl 48 rfl ?_
        have hrg : sp_range br (sp_tired u t) fog = (2 - (fog / 2)) - 0 := by unfold sp_range; rw [h3, h4]; rfl
        refine nw_istore C [(7, .int (nI (2 - (fog / 2)) - nI 0)), (6, .int (nI p)), (0, .ref y), (1, .ref g), (2, .int (nI c)), (3, .int (nI t)), (4, .int (b2i br)), (5, .int (nI fog))] dX4_sees_2_48 (by decide) rfl 50 rfl ?_
        refine nw_iload C 1 dX4_sees_2_50 rfl 52 rfl ?_
        refine nw_iload_n C 4 dX4_sees_2_52 rfl 53 rfl ?_
        refine nw_icmpeqN C (by omega) 78 dX4_sees_2_53 (by decide) 56 rfl (fun h5 => ?_) (fun h5 => ?_)
        · refine nw_iconst C (nI 1) dX4_sees_2_78 (by decide) 79 rfl ?_
          refine nw_goto C 83 dX4_sees_2_79 (by decide) ?_
          exact nw_nret C dX4_sees_2_83 (b2i_narrow true) (Nat.le_refl _) (Nat.le_refl _) ⟨congrArg (fun z => some (Value.int (b2i z))) (show (true) = (sp_sees (sg_gr σ) u c t br fog) from (by rw [sp_seesM hpl, h5, sp_clear_self, Bool.true_and, eq_comm, decide_eq_true_eq]; unfold sp_apart sp_dist; omega)), rfl⟩
        · have hps := sp_apart_pos (okg.here hc) hpn hc h5
          refine nw_aload_n C 2 dX4_sees_2_56 rfl 57 rfl ?_
          refine nw_iload C 1 dX4_sees_2_57 rfl 59 rfl ?_
          refine nw_iload_n C 4 dX4_sees_2_59 rfl 60 rfl ?_
          refine nw_callV C (mX4_apart _ C.hfl d ro am y σ th p c H hB hW okM (by omega) (by omega)) kX4_apart q1752 (hmX.is C (ci := 9) rfl) (As := [.int (nI p), .int (nI c)]) (rest := []) rfl rfl ⟨⟨Nat.le_of_ble_eq_true rfl, Nat.le_of_ble_eq_true rfl⟩, Nat.le_of_ble_eq_true rfl, Nat.le_of_ble_eq_true rfl⟩ (Nat.le_of_ble_eq_true rfl) (fun _ h8 h9 => absurd h9 (Nat.not_le.mpr h8)) dX4_sees_2_60 63 rfl (nw_rdK ?_) nw_noX
          refine nw_iload C 0 dX4_sees_2_63 rfl 65 rfl ?_
          refine nw_icmpgt C 82 dX4_sees_2_65 (by decide) 68 rfl (fun h6 => ?_) (fun h6 => ?_)
          · refine nw_iconst C (nI 0) dX4_sees_2_82 (by decide) 83 rfl ?_
            exact nw_nret C dX4_sees_2_83 (b2i_narrow false) (Nat.le_refl _) (Nat.le_refl _) ⟨congrArg (fun z => some (Value.int (b2i z))) (show (false) = (sp_sees (sg_gr σ) u c t br fog) from (by rw [sp_seesM hpl, hrg, decide_eq_false (Nat.not_le.mpr ((nw_gtS hps (by omega) (by omega) (by omega)).mp h6)), Bool.and_false])), rfl⟩
          · have hle := Nat.not_lt.mp (fun e9 => h6 ((nw_gtS hps (by omega) (by omega) (by omega)).mpr e9))
            refine nw_aload_n C 2 dX4_sees_2_68 rfl 69 rfl ?_
            refine nw_iload C 1 dX4_sees_2_69 rfl 71 rfl ?_
            refine nw_iload_n C 4 dX4_sees_2_71 rfl 72 rfl ?_
            refine nw_callV C (mX4_isClear _ C.hfl d ro am y σ th p c H hB hW okM (by omega) (by omega)) kX4_isClear q1758 (hmX.is C (ci := 9) rfl) (As := [.int (nI p), .int (nI c)]) (rest := []) rfl rfl ⟨⟨Nat.le_of_ble_eq_true rfl, Nat.le_of_ble_eq_true rfl⟩, Nat.le_of_ble_eq_true rfl, Nat.le_of_ble_eq_true rfl⟩ (Nat.le_of_ble_eq_true rfl) (fun _ h8 h9 => absurd h9 (Nat.not_le.mpr h8)) dX4_sees_2_72 75 rfl (nw_rdK ?_) nw_noX
            refine nw_ifeqB C 82 dX4_sees_2_75 (by decide) 78 rfl (fun h7 => ?_) (fun h7 => ?_)
            · refine nw_iconst C (nI 0) dX4_sees_2_82 (by decide) 83 rfl ?_
              exact nw_nret C dX4_sees_2_83 (b2i_narrow false) (Nat.le_refl _) (Nat.le_refl _) ⟨congrArg (fun z => some (Value.int (b2i z))) (show (false) = (sp_sees (sg_gr σ) u c t br fog) from (by rw [sp_seesM hpl, h7]; rfl)), rfl⟩
            · refine nw_iconst C (nI 1) dX4_sees_2_78 (by decide) 79 rfl ?_
              refine nw_goto C 83 dX4_sees_2_79 (by decide) ?_
              exact nw_nret C dX4_sees_2_83 (b2i_narrow true) (Nat.le_refl _) (Nat.le_refl _) ⟨congrArg (fun z => some (Value.int (b2i z))) (show (true) = (sp_sees (sg_gr σ) u c t br fog) from (by rw [sp_seesM hpl, h7, Bool.true_and, eq_comm, decide_eq_true_eq, hrg]; exact hle)), rfl⟩
      · refine nw_iconst C (nI 1) dX4_sees_2_42 (by decide) 43 rfl ?_
        refine nw_goto C 47 dX4_sees_2_43 (by decide) ?_
        refine nw_isub C (nI (2 - (fog / 2)) - nI 1) dX4_sees_2_47 rfl 48 rfl ?_
        have hrg : sp_range br (sp_tired u t) fog = (2 - (fog / 2)) - 1 := by unfold sp_range; rw [h3, h4]; rfl
        refine nw_istore C [(7, .int (nI (2 - (fog / 2)) - nI 1)), (6, .int (nI p)), (0, .ref y), (1, .ref g), (2, .int (nI c)), (3, .int (nI t)), (4, .int (b2i br)), (5, .int (nI fog))] dX4_sees_2_48 (by decide) rfl 50 rfl ?_
        refine nw_iload C 1 dX4_sees_2_50 rfl 52 rfl ?_
        refine nw_iload_n C 4 dX4_sees_2_52 rfl 53 rfl ?_
        refine nw_icmpeqN C (by omega) 78 dX4_sees_2_53 (by decide) 56 rfl (fun h8 => ?_) (fun h8 => ?_)
        · refine nw_iconst C (nI 1) dX4_sees_2_78 (by decide) 79 rfl ?_
          refine nw_goto C 83 dX4_sees_2_79 (by decide) ?_
          exact nw_nret C dX4_sees_2_83 (b2i_narrow true) (Nat.le_refl _) (Nat.le_refl _) ⟨congrArg (fun z => some (Value.int (b2i z))) (show (true) = (sp_sees (sg_gr σ) u c t br fog) from (by rw [sp_seesM hpl, h8, sp_clear_self, Bool.true_and, eq_comm, decide_eq_true_eq]; unfold sp_apart sp_dist; omega)), rfl⟩
        · have hps := sp_apart_pos (okg.here hc) hpn hc h8
          refine nw_aload_n C 2 dX4_sees_2_56 rfl 57 rfl ?_
          refine nw_iload C 1 dX4_sees_2_57 rfl 59 rfl ?_
          refine nw_iload_n C 4 dX4_sees_2_59 rfl 60 rfl ?_
          refine nw_callV C (mX4_apart _ C.hfl d ro am y σ th p c H hB hW okM (by omega) (by omega)) kX4_apart q1752 (hmX.is C (ci := 9) rfl) (As := [.int (nI p), .int (nI c)]) (rest := []) rfl rfl ⟨⟨Nat.le_of_ble_eq_true rfl, Nat.le_of_ble_eq_true rfl⟩, Nat.le_of_ble_eq_true rfl, Nat.le_of_ble_eq_true rfl⟩ (Nat.le_of_ble_eq_true rfl) (fun _ h8 h9 => absurd h9 (Nat.not_le.mpr h8)) dX4_sees_2_60 63 rfl (nw_rdK ?_) nw_noX
          refine nw_iload C 0 dX4_sees_2_63 rfl 65 rfl ?_
          refine nw_icmpgt C 82 dX4_sees_2_65 (by decide) 68 rfl (fun h9 => ?_) (fun h9 => ?_)
          · refine nw_iconst C (nI 0) dX4_sees_2_82 (by decide) 83 rfl ?_
            exact nw_nret C dX4_sees_2_83 (b2i_narrow false) (Nat.le_refl _) (Nat.le_refl _) ⟨congrArg (fun z => some (Value.int (b2i z))) (show (false) = (sp_sees (sg_gr σ) u c t br fog) from (by rw [sp_seesM hpl, hrg, decide_eq_false (Nat.not_le.mpr ((nw_gtS hps (by omega) (by omega) (by omega)).mp h9)), Bool.and_false])), rfl⟩
          · have hle := Nat.not_lt.mp (fun e9 => h9 ((nw_gtS hps (by omega) (by omega) (by omega)).mpr e9))
            refine nw_aload_n C 2 dX4_sees_2_68 rfl 69 rfl ?_
            refine nw_iload C 1 dX4_sees_2_69 rfl 71 rfl ?_
            refine nw_iload_n C 4 dX4_sees_2_71 rfl 72 rfl ?_
            refine nw_callV C (mX4_isClear _ C.hfl d ro am y σ th p c H hB hW okM (by omega) (by omega)) kX4_isClear q1758 (hmX.is C (ci := 9) rfl) (As := [.int (nI p), .int (nI c)]) (rest := []) rfl rfl ⟨⟨Nat.le_of_ble_eq_true rfl, Nat.le_of_ble_eq_true rfl⟩, Nat.le_of_ble_eq_true rfl, Nat.le_of_ble_eq_true rfl⟩ (Nat.le_of_ble_eq_true rfl) (fun _ h8 h9 => absurd h9 (Nat.not_le.mpr h8)) dX4_sees_2_72 75 rfl (nw_rdK ?_) nw_noX
            refine nw_ifeqB C 82 dX4_sees_2_75 (by decide) 78 rfl (fun h10 => ?_) (fun h10 => ?_)
            · refine nw_iconst C (nI 0) dX4_sees_2_82 (by decide) 83 rfl ?_
              exact nw_nret C dX4_sees_2_83 (b2i_narrow false) (Nat.le_refl _) (Nat.le_refl _) ⟨congrArg (fun z => some (Value.int (b2i z))) (show (false) = (sp_sees (sg_gr σ) u c t br fog) from (by rw [sp_seesM hpl, h10]; rfl)), rfl⟩
            · refine nw_iconst C (nI 1) dX4_sees_2_78 (by decide) 79 rfl ?_
              refine nw_goto C 83 dX4_sees_2_79 (by decide) ?_
              exact nw_nret C dX4_sees_2_83 (b2i_narrow true) (Nat.le_refl _) (Nat.le_refl _) ⟨congrArg (fun z => some (Value.int (b2i z))) (show (true) = (sp_sees (sg_gr σ) u c t br fog) from (by rw [sp_seesM hpl, h10, Bool.true_and, eq_comm, decide_eq_true_eq, hrg]; exact hle)), rfl⟩
    · refine nw_bipush C (nI 7) dX4_sees_2_20 (by decide) 22 rfl ?_
      refine nw_iload C 6 dX4_sees_2_22 rfl 24 rfl ?_
      refine nw_isubN C (by omega) dX4_sees_2_24 25 rfl ?_
      refine nw_goto C 34 dX4_sees_2_25 (by decide) ?_
      refine nw_aload_n C 2 dX4_sees_2_34 rfl 35 rfl ?_
      refine nw_iload_n C 4 dX4_sees_2_35 rfl 36 rfl ?_
      refine nw_callV C (mX11_isTired _ C.hfl d g cl P u (sg_gr σ) t H hB hg hk (by omega)) kX11_isTired q1852 (hg.1.is C (ci := 10) rfl) (As := [.int (nI t)]) (rest := [.int (nI (7 - fog))]) rfl rfl ⟨⟨Nat.le_of_ble_eq_true rfl, Nat.le_of_ble_eq_true rfl⟩, Nat.le_of_ble_eq_true rfl, Nat.le_of_ble_eq_true rfl⟩ (Nat.le_of_ble_eq_true rfl) (fun _ h8 h9 => absurd h9 (Nat.not_le.mpr h8)) dX4_sees_2_36 39 rfl (nw_rdK ?_) nw_noX
      refine nw_ifeqB C 46 dX4_sees_2_39 (by decide) 42 rfl (fun h11 => ?_) (fun h11 => ?_)
      · refine nw_iconst C (nI 0) dX4_sees_2_46 (by decide) 47 rfl ?_
        refine nw_isub C (nI (7 - fog) - nI 0) dX4_sees_2_47 rfl 48 rfl ?_
        have hrg : sp_range br (sp_tired u t) fog = (7 - fog) - 0 := by unfold sp_range; rw [h3, h11]; rfl
        refine nw_istore C [(7, .int (nI (7 - fog) - nI 0)), (6, .int (nI p)), (0, .ref y), (1, .ref g), (2, .int (nI c)), (3, .int (nI t)), (4, .int (b2i br)), (5, .int (nI fog))] dX4_sees_2_48 (by decide) rfl 50 rfl ?_
        refine nw_iload C 1 dX4_sees_2_50 rfl 52 rfl ?_
        refine nw_iload_n C 4 dX4_sees_2_52 rfl 53 rfl ?_
        refine nw_icmpeqN C (by omega) 78 dX4_sees_2_53 (by decide) 56 rfl (fun h12 => ?_) (fun h12 => ?_)
        · refine nw_iconst C (nI 1) dX4_sees_2_78 (by decide) 79 rfl ?_
          refine nw_goto C 83 dX4_sees_2_79 (by decide) ?_
          exact nw_nret C dX4_sees_2_83 (b2i_narrow true) (Nat.le_refl _) (Nat.le_refl _) ⟨congrArg (fun z => some (Value.int (b2i z))) (show (true) = (sp_sees (sg_gr σ) u c t br fog) from (by rw [sp_seesM hpl, h12, sp_clear_self, Bool.true_and, eq_comm, decide_eq_true_eq]; unfold sp_apart sp_dist; omega)), rfl⟩
        · have hps := sp_apart_pos (okg.here hc) hpn hc h12
          refine nw_aload_n C 2 dX4_sees_2_56 rfl 57 rfl ?_
          refine nw_iload C 1 dX4_sees_2_57 rfl 59 rfl ?_
          refine nw_iload_n C 4 dX4_sees_2_59 rfl 60 rfl ?_
          refine nw_callV C (mX4_apart _ C.hfl d ro am y σ th p c H hB hW okM (by omega) (by omega)) kX4_apart q1752 (hmX.is C (ci := 9) rfl) (As := [.int (nI p), .int (nI c)]) (rest := []) rfl rfl ⟨⟨Nat.le_of_ble_eq_true rfl, Nat.le_of_ble_eq_true rfl⟩, Nat.le_of_ble_eq_true rfl, Nat.le_of_ble_eq_true rfl⟩ (Nat.le_of_ble_eq_true rfl) (fun _ h8 h9 => absurd h9 (Nat.not_le.mpr h8)) dX4_sees_2_60 63 rfl (nw_rdK ?_) nw_noX
          refine nw_iload C 0 dX4_sees_2_63 rfl 65 rfl ?_
          refine nw_icmpgt C 82 dX4_sees_2_65 (by decide) 68 rfl (fun h13 => ?_) (fun h13 => ?_)
          · refine nw_iconst C (nI 0) dX4_sees_2_82 (by decide) 83 rfl ?_
            exact nw_nret C dX4_sees_2_83 (b2i_narrow false) (Nat.le_refl _) (Nat.le_refl _) ⟨congrArg (fun z => some (Value.int (b2i z))) (show (false) = (sp_sees (sg_gr σ) u c t br fog) from (by rw [sp_seesM hpl, hrg, decide_eq_false (Nat.not_le.mpr ((nw_gtS hps (by omega) (by omega) (by omega)).mp h13)), Bool.and_false])), rfl⟩
          · have hle := Nat.not_lt.mp (fun e9 => h13 ((nw_gtS hps (by omega) (by omega) (by omega)).mpr e9))
            refine nw_aload_n C 2 dX4_sees_2_68 rfl 69 rfl ?_
            refine nw_iload C 1 dX4_sees_2_69 rfl 71 rfl ?_
            refine nw_iload_n C 4 dX4_sees_2_71 rfl 72 rfl ?_
            refine nw_callV C (mX4_isClear _ C.hfl d ro am y σ th p c H hB hW okM (by omega) (by omega)) kX4_isClear q1758 (hmX.is C (ci := 9) rfl) (As := [.int (nI p), .int (nI c)]) (rest := []) rfl rfl ⟨⟨Nat.le_of_ble_eq_true rfl, Nat.le_of_ble_eq_true rfl⟩, Nat.le_of_ble_eq_true rfl, Nat.le_of_ble_eq_true rfl⟩ (Nat.le_of_ble_eq_true rfl) (fun _ h8 h9 => absurd h9 (Nat.not_le.mpr h8)) dX4_sees_2_72 75 rfl (nw_rdK ?_) nw_noX
            refine nw_ifeqB C 82 dX4_sees_2_75 (by decide) 78 rfl (fun h14 => ?_) (fun h14 => ?_)
            · refine nw_iconst C (nI 0) dX4_sees_2_82 (by decide) 83 rfl ?_
              exact nw_nret C dX4_sees_2_83 (b2i_narrow false) (Nat.le_refl _) (Nat.le_refl _) ⟨congrArg (fun z => some (Value.int (b2i z))) (show (false) = (sp_sees (sg_gr σ) u c t br fog) from (by rw [sp_seesM hpl, h14]; rfl)), rfl⟩
            · refine nw_iconst C (nI 1) dX4_sees_2_78 (by decide) 79 rfl ?_
              refine nw_goto C 83 dX4_sees_2_79 (by decide) ?_
              exact nw_nret C dX4_sees_2_83 (b2i_narrow true) (Nat.le_refl _) (Nat.le_refl _) ⟨congrArg (fun z => some (Value.int (b2i z))) (show (true) = (sp_sees (sg_gr σ) u c t br fog) from (by rw [sp_seesM hpl, h14, Bool.true_and, eq_comm, decide_eq_true_eq, hrg]; exact hle)), rfl⟩
      · refine nw_iconst C (nI 1) dX4_sees_2_42 (by decide) 43 rfl ?_
        refine nw_goto C 47 dX4_sees_2_43 (by decide) ?_
        refine nw_isub C (nI (7 - fog) - nI 1) dX4_sees_2_47 rfl 48 rfl ?_
        have hrg : sp_range br (sp_tired u t) fog = (7 - fog) - 1 := by unfold sp_range; rw [h3, h11]; rfl
        refine nw_istore C [(7, .int (nI (7 - fog) - nI 1)), (6, .int (nI p)), (0, .ref y), (1, .ref g), (2, .int (nI c)), (3, .int (nI t)), (4, .int (b2i br)), (5, .int (nI fog))] dX4_sees_2_48 (by decide) rfl 50 rfl ?_
        refine nw_iload C 1 dX4_sees_2_50 rfl 52 rfl ?_
        refine nw_iload_n C 4 dX4_sees_2_52 rfl 53 rfl ?_
        refine nw_icmpeqN C (by omega) 78 dX4_sees_2_53 (by decide) 56 rfl (fun h15 => ?_) (fun h15 => ?_)
        · refine nw_iconst C (nI 1) dX4_sees_2_78 (by decide) 79 rfl ?_
          refine nw_goto C 83 dX4_sees_2_79 (by decide) ?_
          exact nw_nret C dX4_sees_2_83 (b2i_narrow true) (Nat.le_refl _) (Nat.le_refl _) ⟨congrArg (fun z => some (Value.int (b2i z))) (show (true) = (sp_sees (sg_gr σ) u c t br fog) from (by rw [sp_seesM hpl, h15, sp_clear_self, Bool.true_and, eq_comm, decide_eq_true_eq]; unfold sp_apart sp_dist; omega)), rfl⟩
        · have hps := sp_apart_pos (okg.here hc) hpn hc h15
          refine nw_aload_n C 2 dX4_sees_2_56 rfl 57 rfl ?_
          refine nw_iload C 1 dX4_sees_2_57 rfl 59 rfl ?_
          refine nw_iload_n C 4 dX4_sees_2_59 rfl 60 rfl ?_
          refine nw_callV C (mX4_apart _ C.hfl d ro am y σ th p c H hB hW okM (by omega) (by omega)) kX4_apart q1752 (hmX.is C (ci := 9) rfl) (As := [.int (nI p), .int (nI c)]) (rest := []) rfl rfl ⟨⟨Nat.le_of_ble_eq_true rfl, Nat.le_of_ble_eq_true rfl⟩, Nat.le_of_ble_eq_true rfl, Nat.le_of_ble_eq_true rfl⟩ (Nat.le_of_ble_eq_true rfl) (fun _ h8 h9 => absurd h9 (Nat.not_le.mpr h8)) dX4_sees_2_60 63 rfl (nw_rdK ?_) nw_noX
          refine nw_iload C 0 dX4_sees_2_63 rfl 65 rfl ?_
          refine nw_icmpgt C 82 dX4_sees_2_65 (by decide) 68 rfl (fun h16 => ?_) (fun h16 => ?_)
          · refine nw_iconst C (nI 0) dX4_sees_2_82 (by decide) 83 rfl ?_
            exact nw_nret C dX4_sees_2_83 (b2i_narrow false) (Nat.le_refl _) (Nat.le_refl _) ⟨congrArg (fun z => some (Value.int (b2i z))) (show (false) = (sp_sees (sg_gr σ) u c t br fog) from (by rw [sp_seesM hpl, hrg, decide_eq_false (Nat.not_le.mpr ((nw_gtS hps (by omega) (by omega) (by omega)).mp h16)), Bool.and_false])), rfl⟩
          · have hle := Nat.not_lt.mp (fun e9 => h16 ((nw_gtS hps (by omega) (by omega) (by omega)).mpr e9))
            refine nw_aload_n C 2 dX4_sees_2_68 rfl 69 rfl ?_
            refine nw_iload C 1 dX4_sees_2_69 rfl 71 rfl ?_
            refine nw_iload_n C 4 dX4_sees_2_71 rfl 72 rfl ?_
            refine nw_callV C (mX4_isClear _ C.hfl d ro am y σ th p c H hB hW okM (by omega) (by omega)) kX4_isClear q1758 (hmX.is C (ci := 9) rfl) (As := [.int (nI p), .int (nI c)]) (rest := []) rfl rfl ⟨⟨Nat.le_of_ble_eq_true rfl, Nat.le_of_ble_eq_true rfl⟩, Nat.le_of_ble_eq_true rfl, Nat.le_of_ble_eq_true rfl⟩ (Nat.le_of_ble_eq_true rfl) (fun _ h8 h9 => absurd h9 (Nat.not_le.mpr h8)) dX4_sees_2_72 75 rfl (nw_rdK ?_) nw_noX
            refine nw_ifeqB C 82 dX4_sees_2_75 (by decide) 78 rfl (fun h17 => ?_) (fun h17 => ?_)
            · refine nw_iconst C (nI 0) dX4_sees_2_82 (by decide) 83 rfl ?_
              exact nw_nret C dX4_sees_2_83 (b2i_narrow false) (Nat.le_refl _) (Nat.le_refl _) ⟨congrArg (fun z => some (Value.int (b2i z))) (show (false) = (sp_sees (sg_gr σ) u c t br fog) from (by rw [sp_seesM hpl, h17]; rfl)), rfl⟩
            · refine nw_iconst C (nI 1) dX4_sees_2_78 (by decide) 79 rfl ?_
              refine nw_goto C 83 dX4_sees_2_79 (by decide) ?_
              exact nw_nret C dX4_sees_2_83 (b2i_narrow true) (Nat.le_refl _) (Nat.le_refl _) ⟨congrArg (fun z => some (Value.int (b2i z))) (show (true) = (sp_sees (sg_gr σ) u c t br fog) from (by rw [sp_seesM hpl, h17, Bool.true_and, eq_comm, decide_eq_true_eq, hrg]; exact hle)), rfl⟩
set_option maxHeartbeats 4000000 in
theorem mX4_isWatched (l : Launch) (hf : l.flags = flags0) (d : nwD) (ro am : Nat → Nat) (y : Nat) (σ : spSg) (th : Int32) (c t : Nat) (H : Heap) (hB : nd_B d ≤ H.size) (hW : nwMC d ro am y σ th H) (okM : spOkM σ) (hc : c < gr_n (sg_gr σ)) (ht : t < 2 ^ 31) : nwRd l d yX4_isWatched cX4_isWatched 6 (some .boolean) 6 132 [.ref y, .int (nI c), .int (nI t)] H (some (.int (b2i (sp_watched (sg_gr σ) (sg_la σ) (sg_fo σ) (sg_gu σ) c t)))) := by
  refine nw_rd "NightwatchWallModel" "isWatched" hf (by decide +kernel) rfl rfl hB (Nat.le_of_ble_eq_true rfl) ?_
  intro X C
  obtain ⟨hmX, hmKi, hmLa, hmFo, hmGu, hmPo, hmIn, hmWi, hmWo, hmKe⟩ := id hW
  obtain ⟨okg, okl, okf, oku, okp, oki, okw, okd, okk, oka⟩ := id okM
  have hn64 : gr_n (sg_gr σ) ≤ 64 := okg.n
  have oku1 := oku.1
  have oki1 := oki.1
  have okp1 := okp.1
  have okw1 := okw.1
  have okl1 := okl.1
  have okf1 := okf.1
  have hE := C.E0
  have hf5 := sp_fog_le okf t
  show nwV X _ _ 6 H 0 0 0 [(0, .ref y), (1, .int (nI c)), (2, .int (nI t))] []
  refine nw_aload_n C 0 dX4_isWatched_0 rfl 1 rfl ?_
  refine nw_iload_n C 1 dX4_isWatched_1 rfl 2 rfl ?_
  refine nw_callV C (mX4_isBright _ C.hfl d ro am y σ th c H hB hW okM (by omega)) kX4_isBright q1744 (hmX.is C (ci := 9) rfl) (As := [.int (nI c)]) (rest := []) rfl rfl ⟨⟨Nat.le_of_ble_eq_true rfl, Nat.le_of_ble_eq_true rfl⟩, Nat.le_of_ble_eq_true rfl, Nat.le_of_ble_eq_true rfl⟩ (Nat.le_of_ble_eq_true rfl) (fun _ h8 h9 => absurd h9 (Nat.not_le.mpr h8)) dX4_isWatched_2 5 rfl (nw_rdK ?_) nw_noX
  refine nw_istore_n C [(3, .int (b2i (sp_bright (sg_gr σ) (sg_la σ) c))), (0, .ref y), (1, .int (nI c)), (2, .int (nI t))] dX4_isWatched_5 (by decide) rfl 6 rfl ?_
  refine nw_aload_n C 1 dX4_isWatched_6 rfl 7 rfl ?_
  refine nw_iload_n C 3 dX4_isWatched_7 rfl 8 rfl ?_
  refine nw_callV C (mX4_fogAt _ C.hfl d ro am y σ th t H hB hW okM (by omega)) kX4_fogAt q1844 (hmX.is C (ci := 9) rfl) (As := [.int (nI t)]) (rest := []) rfl rfl ⟨⟨Nat.le_of_ble_eq_true rfl, Nat.le_of_ble_eq_true rfl⟩, Nat.le_of_ble_eq_true rfl, Nat.le_of_ble_eq_true rfl⟩ (Nat.le_of_ble_eq_true rfl) (fun _ h8 h9 => absurd h9 (Nat.not_le.mpr h8)) dX4_isWatched_8 11 rfl (nw_rdK ?_) nw_noX
  refine nw_istore C [(4, .int (nI (sp_fog (sg_fo σ) t))), (3, .int (b2i (sp_bright (sg_gr σ) (sg_la σ) c))), (0, .ref y), (1, .int (nI c)), (2, .int (nI t))] dX4_isWatched_11 (by decide) rfl 13 rfl ?_
  refine nw_iconst C (nI 0) dX4_isWatched_13 (by decide) 14 rfl ?_
  refine nw_istore C [(5, .int (nI 0)), (4, .int (nI (sp_fog (sg_fo σ) t))), (3, .int (b2i (sp_bright (sg_gr σ) (sg_la σ) c))), (0, .ref y), (1, .int (nI c)), (2, .int (nI t))] dX4_isWatched_14 (by decide) rfl 16 rfl ?_
  have lp1 : ∀ (fu : Nat) (i : Nat), (i ≤ (sg_gu σ).1) → (∀ k, k < i → (sp_eye (sg_gr σ) (sg_la σ) (sg_fo σ) (sg_gu σ) c t) k = false) → (sg_gu σ).1 - i < fu → nwV X (nwNew H) (nwQE X (fun v H1 => v = some (.int (b2i (sp_watched (sg_gr σ) (sg_la σ) (sg_fo σ) (sg_gu σ) c t))) ∧ H1 = H) nwNo (nwNew H) 0 0) 6 H 0 0 16 [(0, .ref y), (1, .int (nI c)), (2, .int (nI t)), (3, .int (b2i (sp_bright (sg_gr σ) (sg_la σ) c))), (4, .int (nI (sp_fog (sg_fo σ) t))), (5, .int (nI i))] [] := by
    intro fu
    induction fu with
    | zero => intro i _ _ hm; exact absurd hm (Nat.not_lt_zero _)
    | succ fu ih_lp1 =>
      intro i hi hno hm
      refine nw_iload C 5 dX4_isWatched_16 rfl 18 rfl ?_
      refine nw_aload_n C 0 dX4_isWatched_18 rfl 19 rfl ?_
      refine nw_get C hmX (T := TX4) rfl in_X4 8 (by decide) q1630 (Or.inl rfl) rfl dX4_isWatched_19 22 rfl ?_
      refine nw_callF C (mJ3_size _ C.hfl d (am 3) ((sg_gu σ).1) (fun k => am (300 + k)) (fun q => ro q = 7004) H hB hmGu.1) kJ3_size (ci := 13) rfl q1607 q1611 (by decide +kernel) fc_List_size (hmGu.1.is C) (As := []) (rest := [.int (nI i)]) rfl rfl ⟨⟨Nat.le_of_ble_eq_true rfl, Nat.le_of_ble_eq_true rfl⟩, Nat.le_of_ble_eq_true rfl, Nat.le_of_ble_eq_true rfl⟩ (Nat.le_of_ble_eq_true rfl) (fun _ h8 h9 => absurd h9 (Nat.not_le.mpr h8)) dX4_isWatched_22 27 rfl (nw_rdK ?_) nw_noX
      refine nw_icmpgeN C (by omega) 64 dX4_isWatched_27 (by decide) 30 rfl (fun h2 => ?_) (fun h2 => ?_)
      · refine nw_iconst C (nI 0) dX4_isWatched_64 (by decide) 65 rfl ?_
        exact nw_nret C dX4_isWatched_65 (b2i_narrow false) (Nat.le_refl _) (Nat.le_refl _) ⟨congrArg (fun z => some (Value.int (b2i z))) (show (false) = (sp_watched (sg_gr σ) (sg_la σ) (sg_fo σ) (sg_gu σ) c t) from (sp_any_false.mpr (fun k hk => hno k (by omega))).symm), rfl⟩
      · refine nw_aload_n C 0 dX4_isWatched_30 rfl 31 rfl ?_
        refine nw_aload_n C 0 dX4_isWatched_31 rfl 32 rfl ?_
        refine nw_get C hmX (T := TX4) rfl in_X4 8 (by decide) q1630 (Or.inl rfl) rfl dX4_isWatched_32 35 rfl ?_
        refine nw_iload C 5 dX4_isWatched_35 rfl 37 rfl ?_
        refine nw_callF C (mJ3_get _ C.hfl d (am 3) ((sg_gu σ).1) (fun k => am (300 + k)) (fun q => ro q = 7004) i H hB hmGu.1 (by omega)) kJ3_get (ci := 13) rfl q1615 q1618 (by decide +kernel) fc_List_get (hmGu.1.is C) (As := [.int (nI i)]) (rest := [.ref y]) rfl rfl ⟨⟨Nat.le_of_ble_eq_true rfl, Nat.le_of_ble_eq_true rfl⟩, Nat.le_of_ble_eq_true rfl, Nat.le_of_ble_eq_true rfl⟩ (Nat.le_of_ble_eq_true rfl) (fun _ h8 h9 => absurd h9 (Nat.not_le.mpr h8)) dX4_isWatched_37 42 rfl (nw_rdK ?_) nw_noX
        have hg3 : nwMGd d (am (300 + i)) (am (400 + i)) (fun q => ro q = 7401 + i) ((sg_gu σ).2 i) H := hmGu.2 i (by omega)
        have hk4 : okGd (sg_gr σ) ((sg_gu σ).2 i) := oku.2 i (by omega)
        have hg5 : nwO d (am (300 + i)) 10 [.int (nI (gd_a ((sg_gu σ).2 i))), .int (nI (gd_b ((sg_gu σ).2 i))), .int (nI (gd_s ((sg_gu σ).2 i))), .ref (am (400 + i)), .int (nI (gd_k ((sg_gu σ).2 i))), .int (gd_h ((sg_gu σ).2 i))] H := hg3.1
        refine nw_cast C (ci := 10) rfl (hg5.is C (ci := 10) rfl) q1621 dX4_isWatched_42 45 rfl ?_
        refine nw_iload_n C 1 dX4_isWatched_45 rfl 46 rfl ?_
        refine nw_iload_n C 2 dX4_isWatched_46 rfl 47 rfl ?_
        refine nw_iload_n C 3 dX4_isWatched_47 rfl 48 rfl ?_
        refine nw_iload C 4 dX4_isWatched_48 rfl 50 rfl ?_
        refine nw_callV C (mX4_seesG _ C.hfl d ro am y σ th (am (300 + i)) (am (400 + i)) (fun q => ro q = 7401 + i) ((sg_gu σ).2 i) c t (sp_bright (sg_gr σ) (sg_la σ) c) (sp_fog (sg_fo σ) t) H hB hW okM hg3 hk4 (by omega) (by omega) (by omega)) kX4_sees_2 q1848 (hmX.is C (ci := 9) rfl) (As := [.ref (am (300 + i)), .int (nI c), .int (nI t), .int (b2i (sp_bright (sg_gr σ) (sg_la σ) c)), .int (nI (sp_fog (sg_fo σ) t))]) (rest := []) rfl rfl ⟨⟨Nat.le_of_ble_eq_true rfl, Nat.le_of_ble_eq_true rfl⟩, Nat.le_of_ble_eq_true rfl, Nat.le_of_ble_eq_true rfl⟩ (Nat.le_of_ble_eq_true rfl) (fun _ h8 h9 => absurd h9 (Nat.not_le.mpr h8)) dX4_isWatched_50 53 rfl (nw_rdK ?_) nw_noX
        refine nw_ifeqB C 58 dX4_isWatched_53 (by decide) 56 rfl (fun h6 => ?_) (fun h6 => ?_)
        · have hno1 : (sp_eye (sg_gr σ) (sg_la σ) (sg_fo σ) (sg_gu σ) c t) i = false := h6
          refine nw_iincN C 5 (c0 := 1) [(5, .int (nI (i + 1))), (0, .ref y), (1, .int (nI c)), (2, .int (nI t)), (3, .int (b2i (sp_bright (sg_gr σ) (sg_la σ) c))), (4, .int (nI (sp_fog (sg_fo σ) t)))] dX4_isWatched_58 rfl (by decide) rfl 61 rfl ?_
          refine nw_goto C 16 dX4_isWatched_61 (by decide) ?_
          exact (nw_sub [1, 2, 3, 4, 5, 0] rfl (ih_lp1 (i + 1) (by omega) (fun k hk => (Nat.lt_or_ge k i).elim (fun g5 => hno k g5) (fun g5 => by rw [show k = i by omega]; exact hno1)) (by omega)))
        · refine nw_iconst C (nI 1) dX4_isWatched_56 (by decide) 57 rfl ?_
          exact nw_nret C dX4_isWatched_57 (b2i_narrow true) (Nat.le_refl _) (Nat.le_refl _) ⟨congrArg (fun z => some (Value.int (b2i z))) (show (true) = (sp_watched (sg_gr σ) (sg_la σ) (sg_fo σ) (sg_gu σ) c t) from (sp_any_iff.mpr ⟨i, by omega, h6⟩).symm), rfl⟩
  exact (nw_sub [3, 4, 5, 2, 1, 0] rfl (lp1 _ 0 (Nat.zero_le _) (fun k hk => absurd hk (Nat.not_lt_zero k)) (Nat.lt_succ_self _)))
set_option maxHeartbeats 4000000 in
theorem mX4_seers (l : Launch) (hf : l.flags = flags0) (d : nwD) (ro am : Nat → Nat) (y : Nat) (σ : spSg) (th : Int32) (c t : Nat) (H : Heap) (hB : nd_B d ≤ H.size) (hW : nwMC d ro am y σ th H) (okM : spOkM σ) (hc : c < gr_n (sg_gr σ)) (ht : t < 2 ^ 31) : nwRd l d yX4_seers cX4_seers 7 (some .int) 6 132 [.ref y, .int (nI c), .int (nI t)] H (some (.int (sp_watchers (sg_gr σ) (sg_la σ) (sg_fo σ) (sg_gu σ) c t))) := by
  refine nw_rd "NightwatchWallModel" "seers" hf (by decide +kernel) rfl rfl hB (Nat.le_of_ble_eq_true rfl) ?_
  intro X C
  obtain ⟨hmX, hmKi, hmLa, hmFo, hmGu, hmPo, hmIn, hmWi, hmWo, hmKe⟩ := id hW
  obtain ⟨okg, okl, okf, oku, okp, oki, okw, okd, okk, oka⟩ := id okM
  have hn64 : gr_n (sg_gr σ) ≤ 64 := okg.n
  have oku1 := oku.1
  have oki1 := oki.1
  have okp1 := okp.1
  have okw1 := okw.1
  have okl1 := okl.1
  have okf1 := okf.1
  have hE := C.E0
  have hf5 := sp_fog_le okf t
  show nwV X _ _ 7 H 0 0 0 [(0, .ref y), (1, .int (nI c)), (2, .int (nI t))] []
  refine nw_aload_n C 0 dX4_seers_0 rfl 1 rfl ?_
  refine nw_iload_n C 1 dX4_seers_1 rfl 2 rfl ?_
  refine nw_callV C (mX4_isBright _ C.hfl d ro am y σ th c H hB hW okM (by omega)) kX4_isBright q1744 (hmX.is C (ci := 9) rfl) (As := [.int (nI c)]) (rest := []) rfl rfl ⟨⟨Nat.le_of_ble_eq_true rfl, Nat.le_of_ble_eq_true rfl⟩, Nat.le_of_ble_eq_true rfl, Nat.le_of_ble_eq_true rfl⟩ (Nat.le_of_ble_eq_true rfl) (fun _ h8 h9 => absurd h9 (Nat.not_le.mpr h8)) dX4_seers_2 5 rfl (nw_rdK ?_) nw_noX
  refine nw_istore_n C [(3, .int (b2i (sp_bright (sg_gr σ) (sg_la σ) c))), (0, .ref y), (1, .int (nI c)), (2, .int (nI t))] dX4_seers_5 (by decide) rfl 6 rfl ?_
  refine nw_aload_n C 1 dX4_seers_6 rfl 7 rfl ?_
  refine nw_iload_n C 3 dX4_seers_7 rfl 8 rfl ?_
  refine nw_callV C (mX4_fogAt _ C.hfl d ro am y σ th t H hB hW okM (by omega)) kX4_fogAt q1844 (hmX.is C (ci := 9) rfl) (As := [.int (nI t)]) (rest := []) rfl rfl ⟨⟨Nat.le_of_ble_eq_true rfl, Nat.le_of_ble_eq_true rfl⟩, Nat.le_of_ble_eq_true rfl, Nat.le_of_ble_eq_true rfl⟩ (Nat.le_of_ble_eq_true rfl) (fun _ h8 h9 => absurd h9 (Nat.not_le.mpr h8)) dX4_seers_8 11 rfl (nw_rdK ?_) nw_noX
  refine nw_istore C [(4, .int (nI (sp_fog (sg_fo σ) t))), (3, .int (b2i (sp_bright (sg_gr σ) (sg_la σ) c))), (0, .ref y), (1, .int (nI c)), (2, .int (nI t))] dX4_seers_11 (by decide) rfl 13 rfl ?_
  refine nw_iconst C (nI 0) dX4_seers_13 (by decide) 14 rfl ?_
  refine nw_istore C [(5, .int (nI 0)), (4, .int (nI (sp_fog (sg_fo σ) t))), (3, .int (b2i (sp_bright (sg_gr σ) (sg_la σ) c))), (0, .ref y), (1, .int (nI c)), (2, .int (nI t))] dX4_seers_14 (by decide) rfl 16 rfl ?_
  refine nw_iconst C (nI 0) dX4_seers_16 (by decide) 17 rfl ?_
  refine nw_istore C [(6, .int (nI 0)), (5, .int (nI 0)), (4, .int (nI (sp_fog (sg_fo σ) t))), (3, .int (b2i (sp_bright (sg_gr σ) (sg_la σ) c))), (0, .ref y), (1, .int (nI c)), (2, .int (nI t))] dX4_seers_17 (by decide) rfl 19 rfl ?_
  have lp1 : ∀ (fu : Nat) (i : Nat) (mm : Int32), (i ≤ (sg_gu σ).1) → (mm = sp_bits (sp_eye (sg_gr σ) (sg_la σ) (sg_fo σ) (sg_gu σ) c t) i) → (sg_gu σ).1 - i < fu → nwV X (nwNew H) (nwQE X (fun v H1 => v = some (.int (sp_watchers (sg_gr σ) (sg_la σ) (sg_fo σ) (sg_gu σ) c t)) ∧ H1 = H) nwNo (nwNew H) 0 0) 7 H 0 0 19 [(0, .ref y), (1, .int (nI c)), (2, .int (nI t)), (3, .int (b2i (sp_bright (sg_gr σ) (sg_la σ) c))), (4, .int (nI (sp_fog (sg_fo σ) t))), (5, .int mm), (6, .int (nI i))] [] := by
    intro fu
    induction fu with
    | zero => intro i mm _ _ hm; exact absurd hm (Nat.not_lt_zero _)
    | succ fu ih_lp1 =>
      intro i mm hi hmm hm
      refine nw_iload C 6 dX4_seers_19 rfl 21 rfl ?_
      refine nw_aload_n C 0 dX4_seers_21 rfl 22 rfl ?_
      refine nw_get C hmX (T := TX4) rfl in_X4 8 (by decide) q1630 (Or.inl rfl) rfl dX4_seers_22 25 rfl ?_
      refine nw_callF C (mJ3_size _ C.hfl d (am 3) ((sg_gu σ).1) (fun k => am (300 + k)) (fun q => ro q = 7004) H hB hmGu.1) kJ3_size (ci := 13) rfl q1607 q1611 (by decide +kernel) fc_List_size (hmGu.1.is C) (As := []) (rest := [.int (nI i)]) rfl rfl ⟨⟨Nat.le_of_ble_eq_true rfl, Nat.le_of_ble_eq_true rfl⟩, Nat.le_of_ble_eq_true rfl, Nat.le_of_ble_eq_true rfl⟩ (Nat.le_of_ble_eq_true rfl) (fun _ h8 h9 => absurd h9 (Nat.not_le.mpr h8)) dX4_seers_25 30 rfl (nw_rdK ?_) nw_noX
      refine nw_icmpgeN C (by omega) 78 dX4_seers_30 (by decide) 33 rfl (fun h2 => ?_) (fun h2 => ?_)
      · refine nw_iload C 5 dX4_seers_78 rfl 80 rfl ?_
        exact nw_iret C dX4_seers_80 (Nat.le_refl _) (Nat.le_refl _) ⟨congrArg (fun z => some (Value.int z)) (show (mm) = (sp_watchers (sg_gr σ) (sg_la σ) (sg_fo σ) (sg_gu σ) c t) from (by rw [hmm, show i = (sg_gu σ).1 by omega]; rfl)), rfl⟩
      · refine nw_iload C 5 dX4_seers_33 rfl 35 rfl ?_
        refine nw_aload_n C 0 dX4_seers_35 rfl 36 rfl ?_
        refine nw_aload_n C 0 dX4_seers_36 rfl 37 rfl ?_
        refine nw_get C hmX (T := TX4) rfl in_X4 8 (by decide) q1630 (Or.inl rfl) rfl dX4_seers_37 40 rfl ?_
        refine nw_iload C 6 dX4_seers_40 rfl 42 rfl ?_
        refine nw_callF C (mJ3_get _ C.hfl d (am 3) ((sg_gu σ).1) (fun k => am (300 + k)) (fun q => ro q = 7004) i H hB hmGu.1 (by omega)) kJ3_get (ci := 13) rfl q1615 q1618 (by decide +kernel) fc_List_get (hmGu.1.is C) (As := [.int (nI i)]) (rest := [.ref y, .int mm]) rfl rfl ⟨⟨Nat.le_of_ble_eq_true rfl, Nat.le_of_ble_eq_true rfl⟩, Nat.le_of_ble_eq_true rfl, Nat.le_of_ble_eq_true rfl⟩ (Nat.le_of_ble_eq_true rfl) (fun _ h8 h9 => absurd h9 (Nat.not_le.mpr h8)) dX4_seers_42 47 rfl (nw_rdK ?_) nw_noX
        have hg3 : nwMGd d (am (300 + i)) (am (400 + i)) (fun q => ro q = 7401 + i) ((sg_gu σ).2 i) H := hmGu.2 i (by omega)
        have hk4 : okGd (sg_gr σ) ((sg_gu σ).2 i) := oku.2 i (by omega)
        have hg5 : nwO d (am (300 + i)) 10 [.int (nI (gd_a ((sg_gu σ).2 i))), .int (nI (gd_b ((sg_gu σ).2 i))), .int (nI (gd_s ((sg_gu σ).2 i))), .ref (am (400 + i)), .int (nI (gd_k ((sg_gu σ).2 i))), .int (gd_h ((sg_gu σ).2 i))] H := hg3.1
        refine nw_cast C (ci := 10) rfl (hg5.is C (ci := 10) rfl) q1621 dX4_seers_47 50 rfl ?_
        refine nw_iload_n C 1 dX4_seers_50 rfl 51 rfl ?_
        refine nw_iload_n C 2 dX4_seers_51 rfl 52 rfl ?_
        refine nw_iload_n C 3 dX4_seers_52 rfl 53 rfl ?_
        refine nw_iload C 4 dX4_seers_53 rfl 55 rfl ?_
        refine nw_callV C (mX4_seesG _ C.hfl d ro am y σ th (am (300 + i)) (am (400 + i)) (fun q => ro q = 7401 + i) ((sg_gu σ).2 i) c t (sp_bright (sg_gr σ) (sg_la σ) c) (sp_fog (sg_fo σ) t) H hB hW okM hg3 hk4 (by omega) (by omega) (by omega)) kX4_sees_2 q1848 (hmX.is C (ci := 9) rfl) (As := [.ref (am (300 + i)), .int (nI c), .int (nI t), .int (b2i (sp_bright (sg_gr σ) (sg_la σ) c)), .int (nI (sp_fog (sg_fo σ) t))]) (rest := [.int mm]) rfl rfl ⟨⟨Nat.le_of_ble_eq_true rfl, Nat.le_of_ble_eq_true rfl⟩, Nat.le_of_ble_eq_true rfl, Nat.le_of_ble_eq_true rfl⟩ (Nat.le_of_ble_eq_true rfl) (fun _ h8 h9 => absurd h9 (Nat.not_le.mpr h8)) dX4_seers_55 58 rfl (nw_rdK ?_) nw_noX
        refine nw_ifeqB C 68 dX4_seers_58 (by decide) 61 rfl (fun h6 => ?_) (fun h6 => ?_)
        · refine nw_iconst C (nI 0) dX4_seers_68 (by decide) 69 rfl ?_
          refine nw_ior C (mm ||| (nI 0)) dX4_seers_69 rfl 70 rfl ?_
          refine nw_istore C [(5, .int (mm ||| (nI 0))), (0, .ref y), (1, .int (nI c)), (2, .int (nI t)), (3, .int (b2i (sp_bright (sg_gr σ) (sg_la σ) c))), (4, .int (nI (sp_fog (sg_fo σ) t))), (6, .int (nI i))] dX4_seers_70 (by decide) rfl 72 rfl ?_
          refine nw_iincN C 6 (c0 := 1) [(6, .int (nI (i + 1))), (5, .int (mm ||| (nI 0))), (0, .ref y), (1, .int (nI c)), (2, .int (nI t)), (3, .int (b2i (sp_bright (sg_gr σ) (sg_la σ) c))), (4, .int (nI (sp_fog (sg_fo σ) t)))] dX4_seers_72 rfl (by decide) rfl 75 rfl ?_
          refine nw_goto C 19 dX4_seers_75 (by decide) ?_
          exact (nw_sub [2, 3, 4, 5, 6, 1, 0] rfl (ih_lp1 (i + 1) (mm ||| (nI 0)) (by omega) (by rw [sp_bits_f0 (p := (sp_eye (sg_gr σ) (sg_la σ) (sg_fo σ) (sg_gu σ) c t)) (n := i) h6, ← hmm]) (by omega)))
        · refine nw_iconst C (nI 1) dX4_seers_61 (by decide) 62 rfl ?_
          refine nw_iload C 6 dX4_seers_62 rfl 64 rfl ?_
          refine nw_ishl C ((nI 1) <<< ((nI i) &&& 31)) dX4_seers_64 rfl 65 rfl ?_
          refine nw_goto C 69 dX4_seers_65 (by decide) ?_
          refine nw_ior C (mm ||| ((nI 1) <<< ((nI i) &&& 31))) dX4_seers_69 rfl 70 rfl ?_
          refine nw_istore C [(5, .int (mm ||| ((nI 1) <<< ((nI i) &&& 31)))), (0, .ref y), (1, .int (nI c)), (2, .int (nI t)), (3, .int (b2i (sp_bright (sg_gr σ) (sg_la σ) c))), (4, .int (nI (sp_fog (sg_fo σ) t))), (6, .int (nI i))] dX4_seers_70 (by decide) rfl 72 rfl ?_
          refine nw_iincN C 6 (c0 := 1) [(6, .int (nI (i + 1))), (5, .int (mm ||| ((nI 1) <<< ((nI i) &&& 31)))), (0, .ref y), (1, .int (nI c)), (2, .int (nI t)), (3, .int (b2i (sp_bright (sg_gr σ) (sg_la σ) c))), (4, .int (nI (sp_fog (sg_fo σ) t)))] dX4_seers_72 rfl (by decide) rfl 75 rfl ?_
          refine nw_goto C 19 dX4_seers_75 (by decide) ?_
          exact (nw_sub [2, 3, 4, 5, 6, 1, 0] rfl (ih_lp1 (i + 1) (mm ||| ((nI 1) <<< ((nI i) &&& 31))) (by omega) (by rw [sp_bits_t (p := (sp_eye (sg_gr σ) (sg_la σ) (sg_fo σ) (sg_gu σ) c t)) (n := i) h6, ← hmm]) (by omega)))
  exact (nw_sub [4, 5, 6, 3, 2, 1, 0] rfl (lp1 _ 0 (nI 0) (Nat.zero_le _) rfl (Nat.lt_succ_self _)))
set_option maxHeartbeats 4000000 in
theorem mX4_onCell (l : Launch) (hf : l.flags = flags0) (d : nwD) (ro am : Nat → Nat) (y : Nat) (σ : spSg) (th : Int32) (c t : Nat) (H : Heap) (hB : nd_B d ≤ H.size) (hW : nwMC d ro am y σ th H) (okM : spOkM σ) (hc : c < 2 ^ 31) (ht : t < 2 ^ 31) : nwRd l d yX4_onCell cX4_onCell 5 (some .int) 5 105 [.ref y, .int (nI c), .int (nI t)] H (some (.int (sp_guardsOn (sg_gu σ) c t))) := by
  refine nw_rd "NightwatchWallModel" "onCell" hf (by decide +kernel) rfl rfl hB (Nat.le_of_ble_eq_true rfl) ?_
  intro X C
  obtain ⟨hmX, hmKi, hmLa, hmFo, hmGu, hmPo, hmIn, hmWi, hmWo, hmKe⟩ := id hW
  obtain ⟨okg, okl, okf, oku, okp, oki, okw, okd, okk, oka⟩ := id okM
  have hn64 : gr_n (sg_gr σ) ≤ 64 := okg.n
  have oku1 := oku.1
  have oki1 := oki.1
  have okp1 := okp.1
  have okw1 := okw.1
  have okl1 := okl.1
  have okf1 := okf.1
  have hE := C.E0
  show nwV X _ _ 5 H 0 0 0 [(0, .ref y), (1, .int (nI c)), (2, .int (nI t))] []
  refine nw_iconst C (nI 0) dX4_onCell_0 (by decide) 1 rfl ?_
  refine nw_istore_n C [(3, .int (nI 0)), (0, .ref y), (1, .int (nI c)), (2, .int (nI t))] dX4_onCell_1 (by decide) rfl 2 rfl ?_
  refine nw_iconst C (nI 0) dX4_onCell_2 (by decide) 3 rfl ?_
  refine nw_istore C [(4, .int (nI 0)), (3, .int (nI 0)), (0, .ref y), (1, .int (nI c)), (2, .int (nI t))] dX4_onCell_3 (by decide) rfl 5 rfl ?_
  have lp1 : ∀ (fu : Nat) (i : Nat) (mm : Int32), (i ≤ (sg_gu σ).1) → (mm = sp_bits (sp_onc (sg_gu σ) c t) i) → (sg_gu σ).1 - i < fu → nwV X (nwNew H) (nwQE X (fun v H1 => v = some (.int (sp_guardsOn (sg_gu σ) c t)) ∧ H1 = H) nwNo (nwNew H) 0 0) 5 H 0 0 5 [(0, .ref y), (1, .int (nI c)), (2, .int (nI t)), (3, .int mm), (4, .int (nI i))] [] := by
    intro fu
    induction fu with
    | zero => intro i mm _ _ hm; exact absurd hm (Nat.not_lt_zero _)
    | succ fu ih_lp1 =>
      intro i mm hi hmm hm
      refine nw_iload C 4 dX4_onCell_5 rfl 7 rfl ?_
      refine nw_aload_n C 0 dX4_onCell_7 rfl 8 rfl ?_
      refine nw_get C hmX (T := TX4) rfl in_X4 8 (by decide) q1630 (Or.inl rfl) rfl dX4_onCell_8 11 rfl ?_
      refine nw_callF C (mJ3_size _ C.hfl d (am 3) ((sg_gu σ).1) (fun k => am (300 + k)) (fun q => ro q = 7004) H hB hmGu.1) kJ3_size (ci := 13) rfl q1607 q1611 (by decide +kernel) fc_List_size (hmGu.1.is C) (As := []) (rest := [.int (nI i)]) rfl rfl ⟨⟨Nat.le_of_ble_eq_true rfl, Nat.le_of_ble_eq_true rfl⟩, Nat.le_of_ble_eq_true rfl, Nat.le_of_ble_eq_true rfl⟩ (Nat.le_of_ble_eq_true rfl) (fun _ h8 h9 => absurd h9 (Nat.not_le.mpr h8)) dX4_onCell_11 16 rfl (nw_rdK ?_) nw_noX
      refine nw_icmpgeN C (by omega) 58 dX4_onCell_16 (by decide) 19 rfl (fun h2 => ?_) (fun h2 => ?_)
      · refine nw_iload_n C 3 dX4_onCell_58 rfl 59 rfl ?_
        exact nw_iret C dX4_onCell_59 (Nat.le_refl _) (Nat.le_refl _) ⟨congrArg (fun z => some (Value.int z)) (show (mm) = (sp_guardsOn (sg_gu σ) c t) from (by rw [hmm, show i = (sg_gu σ).1 by omega]; rfl)), rfl⟩
      · refine nw_iload_n C 3 dX4_onCell_19 rfl 20 rfl ?_
        refine nw_aload_n C 0 dX4_onCell_20 rfl 21 rfl ?_
        refine nw_get C hmX (T := TX4) rfl in_X4 8 (by decide) q1630 (Or.inl rfl) rfl dX4_onCell_21 24 rfl ?_
        refine nw_iload C 4 dX4_onCell_24 rfl 26 rfl ?_
        refine nw_callF C (mJ3_get _ C.hfl d (am 3) ((sg_gu σ).1) (fun k => am (300 + k)) (fun q => ro q = 7004) i H hB hmGu.1 (by omega)) kJ3_get (ci := 13) rfl q1615 q1618 (by decide +kernel) fc_List_get (hmGu.1.is C) (As := [.int (nI i)]) (rest := [.int mm]) rfl rfl ⟨⟨Nat.le_of_ble_eq_true rfl, Nat.le_of_ble_eq_true rfl⟩, Nat.le_of_ble_eq_true rfl, Nat.le_of_ble_eq_true rfl⟩ (Nat.le_of_ble_eq_true rfl) (fun _ h8 h9 => absurd h9 (Nat.not_le.mpr h8)) dX4_onCell_26 31 rfl (nw_rdK ?_) nw_noX
        have hg3 : nwMGd d (am (300 + i)) (am (400 + i)) (fun q => ro q = 7401 + i) ((sg_gu σ).2 i) H := hmGu.2 i (by omega)
        have hk4 : okGd (sg_gr σ) ((sg_gu σ).2 i) := oku.2 i (by omega)
        have hg5 : nwO d (am (300 + i)) 10 [.int (nI (gd_a ((sg_gu σ).2 i))), .int (nI (gd_b ((sg_gu σ).2 i))), .int (nI (gd_s ((sg_gu σ).2 i))), .ref (am (400 + i)), .int (nI (gd_k ((sg_gu σ).2 i))), .int (gd_h ((sg_gu σ).2 i))] H := hg3.1
        refine nw_cast C (ci := 10) rfl (hg5.is C (ci := 10) rfl) q1621 dX4_onCell_31 34 rfl ?_
        refine nw_iload_n C 2 dX4_onCell_34 rfl 35 rfl ?_
        refine nw_callV C (mX11_place _ C.hfl d (am (300 + i)) (am (400 + i)) (fun q => ro q = 7401 + i) ((sg_gu σ).2 i) (sg_gr σ) t H hB hg3 hk4 (by omega) (by omega)) kX11_place q1821 (hg5.is C (ci := 10) rfl) (As := [.int (nI t)]) (rest := [.int mm]) rfl rfl ⟨⟨Nat.le_of_ble_eq_true rfl, Nat.le_of_ble_eq_true rfl⟩, Nat.le_of_ble_eq_true rfl, Nat.le_of_ble_eq_true rfl⟩ (Nat.le_of_ble_eq_true rfl) (fun _ h8 h9 => absurd h9 (Nat.not_le.mpr h8)) dX4_onCell_35 38 rfl (nw_rdK ?_) nw_noX
        refine nw_iload_n C 1 dX4_onCell_38 rfl 39 rfl ?_
        refine nw_icmpneO C (sp_place ((sg_gu σ).2 i) t) (some c) (fun v hv => by have := (oku.2 i (by omega)).cell hv; omega) (fun v hv => by cases hv; omega) 49 dX4_onCell_39 (by decide) 42 rfl (fun h6 => ?_) (fun h6 => ?_)
        · refine nw_iconst C (nI 0) dX4_onCell_49 (by decide) 50 rfl ?_
          refine nw_ior C (mm ||| (nI 0)) dX4_onCell_50 rfl 51 rfl ?_
          refine nw_istore_n C [(3, .int (mm ||| (nI 0))), (0, .ref y), (1, .int (nI c)), (2, .int (nI t)), (4, .int (nI i))] dX4_onCell_51 (by decide) rfl 52 rfl ?_
          refine nw_iincN C 4 (c0 := 1) [(4, .int (nI (i + 1))), (3, .int (mm ||| (nI 0))), (0, .ref y), (1, .int (nI c)), (2, .int (nI t))] dX4_onCell_52 rfl (by decide) rfl 55 rfl ?_
          refine nw_goto C 5 dX4_onCell_55 (by decide) ?_
          exact (nw_sub [2, 3, 4, 1, 0] rfl (ih_lp1 (i + 1) (mm ||| (nI 0)) (by omega) (by rw [sp_bits_f0 (p := (sp_onc (sg_gu σ) c t)) (n := i) (by unfold sp_onc; simp [h6]), ← hmm]) (by omega)))
        · refine nw_iconst C (nI 1) dX4_onCell_42 (by decide) 43 rfl ?_
          refine nw_iload C 4 dX4_onCell_43 rfl 45 rfl ?_
          refine nw_ishl C ((nI 1) <<< ((nI i) &&& 31)) dX4_onCell_45 rfl 46 rfl ?_
          refine nw_goto C 50 dX4_onCell_46 (by decide) ?_
          refine nw_ior C (mm ||| ((nI 1) <<< ((nI i) &&& 31))) dX4_onCell_50 rfl 51 rfl ?_
          refine nw_istore_n C [(3, .int (mm ||| ((nI 1) <<< ((nI i) &&& 31)))), (0, .ref y), (1, .int (nI c)), (2, .int (nI t)), (4, .int (nI i))] dX4_onCell_51 (by decide) rfl 52 rfl ?_
          refine nw_iincN C 4 (c0 := 1) [(4, .int (nI (i + 1))), (3, .int (mm ||| ((nI 1) <<< ((nI i) &&& 31)))), (0, .ref y), (1, .int (nI c)), (2, .int (nI t))] dX4_onCell_52 rfl (by decide) rfl 55 rfl ?_
          refine nw_goto C 5 dX4_onCell_55 (by decide) ?_
          exact (nw_sub [2, 3, 4, 1, 0] rfl (ih_lp1 (i + 1) (mm ||| ((nI 1) <<< ((nI i) &&& 31))) (by omega) (by rw [sp_bits_t (p := (sp_onc (sg_gu σ) c t)) (n := i) (by unfold sp_onc; simp [h6]), ← hmm]) (by omega)))
  exact (nw_sub [2, 3, 4, 1, 0] rfl (lp1 _ 0 (nI 0) (Nat.zero_le _) rfl (Nat.lt_succ_self _)))
set_option maxHeartbeats 4000000 in
theorem mX4_isWalked (l : Launch) (hf : l.flags = flags0) (d : nwD) (ro am : Nat → Nat) (y : Nat) (σ : spSg) (th : Int32) (c t : Nat) (H : Heap) (hB : nd_B d ≤ H.size) (hW : nwMC d ro am y σ th H) (okM : spOkM σ) (hc : c < gr_n (sg_gr σ)) (ht : t < 240) : nwRd l d yX4_isWalked cX4_isWalked 3 (some .boolean) 2 42 [.ref y, .int (nI c), .int (nI t)] H (some (.int (b2i (sp_walk (sg_gr σ) (sg_ga σ) c t)))) := by
  refine nw_rd "NightwatchWallModel" "isWalked" hf (by decide +kernel) rfl rfl hB (Nat.le_of_ble_eq_true rfl) ?_
  intro X C
  obtain ⟨hmX, hmKi, hmLa, hmFo, hmGu, hmPo, hmIn, hmWi, hmWo, hmKe⟩ := id hW
  obtain ⟨okg, okl, okf, oku, okp, oki, okw, okd, okk, oka⟩ := id okM
  have hn64 : gr_n (sg_gr σ) ≤ 64 := okg.n
  have oku1 := oku.1
  have oki1 := oki.1
  have okp1 := okp.1
  have okw1 := okw.1
  have okl1 := okl.1
  have okf1 := okf.1
  have hE := C.E0
  have hk4 : gr_k (sg_gr σ) c < 4 := (okg.here hc).2 c hc
  have hga := gaM_lt oka
  show nwV X _ _ 3 H 0 0 0 [(0, .ref y), (1, .int (nI c)), (2, .int (nI t))] []
  refine nw_aload_n C 0 dX4_isWalked_0 rfl 1 rfl ?_
  refine nw_get C hmX (T := TX4) rfl in_X4 3 (by decide) q1625 (Or.inl rfl) rfl dX4_isWalked_1 4 rfl ?_
  refine nw_iload_n C 1 dX4_isWalked_4 rfl 5 rfl ?_
  refine nw_ialdN C (nI (gr_k (sg_gr σ) c)) hmKi (by omega) rfl dX4_isWalked_5 6 rfl ?_
  refine nw_iconst C (nI 1) dX4_isWalked_6 (by decide) 7 rfl ?_
  refine nw_icmpeqN C (by omega) 39 dX4_isWalked_7 (by decide) 10 rfl (fun h1 => ?_) (fun h1 => ?_)
  · refine nw_iconst C (nI 0) dX4_isWalked_39 (by decide) 40 rfl ?_
    exact nw_nret C dX4_isWalked_40 (b2i_narrow false) (Nat.le_refl _) (Nat.le_refl _) ⟨congrArg (fun z => some (Value.int (b2i z))) (show (false) = (sp_walk (sg_gr σ) (sg_ga σ) c t) from (by unfold sp_walk; simp [h1])), rfl⟩
  · refine nw_aload_n C 0 dX4_isWalked_10 rfl 11 rfl ?_
    refine nw_get C hmX (T := TX4) rfl in_X4 3 (by decide) q1625 (Or.inl rfl) rfl dX4_isWalked_11 14 rfl ?_
    refine nw_iload_n C 1 dX4_isWalked_14 rfl 15 rfl ?_
    refine nw_ialdN C (nI (gr_k (sg_gr σ) c)) hmKi (by omega) rfl dX4_isWalked_15 16 rfl ?_
    refine nw_iconst C (nI 3) dX4_isWalked_16 (by decide) 17 rfl ?_
    refine nw_icmpneN C (by omega) 35 dX4_isWalked_17 (by decide) 20 rfl (fun h2 => ?_) (fun h2 => ?_)
    · refine nw_iconst C (nI 1) dX4_isWalked_35 (by decide) 36 rfl ?_
      refine nw_goto C 40 dX4_isWalked_36 (by decide) ?_
      exact nw_nret C dX4_isWalked_40 (b2i_narrow true) (Nat.le_refl _) (Nat.le_refl _) ⟨congrArg (fun z => some (Value.int (b2i z))) (show (true) = (sp_walk (sg_gr σ) (sg_ga σ) c t) from (by unfold sp_walk; simp [h1, h2])), rfl⟩
    · refine nw_iload_n C 2 dX4_isWalked_20 rfl 21 rfl ?_
      refine nw_aload_n C 0 dX4_isWalked_21 rfl 22 rfl ?_
      refine nw_get C hmX (T := TX4) rfl in_X4 4 (by decide) q1626 (Or.inl rfl) rfl dX4_isWalked_22 25 rfl ?_
      refine nw_aload_n C 0 dX4_isWalked_25 rfl 26 rfl ?_
      refine nw_get C hmX (T := TX4) rfl in_X4 5 (by decide) q1627 (Or.inl rfl) rfl dX4_isWalked_26 29 rfl ?_
      refine nw_callS C (mX4_inO _ C.hfl d t (gaM_f (sg_ga σ)) (gaM_t (sg_ga σ)) H hB (by omega) (fun v hv => by have := hga.2 v hv; omega)) kX4_in q1691 (As := [.int (nI t), .int (nI (gaM_f (sg_ga σ))), .int (oI (gaM_t (sg_ga σ)))]) (rest := []) rfl rfl ⟨⟨Nat.le_of_ble_eq_true rfl, Nat.le_of_ble_eq_true rfl⟩, Nat.le_of_ble_eq_true rfl, Nat.le_of_ble_eq_true rfl⟩ (Nat.le_of_ble_eq_true rfl) (fun _ h8 h9 => absurd h9 (Nat.not_le.mpr h8)) dX4_isWalked_29 32 rfl (nw_rdK ?_) nw_noX
      refine nw_ifeqB C 39 dX4_isWalked_32 (by decide) 35 rfl (fun h3 => ?_) (fun h3 => ?_)
      · refine nw_iconst C (nI 0) dX4_isWalked_39 (by decide) 40 rfl ?_
        exact nw_nret C dX4_isWalked_40 (b2i_narrow false) (Nat.le_refl _) (Nat.le_refl _) ⟨congrArg (fun z => some (Value.int (b2i z))) (show (false) = (sp_walk (sg_gr σ) (sg_ga σ) c t) from (by have z := h3; rw [← ga_isM _ _ (by omega)] at z; unfold sp_walk; simp [h1, h2, z])), rfl⟩
      · refine nw_iconst C (nI 1) dX4_isWalked_35 (by decide) 36 rfl ?_
        refine nw_goto C 40 dX4_isWalked_36 (by decide) ?_
        exact nw_nret C dX4_isWalked_40 (b2i_narrow true) (Nat.le_refl _) (Nat.le_refl _) ⟨congrArg (fun z => some (Value.int (b2i z))) (show (true) = (sp_walk (sg_gr σ) (sg_ga σ) c t) from (by have z := h3; rw [← ga_isM _ _ (by omega)] at z; unfold sp_walk; simp [h1, h2, z])), rfl⟩
set_option maxHeartbeats 4000000 in
theorem mX4_cellNow (l : Launch) (hf : l.flags = flags0) (d : nwD) (ro am : Nat → Nat) (y : Nat) (σ : spSg) (th : Int32) (c t q : Nat) (H : Heap) (hB : nd_B d ≤ H.size) (hW : nwMC d ro am y σ th H) (okM : spOkM σ) (hc : c < gr_n (sg_gr σ)) (ht : t < 240) (hq4 : q ≤ 4) : nwRd l d yX4_cellNow cX4_cellNow 4 (some .int) 7 158 [.ref y, .int (nI c), .int (nI t), .int (nI q)] H (some (.int (sp_cellNow σ c t q))) := by
  refine nw_rd "NightwatchWallModel" "cellNow" hf (by decide +kernel) rfl rfl hB (Nat.le_of_ble_eq_true rfl) ?_
  intro X C
  obtain ⟨hmX, hmKi, hmLa, hmFo, hmGu, hmPo, hmIn, hmWi, hmWo, hmKe⟩ := id hW
  obtain ⟨okg, okl, okf, oku, okp, oki, okw, okd, okk, oka⟩ := id okM
  have hn64 : gr_n (sg_gr σ) ≤ 64 := okg.n
  have oku1 := oku.1
  have oki1 := oki.1
  have okp1 := okp.1
  have okw1 := okw.1
  have okl1 := okl.1
  have okf1 := okf.1
  have hE := C.E0
  have hk4 : gr_k (sg_gr σ) c < 4 := (okg.here hc).2 c hc
  show nwV X _ _ 4 H 0 0 0 [(0, .ref y), (1, .int (nI c)), (2, .int (nI t)), (3, .int (nI q))] []
  refine nw_iload_n C 3 dX4_cellNow_0 rfl 1 rfl ?_
  rcases Nat.decEq q 0 with h1 | h1
  rotate_left
  · have h1s := h1
    refine nw_tabInN C (off := 31) h1 (by decide) 32 dX4_cellNow_1 (by decide) (by decide) rfl (by decide) ?_
    refine nw_aload_n C 0 dX4_cellNow_32 rfl 33 rfl ?_
    refine nw_get C hmX (T := TX4) rfl in_X4 3 (by decide) q1625 (Or.inl rfl) rfl dX4_cellNow_33 36 rfl ?_
    refine nw_iload_n C 1 dX4_cellNow_36 rfl 37 rfl ?_
    refine nw_ialdN C (nI (gr_k (sg_gr σ) c)) hmKi (by omega) rfl dX4_cellNow_37 38 rfl ?_
    exact nw_iret C dX4_cellNow_38 (Nat.le_refl _) (Nat.le_refl _) ⟨congrArg (fun z => some (Value.int z)) (show (nI (gr_k (sg_gr σ) c)) = (sp_cellNow σ c t q) from (by unfold sp_cellNow; simp [b2i, h1])), rfl⟩
  rcases Nat.decEq q 1 with h2 | h2
  rotate_left
  · have h2s := h2
    refine nw_tabInN C (off := 38) h2 (by decide) 39 dX4_cellNow_1 (by decide) (by decide) rfl (by decide) ?_
    refine nw_aload_n C 0 dX4_cellNow_39 rfl 40 rfl ?_
    refine nw_iload_n C 1 dX4_cellNow_40 rfl 41 rfl ?_
    refine nw_callV C (mX4_isBright _ C.hfl d ro am y σ th c H hB hW okM (by omega)) kX4_isBright q1744 (hmX.is C (ci := 9) rfl) (As := [.int (nI c)]) (rest := []) rfl rfl ⟨⟨Nat.le_of_ble_eq_true rfl, Nat.le_of_ble_eq_true rfl⟩, Nat.le_of_ble_eq_true rfl, Nat.le_of_ble_eq_true rfl⟩ (Nat.le_of_ble_eq_true rfl) (fun _ h8 h9 => absurd h9 (Nat.not_le.mpr h8)) dX4_cellNow_41 44 rfl (nw_rdK ?_) nw_noX
    refine nw_ifeqB C 51 dX4_cellNow_44 (by decide) 47 rfl (fun h3 => ?_) (fun h3 => ?_)
    · refine nw_iconst C (nI 0) dX4_cellNow_51 (by decide) 52 rfl ?_
      exact nw_iret C dX4_cellNow_52 (Nat.le_refl _) (Nat.le_refl _) ⟨congrArg (fun z => some (Value.int z)) (show (nI 0) = (sp_cellNow σ c t q) from (by unfold sp_cellNow; simp [b2i, h1, h2, h3])), rfl⟩
    · refine nw_iconst C (nI 1) dX4_cellNow_47 (by decide) 48 rfl ?_
      refine nw_goto C 52 dX4_cellNow_48 (by decide) ?_
      exact nw_iret C dX4_cellNow_52 (Nat.le_refl _) (Nat.le_refl _) ⟨congrArg (fun z => some (Value.int z)) (show (nI 1) = (sp_cellNow σ c t q) from (by unfold sp_cellNow; simp [b2i, h1, h2, h3])), rfl⟩
  rcases Nat.decEq q 2 with h4 | h4
  rotate_left
  · have h4s := h4
    refine nw_tabInN C (off := 52) h4 (by decide) 53 dX4_cellNow_1 (by decide) (by decide) rfl (by decide) ?_
    refine nw_aload_n C 0 dX4_cellNow_53 rfl 54 rfl ?_
    refine nw_iload_n C 1 dX4_cellNow_54 rfl 55 rfl ?_
    refine nw_iload_n C 2 dX4_cellNow_55 rfl 56 rfl ?_
    refine nw_callV C (mX4_seers _ C.hfl d ro am y σ th c t H hB hW okM (by omega) (by omega)) kX4_seers q1856 (hmX.is C (ci := 9) rfl) (As := [.int (nI c), .int (nI t)]) (rest := []) rfl rfl ⟨⟨Nat.le_of_ble_eq_true rfl, Nat.le_of_ble_eq_true rfl⟩, Nat.le_of_ble_eq_true rfl, Nat.le_of_ble_eq_true rfl⟩ (Nat.le_of_ble_eq_true rfl) (fun _ h8 h9 => absurd h9 (Nat.not_le.mpr h8)) dX4_cellNow_56 59 rfl (nw_rdK ?_) nw_noX
    exact nw_iret C dX4_cellNow_59 (Nat.le_refl _) (Nat.le_refl _) ⟨congrArg (fun z => some (Value.int z)) (show (sp_watchers (sg_gr σ) (sg_la σ) (sg_fo σ) (sg_gu σ) c t) = (sp_cellNow σ c t q) from (by unfold sp_cellNow; simp [b2i, h1, h2, h4])), rfl⟩
  rcases Nat.decEq q 3 with h5 | h5
  rotate_left
  · have h5s := h5
    refine nw_tabInN C (off := 59) h5 (by decide) 60 dX4_cellNow_1 (by decide) (by decide) rfl (by decide) ?_
    refine nw_aload_n C 0 dX4_cellNow_60 rfl 61 rfl ?_
    refine nw_iload_n C 1 dX4_cellNow_61 rfl 62 rfl ?_
    refine nw_iload_n C 2 dX4_cellNow_62 rfl 63 rfl ?_
    refine nw_callV C (mX4_onCell _ C.hfl d ro am y σ th c t H hB hW okM (by omega) (by omega)) kX4_onCell q1868 (hmX.is C (ci := 9) rfl) (As := [.int (nI c), .int (nI t)]) (rest := []) rfl rfl ⟨⟨Nat.le_of_ble_eq_true rfl, Nat.le_of_ble_eq_true rfl⟩, Nat.le_of_ble_eq_true rfl, Nat.le_of_ble_eq_true rfl⟩ (Nat.le_of_ble_eq_true rfl) (fun _ h8 h9 => absurd h9 (Nat.not_le.mpr h8)) dX4_cellNow_63 66 rfl (nw_rdK ?_) nw_noX
    exact nw_iret C dX4_cellNow_66 (Nat.le_refl _) (Nat.le_refl _) ⟨congrArg (fun z => some (Value.int z)) (show (sp_guardsOn (sg_gu σ) c t) = (sp_cellNow σ c t q) from (by unfold sp_cellNow; simp [b2i, h1, h2, h4, h5])), rfl⟩
  refine nw_tabOutN C (lo := 0) (hi := 3) (by omega) (by omega) 67 dX4_cellNow_1 (by decide) ?_
  refine nw_aload_n C 0 dX4_cellNow_67 rfl 68 rfl ?_
  refine nw_iload_n C 1 dX4_cellNow_68 rfl 69 rfl ?_
  refine nw_iload_n C 2 dX4_cellNow_69 rfl 70 rfl ?_
  refine nw_callV C (mX4_isWalked _ C.hfl d ro am y σ th c t H hB hW okM (by omega) (by omega)) kX4_isWalked q1872 (hmX.is C (ci := 9) rfl) (As := [.int (nI c), .int (nI t)]) (rest := []) rfl rfl ⟨⟨Nat.le_of_ble_eq_true rfl, Nat.le_of_ble_eq_true rfl⟩, Nat.le_of_ble_eq_true rfl, Nat.le_of_ble_eq_true rfl⟩ (Nat.le_of_ble_eq_true rfl) (fun _ h8 h9 => absurd h9 (Nat.not_le.mpr h8)) dX4_cellNow_70 73 rfl (nw_rdK ?_) nw_noX
  refine nw_ifeqB C 80 dX4_cellNow_73 (by decide) 76 rfl (fun h6 => ?_) (fun h6 => ?_)
  · refine nw_iconst C (nI 0) dX4_cellNow_80 (by decide) 81 rfl ?_
    exact nw_iret C dX4_cellNow_81 (Nat.le_refl _) (Nat.le_refl _) ⟨congrArg (fun z => some (Value.int z)) (show (nI 0) = (sp_cellNow σ c t q) from (by unfold sp_cellNow; simp [b2i, h1, h2, h4, h5, h6])), rfl⟩
  · refine nw_iconst C (nI 1) dX4_cellNow_76 (by decide) 77 rfl ?_
    refine nw_goto C 81 dX4_cellNow_77 (by decide) ?_
    exact nw_iret C dX4_cellNow_81 (Nat.le_refl _) (Nat.le_refl _) ⟨congrArg (fun z => some (Value.int z)) (show (nI 1) = (sp_cellNow σ c t q) from (by unfold sp_cellNow; simp [b2i, h1, h2, h4, h5, h6])), rfl⟩
set_option maxHeartbeats 4000000 in
theorem mX4_isEmpty (l : Launch) (hf : l.flags = flags0) (d : nwD) (ro am : Nat → Nat) (y : Nat) (σ : spSg) (th : Int32) (k t : Nat) (H : Heap) (hB : nd_B d ≤ H.size) (hW : nwMC d ro am y σ th H) (okM : spOkM σ) (hk : k < (sg_po σ).1) (ht : t < 2 ^ 31) : nwRd l d yX4_isEmpty cX4_isEmpty 3 (some .boolean) 6 129 [.ref y, .int (nI k), .int (nI t)] H (some (.int (b2i (sp_empty (sg_gu σ) ((sg_po σ).2 k) t)))) := by
  refine nw_rd "NightwatchWallModel" "isEmpty" hf (by decide +kernel) rfl rfl hB (Nat.le_of_ble_eq_true rfl) ?_
  intro X C
  obtain ⟨hmX, hmKi, hmLa, hmFo, hmGu, hmPo, hmIn, hmWi, hmWo, hmKe⟩ := id hW
  obtain ⟨okg, okl, okf, oku, okp, oki, okw, okd, okk, oka⟩ := id okM
  have hn64 : gr_n (sg_gr σ) ≤ 64 := okg.n
  have oku1 := oku.1
  have oki1 := oki.1
  have okp1 := okp.1
  have okw1 := okw.1
  have okl1 := okl.1
  have okf1 := okf.1
  have hE := C.E0
  show nwV X _ _ 3 H 0 0 0 [(0, .ref y), (1, .int (nI k)), (2, .int (nI t))] []
  refine nw_aload_n C 0 dX4_isEmpty_0 rfl 1 rfl ?_
  refine nw_aload_n C 0 dX4_isEmpty_1 rfl 2 rfl ?_
  refine nw_get C hmX (T := TX4) rfl in_X4 9 (by decide) q1631 (Or.inl rfl) rfl dX4_isEmpty_2 5 rfl ?_
  refine nw_iload_n C 1 dX4_isEmpty_5 rfl 6 rfl ?_
  refine nw_callF C (mJ3_get _ C.hfl d (am 4) ((sg_po σ).1) (fun k => nd_bx d ((sg_po σ).2 k)) (fun q => ro q = 7005) k H hB hmPo (by omega)) kJ3_get (ci := 13) rfl q1615 q1618 (by decide +kernel) fc_List_get (hmPo.is C) (As := [.int (nI k)]) (rest := [.ref y]) rfl rfl ⟨⟨Nat.le_of_ble_eq_true rfl, Nat.le_of_ble_eq_true rfl⟩, Nat.le_of_ble_eq_true rfl, Nat.le_of_ble_eq_true rfl⟩ (Nat.le_of_ble_eq_true rfl) (fun _ h8 h9 => absurd h9 (Nat.not_le.mpr h8)) dX4_isEmpty_6 11 rfl (nw_rdK ?_) nw_noX
  have hb1 : (sg_po σ).2 k < 128 := (by have := okp.2 k (by omega); omega)
  refine nw_cast C (ci := 16) rfl (C.E0.boxIs hb1) q1711 dX4_isEmpty_11 14 rfl ?_
  refine nw_callV C (mJ19_intValue _ C.hfl d ((sg_po σ).2 k) H hB (by omega)) kJ19_intValue q1712 (C.E0.boxIs (by omega)) (As := []) (rest := [.ref y]) rfl rfl ⟨⟨Nat.le_of_ble_eq_true rfl, Nat.le_of_ble_eq_true rfl⟩, Nat.le_of_ble_eq_true rfl, Nat.le_of_ble_eq_true rfl⟩ (Nat.le_of_ble_eq_true rfl) (fun _ h8 h9 => absurd h9 (Nat.not_le.mpr h8)) dX4_isEmpty_14 17 rfl (nw_rdK ?_) nw_noX
  refine nw_iload_n C 2 dX4_isEmpty_17 rfl 18 rfl ?_
  refine nw_callV C (mX4_onCell _ C.hfl d ro am y σ th ((sg_po σ).2 k) t H hB hW okM (by omega) (by omega)) kX4_onCell q1868 (hmX.is C (ci := 9) rfl) (As := [.int (nI ((sg_po σ).2 k)), .int (nI t)]) (rest := []) rfl rfl ⟨⟨Nat.le_of_ble_eq_true rfl, Nat.le_of_ble_eq_true rfl⟩, Nat.le_of_ble_eq_true rfl, Nat.le_of_ble_eq_true rfl⟩ (Nat.le_of_ble_eq_true rfl) (fun _ h8 h9 => absurd h9 (Nat.not_le.mpr h8)) dX4_isEmpty_18 21 rfl (nw_rdK ?_) nw_noX
  refine nw_ifne C 28 dX4_isEmpty_21 (by decide) 24 rfl (fun h2 => ?_) (fun h2 => ?_)
  · refine nw_iconst C (nI 0) dX4_isEmpty_28 (by decide) 29 rfl ?_
    exact nw_nret C dX4_isEmpty_29 (b2i_narrow false) (Nat.le_refl _) (Nat.le_refl _) ⟨congrArg (fun z => some (Value.int (b2i z))) (show (false) = (sp_empty (sg_gu σ) ((sg_po σ).2 k) t) from (sp_emp1 oku1 h2).symm), rfl⟩
  · refine nw_iconst C (nI 1) dX4_isEmpty_24 (by decide) 25 rfl ?_
    refine nw_goto C 29 dX4_isEmpty_25 (by decide) ?_
    exact nw_nret C dX4_isEmpty_29 (b2i_narrow true) (Nat.le_refl _) (Nat.le_refl _) ⟨congrArg (fun z => some (Value.int (b2i z))) (show (true) = (sp_empty (sg_gu σ) ((sg_po σ).2 k) t) from (sp_emp0 oku1 h2).symm), rfl⟩
set_option maxHeartbeats 4000000 in
theorem mX4_emptyNow (l : Launch) (hf : l.flags = flags0) (d : nwD) (ro am : Nat → Nat) (y : Nat) (σ : spSg) (th : Int32) (k : Nat) (b : Bool) (H : Heap) (hB : nd_B d ≤ H.size) (hW : nwMC d ro am y σ th H) (okM : spOkM σ) (hk : k < (sg_po σ).1) : nwRd l d yX4_emptyNow cX4_emptyNow 5 (some .int) 7 151 [.ref y, .int (nI k), .int (b2i b)] H (some (.int (sp_emptyNow (sg_gu σ) ((sg_po σ).2 k) b))) := by
  refine nw_rd "NightwatchWallModel" "emptyNow" hf (by decide +kernel) rfl rfl hB (Nat.le_of_ble_eq_true rfl) ?_
  intro X C
  obtain ⟨hmX, hmKi, hmLa, hmFo, hmGu, hmPo, hmIn, hmWi, hmWo, hmKe⟩ := id hW
  obtain ⟨okg, okl, okf, oku, okp, oki, okw, okd, okk, oka⟩ := id okM
  have hn64 : gr_n (sg_gr σ) ≤ 64 := okg.n
  have oku1 := oku.1
  have oki1 := oki.1
  have okp1 := okp.1
  have okw1 := okw.1
  have okl1 := okl.1
  have okf1 := okf.1
  have hE := C.E0
  show nwV X _ _ 5 H 0 0 0 [(0, .ref y), (1, .int (nI k)), (2, .int (b2i b))] []
  refine nw_iconst C (nI 0) dX4_emptyNow_0 (by decide) 1 rfl ?_
  refine nw_istore_n C [(3, .int (nI 0)), (0, .ref y), (1, .int (nI k)), (2, .int (b2i b))] dX4_emptyNow_1 (by decide) rfl 2 rfl ?_
  refine nw_iconst C (nI 0) dX4_emptyNow_2 (by decide) 3 rfl ?_
  refine nw_istore C [(4, .int (nI 0)), (3, .int (nI 0)), (0, .ref y), (1, .int (nI k)), (2, .int (b2i b))] dX4_emptyNow_3 (by decide) rfl 5 rfl ?_
  have lp1 : ∀ (fu : Nat) (i : Nat) (m : Nat), (i ≤ 240) → (m = sp_cnt (fun t => sp_empty (sg_gu σ) ((sg_po σ).2 k) t) i) → (b = true → ∀ j, j < i → sp_empty (sg_gu σ) ((sg_po σ).2 k) j = false) → 240 - i < fu → nwV X (nwNew H) (nwQE X (fun v H1 => v = some (.int (sp_emptyNow (sg_gu σ) ((sg_po σ).2 k) b)) ∧ H1 = H) nwNo (nwNew H) 0 0) 5 H 0 0 5 [(0, .ref y), (1, .int (nI k)), (2, .int (b2i b)), (3, .int (nI m)), (4, .int (nI i))] [] := by
    intro fu
    induction fu with
    | zero => intro i m _ _ _ hm; exact absurd hm (Nat.not_lt_zero _)
    | succ fu ih_lp1 =>
      intro i m hi hmm hno hm
      refine nw_iload C 4 dX4_emptyNow_5 rfl 7 rfl ?_
      refine nw_sipush C (nI 239) dX4_emptyNow_7 (by decide) 10 rfl ?_
      refine nw_icmpgtN C (by omega) 42 dX4_emptyNow_10 (by decide) 13 rfl (fun h2 => ?_) (fun h2 => ?_)
      · refine nw_iload_n C 2 dX4_emptyNow_42 rfl 43 rfl ?_
        refine nw_ifeqB C 50 dX4_emptyNow_43 (by decide) 46 rfl (fun h3 => ?_) (fun h3 => ?_)
        · refine nw_iload_n C 3 dX4_emptyNow_50 rfl 51 rfl ?_
          exact nw_iret C dX4_emptyNow_51 (Nat.le_refl _) (Nat.le_refl _) ⟨congrArg (fun z => some (Value.int z)) (show (nI m) = (sp_emptyNow (sg_gu σ) ((sg_po σ).2 k) b) from (by unfold sp_emptyNow; rw [h3, hmm, show i = 240 by omega]; rfl)), rfl⟩
        · refine nw_iconst C (oI none) dX4_emptyNow_46 (by decide) 47 rfl ?_
          refine nw_goto C 51 dX4_emptyNow_47 (by decide) ?_
          exact nw_iret C dX4_emptyNow_51 (Nat.le_refl _) (Nat.le_refl _) ⟨congrArg (fun z => some (Value.int z)) (show (oI none) = (sp_emptyNow (sg_gu σ) ((sg_po σ).2 k) b) from (by unfold sp_emptyNow; rw [h3, if_pos rfl, sp_fst_no0 (fun j hj => hno h3 j (by omega))])), rfl⟩
      · refine nw_aload_n C 0 dX4_emptyNow_13 rfl 14 rfl ?_
        refine nw_iload_n C 1 dX4_emptyNow_14 rfl 15 rfl ?_
        refine nw_iload C 4 dX4_emptyNow_15 rfl 17 rfl ?_
        refine nw_callV C (mX4_isEmpty _ C.hfl d ro am y σ th k i H hB hW okM (by omega) (by omega)) kX4_isEmpty q1885 (hmX.is C (ci := 9) rfl) (As := [.int (nI k), .int (nI i)]) (rest := []) rfl rfl ⟨⟨Nat.le_of_ble_eq_true rfl, Nat.le_of_ble_eq_true rfl⟩, Nat.le_of_ble_eq_true rfl, Nat.le_of_ble_eq_true rfl⟩ (Nat.le_of_ble_eq_true rfl) (fun _ h8 h9 => absurd h9 (Nat.not_le.mpr h8)) dX4_emptyNow_17 20 rfl (nw_rdK ?_) nw_noX
        refine nw_ifneB C 26 dX4_emptyNow_20 (by decide) 23 rfl (fun h4 => ?_) (fun h4 => ?_)
        · refine nw_iload_n C 2 dX4_emptyNow_26 rfl 27 rfl ?_
          refine nw_ifeqB C 33 dX4_emptyNow_27 (by decide) 30 rfl (fun h5 => ?_) (fun h5 => ?_)
          · refine nw_iincN C 3 (c0 := 1) [(3, .int (nI (m + 1))), (0, .ref y), (1, .int (nI k)), (2, .int (b2i b)), (4, .int (nI i))] dX4_emptyNow_33 rfl (by decide) rfl 36 rfl ?_
            refine nw_iincN C 4 (c0 := 1) [(4, .int (nI (i + 1))), (3, .int (nI (m + 1))), (0, .ref y), (1, .int (nI k)), (2, .int (b2i b))] dX4_emptyNow_36 rfl (by decide) rfl 39 rfl ?_
            refine nw_goto C 5 dX4_emptyNow_39 (by decide) ?_
            exact (nw_sub [2, 3, 4, 1, 0] rfl (ih_lp1 (i + 1) (m + 1) (by omega) (by rw [sp_cnt_t (p := fun t => sp_empty (sg_gu σ) ((sg_po σ).2 k) t) (n := i) h4]; omega) (fun hb => by rw [hb] at h5; cases h5) (by omega)))
          · refine nw_iload C 4 dX4_emptyNow_30 rfl 32 rfl ?_
            exact nw_iret C dX4_emptyNow_32 (Nat.le_refl _) (Nat.le_refl _) ⟨congrArg (fun z => some (Value.int z)) (show (nI i) = (sp_emptyNow (sg_gu σ) ((sg_po σ).2 k) b) from (by unfold sp_emptyNow; rw [h5, if_pos rfl, sp_fst_at0 (fun j hj => hno h5 j hj) (by omega) h4]; rfl)), rfl⟩
        · refine nw_goto C 36 dX4_emptyNow_23 (by decide) ?_
          refine nw_iincN C 4 (c0 := 1) [(4, .int (nI (i + 1))), (0, .ref y), (1, .int (nI k)), (2, .int (b2i b)), (3, .int (nI m))] dX4_emptyNow_36 rfl (by decide) rfl 39 rfl ?_
          refine nw_goto C 5 dX4_emptyNow_39 (by decide) ?_
          exact (nw_sub [1, 2, 3, 4, 0] rfl (ih_lp1 (i + 1) m (by omega) (by rw [sp_cnt_f (p := fun t => sp_empty (sg_gu σ) ((sg_po σ).2 k) t) (n := i) h4]; omega) (fun hb j hj => (Nat.lt_or_ge j i).elim (fun g5 => hno hb j g5) (fun g5 => by rw [show j = i by omega]; exact h4)) (by omega)))
  exact (nw_sub [2, 3, 4, 1, 0] rfl (lp1 _ 0 0 (Nat.zero_le _) rfl (fun _ j hj => absurd hj (Nat.not_lt_zero j)) (Nat.lt_succ_self _)))
set_option maxHeartbeats 4000000 in
theorem mX4_minuteNow (l : Launch) (hf : l.flags = flags0) (d : nwD) (ro am : Nat → Nat) (y : Nat) (σ : spSg) (th : Int32) (t q : Nat) (H : Heap) (hB : nd_B d ≤ H.size) (hW : nwMC d ro am y σ th H) (okM : spOkM σ) (ht : t < 2 ^ 31) (hq6 : q ≤ 6) : nwRd l d yX4_minuteNow cX4_minuteNow 8 (some .int) 7 157 [.ref y, .int (nI t), .int (nI q)] H (some (.int (nI (sp_minuteNow σ t q)))) := by
  refine nw_rd "NightwatchWallModel" "minuteNow" hf (by decide +kernel) rfl rfl hB (Nat.le_of_ble_eq_true rfl) ?_
  intro X C
  obtain ⟨hmX, hmKi, hmLa, hmFo, hmGu, hmPo, hmIn, hmWi, hmWo, hmKe⟩ := id hW
  obtain ⟨okg, okl, okf, oku, okp, oki, okw, okd, okk, oka⟩ := id okM
  have hn64 : gr_n (sg_gr σ) ≤ 64 := okg.n
  have oku1 := oku.1
  have oki1 := oki.1
  have okp1 := okp.1
  have okw1 := okw.1
  have okl1 := okl.1
  have okf1 := okf.1
  have hE := C.E0
  show nwV X _ _ 8 H 0 0 0 [(0, .ref y), (1, .int (nI t)), (2, .int (nI q))] []
  refine nw_iconst C (nI 0) dX4_minuteNow_0 (by decide) 1 rfl ?_
  refine nw_istore_n C [(3, .int (nI 0)), (0, .ref y), (1, .int (nI t)), (2, .int (nI q))] dX4_minuteNow_1 (by decide) rfl 2 rfl ?_
  refine nw_iload_n C 3 dX4_minuteNow_2 rfl 3 rfl ?_
  rcases Nat.decEq q 0 with h6 | h6
  rotate_left
  · have h6s := h6
    refine nw_tabInN C (off := 37) h6 (by decide) 40 dX4_minuteNow_3 (by decide) (by decide) rfl (by decide) ?_
    refine nw_aload_n C 1 dX4_minuteNow_40 rfl 41 rfl ?_
    refine nw_iload_n C 2 dX4_minuteNow_41 rfl 42 rfl ?_
    refine nw_callV C (mX4_fogAt _ C.hfl d ro am y σ th t H hB hW okM (by omega)) kX4_fogAt q1844 (hmX.is C (ci := 9) rfl) (As := [.int (nI t)]) (rest := []) rfl rfl ⟨⟨Nat.le_of_ble_eq_true rfl, Nat.le_of_ble_eq_true rfl⟩, Nat.le_of_ble_eq_true rfl, Nat.le_of_ble_eq_true rfl⟩ (Nat.le_of_ble_eq_true rfl) (fun _ h8 h9 => absurd h9 (Nat.not_le.mpr h8)) dX4_minuteNow_42 45 rfl (nw_rdK ?_) nw_noX
    exact nw_iret C dX4_minuteNow_45 (Nat.le_refl _) (Nat.le_refl _) ⟨congrArg (fun z => some (Value.int (nI z))) (show (sp_fog (sg_fo σ) t) = (sp_minuteNow σ t q) from (by unfold sp_minuteNow; rw [if_pos (show q = 0 by omega)])), rfl⟩
  rcases Nat.decEq q 1 with h7 | h7
  rotate_left
  · have h7s := h7
    refine nw_tabInN C (off := 43) h7 (by decide) 46 dX4_minuteNow_3 (by decide) (by decide) rfl (by decide) ?_
    refine nw_iconst C (nI 0) dX4_minuteNow_46 (by decide) 47 rfl ?_
    refine nw_istore C [(4, .int (nI 0)), (3, .int (nI 0)), (0, .ref y), (1, .int (nI t)), (2, .int (nI q))] dX4_minuteNow_47 (by decide) rfl 49 rfl ?_
    have lp1 : ∀ (fu : Nat) (i : Nat) (m : Nat), (i ≤ gr_n (sg_gr σ)) → (m = sp_cnt (fun c => !(gr_k (sg_gr σ) c == 1) && !sp_watched (sg_gr σ) (sg_la σ) (sg_fo σ) (sg_gu σ) c t) i) → gr_n (sg_gr σ) - i < fu → nwV X (nwNew H) (nwQE X (fun v H1 => v = some (.int (nI (sp_minuteNow σ t q))) ∧ H1 = H) nwNo (nwNew H) 0 0) 8 H 0 0 49 [(0, .ref y), (1, .int (nI t)), (3, .int (nI m)), (4, .int (nI i))] [] := by
      intro fu
      induction fu with
      | zero => intro i m _ _ hm; exact absurd hm (Nat.not_lt_zero _)
      | succ fu ih_lp1 =>
        intro i m hi hmm hm
        refine nw_iload C 3 dX4_minuteNow_49 rfl 51 rfl ?_
        refine nw_aload_n C 0 dX4_minuteNow_51 rfl 52 rfl ?_
        refine nw_get C hmX (T := TX4) rfl in_X4 3 (by decide) q1625 (Or.inl rfl) rfl dX4_minuteNow_52 55 rfl ?_
        refine nw_alenI C hmKi (by decide) dX4_minuteNow_55 56 rfl ?_
        refine nw_icmpgeN C (by omega) 94 dX4_minuteNow_56 (by decide) 59 rfl (fun h8 => ?_) (fun h8 => ?_)
        · refine nw_iload_n C 2 dX4_minuteNow_94 rfl 95 rfl ?_
          exact nw_iret C dX4_minuteNow_95 (Nat.le_refl _) (Nat.le_refl _) ⟨congrArg (fun z => some (Value.int (nI z))) (show (m) = (sp_minuteNow σ t q) from (by unfold sp_minuteNow; rw [if_neg (show ¬ q = 0 by omega), if_pos (show q = 1 by omega)]; rw [hmm, show i = gr_n (sg_gr σ) by omega]; unfold sp_blind; first | rfl | simp)), rfl⟩
        · have hk4 : gr_k (sg_gr σ) i < 4 := (okg.here (show i < gr_n (sg_gr σ) by omega)).2 i (by omega)
          refine nw_iload_n C 2 dX4_minuteNow_59 rfl 60 rfl ?_
          refine nw_aload_n C 0 dX4_minuteNow_60 rfl 61 rfl ?_
          refine nw_get C hmX (T := TX4) rfl in_X4 3 (by decide) q1625 (Or.inl rfl) rfl dX4_minuteNow_61 64 rfl ?_
          refine nw_iload C 3 dX4_minuteNow_64 rfl 66 rfl ?_
          refine nw_ialdN C (nI (gr_k (sg_gr σ) i)) hmKi (by omega) rfl dX4_minuteNow_66 67 rfl ?_
          refine nw_iconst C (nI 1) dX4_minuteNow_67 (by decide) 68 rfl ?_
          refine nw_icmpeqN C (by omega) 85 dX4_minuteNow_68 (by decide) 71 rfl (fun h9 => ?_) (fun h9 => ?_)
          · refine nw_iconst C (nI 0) dX4_minuteNow_85 (by decide) 86 rfl ?_
            refine nw_iaddN C dX4_minuteNow_86 87 rfl ?_
            refine nw_istore_n C [(3, .int (nI (m + 0))), (0, .ref y), (1, .int (nI t)), (4, .int (nI i))] dX4_minuteNow_87 (by decide) rfl 88 rfl ?_
            refine nw_iincN C 3 (c0 := 1) [(4, .int (nI (i + 1))), (3, .int (nI (m + 0))), (0, .ref y), (1, .int (nI t))] dX4_minuteNow_88 rfl (by decide) rfl 91 rfl ?_
            refine nw_goto C 49 dX4_minuteNow_91 (by decide) ?_
            exact (nw_sub [2, 3, 1, 0] rfl (ih_lp1 (i + 1) m (by omega) (by rw [sp_cnt_f (p := (fun c => !(gr_k (sg_gr σ) c == 1) && !sp_watched (sg_gr σ) (sg_la σ) (sg_fo σ) (sg_gu σ) c t)) (n := i) (by simp [h9])]; omega) (by omega)))
          · refine nw_aload_n C 0 dX4_minuteNow_71 rfl 72 rfl ?_
            refine nw_iload C 3 dX4_minuteNow_72 rfl 74 rfl ?_
            refine nw_iload_n C 1 dX4_minuteNow_74 rfl 75 rfl ?_
            refine nw_callV C (mX4_isWatched _ C.hfl d ro am y σ th i t H hB hW okM (by omega) (by omega)) kX4_isWatched q1840 (hmX.is C (ci := 9) rfl) (As := [.int (nI i), .int (nI t)]) (rest := [.int (nI m)]) rfl rfl ⟨⟨Nat.le_of_ble_eq_true rfl, Nat.le_of_ble_eq_true rfl⟩, Nat.le_of_ble_eq_true rfl, Nat.le_of_ble_eq_true rfl⟩ (Nat.le_of_ble_eq_true rfl) (fun _ h8 h9 => absurd h9 (Nat.not_le.mpr h8)) dX4_minuteNow_75 78 rfl (nw_rdK ?_) nw_noX
            refine nw_ifneB C 85 dX4_minuteNow_78 (by decide) 81 rfl (fun h10 => ?_) (fun h10 => ?_)
            · refine nw_iconst C (nI 0) dX4_minuteNow_85 (by decide) 86 rfl ?_
              refine nw_iaddN C dX4_minuteNow_86 87 rfl ?_
              refine nw_istore_n C [(3, .int (nI (m + 0))), (0, .ref y), (1, .int (nI t)), (4, .int (nI i))] dX4_minuteNow_87 (by decide) rfl 88 rfl ?_
              refine nw_iincN C 3 (c0 := 1) [(4, .int (nI (i + 1))), (3, .int (nI (m + 0))), (0, .ref y), (1, .int (nI t))] dX4_minuteNow_88 rfl (by decide) rfl 91 rfl ?_
              refine nw_goto C 49 dX4_minuteNow_91 (by decide) ?_
              exact (nw_sub [2, 3, 1, 0] rfl (ih_lp1 (i + 1) m (by omega) (by rw [sp_cnt_f (p := (fun c => !(gr_k (sg_gr σ) c == 1) && !sp_watched (sg_gr σ) (sg_la σ) (sg_fo σ) (sg_gu σ) c t)) (n := i) (by simp [h9, h10])]; omega) (by omega)))
            · refine nw_iconst C (nI 1) dX4_minuteNow_81 (by decide) 82 rfl ?_
              refine nw_goto C 86 dX4_minuteNow_82 (by decide) ?_
              refine nw_iaddN C dX4_minuteNow_86 87 rfl ?_
              refine nw_istore_n C [(3, .int (nI (m + 1))), (0, .ref y), (1, .int (nI t)), (4, .int (nI i))] dX4_minuteNow_87 (by decide) rfl 88 rfl ?_
              refine nw_iincN C 3 (c0 := 1) [(4, .int (nI (i + 1))), (3, .int (nI (m + 1))), (0, .ref y), (1, .int (nI t))] dX4_minuteNow_88 rfl (by decide) rfl 91 rfl ?_
              refine nw_goto C 49 dX4_minuteNow_91 (by decide) ?_
              exact (nw_sub [2, 3, 1, 0] rfl (ih_lp1 (i + 1) (m + 1) (by omega) (by rw [sp_cnt_t (p := (fun c => !(gr_k (sg_gr σ) c == 1) && !sp_watched (sg_gr σ) (sg_la σ) (sg_fo σ) (sg_gu σ) c t)) (n := i) (by simp [h9, h10])]; omega) (by omega)))
    exact (nw_sub [2, 3, 1, 0] rfl (lp1 _ 0 0 (Nat.zero_le _) rfl (Nat.lt_succ_self _)))
  rcases Nat.decEq q 2 with h11 | h11
  rotate_left
  · have h11s := h11
    refine nw_tabInN C (off := 93) h11 (by decide) 96 dX4_minuteNow_3 (by decide) (by decide) rfl (by decide) ?_
    refine nw_iconst C (nI 0) dX4_minuteNow_96 (by decide) 97 rfl ?_
    refine nw_istore C [(4, .int (nI 0)), (3, .int (nI 0)), (0, .ref y), (1, .int (nI t)), (2, .int (nI q))] dX4_minuteNow_97 (by decide) rfl 99 rfl ?_
    have lp2 : ∀ (fu : Nat) (i : Nat) (m : Nat), (i ≤ (sg_gu σ).1) → (m = sp_cnt (fun k => sp_on ((sg_gu σ).2 k) t) i) → (sg_gu σ).1 - i < fu → nwV X (nwNew H) (nwQE X (fun v H1 => v = some (.int (nI (sp_minuteNow σ t q))) ∧ H1 = H) nwNo (nwNew H) 0 0) 8 H 0 0 99 [(0, .ref y), (1, .int (nI t)), (3, .int (nI m)), (4, .int (nI i))] [] := by
      intro fu
      induction fu with
      | zero => intro i m _ _ hm; exact absurd hm (Nat.not_lt_zero _)
      | succ fu ih_lp2 =>
        intro i m hi hmm hm
        refine nw_iload C 3 dX4_minuteNow_99 rfl 101 rfl ?_
        refine nw_aload_n C 0 dX4_minuteNow_101 rfl 102 rfl ?_
        refine nw_get C hmX (T := TX4) rfl in_X4 8 (by decide) q1630 (Or.inl rfl) rfl dX4_minuteNow_102 105 rfl ?_
        refine nw_callF C (mJ3_size _ C.hfl d (am 3) ((sg_gu σ).1) (fun k => am (300 + k)) (fun q => ro q = 7004) H hB hmGu.1) kJ3_size (ci := 13) rfl q1607 q1611 (by decide +kernel) fc_List_size (hmGu.1.is C) (As := []) (rest := [.int (nI i)]) rfl rfl ⟨⟨Nat.le_of_ble_eq_true rfl, Nat.le_of_ble_eq_true rfl⟩, Nat.le_of_ble_eq_true rfl, Nat.le_of_ble_eq_true rfl⟩ (Nat.le_of_ble_eq_true rfl) (fun _ h8 h9 => absurd h9 (Nat.not_le.mpr h8)) dX4_minuteNow_105 110 rfl (nw_rdK ?_) nw_noX
        refine nw_icmpgeN C (by omega) 148 dX4_minuteNow_110 (by decide) 113 rfl (fun h12 => ?_) (fun h12 => ?_)
        · refine nw_iload_n C 2 dX4_minuteNow_148 rfl 149 rfl ?_
          exact nw_iret C dX4_minuteNow_149 (Nat.le_refl _) (Nat.le_refl _) ⟨congrArg (fun z => some (Value.int (nI z))) (show (m) = (sp_minuteNow σ t q) from (by unfold sp_minuteNow; rw [if_neg (show ¬ q = 0 by omega), if_neg (show ¬ q = 1 by omega), if_pos (show q = 2 by omega)]; rw [hmm, show i = (sg_gu σ).1 by omega]; unfold sp_duty; first | rfl | simp)), rfl⟩
        · refine nw_iload_n C 2 dX4_minuteNow_113 rfl 114 rfl ?_
          refine nw_aload_n C 0 dX4_minuteNow_114 rfl 115 rfl ?_
          refine nw_get C hmX (T := TX4) rfl in_X4 8 (by decide) q1630 (Or.inl rfl) rfl dX4_minuteNow_115 118 rfl ?_
          refine nw_iload C 3 dX4_minuteNow_118 rfl 120 rfl ?_
          refine nw_callF C (mJ3_get _ C.hfl d (am 3) ((sg_gu σ).1) (fun k => am (300 + k)) (fun q => ro q = 7004) i H hB hmGu.1 (by omega)) kJ3_get (ci := 13) rfl q1615 q1618 (by decide +kernel) fc_List_get (hmGu.1.is C) (As := [.int (nI i)]) (rest := [.int (nI m)]) rfl rfl ⟨⟨Nat.le_of_ble_eq_true rfl, Nat.le_of_ble_eq_true rfl⟩, Nat.le_of_ble_eq_true rfl, Nat.le_of_ble_eq_true rfl⟩ (Nat.le_of_ble_eq_true rfl) (fun _ h8 h9 => absurd h9 (Nat.not_le.mpr h8)) dX4_minuteNow_120 125 rfl (nw_rdK ?_) nw_noX
          have hg13 : nwMGd d (am (300 + i)) (am (400 + i)) (fun q => ro q = 7401 + i) ((sg_gu σ).2 i) H := hmGu.2 i (by omega)
          have hk14 : okGd (sg_gr σ) ((sg_gu σ).2 i) := oku.2 i (by omega)
          have hg15 : nwO d (am (300 + i)) 10 [.int (nI (gd_a ((sg_gu σ).2 i))), .int (nI (gd_b ((sg_gu σ).2 i))), .int (nI (gd_s ((sg_gu σ).2 i))), .ref (am (400 + i)), .int (nI (gd_k ((sg_gu σ).2 i))), .int (gd_h ((sg_gu σ).2 i))] H := hg13.1
          refine nw_cast C (ci := 10) rfl (hg15.is C (ci := 10) rfl) q1621 dX4_minuteNow_125 128 rfl ?_
          refine nw_iload_n C 1 dX4_minuteNow_128 rfl 129 rfl ?_
          refine nw_callV C (mX11_isOnDuty _ C.hfl d (am (300 + i)) (am (400 + i)) (fun q => ro q = 7401 + i) ((sg_gu σ).2 i) (sg_gr σ) t H hB hg13 hk14 (by omega)) kX11_isOnDuty q1884 (hg15.is C (ci := 10) rfl) (As := [.int (nI t)]) (rest := [.int (nI m)]) rfl rfl ⟨⟨Nat.le_of_ble_eq_true rfl, Nat.le_of_ble_eq_true rfl⟩, Nat.le_of_ble_eq_true rfl, Nat.le_of_ble_eq_true rfl⟩ (Nat.le_of_ble_eq_true rfl) (fun _ h8 h9 => absurd h9 (Nat.not_le.mpr h8)) dX4_minuteNow_129 132 rfl (nw_rdK ?_) nw_noX
          refine nw_ifeqB C 139 dX4_minuteNow_132 (by decide) 135 rfl (fun h16 => ?_) (fun h16 => ?_)
          · refine nw_iconst C (nI 0) dX4_minuteNow_139 (by decide) 140 rfl ?_
            refine nw_iaddN C dX4_minuteNow_140 141 rfl ?_
            refine nw_istore_n C [(3, .int (nI (m + 0))), (0, .ref y), (1, .int (nI t)), (4, .int (nI i))] dX4_minuteNow_141 (by decide) rfl 142 rfl ?_
            refine nw_iincN C 3 (c0 := 1) [(4, .int (nI (i + 1))), (3, .int (nI (m + 0))), (0, .ref y), (1, .int (nI t))] dX4_minuteNow_142 rfl (by decide) rfl 145 rfl ?_
            refine nw_goto C 99 dX4_minuteNow_145 (by decide) ?_
            exact (nw_sub [2, 3, 1, 0] rfl (ih_lp2 (i + 1) m (by omega) (by rw [sp_cnt_f (p := (fun k => sp_on ((sg_gu σ).2 k) t)) (n := i) (by simp [h16])]; omega) (by omega)))
          · refine nw_iconst C (nI 1) dX4_minuteNow_135 (by decide) 136 rfl ?_
            refine nw_goto C 140 dX4_minuteNow_136 (by decide) ?_
            refine nw_iaddN C dX4_minuteNow_140 141 rfl ?_
            refine nw_istore_n C [(3, .int (nI (m + 1))), (0, .ref y), (1, .int (nI t)), (4, .int (nI i))] dX4_minuteNow_141 (by decide) rfl 142 rfl ?_
            refine nw_iincN C 3 (c0 := 1) [(4, .int (nI (i + 1))), (3, .int (nI (m + 1))), (0, .ref y), (1, .int (nI t))] dX4_minuteNow_142 rfl (by decide) rfl 145 rfl ?_
            refine nw_goto C 99 dX4_minuteNow_145 (by decide) ?_
            exact (nw_sub [2, 3, 1, 0] rfl (ih_lp2 (i + 1) (m + 1) (by omega) (by rw [sp_cnt_t (p := (fun k => sp_on ((sg_gu σ).2 k) t)) (n := i) (by simp [h16])]; omega) (by omega)))
    exact (nw_sub [2, 3, 1, 0] rfl (lp2 _ 0 0 (Nat.zero_le _) rfl (Nat.lt_succ_self _)))
  rcases Nat.decEq q 3 with h17 | h17
  rotate_left
  · have h17s := h17
    refine nw_tabInN C (off := 147) h17 (by decide) 150 dX4_minuteNow_3 (by decide) (by decide) rfl (by decide) ?_
    refine nw_iconst C (nI 0) dX4_minuteNow_150 (by decide) 151 rfl ?_
    refine nw_istore C [(4, .int (nI 0)), (3, .int (nI 0)), (0, .ref y), (1, .int (nI t)), (2, .int (nI q))] dX4_minuteNow_151 (by decide) rfl 153 rfl ?_
    have lp3 : ∀ (fu : Nat) (i : Nat) (m : Nat), (i ≤ (sg_gu σ).1) → (m = sp_cnt (fun k => sp_tired ((sg_gu σ).2 k) t) i) → (sg_gu σ).1 - i < fu → nwV X (nwNew H) (nwQE X (fun v H1 => v = some (.int (nI (sp_minuteNow σ t q))) ∧ H1 = H) nwNo (nwNew H) 0 0) 8 H 0 0 153 [(0, .ref y), (1, .int (nI t)), (3, .int (nI m)), (4, .int (nI i))] [] := by
      intro fu
      induction fu with
      | zero => intro i m _ _ hm; exact absurd hm (Nat.not_lt_zero _)
      | succ fu ih_lp3 =>
        intro i m hi hmm hm
        refine nw_iload C 3 dX4_minuteNow_153 rfl 155 rfl ?_
        refine nw_aload_n C 0 dX4_minuteNow_155 rfl 156 rfl ?_
        refine nw_get C hmX (T := TX4) rfl in_X4 8 (by decide) q1630 (Or.inl rfl) rfl dX4_minuteNow_156 159 rfl ?_
        refine nw_callF C (mJ3_size _ C.hfl d (am 3) ((sg_gu σ).1) (fun k => am (300 + k)) (fun q => ro q = 7004) H hB hmGu.1) kJ3_size (ci := 13) rfl q1607 q1611 (by decide +kernel) fc_List_size (hmGu.1.is C) (As := []) (rest := [.int (nI i)]) rfl rfl ⟨⟨Nat.le_of_ble_eq_true rfl, Nat.le_of_ble_eq_true rfl⟩, Nat.le_of_ble_eq_true rfl, Nat.le_of_ble_eq_true rfl⟩ (Nat.le_of_ble_eq_true rfl) (fun _ h8 h9 => absurd h9 (Nat.not_le.mpr h8)) dX4_minuteNow_159 164 rfl (nw_rdK ?_) nw_noX
        refine nw_icmpgeN C (by omega) 202 dX4_minuteNow_164 (by decide) 167 rfl (fun h18 => ?_) (fun h18 => ?_)
        · refine nw_iload_n C 2 dX4_minuteNow_202 rfl 203 rfl ?_
          exact nw_iret C dX4_minuteNow_203 (Nat.le_refl _) (Nat.le_refl _) ⟨congrArg (fun z => some (Value.int (nI z))) (show (m) = (sp_minuteNow σ t q) from (by unfold sp_minuteNow; rw [if_neg (show ¬ q = 0 by omega), if_neg (show ¬ q = 1 by omega), if_neg (show ¬ q = 2 by omega), if_pos (show q = 3 by omega)]; rw [hmm, show i = (sg_gu σ).1 by omega]; unfold sp_duty; first | rfl | simp)), rfl⟩
        · refine nw_iload_n C 2 dX4_minuteNow_167 rfl 168 rfl ?_
          refine nw_aload_n C 0 dX4_minuteNow_168 rfl 169 rfl ?_
          refine nw_get C hmX (T := TX4) rfl in_X4 8 (by decide) q1630 (Or.inl rfl) rfl dX4_minuteNow_169 172 rfl ?_
          refine nw_iload C 3 dX4_minuteNow_172 rfl 174 rfl ?_
          refine nw_callF C (mJ3_get _ C.hfl d (am 3) ((sg_gu σ).1) (fun k => am (300 + k)) (fun q => ro q = 7004) i H hB hmGu.1 (by omega)) kJ3_get (ci := 13) rfl q1615 q1618 (by decide +kernel) fc_List_get (hmGu.1.is C) (As := [.int (nI i)]) (rest := [.int (nI m)]) rfl rfl ⟨⟨Nat.le_of_ble_eq_true rfl, Nat.le_of_ble_eq_true rfl⟩, Nat.le_of_ble_eq_true rfl, Nat.le_of_ble_eq_true rfl⟩ (Nat.le_of_ble_eq_true rfl) (fun _ h8 h9 => absurd h9 (Nat.not_le.mpr h8)) dX4_minuteNow_174 179 rfl (nw_rdK ?_) nw_noX
          have hg19 : nwMGd d (am (300 + i)) (am (400 + i)) (fun q => ro q = 7401 + i) ((sg_gu σ).2 i) H := hmGu.2 i (by omega)
          have hk20 : okGd (sg_gr σ) ((sg_gu σ).2 i) := oku.2 i (by omega)
          have hg21 : nwO d (am (300 + i)) 10 [.int (nI (gd_a ((sg_gu σ).2 i))), .int (nI (gd_b ((sg_gu σ).2 i))), .int (nI (gd_s ((sg_gu σ).2 i))), .ref (am (400 + i)), .int (nI (gd_k ((sg_gu σ).2 i))), .int (gd_h ((sg_gu σ).2 i))] H := hg19.1
          refine nw_cast C (ci := 10) rfl (hg21.is C (ci := 10) rfl) q1621 dX4_minuteNow_179 182 rfl ?_
          refine nw_iload_n C 1 dX4_minuteNow_182 rfl 183 rfl ?_
          refine nw_callV C (mX11_isTired _ C.hfl d (am (300 + i)) (am (400 + i)) (fun q => ro q = 7401 + i) ((sg_gu σ).2 i) (sg_gr σ) t H hB hg19 hk20 (by omega)) kX11_isTired q1852 (hg21.is C (ci := 10) rfl) (As := [.int (nI t)]) (rest := [.int (nI m)]) rfl rfl ⟨⟨Nat.le_of_ble_eq_true rfl, Nat.le_of_ble_eq_true rfl⟩, Nat.le_of_ble_eq_true rfl, Nat.le_of_ble_eq_true rfl⟩ (Nat.le_of_ble_eq_true rfl) (fun _ h8 h9 => absurd h9 (Nat.not_le.mpr h8)) dX4_minuteNow_183 186 rfl (nw_rdK ?_) nw_noX
          refine nw_ifeqB C 193 dX4_minuteNow_186 (by decide) 189 rfl (fun h22 => ?_) (fun h22 => ?_)
          · refine nw_iconst C (nI 0) dX4_minuteNow_193 (by decide) 194 rfl ?_
            refine nw_iaddN C dX4_minuteNow_194 195 rfl ?_
            refine nw_istore_n C [(3, .int (nI (m + 0))), (0, .ref y), (1, .int (nI t)), (4, .int (nI i))] dX4_minuteNow_195 (by decide) rfl 196 rfl ?_
            refine nw_iincN C 3 (c0 := 1) [(4, .int (nI (i + 1))), (3, .int (nI (m + 0))), (0, .ref y), (1, .int (nI t))] dX4_minuteNow_196 rfl (by decide) rfl 199 rfl ?_
            refine nw_goto C 153 dX4_minuteNow_199 (by decide) ?_
            exact (nw_sub [2, 3, 1, 0] rfl (ih_lp3 (i + 1) m (by omega) (by rw [sp_cnt_f (p := (fun k => sp_tired ((sg_gu σ).2 k) t)) (n := i) (by simp [h22])]; omega) (by omega)))
          · refine nw_iconst C (nI 1) dX4_minuteNow_189 (by decide) 190 rfl ?_
            refine nw_goto C 194 dX4_minuteNow_190 (by decide) ?_
            refine nw_iaddN C dX4_minuteNow_194 195 rfl ?_
            refine nw_istore_n C [(3, .int (nI (m + 1))), (0, .ref y), (1, .int (nI t)), (4, .int (nI i))] dX4_minuteNow_195 (by decide) rfl 196 rfl ?_
            refine nw_iincN C 3 (c0 := 1) [(4, .int (nI (i + 1))), (3, .int (nI (m + 1))), (0, .ref y), (1, .int (nI t))] dX4_minuteNow_196 rfl (by decide) rfl 199 rfl ?_
            refine nw_goto C 153 dX4_minuteNow_199 (by decide) ?_
            exact (nw_sub [2, 3, 1, 0] rfl (ih_lp3 (i + 1) (m + 1) (by omega) (by rw [sp_cnt_t (p := (fun k => sp_tired ((sg_gu σ).2 k) t)) (n := i) (by simp [h22])]; omega) (by omega)))
    exact (nw_sub [2, 3, 1, 0] rfl (lp3 _ 0 0 (Nat.zero_le _) rfl (Nat.lt_succ_self _)))
  rcases Nat.decEq q 4 with h23 | h23
  rotate_left
  · have h23s := h23
    refine nw_tabInN C (off := 201) h23 (by decide) 204 dX4_minuteNow_3 (by decide) (by decide) rfl (by decide) ?_
    refine nw_iconst C (nI 0) dX4_minuteNow_204 (by decide) 205 rfl ?_
    refine nw_istore C [(4, .int (nI 0)), (3, .int (nI 0)), (0, .ref y), (1, .int (nI t)), (2, .int (nI q))] dX4_minuteNow_205 (by decide) rfl 207 rfl ?_
    have lp4 : ∀ (fu : Nat) (i : Nat) (m : Nat), (i ≤ (sg_po σ).1) → (m = sp_cnt (fun k => sp_empty (sg_gu σ) ((sg_po σ).2 k) t) i) → (sg_po σ).1 - i < fu → nwV X (nwNew H) (nwQE X (fun v H1 => v = some (.int (nI (sp_minuteNow σ t q))) ∧ H1 = H) nwNo (nwNew H) 0 0) 8 H 0 0 207 [(0, .ref y), (1, .int (nI t)), (3, .int (nI m)), (4, .int (nI i))] [] := by
      intro fu
      induction fu with
      | zero => intro i m _ _ hm; exact absurd hm (Nat.not_lt_zero _)
      | succ fu ih_lp4 =>
        intro i m hi hmm hm
        refine nw_iload C 3 dX4_minuteNow_207 rfl 209 rfl ?_
        refine nw_aload_n C 0 dX4_minuteNow_209 rfl 210 rfl ?_
        refine nw_get C hmX (T := TX4) rfl in_X4 9 (by decide) q1631 (Or.inl rfl) rfl dX4_minuteNow_210 213 rfl ?_
        refine nw_callF C (mJ3_size _ C.hfl d (am 4) ((sg_po σ).1) (fun k => nd_bx d ((sg_po σ).2 k)) (fun q => ro q = 7005) H hB hmPo) kJ3_size (ci := 13) rfl q1607 q1611 (by decide +kernel) fc_List_size (hmPo.is C) (As := []) (rest := [.int (nI i)]) rfl rfl ⟨⟨Nat.le_of_ble_eq_true rfl, Nat.le_of_ble_eq_true rfl⟩, Nat.le_of_ble_eq_true rfl, Nat.le_of_ble_eq_true rfl⟩ (Nat.le_of_ble_eq_true rfl) (fun _ h8 h9 => absurd h9 (Nat.not_le.mpr h8)) dX4_minuteNow_213 218 rfl (nw_rdK ?_) nw_noX
        refine nw_icmpgeN C (by omega) 245 dX4_minuteNow_218 (by decide) 221 rfl (fun h24 => ?_) (fun h24 => ?_)
        · refine nw_iload_n C 2 dX4_minuteNow_245 rfl 246 rfl ?_
          exact nw_iret C dX4_minuteNow_246 (Nat.le_refl _) (Nat.le_refl _) ⟨congrArg (fun z => some (Value.int (nI z))) (show (m) = (sp_minuteNow σ t q) from (by unfold sp_minuteNow; rw [if_neg (show ¬ q = 0 by omega), if_neg (show ¬ q = 1 by omega), if_neg (show ¬ q = 2 by omega), if_neg (show ¬ q = 3 by omega), if_pos (show q = 4 by omega)]; rw [hmm, show i = (sg_po σ).1 by omega]; unfold sp_emptyPosts; first | rfl | simp)), rfl⟩
        · refine nw_iload_n C 2 dX4_minuteNow_221 rfl 222 rfl ?_
          refine nw_aload_n C 0 dX4_minuteNow_222 rfl 223 rfl ?_
          refine nw_iload C 3 dX4_minuteNow_223 rfl 225 rfl ?_
          refine nw_iload_n C 1 dX4_minuteNow_225 rfl 226 rfl ?_
          refine nw_callV C (mX4_isEmpty _ C.hfl d ro am y σ th i t H hB hW okM (by omega) (by omega)) kX4_isEmpty q1885 (hmX.is C (ci := 9) rfl) (As := [.int (nI i), .int (nI t)]) (rest := [.int (nI m)]) rfl rfl ⟨⟨Nat.le_of_ble_eq_true rfl, Nat.le_of_ble_eq_true rfl⟩, Nat.le_of_ble_eq_true rfl, Nat.le_of_ble_eq_true rfl⟩ (Nat.le_of_ble_eq_true rfl) (fun _ h8 h9 => absurd h9 (Nat.not_le.mpr h8)) dX4_minuteNow_226 229 rfl (nw_rdK ?_) nw_noX
          refine nw_ifeqB C 236 dX4_minuteNow_229 (by decide) 232 rfl (fun h25 => ?_) (fun h25 => ?_)
          · refine nw_iconst C (nI 0) dX4_minuteNow_236 (by decide) 237 rfl ?_
            refine nw_iaddN C dX4_minuteNow_237 238 rfl ?_
            refine nw_istore_n C [(3, .int (nI (m + 0))), (0, .ref y), (1, .int (nI t)), (4, .int (nI i))] dX4_minuteNow_238 (by decide) rfl 239 rfl ?_
            refine nw_iincN C 3 (c0 := 1) [(4, .int (nI (i + 1))), (3, .int (nI (m + 0))), (0, .ref y), (1, .int (nI t))] dX4_minuteNow_239 rfl (by decide) rfl 242 rfl ?_
            refine nw_goto C 207 dX4_minuteNow_242 (by decide) ?_
            exact (nw_sub [2, 3, 1, 0] rfl (ih_lp4 (i + 1) m (by omega) (by rw [sp_cnt_f (p := (fun k => sp_empty (sg_gu σ) ((sg_po σ).2 k) t)) (n := i) (by simp [h25])]; omega) (by omega)))
          · refine nw_iconst C (nI 1) dX4_minuteNow_232 (by decide) 233 rfl ?_
            refine nw_goto C 237 dX4_minuteNow_233 (by decide) ?_
            refine nw_iaddN C dX4_minuteNow_237 238 rfl ?_
            refine nw_istore_n C [(3, .int (nI (m + 1))), (0, .ref y), (1, .int (nI t)), (4, .int (nI i))] dX4_minuteNow_238 (by decide) rfl 239 rfl ?_
            refine nw_iincN C 3 (c0 := 1) [(4, .int (nI (i + 1))), (3, .int (nI (m + 1))), (0, .ref y), (1, .int (nI t))] dX4_minuteNow_239 rfl (by decide) rfl 242 rfl ?_
            refine nw_goto C 207 dX4_minuteNow_242 (by decide) ?_
            exact (nw_sub [2, 3, 1, 0] rfl (ih_lp4 (i + 1) (m + 1) (by omega) (by rw [sp_cnt_t (p := (fun k => sp_empty (sg_gu σ) ((sg_po σ).2 k) t)) (n := i) (by simp [h25])]; omega) (by omega)))
    exact (nw_sub [2, 3, 1, 0] rfl (lp4 _ 0 0 (Nat.zero_le _) rfl (Nat.lt_succ_self _)))
  rcases Nat.decEq q 5 with h26 | h26
  rotate_left
  · have h26s := h26
    refine nw_tabInN C (off := 244) h26 (by decide) 247 dX4_minuteNow_3 (by decide) (by decide) rfl (by decide) ?_
    refine nw_aload_n C 1 dX4_minuteNow_247 rfl 248 rfl ?_
    refine nw_callV C (mX4_brights _ C.hfl d ro am y σ th  H hB hW okM ) kX4_brights q1740 (hmX.is C (ci := 9) rfl) (As := []) (rest := []) rfl rfl ⟨⟨Nat.le_of_ble_eq_true rfl, Nat.le_of_ble_eq_true rfl⟩, Nat.le_of_ble_eq_true rfl, Nat.le_of_ble_eq_true rfl⟩ (Nat.le_of_ble_eq_true rfl) (fun _ h8 h9 => absurd h9 (Nat.not_le.mpr h8)) dX4_minuteNow_248 251 rfl (nw_rdK ?_) nw_noX
    exact nw_iret C dX4_minuteNow_251 (Nat.le_refl _) (Nat.le_refl _) ⟨congrArg (fun z => some (Value.int (nI z))) (show (sp_brights (sg_gr σ) (sg_la σ)) = (sp_minuteNow σ t q) from (by unfold sp_minuteNow; rw [if_neg (show ¬ q = 0 by omega), if_neg (show ¬ q = 1 by omega), if_neg (show ¬ q = 2 by omega), if_neg (show ¬ q = 3 by omega), if_neg (show ¬ q = 4 by omega), if_pos (show q = 5 by omega)])), rfl⟩
  refine nw_tabOutN C (lo := 0) (hi := 5) (by omega) (by omega) 252 dX4_minuteNow_3 (by decide) ?_
  refine nw_aload_n C 1 dX4_minuteNow_252 rfl 253 rfl ?_
  refine nw_get C hmX (T := TX4) rfl in_X4 16 (by decide) q1638 (Or.inl rfl) rfl dX4_minuteNow_253 256 rfl ?_
  refine nw_astore C [(4, .ref (am 8)), (3, .int (nI 0)), (0, .ref y), (1, .int (nI t)), (2, .int (nI q))] dX4_minuteNow_256 (by decide) rfl 258 rfl ?_
  refine nw_aload C 0 dX4_minuteNow_258 rfl 260 rfl ?_
  refine nw_alenI C hmKe (by decide) dX4_minuteNow_260 261 rfl ?_
  refine nw_istore C [(5, .int (nI 6)), (4, .ref (am 8)), (3, .int (nI 0)), (0, .ref y), (1, .int (nI t)), (2, .int (nI q))] dX4_minuteNow_261 (by decide) rfl 263 rfl ?_
  refine nw_iconst C (nI 0) dX4_minuteNow_263 (by decide) 264 rfl ?_
  refine nw_istore C [(6, .int (nI 0)), (5, .int (nI 6)), (4, .ref (am 8)), (3, .int (nI 0)), (0, .ref y), (1, .int (nI t)), (2, .int (nI q))] dX4_minuteNow_264 (by decide) rfl 266 rfl ?_
  have lp5 : ∀ (fu : Nat) (i : Nat) (m : Nat), (i ≤ 6) → (m = sp_cnt (sp_keyAway (sg_gu σ) (sg_ke σ) t) i) → 6 - i < fu → nwV X (nwNew H) (nwQE X (fun v H1 => v = some (.int (nI (sp_minuteNow σ t q))) ∧ H1 = H) nwNo (nwNew H) 0 0) 8 H 0 0 266 [(0, .ref y), (1, .int (nI t)), (3, .int (nI m)), (4, .ref (am 8)), (5, .int (nI 6)), (6, .int (nI i))] [] := by
    intro fu
    induction fu with
    | zero => intro i m _ _ hm; exact absurd hm (Nat.not_lt_zero _)
    | succ fu ih_lp5 =>
      intro i m hi hmm hm
      refine nw_iload C 5 dX4_minuteNow_266 rfl 268 rfl ?_
      refine nw_iload C 4 dX4_minuteNow_268 rfl 270 rfl ?_
      refine nw_icmpgeN C (by omega) 321 dX4_minuteNow_270 (by decide) 273 rfl (fun h27 => ?_) (fun h27 => ?_)
      · refine nw_iload_n C 2 dX4_minuteNow_321 rfl 322 rfl ?_
        exact nw_iret C dX4_minuteNow_322 (Nat.le_refl _) (Nat.le_refl _) ⟨congrArg (fun z => some (Value.int (nI z))) (show (m) = (sp_minuteNow σ t q) from (by unfold sp_minuteNow; rw [if_neg (show ¬ q = 0 by omega), if_neg (show ¬ q = 1 by omega), if_neg (show ¬ q = 2 by omega), if_neg (show ¬ q = 3 by omega), if_neg (show ¬ q = 4 by omega), if_neg (show ¬ q = 5 by omega)]; rw [hmm, show i = 6 by omega]; unfold sp_keysAway; first | rfl | simp)), rfl⟩
      · refine nw_aload C 3 dX4_minuteNow_273 rfl 275 rfl ?_
        refine nw_iload C 5 dX4_minuteNow_275 rfl 277 rfl ?_
        refine nw_ialdN C (oI (sg_ke σ i)) hmKe (by omega) rfl dX4_minuteNow_277 278 rfl ?_
        refine nw_istore C [(7, .int (oI (sg_ke σ i))), (0, .ref y), (1, .int (nI t)), (3, .int (nI m)), (4, .ref (am 8)), (5, .int (nI 6)), (6, .int (nI i))] dX4_minuteNow_278 (by decide) rfl 280 rfl ?_
        generalize hke : sg_ke σ i = o
        rcases o with _ | g
        · show nwV X _ _ 8 H 0 0 280 [(7, .int (oI none)), (0, .ref y), (1, .int (nI t)), (3, .int (nI m)), (4, .ref (am 8)), (5, .int (nI 6)), (6, .int (nI i))] []
          refine nw_iload_n C 3 dX4_minuteNow_280 rfl 281 rfl ?_
          refine nw_iload C 0 dX4_minuteNow_281 rfl 283 rfl ?_
          refine nw_iconst C (oI none) dX4_minuteNow_283 (by decide) 284 rfl ?_
          refine nw_icmpeqT C rfl 312 dX4_minuteNow_284 (by decide) ?_
          refine nw_iconst C (nI 0) dX4_minuteNow_312 (by decide) 313 rfl ?_
          refine nw_iaddN C dX4_minuteNow_313 314 rfl ?_
          refine nw_istore_n C [(3, .int (nI (m + 0))), (7, .int (oI none)), (0, .ref y), (1, .int (nI t)), (4, .ref (am 8)), (5, .int (nI 6)), (6, .int (nI i))] dX4_minuteNow_314 (by decide) rfl 315 rfl ?_
          refine nw_iincN C 6 (c0 := 1) [(6, .int (nI (i + 1))), (3, .int (nI (m + 0))), (7, .int (oI none)), (0, .ref y), (1, .int (nI t)), (4, .ref (am 8)), (5, .int (nI 6))] dX4_minuteNow_315 rfl (by decide) rfl 318 rfl ?_
          refine nw_goto C 266 dX4_minuteNow_318 (by decide) ?_
          exact (nw_sub [3, 4, 1, 5, 6, 0] rfl (ih_lp5 (i + 1) m (by omega) (by rw [sp_cnt_f (p := (sp_keyAway (sg_gu σ) (sg_ke σ) t)) (n := i) (by unfold sp_keyAway; simp [hke])]; omega) (by omega)))
        · show nwV X _ _ 8 H 0 0 280 [(7, .int (nI g)), (0, .ref y), (1, .int (nI t)), (3, .int (nI m)), (4, .ref (am 8)), (5, .int (nI 6)), (6, .int (nI i))] []
          have hgk := okk i (by omega) g hke
          refine nw_iload_n C 3 dX4_minuteNow_280 rfl 281 rfl ?_
          refine nw_iload C 0 dX4_minuteNow_281 rfl 283 rfl ?_
          refine nw_iconst C (oI none) dX4_minuteNow_283 (by decide) 284 rfl ?_
          refine nw_icmpeqF C (nI_m1 (by omega)) 312 dX4_minuteNow_284 (by decide) 287 rfl ?_
          refine nw_aload_n C 1 dX4_minuteNow_287 rfl 288 rfl ?_
          refine nw_get C hmX (T := TX4) rfl in_X4 8 (by decide) q1630 (Or.inl rfl) rfl dX4_minuteNow_288 291 rfl ?_
          refine nw_iload C 0 dX4_minuteNow_291 rfl 293 rfl ?_
          refine nw_callF C (mJ3_get _ C.hfl d (am 3) ((sg_gu σ).1) (fun k => am (300 + k)) (fun q => ro q = 7004) g H hB hmGu.1 (by omega)) kJ3_get (ci := 13) rfl q1615 q1618 (by decide +kernel) fc_List_get (hmGu.1.is C) (As := [.int (nI g)]) (rest := [.int (nI m)]) rfl rfl ⟨⟨Nat.le_of_ble_eq_true rfl, Nat.le_of_ble_eq_true rfl⟩, Nat.le_of_ble_eq_true rfl, Nat.le_of_ble_eq_true rfl⟩ (Nat.le_of_ble_eq_true rfl) (fun _ h8 h9 => absurd h9 (Nat.not_le.mpr h8)) dX4_minuteNow_293 298 rfl (nw_rdK ?_) nw_noX
          have hg30 : nwMGd d (am (300 + g)) (am (400 + g)) (fun q => ro q = 7401 + g) ((sg_gu σ).2 g) H := hmGu.2 g (by omega)
          have hk31 : okGd (sg_gr σ) ((sg_gu σ).2 g) := oku.2 g (by omega)
          have hg32 : nwO d (am (300 + g)) 10 [.int (nI (gd_a ((sg_gu σ).2 g))), .int (nI (gd_b ((sg_gu σ).2 g))), .int (nI (gd_s ((sg_gu σ).2 g))), .ref (am (400 + g)), .int (nI (gd_k ((sg_gu σ).2 g))), .int (gd_h ((sg_gu σ).2 g))] H := hg30.1
          refine nw_cast C (ci := 10) rfl (hg32.is C (ci := 10) rfl) q1621 dX4_minuteNow_298 301 rfl ?_
          refine nw_iload_n C 2 dX4_minuteNow_301 rfl 302 rfl ?_
          refine nw_callV C (mX11_isOnDuty _ C.hfl d (am (300 + g)) (am (400 + g)) (fun q => ro q = 7401 + g) ((sg_gu σ).2 g) (sg_gr σ) t H hB hg30 hk31 (by omega)) kX11_isOnDuty q1884 (hg32.is C (ci := 10) rfl) (As := [.int (nI t)]) (rest := [.int (nI m)]) rfl rfl ⟨⟨Nat.le_of_ble_eq_true rfl, Nat.le_of_ble_eq_true rfl⟩, Nat.le_of_ble_eq_true rfl, Nat.le_of_ble_eq_true rfl⟩ (Nat.le_of_ble_eq_true rfl) (fun _ h8 h9 => absurd h9 (Nat.not_le.mpr h8)) dX4_minuteNow_302 305 rfl (nw_rdK ?_) nw_noX
          refine nw_ifneB C 312 dX4_minuteNow_305 (by decide) 308 rfl (fun h33 => ?_) (fun h33 => ?_)
          · refine nw_iconst C (nI 0) dX4_minuteNow_312 (by decide) 313 rfl ?_
            refine nw_iaddN C dX4_minuteNow_313 314 rfl ?_
            refine nw_istore_n C [(3, .int (nI (m + 0))), (7, .int (nI g)), (0, .ref y), (1, .int (nI t)), (4, .ref (am 8)), (5, .int (nI 6)), (6, .int (nI i))] dX4_minuteNow_314 (by decide) rfl 315 rfl ?_
            refine nw_iincN C 6 (c0 := 1) [(6, .int (nI (i + 1))), (3, .int (nI (m + 0))), (7, .int (nI g)), (0, .ref y), (1, .int (nI t)), (4, .ref (am 8)), (5, .int (nI 6))] dX4_minuteNow_315 rfl (by decide) rfl 318 rfl ?_
            refine nw_goto C 266 dX4_minuteNow_318 (by decide) ?_
            exact (nw_sub [3, 4, 1, 5, 6, 0] rfl (ih_lp5 (i + 1) m (by omega) (by rw [sp_cnt_f (p := (sp_keyAway (sg_gu σ) (sg_ke σ) t)) (n := i) (by unfold sp_keyAway; simp [hke, h33])]; omega) (by omega)))
          · refine nw_iconst C (nI 1) dX4_minuteNow_308 (by decide) 309 rfl ?_
            refine nw_goto C 313 dX4_minuteNow_309 (by decide) ?_
            refine nw_iaddN C dX4_minuteNow_313 314 rfl ?_
            refine nw_istore_n C [(3, .int (nI (m + 1))), (7, .int (nI g)), (0, .ref y), (1, .int (nI t)), (4, .ref (am 8)), (5, .int (nI 6)), (6, .int (nI i))] dX4_minuteNow_314 (by decide) rfl 315 rfl ?_
            refine nw_iincN C 6 (c0 := 1) [(6, .int (nI (i + 1))), (3, .int (nI (m + 1))), (7, .int (nI g)), (0, .ref y), (1, .int (nI t)), (4, .ref (am 8)), (5, .int (nI 6))] dX4_minuteNow_315 rfl (by decide) rfl 318 rfl ?_
            refine nw_goto C 266 dX4_minuteNow_318 (by decide) ?_
            exact (nw_sub [3, 4, 1, 5, 6, 0] rfl (ih_lp5 (i + 1) (m + 1) (by omega) (by rw [sp_cnt_t (p := (sp_keyAway (sg_gu σ) (sg_ke σ) t)) (n := i) (by unfold sp_keyAway; simp [hke, h33])]; omega) (by omega)))
  exact (nw_sub [4, 5, 3, 2, 1, 0] rfl (lp5 _ 0 0 (Nat.zero_le _) rfl (Nat.lt_succ_self _)))
