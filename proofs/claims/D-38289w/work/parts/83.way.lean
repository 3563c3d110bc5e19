/-! ===== ways, intruders ===== -/
theorem sp_digs_z (f : Nat) : sp_digs f 0 = 0 := by cases f <;> rfl
theorem sp_digs_s {n : Nat} (f : Nat) (h : 0 < n) : sp_digs (f + 1) n = sp_digs f (n / 5) + 1 := by
  have h0 : ¬ n = 0 := by omega
  rw [sp_digs, if_neg h0]
theorem sp_digs_le : ∀ (i f n : Nat), n < 5 ^ i → sp_digs f n ≤ i
  | 0, f, n, h => by
    have h0 : n = 0 := by simpa using h
    rw [h0, sp_digs_z]
    exact Nat.le_refl 0
  | i + 1, 0, n, h => Nat.zero_le _
  | i + 1, f + 1, n, h => by
    rcases Nat.eq_zero_or_pos n with h0 | h0
    · rw [h0, sp_digs_z]; omega
    · rw [sp_digs_s f h0]
      have h1 : n / 5 < 5 ^ i := Nat.div_lt_of_lt_mul (by rw [Nat.pow_succ] at h; omega)
      have := sp_digs_le i f (n / 5) h1
      omega
theorem sp_digs14 {n : Nat} (h : n < 2 ^ 31) : sp_digs 32 n ≤ 14 := sp_digs_le 14 32 n (by omega)
theorem sp_way_ok {g : spGr} (ho : spGrOk g) (mv m : Nat) : ∀ (k : Nat) (w r : Nat × (Nat → Nat)), 1 ≤ w.1 → w.1 + k ≤ 15 → (∀ j, j < w.1 → w.2 j < gr_n g) → sp_way g mv m k w = some r → 1 ≤ r.1 ∧ r.1 ≤ 15 ∧ ∀ j, j < r.1 → r.2 j < gr_n g
  | 0, w, r, h1, h2, h3, h => by
    cases h
    exact ⟨h1, h2, h3⟩
  | k + 1, w, r, h1, h2, h3, h => by
    unfold sp_way at h
    split at h
    · split at h
      · cases h
      · rename_i c hc
        split at h
        · cases h
        · have hcn := sp_moved_lt ho (h3 (w.1 - 1) (by omega)) hc
          exact sp_way_ok ho mv m k (w.1 + 1, sp_up w.2 w.1 c) r (by show 1 ≤ w.1 + 1; omega) (by show w.1 + 1 + k ≤ 15; omega) (sp_up_lt (Q := fun z => z < gr_n g) h3 hcn) h
    · cases h
      exact ⟨h1, by omega, h3⟩
theorem sp_wayOf_ok {g : spGr} (ho : spGrOk g) {c t mv : Nat} (hc : c < gr_n g) (hm : mv < 2 ^ 31) {r : Nat × (Nat → Nat)} (h : sp_wayOf g c t mv = some r) : 1 ≤ r.1 ∧ r.1 ≤ 15 ∧ ∀ j, j < r.1 → r.2 j < gr_n g := by
  unfold sp_wayOf at h
  split at h
  · cases h
  · have h4 := sp_digs14 hm
    exact sp_way_ok ho mv (240 - t) (sp_digs 32 mv) (1, fun _ => c) r (Nat.le_refl 1) (by show 1 + _ ≤ 15; omega) (fun _ _ => hc) h
/-- what hangs on the Optional that a way comes in -/
def nwWay (d : nwD) (H H1 : Heap) (o : Nat) : Option (Nat × (Nat → Nat)) → Prop
  | none => o = nd_st d 4
  | some w => H.size ≤ o ∧ ∃ (wl ar cap : Nat) (mo : Int32) (f : Nat → Option Nat), H.size ≤ wl ∧ nwO d o 15 [.ref wl] H1 ∧ nwLm d wl w.1 (fun k => nd_bx d (w.2 k)) (fun q => H.size ≤ q ∧ q ≠ wl) mo ar cap f H1
def sp_pr (j : Nat) : Option Nat := match j with
  | 0 => none
  | j + 1 => some j
theorem nw_pr {j : Nat} : nI j + Int32.ofInt (-1) = oI (sp_pr j) := by
  cases j with
  | zero => decide
  | succ j =>
    have h : nI (j + 1) = nI j + nI 1 := (nI_add j 1).symm
    have h2 : Int32.ofInt (-1) = -(nI 1) := by decide
    show nI (j + 1) + Int32.ofInt (-1) = nI j
    rw [h, h2]; grind
theorem nw_pr2 {j : Nat} : nI j - nI 1 = oI (sp_pr j) := by
  cases j with
  | zero => decide
  | succ j => exact pk_sub (Nat.le_add_left 1 j)
theorem nw_lt0 : oI none < 0 := by decide
theorem nwLm.toP {d : nwD} {a n ar cap : Nat} {es es' : Nat → Nat} {P P' : Nat → Prop} {mo : Int32} {f : Nat → Option Nat} {H : Heap} (h : nwLm d a n es P mo ar cap f H) (hP : P ar → P' ar) (he : ∀ k, k < n → es k = es' k) : nwLm d a n es' P' mo ar cap f H := ⟨h.1, fun hc => hP (h.2.1 hc), fun k hk => by rw [← he k hk]; exact h.2.2 k hk⟩
theorem nwE.bxlt9 {d : nwD} {U : State} {H : Heap} (h : nwE d U H) {v : Nat} (hv : v < 129) : nd_st d (1127 + v) < H.size := by
  obtain ⟨c, h1, -⟩ := h.boxIs9 hv
  exact (Array.getElem?_eq_some_iff.mp h1).1
theorem nwE.bxne9 {d : nwD} {U : State} {H : Heap} (h : nwE d U H) {a : Nat} (ha : nd_B d ≤ a) : nd_st d 1127 ≠ a := by
  have h1 := h.2.1.2.2.2.1 127 (by omega)
  obtain ⟨cell, -, -, -, h5⟩ := h1
  exact fun e => h5 (by show nd_B d ≤ nd_st d 1127; rw [e]; exact ha)
theorem nwEl.m1 {d : nwD} {H : Heap} : nwEl d H (nd_st d 1127) "java/lang/Integer" := Or.inr (Or.inl ⟨0, by omega, rfl, rfl⟩)
theorem nw_m129 : ¬ (oI none) < -128 := by decide
theorem nw_m1gt : ¬ (oI none) > nI 127 := by decide
theorem nw_m1ad : oI none + nI 128 = nI 127 := by decide
theorem sp_pr_none {j : Nat} (h : sp_pr j = none) : j = 0 := by
  cases j with
  | zero => rfl
  | succ j => cases h
theorem sp_pr_some {j p : Nat} (h : sp_pr j = some p) : j = p + 1 := by
  cases j with
  | zero => cases h
  | succ j => cases h; rfl
theorem sp_way_x {g : spGr} {mv m k : Nat} {w : Nat × (Nat → Nat)} (h : ¬ w.1 < m) : sp_way g mv m (k + 1) w = some w := by
  unfold sp_way
  rw [if_neg h]
theorem sp_way_n {g : spGr} {mv m k : Nat} {w : Nat × (Nat → Nat)} (h : w.1 < m) (h2 : sp_moved g (w.2 (w.1 - 1)) (sp_dig mv k) = none) : sp_way g mv m (k + 1) w = none := by
  unfold sp_way
  rw [if_pos h, h2]
theorem sp_way_w {g : spGr} {mv m k c : Nat} {w : Nat × (Nat → Nat)} (h : w.1 < m) (h2 : sp_moved g (w.2 (w.1 - 1)) (sp_dig mv k) = some c) (h3 : gr_k g c = 1) : sp_way g mv m (k + 1) w = none := by
  unfold sp_way
  rw [if_pos h, h2]
  exact if_pos h3
theorem sp_way_s {g : spGr} {mv m k c : Nat} {w : Nat × (Nat → Nat)} (h : w.1 < m) (h2 : sp_moved g (w.2 (w.1 - 1)) (sp_dig mv k) = some c) (h3 : ¬ gr_k g c = 1) : sp_way g mv m (k + 1) w = sp_way g mv m k (w.1 + 1, sp_up w.2 w.1 c) := by
  rw [sp_way, if_pos h, h2]
  exact if_neg h3
theorem kJ0_empty : nwPS yJ0_empty cJ0_empty 1 (some (.object "java/util/Optional")) 0 := ⟨⟨q136, q87, q137⟩, by decide +kernel, by decide +kernel, by decide +kernel⟩
theorem kJ0_of : nwPS yJ0_of cJ0_of 1 (some (.object "java/util/Optional")) 1 := ⟨⟨q750, q87, q751⟩, by decide +kernel, by decide +kernel, by decide +kernel⟩
set_option maxHeartbeats 4000000 in
theorem mJ19_valueOfM (l : Launch) (hf : l.flags = flags0) (d : nwD)  (H : Heap) (hB : nd_B d ≤ H.size)  : nwRd l d yJ19_valueOf cJ19_valueOf 1 (some (.object "java/lang/Integer")) 1 20 [.int (oI none)] H (some (.ref (nd_st d 1127))) := by
  refine nw_rd "java/lang/Integer" "valueOf" hf (by decide +kernel) rfl rfl hB (Nat.le_of_ble_eq_true rfl) ?_
  intro X C
  show nwV X _ _ 1 H 0 0 0 [(0, .int (oI none))] []
  refine nw_iload_n C 0 dJ19_valueOf_0 rfl 1 rfl ?_
  refine nw_bipush C ((-128)) dJ19_valueOf_1 (by decide) 3 rfl ?_
  refine nw_icmplt C 23 dJ19_valueOf_3 (by decide) 6 rfl (fun h1 => absurd h1 nw_m129) (fun _ => ?_)
  refine nw_iload_n C 0 dJ19_valueOf_6 rfl 7 rfl ?_
  refine nw_gets C (v := .int (nI 127)) (fun _ _ h9 => h9.2.1.1) q1003 dJ19_valueOf_7 10 rfl ?_
  refine nw_icmpgt C 23 dJ19_valueOf_10 (by decide) 13 rfl (fun h2 => absurd h2 nw_m1gt) (fun _ => ?_)
  refine nw_gets C (v := .ref (nd_st d 6)) (fun _ _ h9 => h9.2.1.2.1) q1005 dJ19_valueOf_13 16 rfl ?_
  refine nw_iload_n C 0 dJ19_valueOf_16 rfl 17 rfl ?_
  refine nw_sipush C (nI 128) dJ19_valueOf_17 (by decide) 20 rfl ?_
  refine nw_iadd C (nI 127) dJ19_valueOf_20 nw_m1ad 21 rfl ?_
  refine nw_aaldT C (nd_st d 1127) (N := 256) (f := fun j => .ref (nd_st d (1000 + j))) (fun _ _ h9 => h9.2.1.2.2.1) (by omega) rfl dJ19_valueOf_21 22 rfl ?_
  exact nw_aret C (Or.inl ⟨_, rfl⟩) dJ19_valueOf_22 (Nat.le_refl _) (Nat.le_refl _) ⟨congrArg (fun z => some (Value.ref z)) (show (nd_st d 1127) = (nd_st d 1127) from rfl), rfl⟩
set_option maxHeartbeats 4000000 in
theorem mX1_wayOf (l : Launch) (hf : l.flags = flags0) (d : nwD) (x g ka : Nat) (gr : spGr) (c t mv : Nat) (H : Heap) (hB : nd_B d ≤ H.size) (hG : nwGr d g ka gr H) (ho : spGrOk gr) (hc : c < gr_n gr) (ht : t < 240) (hmv : mv < 2 ^ 31) : nwMt l d yX1_wayOf cX1_wayOf 11 (some (.object "java/util/Optional")) 8 191 40 600 [.ref x, .ref g, .int (nI c), .int (nI t), .int (nI mv)] H (fun v1 H1 => nwExt H H1 ∧ ∃ o : Nat, v1 = some (.ref o) ∧ nwWay d H H1 o (sp_wayOf gr c t mv)) nwNo (nwNew H) := by
  refine nw_start "NightwatchWall" "wayOf" hf (by decide +kernel) rfl rfl (fun _ h => h) (fun q h => Nat.le_trans hB h) (Nat.le_of_ble_eq_true rfl) ?_
  intro X C
  have hG0 := hG
  have hB0 := hB
  have hE := C.E0
  have hext : nwExt H H := nwExt.rfl
  have hn64 := ho.n
  show nwV X _ _ 11 H 0 0 0 [(0, .ref x), (1, .ref g), (2, .int (nI c)), (3, .int (nI t)), (4, .int (nI mv))] []
  refine nw_new C (ci := 13) (T := TJ3) (ty0 := tyJ3) [.int (nI 0), .null, .int (nI 0)] rfl in_J3 tyJ3_ok q140 q141 q90 (fun j hj => by rcases (show j = 0 ∨ j = 1 ∨ j = 2 by omega) with rfl | rfl | rfl <;> rfl) 1 3 (by omega) (by omega) ⟨(show 1 ≤ 40 by omega), (show 3 ≤ 600 by omega)⟩ dX1_wayOf_0 3 rfl (fun a1 H2 hx3 ho4 hz5 hq6 => ?_)
  have hn7 : H.size ≤ a1 := (by rw [hx3]; exact hext.1)
  have hext := hext.made hz5 hq6
  have hG := hG0.ext hext.2
  have hE := C.E0.ext hext.2
  have hB := Nat.le_trans hB0 hext.1
  have hn64 := ho.n
  refine nw_dup C dX1_wayOf_3 rfl 4 rfl ?_
  refine nw_callI C (mJ3_init _ C.hfl d a1  H2 hB (Nat.le_trans hB0 hn7) ho4 ) kJ3_init q142 (As := []) (rest := [.ref a1]) rfl rfl ⟨⟨Nat.le_of_ble_eq_true rfl, Nat.le_of_ble_eq_true rfl⟩, (show 1 + 0 ≤ 40 by omega), (show 3 + 0 ≤ 600 by omega)⟩ (Nat.le_of_ble_eq_true rfl) (fun q8 h8 h9 => h9.elim (fun e9 => by rw [e9]; exact hn7) (fun e9 => absurd h8 (Nat.not_lt.mpr e9))) dX1_wayOf_4 7 rfl (fun v9 H8 hR9 hz10 hq11 => ?_) nw_noX
  obtain ⟨rfl, ho12⟩ := hR9
  have hext := hext.step hz10 hq11 (fun q9 e9 => e9.elim (fun e9 => by rw [e9]; exact hn7) (fun e9 => Nat.le_trans hext.1 e9))
  have hG := hG0.ext hext.2
  have hE := C.E0.ext hext.2
  have hB := Nat.le_trans hB0 hext.1
  have hn64 := ho.n
  show nwV X _ _ 11 H8 (1 + 0) (3 + 0) 7 [(0, .ref x), (1, .ref g), (2, .int (nI c)), (3, .int (nI t)), (4, .int (nI mv))] [.ref a1]
  refine nw_wide (k' := 1) (n' := 3) (by omega) (by omega) ?_
  refine nw_astore C [(5, .ref a1), (0, .ref x), (1, .ref g), (2, .int (nI c)), (3, .int (nI t)), (4, .int (nI mv))] dX1_wayOf_7 (by decide) rfl 9 rfl ?_
  refine nw_iload C 5 dX1_wayOf_9 rfl 11 rfl ?_
  refine nw_istore C [(6, .int (nI mv)), (5, .ref a1), (0, .ref x), (1, .ref g), (2, .int (nI c)), (3, .int (nI t)), (4, .int (nI mv))] dX1_wayOf_11 (by decide) rfl 13 rfl ?_
  have lp13 : ∀ (fu : Nat) (H2 : Heap) (i : Nat) (lf : Nat) (mob : Int32) (arb : Nat) (capb : Nat) (fb : Nat → Option Nat), (nwExt H H2) → (i ≤ 14) → (lf = mv / 5 ^ i) → (nwLm d a1 i (fun k => nd_bx d (sp_dig mv k)) (fun q => H.size ≤ q ∧ q ≠ a1) mob arb capb fb H2) → (capb = 0 ∨ capb = 10 ∨ capb = 15) → (sp_digs 32 mv = i + sp_digs (32 - i) lf) → 15 - i < fu → nwV X (nwNew H) (nwQE X (fun v1 H1 => nwExt H H1 ∧ ∃ o : Nat, v1 = some (.ref o) ∧ nwWay d H H1 o (sp_wayOf gr c t mv)) nwNo (nwNew H) 40 600) 11 H2 (1 + i) (3 + 15 * i) 13 [(0, .ref x), (1, .ref g), (2, .int (nI c)), (3, .int (nI t)), (4, .int (nI mv)), (5, .ref a1), (6, .int (nI lf))] [] := by
    intro fu
    induction fu with
    | zero => intro H2 i lf mob arb capb fb _ _ _ _ _ _ hm; exact absurd hm (Nat.not_lt_zero _)
    | succ fu ih_lp13 =>
      intro H2 i lf mob arb capb fb hext hi hlf hLb hcapb hdg hm
      have hG := hG0.ext hext.2
      have hE := C.E0.ext hext.2
      have hB := Nat.le_trans hB0 hext.1
      have hn64 := ho.n
      have hi14 : 0 < lf → i < 14 := fun h9 => Nat.lt_of_not_le (fun h8 => by
        rw [hlf] at h9
        have h7 : mv / 5 ^ i = 0 := Nat.div_eq_of_lt (Nat.lt_of_lt_of_le (show mv < 5 ^ 14 by omega) (Nat.pow_le_pow_right (by decide) h8))
        omega)
      have hlm : lf < 2 ^ 31 := by rw [hlf]; exact Nat.lt_of_le_of_lt (Nat.div_le_self _ _) hmv
      refine nw_iload C 6 dX1_wayOf_13 rfl 15 rfl ?_
      refine nw_ifleN C (by omega) 40 dX1_wayOf_15 (by decide) 18 rfl (fun h14 => ?_) (fun h14 => ?_)
      · have hD : sp_digs 32 mv = i := by rw [hdg, show lf = 0 by omega, sp_digs_z]; rfl
        obtain ⟨K, hKe⟩ : ∃ K, K = H2.size := ⟨_, rfl⟩
        have hblK : a1 < K := by rw [hKe]; exact hLb.lt'
        have hLb : nwLm d a1 i (fun k => nd_bx d (sp_dig mv k)) (fun q => q < K) mob arb capb fb H2 := ⟨hLb.1, fun h9 => by rw [hKe]; exact hLb.art h9, hLb.2.2⟩
        have hKH : H.size ≤ K := by rw [hKe]; exact hext.1
        have hG := hG0.ext hext.2
        have hE := C.E0.ext hext.2
        have hB := Nat.le_trans hB0 hext.1
        have hn64 := ho.n
        refine nw_new C (ci := 13) (T := TJ3) (ty0 := tyJ3) [.int (nI 0), .null, .int (nI 0)] rfl in_J3 tyJ3_ok q140 q141 q90 (fun j hj => by rcases (show j = 0 ∨ j = 1 ∨ j = 2 by omega) with rfl | rfl | rfl <;> rfl) (1 + i + 1) (3 + 15 * i + 3) (by omega) (by omega) ⟨(show (1 + i + 1) ≤ 40 by omega), (show (3 + 15 * i + 3) ≤ 600 by omega)⟩ dX1_wayOf_40 43 rfl (fun a15 H16 hx17 ho18 hz19 hq20 => ?_)
        have hn21 : H.size ≤ a15 := (by rw [hx17]; exact hext.1)
        have hLb := hLb.ext hq20
        have hext := hext.made hz19 hq20
        have hG := hG0.ext hext.2
        have hE := C.E0.ext hext.2
        have hB := Nat.le_trans hB0 hext.1
        have hn64 := ho.n
        refine nw_dup C dX1_wayOf_43 rfl 44 rfl ?_
        refine nw_callI C (mJ3_init _ C.hfl d a15  H16 hB (Nat.le_trans hB0 hn21) ho18 ) kJ3_init q142 (As := []) (rest := [.ref a15]) rfl rfl ⟨⟨Nat.le_of_ble_eq_true rfl, Nat.le_of_ble_eq_true rfl⟩, (show (1 + i + 1) + 0 ≤ 40 by omega), (show (3 + 15 * i + 3) + 0 ≤ 600 by omega)⟩ (Nat.le_of_ble_eq_true rfl) (fun q8 h8 h9 => h9.elim (fun e9 => by rw [e9]; exact hn21) (fun e9 => absurd h8 (Nat.not_lt.mpr e9))) dX1_wayOf_44 47 rfl (fun v9 H22 hR23 hz24 hq25 => ?_) nw_noX
        obtain ⟨rfl, ho26⟩ := hR23
        have hKx : K ≤ a15 := by rw [hx17, hKe]; exact Nat.le_refl _
        have hLb := hLb.kp (hq25 _ hLb.lt' (fun e9 => e9.elim (fun e9 => by omega) (Nat.not_le.mpr hLb.lt'))) (fun q9 p9 g9 => hq25 q9 g9 (fun e9 => e9.elim (fun e9 => by have p8 : q9 < K := p9; omega) (Nat.not_le.mpr g9)))
        have hext := hext.step hz24 hq25 (fun q9 e9 => e9.elim (fun e9 => by rw [e9]; exact hn21) (fun e9 => Nat.le_trans hext.1 e9))
        have hG := hG0.ext hext.2
        have hE := C.E0.ext hext.2
        have hB := Nat.le_trans hB0 hext.1
        have hn64 := ho.n
        show nwV X _ _ 11 H22 ((1 + i + 1) + 0) ((3 + 15 * i + 3) + 0) 47 [(0, .ref x), (1, .ref g), (2, .int (nI c)), (3, .int (nI t)), (4, .int (nI mv)), (5, .ref a1), (6, .int (nI lf))] [.ref a15]
        refine nw_wide (k' := 1 + i + 1) (n' := 3 + 15 * i + 3) (by omega) (by omega) ?_
        refine nw_astore C [(6, .ref a15), (0, .ref x), (1, .ref g), (2, .int (nI c)), (3, .int (nI t)), (4, .int (nI mv)), (5, .ref a1)] dX1_wayOf_47 (by decide) rfl 49 rfl ?_
        obtain ⟨mow, arw, capw, fw, hcapw, hLw⟩ : ∃ (mow : Int32) (arw capw : Nat) (fw : Nat → Option Nat), (capw = 0 ∨ capw = 10 ∨ capw = 15) ∧ nwLm d a15 0 (fun k => nd_bx d ((fun _ => c) k)) (fun q => K ≤ q ∧ q ≠ a15) mow arw capw fw H22 := ⟨nI 0, nd_st d 5, 0, (fun _ => none), Or.inl rfl, ⟨⟨ho26, Nat.le_refl 0, by decide, Or.inl ⟨rfl, rfl⟩⟩, fun h9 => absurd h9 (by decide), fun k hk => absurd hk (Nat.not_lt_zero k)⟩⟩
        refine nw_aload C 0 dX1_wayOf_49 rfl 51 rfl ?_
        refine nw_iload_n C 3 dX1_wayOf_51 rfl 52 rfl ?_
        refine nw_callS C (mJ19_valueOf _ C.hfl d c H22 hB (by omega)) kJ19_valueOf q1057 (As := [.int (nI c)]) (rest := [.ref a15]) rfl rfl ⟨⟨Nat.le_of_ble_eq_true rfl, Nat.le_of_ble_eq_true rfl⟩, (show (1 + i + 1) + 0 ≤ 40 by omega), (show (3 + 15 * i + 3) + 0 ≤ 600 by omega)⟩ (Nat.le_of_ble_eq_true rfl) (fun _ h8 h9 => absurd h9 (Nat.not_le.mpr h8)) dX1_wayOf_52 55 rfl (nw_rdK ?_) nw_noX
        have hl9 := hLw.lt'
        have hKw : K ≤ H22.size := by have := hLw.lt'; omega
        refine nw_callV C (mJ3_addB _ C.hfl d a15 0 (fun _ => c) (fun q => K ≤ q ∧ q ≠ a15) mow arw capw fw (nd_bx d c) H22 hB (Nat.le_trans hB0 hn21) hLw (fun q9 e9 => Nat.le_trans hB0 (Nat.le_trans hKH e9.1)) (fun e9 => e9.2 rfl) (nwEl.box (by omega)) (nwE.bxne hE (by omega) (Nat.le_trans hB0 hn21)) (nwE.bxlt hE (by omega)) (by omega) hcapw (fun k hk => absurd hk (Nat.not_lt_zero k))) kJ3_add q888 (hLw.li.is C) (As := [.ref (nd_bx d c)]) (rest := []) rfl rfl ⟨⟨Nat.le_of_ble_eq_true rfl, Nat.le_of_ble_eq_true rfl⟩, (show (1 + i + 1) + 1 ≤ 40 by omega), (show (3 + 15 * i + 3) + 15 ≤ 600 by omega)⟩ (Nat.le_of_ble_eq_true rfl) (fun q8 h8 h9 => h9.elim (fun e9 => by rw [e9]; exact hn21) (fun e9 => e9.elim (fun e9 => Nat.le_trans hKH e9.1) (fun e9 => absurd h8 (Nat.not_lt.mpr e9)))) dX1_wayOf_55 58 rfl (fun v9 H27 hR28 hz29 hq30 => ?_) nw_noX
        obtain ⟨rfl, mow, arw, capw, fw, hcapw, hLw⟩ := hR28
        have hLw := hLw.toP (P' := fun q => K ≤ q ∧ q ≠ a15) (es' := fun k => if k = 0 then nd_bx d c else nd_bx d ((fun _ => c) k)) (fun e9 => e9.elim id (fun e9 => ⟨Nat.le_trans hKw e9, fun e8 => absurd hl9 (Nat.not_lt.mpr (by rw [← e8]; exact e9))⟩)) (fun _ _ => rfl)
        have hLb := hLb.kp (hq30 _ hLb.lt' (fun e9 => by rcases e9 with e9 | e9 | e9; (omega); (have := e9.1; omega); (have := hLb.lt'; omega))) (fun q9 p9 g9 => hq30 q9 g9 (fun e9 => by have p8 : q9 < K := p9; rcases e9 with e9 | e9 | e9; (omega); (have := e9.1; omega); (omega)))
        have hext := hext.step hz29 hq30 (fun q9 e9 => e9.elim (fun e9 => by rw [e9]; exact hn21) (fun e9 => e9.elim (fun e9 => Nat.le_trans hKH e9.1) (fun e9 => Nat.le_trans hext.1 e9)))
        have hG := hG0.ext hext.2
        have hE := C.E0.ext hext.2
        have hB := Nat.le_trans hB0 hext.1
        have hn64 := ho.n
        show nwV X _ _ 11 H27 ((1 + i + 1) + 1) ((3 + 15 * i + 3) + 15) 58 [(6, .ref a15), (0, .ref x), (1, .ref g), (2, .int (nI c)), (3, .int (nI t)), (4, .int (nI mv)), (5, .ref a1)] [.int (b2i true)]
        refine nw_wide (k' := 1 + i + 2) (n' := 3 + 15 * i + 18) (by omega) (by omega) ?_
        have hLw := hLw.toP (P' := fun q => K ≤ q ∧ q ≠ a15) (es' := fun k => nd_bx d (((1, fun _ => c) : Nat × (Nat → Nat)).2 k)) id (fun k hk => by
          rw [if_pos (by omega)])
        refine nw_pop C dX1_wayOf_58 rfl 59 rfl ?_
        refine nw_iload_n C 3 dX1_wayOf_59 rfl 60 rfl ?_
        refine nw_istore C [(7, .int (nI c)), (6, .ref a15), (0, .ref x), (1, .ref g), (2, .int (nI c)), (3, .int (nI t)), (4, .int (nI mv)), (5, .ref a1)] dX1_wayOf_60 (by decide) rfl 62 rfl ?_
        refine nw_aload_n C 3 dX1_wayOf_62 rfl 63 rfl ?_
        refine nw_iload_n C 4 dX1_wayOf_63 rfl 64 rfl ?_
        refine nw_callV C (mX6_isWall _ C.hfl d g ka gr c H27 hB hG ho (by omega)) kX6_isWall q289 (hG.1.is C (ci := 1) rfl) (As := [.int (nI c)]) (rest := []) rfl rfl ⟨⟨Nat.le_of_ble_eq_true rfl, Nat.le_of_ble_eq_true rfl⟩, (show (1 + i + 2) + 0 ≤ 40 by omega), (show (3 + 15 * i + 18) + 0 ≤ 600 by omega)⟩ (Nat.le_of_ble_eq_true rfl) (fun _ h8 h9 => absurd h9 (Nat.not_le.mpr h8)) dX1_wayOf_64 67 rfl (nw_rdK ?_) nw_noX
        refine nw_ifneB C 74 dX1_wayOf_67 (by decide) 70 rfl (fun h31 => ?_) (fun h31 => ?_)
        · have hno : sp_wayOf gr c t mv = none := by unfold sp_wayOf; rw [if_pos (by simpa using h31)]
          refine nw_iconst C (nI 0) dX1_wayOf_74 (by decide) 75 rfl ?_
          refine nw_istore C [(8, .int (nI 0)), (7, .int (nI c)), (6, .ref a15), (0, .ref x), (1, .ref g), (2, .int (nI c)), (3, .int (nI t)), (4, .int (nI mv)), (5, .ref a1)] dX1_wayOf_75 (by decide) rfl 77 rfl ?_
          refine nw_aload C 8 dX1_wayOf_77 rfl 79 rfl ?_
          refine nw_callV C (mJ3_size _ C.hfl d a1 i (fun k => nd_bx d (sp_dig mv k)) (fun q => q < K) H27 hB hLb.li) kJ3_size q346 (hLb.li.is C) (As := []) (rest := []) rfl rfl ⟨⟨Nat.le_of_ble_eq_true rfl, Nat.le_of_ble_eq_true rfl⟩, (show (1 + i + 2) + 0 ≤ 40 by omega), (show (3 + 15 * i + 18) + 0 ≤ 600 by omega)⟩ (Nat.le_of_ble_eq_true rfl) (fun _ h8 h9 => absurd h9 (Nat.not_le.mpr h8)) dX1_wayOf_79 82 rfl (nw_rdK ?_) nw_noX
          refine nw_iconst C (nI 1) dX1_wayOf_82 (by decide) 83 rfl ?_
          refine nw_isub C (oI (sp_pr i)) dX1_wayOf_83 nw_pr2 84 rfl ?_
          refine nw_istore C [(9, .int (oI (sp_pr i))), (8, .int (nI 0)), (7, .int (nI c)), (6, .ref a15), (0, .ref x), (1, .ref g), (2, .int (nI c)), (3, .int (nI t)), (4, .int (nI mv)), (5, .ref a1)] dX1_wayOf_84 (by decide) rfl 86 rfl ?_
          refine nw_iload C 0 dX1_wayOf_86 rfl 88 rfl ?_
          generalize hpr34 : sp_pr i = oq32
          rcases oq32 with _ | pj33
          · show nwV X _ _ 11 H27 (1 + i + 2) (3 + 15 * i + 18) 88 [(9, .int (oI none)), (8, .int (nI 0)), (7, .int (nI c)), (6, .ref a15), (0, .ref x), (1, .ref g), (2, .int (nI c)), (3, .int (nI t)), (4, .int (nI mv)), (5, .ref a1)] [.int (oI none)]
            have hj0 : i = 0 := sp_pr_none hpr34
            refine nw_iflt C 197 dX1_wayOf_88 (by decide) 91 rfl (fun _ => ?_) (fun h35 => absurd nw_lt0 h35)
            refine nw_iload C 1 dX1_wayOf_197 rfl 199 rfl ?_
            refine nw_ifeq C 210 dX1_wayOf_199 (by decide) 202 rfl (fun _ => ?_) (fun h36 => absurd (by decide) h36)
            refine nw_callS C (mJ0_empty _ C.hfl d H27 hB) kJ0_empty q135 (As := []) (rest := []) rfl rfl ⟨⟨Nat.le_of_ble_eq_true rfl, Nat.le_of_ble_eq_true rfl⟩, (show (1 + i + 2) + 0 ≤ 40 by omega), (show (3 + 15 * i + 18) + 0 ≤ 600 by omega)⟩ (Nat.le_of_ble_eq_true rfl) (fun _ h8 h9 => absurd h9 (Nat.not_le.mpr h8)) dX1_wayOf_210 213 rfl (nw_rdK ?_) nw_noX
            exact nw_aret C (Or.inl ⟨_, rfl⟩) dX1_wayOf_213 (by omega) (by omega) ⟨hext, _, rfl, by rw [hno]; exact rfl⟩
          · show nwV X _ _ 11 H27 (1 + i + 2) (3 + 15 * i + 18) 88 [(9, .int (nI pj33)), (8, .int (nI 0)), (7, .int (nI c)), (6, .ref a15), (0, .ref x), (1, .ref g), (2, .int (nI c)), (3, .int (nI t)), (4, .int (nI mv)), (5, .ref a1)] [.int (nI pj33)]
            have hjp : i = pj33 + 1 := sp_pr_some hpr34
            refine nw_ifltN C (by omega) 197 dX1_wayOf_88 (by decide) 91 rfl ?_
            refine nw_iload C 1 dX1_wayOf_91 rfl 93 rfl ?_
            refine nw_ifeq C 197 dX1_wayOf_93 (by decide) 96 rfl (fun _ => ?_) (fun h38 => absurd (by decide) h38)
            refine nw_iload C 1 dX1_wayOf_197 rfl 199 rfl ?_
            refine nw_ifeq C 210 dX1_wayOf_199 (by decide) 202 rfl (fun _ => ?_) (fun h39 => absurd (by decide) h39)
            refine nw_callS C (mJ0_empty _ C.hfl d H27 hB) kJ0_empty q135 (As := []) (rest := []) rfl rfl ⟨⟨Nat.le_of_ble_eq_true rfl, Nat.le_of_ble_eq_true rfl⟩, (show (1 + i + 2) + 0 ≤ 40 by omega), (show (3 + 15 * i + 18) + 0 ≤ 600 by omega)⟩ (Nat.le_of_ble_eq_true rfl) (fun _ h8 h9 => absurd h9 (Nat.not_le.mpr h8)) dX1_wayOf_210 213 rfl (nw_rdK ?_) nw_noX
            exact nw_aret C (Or.inl ⟨_, rfl⟩) dX1_wayOf_213 (by omega) (by omega) ⟨hext, _, rfl, by rw [hno]; exact rfl⟩
        · have hnw0 : ¬ gr_k gr c = 1 := by simpa using h31
          refine nw_iconst C (nI 1) dX1_wayOf_70 (by decide) 71 rfl ?_
          refine nw_goto C 75 dX1_wayOf_71 (by decide) ?_
          refine nw_istore C [(8, .int (nI 1)), (7, .int (nI c)), (6, .ref a15), (0, .ref x), (1, .ref g), (2, .int (nI c)), (3, .int (nI t)), (4, .int (nI mv)), (5, .ref a1)] dX1_wayOf_75 (by decide) rfl 77 rfl ?_
          refine nw_aload C 8 dX1_wayOf_77 rfl 79 rfl ?_
          refine nw_callV C (mJ3_size _ C.hfl d a1 i (fun k => nd_bx d (sp_dig mv k)) (fun q => q < K) H27 hB hLb.li) kJ3_size q346 (hLb.li.is C) (As := []) (rest := []) rfl rfl ⟨⟨Nat.le_of_ble_eq_true rfl, Nat.le_of_ble_eq_true rfl⟩, (show (1 + i + 2) + 0 ≤ 40 by omega), (show (3 + 15 * i + 18) + 0 ≤ 600 by omega)⟩ (Nat.le_of_ble_eq_true rfl) (fun _ h8 h9 => absurd h9 (Nat.not_le.mpr h8)) dX1_wayOf_79 82 rfl (nw_rdK ?_) nw_noX
          refine nw_iconst C (nI 1) dX1_wayOf_82 (by decide) 83 rfl ?_
          refine nw_isub C (oI (sp_pr i)) dX1_wayOf_83 nw_pr2 84 rfl ?_
          refine nw_istore C [(9, .int (oI (sp_pr i))), (8, .int (nI 1)), (7, .int (nI c)), (6, .ref a15), (0, .ref x), (1, .ref g), (2, .int (nI c)), (3, .int (nI t)), (4, .int (nI mv)), (5, .ref a1)] dX1_wayOf_84 (by decide) rfl 86 rfl ?_
          have lp40 : ∀ (fu : Nat) (H3 : Heap) (j : Nat) (wy : Nat × (Nat → Nat)) (mow : Int32) (arw : Nat) (capw : Nat) (fw : Nat → Option Nat), (nwExt H H3) → (wy.1 + j = i + 1) → (1 ≤ wy.1) → (∀ q, q < wy.1 → wy.2 q < gr_n gr) → (nwLm d a15 wy.1 (fun k => nd_bx d (wy.2 k)) (fun q => K ≤ q ∧ q ≠ a15) mow arw capw fw H3) → (capw = 0 ∨ capw = 10 ∨ capw = 15) → (nwLm d a1 i (fun k => nd_bx d (sp_dig mv k)) (fun q => q < K) mob arb capb fb H3) → (sp_wayOf gr c t mv = sp_way gr mv (240 - t) j wy) → j < fu → nwV X (nwNew H) (nwQE X (fun v1 H1 => nwExt H H1 ∧ ∃ o : Nat, v1 = some (.ref o) ∧ nwWay d H H1 o (sp_wayOf gr c t mv)) nwNo (nwNew H) 40 600) 11 H3 (2 + i + 1 + (i + 1 - j)) (6 + 15 * i + 15 + 15 * (i + 1 - j)) 86 [(0, .ref x), (1, .ref g), (2, .int (nI c)), (3, .int (nI t)), (4, .int (nI mv)), (5, .ref a1), (6, .ref a15), (7, .int (nI (wy.2 (wy.1 - 1)))), (8, .int (nI 1)), (9, .int (oI (sp_pr j)))] [] := by
            intro fu
            induction fu with
            | zero => intro H3 j wy mow arw capw fw _ _ _ _ _ _ _ _ hm; exact absurd hm (Nat.not_lt_zero _)
            | succ fu ih_lp40 =>
              intro H3 j wy mow arw capw fw hext hwj h1w hwc hLw hcapw hLb hsp hm
              have hG := hG0.ext hext.2
              have hE := C.E0.ext hext.2
              have hB := Nat.le_trans hB0 hext.1
              have hn64 := ho.n
              refine nw_iload C 9 dX1_wayOf_86 rfl 88 rfl ?_
              generalize hpr43 : sp_pr j = oq41
              rcases oq41 with _ | pj42
              · show nwV X _ _ 11 H3 (2 + i + 1 + (i + 1 - j)) (6 + 15 * i + 15 + 15 * (i + 1 - j)) 88 [(0, .ref x), (1, .ref g), (2, .int (nI c)), (3, .int (nI t)), (4, .int (nI mv)), (5, .ref a1), (6, .ref a15), (7, .int (nI (wy.2 (wy.1 - 1)))), (8, .int (nI 1)), (9, .int (oI none))] [.int (oI none)]
                have hj0 : j = 0 := sp_pr_none hpr43
                refine nw_iflt C 197 dX1_wayOf_88 (by decide) 91 rfl (fun _ => ?_) (fun h44 => absurd nw_lt0 h44)
                refine nw_iload C 8 dX1_wayOf_197 rfl 199 rfl ?_
                refine nw_ifeq C 210 dX1_wayOf_199 (by decide) 202 rfl (fun h45 => absurd h45 (by decide)) (fun _ => ?_)
                have hyes : sp_wayOf gr c t mv = some wy := by rw [hsp, hj0]; rfl
                refine nw_aload C 6 dX1_wayOf_202 rfl 204 rfl ?_
                refine nw_callS C (mJ0_of _ C.hfl d a15 H3 hB) kJ0_of q749 (As := [.ref a15]) (rest := []) rfl rfl ⟨⟨Nat.le_of_ble_eq_true rfl, Nat.le_of_ble_eq_true rfl⟩, (show (2 + i + 1 + (i + 1 - j)) + 1 ≤ 40 by omega), (show (6 + 15 * i + 15 + 15 * (i + 1 - j)) + 1 ≤ 600 by omega)⟩ (Nat.le_of_ble_eq_true rfl) (fun _ h8 h9 => absurd h9 (Nat.not_le.mpr h8)) dX1_wayOf_204 207 rfl (fun v9 H46 hR47 hz48 hq49 => ?_) nw_noX
                obtain ⟨⟨op50, rfl, hn51, ho52⟩, hx53⟩ := hR47
                have hn54 : H.size ≤ op50 := (Nat.le_trans hext.1 hn51)
                have hne55 : a1 ≠ op50 := (Nat.ne_of_lt (Nat.lt_of_lt_of_le hLb.li.lt hn51))
                have hne56 : a15 ≠ op50 := (Nat.ne_of_lt (Nat.lt_of_lt_of_le hLw.li.lt hn51))
                have hLb := hLb.ext (fun q9 g9 => hq49 q9 g9 (Nat.not_le.mpr g9))
                have hLw := hLw.ext (fun q9 g9 => hq49 q9 g9 (Nat.not_le.mpr g9))
                have hext := hext.call hz48 hq49
                have hG := hG0.ext hext.2
                have hE := C.E0.ext hext.2
                have hB := Nat.le_trans hB0 hext.1
                have hn64 := ho.n
                show nwV X _ _ 11 H46 ((2 + i + 1 + (i + 1 - j)) + 1) ((6 + 15 * i + 15 + 15 * (i + 1 - j)) + 1) 207 [(0, .ref x), (1, .ref g), (2, .int (nI c)), (3, .int (nI t)), (4, .int (nI mv)), (5, .ref a1), (6, .ref a15), (7, .int (nI (wy.2 (wy.1 - 1)))), (8, .int (nI 1)), (9, .int (oI none))] [.ref op50]
                refine nw_wide (k' := 2 + i + 1 + (i + 1 - j) + 1) (n' := 6 + 15 * i + 15 + 15 * (i + 1 - j) + 1) (by omega) (by omega) ?_
                refine nw_goto C 213 dX1_wayOf_207 (by decide) ?_
                exact nw_aret C (Or.inl ⟨_, rfl⟩) dX1_wayOf_213 (by omega) (by omega) ⟨hext, op50, rfl, by rw [hyes]; exact ⟨hn54, a15, arw, capw, mow, fw, Nat.le_trans hKH hKx, ho52, hLw.toP (fun e9 => ⟨Nat.le_trans hKH e9.1, e9.2⟩) (fun _ _ => rfl)⟩⟩
              · show nwV X _ _ 11 H3 (2 + i + 1 + (i + 1 - j)) (6 + 15 * i + 15 + 15 * (i + 1 - j)) 88 [(0, .ref x), (1, .ref g), (2, .int (nI c)), (3, .int (nI t)), (4, .int (nI mv)), (5, .ref a1), (6, .ref a15), (7, .int (nI (wy.2 (wy.1 - 1)))), (8, .int (nI 1)), (9, .int (nI pj42))] [.int (nI pj42)]
                have hjp : j = pj42 + 1 := sp_pr_some hpr43
                have hat9 := hwc (wy.1 - 1) (by omega)
                have hdg5 : sp_dig mv pj42 < 5 := Nat.mod_lt _ (by decide)
                refine nw_ifltN C (by omega) 197 dX1_wayOf_88 (by decide) 91 rfl ?_
                refine nw_iload C 8 dX1_wayOf_91 rfl 93 rfl ?_
                refine nw_ifeq C 197 dX1_wayOf_93 (by decide) 96 rfl (fun h58 => absurd h58 (by decide)) (fun _ => ?_)
                refine nw_aload_n C 1 dX1_wayOf_96 rfl 97 rfl ?_
                refine nw_iload C 7 dX1_wayOf_97 rfl 99 rfl ?_
                refine nw_aload C 5 dX1_wayOf_99 rfl 101 rfl ?_
                refine nw_iload C 9 dX1_wayOf_101 rfl 103 rfl ?_
                refine nw_callV C (mJ3_get _ C.hfl d a1 i (fun k => nd_bx d (sp_dig mv k)) (fun q => q < K) pj42 H3 hB hLb.li (by omega)) kJ3_get q350 (hLb.li.is C) (As := [.int (nI pj42)]) (rest := [.int (nI (wy.2 (wy.1 - 1))), .ref g]) rfl rfl ⟨⟨Nat.le_of_ble_eq_true rfl, Nat.le_of_ble_eq_true rfl⟩, (show (2 + i + 1 + (i + 1 - j)) + 0 ≤ 40 by omega), (show (6 + 15 * i + 15 + 15 * (i + 1 - j)) + 0 ≤ 600 by omega)⟩ (Nat.le_of_ble_eq_true rfl) (fun _ h8 h9 => absurd h9 (Nat.not_le.mpr h8)) dX1_wayOf_103 106 rfl (nw_rdK ?_) nw_noX
                have hb59 : sp_dig mv pj42 < 128 := (Nat.lt_of_lt_of_le (Nat.mod_lt _ (by decide)) (by decide))
                refine nw_cast C (ci := 16) rfl (hE.boxIs hb59) q364 dX1_wayOf_106 109 rfl ?_
                refine nw_callV C (mJ19_intValue _ C.hfl d (sp_dig mv pj42) H3 hB (by omega)) kJ19_intValue q365 (hE.boxIs (by omega)) (As := []) (rest := [.int (nI (wy.2 (wy.1 - 1))), .ref g]) rfl rfl ⟨⟨Nat.le_of_ble_eq_true rfl, Nat.le_of_ble_eq_true rfl⟩, (show (2 + i + 1 + (i + 1 - j)) + 0 ≤ 40 by omega), (show (6 + 15 * i + 15 + 15 * (i + 1 - j)) + 0 ≤ 600 by omega)⟩ (Nat.le_of_ble_eq_true rfl) (fun _ h8 h9 => absurd h9 (Nat.not_le.mpr h8)) dX1_wayOf_109 112 rfl (nw_rdK ?_) nw_noX
                refine nw_callV C (mX6_moved _ C.hfl d g ka gr (wy.2 (wy.1 - 1)) (sp_dig mv pj42) H3 hB hG ho (by omega) (by omega)) kX6_moved q617 (hG.1.is C (ci := 1) rfl) (As := [.int (nI (wy.2 (wy.1 - 1))), .int (nI (sp_dig mv pj42))]) (rest := []) rfl rfl ⟨⟨Nat.le_of_ble_eq_true rfl, Nat.le_of_ble_eq_true rfl⟩, (show (2 + i + 1 + (i + 1 - j)) + 0 ≤ 40 by omega), (show (6 + 15 * i + 15 + 15 * (i + 1 - j)) + 0 ≤ 600 by omega)⟩ (Nat.le_of_ble_eq_true rfl) (fun _ h8 h9 => absurd h9 (Nat.not_le.mpr h8)) dX1_wayOf_112 115 rfl (nw_rdK ?_) nw_noX
                generalize hmv : sp_moved gr (wy.2 (wy.1 - 1)) (sp_dig mv pj42) = ow
                rcases ow with _ | c9
                · show nwV X _ _ 11 H3 (2 + i + 1 + (i + 1 - j)) (6 + 15 * i + 15 + 15 * (i + 1 - j)) 115 [(0, .ref x), (1, .ref g), (2, .int (nI c)), (3, .int (nI t)), (4, .int (nI mv)), (5, .ref a1), (6, .ref a15), (7, .int (nI (wy.2 (wy.1 - 1)))), (8, .int (nI 1)), (9, .int (nI pj42))] [.int (oI none)]
                  refine nw_istore C [(7, .int (oI none)), (0, .ref x), (1, .ref g), (2, .int (nI c)), (3, .int (nI t)), (4, .int (nI mv)), (5, .ref a1), (6, .ref a15), (8, .int (nI 1)), (9, .int (nI pj42))] dX1_wayOf_115 (by decide) rfl 117 rfl ?_
                  refine nw_iload_n C 4 dX1_wayOf_117 rfl 118 rfl ?_
                  refine nw_aload C 7 dX1_wayOf_118 rfl 120 rfl ?_
                  refine nw_callV C (mJ3_size _ C.hfl d a15 wy.1 (fun k => nd_bx d (wy.2 k)) (fun q => K ≤ q ∧ q ≠ a15) H3 hB hLw.li) kJ3_size q346 (hLw.li.is C) (As := []) (rest := [.int (nI t)]) rfl rfl ⟨⟨Nat.le_of_ble_eq_true rfl, Nat.le_of_ble_eq_true rfl⟩, (show (2 + i + 1 + (i + 1 - j)) + 0 ≤ 40 by omega), (show (6 + 15 * i + 15 + 15 * (i + 1 - j)) + 0 ≤ 600 by omega)⟩ (Nat.le_of_ble_eq_true rfl) (fun _ h8 h9 => absurd h9 (Nat.not_le.mpr h8)) dX1_wayOf_120 123 rfl (nw_rdK ?_) nw_noX
                  refine nw_iaddN C dX1_wayOf_123 124 rfl ?_
                  refine nw_sipush C (nI 240) dX1_wayOf_124 (by decide) 127 rfl ?_
                  refine nw_icmpgeN C (by omega) 134 dX1_wayOf_127 (by decide) 130 rfl (fun h60 => ?_) (fun h60 => ?_)
                  · have h240 : ¬ wy.1 < 240 - t := by omega
                    refine nw_iconst C (nI 0) dX1_wayOf_134 (by decide) 135 rfl ?_
                    refine nw_istore C [(10, .int (nI 0)), (7, .int (oI none)), (0, .ref x), (1, .ref g), (2, .int (nI c)), (3, .int (nI t)), (4, .int (nI mv)), (5, .ref a1), (6, .ref a15), (8, .int (nI 1)), (9, .int (nI pj42))] dX1_wayOf_135 (by decide) rfl 137 rfl ?_
                    refine nw_iload C 1 dX1_wayOf_137 rfl 139 rfl ?_
                    refine nw_iconst C (oI none) dX1_wayOf_139 (by decide) 140 rfl ?_
                    refine nw_icmpeqT C rfl 152 dX1_wayOf_140 (by decide) ?_
                    refine nw_iload C 0 dX1_wayOf_152 rfl 154 rfl ?_
                    refine nw_ifne C 161 dX1_wayOf_154 (by decide) 157 rfl (fun h62 => absurd (by decide) h62) (fun _ => ?_)
                    refine nw_iconst C (nI 1) dX1_wayOf_157 (by decide) 158 rfl ?_
                    refine nw_goto C 162 dX1_wayOf_158 (by decide) ?_
                    refine nw_istore C [(8, .int (nI 1)), (10, .int (nI 0)), (7, .int (oI none)), (0, .ref x), (1, .ref g), (2, .int (nI c)), (3, .int (nI t)), (4, .int (nI mv)), (5, .ref a1), (6, .ref a15), (9, .int (nI pj42))] dX1_wayOf_162 (by decide) rfl 164 rfl ?_
                    refine nw_iload C 1 dX1_wayOf_164 rfl 166 rfl ?_
                    refine nw_ifeq C 180 dX1_wayOf_166 (by decide) 169 rfl (fun _ => ?_) (fun h63 => absurd (by decide) h63)
                    refine nw_iload C 1 dX1_wayOf_180 rfl 182 rfl ?_
                    refine nw_ifne C 191 dX1_wayOf_182 (by decide) 185 rfl (fun h64 => absurd (by decide) h64) (fun _ => ?_)
                    have hyes : sp_wayOf gr c t mv = some wy := by rw [hsp, hjp]; exact sp_way_x h240
                    refine nw_aload C 9 dX1_wayOf_185 rfl 187 rfl ?_
                    refine nw_callS C (mJ0_of _ C.hfl d a15 H3 hB) kJ0_of q749 (As := [.ref a15]) (rest := []) rfl rfl ⟨⟨Nat.le_of_ble_eq_true rfl, Nat.le_of_ble_eq_true rfl⟩, (show (2 + i + 1 + (i + 1 - j)) + 1 ≤ 40 by omega), (show (6 + 15 * i + 15 + 15 * (i + 1 - j)) + 1 ≤ 600 by omega)⟩ (Nat.le_of_ble_eq_true rfl) (fun _ h8 h9 => absurd h9 (Nat.not_le.mpr h8)) dX1_wayOf_187 190 rfl (fun v9 H65 hR66 hz67 hq68 => ?_) nw_noX
                    obtain ⟨⟨op69, rfl, hn70, ho71⟩, hx72⟩ := hR66
                    have hn73 : H.size ≤ op69 := (Nat.le_trans hext.1 hn70)
                    have hne74 : a1 ≠ op69 := (Nat.ne_of_lt (Nat.lt_of_lt_of_le hLb.li.lt hn70))
                    have hne75 : a15 ≠ op69 := (Nat.ne_of_lt (Nat.lt_of_lt_of_le hLw.li.lt hn70))
                    have hLb := hLb.ext (fun q9 g9 => hq68 q9 g9 (Nat.not_le.mpr g9))
                    have hLw := hLw.ext (fun q9 g9 => hq68 q9 g9 (Nat.not_le.mpr g9))
                    have hext := hext.call hz67 hq68
                    have hG := hG0.ext hext.2
                    have hE := C.E0.ext hext.2
                    have hB := Nat.le_trans hB0 hext.1
                    have hn64 := ho.n
                    show nwV X _ _ 11 H65 ((2 + i + 1 + (i + 1 - j)) + 1) ((6 + 15 * i + 15 + 15 * (i + 1 - j)) + 1) 190 [(8, .int (nI 1)), (10, .int (nI 0)), (7, .int (oI none)), (0, .ref x), (1, .ref g), (2, .int (nI c)), (3, .int (nI t)), (4, .int (nI mv)), (5, .ref a1), (6, .ref a15), (9, .int (nI pj42))] [.ref op69]
                    refine nw_wide (k' := 2 + i + 1 + (i + 1 - j) + 1) (n' := 6 + 15 * i + 15 + 15 * (i + 1 - j) + 1) (by omega) (by omega) ?_
                    exact nw_aret C (Or.inl ⟨_, rfl⟩) dX1_wayOf_190 (by omega) (by omega) ⟨hext, op69, rfl, by rw [hyes]; exact ⟨hn73, a15, arw, capw, mow, fw, Nat.le_trans hKH hKx, ho71, hLw.toP (fun e9 => ⟨Nat.le_trans hKH e9.1, e9.2⟩) (fun _ _ => rfl)⟩⟩
                  · have h240 : wy.1 < 240 - t := by omega
                    refine nw_iconst C (nI 1) dX1_wayOf_130 (by decide) 131 rfl ?_
                    refine nw_goto C 135 dX1_wayOf_131 (by decide) ?_
                    refine nw_istore C [(10, .int (nI 1)), (7, .int (oI none)), (0, .ref x), (1, .ref g), (2, .int (nI c)), (3, .int (nI t)), (4, .int (nI mv)), (5, .ref a1), (6, .ref a15), (8, .int (nI 1)), (9, .int (nI pj42))] dX1_wayOf_135 (by decide) rfl 137 rfl ?_
                    refine nw_iload C 1 dX1_wayOf_137 rfl 139 rfl ?_
                    refine nw_iconst C (oI none) dX1_wayOf_139 (by decide) 140 rfl ?_
                    refine nw_icmpeqT C rfl 152 dX1_wayOf_140 (by decide) ?_
                    refine nw_iload C 0 dX1_wayOf_152 rfl 154 rfl ?_
                    refine nw_ifne C 161 dX1_wayOf_154 (by decide) 157 rfl (fun _ => ?_) (fun h77 => absurd h77 (by decide))
                    have hno : sp_wayOf gr c t mv = none := by rw [hsp, hjp]; exact sp_way_n h240 hmv
                    refine nw_iconst C (nI 0) dX1_wayOf_161 (by decide) 162 rfl ?_
                    refine nw_istore C [(8, .int (nI 0)), (10, .int (nI 1)), (7, .int (oI none)), (0, .ref x), (1, .ref g), (2, .int (nI c)), (3, .int (nI t)), (4, .int (nI mv)), (5, .ref a1), (6, .ref a15), (9, .int (nI pj42))] dX1_wayOf_162 (by decide) rfl 164 rfl ?_
                    refine nw_iload C 1 dX1_wayOf_164 rfl 166 rfl ?_
                    refine nw_ifeq C 180 dX1_wayOf_166 (by decide) 169 rfl (fun h78 => absurd h78 (by decide)) (fun _ => ?_)
                    refine nw_aload C 9 dX1_wayOf_169 rfl 171 rfl ?_
                    refine nw_iload C 2 dX1_wayOf_171 rfl 173 rfl ?_
                    refine nw_callS C (mJ19_valueOfM _ C.hfl d H3 hB) kJ19_valueOf q1057 (As := [.int (oI none)]) (rest := [.ref a15]) rfl rfl ⟨⟨Nat.le_of_ble_eq_true rfl, Nat.le_of_ble_eq_true rfl⟩, (show (2 + i + 1 + (i + 1 - j)) + 0 ≤ 40 by omega), (show (6 + 15 * i + 15 + 15 * (i + 1 - j)) + 0 ≤ 600 by omega)⟩ (Nat.le_of_ble_eq_true rfl) (fun _ h8 h9 => absurd h9 (Nat.not_le.mpr h8)) dX1_wayOf_173 176 rfl (nw_rdK ?_) nw_noX
                    have hl9 := hLw.lt'
                    have hKw : K ≤ H3.size := by have := hLw.lt'; omega
                    refine nw_callV C (mJ3_addB _ C.hfl d a15 wy.1 wy.2 (fun q => K ≤ q ∧ q ≠ a15) mow arw capw fw (nd_st d 1127) H3 hB (Nat.le_trans hB0 hn21) hLw (fun q9 e9 => Nat.le_trans hB0 (Nat.le_trans hKH e9.1)) (fun e9 => e9.2 rfl) nwEl.m1 (nwE.bxne9 hE (Nat.le_trans hB0 hn21)) (nwE.bxlt9 hE (v := 0) (by omega)) (by omega) hcapw (fun k hk => by have := hwc k hk; omega)) kJ3_add q888 (hLw.li.is C) (As := [.ref (nd_st d 1127)]) (rest := []) rfl rfl ⟨⟨Nat.le_of_ble_eq_true rfl, Nat.le_of_ble_eq_true rfl⟩, (show (2 + i + 1 + (i + 1 - j)) + 1 ≤ 40 by omega), (show (6 + 15 * i + 15 + 15 * (i + 1 - j)) + 15 ≤ 600 by omega)⟩ (Nat.le_of_ble_eq_true rfl) (fun q8 h8 h9 => h9.elim (fun e9 => by rw [e9]; exact hn21) (fun e9 => e9.elim (fun e9 => Nat.le_trans hKH e9.1) (fun e9 => absurd h8 (Nat.not_lt.mpr e9)))) dX1_wayOf_176 179 rfl (fun v9 H79 hR80 hz81 hq82 => ?_) nw_noX
                    obtain ⟨rfl, mow, arw, capw, fw, hcapw, hLw⟩ := hR80
                    have hLw := hLw.toP (P' := fun q => K ≤ q ∧ q ≠ a15) (es' := fun k => if k = wy.1 then nd_st d 1127 else nd_bx d (wy.2 k)) (fun e9 => e9.elim id (fun e9 => ⟨Nat.le_trans hKw e9, fun e8 => absurd hl9 (Nat.not_lt.mpr (by rw [← e8]; exact e9))⟩)) (fun _ _ => rfl)
                    have hLb := hLb.kp (hq82 _ hLb.lt' (fun e9 => by rcases e9 with e9 | e9 | e9; (omega); (have := e9.1; omega); (have := hLb.lt'; omega))) (fun q9 p9 g9 => hq82 q9 g9 (fun e9 => by have p8 : q9 < K := p9; rcases e9 with e9 | e9 | e9; (omega); (have := e9.1; omega); (omega)))
                    have hext := hext.step hz81 hq82 (fun q9 e9 => e9.elim (fun e9 => by rw [e9]; exact hn21) (fun e9 => e9.elim (fun e9 => Nat.le_trans hKH e9.1) (fun e9 => Nat.le_trans hext.1 e9)))
                    have hG := hG0.ext hext.2
                    have hE := C.E0.ext hext.2
                    have hB := Nat.le_trans hB0 hext.1
                    have hn64 := ho.n
                    show nwV X _ _ 11 H79 ((2 + i + 1 + (i + 1 - j)) + 1) ((6 + 15 * i + 15 + 15 * (i + 1 - j)) + 15) 179 [(8, .int (nI 0)), (10, .int (nI 1)), (7, .int (oI none)), (0, .ref x), (1, .ref g), (2, .int (nI c)), (3, .int (nI t)), (4, .int (nI mv)), (5, .ref a1), (6, .ref a15), (9, .int (nI pj42))] [.int (b2i true)]
                    refine nw_wide (k' := 2 + i + 1 + (i + 1 - j) + 1) (n' := 6 + 15 * i + 15 + 15 * (i + 1 - j) + 15) (by omega) (by omega) ?_
                    refine nw_pop C dX1_wayOf_179 rfl 180 rfl ?_
                    refine nw_iload C 1 dX1_wayOf_180 rfl 182 rfl ?_
                    refine nw_ifne C 191 dX1_wayOf_182 (by decide) 185 rfl (fun _ => ?_) (fun h83 => absurd h83 (by decide))
                    refine nw_iinc C 10 (oI (sp_pr pj42)) [(9, .int (oI (sp_pr pj42))), (8, .int (nI 0)), (10, .int (nI 1)), (7, .int (oI none)), (0, .ref x), (1, .ref g), (2, .int (nI c)), (3, .int (nI t)), (4, .int (nI mv)), (5, .ref a1), (6, .ref a15)] dX1_wayOf_191 rfl nw_pr (by decide) rfl 194 rfl ?_
                    refine nw_goto C 86 dX1_wayOf_194 (by decide) ?_
                    refine nw_iload C 0 dX1_wayOf_86 rfl 88 rfl ?_
                    generalize hpr86 : sp_pr pj42 = oq84
                    rcases oq84 with _ | pj85
                    · show nwV X _ _ 11 H79 (2 + i + 1 + (i + 1 - j) + 1) (6 + 15 * i + 15 + 15 * (i + 1 - j) + 15) 88 [(9, .int (oI none)), (8, .int (nI 0)), (10, .int (nI 1)), (7, .int (oI none)), (0, .ref x), (1, .ref g), (2, .int (nI c)), (3, .int (nI t)), (4, .int (nI mv)), (5, .ref a1), (6, .ref a15)] [.int (oI none)]
                      have hj0 : pj42 = 0 := sp_pr_none hpr86
                      refine nw_iflt C 197 dX1_wayOf_88 (by decide) 91 rfl (fun _ => ?_) (fun h87 => absurd nw_lt0 h87)
                      refine nw_iload C 1 dX1_wayOf_197 rfl 199 rfl ?_
                      refine nw_ifeq C 210 dX1_wayOf_199 (by decide) 202 rfl (fun _ => ?_) (fun h88 => absurd (by decide) h88)
                      refine nw_callS C (mJ0_empty _ C.hfl d H79 hB) kJ0_empty q135 (As := []) (rest := []) rfl rfl ⟨⟨Nat.le_of_ble_eq_true rfl, Nat.le_of_ble_eq_true rfl⟩, (show (2 + i + 1 + (i + 1 - j) + 1) + 0 ≤ 40 by omega), (show (6 + 15 * i + 15 + 15 * (i + 1 - j) + 15) + 0 ≤ 600 by omega)⟩ (Nat.le_of_ble_eq_true rfl) (fun _ h8 h9 => absurd h9 (Nat.not_le.mpr h8)) dX1_wayOf_210 213 rfl (nw_rdK ?_) nw_noX
                      exact nw_aret C (Or.inl ⟨_, rfl⟩) dX1_wayOf_213 (by omega) (by omega) ⟨hext, _, rfl, by rw [hno]; exact rfl⟩
                    · show nwV X _ _ 11 H79 (2 + i + 1 + (i + 1 - j) + 1) (6 + 15 * i + 15 + 15 * (i + 1 - j) + 15) 88 [(9, .int (nI pj85)), (8, .int (nI 0)), (10, .int (nI 1)), (7, .int (oI none)), (0, .ref x), (1, .ref g), (2, .int (nI c)), (3, .int (nI t)), (4, .int (nI mv)), (5, .ref a1), (6, .ref a15)] [.int (nI pj85)]
                      have hjp : pj42 = pj85 + 1 := sp_pr_some hpr86
                      refine nw_ifltN C (by omega) 197 dX1_wayOf_88 (by decide) 91 rfl ?_
                      refine nw_iload C 1 dX1_wayOf_91 rfl 93 rfl ?_
                      refine nw_ifeq C 197 dX1_wayOf_93 (by decide) 96 rfl (fun _ => ?_) (fun h90 => absurd (by decide) h90)
                      refine nw_iload C 1 dX1_wayOf_197 rfl 199 rfl ?_
                      refine nw_ifeq C 210 dX1_wayOf_199 (by decide) 202 rfl (fun _ => ?_) (fun h91 => absurd (by decide) h91)
                      refine nw_callS C (mJ0_empty _ C.hfl d H79 hB) kJ0_empty q135 (As := []) (rest := []) rfl rfl ⟨⟨Nat.le_of_ble_eq_true rfl, Nat.le_of_ble_eq_true rfl⟩, (show (2 + i + 1 + (i + 1 - j) + 1) + 0 ≤ 40 by omega), (show (6 + 15 * i + 15 + 15 * (i + 1 - j) + 15) + 0 ≤ 600 by omega)⟩ (Nat.le_of_ble_eq_true rfl) (fun _ h8 h9 => absurd h9 (Nat.not_le.mpr h8)) dX1_wayOf_210 213 rfl (nw_rdK ?_) nw_noX
                      exact nw_aret C (Or.inl ⟨_, rfl⟩) dX1_wayOf_213 (by omega) (by omega) ⟨hext, _, rfl, by rw [hno]; exact rfl⟩
                · show nwV X _ _ 11 H3 (2 + i + 1 + (i + 1 - j)) (6 + 15 * i + 15 + 15 * (i + 1 - j)) 115 [(0, .ref x), (1, .ref g), (2, .int (nI c)), (3, .int (nI t)), (4, .int (nI mv)), (5, .ref a1), (6, .ref a15), (7, .int (nI (wy.2 (wy.1 - 1)))), (8, .int (nI 1)), (9, .int (nI pj42))] [.int (nI c9)]
                  have hcn := sp_moved_lt ho hat9 hmv
                  refine nw_istore C [(7, .int (nI c9)), (0, .ref x), (1, .ref g), (2, .int (nI c)), (3, .int (nI t)), (4, .int (nI mv)), (5, .ref a1), (6, .ref a15), (8, .int (nI 1)), (9, .int (nI pj42))] dX1_wayOf_115 (by decide) rfl 117 rfl ?_
                  refine nw_iload_n C 4 dX1_wayOf_117 rfl 118 rfl ?_
                  refine nw_aload C 7 dX1_wayOf_118 rfl 120 rfl ?_
                  refine nw_callV C (mJ3_size _ C.hfl d a15 wy.1 (fun k => nd_bx d (wy.2 k)) (fun q => K ≤ q ∧ q ≠ a15) H3 hB hLw.li) kJ3_size q346 (hLw.li.is C) (As := []) (rest := [.int (nI t)]) rfl rfl ⟨⟨Nat.le_of_ble_eq_true rfl, Nat.le_of_ble_eq_true rfl⟩, (show (2 + i + 1 + (i + 1 - j)) + 0 ≤ 40 by omega), (show (6 + 15 * i + 15 + 15 * (i + 1 - j)) + 0 ≤ 600 by omega)⟩ (Nat.le_of_ble_eq_true rfl) (fun _ h8 h9 => absurd h9 (Nat.not_le.mpr h8)) dX1_wayOf_120 123 rfl (nw_rdK ?_) nw_noX
                  refine nw_iaddN C dX1_wayOf_123 124 rfl ?_
                  refine nw_sipush C (nI 240) dX1_wayOf_124 (by decide) 127 rfl ?_
                  refine nw_icmpgeN C (by omega) 134 dX1_wayOf_127 (by decide) 130 rfl (fun h92 => ?_) (fun h92 => ?_)
                  · have h240 : ¬ wy.1 < 240 - t := by omega
                    refine nw_iconst C (nI 0) dX1_wayOf_134 (by decide) 135 rfl ?_
                    refine nw_istore C [(10, .int (nI 0)), (7, .int (nI c9)), (0, .ref x), (1, .ref g), (2, .int (nI c)), (3, .int (nI t)), (4, .int (nI mv)), (5, .ref a1), (6, .ref a15), (8, .int (nI 1)), (9, .int (nI pj42))] dX1_wayOf_135 (by decide) rfl 137 rfl ?_
                    refine nw_iload C 1 dX1_wayOf_137 rfl 139 rfl ?_
                    refine nw_iconst C (oI none) dX1_wayOf_139 (by decide) 140 rfl ?_
                    refine nw_icmpeqF C (nI_m1 (by omega)) 152 dX1_wayOf_140 (by decide) 143 rfl ?_
                    refine nw_aload_n C 3 dX1_wayOf_143 rfl 144 rfl ?_
                    refine nw_iload C 1 dX1_wayOf_144 rfl 146 rfl ?_
                    refine nw_callV C (mX6_isWall _ C.hfl d g ka gr c9 H3 hB hG ho (by omega)) kX6_isWall q289 (hG.1.is C (ci := 1) rfl) (As := [.int (nI c9)]) (rest := []) rfl rfl ⟨⟨Nat.le_of_ble_eq_true rfl, Nat.le_of_ble_eq_true rfl⟩, (show (2 + i + 1 + (i + 1 - j)) + 0 ≤ 40 by omega), (show (6 + 15 * i + 15 + 15 * (i + 1 - j)) + 0 ≤ 600 by omega)⟩ (Nat.le_of_ble_eq_true rfl) (fun _ h8 h9 => absurd h9 (Nat.not_le.mpr h8)) dX1_wayOf_146 149 rfl (nw_rdK ?_) nw_noX
                    refine nw_ifeqB C 157 dX1_wayOf_149 (by decide) 152 rfl (fun h94 => ?_) (fun h94 => ?_)
                    · refine nw_iconst C (nI 1) dX1_wayOf_157 (by decide) 158 rfl ?_
                      refine nw_goto C 162 dX1_wayOf_158 (by decide) ?_
                      refine nw_istore C [(8, .int (nI 1)), (10, .int (nI 0)), (7, .int (nI c9)), (0, .ref x), (1, .ref g), (2, .int (nI c)), (3, .int (nI t)), (4, .int (nI mv)), (5, .ref a1), (6, .ref a15), (9, .int (nI pj42))] dX1_wayOf_162 (by decide) rfl 164 rfl ?_
                      refine nw_iload C 1 dX1_wayOf_164 rfl 166 rfl ?_
                      refine nw_ifeq C 180 dX1_wayOf_166 (by decide) 169 rfl (fun _ => ?_) (fun h95 => absurd (by decide) h95)
                      refine nw_iload C 1 dX1_wayOf_180 rfl 182 rfl ?_
                      refine nw_ifne C 191 dX1_wayOf_182 (by decide) 185 rfl (fun h96 => absurd (by decide) h96) (fun _ => ?_)
                      have hyes : sp_wayOf gr c t mv = some wy := by rw [hsp, hjp]; exact sp_way_x h240
                      refine nw_aload C 9 dX1_wayOf_185 rfl 187 rfl ?_
                      refine nw_callS C (mJ0_of _ C.hfl d a15 H3 hB) kJ0_of q749 (As := [.ref a15]) (rest := []) rfl rfl ⟨⟨Nat.le_of_ble_eq_true rfl, Nat.le_of_ble_eq_true rfl⟩, (show (2 + i + 1 + (i + 1 - j)) + 1 ≤ 40 by omega), (show (6 + 15 * i + 15 + 15 * (i + 1 - j)) + 1 ≤ 600 by omega)⟩ (Nat.le_of_ble_eq_true rfl) (fun _ h8 h9 => absurd h9 (Nat.not_le.mpr h8)) dX1_wayOf_187 190 rfl (fun v9 H97 hR98 hz99 hq100 => ?_) nw_noX
                      obtain ⟨⟨op101, rfl, hn102, ho103⟩, hx104⟩ := hR98
                      have hn105 : H.size ≤ op101 := (Nat.le_trans hext.1 hn102)
                      have hne106 : a1 ≠ op101 := (Nat.ne_of_lt (Nat.lt_of_lt_of_le hLb.li.lt hn102))
                      have hne107 : a15 ≠ op101 := (Nat.ne_of_lt (Nat.lt_of_lt_of_le hLw.li.lt hn102))
                      have hLb := hLb.ext (fun q9 g9 => hq100 q9 g9 (Nat.not_le.mpr g9))
                      have hLw := hLw.ext (fun q9 g9 => hq100 q9 g9 (Nat.not_le.mpr g9))
                      have hext := hext.call hz99 hq100
                      have hG := hG0.ext hext.2
                      have hE := C.E0.ext hext.2
                      have hB := Nat.le_trans hB0 hext.1
                      have hn64 := ho.n
                      show nwV X _ _ 11 H97 ((2 + i + 1 + (i + 1 - j)) + 1) ((6 + 15 * i + 15 + 15 * (i + 1 - j)) + 1) 190 [(8, .int (nI 1)), (10, .int (nI 0)), (7, .int (nI c9)), (0, .ref x), (1, .ref g), (2, .int (nI c)), (3, .int (nI t)), (4, .int (nI mv)), (5, .ref a1), (6, .ref a15), (9, .int (nI pj42))] [.ref op101]
                      refine nw_wide (k' := 2 + i + 1 + (i + 1 - j) + 1) (n' := 6 + 15 * i + 15 + 15 * (i + 1 - j) + 1) (by omega) (by omega) ?_
                      exact nw_aret C (Or.inl ⟨_, rfl⟩) dX1_wayOf_190 (by omega) (by omega) ⟨hext, op101, rfl, by rw [hyes]; exact ⟨hn105, a15, arw, capw, mow, fw, Nat.le_trans hKH hKx, ho103, hLw.toP (fun e9 => ⟨Nat.le_trans hKH e9.1, e9.2⟩) (fun _ _ => rfl)⟩⟩
                    · refine nw_iload C 0 dX1_wayOf_152 rfl 154 rfl ?_
                      refine nw_ifne C 161 dX1_wayOf_154 (by decide) 157 rfl (fun h108 => absurd (by decide) h108) (fun _ => ?_)
                      refine nw_iconst C (nI 1) dX1_wayOf_157 (by decide) 158 rfl ?_
                      refine nw_goto C 162 dX1_wayOf_158 (by decide) ?_
                      refine nw_istore C [(8, .int (nI 1)), (10, .int (nI 0)), (7, .int (nI c9)), (0, .ref x), (1, .ref g), (2, .int (nI c)), (3, .int (nI t)), (4, .int (nI mv)), (5, .ref a1), (6, .ref a15), (9, .int (nI pj42))] dX1_wayOf_162 (by decide) rfl 164 rfl ?_
                      refine nw_iload C 1 dX1_wayOf_164 rfl 166 rfl ?_
                      refine nw_ifeq C 180 dX1_wayOf_166 (by decide) 169 rfl (fun _ => ?_) (fun h109 => absurd (by decide) h109)
                      refine nw_iload C 1 dX1_wayOf_180 rfl 182 rfl ?_
                      refine nw_ifne C 191 dX1_wayOf_182 (by decide) 185 rfl (fun h110 => absurd (by decide) h110) (fun _ => ?_)
                      have hyes : sp_wayOf gr c t mv = some wy := by rw [hsp, hjp]; exact sp_way_x h240
                      refine nw_aload C 9 dX1_wayOf_185 rfl 187 rfl ?_
                      refine nw_callS C (mJ0_of _ C.hfl d a15 H3 hB) kJ0_of q749 (As := [.ref a15]) (rest := []) rfl rfl ⟨⟨Nat.le_of_ble_eq_true rfl, Nat.le_of_ble_eq_true rfl⟩, (show (2 + i + 1 + (i + 1 - j)) + 1 ≤ 40 by omega), (show (6 + 15 * i + 15 + 15 * (i + 1 - j)) + 1 ≤ 600 by omega)⟩ (Nat.le_of_ble_eq_true rfl) (fun _ h8 h9 => absurd h9 (Nat.not_le.mpr h8)) dX1_wayOf_187 190 rfl (fun v9 H111 hR112 hz113 hq114 => ?_) nw_noX
                      obtain ⟨⟨op115, rfl, hn116, ho117⟩, hx118⟩ := hR112
                      have hn119 : H.size ≤ op115 := (Nat.le_trans hext.1 hn116)
                      have hne120 : a1 ≠ op115 := (Nat.ne_of_lt (Nat.lt_of_lt_of_le hLb.li.lt hn116))
                      have hne121 : a15 ≠ op115 := (Nat.ne_of_lt (Nat.lt_of_lt_of_le hLw.li.lt hn116))
                      have hLb := hLb.ext (fun q9 g9 => hq114 q9 g9 (Nat.not_le.mpr g9))
                      have hLw := hLw.ext (fun q9 g9 => hq114 q9 g9 (Nat.not_le.mpr g9))
                      have hext := hext.call hz113 hq114
                      have hG := hG0.ext hext.2
                      have hE := C.E0.ext hext.2
                      have hB := Nat.le_trans hB0 hext.1
                      have hn64 := ho.n
                      show nwV X _ _ 11 H111 ((2 + i + 1 + (i + 1 - j)) + 1) ((6 + 15 * i + 15 + 15 * (i + 1 - j)) + 1) 190 [(8, .int (nI 1)), (10, .int (nI 0)), (7, .int (nI c9)), (0, .ref x), (1, .ref g), (2, .int (nI c)), (3, .int (nI t)), (4, .int (nI mv)), (5, .ref a1), (6, .ref a15), (9, .int (nI pj42))] [.ref op115]
                      refine nw_wide (k' := 2 + i + 1 + (i + 1 - j) + 1) (n' := 6 + 15 * i + 15 + 15 * (i + 1 - j) + 1) (by omega) (by omega) ?_
                      exact nw_aret C (Or.inl ⟨_, rfl⟩) dX1_wayOf_190 (by omega) (by omega) ⟨hext, op115, rfl, by rw [hyes]; exact ⟨hn119, a15, arw, capw, mow, fw, Nat.le_trans hKH hKx, ho117, hLw.toP (fun e9 => ⟨Nat.le_trans hKH e9.1, e9.2⟩) (fun _ _ => rfl)⟩⟩
                  · have h240 : wy.1 < 240 - t := by omega
                    refine nw_iconst C (nI 1) dX1_wayOf_130 (by decide) 131 rfl ?_
                    refine nw_goto C 135 dX1_wayOf_131 (by decide) ?_
                    refine nw_istore C [(10, .int (nI 1)), (7, .int (nI c9)), (0, .ref x), (1, .ref g), (2, .int (nI c)), (3, .int (nI t)), (4, .int (nI mv)), (5, .ref a1), (6, .ref a15), (8, .int (nI 1)), (9, .int (nI pj42))] dX1_wayOf_135 (by decide) rfl 137 rfl ?_
                    refine nw_iload C 1 dX1_wayOf_137 rfl 139 rfl ?_
                    refine nw_iconst C (oI none) dX1_wayOf_139 (by decide) 140 rfl ?_
                    refine nw_icmpeqF C (nI_m1 (by omega)) 152 dX1_wayOf_140 (by decide) 143 rfl ?_
                    refine nw_aload_n C 3 dX1_wayOf_143 rfl 144 rfl ?_
                    refine nw_iload C 1 dX1_wayOf_144 rfl 146 rfl ?_
                    refine nw_callV C (mX6_isWall _ C.hfl d g ka gr c9 H3 hB hG ho (by omega)) kX6_isWall q289 (hG.1.is C (ci := 1) rfl) (As := [.int (nI c9)]) (rest := []) rfl rfl ⟨⟨Nat.le_of_ble_eq_true rfl, Nat.le_of_ble_eq_true rfl⟩, (show (2 + i + 1 + (i + 1 - j)) + 0 ≤ 40 by omega), (show (6 + 15 * i + 15 + 15 * (i + 1 - j)) + 0 ≤ 600 by omega)⟩ (Nat.le_of_ble_eq_true rfl) (fun _ h8 h9 => absurd h9 (Nat.not_le.mpr h8)) dX1_wayOf_146 149 rfl (nw_rdK ?_) nw_noX
                    refine nw_ifeqB C 157 dX1_wayOf_149 (by decide) 152 rfl (fun h123 => ?_) (fun h123 => ?_)
                    · have hnw : ¬ gr_k gr c9 = 1 := by simpa using h123
                      refine nw_iconst C (nI 1) dX1_wayOf_157 (by decide) 158 rfl ?_
                      refine nw_goto C 162 dX1_wayOf_158 (by decide) ?_
                      refine nw_istore C [(8, .int (nI 1)), (10, .int (nI 1)), (7, .int (nI c9)), (0, .ref x), (1, .ref g), (2, .int (nI c)), (3, .int (nI t)), (4, .int (nI mv)), (5, .ref a1), (6, .ref a15), (9, .int (nI pj42))] dX1_wayOf_162 (by decide) rfl 164 rfl ?_
                      refine nw_iload C 1 dX1_wayOf_164 rfl 166 rfl ?_
                      refine nw_ifeq C 180 dX1_wayOf_166 (by decide) 169 rfl (fun h124 => absurd h124 (by decide)) (fun _ => ?_)
                      refine nw_aload C 9 dX1_wayOf_169 rfl 171 rfl ?_
                      refine nw_iload C 2 dX1_wayOf_171 rfl 173 rfl ?_
                      refine nw_callS C (mJ19_valueOf _ C.hfl d c9 H3 hB (by omega)) kJ19_valueOf q1057 (As := [.int (nI c9)]) (rest := [.ref a15]) rfl rfl ⟨⟨Nat.le_of_ble_eq_true rfl, Nat.le_of_ble_eq_true rfl⟩, (show (2 + i + 1 + (i + 1 - j)) + 0 ≤ 40 by omega), (show (6 + 15 * i + 15 + 15 * (i + 1 - j)) + 0 ≤ 600 by omega)⟩ (Nat.le_of_ble_eq_true rfl) (fun _ h8 h9 => absurd h9 (Nat.not_le.mpr h8)) dX1_wayOf_173 176 rfl (nw_rdK ?_) nw_noX
                      have hl9 := hLw.lt'
                      have hKw : K ≤ H3.size := by have := hLw.lt'; omega
                      refine nw_callV C (mJ3_addB _ C.hfl d a15 wy.1 wy.2 (fun q => K ≤ q ∧ q ≠ a15) mow arw capw fw (nd_bx d c9) H3 hB (Nat.le_trans hB0 hn21) hLw (fun q9 e9 => Nat.le_trans hB0 (Nat.le_trans hKH e9.1)) (fun e9 => e9.2 rfl) (nwEl.box (by omega)) (nwE.bxne hE (by omega) (Nat.le_trans hB0 hn21)) (nwE.bxlt hE (by omega)) (by omega) hcapw (fun k hk => by have := hwc k hk; omega)) kJ3_add q888 (hLw.li.is C) (As := [.ref (nd_bx d c9)]) (rest := []) rfl rfl ⟨⟨Nat.le_of_ble_eq_true rfl, Nat.le_of_ble_eq_true rfl⟩, (show (2 + i + 1 + (i + 1 - j)) + 1 ≤ 40 by omega), (show (6 + 15 * i + 15 + 15 * (i + 1 - j)) + 15 ≤ 600 by omega)⟩ (Nat.le_of_ble_eq_true rfl) (fun q8 h8 h9 => h9.elim (fun e9 => by rw [e9]; exact hn21) (fun e9 => e9.elim (fun e9 => Nat.le_trans hKH e9.1) (fun e9 => absurd h8 (Nat.not_lt.mpr e9)))) dX1_wayOf_176 179 rfl (fun v9 H125 hR126 hz127 hq128 => ?_) nw_noX
                      obtain ⟨rfl, mow, arw, capw, fw, hcapw, hLw⟩ := hR126
                      have hLw := hLw.toP (P' := fun q => K ≤ q ∧ q ≠ a15) (es' := fun k => if k = wy.1 then nd_bx d c9 else nd_bx d (wy.2 k)) (fun e9 => e9.elim id (fun e9 => ⟨Nat.le_trans hKw e9, fun e8 => absurd hl9 (Nat.not_lt.mpr (by rw [← e8]; exact e9))⟩)) (fun _ _ => rfl)
                      have hLb := hLb.kp (hq128 _ hLb.lt' (fun e9 => by rcases e9 with e9 | e9 | e9; (omega); (have := e9.1; omega); (have := hLb.lt'; omega))) (fun q9 p9 g9 => hq128 q9 g9 (fun e9 => by have p8 : q9 < K := p9; rcases e9 with e9 | e9 | e9; (omega); (have := e9.1; omega); (omega)))
                      have hext := hext.step hz127 hq128 (fun q9 e9 => e9.elim (fun e9 => by rw [e9]; exact hn21) (fun e9 => e9.elim (fun e9 => Nat.le_trans hKH e9.1) (fun e9 => Nat.le_trans hext.1 e9)))
                      have hG := hG0.ext hext.2
                      have hE := C.E0.ext hext.2
                      have hB := Nat.le_trans hB0 hext.1
                      have hn64 := ho.n
                      show nwV X _ _ 11 H125 ((2 + i + 1 + (i + 1 - j)) + 1) ((6 + 15 * i + 15 + 15 * (i + 1 - j)) + 15) 179 [(8, .int (nI 1)), (10, .int (nI 1)), (7, .int (nI c9)), (0, .ref x), (1, .ref g), (2, .int (nI c)), (3, .int (nI t)), (4, .int (nI mv)), (5, .ref a1), (6, .ref a15), (9, .int (nI pj42))] [.int (b2i true)]
                      refine nw_wide (k' := 2 + i + 1 + (i + 1 - j) + 1) (n' := 6 + 15 * i + 15 + 15 * (i + 1 - j) + 15) (by omega) (by omega) ?_
                      refine nw_pop C dX1_wayOf_179 rfl 180 rfl ?_
                      refine nw_iload C 1 dX1_wayOf_180 rfl 182 rfl ?_
                      refine nw_ifne C 191 dX1_wayOf_182 (by decide) 185 rfl (fun _ => ?_) (fun h129 => absurd h129 (by decide))
                      refine nw_iinc C 10 (oI (sp_pr pj42)) [(9, .int (oI (sp_pr pj42))), (8, .int (nI 1)), (10, .int (nI 1)), (7, .int (nI c9)), (0, .ref x), (1, .ref g), (2, .int (nI c)), (3, .int (nI t)), (4, .int (nI mv)), (5, .ref a1), (6, .ref a15)] dX1_wayOf_191 rfl nw_pr (by decide) rfl 194 rfl ?_
                      refine nw_goto C 86 dX1_wayOf_194 (by decide) ?_
                      have hLw := hLw.toP (P' := fun q => K ≤ q ∧ q ≠ a15) (es' := fun k => nd_bx d (((wy.1 + 1, sp_up wy.2 wy.1 c9) : Nat × (Nat → Nat)).2 k)) id (fun k hk => by
                        show _ = nd_bx d (sp_up wy.2 wy.1 c9 k)
                        by_cases e9 : k = wy.1
                        · rw [if_pos e9, e9, sp_up_at]
                        · rw [if_neg e9, sp_up_ne _ _ e9])
                      have hat8 : (sp_up wy.2 wy.1 c9) (wy.1 + 1 - 1) = c9 := by rw [Nat.add_sub_cancel]; exact sp_up_at _ _ _
                      rw [← hat8]
                      exact nw_wide (k' := 2 + i + 1 + (i + 1 - pj42)) (n' := 6 + 15 * i + 15 + 15 * (i + 1 - pj42)) (by omega) (by omega) (nw_sub [4, 5, 6, 7, 8, 9, 10, 3, 1, 0] rfl (ih_lp40 H125 pj42 (wy.1 + 1, sp_up wy.2 wy.1 c9) mow arw capw fw hext (by show wy.1 + 1 + pj42 = i + 1; omega) (by show 1 ≤ wy.1 + 1; omega) (sp_up_lt (Q := fun z => z < gr_n gr) hwc hcn) hLw hcapw hLb (by rw [hsp, hjp]; exact sp_way_s h240 hmv hnw) (by omega)))
                    · refine nw_iload C 0 dX1_wayOf_152 rfl 154 rfl ?_
                      refine nw_ifne C 161 dX1_wayOf_154 (by decide) 157 rfl (fun _ => ?_) (fun h130 => absurd h130 (by decide))
                      have hno : sp_wayOf gr c t mv = none := by rw [hsp, hjp]; exact sp_way_w h240 hmv (by simpa using h123)
                      refine nw_iconst C (nI 0) dX1_wayOf_161 (by decide) 162 rfl ?_
                      refine nw_istore C [(8, .int (nI 0)), (10, .int (nI 1)), (7, .int (nI c9)), (0, .ref x), (1, .ref g), (2, .int (nI c)), (3, .int (nI t)), (4, .int (nI mv)), (5, .ref a1), (6, .ref a15), (9, .int (nI pj42))] dX1_wayOf_162 (by decide) rfl 164 rfl ?_
                      refine nw_iload C 1 dX1_wayOf_164 rfl 166 rfl ?_
                      refine nw_ifeq C 180 dX1_wayOf_166 (by decide) 169 rfl (fun h131 => absurd h131 (by decide)) (fun _ => ?_)
                      refine nw_aload C 9 dX1_wayOf_169 rfl 171 rfl ?_
                      refine nw_iload C 2 dX1_wayOf_171 rfl 173 rfl ?_
                      refine nw_callS C (mJ19_valueOf _ C.hfl d c9 H3 hB (by omega)) kJ19_valueOf q1057 (As := [.int (nI c9)]) (rest := [.ref a15]) rfl rfl ⟨⟨Nat.le_of_ble_eq_true rfl, Nat.le_of_ble_eq_true rfl⟩, (show (2 + i + 1 + (i + 1 - j)) + 0 ≤ 40 by omega), (show (6 + 15 * i + 15 + 15 * (i + 1 - j)) + 0 ≤ 600 by omega)⟩ (Nat.le_of_ble_eq_true rfl) (fun _ h8 h9 => absurd h9 (Nat.not_le.mpr h8)) dX1_wayOf_173 176 rfl (nw_rdK ?_) nw_noX
                      have hl9 := hLw.lt'
                      have hKw : K ≤ H3.size := by have := hLw.lt'; omega
                      refine nw_callV C (mJ3_addB _ C.hfl d a15 wy.1 wy.2 (fun q => K ≤ q ∧ q ≠ a15) mow arw capw fw (nd_bx d c9) H3 hB (Nat.le_trans hB0 hn21) hLw (fun q9 e9 => Nat.le_trans hB0 (Nat.le_trans hKH e9.1)) (fun e9 => e9.2 rfl) (nwEl.box (by omega)) (nwE.bxne hE (by omega) (Nat.le_trans hB0 hn21)) (nwE.bxlt hE (by omega)) (by omega) hcapw (fun k hk => by have := hwc k hk; omega)) kJ3_add q888 (hLw.li.is C) (As := [.ref (nd_bx d c9)]) (rest := []) rfl rfl ⟨⟨Nat.le_of_ble_eq_true rfl, Nat.le_of_ble_eq_true rfl⟩, (show (2 + i + 1 + (i + 1 - j)) + 1 ≤ 40 by omega), (show (6 + 15 * i + 15 + 15 * (i + 1 - j)) + 15 ≤ 600 by omega)⟩ (Nat.le_of_ble_eq_true rfl) (fun q8 h8 h9 => h9.elim (fun e9 => by rw [e9]; exact hn21) (fun e9 => e9.elim (fun e9 => Nat.le_trans hKH e9.1) (fun e9 => absurd h8 (Nat.not_lt.mpr e9)))) dX1_wayOf_176 179 rfl (fun v9 H132 hR133 hz134 hq135 => ?_) nw_noX
                      obtain ⟨rfl, mow, arw, capw, fw, hcapw, hLw⟩ := hR133
                      have hLw := hLw.toP (P' := fun q => K ≤ q ∧ q ≠ a15) (es' := fun k => if k = wy.1 then nd_bx d c9 else nd_bx d (wy.2 k)) (fun e9 => e9.elim id (fun e9 => ⟨Nat.le_trans hKw e9, fun e8 => absurd hl9 (Nat.not_lt.mpr (by rw [← e8]; exact e9))⟩)) (fun _ _ => rfl)
                      have hLb := hLb.kp (hq135 _ hLb.lt' (fun e9 => by rcases e9 with e9 | e9 | e9; (omega); (have := e9.1; omega); (have := hLb.lt'; omega))) (fun q9 p9 g9 => hq135 q9 g9 (fun e9 => by have p8 : q9 < K := p9; rcases e9 with e9 | e9 | e9; (omega); (have := e9.1; omega); (omega)))
                      have hext := hext.step hz134 hq135 (fun q9 e9 => e9.elim (fun e9 => by rw [e9]; exact hn21) (fun e9 => e9.elim (fun e9 => Nat.le_trans hKH e9.1) (fun e9 => Nat.le_trans hext.1 e9)))
                      have hG := hG0.ext hext.2
                      have hE := C.E0.ext hext.2
                      have hB := Nat.le_trans hB0 hext.1
                      have hn64 := ho.n
                      show nwV X _ _ 11 H132 ((2 + i + 1 + (i + 1 - j)) + 1) ((6 + 15 * i + 15 + 15 * (i + 1 - j)) + 15) 179 [(8, .int (nI 0)), (10, .int (nI 1)), (7, .int (nI c9)), (0, .ref x), (1, .ref g), (2, .int (nI c)), (3, .int (nI t)), (4, .int (nI mv)), (5, .ref a1), (6, .ref a15), (9, .int (nI pj42))] [.int (b2i true)]
                      refine nw_wide (k' := 2 + i + 1 + (i + 1 - j) + 1) (n' := 6 + 15 * i + 15 + 15 * (i + 1 - j) + 15) (by omega) (by omega) ?_
                      refine nw_pop C dX1_wayOf_179 rfl 180 rfl ?_
                      refine nw_iload C 1 dX1_wayOf_180 rfl 182 rfl ?_
                      refine nw_ifne C 191 dX1_wayOf_182 (by decide) 185 rfl (fun _ => ?_) (fun h136 => absurd h136 (by decide))
                      refine nw_iinc C 10 (oI (sp_pr pj42)) [(9, .int (oI (sp_pr pj42))), (8, .int (nI 0)), (10, .int (nI 1)), (7, .int (nI c9)), (0, .ref x), (1, .ref g), (2, .int (nI c)), (3, .int (nI t)), (4, .int (nI mv)), (5, .ref a1), (6, .ref a15)] dX1_wayOf_191 rfl nw_pr (by decide) rfl 194 rfl ?_
                      refine nw_goto C 86 dX1_wayOf_194 (by decide) ?_
                      refine nw_iload C 0 dX1_wayOf_86 rfl 88 rfl ?_
                      generalize hpr139 : sp_pr pj42 = oq137
                      rcases oq137 with _ | pj138
                      · show nwV X _ _ 11 H132 (2 + i + 1 + (i + 1 - j) + 1) (6 + 15 * i + 15 + 15 * (i + 1 - j) + 15) 88 [(9, .int (oI none)), (8, .int (nI 0)), (10, .int (nI 1)), (7, .int (nI c9)), (0, .ref x), (1, .ref g), (2, .int (nI c)), (3, .int (nI t)), (4, .int (nI mv)), (5, .ref a1), (6, .ref a15)] [.int (oI none)]
                        have hj0 : pj42 = 0 := sp_pr_none hpr139
                        refine nw_iflt C 197 dX1_wayOf_88 (by decide) 91 rfl (fun _ => ?_) (fun h140 => absurd nw_lt0 h140)
                        refine nw_iload C 1 dX1_wayOf_197 rfl 199 rfl ?_
                        refine nw_ifeq C 210 dX1_wayOf_199 (by decide) 202 rfl (fun _ => ?_) (fun h141 => absurd (by decide) h141)
                        refine nw_callS C (mJ0_empty _ C.hfl d H132 hB) kJ0_empty q135 (As := []) (rest := []) rfl rfl ⟨⟨Nat.le_of_ble_eq_true rfl, Nat.le_of_ble_eq_true rfl⟩, (show (2 + i + 1 + (i + 1 - j) + 1) + 0 ≤ 40 by omega), (show (6 + 15 * i + 15 + 15 * (i + 1 - j) + 15) + 0 ≤ 600 by omega)⟩ (Nat.le_of_ble_eq_true rfl) (fun _ h8 h9 => absurd h9 (Nat.not_le.mpr h8)) dX1_wayOf_210 213 rfl (nw_rdK ?_) nw_noX
                        exact nw_aret C (Or.inl ⟨_, rfl⟩) dX1_wayOf_213 (by omega) (by omega) ⟨hext, _, rfl, by rw [hno]; exact rfl⟩
                      · show nwV X _ _ 11 H132 (2 + i + 1 + (i + 1 - j) + 1) (6 + 15 * i + 15 + 15 * (i + 1 - j) + 15) 88 [(9, .int (nI pj138)), (8, .int (nI 0)), (10, .int (nI 1)), (7, .int (nI c9)), (0, .ref x), (1, .ref g), (2, .int (nI c)), (3, .int (nI t)), (4, .int (nI mv)), (5, .ref a1), (6, .ref a15)] [.int (nI pj138)]
                        have hjp : pj42 = pj138 + 1 := sp_pr_some hpr139
                        refine nw_ifltN C (by omega) 197 dX1_wayOf_88 (by decide) 91 rfl ?_
                        refine nw_iload C 1 dX1_wayOf_91 rfl 93 rfl ?_
                        refine nw_ifeq C 197 dX1_wayOf_93 (by decide) 96 rfl (fun _ => ?_) (fun h143 => absurd (by decide) h143)
                        refine nw_iload C 1 dX1_wayOf_197 rfl 199 rfl ?_
                        refine nw_ifeq C 210 dX1_wayOf_199 (by decide) 202 rfl (fun _ => ?_) (fun h144 => absurd (by decide) h144)
                        refine nw_callS C (mJ0_empty _ C.hfl d H132 hB) kJ0_empty q135 (As := []) (rest := []) rfl rfl ⟨⟨Nat.le_of_ble_eq_true rfl, Nat.le_of_ble_eq_true rfl⟩, (show (2 + i + 1 + (i + 1 - j) + 1) + 0 ≤ 40 by omega), (show (6 + 15 * i + 15 + 15 * (i + 1 - j) + 15) + 0 ≤ 600 by omega)⟩ (Nat.le_of_ble_eq_true rfl) (fun _ h8 h9 => absurd h9 (Nat.not_le.mpr h8)) dX1_wayOf_210 213 rfl (nw_rdK ?_) nw_noX
                        exact nw_aret C (Or.inl ⟨_, rfl⟩) dX1_wayOf_213 (by omega) (by omega) ⟨hext, _, rfl, by rw [hno]; exact rfl⟩
          exact nw_wide (k' := 2 + i + 1 + (i + 1 - i)) (n' := 6 + 15 * i + 15 + 15 * (i + 1 - i)) (by omega) (by omega) (nw_sub [4, 5, 6, 7, 8, 9, 3, 2, 1, 0] rfl (lp40 _ H27 i (1, fun _ => c) mow arw capw fw hext (by show 1 + i = i + 1; omega) (Nat.le_refl 1) (fun _ _ => hc) hLw hcapw hLb (by unfold sp_wayOf; rw [if_neg hnw0, hD]) (Nat.lt_succ_self _)))
      · have hi15 : i + 1 ≤ 14 := hi14 (by assumption)
        refine nw_aload C 5 dX1_wayOf_18 rfl 20 rfl ?_
        refine nw_iload C 6 dX1_wayOf_20 rfl 22 rfl ?_
        refine nw_iconst C (nI 5) dX1_wayOf_22 (by decide) 23 rfl ?_
        refine nw_iremN C (by omega) dX1_wayOf_23 24 rfl ?_
        refine nw_callS C (mJ19_valueOf _ C.hfl d (lf % 5) H2 hB (by omega)) kJ19_valueOf q1057 (As := [.int (nI (lf % 5))]) (rest := [.ref a1]) rfl rfl ⟨⟨Nat.le_of_ble_eq_true rfl, Nat.le_of_ble_eq_true rfl⟩, (show (1 + i) + 0 ≤ 40 by omega), (show (3 + 15 * i) + 0 ≤ 600 by omega)⟩ (Nat.le_of_ble_eq_true rfl) (fun _ h8 h9 => absurd h9 (Nat.not_le.mpr h8)) dX1_wayOf_24 27 rfl (nw_rdK ?_) nw_noX
        have hl9 := hLb.lt'
        have hKb : H.size ≤ H2.size := by exact hext.1
        refine nw_callV C (mJ3_addB _ C.hfl d a1 i (sp_dig mv) (fun q => H.size ≤ q ∧ q ≠ a1) mob arb capb fb (nd_bx d (lf % 5)) H2 hB (Nat.le_trans hB0 hn7) hLb (fun q9 e9 => Nat.le_trans hB0 (Nat.le_trans (Nat.le_refl _) e9.1)) (fun e9 => e9.2 rfl) (nwEl.box (by omega)) (nwE.bxne hE (by omega) (Nat.le_trans hB0 hn7)) (nwE.bxlt hE (by omega)) (by omega) hcapb (fun k _ => Nat.lt_of_lt_of_le (Nat.mod_lt _ (by decide)) (by decide))) kJ3_add q888 (hLb.li.is C) (As := [.ref (nd_bx d (lf % 5))]) (rest := []) rfl rfl ⟨⟨Nat.le_of_ble_eq_true rfl, Nat.le_of_ble_eq_true rfl⟩, (show (1 + i) + 1 ≤ 40 by omega), (show (3 + 15 * i) + 15 ≤ 600 by omega)⟩ (Nat.le_of_ble_eq_true rfl) (fun q8 h8 h9 => h9.elim (fun e9 => by rw [e9]; exact hn7) (fun e9 => e9.elim (fun e9 => Nat.le_trans (Nat.le_refl _) e9.1) (fun e9 => absurd h8 (Nat.not_lt.mpr e9)))) dX1_wayOf_27 30 rfl (fun v9 H145 hR146 hz147 hq148 => ?_) nw_noX
        obtain ⟨rfl, mob, arb, capb, fb, hcapb, hLb⟩ := hR146
        have hLb := hLb.toP (P' := fun q => H.size ≤ q ∧ q ≠ a1) (es' := fun k => if k = i then nd_bx d (lf % 5) else nd_bx d ((sp_dig mv) k)) (fun e9 => e9.elim id (fun e9 => ⟨Nat.le_trans hKb e9, fun e8 => absurd hl9 (Nat.not_lt.mpr (by rw [← e8]; exact e9))⟩)) (fun _ _ => rfl)
        have hext := hext.step hz147 hq148 (fun q9 e9 => e9.elim (fun e9 => by rw [e9]; exact hn7) (fun e9 => e9.elim (fun e9 => Nat.le_trans (Nat.le_refl _) e9.1) (fun e9 => Nat.le_trans hext.1 e9)))
        have hG := hG0.ext hext.2
        have hE := C.E0.ext hext.2
        have hB := Nat.le_trans hB0 hext.1
        have hn64 := ho.n
        show nwV X _ _ 11 H145 ((1 + i) + 1) ((3 + 15 * i) + 15) 30 [(0, .ref x), (1, .ref g), (2, .int (nI c)), (3, .int (nI t)), (4, .int (nI mv)), (5, .ref a1), (6, .int (nI lf))] [.int (b2i true)]
        refine nw_wide (k' := 1 + i + 1) (n' := 3 + 15 * i + 15) (by omega) (by omega) ?_
        refine nw_pop C dX1_wayOf_30 rfl 31 rfl ?_
        refine nw_iload C 6 dX1_wayOf_31 rfl 33 rfl ?_
        refine nw_iconst C (nI 5) dX1_wayOf_33 (by decide) 34 rfl ?_
        refine nw_idivN C (by omega) dX1_wayOf_34 35 rfl ?_
        refine nw_istore C [(6, .int (nI (lf / 5))), (0, .ref x), (1, .ref g), (2, .int (nI c)), (3, .int (nI t)), (4, .int (nI mv)), (5, .ref a1)] dX1_wayOf_35 (by decide) rfl 37 rfl ?_
        refine nw_goto C 13 dX1_wayOf_37 (by decide) ?_
        have hLb := hLb.toP (P' := fun q => H.size ≤ q ∧ q ≠ a1) (es' := fun k => nd_bx d (sp_dig mv k)) id (fun k hk => by
          by_cases e9 : k = i
          · rw [if_pos e9, e9]; show nd_bx d (lf % 5) = _; rw [hlf]; rfl
          · rw [if_neg e9])
        exact nw_wide (k' := 1 + (i + 1)) (n' := 3 + 15 * (i + 1)) (by omega) (by omega) (nw_sub [1, 2, 3, 4, 5, 6, 0] rfl (ih_lp13 H145 (i + 1) (lf / 5) mob arb capb fb hext hi15 (by rw [hlf, Nat.div_div_eq_div_mul]; rfl) hLb hcapb (by rw [hdg, show 32 - i = (31 - i) + 1 by omega, sp_digs_s _ (by assumption), show 32 - (i + 1) = 31 - i by omega]; omega) (by omega)))
  exact nw_wide (k' := 1 + 0) (n' := 3 + 15 * 0) (by omega) (by omega) (nw_sub [2, 3, 4, 5, 6, 1, 0] rfl (lp13 _ H8 0 mv (nI 0) (nd_st d 5) 0 (fun _ => none) hext (Nat.zero_le _) (by simp) ⟨⟨ho12, Nat.le_refl 0, by decide, Or.inl ⟨rfl, rfl⟩⟩, fun h9 => absurd h9 (by decide), fun k hk => absurd hk (Nat.not_lt_zero k)⟩ (Or.inl rfl) (by simp) (Nat.lt_succ_self _)))
