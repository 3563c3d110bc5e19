/-! ===== lists grow ===== -/
theorem nw_upE {n e : Nat} {es : Nat → Nat} {f : Nat → Option Nat} (hf : ∀ k, k < n → f k = some (es k)) : ∀ k, k < n + 1 → va_up f n (some e) k = some ((fun k => if k = n then e else es k) k) := by
  intro k hk
  unfold va_up
  by_cases h : k = n
  · simp [h]
  · rw [if_neg h, hf k (by omega)]; simp [h]
/-- e is an object of class Cn, or a box (of -1 too), or an array of ints -/
def nwEl (d : nwD) (H : Heap) (e : Nat) (Cn : String) : Prop := (∃ (ci : Nat) (fs : List Value) (T : u_T) (N : Nat), nwO d e ci fs H ∧ nwCl[ci]? = some (Cn, T, N)) ∨ (∃ v, v < 129 ∧ e = nd_st d (1127 + v) ∧ Cn = "java/lang/Integer") ∨ (∃ (m : Nat) (f : Nat → Int32), nwI d e 0 m f H ∧ Cn = "[I")
theorem nwE.boxIs9 {d : nwD} {H : Heap} {U : State} (h : nwE d U H) {v : Nat} (hv : v < 129) : nwIs U "java/lang/Integer" (nd_st d (1127 + v)) H := by
  have h1 := h.2.1.2.2.2.1 (127 + v) (by omega)
  dsimp only at h1
  rw [show nd_st d (1000 + (127 + v)) = nd_st d (1127 + v) by congr 1; omega] at h1
  exact h1.is
theorem nwEl.is {d : nwD} {X : nwX} {A : Nat → Prop} {nL : Nat} {H H0 : Heap} {own mn : String} {cc : ByteArray} {ret : Option FieldType} {rm : Room} {tb : List ExceptionTableEntry} {e : Nat} {Cn : String} (h : nwEl d H e Cn) (C : nwC d X A H0 own mn cc nL ret rm tb) (hE : nwE d (nx_s X) H) : nwIs (nx_s X) Cn e H := by
  rcases h with ⟨ci, fs, T, N, h1, h2⟩ | ⟨v, h1, h2, h3⟩ | ⟨m, f, h1, h2⟩
  · exact h1.is C h2
  · subst h2; subst h3; exact hE.boxIs9 h1
  · subst h2
    have hc : H[e]? = some (vp_cell (nd_ar d 0) (m, .inl f)) := h1
    exact ⟨_, hc, rfl, (C.hK.2 0 (nd_ar d 0, .int) rfl).2⟩
theorem nwEl.box {d : nwD} {H : Heap} {v : Nat} (hv : v < 128) : nwEl d H (nd_bx d v) "java/lang/Integer" := Or.inr (Or.inl ⟨v + 1, by omega, by show nd_st d _ = nd_st d _; congr 1; omega, rfl⟩)
theorem nwEl.kept {d : nwD} {H H1 : Heap} {e : Nat} {Cn : String} (h : nwEl d H e Cn) (hq : H1[e]? = H[e]?) : nwEl d H1 e Cn := h.imp (fun ⟨ci, fs, T, N, h1, h2⟩ => ⟨ci, fs, T, N, h1.kept hq, h2⟩) (fun h => h.imp id (fun ⟨m, f, h1, h2⟩ => ⟨m, f, h1.kept hq, h2⟩))
theorem kJ3_grow_2 : nwPV "java/util/ArrayList" yJ3_grow_2 cJ3_grow_2 4 (some (.array (.object "java/lang/Object"))) 1 := ⟨⟨q902, qs37, q90, q903⟩, rfl, by decide +kernel, by decide +kernel, by decide +kernel⟩
theorem kJ3_grow : nwPV "java/util/ArrayList" yJ3_grow cJ3_grow 1 (some (.array (.object "java/lang/Object"))) 0 := ⟨⟨q898, qs36, q90, q899⟩, rfl, by decide +kernel, by decide +kernel, by decide +kernel⟩
theorem kJ3_add_2 : nwPV "java/util/ArrayList" yJ3_add_2 cJ3_add_2 4 none 3 := ⟨⟨q894, qs35, q90, q895⟩, rfl, by decide +kernel, by decide +kernel, by decide +kernel⟩
theorem kJ3_fastRemove : nwPV "java/util/ArrayList" yJ3_fastRemove cJ3_fastRemove 4 none 2 := ⟨⟨q2055, qs82, q90, q2056⟩, rfl, by decide +kernel, by decide +kernel, by decide +kernel⟩
set_option maxHeartbeats 4000000 in
theorem mJ16_newLength (l : Launch) (hf : l.flags = flags0) (d : nwD) (o mg pg : Nat) (H : Heap) (hB : nd_B d ≤ H.size) (ho : o < 2 ^ 20 ∧ mg < 2 ^ 20 ∧ pg < 2 ^ 20 ∧ 0 < mg) : nwRd l d yJ16_newLength cJ16_newLength 4 (some .int) 1 21 [.int (nI o), .int (nI mg), .int (nI pg)] H (some (.int (nI (o + max mg pg)))) := by
  refine nw_rd "jdk/internal/util/ArraysSupport" "newLength" hf (by decide +kernel) rfl rfl hB (Nat.le_of_ble_eq_true rfl) ?_
  intro X C
  show nwV X _ _ 4 H 0 0 0 [(0, .int (nI o)), (1, .int (nI mg)), (2, .int (nI pg))] []
  refine nw_iload_n C 0 dJ16_newLength_0 rfl 1 rfl ?_
  refine nw_iload_n C 1 dJ16_newLength_1 rfl 2 rfl ?_
  refine nw_iload_n C 2 dJ16_newLength_2 rfl 3 rfl ?_
  refine nw_mmax C (nI (max mg pg)) q907 q483 q108 q484 (nw_maxN (by omega)) ⟨Nat.le_of_ble_eq_true rfl, Nat.le_of_ble_eq_true rfl, Nat.le_of_ble_eq_true rfl, Nat.le_of_ble_eq_true rfl⟩ (Nat.le_of_ble_eq_true rfl) dJ16_newLength_3 6 rfl ?_
  refine nw_iaddN C dJ16_newLength_6 7 rfl ?_
  refine nw_istore_n C [(3, .int (nI (o + (max mg pg)))), (0, .int (nI o)), (1, .int (nI mg)), (2, .int (nI pg))] dJ16_newLength_7 (by decide) rfl 8 rfl ?_
  refine nw_iconst C (nI 0) dJ16_newLength_8 (by decide) 9 rfl ?_
  refine nw_iload_n C 0 dJ16_newLength_9 rfl 10 rfl ?_
  refine nw_icmpge C 21 dJ16_newLength_10 (by decide) 13 rfl (fun h1 => absurd h1 (fun e9 => absurd ((nI_leI' (by omega) (by decide)).mp e9) (by omega))) (fun _ => ?_)
  refine nw_iload_n C 0 dJ16_newLength_13 rfl 14 rfl ?_
  refine nw_ldc C (v := nI 2147483639) q908 dJ16_newLength_14 16 rfl ?_
  refine nw_icmpgt C 21 dJ16_newLength_16 (by decide) 19 rfl (fun h2 => absurd h2 (fun e9 => absurd ((nI_ltI (by decide) (by omega)).mp e9) (by omega))) (fun _ => ?_)
  refine nw_iload_n C 0 dJ16_newLength_19 rfl 20 rfl ?_
  exact nw_iret C dJ16_newLength_20 (Nat.le_refl _) (Nat.le_refl _) ⟨congrArg (fun z => some (Value.int (nI z))) (show (o + (max mg pg)) = (o + max mg pg) from rfl), rfl⟩
set_option maxHeartbeats 4000000 in
theorem mJ3_growE2 (l : Launch) (hf : l.flags = flags0) (d : nwD) (g : Nat) (mo : Int32) (n m : Nat) (H : Heap) (hB : nd_B d ≤ H.size) (hgB : nd_B d ≤ g) (hg : nwO d g 13 [.int mo, .ref (nd_st d 5), .int (nI n)] H) (hm : m ≤ 10) : nwMt l d yJ3_grow_2 cJ3_grow_2 4 (some (.array (.object "java/lang/Object"))) 1 21 1 10 [.ref g, .int (nI m)] H (fun v H1 => ∃ x : Nat, v = some (.ref x) ∧ H.size ≤ x ∧ nwO d g 13 [.int mo, .ref x, .int (nI n)] H1 ∧ nwR d x 3 10 (fun _ => none) H1) nwNo (fun q => q = g ∨ H.size ≤ q) := by
  refine nw_start "java/util/ArrayList" "grow" hf (by decide +kernel) rfl rfl (fun _ h => Or.inr h) (fun q h => h.elim (fun e => by rw [e]; exact hgB) (fun h => Nat.le_trans hB h)) (Nat.le_of_ble_eq_true rfl) ?_
  intro X C
  have hE := C.E0
  have hB0 := hB
  have hsz : H.size ≤ H.size := Nat.le_refl _
  show nwV X _ _ 4 H 0 0 0 [(0, .ref g), (1, .int (nI m))] []
  refine nw_aload_n C 0 dJ3_grow_2_0 rfl 1 rfl ?_
  refine nw_get C hg (T := TJ3) rfl in_J3 1 (by decide) q154 (Or.inl rfl) rfl dJ3_grow_2_1 4 rfl ?_
  refine nw_alenT C (N := 0) (ty := .object "java/lang/Object") (fun _ _ h9 => h9.2.2.2.2.2.1.2) dJ3_grow_2_4 5 rfl ?_
  refine nw_istore_n C [(2, .int (nI 0)), (0, .ref g), (1, .int (nI m))] dJ3_grow_2_5 (by decide) rfl 6 rfl ?_
  refine nw_iload_n C 0 dJ3_grow_2_6 rfl 7 rfl ?_
  refine nw_ifgt C 20 dJ3_grow_2_7 (by decide) 10 rfl (fun h1 => absurd h1 (by decide)) (fun _ => ?_)
  refine nw_aload_n C 1 dJ3_grow_2_10 rfl 11 rfl ?_
  refine nw_get C hg (T := TJ3) rfl in_J3 1 (by decide) q154 (Or.inl rfl) rfl dJ3_grow_2_11 14 rfl ?_
  refine nw_gets C (v := .ref (nd_st d 5)) (fun _ _ h9 => h9.2.2.2.2.2.1.1) q152 dJ3_grow_2_14 17 rfl ?_
  refine nw_acmpeq C 45 dJ3_grow_2_17 (by decide) 20 rfl (fun _ => ?_) (fun h2 => absurd rfl h2)
  refine nw_aload_n C 1 dJ3_grow_2_45 rfl 46 rfl ?_
  refine nw_bipush C (nI 10) dJ3_grow_2_46 (by decide) 48 rfl ?_
  refine nw_iload_n C 2 dJ3_grow_2_48 rfl 49 rfl ?_
  refine nw_mmax C (nI 10) q956 q483 q108 q484 ((nw_maxN (by omega)).trans (by rw [show max 10 m = 10 by omega])) ⟨Nat.le_of_ble_eq_true rfl, Nat.le_of_ble_eq_true rfl, Nat.le_of_ble_eq_true rfl, Nat.le_of_ble_eq_true rfl⟩ (Nat.le_of_ble_eq_true rfl) dJ3_grow_2_49 52 rfl ?_
  refine nw_newq C (by omega) q957 1 10 (by omega) (by omega) ⟨(show 1 ≤ 1 by omega), (show 10 ≤ 10 by omega)⟩ dJ3_grow_2_52 55 rfl (fun a3 H4 hx5 ho6 hz7 hq8 => ?_)
  have hn9 : H.size ≤ a3 := by rw [hx5]; exact hsz
  have hsz := Nat.le_trans hsz (show _ ≤ H4.size by omega)
  have hB := Nat.le_trans hB0 hsz
  have hne10 : g ≠ a3 := Nat.ne_of_lt (by rw [hx5]; exact hg.lt)
  have ho11 := hg.kept (hq8 _ hg.lt)
  refine nw_dup_x1 C dJ3_grow_2_55 rfl rfl 56 rfl ?_
  refine nw_put C ho11 (Or.inl rfl) (T := TJ3) (ty0 := tyJ3) rfl in_J3 tyJ3_ok nmJ3 1 (by decide) q154 (Or.inl rfl) rfl rfl rfl (Nat.le_of_ble_eq_true rfl) dJ3_grow_2_56 59 rfl (fun H12 ho13 hz14 hq15 => ?_)
  have ho13 : nwO d g 13 [.int mo, .ref a3, .int (nI n)] H12 := ho13
  have hsz := Nat.le_trans hsz (Nat.le_of_eq hz14.symm)
  have hB := Nat.le_trans hB0 hsz
  have ho16 := ho6.kept (hq15 _ (Ne.symm hne10))
  exact nw_aret C (Or.inr ⟨_, rfl⟩) dJ3_grow_2_59 (by omega) (by omega) ⟨a3, rfl, hn9, ho13, ho16⟩
set_option maxHeartbeats 4000000 in
theorem mJ3_growE (l : Launch) (hf : l.flags = flags0) (d : nwD) (g : Nat) (mo : Int32) (n : Nat) (H : Heap) (hB : nd_B d ≤ H.size) (hgB : nd_B d ≤ g) (hg : nwO d g 13 [.int mo, .ref (nd_st d 5), .int (nI n)] H) (hm : n < 10) : nwMt l d yJ3_grow cJ3_grow 1 (some (.array (.object "java/lang/Object"))) 2 44 1 10 [.ref g] H (fun v H1 => ∃ x : Nat, v = some (.ref x) ∧ H.size ≤ x ∧ nwO d g 13 [.int mo, .ref x, .int (nI n)] H1 ∧ nwR d x 3 10 (fun _ => none) H1) nwNo (fun q => q = g ∨ H.size ≤ q) := by
  refine nw_start "java/util/ArrayList" "grow" hf (by decide +kernel) rfl rfl (fun _ h => Or.inr h) (fun q h => h.elim (fun e => by rw [e]; exact hgB) (fun h => Nat.le_trans hB h)) (Nat.le_of_ble_eq_true rfl) ?_
  intro X C
  have hE := C.E0
  have hB0 := hB
  have hsz : H.size ≤ H.size := Nat.le_refl _
  show nwV X _ _ 1 H 0 0 0 [(0, .ref g)] []
  refine nw_aload_n C 0 dJ3_grow_0 rfl 1 rfl ?_
  refine nw_aload_n C 0 dJ3_grow_1 rfl 2 rfl ?_
  refine nw_get C hg (T := TJ3) rfl in_J3 2 (by decide) q157 (Or.inl rfl) rfl dJ3_grow_2 5 rfl ?_
  refine nw_iconst C (nI 1) dJ3_grow_5 (by decide) 6 rfl ?_
  refine nw_iaddN C dJ3_grow_6 7 rfl ?_
  refine nw_callV C (mJ3_growE2 _ C.hfl d g mo n (n + 1) H hB hgB hg (by omega)) kJ3_grow_2 q900 (hg.is C (ci := 13) rfl) (As := [.int (nI (n + 1))]) (rest := []) rfl rfl ⟨⟨Nat.le_of_ble_eq_true rfl, Nat.le_of_ble_eq_true rfl⟩, (show 0 + 1 ≤ 1 by omega), (show 0 + 10 ≤ 10 by omega)⟩ (Nat.le_of_ble_eq_true rfl) (fun q8 h8 h9 => h9.elim (fun e9 => by rw [e9]; exact (Or.inl rfl)) (fun e9 => absurd h8 (Nat.not_lt.mpr e9))) dJ3_grow_7 10 rfl (fun v9 H1 hR2 hz3 hq4 => ?_) nw_noX
  obtain ⟨ar5, rfl, hn6, ho7, hr8⟩ := hR2
  have hn9 : H.size ≤ ar5 := Nat.le_trans hsz hn6
  have hne10 : g ≠ ar5 := Nat.ne_of_lt (Nat.lt_of_lt_of_le hg.lt hn6)
  have hsz := Nat.le_trans hsz hz3
  have hB := Nat.le_trans hB0 hsz
  show nwV X _ _ 1 H1 (0 + 1) (0 + 10) 10 [(0, .ref g)] [.ref ar5]
  refine nw_wide (k' := 1) (n' := 10) (by omega) (by omega) ?_
  exact nw_aret C (Or.inr ⟨_, rfl⟩) dJ3_grow_10 (by omega) (by omega) ⟨ar5, rfl, hn9, ho7, hr8⟩
set_option maxHeartbeats 4000000 in
theorem mJ3_add3E (l : Launch) (hf : l.flags = flags0) (d : nwD) (g : Nat) (e : Nat) (Cn : String) (mo : Int32) (H : Heap) (hB : nd_B d ≤ H.size) (hgB : nd_B d ≤ g) (hg : nwO d g 13 [.int mo, .ref (nd_st d 5), .int (nI 0)] H) (hEl : nwEl d H e Cn) (hca : Cond.castable Cn "java/lang/Object" ∈ lw_tbl) (hea : e ≠ g) (hel : e < H.size) : nwMt l d yJ3_add_2 cJ3_add_2 4 none 3 64 1 10 [.ref g, .ref e, .ref (nd_st d 5), .int (nI 0)] H (fun v H1 => v = none ∧ ∃ x : Nat, H.size ≤ x ∧ nwO d g 13 [.int mo, .ref x, .int (nI 1)] H1 ∧ nwR d x 3 10 (va_up (fun _ => none) 0 (some e)) H1) nwNo (fun q => q = g ∨ H.size ≤ q) := by
  refine nw_start "java/util/ArrayList" "add" hf (by decide +kernel) rfl rfl (fun _ h => Or.inr h) (fun q h => h.elim (fun e => by rw [e]; exact hgB) (fun h => Nat.le_trans hB h)) (Nat.le_of_ble_eq_true rfl) ?_
  intro X C
  have hE := C.E0
  have hB0 := hB
  have hsz : H.size ≤ H.size := Nat.le_refl _
  show nwV X _ _ 4 H 0 0 0 [(0, .ref g), (1, .ref e), (2, .ref (nd_st d 5)), (3, .int (nI 0))] []
  refine nw_iload_n C 3 dJ3_add_2_0 rfl 1 rfl ?_
  refine nw_aload_n C 2 dJ3_add_2_1 rfl 2 rfl ?_
  refine nw_alenT C (N := 0) (ty := .object "java/lang/Object") (fun _ _ h9 => h9.2.2.2.2.2.1.2) dJ3_add_2_2 3 rfl ?_
  refine nw_icmpne C 11 dJ3_add_2_3 (by decide) 6 rfl (fun h1 => absurd (by decide) h1) (fun _ => ?_)
  refine nw_aload_n C 0 dJ3_add_2_6 rfl 7 rfl ?_
  refine nw_callV C (mJ3_growE _ C.hfl d g mo 0 H hB hgB hg (by omega)) kJ3_grow q896 (hg.is C (ci := 13) rfl) (As := []) (rest := []) rfl rfl ⟨⟨Nat.le_of_ble_eq_true rfl, Nat.le_of_ble_eq_true rfl⟩, (show 0 + 1 ≤ 1 by omega), (show 0 + 10 ≤ 10 by omega)⟩ (Nat.le_of_ble_eq_true rfl) (fun q8 h8 h9 => h9.elim (fun e9 => by rw [e9]; exact (Or.inl rfl)) (fun e9 => absurd h8 (Nat.not_lt.mpr e9))) dJ3_add_2_7 10 rfl (fun v9 H2 hR3 hz4 hq5 => ?_) nw_noX
  obtain ⟨ar6, rfl, hn7, ho8, hr9⟩ := hR3
  have hn10 : H.size ≤ ar6 := Nat.le_trans hsz hn7
  have hne11 : g ≠ ar6 := Nat.ne_of_lt (Nat.lt_of_lt_of_le hg.lt hn7)
  have hEl := hEl.kept (hq5 _ (show e < _ from hel) (fun e9 => e9.elim hea (Nat.not_le.mpr hel)))
  have hE := hE.kept (fun q9 g9 hb9 => hq5 q9 g9 (fun e9 => hb9 (e9.elim (fun e9 => by rw [e9]; exact hgB) (fun e9 => Nat.le_trans hB e9))))
  have hsz := Nat.le_trans hsz hz4
  have hB := Nat.le_trans hB0 hsz
  show nwV X _ _ 4 H2 (0 + 1) (0 + 10) 10 [(0, .ref g), (1, .ref e), (2, .ref (nd_st d 5)), (3, .int (nI 0))] [.ref ar6]
  refine nw_wide (k' := 1) (n' := 10) (by omega) (by omega) ?_
  refine nw_astore_n C [(2, .ref ar6), (0, .ref g), (1, .ref e), (3, .int (nI 0))] dJ3_add_2_10 (by decide) rfl 11 rfl ?_
  refine nw_aload_n C 0 dJ3_add_2_11 rfl 12 rfl ?_
  refine nw_iload_n C 3 dJ3_add_2_12 rfl 13 rfl ?_
  refine nw_aload_n C 2 dJ3_add_2_13 rfl 14 rfl ?_
  refine nw_aastRN C hr9 (Or.inr hn10) (by omega) (hEl.is C hE) hca dJ3_add_2_14 15 rfl (fun H12 ho13 hz14 hq15 => ?_)
  have hsz := Nat.le_trans hsz (Nat.le_of_eq hz14.symm)
  have hE := hE.kept (fun q9 _ hb9 => hq15 q9 (fun e9 => hb9 (by rw [e9]; exact (Nat.le_trans hB0 hn10))))
  have hB := Nat.le_trans hB0 hsz
  have ho16 := ho8.kept (hq15 _ hne11)
  refine nw_aload_n C 1 dJ3_add_2_15 rfl 16 rfl ?_
  refine nw_iload_n C 3 dJ3_add_2_16 rfl 17 rfl ?_
  refine nw_iconst C (nI 1) dJ3_add_2_17 (by decide) 18 rfl ?_
  refine nw_iaddN C dJ3_add_2_18 19 rfl ?_
  refine nw_put C ho16 (Or.inl rfl) (T := TJ3) (ty0 := tyJ3) rfl in_J3 tyJ3_ok nmJ3 2 (by decide) q157 (Or.inl rfl) rfl rfl rfl (Nat.le_of_ble_eq_true rfl) dJ3_add_2_19 22 rfl (fun H17 ho18 hz19 hq20 => ?_)
  have ho18 : nwO d g 13 [.int mo, .ref ar6, .int (nI 1)] H17 := ho18
  have hsz := Nat.le_trans hsz (Nat.le_of_eq hz19.symm)
  have hE := hE.kept (fun q9 _ hb9 => hq20 q9 (fun e9 => hb9 (by rw [e9]; exact hgB)))
  have hB := Nat.le_trans hB0 hsz
  have ho21 := ho13.kept (hq20 _ (Ne.symm hne11))
  exact nw_vret C dJ3_add_2_22 (by omega) (by omega) ⟨rfl, ar6, hn10, ho18, ho21⟩
set_option maxHeartbeats 4000000 in
theorem mJ3_add3F (l : Launch) (hf : l.flags = flags0) (d : nwD) (g : Nat) (e : Nat) (Cn : String) (mo : Int32) (n ar cap : Nat) (f : Nat → Option Nat) (H : Heap) (hB : nd_B d ≤ H.size) (hgB : nd_B d ≤ g) (harB : nd_B d ≤ ar) (hg : nwO d g 13 [.int mo, .ref ar, .int (nI n)] H) (hEl : nwEl d H e Cn) (hca : Cond.castable Cn "java/lang/Object" ∈ lw_tbl) (hea : e ≠ g) (hLr : nwR d ar 3 cap f H) (hnc : n < cap ∧ cap < 2 ^ 20) (hga : g ≠ ar) : nwMt l d yJ3_add_2 cJ3_add_2 4 none 1 20 0 0 [.ref g, .ref e, .ref ar, .int (nI n)] H (fun v H1 => v = none ∧ nwO d g 13 [.int mo, .ref ar, .int (nI (n + 1))] H1 ∧ nwR d ar 3 cap (va_up f n (some e)) H1) nwNo (fun q => q = g ∨ q = ar ∨ H.size ≤ q) := by
  refine nw_start "java/util/ArrayList" "add" hf (by decide +kernel) rfl rfl (fun _ h => Or.inr (Or.inr h)) (fun q h => h.elim (fun e => by rw [e]; exact hgB) (fun h => h.elim (fun e => by rw [e]; exact harB) (fun h => Nat.le_trans hB h))) (Nat.le_of_ble_eq_true rfl) ?_
  intro X C
  have hE := C.E0
  have hB0 := hB
  have hsz : H.size ≤ H.size := Nat.le_refl _
  show nwV X _ _ 4 H 0 0 0 [(0, .ref g), (1, .ref e), (2, .ref ar), (3, .int (nI n))] []
  refine nw_iload_n C 3 dJ3_add_2_0 rfl 1 rfl ?_
  refine nw_aload_n C 2 dJ3_add_2_1 rfl 2 rfl ?_
  refine nw_alenR C hLr (by decide) dJ3_add_2_2 3 rfl ?_
  refine nw_icmpne C 11 dJ3_add_2_3 (by decide) 6 rfl (fun _ => ?_) (fun h1 => absurd h1 (fun e9 => absurd ((nI_eq (by omega) (by omega)).mp e9) (by omega)))
  refine nw_aload_n C 2 dJ3_add_2_11 rfl 12 rfl ?_
  refine nw_iload_n C 3 dJ3_add_2_12 rfl 13 rfl ?_
  refine nw_aload_n C 1 dJ3_add_2_13 rfl 14 rfl ?_
  refine nw_aastRN C hLr (Or.inr (Or.inl rfl)) (by omega) (hEl.is C hE) hca dJ3_add_2_14 15 rfl (fun H2 ho3 hz4 hq5 => ?_)
  have hsz := Nat.le_trans hsz (Nat.le_of_eq hz4.symm)
  have hB := Nat.le_trans hB0 hsz
  have ho6 := hg.kept (hq5 _ hga)
  refine nw_aload_n C 0 dJ3_add_2_15 rfl 16 rfl ?_
  refine nw_iload_n C 3 dJ3_add_2_16 rfl 17 rfl ?_
  refine nw_iconst C (nI 1) dJ3_add_2_17 (by decide) 18 rfl ?_
  refine nw_iaddN C dJ3_add_2_18 19 rfl ?_
  refine nw_put C ho6 (Or.inl rfl) (T := TJ3) (ty0 := tyJ3) rfl in_J3 tyJ3_ok nmJ3 2 (by decide) q157 (Or.inl rfl) rfl rfl rfl (Nat.le_of_ble_eq_true rfl) dJ3_add_2_19 22 rfl (fun H7 ho8 hz9 hq10 => ?_)
  have ho8 : nwO d g 13 [.int mo, .ref ar, .int (nI (n + 1))] H7 := ho8
  have hsz := Nat.le_trans hsz (Nat.le_of_eq hz9.symm)
  have hB := Nat.le_trans hB0 hsz
  have ho11 := ho3.kept (hq10 _ (Ne.symm hga))
  exact nw_vret C dJ3_add_2_22 (Nat.le_refl _) (Nat.le_refl _) ⟨rfl, ho8, ho11⟩
set_option maxHeartbeats 4000000 in
theorem mJ3_add (l : Launch) (hf : l.flags = flags0) (d : nwD) (g n : Nat) (es : Nat → Nat) (P : Nat → Prop) (mo : Int32) (ar cap : Nat) (f : Nat → Option Nat) (e : Nat) (Cn : String) (H : Heap) (hB : nd_B d ≤ H.size) (hgB : nd_B d ≤ g) (hL : nwLm d g n es P mo ar cap f H) (hPB : ∀ q, P q → nd_B d ≤ q) (hPg : ¬ P g) (hEl : nwEl d H e Cn) (hca : Cond.castable Cn "java/lang/Object" ∈ lw_tbl) (hea : e ≠ g) (hel : e < H.size) (hn10 : n < 10) : nwMt l d yJ3_add cJ3_add 2 (some .boolean) 4 87 1 10 [.ref g, .ref e] H (fun v H1 => v = some (.int (b2i true)) ∧ ∃ (mo1 : Int32) (ar1 cap1 : Nat) (f1 : Nat → Option Nat), nwLm d g (n + 1) (fun k => if k = n then e else es k) (fun q => P q ∨ H.size ≤ q) mo1 ar1 cap1 f1 H1) nwNo (fun q => q = g ∨ P q ∨ H.size ≤ q) := by
  refine nw_start "java/util/ArrayList" "add" hf (by decide +kernel) rfl rfl (fun _ h => Or.inr (Or.inr h)) (fun q h => h.elim (fun e => by rw [e]; exact hgB) (fun h => h.elim (hPB q) (fun h => Nat.le_trans hB h))) (Nat.le_of_ble_eq_true rfl) ?_
  intro X C
  have hE := C.E0
  have hB0 := hB
  have hsz : H.size ≤ H.size := Nat.le_refl _
  obtain ⟨⟨hLo, hn1, hn2, hLa⟩, hP, hf⟩ := id hL
  show nwV X _ _ 2 H 0 0 0 [(0, .ref g), (1, .ref e)] []
  rcases hLa with ⟨hc0, har⟩ | ⟨hc1, hLr⟩
  · have hn0 : n = 0 := by omega
    subst hn0
    subst har
    refine nw_aload_n C 0 dJ3_add_0 rfl 1 rfl ?_
    refine nw_dup C dJ3_add_1 rfl 2 rfl ?_
    refine nw_get C hLo (T := TJ3) rfl in_J3 0 (by decide) q161 (Or.inr q160) rfl dJ3_add_2 5 rfl ?_
    refine nw_iconst C (nI 1) dJ3_add_5 (by decide) 6 rfl ?_
    refine nw_iadd C _ dJ3_add_6 rfl 7 rfl ?_
    refine nw_put C hLo (Or.inl rfl) (T := TJ3) (ty0 := tyJ3) rfl in_J3 tyJ3_ok nmJ3 0 (by decide) q161 (Or.inr q160) rfl rfl rfl (Nat.le_of_ble_eq_true rfl) dJ3_add_7 10 rfl (fun H1 ho2 hz3 hq4 => ?_)
    have ho2 : nwO d g 13 [.int (mo + (nI 1)), .ref (nd_st d 5), .int (nI 0)] H1 := ho2
    have hsz := Nat.le_trans hsz (Nat.le_of_eq hz3.symm)
    have hE := hE.kept (fun q9 _ hb9 => hq4 q9 (fun e9 => hb9 (by rw [e9]; exact hgB)))
    have hB := Nat.le_trans hB0 hsz
    have hEl := hEl.kept (hq4 _ hea)
    have hel := Nat.lt_of_lt_of_le hel hsz
    refine nw_aload_n C 0 dJ3_add_10 rfl 11 rfl ?_
    refine nw_aload_n C 1 dJ3_add_11 rfl 12 rfl ?_
    refine nw_aload_n C 0 dJ3_add_12 rfl 13 rfl ?_
    refine nw_get C ho2 (T := TJ3) rfl in_J3 1 (by decide) q154 (Or.inl rfl) rfl dJ3_add_13 16 rfl ?_
    refine nw_aload_n C 0 dJ3_add_16 rfl 17 rfl ?_
    refine nw_get C ho2 (T := TJ3) rfl in_J3 2 (by decide) q157 (Or.inl rfl) rfl dJ3_add_17 20 rfl ?_
    refine nw_callV C (mJ3_add3E _ C.hfl d g e Cn (mo + (nI 1)) H1 hB hgB ho2 hEl hca hea hel) kJ3_add_2 q892 (ho2.is C (ci := 13) rfl) (As := [.ref e, .ref (nd_st d 5), .int (nI 0)]) (rest := []) rfl rfl ⟨⟨Nat.le_of_ble_eq_true rfl, Nat.le_of_ble_eq_true rfl⟩, (show 0 + 1 ≤ 1 by omega), (show 0 + 10 ≤ 10 by omega)⟩ (Nat.le_of_ble_eq_true rfl) (fun q8 h8 h9 => h9.elim Or.inl (fun e9 => absurd h8 (Nat.not_lt.mpr e9))) dJ3_add_20 23 rfl (fun v9 H5 hR6 hz7 hq8 => ?_) nw_noX
    obtain ⟨rfl, x9, hn9, ho9, hr9⟩ := hR6
    have hnx : H.size ≤ x9 := Nat.le_trans hsz hn9
    show nwV X _ _ 2 H5 (0 + 1) (0 + 10) 23 [(0, .ref g), (1, .ref e)] []
    refine nw_wide (k' := 1) (n' := 10) (by omega) (by omega) ?_
    refine nw_iconst C (nI 1) dJ3_add_23 (by decide) 24 rfl ?_
    exact nw_nret C dJ3_add_24 (b2i_narrow true) (by omega) (by omega) ⟨rfl, mo + nI 1, x9, 10, _, ⟨⟨ho9, by omega, by decide, Or.inr ⟨Nat.le_refl _, hr9⟩⟩, (fun _ => Or.inr hnx), fun k hk => by rw [show k = 0 by omega]; simp [va_up]⟩⟩
  · have hPar := hP (by omega)
    have harB := hPB ar hPar
    have hga : g ≠ ar := fun e9 => hPg (by rw [e9]; exact hPar)
    refine nw_aload_n C 0 dJ3_add_0 rfl 1 rfl ?_
    refine nw_dup C dJ3_add_1 rfl 2 rfl ?_
    refine nw_get C hLo (T := TJ3) rfl in_J3 0 (by decide) q161 (Or.inr q160) rfl dJ3_add_2 5 rfl ?_
    refine nw_iconst C (nI 1) dJ3_add_5 (by decide) 6 rfl ?_
    refine nw_iadd C _ dJ3_add_6 rfl 7 rfl ?_
    refine nw_put C hLo (Or.inl rfl) (T := TJ3) (ty0 := tyJ3) rfl in_J3 tyJ3_ok nmJ3 0 (by decide) q161 (Or.inr q160) rfl rfl rfl (Nat.le_of_ble_eq_true rfl) dJ3_add_7 10 rfl (fun H9 ho10 hz11 hq12 => ?_)
    have ho10 : nwO d g 13 [.int (mo + (nI 1)), .ref ar, .int (nI n)] H9 := ho10
    have hsz := Nat.le_trans hsz (Nat.le_of_eq hz11.symm)
    have hE := hE.kept (fun q9 _ hb9 => hq12 q9 (fun e9 => hb9 (by rw [e9]; exact hgB)))
    have hB := Nat.le_trans hB0 hsz
    have ho13 := hLr.kept (hq12 _ (Ne.symm hga))
    have hEl := hEl.kept (hq12 _ hea)
    have hel := Nat.lt_of_lt_of_le hel hsz
    refine nw_aload_n C 0 dJ3_add_10 rfl 11 rfl ?_
    refine nw_aload_n C 1 dJ3_add_11 rfl 12 rfl ?_
    refine nw_aload_n C 0 dJ3_add_12 rfl 13 rfl ?_
    refine nw_get C ho10 (T := TJ3) rfl in_J3 1 (by decide) q154 (Or.inl rfl) rfl dJ3_add_13 16 rfl ?_
    refine nw_aload_n C 0 dJ3_add_16 rfl 17 rfl ?_
    refine nw_get C ho10 (T := TJ3) rfl in_J3 2 (by decide) q157 (Or.inl rfl) rfl dJ3_add_17 20 rfl ?_
    refine nw_callV C (mJ3_add3F _ C.hfl d g e Cn (mo + (nI 1)) n ar cap f H9 hB hgB harB ho10 hEl hca hea ho13 (by omega) hga) kJ3_add_2 q892 (ho10.is C (ci := 13) rfl) (As := [.ref e, .ref ar, .int (nI n)]) (rest := []) rfl rfl ⟨⟨Nat.le_of_ble_eq_true rfl, Nat.le_of_ble_eq_true rfl⟩, (show 0 + 0 ≤ 1 by omega), (show 0 + 0 ≤ 10 by omega)⟩ (Nat.le_of_ble_eq_true rfl) (fun q8 h8 h9 => h9.elim Or.inl (fun e9 => e9.elim (fun e9 => Or.inr (Or.inl (by rw [e9]; exact hPar))) (fun e9 => absurd h8 (Nat.not_lt.mpr e9)))) dJ3_add_20 23 rfl (fun v9 H14 hR15 hz16 hq17 => ?_) nw_noX
    obtain ⟨rfl, ho9, hr9⟩ := hR15
    show nwV X _ _ 2 H14 (0 + 0) (0 + 0) 23 [(0, .ref g), (1, .ref e)] []
    refine nw_wide (k' := 0) (n' := 0) (by omega) (by omega) ?_
    refine nw_iconst C (nI 1) dJ3_add_23 (by decide) 24 rfl ?_
    exact nw_nret C dJ3_add_24 (b2i_narrow true) (by omega) (by omega) ⟨rfl, mo + nI 1, ar, cap, _, ⟨⟨ho9, by omega, hn2, Or.inr ⟨hc1, hr9⟩⟩, (fun _ => Or.inl hPar), nw_upE hf⟩⟩
set_option maxHeartbeats 4000000 in
theorem mJ3_clear (l : Launch) (hf : l.flags = flags0) (d : nwD) (g n : Nat) (es : Nat → Nat) (P : Nat → Prop) (mo : Int32) (ar cap : Nat) (f : Nat → Option Nat) (H : Heap) (hB : nd_B d ≤ H.size) (hgB : nd_B d ≤ g) (hL : nwLm d g n es P mo ar cap f H) (hPB : ∀ q, P q → nd_B d ≤ q) (hPg : ¬ P g) : nwMt l d yJ3_clear cJ3_clear 4 none 1 20 0 0 [.ref g] H (fun v H1 => v = none ∧ ∃ (mo1 : Int32) (ar1 cap1 : Nat) (f1 : Nat → Option Nat), nwLm d g 0 es P mo1 ar1 cap1 f1 H1) nwNo (fun q => q = g ∨ P q ∨ H.size ≤ q) := by
  refine nw_start "java/util/ArrayList" "clear" hf (by decide +kernel) rfl rfl (fun _ h => Or.inr (Or.inr h)) (fun q h => h.elim (fun e => by rw [e]; exact hgB) (fun h => h.elim (hPB q) (fun h => Nat.le_trans hB h))) (Nat.le_of_ble_eq_true rfl) ?_
  intro X C
  have hE := C.E0
  have hB0 := hB
  have hsz : H.size ≤ H.size := Nat.le_refl _
  obtain ⟨⟨hLo, hn1, hn2, hLa⟩, hP, hf⟩ := id hL
  show nwV X _ _ 4 H 0 0 0 [(0, .ref g)] []
  rcases hLa with ⟨hc0, har⟩ | ⟨hc1, hLr⟩
  · have hn0 : n = 0 := by omega
    subst hn0
    subst har
    refine nw_aload_n C 0 dJ3_clear_0 rfl 1 rfl ?_
    refine nw_dup C dJ3_clear_1 rfl 2 rfl ?_
    refine nw_get C hLo (T := TJ3) rfl in_J3 0 (by decide) q161 (Or.inr q160) rfl dJ3_clear_2 5 rfl ?_
    refine nw_iconst C (nI 1) dJ3_clear_5 (by decide) 6 rfl ?_
    refine nw_iadd C _ dJ3_clear_6 rfl 7 rfl ?_
    refine nw_put C hLo (Or.inl rfl) (T := TJ3) (ty0 := tyJ3) rfl in_J3 tyJ3_ok nmJ3 0 (by decide) q161 (Or.inr q160) rfl rfl rfl (Nat.le_of_ble_eq_true rfl) dJ3_clear_7 10 rfl (fun H1 ho2 hz3 hq4 => ?_)
    have ho2 : nwO d g 13 [.int (mo + (nI 1)), .ref (nd_st d 5), .int (nI 0)] H1 := ho2
    have hsz := Nat.le_trans hsz (Nat.le_of_eq hz3.symm)
    have hB := Nat.le_trans hB0 hsz
    refine nw_aload_n C 0 dJ3_clear_10 rfl 11 rfl ?_
    refine nw_get C ho2 (T := TJ3) rfl in_J3 1 (by decide) q154 (Or.inl rfl) rfl dJ3_clear_11 14 rfl ?_
    refine nw_astore_n C [(1, .ref (nd_st d 5)), (0, .ref g)] dJ3_clear_14 (by decide) rfl 15 rfl ?_
    refine nw_aload_n C 1 dJ3_clear_15 rfl 16 rfl ?_
    refine nw_get C ho2 (T := TJ3) rfl in_J3 2 (by decide) q157 (Or.inl rfl) rfl dJ3_clear_16 19 rfl ?_
    refine nw_istore_n C [(2, .int (nI 0)), (1, .ref (nd_st d 5)), (0, .ref g)] dJ3_clear_19 (by decide) rfl 20 rfl ?_
    refine nw_aload_n C 2 dJ3_clear_20 rfl 21 rfl ?_
    refine nw_iconst C (nI 0) dJ3_clear_21 (by decide) 22 rfl ?_
    refine nw_dup_x1 C dJ3_clear_22 rfl rfl 23 rfl ?_
    refine nw_put C ho2 (Or.inl rfl) (T := TJ3) (ty0 := tyJ3) rfl in_J3 tyJ3_ok nmJ3 2 (by decide) q157 (Or.inl rfl) rfl rfl rfl (Nat.le_of_ble_eq_true rfl) dJ3_clear_23 26 rfl (fun H5 ho6 hz7 hq8 => ?_)
    have ho6 : nwO d g 13 [.int (mo + (nI 1)), .ref (nd_st d 5), .int (nI 0)] H5 := ho6
    have hsz := Nat.le_trans hsz (Nat.le_of_eq hz7.symm)
    have hB := Nat.le_trans hB0 hsz
    refine nw_istore_n C [(3, .int (nI 0)), (2, .int (nI 0)), (1, .ref (nd_st d 5)), (0, .ref g)] dJ3_clear_26 (by decide) rfl 27 rfl ?_
    refine nw_iload_n C 0 dJ3_clear_27 rfl 28 rfl ?_
    refine nw_iload_n C 1 dJ3_clear_28 rfl 29 rfl ?_
    refine nw_icmpge C 42 dJ3_clear_29 (by decide) 32 rfl (fun _ => ?_) (fun h9 => absurd (by decide) h9)
    exact nw_vret C dJ3_clear_42 (Nat.le_refl _) (Nat.le_refl _) ⟨rfl, mo + nI 1, nd_st d 5, cap, f, ⟨ho6, Nat.zero_le _, hn2, Or.inl ⟨hc0, rfl⟩⟩, (fun h => absurd h (by omega)), fun k hk => absurd hk (Nat.not_lt_zero k)⟩
  · have hPar := hP (by omega)
    have harB := hPB ar hPar
    have hga : g ≠ ar := fun e9 => hPg (by rw [e9]; exact hPar)
    refine nw_aload_n C 0 dJ3_clear_0 rfl 1 rfl ?_
    refine nw_dup C dJ3_clear_1 rfl 2 rfl ?_
    refine nw_get C hLo (T := TJ3) rfl in_J3 0 (by decide) q161 (Or.inr q160) rfl dJ3_clear_2 5 rfl ?_
    refine nw_iconst C (nI 1) dJ3_clear_5 (by decide) 6 rfl ?_
    refine nw_iadd C _ dJ3_clear_6 rfl 7 rfl ?_
    refine nw_put C hLo (Or.inl rfl) (T := TJ3) (ty0 := tyJ3) rfl in_J3 tyJ3_ok nmJ3 0 (by decide) q161 (Or.inr q160) rfl rfl rfl (Nat.le_of_ble_eq_true rfl) dJ3_clear_7 10 rfl (fun H10 ho11 hz12 hq13 => ?_)
    have ho11 : nwO d g 13 [.int (mo + (nI 1)), .ref ar, .int (nI n)] H10 := ho11
    have hsz := Nat.le_trans hsz (Nat.le_of_eq hz12.symm)
    have hB := Nat.le_trans hB0 hsz
    have ho14 := hLr.kept (hq13 _ (Ne.symm hga))
    refine nw_aload_n C 0 dJ3_clear_10 rfl 11 rfl ?_
    refine nw_get C ho11 (T := TJ3) rfl in_J3 1 (by decide) q154 (Or.inl rfl) rfl dJ3_clear_11 14 rfl ?_
    refine nw_astore_n C [(1, .ref ar), (0, .ref g)] dJ3_clear_14 (by decide) rfl 15 rfl ?_
    refine nw_aload_n C 1 dJ3_clear_15 rfl 16 rfl ?_
    refine nw_get C ho11 (T := TJ3) rfl in_J3 2 (by decide) q157 (Or.inl rfl) rfl dJ3_clear_16 19 rfl ?_
    refine nw_istore_n C [(2, .int (nI n)), (1, .ref ar), (0, .ref g)] dJ3_clear_19 (by decide) rfl 20 rfl ?_
    refine nw_aload_n C 2 dJ3_clear_20 rfl 21 rfl ?_
    refine nw_iconst C (nI 0) dJ3_clear_21 (by decide) 22 rfl ?_
    refine nw_dup_x1 C dJ3_clear_22 rfl rfl 23 rfl ?_
    refine nw_put C ho11 (Or.inl rfl) (T := TJ3) (ty0 := tyJ3) rfl in_J3 tyJ3_ok nmJ3 2 (by decide) q157 (Or.inl rfl) rfl rfl rfl (Nat.le_of_ble_eq_true rfl) dJ3_clear_23 26 rfl (fun H15 ho16 hz17 hq18 => ?_)
    have ho16 : nwO d g 13 [.int (mo + (nI 1)), .ref ar, .int (nI 0)] H15 := ho16
    have hsz := Nat.le_trans hsz (Nat.le_of_eq hz17.symm)
    have hB := Nat.le_trans hB0 hsz
    have ho19 := ho14.kept (hq18 _ (Ne.symm hga))
    refine nw_istore_n C [(3, .int (nI 0)), (2, .int (nI n)), (1, .ref ar), (0, .ref g)] dJ3_clear_26 (by decide) rfl 27 rfl ?_
    have lp20 : ∀ (fu : Nat) (H2 : Heap) (k : Nat) (fz : Nat → Option Nat), (k ≤ n) → (H.size ≤ H2.size) → (nwO d g 13 [.int (mo + nI 1), .ref ar, .int (nI 0)] H2) → (nwR d ar 3 cap fz H2) → n - k < fu → nwV X (fun q => q = g ∨ P q ∨ H.size ≤ q) (nwQE X (fun v H1 => v = none ∧ ∃ (mo1 : Int32) (ar1 cap1 : Nat) (f1 : Nat → Option Nat), nwLm d g 0 es P mo1 ar1 cap1 f1 H1) nwNo (fun q => q = g ∨ P q ∨ H.size ≤ q) 0 0) 4 H2 0 0 27 [(0, .ref g), (1, .ref ar), (2, .int (nI n)), (3, .int (nI k))] [] := by
      intro fu
      induction fu with
      | zero => intro H2 k fz _ _ _ _ hm; exact absurd hm (Nat.not_lt_zero _)
      | succ fu ih_lp20 =>
        intro H2 k fz hkn hsz hgk hrk hm
        refine nw_iload_n C 3 dJ3_clear_27 rfl 28 rfl ?_
        refine nw_iload_n C 2 dJ3_clear_28 rfl 29 rfl ?_
        refine nw_icmpgeN C (by omega) 42 dJ3_clear_29 (by decide) 32 rfl (fun h21 => ?_) (fun h21 => ?_)
        · exact nw_vret C dJ3_clear_42 (Nat.le_refl _) (Nat.le_refl _) ⟨rfl, mo + nI 1, ar, cap, fz, ⟨hgk, Nat.zero_le _, hn2, Or.inr ⟨hc1, hrk⟩⟩, (fun _ => hPar), fun k hk => absurd hk (Nat.not_lt_zero k)⟩
        · refine nw_aload_n C 1 dJ3_clear_32 rfl 33 rfl ?_
          refine nw_iload_n C 3 dJ3_clear_33 rfl 34 rfl ?_
          refine nw_null C dJ3_clear_34 35 rfl ?_
          refine nw_aastNN C hrk (Or.inr (Or.inl hPar)) (by omega) dJ3_clear_35 36 rfl (fun H22 ho23 hz24 hq25 => ?_)
          have hsz := Nat.le_trans hsz (Nat.le_of_eq hz24.symm)
          have hB := Nat.le_trans hB0 hsz
          have ho26 := hgk.kept (hq25 _ hga)
          refine nw_iincN C 3 (c0 := 1) [(3, .int (nI (k + 1))), (0, .ref g), (1, .ref ar), (2, .int (nI n))] dJ3_clear_36 rfl (by decide) rfl 39 rfl ?_
          refine nw_goto C 27 dJ3_clear_39 (by decide) ?_
          exact (nw_sub [1, 2, 3, 0] rfl (ih_lp20 H22 (k + 1) (va_up fz k none) (by omega) hsz ho26 ho23 (by omega)))
    exact (nw_sub [3, 2, 1, 0] rfl (lp20 _ H15 0 f (Nat.zero_le _) hsz ho16 ho19 (Nat.lt_succ_self _)))
set_option maxHeartbeats 4000000 in
theorem mJ3_fastRemove (l : Launch) (hf : l.flags = flags0) (d : nwD) (g : Nat) (mo : Int32) (n ar cap : Nat) (f : Nat → Option Nat) (H : Heap) (hB : nd_B d ≤ H.size) (hgB : nd_B d ≤ g) (harB : nd_B d ≤ ar) (hg : nwO d g 13 [.int mo, .ref ar, .int (nI (n + 1))] H) (hLr : nwR d ar 3 cap f H) (hnc : n < cap ∧ cap < 2 ^ 20) (hga : g ≠ ar) : nwMt l d yJ3_fastRemove cJ3_fastRemove 4 none 1 20 0 0 [.ref g, .ref ar, .int (nI n)] H (fun v H1 => v = none ∧ nwO d g 13 [.int (mo + nI 1), .ref ar, .int (nI n)] H1 ∧ nwR d ar 3 cap (va_up f n none) H1) nwNo (fun q => q = g ∨ q = ar ∨ H.size ≤ q) := by
  refine nw_start "java/util/ArrayList" "fastRemove" hf (by decide +kernel) rfl rfl (fun _ h => Or.inr (Or.inr h)) (fun q h => h.elim (fun e => by rw [e]; exact hgB) (fun h => h.elim (fun e => by rw [e]; exact harB) (fun h => Nat.le_trans hB h))) (Nat.le_of_ble_eq_true rfl) ?_
  intro X C
  have hE := C.E0
  have hB0 := hB
  have hsz : H.size ≤ H.size := Nat.le_refl _
  show nwV X _ _ 4 H 0 0 0 [(0, .ref g), (1, .ref ar), (2, .int (nI n))] []
  refine nw_aload_n C 0 dJ3_fastRemove_0 rfl 1 rfl ?_
  refine nw_dup C dJ3_fastRemove_1 rfl 2 rfl ?_
  refine nw_get C hg (T := TJ3) rfl in_J3 0 (by decide) q161 (Or.inr q160) rfl dJ3_fastRemove_2 5 rfl ?_
  refine nw_iconst C (nI 1) dJ3_fastRemove_5 (by decide) 6 rfl ?_
  refine nw_iadd C _ dJ3_fastRemove_6 rfl 7 rfl ?_
  refine nw_put C hg (Or.inl rfl) (T := TJ3) (ty0 := tyJ3) rfl in_J3 tyJ3_ok nmJ3 0 (by decide) q161 (Or.inr q160) rfl rfl rfl (Nat.le_of_ble_eq_true rfl) dJ3_fastRemove_7 10 rfl (fun H1 ho2 hz3 hq4 => ?_)
  have ho2 : nwO d g 13 [.int (mo + (nI 1)), .ref ar, .int (nI (n + 1))] H1 := ho2
  have hsz := Nat.le_trans hsz (Nat.le_of_eq hz3.symm)
  have hB := Nat.le_trans hB0 hsz
  have ho5 := hLr.kept (hq4 _ (Ne.symm hga))
  refine nw_aload_n C 0 dJ3_fastRemove_10 rfl 11 rfl ?_
  refine nw_get C ho2 (T := TJ3) rfl in_J3 2 (by decide) q157 (Or.inl rfl) rfl dJ3_fastRemove_11 14 rfl ?_
  refine nw_iconst C (nI 1) dJ3_fastRemove_14 (by decide) 15 rfl ?_
  refine nw_isub C (nI n) dJ3_fastRemove_15 (pk_sub (Nat.le_add_left 1 n)) 16 rfl ?_
  refine nw_dup C dJ3_fastRemove_16 rfl 17 rfl ?_
  refine nw_istore_n C [(3, .int (nI n)), (0, .ref g), (1, .ref ar), (2, .int (nI n))] dJ3_fastRemove_17 (by decide) rfl 18 rfl ?_
  refine nw_iload_n C 3 dJ3_fastRemove_18 rfl 19 rfl ?_
  refine nw_icmple C 34 dJ3_fastRemove_19 (by decide) 22 rfl (fun _ => ?_) (fun h6 => absurd ((nI_leI' (by omega) (by omega)).mpr (Nat.le_refl _)) h6)
  refine nw_aload_n C 2 dJ3_fastRemove_34 rfl 35 rfl ?_
  refine nw_aload_n C 1 dJ3_fastRemove_35 rfl 36 rfl ?_
  refine nw_iload_n C 0 dJ3_fastRemove_36 rfl 37 rfl ?_
  refine nw_dup_x1 C dJ3_fastRemove_37 rfl rfl 38 rfl ?_
  refine nw_put C ho2 (Or.inl rfl) (T := TJ3) (ty0 := tyJ3) rfl in_J3 tyJ3_ok nmJ3 2 (by decide) q157 (Or.inl rfl) rfl rfl rfl (Nat.le_of_ble_eq_true rfl) dJ3_fastRemove_38 41 rfl (fun H7 ho8 hz9 hq10 => ?_)
  have ho8 : nwO d g 13 [.int (mo + (nI 1)), .ref ar, .int (nI n)] H7 := ho8
  have hsz := Nat.le_trans hsz (Nat.le_of_eq hz9.symm)
  have hB := Nat.le_trans hB0 hsz
  have ho11 := ho5.kept (hq10 _ (Ne.symm hga))
  refine nw_null C dJ3_fastRemove_41 42 rfl ?_
  refine nw_aastNN C ho11 (Or.inr (Or.inl rfl)) (by omega) dJ3_fastRemove_42 43 rfl (fun H12 ho13 hz14 hq15 => ?_)
  have hsz := Nat.le_trans hsz (Nat.le_of_eq hz14.symm)
  have hB := Nat.le_trans hB0 hsz
  have ho16 := ho8.kept (hq15 _ hga)
  exact nw_vret C dJ3_fastRemove_43 (Nat.le_refl _) (Nat.le_refl _) ⟨rfl, ho16, ho13⟩
set_option maxHeartbeats 4000000 in
theorem mJ3_remove (l : Launch) (hf : l.flags = flags0) (d : nwD) (g n : Nat) (es : Nat → Nat) (P : Nat → Prop) (mo : Int32) (ar cap : Nat) (f : Nat → Option Nat) (H : Heap) (hB : nd_B d ≤ H.size) (hgB : nd_B d ≤ g) (hL : nwLm d g (n + 1) es P mo ar cap f H) (hPB : ∀ q, P q → nd_B d ≤ q) (hPg : ¬ P g) : nwMt l d yJ3_remove cJ3_remove 4 (some (.object "java/lang/Object")) 3 63 0 0 [.ref g, .int (nI n)] H (fun v H1 => v = some (.ref (es n)) ∧ ∃ (mo1 : Int32) (ar1 cap1 : Nat) (f1 : Nat → Option Nat), nwLm d g n es P mo1 ar1 cap1 f1 H1) nwNo (fun q => q = g ∨ P q ∨ H.size ≤ q) := by
  refine nw_start "java/util/ArrayList" "remove" hf (by decide +kernel) rfl rfl (fun _ h => Or.inr (Or.inr h)) (fun q h => h.elim (fun e => by rw [e]; exact hgB) (fun h => h.elim (hPB q) (fun h => Nat.le_trans hB h))) (Nat.le_of_ble_eq_true rfl) ?_
  intro X C
  have hE := C.E0
  have hB0 := hB
  have hsz : H.size ≤ H.size := Nat.le_refl _
  obtain ⟨⟨hLo, hn1, hn2, hLa⟩, hP, hf⟩ := id hL
  obtain ⟨hc1, hLr⟩ : 10 ≤ cap ∧ nwR d ar 3 cap f H := by rcases hLa with ⟨h, -⟩ | h; omega; exact h
  have hPar := hP (by omega)
  have harB := hPB ar hPar
  have hga : g ≠ ar := fun e9 => hPg (by rw [e9]; exact hPar)
  show nwV X _ _ 4 H 0 0 0 [(0, .ref g), (1, .int (nI n))] []
  refine nw_iload_n C 1 dJ3_remove_0 rfl 1 rfl ?_
  refine nw_aload_n C 0 dJ3_remove_1 rfl 2 rfl ?_
  refine nw_get C hLo (T := TJ3) rfl in_J3 2 (by decide) q157 (Or.inl rfl) rfl dJ3_remove_2 5 rfl ?_
  refine nw_callS C (mJ4_checkIndex _ C.hfl d n (n + 1) H hB (by omega) (by omega)) kJ4_checkIndex q354 (As := [.int (nI n), .int (nI (n + 1))]) (rest := []) rfl rfl ⟨⟨Nat.le_of_ble_eq_true rfl, Nat.le_of_ble_eq_true rfl⟩, Nat.le_of_ble_eq_true rfl, Nat.le_of_ble_eq_true rfl⟩ (Nat.le_of_ble_eq_true rfl) (fun _ h8 h9 => absurd h9 (Nat.not_le.mpr h8)) dJ3_remove_5 8 rfl (nw_rdK ?_) nw_noX
  refine nw_pop C dJ3_remove_8 rfl 9 rfl ?_
  refine nw_aload_n C 0 dJ3_remove_9 rfl 10 rfl ?_
  refine nw_get C hLo (T := TJ3) rfl in_J3 1 (by decide) q154 (Or.inl rfl) rfl dJ3_remove_10 13 rfl ?_
  refine nw_astore_n C [(2, .ref ar), (0, .ref g), (1, .int (nI n))] dJ3_remove_13 (by decide) rfl 14 rfl ?_
  refine nw_aload_n C 0 dJ3_remove_14 rfl 15 rfl ?_
  refine nw_iload_n C 2 dJ3_remove_15 rfl 16 rfl ?_
  refine nw_aaldN C (es n) hLr (by omega) (hf _ (Nat.lt_succ_self _)) dJ3_remove_16 17 rfl ?_
  refine nw_astore_n C [(3, .ref (es n)), (2, .ref ar), (0, .ref g), (1, .int (nI n))] dJ3_remove_17 (by decide) rfl 18 rfl ?_
  refine nw_aload_n C 2 dJ3_remove_18 rfl 19 rfl ?_
  refine nw_aload_n C 1 dJ3_remove_19 rfl 20 rfl ?_
  refine nw_iload_n C 3 dJ3_remove_20 rfl 21 rfl ?_
  refine nw_callV C (mJ3_fastRemove _ C.hfl d g mo n ar cap f H hB hgB harB hLo hLr (by omega) hga) kJ3_fastRemove q2053 (hLo.is C (ci := 13) rfl) (As := [.ref ar, .int (nI n)]) (rest := []) rfl rfl ⟨⟨Nat.le_of_ble_eq_true rfl, Nat.le_of_ble_eq_true rfl⟩, (show 0 + 0 ≤ 0 by omega), (show 0 + 0 ≤ 0 by omega)⟩ (Nat.le_of_ble_eq_true rfl) (fun q8 h8 h9 => h9.elim Or.inl (fun e9 => e9.elim (fun e9 => Or.inr (Or.inl (by rw [e9]; exact hPar))) (fun e9 => absurd h8 (Nat.not_lt.mpr e9)))) dJ3_remove_21 24 rfl (fun v9 H1 hR2 hz3 hq4 => ?_) nw_noX
  obtain ⟨rfl, ho9, hr9⟩ := hR2
  show nwV X _ _ 4 H1 (0 + 0) (0 + 0) 24 [(3, .ref (es n)), (2, .ref ar), (0, .ref g), (1, .int (nI n))] []
  refine nw_wide (k' := 0) (n' := 0) (by omega) (by omega) ?_
  refine nw_aload_n C 0 dJ3_remove_24 rfl 25 rfl ?_
  exact nw_aret C (Or.inl ⟨_, rfl⟩) dJ3_remove_25 (Nat.le_refl _) (Nat.le_refl _) ⟨rfl, mo + nI 1, ar, cap, _, ⟨ho9, by omega, hn2, Or.inr ⟨hc1, hr9⟩⟩, (fun _ => hPar), fun k hk => by unfold va_up; rw [if_neg (by omega)]; exact hf k (by omega)⟩
