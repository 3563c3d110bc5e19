/-! ===== the law's wrappers ===== -/
theorem nwWR.putu {d : nwD} {ro ad : Nat → Nat} {x u : Nat} {s : spSg} {sm : Int64} {H H1 : Heap} (h : nwWR d ro ad x s sm H) (hru : ro u = 9001) (hz : H1.size = H.size) (hq : ∀ q, q ≠ u → H1[q]? = H[q]?) : nwWR d ro ad x s sm H1 :=
  h.mv (fun q g => ⟨(h.1 q g).1, by rw [hz]; exact (h.1 q g).2⟩) (fun _ _ => rfl) (fun q _ hr => hq q (fun e => by rw [e, hru] at hr; exact absurd hr (by decide +kernel)))
theorem nwAC_u {ro : Nat → Nat} {H : Heap} {u : Nat} (hru : ro u = 9001) (hu : u < H.size) : ¬ nwAC ro H u := by
  intro h
  rcases h with h | h
  · rw [hru] at h; exact absurd h (by decide +kernel)
  · omega
/-- a wrapper's answer: which throw, or 0; the number is in the Out object u -/
def nwWv (d : nwD) (ro : Nat → Nat) (x u : Nat) (sm : Int64) (o : spOp) (H : Heap) : Option Value → Heap → Prop := fun v H1 => v = some (.int (nI o.1)) ∧ spOk o.2.2 ∧ H.size ≤ H1.size ∧ ∃ ro' ad' : Nat → Nat, nwWR d ro' ad' x o.2.2 sm H1 ∧ (∀ q, ro q ≠ 0 → ro' q = ro q) ∧ ∃ (ov : Int64) (sv : Value), nwO d u 12 [.long ov, sv] H1 ∧ (o.1 = 0 → ov = Int32.toInt64 o.2.1)
def nwWd (d : nwD) (ro ad : Nat → Nat) (x u : Nat) (s : spSg) (sm : Int64) (r t : Int32) (H : Heap) : Option Value → Heap → Prop := fun v H1 => v = some (.int (nI (op_drawn s r t).1)) ∧ H.size ≤ H1.size ∧ nwWR d ro ad x s sm H1 ∧ ∃ (ov : Int64) (sv : Value), nwO d u 12 [.long ov, sv] H1 ∧ ((op_drawn s r t).1 = 0 → ∃ q, sv = .ref q ∧ nwDr d s (nw_nn r) (nw_nn t) q H H1)
/-- the cells of the component, the Out object, new ones -/
def nwAW (ro : Nat → Nat) (u : Nat) (H : Heap) : Nat → Prop := fun q => nwAC ro H q ∨ q = u
theorem nwAW_B {d : nwD} {ro ad : Nat → Nat} {x u : Nat} {s : spSg} {sm : Int64} {H : Heap} (h : nwWR d ro ad x s sm H) (hB : nd_B d ≤ H.size) (hru : ro u = 9001) : ∀ q, nwAW ro u H q → nd_B d ≤ q := fun q hq => hq.elim (nwAC_B h hB q) (fun e => by rw [e]; exact (h.ok0 (show ro u ≠ 0 by rw [hru]; decide)).1)
theorem op_sees_b (s : spSg) (g c t : Int32) : (op_sees s g c t).2 = 0 ∨ (op_sees s g c t).2 = nI 1 := by
  unfold op_sees
  repeat' split
  all_goals first | exact Or.inl rfl | skip
  all_goals (generalize sp_watched _ _ _ _ _ _ = z1; generalize sp_eye _ _ _ _ _ _ _ = z2; revert z1 z2; decide)
theorem nwDr.kp {d : nwD} {s : spSg} {r t q u : Nat} {H H1 H2 : Heap} (h : nwDr d s r t q H H1) (hu : u < H.size) (hq : ∀ a, a ≠ u → H2[a]? = H1[a]?) : nwDr d s r t q H H2 := by
  obtain ⟨v9, f, ⟨h1, h2⟩, h3, h4⟩ := h
  exact ⟨v9, f, ⟨h1, h2⟩, h3.kp (hq _ (by omega)) (hq _ (by omega)), h4⟩
theorem op_base_t (s : spSg) (a0 : Int32) (a1 : Int32) (a2 : Int32) (h : (op_base s a0 a1 a2).1 ≠ 0) : (op_base s a0 a1 a2).2.2 = s := by
  unfold op_base at h ⊢
  repeat' split
  all_goals first | rfl | (simp_all; done)
theorem op_lay_t (s : spSg) (a0 : Int32) (a1 : Int32) (h : (op_lay s a0 a1).1 ≠ 0) : (op_lay s a0 a1).2.2 = s := by
  unfold op_lay at h ⊢
  repeat' split
  all_goals first | rfl | (simp_all; done)
theorem op_gates_t (s : spSg) (a0 : Int32) (a1 : Int32) (h : (op_gates s a0 a1).1 ≠ 0) : (op_gates s a0 a1).2.2 = s := by
  unfold op_gates at h ⊢
  repeat' split
  all_goals first | rfl | (simp_all; done)
theorem op_lamp_t (s : spSg) (a0 : Int32) (a1 : Int32) (h : (op_lamp s a0 a1).1 ≠ 0) : (op_lamp s a0 a1).2.2 = s := by
  unfold op_lamp at h ⊢
  repeat' split
  all_goals first | rfl | (simp_all; done)
theorem op_light_t (s : spSg) (a0 : Int32) (a1 : Bool) (h : (op_light s a0 a1).1 ≠ 0) : (op_light s a0 a1).2.2 = s := by
  unfold op_light at h ⊢
  repeat' split
  all_goals first | rfl | (simp_all; done)
theorem op_fog_t (s : spSg) (a0 : Int32) (a1 : Int32) (h : (op_fog s a0 a1).1 ≠ 0) : (op_fog s a0 a1).2.2 = s := by
  unfold op_fog at h ⊢
  repeat' split
  all_goals first | rfl | (simp_all; done)
theorem op_guard_t (s : spSg) (a0 : Int32) (a1 : Int32) (a2 : Int32) (a3 : Int32) (h : (op_guard s a0 a1 a2 a3).1 ≠ 0) : (op_guard s a0 a1 a2 a3).2.2 = s := by
  unfold op_guard at h ⊢
  repeat' split
  all_goals first | rfl | (simp_all; done)
theorem op_round_t (s : spSg) (a0 : Int32) (a1 : Int32) (h : (op_round s a0 a1).1 ≠ 0) : (op_round s a0 a1).2.2 = s := by
  unfold op_round at h ⊢
  repeat' split
  all_goals first | rfl | (simp_all; done)
theorem op_post_t (s : spSg) (a0 : Int32) (h : (op_post s a0).1 ≠ 0) : (op_post s a0).2.2 = s := by
  unfold op_post at h ⊢
  repeat' split
  all_goals first | rfl | (simp_all; done)
theorem op_words_t (s : spSg) (a0 : Int32) (h : (op_words s a0).1 ≠ 0) : (op_words s a0).2.2 = s := by
  unfold op_words at h ⊢
  repeat' split
  all_goals first | rfl | (simp_all; done)
theorem op_leak_t (s : spSg) (a0 : Int32) (h : (op_leak s a0).1 ≠ 0) : (op_leak s a0).2.2 = s := by
  unfold op_leak at h ⊢
  repeat' split
  all_goals first | rfl | (simp_all; done)
theorem op_answer_t (s : spSg) (a0 : Int32) (a1 : Int32) (a2 : Int32) (h : (op_answer s a0 a1 a2).1 ≠ 0) : (op_answer s a0 a1 a2).2.2 = s := by
  unfold op_answer at h ⊢
  repeat' split
  all_goals first | rfl | (simp_all; done)
theorem op_key_t (s : spSg) (a0 : Int32) (a1 : Int32) (h : (op_key s a0 a1).1 ≠ 0) : (op_key s a0 a1).2.2 = s := by
  unfold op_key at h ⊢
  repeat' split
  all_goals first | rfl | (simp_all; done)
theorem op_intr_t (s : spSg) (a0 : Int32) (a1 : Int32) (a2 : Int32) (h : (op_intr s a0 a1 a2).1 ≠ 0) : (op_intr s a0 a1 a2).2.2 = s := by
  unfold op_intr at h ⊢
  repeat' split
  all_goals first | rfl | (simp_all; done)
theorem op_wire_t (s : spSg) (a0 : Int32) (a1 : Int32) (h : (op_wire s a0 a1).1 ≠ 0) : (op_wire s a0 a1).2.2 = s := by
  unfold op_wire at h ⊢
  repeat' split
  all_goals first | rfl | (simp_all; done)
theorem op_force_t (s : spSg) (a0 : Int32) (a1 : Int32) (a2 : Int32) (h : (op_force s a0 a1 a2).1 ≠ 0) : (op_force s a0 a1 a2).2.2 = s := by
  unfold op_force at h ⊢
  repeat' split
  all_goals first | rfl | (simp_all; done)
theorem kX1_base : nwPV "NightwatchWall" yX1_base cX1_base 8 (some .int) 3 := ⟨⟨q652, q653, q86, q654⟩, rfl, by decide +kernel, by decide +kernel, by decide +kernel⟩
theorem kX1_lay : nwPV "NightwatchWall" yX1_lay cX1_lay 5 (some .int) 2 := ⟨⟨q807, q808, q86, q809⟩, rfl, by decide +kernel, by decide +kernel, by decide +kernel⟩
theorem kX1_gates : nwPV "NightwatchWall" yX1_gates cX1_gates 3 (some .int) 2 := ⟨⟨q858, q859, q86, q860⟩, rfl, by decide +kernel, by decide +kernel, by decide +kernel⟩
theorem kX1_lamp : nwPV "NightwatchWall" yX1_lamp cX1_lamp 4 (some .int) 2 := ⟨⟨q868, q869, q86, q870⟩, rfl, by decide +kernel, by decide +kernel, by decide +kernel⟩
theorem kX1_light : nwPV "NightwatchWall" yX1_light cX1_light 3 (some .int) 2 := ⟨⟨q962, q963, q86, q964⟩, rfl, by decide +kernel, by decide +kernel, by decide +kernel⟩
theorem kX1_fog : nwPV "NightwatchWall" yX1_fog cX1_fog 3 (some .int) 2 := ⟨⟨q969, q970, q86, q971⟩, rfl, by decide +kernel, by decide +kernel, by decide +kernel⟩
theorem kX1_guard : nwPV "NightwatchWall" yX1_guard cX1_guard 6 (some .int) 4 := ⟨⟨q990, q991, q86, q992⟩, rfl, by decide +kernel, by decide +kernel, by decide +kernel⟩
theorem kX1_round : nwPV "NightwatchWall" yX1_round cX1_round 5 (some .int) 2 := ⟨⟨q1050, q1051, q86, q1052⟩, rfl, by decide +kernel, by decide +kernel, by decide +kernel⟩
theorem kX1_post : nwPV "NightwatchWall" yX1_post cX1_post 3 (some .int) 1 := ⟨⟨q1062, q1063, q86, q1064⟩, rfl, by decide +kernel, by decide +kernel, by decide +kernel⟩
theorem kX1_place : nwPV "NightwatchWall" yX1_place cX1_place 4 (some .int) 2 := ⟨⟨q1069, q1070, q86, q1071⟩, rfl, by decide +kernel, by decide +kernel, by decide +kernel⟩
theorem kX1_sees_2 : nwPV "NightwatchWall" yX1_sees_2 cX1_sees_2 5 (some .boolean) 3 := ⟨⟨q1079, q1080, q86, q1081⟩, rfl, by decide +kernel, by decide +kernel, by decide +kernel⟩
theorem kX1_ofCell : nwPV "NightwatchWall" yX1_ofCell cX1_ofCell 4 (some .int) 3 := ⟨⟨q1086, q1087, q86, q1088⟩, rfl, by decide +kernel, by decide +kernel, by decide +kernel⟩
theorem kX1_ofMinute : nwPV "NightwatchWall" yX1_ofMinute cX1_ofMinute 3 (some .int) 2 := ⟨⟨q1093, q1094, q86, q1095⟩, rfl, by decide +kernel, by decide +kernel, by decide +kernel⟩
theorem kX1_empty : nwPV "NightwatchWall" yX1_empty cX1_empty 3 (some .int) 2 := ⟨⟨q1100, q1101, q86, q1102⟩, rfl, by decide +kernel, by decide +kernel, by decide +kernel⟩
theorem kX1_lapse : nwPV "NightwatchWall" yX1_lapse cX1_lapse 5 (some .int) 3 := ⟨⟨q1107, q1108, q86, q1109⟩, rfl, by decide +kernel, by decide +kernel, by decide +kernel⟩
theorem kX1_words : nwPV "NightwatchWall" yX1_words cX1_words 2 (some .int) 1 := ⟨⟨q1114, q1115, q86, q1116⟩, rfl, by decide +kernel, by decide +kernel, by decide +kernel⟩
theorem kX1_leak : nwPV "NightwatchWall" yX1_leak cX1_leak 2 (some .int) 1 := ⟨⟨q1125, q1126, q86, q1127⟩, rfl, by decide +kernel, by decide +kernel, by decide +kernel⟩
theorem kX1_answer : nwPV "NightwatchWall" yX1_answer cX1_answer 6 (some .int) 3 := ⟨⟨q1143, q1144, q86, q1145⟩, rfl, by decide +kernel, by decide +kernel, by decide +kernel⟩
theorem kX1_key : nwPV "NightwatchWall" yX1_key cX1_key 4 (some .int) 2 := ⟨⟨q1169, q1170, q86, q1171⟩, rfl, by decide +kernel, by decide +kernel, by decide +kernel⟩
theorem kX1_ofGuard : nwPV "NightwatchWall" yX1_ofGuard cX1_ofGuard 3 (some .int) 2 := ⟨⟨q1176, q1177, q86, q1178⟩, rfl, by decide +kernel, by decide +kernel, by decide +kernel⟩
theorem kX1_intruder : nwPV "NightwatchWall" yX1_intruder cX1_intruder 8 (some .int) 3 := ⟨⟨q1183, q1184, q86, q1185⟩, rfl, by decide +kernel, by decide +kernel, by decide +kernel⟩
theorem kX1_wire : nwPV "NightwatchWall" yX1_wire cX1_wire 3 (some .int) 2 := ⟨⟨q1218, q1219, q86, q1220⟩, rfl, by decide +kernel, by decide +kernel, by decide +kernel⟩
theorem kX1_where : nwPV "NightwatchWall" yX1_where cX1_where 4 (some .int) 2 := ⟨⟨q1239, q1240, q86, q1241⟩, rfl, by decide +kernel, by decide +kernel, by decide +kernel⟩
theorem kX1_ofIntruder : nwPV "NightwatchWall" yX1_ofIntruder cX1_ofIntruder 4 (some .int) 2 := ⟨⟨q1250, q1251, q86, q1252⟩, rfl, by decide +kernel, by decide +kernel, by decide +kernel⟩
theorem kX1_force : nwPV "NightwatchWall" yX1_force cX1_force 6 (some .int) 3 := ⟨⟨q1257, q1258, q86, q1259⟩, rfl, by decide +kernel, by decide +kernel, by decide +kernel⟩
theorem kX1_ofWire : nwPV "NightwatchWall" yX1_ofWire cX1_ofWire 3 (some .int) 2 := ⟨⟨q1264, q1265, q86, q1266⟩, rfl, by decide +kernel, by decide +kernel, by decide +kernel⟩
theorem kX1_sneak : nwPV "NightwatchWall" yX1_sneak cX1_sneak 7 (some .int) 4 := ⟨⟨q1271, q1272, q86, q1273⟩, rfl, by decide +kernel, by decide +kernel, by decide +kernel⟩
theorem kX1_reach : nwPV "NightwatchWall" yX1_reach cX1_reach 7 (some .int) 3 := ⟨⟨q1291, q1292, q86, q1293⟩, rfl, by decide +kernel, by decide +kernel, by decide +kernel⟩
theorem kX1_nextLamp : nwPV "NightwatchWall" yX1_nextLamp cX1_nextLamp 9 (some .int) 3 := ⟨⟨q1298, q1299, q86, q1300⟩, rfl, by decide +kernel, by decide +kernel, by decide +kernel⟩
theorem kX1_many : nwPV "NightwatchWall" yX1_many cX1_many 2 (some .int) 1 := ⟨⟨q1313, q1314, q86, q1315⟩, rfl, by decide +kernel, by decide +kernel, by decide +kernel⟩
theorem kX1_drawn : nwPV "NightwatchWall" yX1_drawn cX1_drawn 6 (some (.object "java/lang/String")) 2 := ⟨⟨q1320, q1321, q86, q1322⟩, rfl, by decide +kernel, by decide +kernel, by decide +kernel⟩
set_option maxHeartbeats 4000000 in
theorem mX0_base (l : Launch) (hf : l.flags = flags0) (d : nwD) (ro ad : Nat → Nat) (x : Nat) (σ : spSg) (sm : Int64) (p0 : Int32) (p1 : Int32) (p2 : Int32) (u : Nat) (ov : Int64) (sv : Value) (H : Heap) (hB : nd_B d ≤ H.size) (hR : nwWR d ro ad x σ sm H) (ok : spOk σ) (hu : nwO d u 12 [.long ov, sv] H) (hru : ro u = 9001) : nwMtH l d yX0_base cX0_base 6 (some .int) [(0, 13, 16, 19)] 8 147 6 90 [.ref x, .int p0, .int p1, .int p2, .ref u] H (nwWv d ro x u sm (op_base σ p0 p1 p2) H) nwNo (nwAW ro u H) := by
  refine nw_startH "NightwatchWallLaw" "base" hf (by decide +kernel) rfl rfl (fun _ h => Or.inl (Or.inr h)) (nwAW_B hR hB hru) (Nat.le_of_ble_eq_true rfl) ?_
  intro X C
  have hE := C.E0
  have hnu : ¬ nwAC ro H u := nwAC_u hru hu.lt
  show nwV X _ _ 6 H 0 0 0 [(0, .ref x), (1, .int p0), (2, .int p1), (3, .int p2), (4, .ref u)] []
  refine nw_aload C 4 dX0_base_0 rfl 2 rfl ?_
  refine nw_aload_n C 0 dX0_base_2 rfl 3 rfl ?_
  refine nw_iload_n C 1 dX0_base_3 rfl 4 rfl ?_
  refine nw_iload_n C 2 dX0_base_4 rfl 5 rfl ?_
  refine nw_iload_n C 3 dX0_base_5 rfl 6 rfl ?_
  refine nw_callV C (mX1_base _ C.hfl d ro ad x σ sm p0 p1 p2 H hB hR ok) kX1_base q651 (hR.2.1.1.is C (ci := 0) rfl) (As := [.int p0, .int p1, .int p2]) (rest := [.ref u]) rfl rfl ⟨⟨Nat.le_of_ble_eq_true rfl, Nat.le_of_ble_eq_true rfl⟩, (show 0 + 6 ≤ 6 by omega), (show 0 + 90 ≤ 90 by omega)⟩ (Nat.le_of_ble_eq_true rfl) (fun q8 h8 h9 => Or.inl h9) dX0_base_6 9 rfl ?_ ?_
  rotate_left
  · intro E9 w9 H1 hR2 hz3 hq4
    obtain ⟨⟨k9, hk9, he9⟩, hx9⟩ := hR2
    rcases k9 with _ | k9
    · have hE9 : E9 = cIA := (Option.some.inj (show some cIA = some E9 from he9)).symm
      subst hE9
      refine nw_catch C (name := cIA) [] [] ⟨0, 13, 16, 19⟩ rfl (fun z hz => absurd hz List.not_mem_nil) (by decide) (by decide) q650 q660 16 rfl ?_
      refine nw_astore C [(5, .ref w9), (0, .ref x), (1, .int p0), (2, .int p1), (3, .int p2), (4, .ref u)] dX0_base_16 (by decide) rfl 18 rfl ?_
      refine nw_iconst C (nI 1) dX0_base_18 (by decide) 19 rfl ?_
      have hst : (op_base σ p0 p1 p2).2.2 = σ := op_base_t σ p0 p1 p2 (by rw [hk9]; exact Nat.succ_ne_zero _)
      exact nw_iret C dX0_base_19 (by omega) (by omega) ⟨congrArg (fun z => some (Value.int (nI z))) hk9.symm, by rw [hst]; exact ok, hx9.1, ro, ad, by rw [hst]; exact hR.ext hx9, fun _ _ => rfl, ov, sv, hu.ext hx9.2, fun h9 => absurd (h9.symm.trans hk9) (by decide)⟩
    · cases (show (none : Option String) = some E9 from he9)
  intro v9 H1 hR2 hz3 hq4
  obtain ⟨⟨ho9, rfl⟩, ok9, hz9, ro9, ad9, hR9, hk9⟩ := hR2
  have hu9 := hu.kept (hq4 _ hu.lt hnu)
  have hru9 : ro9 u = 9001 := nw_rt hk9 hru (by decide)
  show nwV X _ _ 6 H1 (0 + 6) (0 + 90) 9 [(0, .ref x), (1, .int p0), (2, .int p1), (3, .int p2), (4, .ref u)] [.int ((op_base σ p0 p1 p2).2.1), .ref u]
  refine nw_wide (k' := 6) (n' := 90) (by omega) (by omega) ?_
  refine nw_i2l C dX0_base_9 10 rfl ?_
  refine nw_putN C hu9 (Or.inr rfl) (T := TX5) (ty0 := tyX5) rfl in_X5 tyX5_ok nmX5 0 (by decide) q640 rfl rfl rfl rfl (Nat.le_of_ble_eq_true rfl) dX0_base_10 13 rfl (fun H5 ho6 hz7 hq8 => ?_)
  have ho6 : nwO d u 12 [.long (Int32.toInt64 ((op_base σ p0 p1 p2).2.1)), sv] H5 := ho6
  have hR8 := hR9.putu hru9 hz7 hq8
  have hz8 : H.size ≤ H5.size := by rw [hz7]; exact hz9
  refine nw_goto C 20 dX0_base_13 (by decide) ?_
  refine nw_iconst C (nI 0) dX0_base_20 (by decide) 21 rfl ?_
  exact nw_iret C dX0_base_21 (by omega) (by omega) ⟨congrArg (fun z => some (Value.int (nI z))) ho9.symm, ok9, hz8, ro9, ad9, hR8, hk9, _, sv, ho6, fun _ => rfl⟩
theorem hX0_base : nwPH yX0_base cX0_base 6 (some .int) [(0, 13, 16, 19)] 5 := ⟨⟨q648, q85, q649⟩, by decide +kernel, by decide +kernel, by decide +kernel⟩
set_option maxHeartbeats 4000000 in
theorem mX0_lay (l : Launch) (hf : l.flags = flags0) (d : nwD) (ro ad : Nat → Nat) (x : Nat) (σ : spSg) (sm : Int64) (p0 : Int32) (p1 : Int32) (u : Nat) (ov : Int64) (sv : Value) (H : Heap) (hB : nd_B d ≤ H.size) (hR : nwWR d ro ad x σ sm H) (ok : spOk σ) (hu : nwO d u 12 [.long ov, sv] H) (hru : ro u = 9001) : nwMtH l d yX0_lay cX0_lay 5 (some .int) [(0, 11, 14, 25), (0, 11, 18, 19), (0, 11, 22, 27)] 9 174 8 40 [.ref x, .int p0, .int p1, .ref u] H (nwWv d ro x u sm (op_lay σ p0 p1) H) nwNo (nwAW ro u H) := by
  refine nw_startH "NightwatchWallLaw" "lay" hf (by decide +kernel) rfl rfl (fun _ h => Or.inl (Or.inr h)) (nwAW_B hR hB hru) (Nat.le_of_ble_eq_true rfl) ?_
  intro X C
  have hE := C.E0
  have hnu : ¬ nwAC ro H u := nwAC_u hru hu.lt
  show nwV X _ _ 5 H 0 0 0 [(0, .ref x), (1, .int p0), (2, .int p1), (3, .ref u)] []
  refine nw_aload_n C 3 dX0_lay_0 rfl 1 rfl ?_
  refine nw_aload_n C 0 dX0_lay_1 rfl 2 rfl ?_
  refine nw_iload_n C 1 dX0_lay_2 rfl 3 rfl ?_
  refine nw_iload_n C 2 dX0_lay_3 rfl 4 rfl ?_
  refine nw_callV C (mX1_lay _ C.hfl d ro ad x σ sm p0 p1 H hB hR ok) kX1_lay q806 (hR.2.1.1.is C (ci := 0) rfl) (As := [.int p0, .int p1]) (rest := [.ref u]) rfl rfl ⟨⟨Nat.le_of_ble_eq_true rfl, Nat.le_of_ble_eq_true rfl⟩, (show 0 + 8 ≤ 8 by omega), (show 0 + 40 ≤ 40 by omega)⟩ (Nat.le_of_ble_eq_true rfl) (fun q8 h8 h9 => Or.inl h9) dX0_lay_4 7 rfl ?_ ?_
  rotate_left
  · intro E9 w9 H1 hR2 hz3 hq4
    obtain ⟨⟨k9, hk9, he9⟩, hx9⟩ := hR2
    rcases k9 with _ | _ | _ | k9
    · have hE9 : E9 = cIO := (Option.some.inj (show some cIO = some E9 from he9)).symm
      subst hE9
      refine nw_catch C (name := cIO) [] [⟨0, 11, 18, 19⟩, ⟨0, 11, 22, 27⟩] ⟨0, 11, 14, 25⟩ rfl (fun z hz => absurd hz List.not_mem_nil) (by decide) (by decide) q772 q819 14 rfl ?_
      refine nw_astore C [(4, .ref w9), (0, .ref x), (1, .int p0), (2, .int p1), (3, .ref u)] dX0_lay_14 (by decide) rfl 16 rfl ?_
      refine nw_iconst C (nI 1) dX0_lay_16 (by decide) 17 rfl ?_
      have hst : (op_lay σ p0 p1).2.2 = σ := op_lay_t σ p0 p1 (by rw [hk9]; exact Nat.succ_ne_zero _)
      exact nw_iret C dX0_lay_17 (by omega) (by omega) ⟨congrArg (fun z => some (Value.int (nI z))) hk9.symm, by rw [hst]; exact ok, hx9.1, ro, ad, by rw [hst]; exact hR.ext hx9, fun _ _ => rfl, ov, sv, hu.ext hx9.2, fun h9 => absurd (h9.symm.trans hk9) (by decide)⟩
    · have hE9 : E9 = cIA := (Option.some.inj (show some cIA = some E9 from he9)).symm
      subst hE9
      refine nw_catch C (name := cIA) [⟨0, 11, 14, 25⟩] [⟨0, 11, 22, 27⟩] ⟨0, 11, 18, 19⟩ rfl (fun z hz => by
            simp only [List.mem_cons, List.not_mem_nil, or_false] at hz
            rcases hz with rfl
            · exact Or.inr ⟨by decide, _, q772, C.hE.1.2.2.2.2.2.2.2.2.1⟩) (by decide) (by decide) q650 q660 18 rfl ?_
      refine nw_astore C [(4, .ref w9), (0, .ref x), (1, .int p0), (2, .int p1), (3, .ref u)] dX0_lay_18 (by decide) rfl 20 rfl ?_
      refine nw_iconst C (nI 2) dX0_lay_20 (by decide) 21 rfl ?_
      have hst : (op_lay σ p0 p1).2.2 = σ := op_lay_t σ p0 p1 (by rw [hk9]; exact Nat.succ_ne_zero _)
      exact nw_iret C dX0_lay_21 (by omega) (by omega) ⟨congrArg (fun z => some (Value.int (nI z))) hk9.symm, by rw [hst]; exact ok, hx9.1, ro, ad, by rw [hst]; exact hR.ext hx9, fun _ _ => rfl, ov, sv, hu.ext hx9.2, fun h9 => absurd (h9.symm.trans hk9) (by decide)⟩
    · have hE9 : E9 = cIS := (Option.some.inj (show some cIS = some E9 from he9)).symm
      subst hE9
      refine nw_catch C (name := cIS) [⟨0, 11, 14, 25⟩, ⟨0, 11, 18, 19⟩] [] ⟨0, 11, 22, 27⟩ rfl (fun z hz => by
            simp only [List.mem_cons, List.not_mem_nil, or_false] at hz
            rcases hz with rfl | rfl
            · exact Or.inr ⟨by decide, _, q772, C.hE.1.2.2.2.2.2.2.2.2.2.1⟩
            · exact Or.inr ⟨by decide, _, q650, C.hE.1.2.2.2.2.2.2.2.2.2.2⟩) (by decide) (by decide) q805 q837 22 rfl ?_
      refine nw_astore C [(4, .ref w9), (0, .ref x), (1, .int p0), (2, .int p1), (3, .ref u)] dX0_lay_22 (by decide) rfl 24 rfl ?_
      refine nw_iconst C (nI 3) dX0_lay_24 (by decide) 25 rfl ?_
      have hst : (op_lay σ p0 p1).2.2 = σ := op_lay_t σ p0 p1 (by rw [hk9]; exact Nat.succ_ne_zero _)
      exact nw_iret C dX0_lay_25 (by omega) (by omega) ⟨congrArg (fun z => some (Value.int (nI z))) hk9.symm, by rw [hst]; exact ok, hx9.1, ro, ad, by rw [hst]; exact hR.ext hx9, fun _ _ => rfl, ov, sv, hu.ext hx9.2, fun h9 => absurd (h9.symm.trans hk9) (by decide)⟩
    · cases (show (none : Option String) = some E9 from he9)
  intro v9 H1 hR2 hz3 hq4
  obtain ⟨⟨ho9, rfl⟩, ok9, hz9, ro9, ad9, hR9, hk9⟩ := hR2
  have hu9 := hu.kept (hq4 _ hu.lt hnu)
  have hru9 : ro9 u = 9001 := nw_rt hk9 hru (by decide)
  show nwV X _ _ 5 H1 (0 + 8) (0 + 40) 7 [(0, .ref x), (1, .int p0), (2, .int p1), (3, .ref u)] [.int ((op_lay σ p0 p1).2.1), .ref u]
  refine nw_wide (k' := 8) (n' := 40) (by omega) (by omega) ?_
  refine nw_i2l C dX0_lay_7 8 rfl ?_
  refine nw_putN C hu9 (Or.inr rfl) (T := TX5) (ty0 := tyX5) rfl in_X5 tyX5_ok nmX5 0 (by decide) q640 rfl rfl rfl rfl (Nat.le_of_ble_eq_true rfl) dX0_lay_8 11 rfl (fun H5 ho6 hz7 hq8 => ?_)
  have ho6 : nwO d u 12 [.long (Int32.toInt64 ((op_lay σ p0 p1).2.1)), sv] H5 := ho6
  have hR8 := hR9.putu hru9 hz7 hq8
  have hz8 : H.size ≤ H5.size := by rw [hz7]; exact hz9
  refine nw_goto C 26 dX0_lay_11 (by decide) ?_
  refine nw_iconst C (nI 0) dX0_lay_26 (by decide) 27 rfl ?_
  exact nw_iret C dX0_lay_27 (by omega) (by omega) ⟨congrArg (fun z => some (Value.int (nI z))) ho9.symm, ok9, hz8, ro9, ad9, hR8, hk9, _, sv, ho6, fun _ => rfl⟩
theorem hX0_lay : nwPH yX0_lay cX0_lay 5 (some .int) [(0, 11, 14, 25), (0, 11, 18, 19), (0, 11, 22, 27)] 4 := ⟨⟨q770, q85, q771⟩, by decide +kernel, by decide +kernel, by decide +kernel⟩
set_option maxHeartbeats 4000000 in
theorem mX0_gates (l : Launch) (hf : l.flags = flags0) (d : nwD) (ro ad : Nat → Nat) (x : Nat) (σ : spSg) (sm : Int64) (p0 : Int32) (p1 : Int32) (u : Nat) (ov : Int64) (sv : Value) (H : Heap) (hB : nd_B d ≤ H.size) (hR : nwWR d ro ad x σ sm H) (ok : spOk σ) (hu : nwO d u 12 [.long ov, sv] H) (hru : ro u = 9001) : nwMtH l d yX0_gates cX0_gates 5 (some .int) [(0, 11, 14, 19)] 8 142 1 6 [.ref x, .int p0, .int p1, .ref u] H (nwWv d ro x u sm (op_gates σ p0 p1) H) nwNo (nwAW ro u H) := by
  refine nw_startH "NightwatchWallLaw" "gates" hf (by decide +kernel) rfl rfl (fun _ h => Or.inl (Or.inr h)) (nwAW_B hR hB hru) (Nat.le_of_ble_eq_true rfl) ?_
  intro X C
  have hE := C.E0
  have hnu : ¬ nwAC ro H u := nwAC_u hru hu.lt
  show nwV X _ _ 5 H 0 0 0 [(0, .ref x), (1, .int p0), (2, .int p1), (3, .ref u)] []
  refine nw_aload_n C 3 dX0_gates_0 rfl 1 rfl ?_
  refine nw_aload_n C 0 dX0_gates_1 rfl 2 rfl ?_
  refine nw_iload_n C 1 dX0_gates_2 rfl 3 rfl ?_
  refine nw_iload_n C 2 dX0_gates_3 rfl 4 rfl ?_
  refine nw_callV C (mX1_gates _ C.hfl d ro ad x σ sm p0 p1 H hB hR ok) kX1_gates q857 (hR.2.1.1.is C (ci := 0) rfl) (As := [.int p0, .int p1]) (rest := [.ref u]) rfl rfl ⟨⟨Nat.le_of_ble_eq_true rfl, Nat.le_of_ble_eq_true rfl⟩, (show 0 + 1 ≤ 1 by omega), (show 0 + 6 ≤ 6 by omega)⟩ (Nat.le_of_ble_eq_true rfl) (fun q8 h8 h9 => Or.inl h9) dX0_gates_4 7 rfl ?_ ?_
  rotate_left
  · intro E9 w9 H1 hR2 hz3 hq4
    obtain ⟨⟨k9, hk9, he9⟩, hx9⟩ := hR2
    rcases k9 with _ | k9
    · have hE9 : E9 = cIA := (Option.some.inj (show some cIA = some E9 from he9)).symm
      subst hE9
      refine nw_catch C (name := cIA) [] [] ⟨0, 11, 14, 19⟩ rfl (fun z hz => absurd hz List.not_mem_nil) (by decide) (by decide) q650 q660 14 rfl ?_
      refine nw_astore C [(4, .ref w9), (0, .ref x), (1, .int p0), (2, .int p1), (3, .ref u)] dX0_gates_14 (by decide) rfl 16 rfl ?_
      refine nw_iconst C (nI 1) dX0_gates_16 (by decide) 17 rfl ?_
      have hst : (op_gates σ p0 p1).2.2 = σ := op_gates_t σ p0 p1 (by rw [hk9]; exact Nat.succ_ne_zero _)
      exact nw_iret C dX0_gates_17 (by omega) (by omega) ⟨congrArg (fun z => some (Value.int (nI z))) hk9.symm, by rw [hst]; exact ok, hx9.1, ro, ad, by rw [hst]; exact hR.ext hx9, fun _ _ => rfl, ov, sv, hu.ext hx9.2, fun h9 => absurd (h9.symm.trans hk9) (by decide)⟩
    · cases (show (none : Option String) = some E9 from he9)
  intro v9 H1 hR2 hz3 hq4
  obtain ⟨⟨ho9, rfl⟩, ok9, hz9, ro9, ad9, hR9, hk9⟩ := hR2
  have hu9 := hu.kept (hq4 _ hu.lt hnu)
  have hru9 : ro9 u = 9001 := nw_rt hk9 hru (by decide)
  show nwV X _ _ 5 H1 (0 + 1) (0 + 6) 7 [(0, .ref x), (1, .int p0), (2, .int p1), (3, .ref u)] [.int ((op_gates σ p0 p1).2.1), .ref u]
  refine nw_wide (k' := 1) (n' := 6) (by omega) (by omega) ?_
  refine nw_i2l C dX0_gates_7 8 rfl ?_
  refine nw_putN C hu9 (Or.inr rfl) (T := TX5) (ty0 := tyX5) rfl in_X5 tyX5_ok nmX5 0 (by decide) q640 rfl rfl rfl rfl (Nat.le_of_ble_eq_true rfl) dX0_gates_8 11 rfl (fun H5 ho6 hz7 hq8 => ?_)
  have ho6 : nwO d u 12 [.long (Int32.toInt64 ((op_gates σ p0 p1).2.1)), sv] H5 := ho6
  have hR8 := hR9.putu hru9 hz7 hq8
  have hz8 : H.size ≤ H5.size := by rw [hz7]; exact hz9
  refine nw_goto C 18 dX0_gates_11 (by decide) ?_
  refine nw_iconst C (nI 0) dX0_gates_18 (by decide) 19 rfl ?_
  exact nw_iret C dX0_gates_19 (by omega) (by omega) ⟨congrArg (fun z => some (Value.int (nI z))) ho9.symm, ok9, hz8, ro9, ad9, hR8, hk9, _, sv, ho6, fun _ => rfl⟩
theorem hX0_gates : nwPH yX0_gates cX0_gates 5 (some .int) [(0, 11, 14, 19)] 4 := ⟨⟨q855, q85, q856⟩, by decide +kernel, by decide +kernel, by decide +kernel⟩
set_option maxHeartbeats 4000000 in
theorem mX0_lamp (l : Launch) (hf : l.flags = flags0) (d : nwD) (ro ad : Nat → Nat) (x : Nat) (σ : spSg) (sm : Int64) (p0 : Int32) (p1 : Int32) (u : Nat) (ov : Int64) (sv : Value) (H : Heap) (hB : nd_B d ≤ H.size) (hR : nwWR d ro ad x σ sm H) (ok : spOk σ) (hu : nwO d u 12 [.long ov, sv] H) (hru : ro u = 9001) : nwMtH l d yX0_lamp cX0_lamp 5 (some .int) [(0, 11, 14, 25), (0, 11, 18, 19), (0, 11, 22, 27)] 9 165 4 40 [.ref x, .int p0, .int p1, .ref u] H (nwWv d ro x u sm (op_lamp σ p0 p1) H) nwNo (nwAW ro u H) := by
  refine nw_startH "NightwatchWallLaw" "lamp" hf (by decide +kernel) rfl rfl (fun _ h => Or.inl (Or.inr h)) (nwAW_B hR hB hru) (Nat.le_of_ble_eq_true rfl) ?_
  intro X C
  have hE := C.E0
  have hnu : ¬ nwAC ro H u := nwAC_u hru hu.lt
  show nwV X _ _ 5 H 0 0 0 [(0, .ref x), (1, .int p0), (2, .int p1), (3, .ref u)] []
  refine nw_aload_n C 3 dX0_lamp_0 rfl 1 rfl ?_
  refine nw_aload_n C 0 dX0_lamp_1 rfl 2 rfl ?_
  refine nw_iload_n C 1 dX0_lamp_2 rfl 3 rfl ?_
  refine nw_iload_n C 2 dX0_lamp_3 rfl 4 rfl ?_
  refine nw_callV C (mX1_lamp _ C.hfl d ro ad x σ sm p0 p1 H hB hR ok) kX1_lamp q867 (hR.2.1.1.is C (ci := 0) rfl) (As := [.int p0, .int p1]) (rest := [.ref u]) rfl rfl ⟨⟨Nat.le_of_ble_eq_true rfl, Nat.le_of_ble_eq_true rfl⟩, (show 0 + 4 ≤ 4 by omega), (show 0 + 40 ≤ 40 by omega)⟩ (Nat.le_of_ble_eq_true rfl) (fun q8 h8 h9 => Or.inl h9) dX0_lamp_4 7 rfl ?_ ?_
  rotate_left
  · intro E9 w9 H1 hR2 hz3 hq4
    obtain ⟨⟨k9, hk9, he9⟩, hx9⟩ := hR2
    rcases k9 with _ | _ | _ | k9
    · have hE9 : E9 = cIO := (Option.some.inj (show some cIO = some E9 from he9)).symm
      subst hE9
      refine nw_catch C (name := cIO) [] [⟨0, 11, 18, 19⟩, ⟨0, 11, 22, 27⟩] ⟨0, 11, 14, 25⟩ rfl (fun z hz => absurd hz List.not_mem_nil) (by decide) (by decide) q772 q819 14 rfl ?_
      refine nw_astore C [(4, .ref w9), (0, .ref x), (1, .int p0), (2, .int p1), (3, .ref u)] dX0_lamp_14 (by decide) rfl 16 rfl ?_
      refine nw_iconst C (nI 1) dX0_lamp_16 (by decide) 17 rfl ?_
      have hst : (op_lamp σ p0 p1).2.2 = σ := op_lamp_t σ p0 p1 (by rw [hk9]; exact Nat.succ_ne_zero _)
      exact nw_iret C dX0_lamp_17 (by omega) (by omega) ⟨congrArg (fun z => some (Value.int (nI z))) hk9.symm, by rw [hst]; exact ok, hx9.1, ro, ad, by rw [hst]; exact hR.ext hx9, fun _ _ => rfl, ov, sv, hu.ext hx9.2, fun h9 => absurd (h9.symm.trans hk9) (by decide)⟩
    · have hE9 : E9 = cIA := (Option.some.inj (show some cIA = some E9 from he9)).symm
      subst hE9
      refine nw_catch C (name := cIA) [⟨0, 11, 14, 25⟩] [⟨0, 11, 22, 27⟩] ⟨0, 11, 18, 19⟩ rfl (fun z hz => by
            simp only [List.mem_cons, List.not_mem_nil, or_false] at hz
            rcases hz with rfl
            · exact Or.inr ⟨by decide, _, q772, C.hE.1.2.2.2.2.2.2.2.2.1⟩) (by decide) (by decide) q650 q660 18 rfl ?_
      refine nw_astore C [(4, .ref w9), (0, .ref x), (1, .int p0), (2, .int p1), (3, .ref u)] dX0_lamp_18 (by decide) rfl 20 rfl ?_
      refine nw_iconst C (nI 2) dX0_lamp_20 (by decide) 21 rfl ?_
      have hst : (op_lamp σ p0 p1).2.2 = σ := op_lamp_t σ p0 p1 (by rw [hk9]; exact Nat.succ_ne_zero _)
      exact nw_iret C dX0_lamp_21 (by omega) (by omega) ⟨congrArg (fun z => some (Value.int (nI z))) hk9.symm, by rw [hst]; exact ok, hx9.1, ro, ad, by rw [hst]; exact hR.ext hx9, fun _ _ => rfl, ov, sv, hu.ext hx9.2, fun h9 => absurd (h9.symm.trans hk9) (by decide)⟩
    · have hE9 : E9 = cIS := (Option.some.inj (show some cIS = some E9 from he9)).symm
      subst hE9
      refine nw_catch C (name := cIS) [⟨0, 11, 14, 25⟩, ⟨0, 11, 18, 19⟩] [] ⟨0, 11, 22, 27⟩ rfl (fun z hz => by
            simp only [List.mem_cons, List.not_mem_nil, or_false] at hz
            rcases hz with rfl | rfl
            · exact Or.inr ⟨by decide, _, q772, C.hE.1.2.2.2.2.2.2.2.2.2.1⟩
            · exact Or.inr ⟨by decide, _, q650, C.hE.1.2.2.2.2.2.2.2.2.2.2⟩) (by decide) (by decide) q805 q837 22 rfl ?_
      refine nw_astore C [(4, .ref w9), (0, .ref x), (1, .int p0), (2, .int p1), (3, .ref u)] dX0_lamp_22 (by decide) rfl 24 rfl ?_
      refine nw_iconst C (nI 3) dX0_lamp_24 (by decide) 25 rfl ?_
      have hst : (op_lamp σ p0 p1).2.2 = σ := op_lamp_t σ p0 p1 (by rw [hk9]; exact Nat.succ_ne_zero _)
      exact nw_iret C dX0_lamp_25 (by omega) (by omega) ⟨congrArg (fun z => some (Value.int (nI z))) hk9.symm, by rw [hst]; exact ok, hx9.1, ro, ad, by rw [hst]; exact hR.ext hx9, fun _ _ => rfl, ov, sv, hu.ext hx9.2, fun h9 => absurd (h9.symm.trans hk9) (by decide)⟩
    · cases (show (none : Option String) = some E9 from he9)
  intro v9 H1 hR2 hz3 hq4
  obtain ⟨⟨ho9, rfl⟩, ok9, hz9, ro9, ad9, hR9, hk9⟩ := hR2
  have hu9 := hu.kept (hq4 _ hu.lt hnu)
  have hru9 : ro9 u = 9001 := nw_rt hk9 hru (by decide)
  show nwV X _ _ 5 H1 (0 + 4) (0 + 40) 7 [(0, .ref x), (1, .int p0), (2, .int p1), (3, .ref u)] [.int ((op_lamp σ p0 p1).2.1), .ref u]
  refine nw_wide (k' := 4) (n' := 40) (by omega) (by omega) ?_
  refine nw_i2l C dX0_lamp_7 8 rfl ?_
  refine nw_putN C hu9 (Or.inr rfl) (T := TX5) (ty0 := tyX5) rfl in_X5 tyX5_ok nmX5 0 (by decide) q640 rfl rfl rfl rfl (Nat.le_of_ble_eq_true rfl) dX0_lamp_8 11 rfl (fun H5 ho6 hz7 hq8 => ?_)
  have ho6 : nwO d u 12 [.long (Int32.toInt64 ((op_lamp σ p0 p1).2.1)), sv] H5 := ho6
  have hR8 := hR9.putu hru9 hz7 hq8
  have hz8 : H.size ≤ H5.size := by rw [hz7]; exact hz9
  refine nw_goto C 26 dX0_lamp_11 (by decide) ?_
  refine nw_iconst C (nI 0) dX0_lamp_26 (by decide) 27 rfl ?_
  exact nw_iret C dX0_lamp_27 (by omega) (by omega) ⟨congrArg (fun z => some (Value.int (nI z))) ho9.symm, ok9, hz8, ro9, ad9, hR8, hk9, _, sv, ho6, fun _ => rfl⟩
theorem hX0_lamp : nwPH yX0_lamp cX0_lamp 5 (some .int) [(0, 11, 14, 25), (0, 11, 18, 19), (0, 11, 22, 27)] 4 := ⟨⟨q865, q85, q866⟩, by decide +kernel, by decide +kernel, by decide +kernel⟩
set_option maxHeartbeats 4000000 in
theorem mX0_light (l : Launch) (hf : l.flags = flags0) (d : nwD) (ro ad : Nat → Nat) (x : Nat) (σ : spSg) (sm : Int64) (p0 : Int32) (p1 : Bool) (u : Nat) (ov : Int64) (sv : Value) (H : Heap) (hB : nd_B d ≤ H.size) (hR : nwWR d ro ad x σ sm H) (ok : spOk σ) (hu : nwO d u 12 [.long ov, sv] H) (hru : ro u = 9001) : nwMtH l d yX0_light cX0_light 5 (some .int) [(0, 11, 14, 25)] 8 177 1 6 [.ref x, .int p0, .int (b2i p1), .ref u] H (nwWv d ro x u sm (op_light σ p0 p1) H) nwNo (nwAW ro u H) := by
  refine nw_startH "NightwatchWallLaw" "light" hf (by decide +kernel) rfl rfl (fun _ h => Or.inl (Or.inr h)) (nwAW_B hR hB hru) (Nat.le_of_ble_eq_true rfl) ?_
  intro X C
  have hE := C.E0
  have hnu : ¬ nwAC ro H u := nwAC_u hru hu.lt
  show nwV X _ _ 5 H 0 0 0 [(0, .ref x), (1, .int p0), (2, .int (b2i p1)), (3, .ref u)] []
  refine nw_aload_n C 3 dX0_light_0 rfl 1 rfl ?_
  refine nw_aload_n C 0 dX0_light_1 rfl 2 rfl ?_
  refine nw_iload_n C 1 dX0_light_2 rfl 3 rfl ?_
  refine nw_iload_n C 2 dX0_light_3 rfl 4 rfl ?_
  refine nw_callV C (mX1_light _ C.hfl d ro ad x σ sm p0 p1 H hB hR ok) kX1_light q961 (hR.2.1.1.is C (ci := 0) rfl) (As := [.int p0, .int (b2i p1)]) (rest := [.ref u]) rfl rfl ⟨⟨Nat.le_of_ble_eq_true rfl, Nat.le_of_ble_eq_true rfl⟩, (show 0 + 1 ≤ 1 by omega), (show 0 + 6 ≤ 6 by omega)⟩ (Nat.le_of_ble_eq_true rfl) (fun q8 h8 h9 => Or.inl h9) dX0_light_4 7 rfl ?_ ?_
  rotate_left
  · intro E9 w9 H1 hR2 hz3 hq4
    obtain ⟨⟨k9, hk9, he9⟩, hx9⟩ := hR2
    rcases k9 with _ | k9
    · have hE9 : E9 = cIO := (Option.some.inj (show some cIO = some E9 from he9)).symm
      subst hE9
      refine nw_catch C (name := cIO) [] [] ⟨0, 11, 14, 25⟩ rfl (fun z hz => absurd hz List.not_mem_nil) (by decide) (by decide) q772 q819 14 rfl ?_
      refine nw_astore C [(4, .ref w9), (0, .ref x), (1, .int p0), (2, .int (b2i p1)), (3, .ref u)] dX0_light_14 (by decide) rfl 16 rfl ?_
      refine nw_iconst C (nI 1) dX0_light_16 (by decide) 17 rfl ?_
      have hst : (op_light σ p0 p1).2.2 = σ := op_light_t σ p0 p1 (by rw [hk9]; exact Nat.succ_ne_zero _)
      exact nw_iret C dX0_light_17 (by omega) (by omega) ⟨congrArg (fun z => some (Value.int (nI z))) hk9.symm, by rw [hst]; exact ok, hx9.1, ro, ad, by rw [hst]; exact hR.ext hx9, fun _ _ => rfl, ov, sv, hu.ext hx9.2, fun h9 => absurd (h9.symm.trans hk9) (by decide)⟩
    · cases (show (none : Option String) = some E9 from he9)
  intro v9 H1 hR2 hz3 hq4
  obtain ⟨⟨ho9, rfl⟩, ok9, hz9, ro9, ad9, hR9, hk9⟩ := hR2
  have hu9 := hu.kept (hq4 _ hu.lt hnu)
  have hru9 : ro9 u = 9001 := nw_rt hk9 hru (by decide)
  show nwV X _ _ 5 H1 (0 + 1) (0 + 6) 7 [(0, .ref x), (1, .int p0), (2, .int (b2i p1)), (3, .ref u)] [.int ((op_light σ p0 p1).2.1), .ref u]
  refine nw_wide (k' := 1) (n' := 6) (by omega) (by omega) ?_
  refine nw_i2l C dX0_light_7 8 rfl ?_
  refine nw_putN C hu9 (Or.inr rfl) (T := TX5) (ty0 := tyX5) rfl in_X5 tyX5_ok nmX5 0 (by decide) q640 rfl rfl rfl rfl (Nat.le_of_ble_eq_true rfl) dX0_light_8 11 rfl (fun H5 ho6 hz7 hq8 => ?_)
  have ho6 : nwO d u 12 [.long (Int32.toInt64 ((op_light σ p0 p1).2.1)), sv] H5 := ho6
  have hR8 := hR9.putu hru9 hz7 hq8
  have hz8 : H.size ≤ H5.size := by rw [hz7]; exact hz9
  refine nw_goto C 18 dX0_light_11 (by decide) ?_
  refine nw_iconst C (nI 0) dX0_light_18 (by decide) 19 rfl ?_
  exact nw_iret C dX0_light_19 (by omega) (by omega) ⟨congrArg (fun z => some (Value.int (nI z))) ho9.symm, ok9, hz8, ro9, ad9, hR8, hk9, _, sv, ho6, fun _ => rfl⟩
theorem hX0_light : nwPH yX0_light cX0_light 5 (some .int) [(0, 11, 14, 25)] 4 := ⟨⟨q959, q85, q960⟩, by decide +kernel, by decide +kernel, by decide +kernel⟩
set_option maxHeartbeats 4000000 in
theorem mX0_fog (l : Launch) (hf : l.flags = flags0) (d : nwD) (ro ad : Nat → Nat) (x : Nat) (σ : spSg) (sm : Int64) (p0 : Int32) (p1 : Int32) (u : Nat) (ov : Int64) (sv : Value) (H : Heap) (hB : nd_B d ≤ H.size) (hR : nwWR d ro ad x σ sm H) (ok : spOk σ) (hu : nwO d u 12 [.long ov, sv] H) (hru : ro u = 9001) : nwMtH l d yX0_fog cX0_fog 5 (some .int) [(0, 11, 14, 19), (0, 11, 18, 27)] 8 142 4 40 [.ref x, .int p0, .int p1, .ref u] H (nwWv d ro x u sm (op_fog σ p0 p1) H) nwNo (nwAW ro u H) := by
  refine nw_startH "NightwatchWallLaw" "fog" hf (by decide +kernel) rfl rfl (fun _ h => Or.inl (Or.inr h)) (nwAW_B hR hB hru) (Nat.le_of_ble_eq_true rfl) ?_
  intro X C
  have hE := C.E0
  have hnu : ¬ nwAC ro H u := nwAC_u hru hu.lt
  show nwV X _ _ 5 H 0 0 0 [(0, .ref x), (1, .int p0), (2, .int p1), (3, .ref u)] []
  refine nw_aload_n C 3 dX0_fog_0 rfl 1 rfl ?_
  refine nw_aload_n C 0 dX0_fog_1 rfl 2 rfl ?_
  refine nw_iload_n C 1 dX0_fog_2 rfl 3 rfl ?_
  refine nw_iload_n C 2 dX0_fog_3 rfl 4 rfl ?_
  refine nw_callV C (mX1_fog _ C.hfl d ro ad x σ sm p0 p1 H hB hR ok) kX1_fog q968 (hR.2.1.1.is C (ci := 0) rfl) (As := [.int p0, .int p1]) (rest := [.ref u]) rfl rfl ⟨⟨Nat.le_of_ble_eq_true rfl, Nat.le_of_ble_eq_true rfl⟩, (show 0 + 4 ≤ 4 by omega), (show 0 + 40 ≤ 40 by omega)⟩ (Nat.le_of_ble_eq_true rfl) (fun q8 h8 h9 => Or.inl h9) dX0_fog_4 7 rfl ?_ ?_
  rotate_left
  · intro E9 w9 H1 hR2 hz3 hq4
    obtain ⟨⟨k9, hk9, he9⟩, hx9⟩ := hR2
    rcases k9 with _ | _ | k9
    · have hE9 : E9 = cIA := (Option.some.inj (show some cIA = some E9 from he9)).symm
      subst hE9
      refine nw_catch C (name := cIA) [] [⟨0, 11, 18, 27⟩] ⟨0, 11, 14, 19⟩ rfl (fun z hz => absurd hz List.not_mem_nil) (by decide) (by decide) q650 q660 14 rfl ?_
      refine nw_astore C [(4, .ref w9), (0, .ref x), (1, .int p0), (2, .int p1), (3, .ref u)] dX0_fog_14 (by decide) rfl 16 rfl ?_
      refine nw_iconst C (nI 1) dX0_fog_16 (by decide) 17 rfl ?_
      have hst : (op_fog σ p0 p1).2.2 = σ := op_fog_t σ p0 p1 (by rw [hk9]; exact Nat.succ_ne_zero _)
      exact nw_iret C dX0_fog_17 (by omega) (by omega) ⟨congrArg (fun z => some (Value.int (nI z))) hk9.symm, by rw [hst]; exact ok, hx9.1, ro, ad, by rw [hst]; exact hR.ext hx9, fun _ _ => rfl, ov, sv, hu.ext hx9.2, fun h9 => absurd (h9.symm.trans hk9) (by decide)⟩
    · have hE9 : E9 = cIS := (Option.some.inj (show some cIS = some E9 from he9)).symm
      subst hE9
      refine nw_catch C (name := cIS) [⟨0, 11, 14, 19⟩] [] ⟨0, 11, 18, 27⟩ rfl (fun z hz => by
            simp only [List.mem_cons, List.not_mem_nil, or_false] at hz
            rcases hz with rfl
            · exact Or.inr ⟨by decide, _, q650, C.hE.1.2.2.2.2.2.2.2.2.2.2⟩) (by decide) (by decide) q805 q837 18 rfl ?_
      refine nw_astore C [(4, .ref w9), (0, .ref x), (1, .int p0), (2, .int p1), (3, .ref u)] dX0_fog_18 (by decide) rfl 20 rfl ?_
      refine nw_iconst C (nI 2) dX0_fog_20 (by decide) 21 rfl ?_
      have hst : (op_fog σ p0 p1).2.2 = σ := op_fog_t σ p0 p1 (by rw [hk9]; exact Nat.succ_ne_zero _)
      exact nw_iret C dX0_fog_21 (by omega) (by omega) ⟨congrArg (fun z => some (Value.int (nI z))) hk9.symm, by rw [hst]; exact ok, hx9.1, ro, ad, by rw [hst]; exact hR.ext hx9, fun _ _ => rfl, ov, sv, hu.ext hx9.2, fun h9 => absurd (h9.symm.trans hk9) (by decide)⟩
    · cases (show (none : Option String) = some E9 from he9)
  intro v9 H1 hR2 hz3 hq4
  obtain ⟨⟨ho9, rfl⟩, ok9, hz9, ro9, ad9, hR9, hk9⟩ := hR2
  have hu9 := hu.kept (hq4 _ hu.lt hnu)
  have hru9 : ro9 u = 9001 := nw_rt hk9 hru (by decide)
  show nwV X _ _ 5 H1 (0 + 4) (0 + 40) 7 [(0, .ref x), (1, .int p0), (2, .int p1), (3, .ref u)] [.int ((op_fog σ p0 p1).2.1), .ref u]
  refine nw_wide (k' := 4) (n' := 40) (by omega) (by omega) ?_
  refine nw_i2l C dX0_fog_7 8 rfl ?_
  refine nw_putN C hu9 (Or.inr rfl) (T := TX5) (ty0 := tyX5) rfl in_X5 tyX5_ok nmX5 0 (by decide) q640 rfl rfl rfl rfl (Nat.le_of_ble_eq_true rfl) dX0_fog_8 11 rfl (fun H5 ho6 hz7 hq8 => ?_)
  have ho6 : nwO d u 12 [.long (Int32.toInt64 ((op_fog σ p0 p1).2.1)), sv] H5 := ho6
  have hR8 := hR9.putu hru9 hz7 hq8
  have hz8 : H.size ≤ H5.size := by rw [hz7]; exact hz9
  refine nw_goto C 22 dX0_fog_11 (by decide) ?_
  refine nw_iconst C (nI 0) dX0_fog_22 (by decide) 23 rfl ?_
  exact nw_iret C dX0_fog_23 (by omega) (by omega) ⟨congrArg (fun z => some (Value.int (nI z))) ho9.symm, ok9, hz8, ro9, ad9, hR8, hk9, _, sv, ho6, fun _ => rfl⟩
theorem hX0_fog : nwPH yX0_fog cX0_fog 5 (some .int) [(0, 11, 14, 19), (0, 11, 18, 27)] 4 := ⟨⟨q966, q85, q967⟩, by decide +kernel, by decide +kernel, by decide +kernel⟩
set_option maxHeartbeats 4000000 in
theorem mX0_guard (l : Launch) (hf : l.flags = flags0) (d : nwD) (ro ad : Nat → Nat) (x : Nat) (σ : spSg) (sm : Int64) (p0 : Int32) (p1 : Int32) (p2 : Int32) (p3 : Int32) (u : Nat) (ov : Int64) (sv : Value) (H : Heap) (hB : nd_B d ≤ H.size) (hR : nwWR d ro ad x σ sm H) (ok : spOk σ) (hu : nwO d u 12 [.long ov, sv] H) (hru : ro u = 9001) : nwMtH l d yX0_guard cX0_guard 7 (some .int) [(0, 15, 18, 25), (0, 15, 22, 19), (0, 15, 26, 27)] 9 167 6 60 [.ref x, .int p0, .int p1, .int p2, .int p3, .ref u] H (nwWv d ro x u sm (op_guard σ p0 p1 p2 p3) H) nwNo (nwAW ro u H) := by
  refine nw_startH "NightwatchWallLaw" "guard" hf (by decide +kernel) rfl rfl (fun _ h => Or.inl (Or.inr h)) (nwAW_B hR hB hru) (Nat.le_of_ble_eq_true rfl) ?_
  intro X C
  have hE := C.E0
  have hnu : ¬ nwAC ro H u := nwAC_u hru hu.lt
  show nwV X _ _ 7 H 0 0 0 [(0, .ref x), (1, .int p0), (2, .int p1), (3, .int p2), (4, .int p3), (5, .ref u)] []
  refine nw_aload C 5 dX0_guard_0 rfl 2 rfl ?_
  refine nw_aload_n C 0 dX0_guard_2 rfl 3 rfl ?_
  refine nw_iload_n C 1 dX0_guard_3 rfl 4 rfl ?_
  refine nw_iload_n C 2 dX0_guard_4 rfl 5 rfl ?_
  refine nw_iload_n C 3 dX0_guard_5 rfl 6 rfl ?_
  refine nw_iload C 4 dX0_guard_6 rfl 8 rfl ?_
  refine nw_callV C (mX1_guard _ C.hfl d ro ad x σ sm p0 p1 p2 p3 H hB hR ok) kX1_guard q989 (hR.2.1.1.is C (ci := 0) rfl) (As := [.int p0, .int p1, .int p2, .int p3]) (rest := [.ref u]) rfl rfl ⟨⟨Nat.le_of_ble_eq_true rfl, Nat.le_of_ble_eq_true rfl⟩, (show 0 + 6 ≤ 6 by omega), (show 0 + 60 ≤ 60 by omega)⟩ (Nat.le_of_ble_eq_true rfl) (fun q8 h8 h9 => Or.inl h9) dX0_guard_8 11 rfl ?_ ?_
  rotate_left
  · intro E9 w9 H1 hR2 hz3 hq4
    obtain ⟨⟨k9, hk9, he9⟩, hx9⟩ := hR2
    rcases k9 with _ | _ | _ | k9
    · have hE9 : E9 = cIO := (Option.some.inj (show some cIO = some E9 from he9)).symm
      subst hE9
      refine nw_catch C (name := cIO) [] [⟨0, 15, 22, 19⟩, ⟨0, 15, 26, 27⟩] ⟨0, 15, 18, 25⟩ rfl (fun z hz => absurd hz List.not_mem_nil) (by decide) (by decide) q772 q819 18 rfl ?_
      refine nw_astore C [(6, .ref w9), (0, .ref x), (1, .int p0), (2, .int p1), (3, .int p2), (4, .int p3), (5, .ref u)] dX0_guard_18 (by decide) rfl 20 rfl ?_
      refine nw_iconst C (nI 1) dX0_guard_20 (by decide) 21 rfl ?_
      have hst : (op_guard σ p0 p1 p2 p3).2.2 = σ := op_guard_t σ p0 p1 p2 p3 (by rw [hk9]; exact Nat.succ_ne_zero _)
      exact nw_iret C dX0_guard_21 (by omega) (by omega) ⟨congrArg (fun z => some (Value.int (nI z))) hk9.symm, by rw [hst]; exact ok, hx9.1, ro, ad, by rw [hst]; exact hR.ext hx9, fun _ _ => rfl, ov, sv, hu.ext hx9.2, fun h9 => absurd (h9.symm.trans hk9) (by decide)⟩
    · have hE9 : E9 = cIA := (Option.some.inj (show some cIA = some E9 from he9)).symm
      subst hE9
      refine nw_catch C (name := cIA) [⟨0, 15, 18, 25⟩] [⟨0, 15, 26, 27⟩] ⟨0, 15, 22, 19⟩ rfl (fun z hz => by
            simp only [List.mem_cons, List.not_mem_nil, or_false] at hz
            rcases hz with rfl
            · exact Or.inr ⟨by decide, _, q772, C.hE.1.2.2.2.2.2.2.2.2.1⟩) (by decide) (by decide) q650 q660 22 rfl ?_
      refine nw_astore C [(6, .ref w9), (0, .ref x), (1, .int p0), (2, .int p1), (3, .int p2), (4, .int p3), (5, .ref u)] dX0_guard_22 (by decide) rfl 24 rfl ?_
      refine nw_iconst C (nI 2) dX0_guard_24 (by decide) 25 rfl ?_
      have hst : (op_guard σ p0 p1 p2 p3).2.2 = σ := op_guard_t σ p0 p1 p2 p3 (by rw [hk9]; exact Nat.succ_ne_zero _)
      exact nw_iret C dX0_guard_25 (by omega) (by omega) ⟨congrArg (fun z => some (Value.int (nI z))) hk9.symm, by rw [hst]; exact ok, hx9.1, ro, ad, by rw [hst]; exact hR.ext hx9, fun _ _ => rfl, ov, sv, hu.ext hx9.2, fun h9 => absurd (h9.symm.trans hk9) (by decide)⟩
    · have hE9 : E9 = cIS := (Option.some.inj (show some cIS = some E9 from he9)).symm
      subst hE9
      refine nw_catch C (name := cIS) [⟨0, 15, 18, 25⟩, ⟨0, 15, 22, 19⟩] [] ⟨0, 15, 26, 27⟩ rfl (fun z hz => by
            simp only [List.mem_cons, List.not_mem_nil, or_false] at hz
            rcases hz with rfl | rfl
            · exact Or.inr ⟨by decide, _, q772, C.hE.1.2.2.2.2.2.2.2.2.2.1⟩
            · exact Or.inr ⟨by decide, _, q650, C.hE.1.2.2.2.2.2.2.2.2.2.2⟩) (by decide) (by decide) q805 q837 26 rfl ?_
      refine nw_astore C [(6, .ref w9), (0, .ref x), (1, .int p0), (2, .int p1), (3, .int p2), (4, .int p3), (5, .ref u)] dX0_guard_26 (by decide) rfl 28 rfl ?_
      refine nw_iconst C (nI 3) dX0_guard_28 (by decide) 29 rfl ?_
      have hst : (op_guard σ p0 p1 p2 p3).2.2 = σ := op_guard_t σ p0 p1 p2 p3 (by rw [hk9]; exact Nat.succ_ne_zero _)
      exact nw_iret C dX0_guard_29 (by omega) (by omega) ⟨congrArg (fun z => some (Value.int (nI z))) hk9.symm, by rw [hst]; exact ok, hx9.1, ro, ad, by rw [hst]; exact hR.ext hx9, fun _ _ => rfl, ov, sv, hu.ext hx9.2, fun h9 => absurd (h9.symm.trans hk9) (by decide)⟩
    · cases (show (none : Option String) = some E9 from he9)
  intro v9 H1 hR2 hz3 hq4
  obtain ⟨⟨ho9, rfl⟩, ok9, hz9, ro9, ad9, hR9, hk9⟩ := hR2
  have hu9 := hu.kept (hq4 _ hu.lt hnu)
  have hru9 : ro9 u = 9001 := nw_rt hk9 hru (by decide)
  show nwV X _ _ 7 H1 (0 + 6) (0 + 60) 11 [(0, .ref x), (1, .int p0), (2, .int p1), (3, .int p2), (4, .int p3), (5, .ref u)] [.int ((op_guard σ p0 p1 p2 p3).2.1), .ref u]
  refine nw_wide (k' := 6) (n' := 60) (by omega) (by omega) ?_
  refine nw_i2l C dX0_guard_11 12 rfl ?_
  refine nw_putN C hu9 (Or.inr rfl) (T := TX5) (ty0 := tyX5) rfl in_X5 tyX5_ok nmX5 0 (by decide) q640 rfl rfl rfl rfl (Nat.le_of_ble_eq_true rfl) dX0_guard_12 15 rfl (fun H5 ho6 hz7 hq8 => ?_)
  have ho6 : nwO d u 12 [.long (Int32.toInt64 ((op_guard σ p0 p1 p2 p3).2.1)), sv] H5 := ho6
  have hR8 := hR9.putu hru9 hz7 hq8
  have hz8 : H.size ≤ H5.size := by rw [hz7]; exact hz9
  refine nw_goto C 30 dX0_guard_15 (by decide) ?_
  refine nw_iconst C (nI 0) dX0_guard_30 (by decide) 31 rfl ?_
  exact nw_iret C dX0_guard_31 (by omega) (by omega) ⟨congrArg (fun z => some (Value.int (nI z))) ho9.symm, ok9, hz8, ro9, ad9, hR8, hk9, _, sv, ho6, fun _ => rfl⟩
theorem hX0_guard : nwPH yX0_guard cX0_guard 7 (some .int) [(0, 15, 18, 25), (0, 15, 22, 19), (0, 15, 26, 27)] 6 := ⟨⟨q987, q85, q988⟩, by decide +kernel, by decide +kernel, by decide +kernel⟩
set_option maxHeartbeats 4000000 in
theorem mX0_round (l : Launch) (hf : l.flags = flags0) (d : nwD) (ro ad : Nat → Nat) (x : Nat) (σ : spSg) (sm : Int64) (p0 : Int32) (p1 : Int32) (u : Nat) (ov : Int64) (sv : Value) (H : Heap) (hB : nd_B d ≤ H.size) (hR : nwWR d ro ad x σ sm H) (ok : spOk σ) (hu : nwO d u 12 [.long ov, sv] H) (hru : ro u = 9001) : nwMtH l d yX0_round cX0_round 5 (some .int) [(0, 11, 14, 25), (0, 11, 18, 27)] 9 166 4 40 [.ref x, .int p0, .int p1, .ref u] H (nwWv d ro x u sm (op_round σ p0 p1) H) nwNo (nwAW ro u H) := by
  refine nw_startH "NightwatchWallLaw" "round" hf (by decide +kernel) rfl rfl (fun _ h => Or.inl (Or.inr h)) (nwAW_B hR hB hru) (Nat.le_of_ble_eq_true rfl) ?_
  intro X C
  have hE := C.E0
  have hnu : ¬ nwAC ro H u := nwAC_u hru hu.lt
  show nwV X _ _ 5 H 0 0 0 [(0, .ref x), (1, .int p0), (2, .int p1), (3, .ref u)] []
  refine nw_aload_n C 3 dX0_round_0 rfl 1 rfl ?_
  refine nw_aload_n C 0 dX0_round_1 rfl 2 rfl ?_
  refine nw_iload_n C 1 dX0_round_2 rfl 3 rfl ?_
  refine nw_iload_n C 2 dX0_round_3 rfl 4 rfl ?_
  refine nw_callV C (mX1_round _ C.hfl d ro ad x σ sm p0 p1 H hB hR ok) kX1_round q1049 (hR.2.1.1.is C (ci := 0) rfl) (As := [.int p0, .int p1]) (rest := [.ref u]) rfl rfl ⟨⟨Nat.le_of_ble_eq_true rfl, Nat.le_of_ble_eq_true rfl⟩, (show 0 + 4 ≤ 4 by omega), (show 0 + 40 ≤ 40 by omega)⟩ (Nat.le_of_ble_eq_true rfl) (fun q8 h8 h9 => Or.inl h9) dX0_round_4 7 rfl ?_ ?_
  rotate_left
  · intro E9 w9 H1 hR2 hz3 hq4
    obtain ⟨⟨k9, hk9, he9⟩, hx9⟩ := hR2
    rcases k9 with _ | _ | k9
    · have hE9 : E9 = cIO := (Option.some.inj (show some cIO = some E9 from he9)).symm
      subst hE9
      refine nw_catch C (name := cIO) [] [⟨0, 11, 18, 27⟩] ⟨0, 11, 14, 25⟩ rfl (fun z hz => absurd hz List.not_mem_nil) (by decide) (by decide) q772 q819 14 rfl ?_
      refine nw_astore C [(4, .ref w9), (0, .ref x), (1, .int p0), (2, .int p1), (3, .ref u)] dX0_round_14 (by decide) rfl 16 rfl ?_
      refine nw_iconst C (nI 1) dX0_round_16 (by decide) 17 rfl ?_
      have hst : (op_round σ p0 p1).2.2 = σ := op_round_t σ p0 p1 (by rw [hk9]; exact Nat.succ_ne_zero _)
      exact nw_iret C dX0_round_17 (by omega) (by omega) ⟨congrArg (fun z => some (Value.int (nI z))) hk9.symm, by rw [hst]; exact ok, hx9.1, ro, ad, by rw [hst]; exact hR.ext hx9, fun _ _ => rfl, ov, sv, hu.ext hx9.2, fun h9 => absurd (h9.symm.trans hk9) (by decide)⟩
    · have hE9 : E9 = cIS := (Option.some.inj (show some cIS = some E9 from he9)).symm
      subst hE9
      refine nw_catch C (name := cIS) [⟨0, 11, 14, 25⟩] [] ⟨0, 11, 18, 27⟩ rfl (fun z hz => by
            simp only [List.mem_cons, List.not_mem_nil, or_false] at hz
            rcases hz with rfl
            · exact Or.inr ⟨by decide, _, q772, C.hE.1.2.2.2.2.2.2.2.2.2.1⟩) (by decide) (by decide) q805 q837 18 rfl ?_
      refine nw_astore C [(4, .ref w9), (0, .ref x), (1, .int p0), (2, .int p1), (3, .ref u)] dX0_round_18 (by decide) rfl 20 rfl ?_
      refine nw_iconst C (nI 2) dX0_round_20 (by decide) 21 rfl ?_
      have hst : (op_round σ p0 p1).2.2 = σ := op_round_t σ p0 p1 (by rw [hk9]; exact Nat.succ_ne_zero _)
      exact nw_iret C dX0_round_21 (by omega) (by omega) ⟨congrArg (fun z => some (Value.int (nI z))) hk9.symm, by rw [hst]; exact ok, hx9.1, ro, ad, by rw [hst]; exact hR.ext hx9, fun _ _ => rfl, ov, sv, hu.ext hx9.2, fun h9 => absurd (h9.symm.trans hk9) (by decide)⟩
    · cases (show (none : Option String) = some E9 from he9)
  intro v9 H1 hR2 hz3 hq4
  obtain ⟨⟨ho9, rfl⟩, ok9, hz9, ro9, ad9, hR9, hk9⟩ := hR2
  have hu9 := hu.kept (hq4 _ hu.lt hnu)
  have hru9 : ro9 u = 9001 := nw_rt hk9 hru (by decide)
  show nwV X _ _ 5 H1 (0 + 4) (0 + 40) 7 [(0, .ref x), (1, .int p0), (2, .int p1), (3, .ref u)] [.int ((op_round σ p0 p1).2.1), .ref u]
  refine nw_wide (k' := 4) (n' := 40) (by omega) (by omega) ?_
  refine nw_i2l C dX0_round_7 8 rfl ?_
  refine nw_putN C hu9 (Or.inr rfl) (T := TX5) (ty0 := tyX5) rfl in_X5 tyX5_ok nmX5 0 (by decide) q640 rfl rfl rfl rfl (Nat.le_of_ble_eq_true rfl) dX0_round_8 11 rfl (fun H5 ho6 hz7 hq8 => ?_)
  have ho6 : nwO d u 12 [.long (Int32.toInt64 ((op_round σ p0 p1).2.1)), sv] H5 := ho6
  have hR8 := hR9.putu hru9 hz7 hq8
  have hz8 : H.size ≤ H5.size := by rw [hz7]; exact hz9
  refine nw_goto C 22 dX0_round_11 (by decide) ?_
  refine nw_iconst C (nI 0) dX0_round_22 (by decide) 23 rfl ?_
  exact nw_iret C dX0_round_23 (by omega) (by omega) ⟨congrArg (fun z => some (Value.int (nI z))) ho9.symm, ok9, hz8, ro9, ad9, hR8, hk9, _, sv, ho6, fun _ => rfl⟩
theorem hX0_round : nwPH yX0_round cX0_round 5 (some .int) [(0, 11, 14, 25), (0, 11, 18, 27)] 4 := ⟨⟨q1047, q85, q1048⟩, by decide +kernel, by decide +kernel, by decide +kernel⟩
set_option maxHeartbeats 4000000 in
theorem mX0_post (l : Launch) (hf : l.flags = flags0) (d : nwD) (ro ad : Nat → Nat) (x : Nat) (σ : spSg) (sm : Int64) (p0 : Int32) (u : Nat) (ov : Int64) (sv : Value) (H : Heap) (hB : nd_B d ≤ H.size) (hR : nwWR d ro ad x σ sm H) (ok : spOk σ) (hu : nwO d u 12 [.long ov, sv] H) (hru : ro u = 9001) : nwMtH l d yX0_post cX0_post 4 (some .int) [(0, 10, 13, 25), (0, 10, 16, 27)] 9 164 3 30 [.ref x, .int p0, .ref u] H (nwWv d ro x u sm (op_post σ p0) H) nwNo (nwAW ro u H) := by
  refine nw_startH "NightwatchWallLaw" "post" hf (by decide +kernel) rfl rfl (fun _ h => Or.inl (Or.inr h)) (nwAW_B hR hB hru) (Nat.le_of_ble_eq_true rfl) ?_
  intro X C
  have hE := C.E0
  have hnu : ¬ nwAC ro H u := nwAC_u hru hu.lt
  show nwV X _ _ 4 H 0 0 0 [(0, .ref x), (1, .int p0), (2, .ref u)] []
  refine nw_aload_n C 2 dX0_post_0 rfl 1 rfl ?_
  refine nw_aload_n C 0 dX0_post_1 rfl 2 rfl ?_
  refine nw_iload_n C 1 dX0_post_2 rfl 3 rfl ?_
  refine nw_callV C (mX1_post _ C.hfl d ro ad x σ sm p0 H hB hR ok) kX1_post q1061 (hR.2.1.1.is C (ci := 0) rfl) (As := [.int p0]) (rest := [.ref u]) rfl rfl ⟨⟨Nat.le_of_ble_eq_true rfl, Nat.le_of_ble_eq_true rfl⟩, (show 0 + 3 ≤ 3 by omega), (show 0 + 30 ≤ 30 by omega)⟩ (Nat.le_of_ble_eq_true rfl) (fun q8 h8 h9 => Or.inl h9) dX0_post_3 6 rfl ?_ ?_
  rotate_left
  · intro E9 w9 H1 hR2 hz3 hq4
    obtain ⟨⟨k9, hk9, he9⟩, hx9⟩ := hR2
    rcases k9 with _ | _ | k9
    · have hE9 : E9 = cIO := (Option.some.inj (show some cIO = some E9 from he9)).symm
      subst hE9
      refine nw_catch C (name := cIO) [] [⟨0, 10, 16, 27⟩] ⟨0, 10, 13, 25⟩ rfl (fun z hz => absurd hz List.not_mem_nil) (by decide) (by decide) q772 q819 13 rfl ?_
      refine nw_astore_n C [(3, .ref w9), (0, .ref x), (1, .int p0), (2, .ref u)] dX0_post_13 (by decide) rfl 14 rfl ?_
      refine nw_iconst C (nI 1) dX0_post_14 (by decide) 15 rfl ?_
      have hst : (op_post σ p0).2.2 = σ := op_post_t σ p0 (by rw [hk9]; exact Nat.succ_ne_zero _)
      exact nw_iret C dX0_post_15 (by omega) (by omega) ⟨congrArg (fun z => some (Value.int (nI z))) hk9.symm, by rw [hst]; exact ok, hx9.1, ro, ad, by rw [hst]; exact hR.ext hx9, fun _ _ => rfl, ov, sv, hu.ext hx9.2, fun h9 => absurd (h9.symm.trans hk9) (by decide)⟩
    · have hE9 : E9 = cIS := (Option.some.inj (show some cIS = some E9 from he9)).symm
      subst hE9
      refine nw_catch C (name := cIS) [⟨0, 10, 13, 25⟩] [] ⟨0, 10, 16, 27⟩ rfl (fun z hz => by
            simp only [List.mem_cons, List.not_mem_nil, or_false] at hz
            rcases hz with rfl
            · exact Or.inr ⟨by decide, _, q772, C.hE.1.2.2.2.2.2.2.2.2.2.1⟩) (by decide) (by decide) q805 q837 16 rfl ?_
      refine nw_astore_n C [(3, .ref w9), (0, .ref x), (1, .int p0), (2, .ref u)] dX0_post_16 (by decide) rfl 17 rfl ?_
      refine nw_iconst C (nI 2) dX0_post_17 (by decide) 18 rfl ?_
      have hst : (op_post σ p0).2.2 = σ := op_post_t σ p0 (by rw [hk9]; exact Nat.succ_ne_zero _)
      exact nw_iret C dX0_post_18 (by omega) (by omega) ⟨congrArg (fun z => some (Value.int (nI z))) hk9.symm, by rw [hst]; exact ok, hx9.1, ro, ad, by rw [hst]; exact hR.ext hx9, fun _ _ => rfl, ov, sv, hu.ext hx9.2, fun h9 => absurd (h9.symm.trans hk9) (by decide)⟩
    · cases (show (none : Option String) = some E9 from he9)
  intro v9 H1 hR2 hz3 hq4
  obtain ⟨⟨ho9, rfl⟩, ok9, hz9, ro9, ad9, hR9, hk9⟩ := hR2
  have hu9 := hu.kept (hq4 _ hu.lt hnu)
  have hru9 : ro9 u = 9001 := nw_rt hk9 hru (by decide)
  show nwV X _ _ 4 H1 (0 + 3) (0 + 30) 6 [(0, .ref x), (1, .int p0), (2, .ref u)] [.int ((op_post σ p0).2.1), .ref u]
  refine nw_wide (k' := 3) (n' := 30) (by omega) (by omega) ?_
  refine nw_i2l C dX0_post_6 7 rfl ?_
  refine nw_putN C hu9 (Or.inr rfl) (T := TX5) (ty0 := tyX5) rfl in_X5 tyX5_ok nmX5 0 (by decide) q640 rfl rfl rfl rfl (Nat.le_of_ble_eq_true rfl) dX0_post_7 10 rfl (fun H5 ho6 hz7 hq8 => ?_)
  have ho6 : nwO d u 12 [.long (Int32.toInt64 ((op_post σ p0).2.1)), sv] H5 := ho6
  have hR8 := hR9.putu hru9 hz7 hq8
  have hz8 : H.size ≤ H5.size := by rw [hz7]; exact hz9
  refine nw_goto C 19 dX0_post_10 (by decide) ?_
  refine nw_iconst C (nI 0) dX0_post_19 (by decide) 20 rfl ?_
  exact nw_iret C dX0_post_20 (by omega) (by omega) ⟨congrArg (fun z => some (Value.int (nI z))) ho9.symm, ok9, hz8, ro9, ad9, hR8, hk9, _, sv, ho6, fun _ => rfl⟩
theorem hX0_post : nwPH yX0_post cX0_post 4 (some .int) [(0, 10, 13, 25), (0, 10, 16, 27)] 3 := ⟨⟨q1059, q85, q1060⟩, by decide +kernel, by decide +kernel, by decide +kernel⟩
set_option maxHeartbeats 4000000 in
theorem mX0_place (l : Launch) (hf : l.flags = flags0) (d : nwD) (ro ad : Nat → Nat) (x : Nat) (σ : spSg) (sm : Int64) (p0 : Int32) (p1 : Int32) (u : Nat) (ov : Int64) (sv : Value) (H : Heap) (hB : nd_B d ≤ H.size) (hR : nwWR d ro ad x σ sm H) (ok : spOk σ) (hu : nwO d u 12 [.long ov, sv] H) (hru : ro u = 9001) : nwMtH l d yX0_place cX0_place 5 (some .int) [(0, 11, 14, 25), (0, 11, 18, 19)] 9 165 2 12 [.ref x, .int p0, .int p1, .ref u] H (nwWv d ro x u sm ((op_place σ p0 p1).1, (op_place σ p0 p1).2, σ) H) nwNo (nwAW ro u H) := by
  refine nw_startH "NightwatchWallLaw" "place" hf (by decide +kernel) rfl rfl (fun _ h => Or.inl (Or.inr h)) (nwAW_B hR hB hru) (Nat.le_of_ble_eq_true rfl) ?_
  intro X C
  have hE := C.E0
  have hnu : ¬ nwAC ro H u := nwAC_u hru hu.lt
  show nwV X _ _ 5 H 0 0 0 [(0, .ref x), (1, .int p0), (2, .int p1), (3, .ref u)] []
  refine nw_aload_n C 3 dX0_place_0 rfl 1 rfl ?_
  refine nw_aload_n C 0 dX0_place_1 rfl 2 rfl ?_
  refine nw_iload_n C 1 dX0_place_2 rfl 3 rfl ?_
  refine nw_iload_n C 2 dX0_place_3 rfl 4 rfl ?_
  refine nw_callV C (mX1_place _ C.hfl d ro ad x σ sm p0 p1 H hB hR.wc ok) kX1_place q1068 (hR.2.1.1.is C (ci := 0) rfl) (As := [.int p0, .int p1]) (rest := [.ref u]) rfl rfl ⟨⟨Nat.le_of_ble_eq_true rfl, Nat.le_of_ble_eq_true rfl⟩, (show 0 + 2 ≤ 2 by omega), (show 0 + 12 ≤ 12 by omega)⟩ (Nat.le_of_ble_eq_true rfl) (fun q8 h8 h9 => absurd h8 (Nat.not_lt.mpr h9)) dX0_place_4 7 rfl ?_ ?_
  rotate_left
  · intro E9 w9 H1 hR2 hz3 hq4
    obtain ⟨⟨k9, hk9, he9⟩, hx9⟩ := hR2
    rcases k9 with _ | _ | k9
    · have hE9 : E9 = cIO := (Option.some.inj (show some cIO = some E9 from he9)).symm
      subst hE9
      refine nw_catch C (name := cIO) [] [⟨0, 11, 18, 19⟩] ⟨0, 11, 14, 25⟩ rfl (fun z hz => absurd hz List.not_mem_nil) (by decide) (by decide) q772 q819 14 rfl ?_
      refine nw_astore C [(4, .ref w9), (0, .ref x), (1, .int p0), (2, .int p1), (3, .ref u)] dX0_place_14 (by decide) rfl 16 rfl ?_
      refine nw_iconst C (nI 1) dX0_place_16 (by decide) 17 rfl ?_
      exact nw_iret C dX0_place_17 (by omega) (by omega) ⟨congrArg (fun z => some (Value.int (nI z))) hk9.symm, ok, hx9.1, ro, ad, hR.ext hx9, fun _ _ => rfl, ov, sv, hu.ext hx9.2, fun h9 => absurd (h9.symm.trans hk9) (by decide)⟩
    · have hE9 : E9 = cIA := (Option.some.inj (show some cIA = some E9 from he9)).symm
      subst hE9
      refine nw_catch C (name := cIA) [⟨0, 11, 14, 25⟩] [] ⟨0, 11, 18, 19⟩ rfl (fun z hz => by
            simp only [List.mem_cons, List.not_mem_nil, or_false] at hz
            rcases hz with rfl
            · exact Or.inr ⟨by decide, _, q772, C.hE.1.2.2.2.2.2.2.2.2.1⟩) (by decide) (by decide) q650 q660 18 rfl ?_
      refine nw_astore C [(4, .ref w9), (0, .ref x), (1, .int p0), (2, .int p1), (3, .ref u)] dX0_place_18 (by decide) rfl 20 rfl ?_
      refine nw_iconst C (nI 2) dX0_place_20 (by decide) 21 rfl ?_
      exact nw_iret C dX0_place_21 (by omega) (by omega) ⟨congrArg (fun z => some (Value.int (nI z))) hk9.symm, ok, hx9.1, ro, ad, hR.ext hx9, fun _ _ => rfl, ov, sv, hu.ext hx9.2, fun h9 => absurd (h9.symm.trans hk9) (by decide)⟩
    · cases (show (none : Option String) = some E9 from he9)
  intro v9 H1 hR2 hz3 hq4
  obtain ⟨⟨ho9, rfl⟩, hx9⟩ := hR2
  have hR9 := hR.ext hx9
  have hz9 := hx9.1
  have hu9 := hu.ext hx9.2
  have hru9 := hru
  show nwV X _ _ 5 H1 (0 + 2) (0 + 12) 7 [(0, .ref x), (1, .int p0), (2, .int p1), (3, .ref u)] [.int ((op_place σ p0 p1).2), .ref u]
  refine nw_wide (k' := 2) (n' := 12) (by omega) (by omega) ?_
  refine nw_i2l C dX0_place_7 8 rfl ?_
  refine nw_putN C hu9 (Or.inr rfl) (T := TX5) (ty0 := tyX5) rfl in_X5 tyX5_ok nmX5 0 (by decide) q640 rfl rfl rfl rfl (Nat.le_of_ble_eq_true rfl) dX0_place_8 11 rfl (fun H5 ho6 hz7 hq8 => ?_)
  have ho6 : nwO d u 12 [.long (Int32.toInt64 ((op_place σ p0 p1).2)), sv] H5 := ho6
  have hR8 := hR9.putu hru9 hz7 hq8
  have hz8 : H.size ≤ H5.size := by rw [hz7]; exact hz9
  refine nw_goto C 22 dX0_place_11 (by decide) ?_
  refine nw_iconst C (nI 0) dX0_place_22 (by decide) 23 rfl ?_
  exact nw_iret C dX0_place_23 (by omega) (by omega) ⟨congrArg (fun z => some (Value.int (nI z))) ho9.symm, ok, hz8, ro, ad, hR8, fun _ _ => rfl, _, sv, ho6, fun _ => rfl⟩
theorem hX0_place : nwPH yX0_place cX0_place 5 (some .int) [(0, 11, 14, 25), (0, 11, 18, 19)] 4 := ⟨⟨q1066, q85, q1067⟩, by decide +kernel, by decide +kernel, by decide +kernel⟩
set_option maxHeartbeats 4000000 in
theorem mX0_sees (l : Launch) (hf : l.flags = flags0) (d : nwD) (ro ad : Nat → Nat) (x : Nat) (σ : spSg) (sm : Int64) (p0 : Int32) (p1 : Int32) (p2 : Int32) (u : Nat) (ov : Int64) (sv : Value) (H : Heap) (hB : nd_B d ≤ H.size) (hR : nwWR d ro ad x σ sm H) (ok : spOk σ) (hu : nwO d u 12 [.long ov, sv] H) (hru : ro u = 9001) : nwMtH l d yX0_sees cX0_sees 6 (some .int) [(0, 20, 23, 25), (0, 20, 27, 19)] 9 184 3 18 [.ref x, .int p0, .int p1, .int p2, .ref u] H (nwWv d ro x u sm ((op_sees σ p0 p1 p2).1, (op_sees σ p0 p1 p2).2, σ) H) nwNo (nwAW ro u H) := by
  refine nw_startH "NightwatchWallLaw" "sees" hf (by decide +kernel) rfl rfl (fun _ h => Or.inl (Or.inr h)) (nwAW_B hR hB hru) (Nat.le_of_ble_eq_true rfl) ?_
  intro X C
  have hE := C.E0
  have hnu : ¬ nwAC ro H u := nwAC_u hru hu.lt
  show nwV X _ _ 6 H 0 0 0 [(0, .ref x), (1, .int p0), (2, .int p1), (3, .int p2), (4, .ref u)] []
  refine nw_aload C 4 dX0_sees_0 rfl 2 rfl ?_
  refine nw_aload_n C 0 dX0_sees_2 rfl 3 rfl ?_
  refine nw_iload_n C 1 dX0_sees_3 rfl 4 rfl ?_
  refine nw_iload_n C 2 dX0_sees_4 rfl 5 rfl ?_
  refine nw_iload_n C 3 dX0_sees_5 rfl 6 rfl ?_
  refine nw_callV C (mX1_sees_2 _ C.hfl d ro ad x σ sm p0 p1 p2 H hB hR.wc ok) kX1_sees_2 q1078 (hR.2.1.1.is C (ci := 0) rfl) (As := [.int p0, .int p1, .int p2]) (rest := [.ref u]) rfl rfl ⟨⟨Nat.le_of_ble_eq_true rfl, Nat.le_of_ble_eq_true rfl⟩, (show 0 + 3 ≤ 3 by omega), (show 0 + 18 ≤ 18 by omega)⟩ (Nat.le_of_ble_eq_true rfl) (fun q8 h8 h9 => absurd h8 (Nat.not_lt.mpr h9)) dX0_sees_6 9 rfl ?_ ?_
  rotate_left
  · intro E9 w9 H1 hR2 hz3 hq4
    obtain ⟨⟨k9, hk9, he9⟩, hx9⟩ := hR2
    rcases k9 with _ | _ | k9
    · have hE9 : E9 = cIO := (Option.some.inj (show some cIO = some E9 from he9)).symm
      subst hE9
      refine nw_catch C (name := cIO) [] [⟨0, 20, 27, 19⟩] ⟨0, 20, 23, 25⟩ rfl (fun z hz => absurd hz List.not_mem_nil) (by decide) (by decide) q772 q819 23 rfl ?_
      refine nw_astore C [(5, .ref w9), (0, .ref x), (1, .int p0), (2, .int p1), (3, .int p2), (4, .ref u)] dX0_sees_23 (by decide) rfl 25 rfl ?_
      refine nw_iconst C (nI 1) dX0_sees_25 (by decide) 26 rfl ?_
      exact nw_iret C dX0_sees_26 (by omega) (by omega) ⟨congrArg (fun z => some (Value.int (nI z))) hk9.symm, ok, hx9.1, ro, ad, hR.ext hx9, fun _ _ => rfl, ov, sv, hu.ext hx9.2, fun h9 => absurd (h9.symm.trans hk9) (by decide)⟩
    · have hE9 : E9 = cIA := (Option.some.inj (show some cIA = some E9 from he9)).symm
      subst hE9
      refine nw_catch C (name := cIA) [⟨0, 20, 23, 25⟩] [] ⟨0, 20, 27, 19⟩ rfl (fun z hz => by
            simp only [List.mem_cons, List.not_mem_nil, or_false] at hz
            rcases hz with rfl
            · exact Or.inr ⟨by decide, _, q772, C.hE.1.2.2.2.2.2.2.2.2.1⟩) (by decide) (by decide) q650 q660 27 rfl ?_
      refine nw_astore C [(5, .ref w9), (0, .ref x), (1, .int p0), (2, .int p1), (3, .int p2), (4, .ref u)] dX0_sees_27 (by decide) rfl 29 rfl ?_
      refine nw_iconst C (nI 2) dX0_sees_29 (by decide) 30 rfl ?_
      exact nw_iret C dX0_sees_30 (by omega) (by omega) ⟨congrArg (fun z => some (Value.int (nI z))) hk9.symm, ok, hx9.1, ro, ad, hR.ext hx9, fun _ _ => rfl, ov, sv, hu.ext hx9.2, fun h9 => absurd (h9.symm.trans hk9) (by decide)⟩
    · cases (show (none : Option String) = some E9 from he9)
  intro v9 H1 hR2 hz3 hq4
  obtain ⟨⟨ho9, rfl⟩, hx9⟩ := hR2
  have hR9 := hR.ext hx9
  have hz9 := hx9.1
  have hu9 := hu.ext hx9.2
  have hru9 := hru
  show nwV X _ _ 6 H1 (0 + 3) (0 + 18) 9 [(0, .ref x), (1, .int p0), (2, .int p1), (3, .int p2), (4, .ref u)] [.int ((op_sees σ p0 p1 p2).2), .ref u]
  refine nw_wide (k' := 3) (n' := 18) (by omega) (by omega) ?_
  refine nw_ifeq C 16 dX0_sees_9 (by decide) 12 rfl (fun h5 => ?_) (fun h5 => ?_)
  · refine nw_lconst C 0 dX0_sees_16 rfl 17 rfl ?_
    refine nw_putN C hu9 (Or.inr rfl) (T := TX5) (ty0 := tyX5) rfl in_X5 tyX5_ok nmX5 0 (by decide) q640 rfl rfl rfl rfl (Nat.le_of_ble_eq_true rfl) dX0_sees_17 20 rfl (fun H6 ho7 hz8 hq9 => ?_)
    have ho7 : nwO d u 12 [.long 0, sv] H6 := ho7
    have hR8 := hR9.putu hru9 hz8 hq9
    have hz8 : H.size ≤ H6.size := by rw [hz8]; exact hz9
    refine nw_goto C 31 dX0_sees_20 (by decide) ?_
    refine nw_iconst C (nI 0) dX0_sees_31 (by decide) 32 rfl ?_
    exact nw_iret C dX0_sees_32 (by omega) (by omega) ⟨congrArg (fun z => some (Value.int (nI z))) ho9.symm, ok, hz8, ro, ad, hR8, fun _ _ => rfl, _, sv, ho7, fun _ => (by show (0 : Int64) = Int32.toInt64 (op_sees σ p0 p1 p2).2; rw [h5]; rfl)⟩
  · refine nw_lconst C 1 dX0_sees_12 rfl 13 rfl ?_
    refine nw_goto C 17 dX0_sees_13 (by decide) ?_
    refine nw_putN C hu9 (Or.inr rfl) (T := TX5) (ty0 := tyX5) rfl in_X5 tyX5_ok nmX5 0 (by decide) q640 rfl rfl rfl rfl (Nat.le_of_ble_eq_true rfl) dX0_sees_17 20 rfl (fun H10 ho11 hz12 hq13 => ?_)
    have ho11 : nwO d u 12 [.long 1, sv] H10 := ho11
    have hR8 := hR9.putu hru9 hz12 hq13
    have hz8 : H.size ≤ H10.size := by rw [hz12]; exact hz9
    refine nw_goto C 31 dX0_sees_20 (by decide) ?_
    refine nw_iconst C (nI 0) dX0_sees_31 (by decide) 32 rfl ?_
    exact nw_iret C dX0_sees_32 (by omega) (by omega) ⟨congrArg (fun z => some (Value.int (nI z))) ho9.symm, ok, hz8, ro, ad, hR8, fun _ _ => rfl, _, sv, ho11, fun _ => (by show (1 : Int64) = Int32.toInt64 (op_sees σ p0 p1 p2).2; rw [(op_sees_b σ p0 p1 p2).resolve_left h5]; rfl)⟩
theorem hX0_sees : nwPH yX0_sees cX0_sees 6 (some .int) [(0, 20, 23, 25), (0, 20, 27, 19)] 5 := ⟨⟨q1076, q85, q1077⟩, by decide +kernel, by decide +kernel, by decide +kernel⟩
set_option maxHeartbeats 4000000 in
theorem mX0_ofCell (l : Launch) (hf : l.flags = flags0) (d : nwD) (ro ad : Nat → Nat) (x : Nat) (σ : spSg) (sm : Int64) (p0 : Int32) (p1 : Int32) (p2 : Int32) (u : Nat) (ov : Int64) (sv : Value) (H : Heap) (hB : nd_B d ≤ H.size) (hR : nwWR d ro ad x σ sm H) (ok : spOk σ) (hu : nwO d u 12 [.long ov, sv] H) (hru : ro u = 9001) : nwMtH l d yX0_ofCell cX0_ofCell 6 (some .int) [(0, 13, 16, 25), (0, 13, 20, 19)] 9 206 2 12 [.ref x, .int p0, .int p1, .int p2, .ref u] H (nwWv d ro x u sm ((op_ofCell σ p0 p1 p2).1, (op_ofCell σ p0 p1 p2).2, σ) H) nwNo (nwAW ro u H) := by
  refine nw_startH "NightwatchWallLaw" "ofCell" hf (by decide +kernel) rfl rfl (fun _ h => Or.inl (Or.inr h)) (nwAW_B hR hB hru) (Nat.le_of_ble_eq_true rfl) ?_
  intro X C
  have hE := C.E0
  have hnu : ¬ nwAC ro H u := nwAC_u hru hu.lt
  show nwV X _ _ 6 H 0 0 0 [(0, .ref x), (1, .int p0), (2, .int p1), (3, .int p2), (4, .ref u)] []
  refine nw_aload C 4 dX0_ofCell_0 rfl 2 rfl ?_
  refine nw_aload_n C 0 dX0_ofCell_2 rfl 3 rfl ?_
  refine nw_iload_n C 1 dX0_ofCell_3 rfl 4 rfl ?_
  refine nw_iload_n C 2 dX0_ofCell_4 rfl 5 rfl ?_
  refine nw_iload_n C 3 dX0_ofCell_5 rfl 6 rfl ?_
  refine nw_callV C (mX1_ofCell _ C.hfl d ro ad x σ sm p0 p1 p2 H hB hR.wc ok) kX1_ofCell q1085 (hR.2.1.1.is C (ci := 0) rfl) (As := [.int p0, .int p1, .int p2]) (rest := [.ref u]) rfl rfl ⟨⟨Nat.le_of_ble_eq_true rfl, Nat.le_of_ble_eq_true rfl⟩, (show 0 + 2 ≤ 2 by omega), (show 0 + 12 ≤ 12 by omega)⟩ (Nat.le_of_ble_eq_true rfl) (fun q8 h8 h9 => absurd h8 (Nat.not_lt.mpr h9)) dX0_ofCell_6 9 rfl ?_ ?_
  rotate_left
  · intro E9 w9 H1 hR2 hz3 hq4
    obtain ⟨⟨k9, hk9, he9⟩, hx9⟩ := hR2
    rcases k9 with _ | _ | k9
    · have hE9 : E9 = cIO := (Option.some.inj (show some cIO = some E9 from he9)).symm
      subst hE9
      refine nw_catch C (name := cIO) [] [⟨0, 13, 20, 19⟩] ⟨0, 13, 16, 25⟩ rfl (fun z hz => absurd hz List.not_mem_nil) (by decide) (by decide) q772 q819 16 rfl ?_
      refine nw_astore C [(5, .ref w9), (0, .ref x), (1, .int p0), (2, .int p1), (3, .int p2), (4, .ref u)] dX0_ofCell_16 (by decide) rfl 18 rfl ?_
      refine nw_iconst C (nI 1) dX0_ofCell_18 (by decide) 19 rfl ?_
      exact nw_iret C dX0_ofCell_19 (by omega) (by omega) ⟨congrArg (fun z => some (Value.int (nI z))) hk9.symm, ok, hx9.1, ro, ad, hR.ext hx9, fun _ _ => rfl, ov, sv, hu.ext hx9.2, fun h9 => absurd (h9.symm.trans hk9) (by decide)⟩
    · have hE9 : E9 = cIA := (Option.some.inj (show some cIA = some E9 from he9)).symm
      subst hE9
      refine nw_catch C (name := cIA) [⟨0, 13, 16, 25⟩] [] ⟨0, 13, 20, 19⟩ rfl (fun z hz => by
            simp only [List.mem_cons, List.not_mem_nil, or_false] at hz
            rcases hz with rfl
            · exact Or.inr ⟨by decide, _, q772, C.hE.1.2.2.2.2.2.2.2.2.1⟩) (by decide) (by decide) q650 q660 20 rfl ?_
      refine nw_astore C [(5, .ref w9), (0, .ref x), (1, .int p0), (2, .int p1), (3, .int p2), (4, .ref u)] dX0_ofCell_20 (by decide) rfl 22 rfl ?_
      refine nw_iconst C (nI 2) dX0_ofCell_22 (by decide) 23 rfl ?_
      exact nw_iret C dX0_ofCell_23 (by omega) (by omega) ⟨congrArg (fun z => some (Value.int (nI z))) hk9.symm, ok, hx9.1, ro, ad, hR.ext hx9, fun _ _ => rfl, ov, sv, hu.ext hx9.2, fun h9 => absurd (h9.symm.trans hk9) (by decide)⟩
    · cases (show (none : Option String) = some E9 from he9)
  intro v9 H1 hR2 hz3 hq4
  obtain ⟨⟨ho9, rfl⟩, hx9⟩ := hR2
  have hR9 := hR.ext hx9
  have hz9 := hx9.1
  have hu9 := hu.ext hx9.2
  have hru9 := hru
  show nwV X _ _ 6 H1 (0 + 2) (0 + 12) 9 [(0, .ref x), (1, .int p0), (2, .int p1), (3, .int p2), (4, .ref u)] [.int ((op_ofCell σ p0 p1 p2).2), .ref u]
  refine nw_wide (k' := 2) (n' := 12) (by omega) (by omega) ?_
  refine nw_i2l C dX0_ofCell_9 10 rfl ?_
  refine nw_putN C hu9 (Or.inr rfl) (T := TX5) (ty0 := tyX5) rfl in_X5 tyX5_ok nmX5 0 (by decide) q640 rfl rfl rfl rfl (Nat.le_of_ble_eq_true rfl) dX0_ofCell_10 13 rfl (fun H5 ho6 hz7 hq8 => ?_)
  have ho6 : nwO d u 12 [.long (Int32.toInt64 ((op_ofCell σ p0 p1 p2).2)), sv] H5 := ho6
  have hR8 := hR9.putu hru9 hz7 hq8
  have hz8 : H.size ≤ H5.size := by rw [hz7]; exact hz9
  refine nw_goto C 24 dX0_ofCell_13 (by decide) ?_
  refine nw_iconst C (nI 0) dX0_ofCell_24 (by decide) 25 rfl ?_
  exact nw_iret C dX0_ofCell_25 (by omega) (by omega) ⟨congrArg (fun z => some (Value.int (nI z))) ho9.symm, ok, hz8, ro, ad, hR8, fun _ _ => rfl, _, sv, ho6, fun _ => rfl⟩
theorem hX0_ofCell : nwPH yX0_ofCell cX0_ofCell 6 (some .int) [(0, 13, 16, 25), (0, 13, 20, 19)] 5 := ⟨⟨q1083, q85, q1084⟩, by decide +kernel, by decide +kernel, by decide +kernel⟩
set_option maxHeartbeats 4000000 in
theorem mX0_ofMinute (l : Launch) (hf : l.flags = flags0) (d : nwD) (ro ad : Nat → Nat) (x : Nat) (σ : spSg) (sm : Int64) (p0 : Int32) (p1 : Int32) (u : Nat) (ov : Int64) (sv : Value) (H : Heap) (hB : nd_B d ≤ H.size) (hR : nwWR d ro ad x σ sm H) (ok : spOk σ) (hu : nwO d u 12 [.long ov, sv] H) (hru : ro u = 9001) : nwMtH l d yX0_ofMinute cX0_ofMinute 5 (some .int) [(0, 11, 14, 19)] 11 249 1 6 [.ref x, .int p0, .int p1, .ref u] H (nwWv d ro x u sm ((op_ofMinute σ p0 p1).1, (op_ofMinute σ p0 p1).2, σ) H) nwNo (nwAW ro u H) := by
  refine nw_startH "NightwatchWallLaw" "ofMinute" hf (by decide +kernel) rfl rfl (fun _ h => Or.inl (Or.inr h)) (nwAW_B hR hB hru) (Nat.le_of_ble_eq_true rfl) ?_
  intro X C
  have hE := C.E0
  have hnu : ¬ nwAC ro H u := nwAC_u hru hu.lt
  show nwV X _ _ 5 H 0 0 0 [(0, .ref x), (1, .int p0), (2, .int p1), (3, .ref u)] []
  refine nw_aload_n C 3 dX0_ofMinute_0 rfl 1 rfl ?_
  refine nw_aload_n C 0 dX0_ofMinute_1 rfl 2 rfl ?_
  refine nw_iload_n C 1 dX0_ofMinute_2 rfl 3 rfl ?_
  refine nw_iload_n C 2 dX0_ofMinute_3 rfl 4 rfl ?_
  refine nw_callV C (mX1_ofMinute _ C.hfl d ro ad x σ sm p0 p1 H hB hR.wc ok) kX1_ofMinute q1092 (hR.2.1.1.is C (ci := 0) rfl) (As := [.int p0, .int p1]) (rest := [.ref u]) rfl rfl ⟨⟨Nat.le_of_ble_eq_true rfl, Nat.le_of_ble_eq_true rfl⟩, (show 0 + 1 ≤ 1 by omega), (show 0 + 6 ≤ 6 by omega)⟩ (Nat.le_of_ble_eq_true rfl) (fun q8 h8 h9 => absurd h8 (Nat.not_lt.mpr h9)) dX0_ofMinute_4 7 rfl ?_ ?_
  rotate_left
  · intro E9 w9 H1 hR2 hz3 hq4
    obtain ⟨⟨k9, hk9, he9⟩, hx9⟩ := hR2
    rcases k9 with _ | k9
    · have hE9 : E9 = cIA := (Option.some.inj (show some cIA = some E9 from he9)).symm
      subst hE9
      refine nw_catch C (name := cIA) [] [] ⟨0, 11, 14, 19⟩ rfl (fun z hz => absurd hz List.not_mem_nil) (by decide) (by decide) q650 q660 14 rfl ?_
      refine nw_astore C [(4, .ref w9), (0, .ref x), (1, .int p0), (2, .int p1), (3, .ref u)] dX0_ofMinute_14 (by decide) rfl 16 rfl ?_
      refine nw_iconst C (nI 1) dX0_ofMinute_16 (by decide) 17 rfl ?_
      exact nw_iret C dX0_ofMinute_17 (by omega) (by omega) ⟨congrArg (fun z => some (Value.int (nI z))) hk9.symm, ok, hx9.1, ro, ad, hR.ext hx9, fun _ _ => rfl, ov, sv, hu.ext hx9.2, fun h9 => absurd (h9.symm.trans hk9) (by decide)⟩
    · cases (show (none : Option String) = some E9 from he9)
  intro v9 H1 hR2 hz3 hq4
  obtain ⟨⟨ho9, rfl⟩, hx9⟩ := hR2
  have hR9 := hR.ext hx9
  have hz9 := hx9.1
  have hu9 := hu.ext hx9.2
  have hru9 := hru
  show nwV X _ _ 5 H1 (0 + 1) (0 + 6) 7 [(0, .ref x), (1, .int p0), (2, .int p1), (3, .ref u)] [.int ((op_ofMinute σ p0 p1).2), .ref u]
  refine nw_wide (k' := 1) (n' := 6) (by omega) (by omega) ?_
  refine nw_i2l C dX0_ofMinute_7 8 rfl ?_
  refine nw_putN C hu9 (Or.inr rfl) (T := TX5) (ty0 := tyX5) rfl in_X5 tyX5_ok nmX5 0 (by decide) q640 rfl rfl rfl rfl (Nat.le_of_ble_eq_true rfl) dX0_ofMinute_8 11 rfl (fun H5 ho6 hz7 hq8 => ?_)
  have ho6 : nwO d u 12 [.long (Int32.toInt64 ((op_ofMinute σ p0 p1).2)), sv] H5 := ho6
  have hR8 := hR9.putu hru9 hz7 hq8
  have hz8 : H.size ≤ H5.size := by rw [hz7]; exact hz9
  refine nw_goto C 18 dX0_ofMinute_11 (by decide) ?_
  refine nw_iconst C (nI 0) dX0_ofMinute_18 (by decide) 19 rfl ?_
  exact nw_iret C dX0_ofMinute_19 (by omega) (by omega) ⟨congrArg (fun z => some (Value.int (nI z))) ho9.symm, ok, hz8, ro, ad, hR8, fun _ _ => rfl, _, sv, ho6, fun _ => rfl⟩
theorem hX0_ofMinute : nwPH yX0_ofMinute cX0_ofMinute 5 (some .int) [(0, 11, 14, 19)] 4 := ⟨⟨q1090, q85, q1091⟩, by decide +kernel, by decide +kernel, by decide +kernel⟩
set_option maxHeartbeats 4000000 in
theorem mX0_empty (l : Launch) (hf : l.flags = flags0) (d : nwD) (ro ad : Nat → Nat) (x : Nat) (σ : spSg) (sm : Int64) (p0 : Int32) (p1 : Bool) (u : Nat) (ov : Int64) (sv : Value) (H : Heap) (hB : nd_B d ≤ H.size) (hR : nwWR d ro ad x σ sm H) (ok : spOk σ) (hu : nwO d u 12 [.long ov, sv] H) (hru : ro u = 9001) : nwMtH l d yX0_empty cX0_empty 5 (some .int) [(0, 11, 14, 25)] 8 175 1 6 [.ref x, .int p0, .int (b2i p1), .ref u] H (nwWv d ro x u sm ((op_empty σ p0 p1).1, (op_empty σ p0 p1).2, σ) H) nwNo (nwAW ro u H) := by
  refine nw_startH "NightwatchWallLaw" "empty" hf (by decide +kernel) rfl rfl (fun _ h => Or.inl (Or.inr h)) (nwAW_B hR hB hru) (Nat.le_of_ble_eq_true rfl) ?_
  intro X C
  have hE := C.E0
  have hnu : ¬ nwAC ro H u := nwAC_u hru hu.lt
  show nwV X _ _ 5 H 0 0 0 [(0, .ref x), (1, .int p0), (2, .int (b2i p1)), (3, .ref u)] []
  refine nw_aload_n C 3 dX0_empty_0 rfl 1 rfl ?_
  refine nw_aload_n C 0 dX0_empty_1 rfl 2 rfl ?_
  refine nw_iload_n C 1 dX0_empty_2 rfl 3 rfl ?_
  refine nw_iload_n C 2 dX0_empty_3 rfl 4 rfl ?_
  refine nw_callV C (mX1_empty _ C.hfl d ro ad x σ sm p0 p1 H hB hR.wc ok) kX1_empty q1099 (hR.2.1.1.is C (ci := 0) rfl) (As := [.int p0, .int (b2i p1)]) (rest := [.ref u]) rfl rfl ⟨⟨Nat.le_of_ble_eq_true rfl, Nat.le_of_ble_eq_true rfl⟩, (show 0 + 1 ≤ 1 by omega), (show 0 + 6 ≤ 6 by omega)⟩ (Nat.le_of_ble_eq_true rfl) (fun q8 h8 h9 => absurd h8 (Nat.not_lt.mpr h9)) dX0_empty_4 7 rfl ?_ ?_
  rotate_left
  · intro E9 w9 H1 hR2 hz3 hq4
    obtain ⟨⟨k9, hk9, he9⟩, hx9⟩ := hR2
    rcases k9 with _ | k9
    · have hE9 : E9 = cIO := (Option.some.inj (show some cIO = some E9 from he9)).symm
      subst hE9
      refine nw_catch C (name := cIO) [] [] ⟨0, 11, 14, 25⟩ rfl (fun z hz => absurd hz List.not_mem_nil) (by decide) (by decide) q772 q819 14 rfl ?_
      refine nw_astore C [(4, .ref w9), (0, .ref x), (1, .int p0), (2, .int (b2i p1)), (3, .ref u)] dX0_empty_14 (by decide) rfl 16 rfl ?_
      refine nw_iconst C (nI 1) dX0_empty_16 (by decide) 17 rfl ?_
      exact nw_iret C dX0_empty_17 (by omega) (by omega) ⟨congrArg (fun z => some (Value.int (nI z))) hk9.symm, ok, hx9.1, ro, ad, hR.ext hx9, fun _ _ => rfl, ov, sv, hu.ext hx9.2, fun h9 => absurd (h9.symm.trans hk9) (by decide)⟩
    · cases (show (none : Option String) = some E9 from he9)
  intro v9 H1 hR2 hz3 hq4
  obtain ⟨⟨ho9, rfl⟩, hx9⟩ := hR2
  have hR9 := hR.ext hx9
  have hz9 := hx9.1
  have hu9 := hu.ext hx9.2
  have hru9 := hru
  show nwV X _ _ 5 H1 (0 + 1) (0 + 6) 7 [(0, .ref x), (1, .int p0), (2, .int (b2i p1)), (3, .ref u)] [.int ((op_empty σ p0 p1).2), .ref u]
  refine nw_wide (k' := 1) (n' := 6) (by omega) (by omega) ?_
  refine nw_i2l C dX0_empty_7 8 rfl ?_
  refine nw_putN C hu9 (Or.inr rfl) (T := TX5) (ty0 := tyX5) rfl in_X5 tyX5_ok nmX5 0 (by decide) q640 rfl rfl rfl rfl (Nat.le_of_ble_eq_true rfl) dX0_empty_8 11 rfl (fun H5 ho6 hz7 hq8 => ?_)
  have ho6 : nwO d u 12 [.long (Int32.toInt64 ((op_empty σ p0 p1).2)), sv] H5 := ho6
  have hR8 := hR9.putu hru9 hz7 hq8
  have hz8 : H.size ≤ H5.size := by rw [hz7]; exact hz9
  refine nw_goto C 18 dX0_empty_11 (by decide) ?_
  refine nw_iconst C (nI 0) dX0_empty_18 (by decide) 19 rfl ?_
  exact nw_iret C dX0_empty_19 (by omega) (by omega) ⟨congrArg (fun z => some (Value.int (nI z))) ho9.symm, ok, hz8, ro, ad, hR8, fun _ _ => rfl, _, sv, ho6, fun _ => rfl⟩
theorem hX0_empty : nwPH yX0_empty cX0_empty 5 (some .int) [(0, 11, 14, 25)] 4 := ⟨⟨q1097, q85, q1098⟩, by decide +kernel, by decide +kernel, by decide +kernel⟩
set_option maxHeartbeats 4000000 in
theorem mX0_lapse (l : Launch) (hf : l.flags = flags0) (d : nwD) (ro ad : Nat → Nat) (x : Nat) (σ : spSg) (sm : Int64) (p0 : Int32) (p1 : Int32) (p2 : Int32) (u : Nat) (ov : Int64) (sv : Value) (H : Heap) (hB : nd_B d ≤ H.size) (hR : nwWR d ro ad x σ sm H) (ok : spOk σ) (hu : nwO d u 12 [.long ov, sv] H) (hru : ro u = 9001) : nwMtH l d yX0_lapse cX0_lapse 6 (some .int) [(0, 13, 16, 25), (0, 13, 20, 19)] 9 206 2 12 [.ref x, .int p0, .int p1, .int p2, .ref u] H (nwWv d ro x u sm ((op_lapse σ p0 p1 p2).1, (op_lapse σ p0 p1 p2).2, σ) H) nwNo (nwAW ro u H) := by
  refine nw_startH "NightwatchWallLaw" "lapse" hf (by decide +kernel) rfl rfl (fun _ h => Or.inl (Or.inr h)) (nwAW_B hR hB hru) (Nat.le_of_ble_eq_true rfl) ?_
  intro X C
  have hE := C.E0
  have hnu : ¬ nwAC ro H u := nwAC_u hru hu.lt
  show nwV X _ _ 6 H 0 0 0 [(0, .ref x), (1, .int p0), (2, .int p1), (3, .int p2), (4, .ref u)] []
  refine nw_aload C 4 dX0_lapse_0 rfl 2 rfl ?_
  refine nw_aload_n C 0 dX0_lapse_2 rfl 3 rfl ?_
  refine nw_iload_n C 1 dX0_lapse_3 rfl 4 rfl ?_
  refine nw_iload_n C 2 dX0_lapse_4 rfl 5 rfl ?_
  refine nw_iload_n C 3 dX0_lapse_5 rfl 6 rfl ?_
  refine nw_callV C (mX1_lapse _ C.hfl d ro ad x σ sm p0 p1 p2 H hB hR.wc ok) kX1_lapse q1106 (hR.2.1.1.is C (ci := 0) rfl) (As := [.int p0, .int p1, .int p2]) (rest := [.ref u]) rfl rfl ⟨⟨Nat.le_of_ble_eq_true rfl, Nat.le_of_ble_eq_true rfl⟩, (show 0 + 2 ≤ 2 by omega), (show 0 + 12 ≤ 12 by omega)⟩ (Nat.le_of_ble_eq_true rfl) (fun q8 h8 h9 => absurd h8 (Nat.not_lt.mpr h9)) dX0_lapse_6 9 rfl ?_ ?_
  rotate_left
  · intro E9 w9 H1 hR2 hz3 hq4
    obtain ⟨⟨k9, hk9, he9⟩, hx9⟩ := hR2
    rcases k9 with _ | _ | k9
    · have hE9 : E9 = cIO := (Option.some.inj (show some cIO = some E9 from he9)).symm
      subst hE9
      refine nw_catch C (name := cIO) [] [⟨0, 13, 20, 19⟩] ⟨0, 13, 16, 25⟩ rfl (fun z hz => absurd hz List.not_mem_nil) (by decide) (by decide) q772 q819 16 rfl ?_
      refine nw_astore C [(5, .ref w9), (0, .ref x), (1, .int p0), (2, .int p1), (3, .int p2), (4, .ref u)] dX0_lapse_16 (by decide) rfl 18 rfl ?_
      refine nw_iconst C (nI 1) dX0_lapse_18 (by decide) 19 rfl ?_
      exact nw_iret C dX0_lapse_19 (by omega) (by omega) ⟨congrArg (fun z => some (Value.int (nI z))) hk9.symm, ok, hx9.1, ro, ad, hR.ext hx9, fun _ _ => rfl, ov, sv, hu.ext hx9.2, fun h9 => absurd (h9.symm.trans hk9) (by decide)⟩
    · have hE9 : E9 = cIA := (Option.some.inj (show some cIA = some E9 from he9)).symm
      subst hE9
      refine nw_catch C (name := cIA) [⟨0, 13, 16, 25⟩] [] ⟨0, 13, 20, 19⟩ rfl (fun z hz => by
            simp only [List.mem_cons, List.not_mem_nil, or_false] at hz
            rcases hz with rfl
            · exact Or.inr ⟨by decide, _, q772, C.hE.1.2.2.2.2.2.2.2.2.1⟩) (by decide) (by decide) q650 q660 20 rfl ?_
      refine nw_astore C [(5, .ref w9), (0, .ref x), (1, .int p0), (2, .int p1), (3, .int p2), (4, .ref u)] dX0_lapse_20 (by decide) rfl 22 rfl ?_
      refine nw_iconst C (nI 2) dX0_lapse_22 (by decide) 23 rfl ?_
      exact nw_iret C dX0_lapse_23 (by omega) (by omega) ⟨congrArg (fun z => some (Value.int (nI z))) hk9.symm, ok, hx9.1, ro, ad, hR.ext hx9, fun _ _ => rfl, ov, sv, hu.ext hx9.2, fun h9 => absurd (h9.symm.trans hk9) (by decide)⟩
    · cases (show (none : Option String) = some E9 from he9)
  intro v9 H1 hR2 hz3 hq4
  obtain ⟨⟨ho9, rfl⟩, hx9⟩ := hR2
  have hR9 := hR.ext hx9
  have hz9 := hx9.1
  have hu9 := hu.ext hx9.2
  have hru9 := hru
  show nwV X _ _ 6 H1 (0 + 2) (0 + 12) 9 [(0, .ref x), (1, .int p0), (2, .int p1), (3, .int p2), (4, .ref u)] [.int ((op_lapse σ p0 p1 p2).2), .ref u]
  refine nw_wide (k' := 2) (n' := 12) (by omega) (by omega) ?_
  refine nw_i2l C dX0_lapse_9 10 rfl ?_
  refine nw_putN C hu9 (Or.inr rfl) (T := TX5) (ty0 := tyX5) rfl in_X5 tyX5_ok nmX5 0 (by decide) q640 rfl rfl rfl rfl (Nat.le_of_ble_eq_true rfl) dX0_lapse_10 13 rfl (fun H5 ho6 hz7 hq8 => ?_)
  have ho6 : nwO d u 12 [.long (Int32.toInt64 ((op_lapse σ p0 p1 p2).2)), sv] H5 := ho6
  have hR8 := hR9.putu hru9 hz7 hq8
  have hz8 : H.size ≤ H5.size := by rw [hz7]; exact hz9
  refine nw_goto C 24 dX0_lapse_13 (by decide) ?_
  refine nw_iconst C (nI 0) dX0_lapse_24 (by decide) 25 rfl ?_
  exact nw_iret C dX0_lapse_25 (by omega) (by omega) ⟨congrArg (fun z => some (Value.int (nI z))) ho9.symm, ok, hz8, ro, ad, hR8, fun _ _ => rfl, _, sv, ho6, fun _ => rfl⟩
theorem hX0_lapse : nwPH yX0_lapse cX0_lapse 6 (some .int) [(0, 13, 16, 25), (0, 13, 20, 19)] 5 := ⟨⟨q1104, q85, q1105⟩, by decide +kernel, by decide +kernel, by decide +kernel⟩
set_option maxHeartbeats 4000000 in
theorem mX0_words (l : Launch) (hf : l.flags = flags0) (d : nwD) (ro ad : Nat → Nat) (x : Nat) (σ : spSg) (sm : Int64) (p0 : Int32) (u : Nat) (ov : Int64) (sv : Value) (H : Heap) (hB : nd_B d ≤ H.size) (hR : nwWR d ro ad x σ sm H) (ok : spOk σ) (hu : nwO d u 12 [.long ov, sv] H) (hru : ro u = 9001) : nwMtH l d yX0_words cX0_words 4 (some .int) [(0, 10, 13, 19)] 8 141 4 20 [.ref x, .int p0, .ref u] H (nwWv d ro x u sm (op_words σ p0) H) nwNo (nwAW ro u H) := by
  refine nw_startH "NightwatchWallLaw" "words" hf (by decide +kernel) rfl rfl (fun _ h => Or.inl (Or.inr h)) (nwAW_B hR hB hru) (Nat.le_of_ble_eq_true rfl) ?_
  intro X C
  have hE := C.E0
  have hnu : ¬ nwAC ro H u := nwAC_u hru hu.lt
  show nwV X _ _ 4 H 0 0 0 [(0, .ref x), (1, .int p0), (2, .ref u)] []
  refine nw_aload_n C 2 dX0_words_0 rfl 1 rfl ?_
  refine nw_aload_n C 0 dX0_words_1 rfl 2 rfl ?_
  refine nw_iload_n C 1 dX0_words_2 rfl 3 rfl ?_
  refine nw_callV C (mX1_words _ C.hfl d ro ad x σ sm p0 H hB hR ok) kX1_words q1113 (hR.2.1.1.is C (ci := 0) rfl) (As := [.int p0]) (rest := [.ref u]) rfl rfl ⟨⟨Nat.le_of_ble_eq_true rfl, Nat.le_of_ble_eq_true rfl⟩, (show 0 + 4 ≤ 4 by omega), (show 0 + 20 ≤ 20 by omega)⟩ (Nat.le_of_ble_eq_true rfl) (fun q8 h8 h9 => Or.inl h9) dX0_words_3 6 rfl ?_ ?_
  rotate_left
  · intro E9 w9 H1 hR2 hz3 hq4
    obtain ⟨⟨k9, hk9, he9⟩, hx9⟩ := hR2
    rcases k9 with _ | k9
    · have hE9 : E9 = cIA := (Option.some.inj (show some cIA = some E9 from he9)).symm
      subst hE9
      refine nw_catch C (name := cIA) [] [] ⟨0, 10, 13, 19⟩ rfl (fun z hz => absurd hz List.not_mem_nil) (by decide) (by decide) q650 q660 13 rfl ?_
      refine nw_astore_n C [(3, .ref w9), (0, .ref x), (1, .int p0), (2, .ref u)] dX0_words_13 (by decide) rfl 14 rfl ?_
      refine nw_iconst C (nI 1) dX0_words_14 (by decide) 15 rfl ?_
      have hst : (op_words σ p0).2.2 = σ := op_words_t σ p0 (by rw [hk9]; exact Nat.succ_ne_zero _)
      exact nw_iret C dX0_words_15 (by omega) (by omega) ⟨congrArg (fun z => some (Value.int (nI z))) hk9.symm, by rw [hst]; exact ok, hx9.1, ro, ad, by rw [hst]; exact hR.ext hx9, fun _ _ => rfl, ov, sv, hu.ext hx9.2, fun h9 => absurd (h9.symm.trans hk9) (by decide)⟩
    · cases (show (none : Option String) = some E9 from he9)
  intro v9 H1 hR2 hz3 hq4
  obtain ⟨⟨ho9, rfl⟩, ok9, hz9, ro9, ad9, hR9, hk9⟩ := hR2
  have hu9 := hu.kept (hq4 _ hu.lt hnu)
  have hru9 : ro9 u = 9001 := nw_rt hk9 hru (by decide)
  show nwV X _ _ 4 H1 (0 + 4) (0 + 20) 6 [(0, .ref x), (1, .int p0), (2, .ref u)] [.int ((op_words σ p0).2.1), .ref u]
  refine nw_wide (k' := 4) (n' := 20) (by omega) (by omega) ?_
  refine nw_i2l C dX0_words_6 7 rfl ?_
  refine nw_putN C hu9 (Or.inr rfl) (T := TX5) (ty0 := tyX5) rfl in_X5 tyX5_ok nmX5 0 (by decide) q640 rfl rfl rfl rfl (Nat.le_of_ble_eq_true rfl) dX0_words_7 10 rfl (fun H5 ho6 hz7 hq8 => ?_)
  have ho6 : nwO d u 12 [.long (Int32.toInt64 ((op_words σ p0).2.1)), sv] H5 := ho6
  have hR8 := hR9.putu hru9 hz7 hq8
  have hz8 : H.size ≤ H5.size := by rw [hz7]; exact hz9
  refine nw_goto C 16 dX0_words_10 (by decide) ?_
  refine nw_iconst C (nI 0) dX0_words_16 (by decide) 17 rfl ?_
  exact nw_iret C dX0_words_17 (by omega) (by omega) ⟨congrArg (fun z => some (Value.int (nI z))) ho9.symm, ok9, hz8, ro9, ad9, hR8, hk9, _, sv, ho6, fun _ => rfl⟩
theorem hX0_words : nwPH yX0_words cX0_words 4 (some .int) [(0, 10, 13, 19)] 3 := ⟨⟨q1111, q85, q1112⟩, by decide +kernel, by decide +kernel, by decide +kernel⟩
set_option maxHeartbeats 4000000 in
theorem mX0_leak (l : Launch) (hf : l.flags = flags0) (d : nwD) (ro ad : Nat → Nat) (x : Nat) (σ : spSg) (sm : Int64) (p0 : Int32) (u : Nat) (ov : Int64) (sv : Value) (H : Heap) (hB : nd_B d ≤ H.size) (hR : nwWR d ro ad x σ sm H) (ok : spOk σ) (hu : nwO d u 12 [.long ov, sv] H) (hru : ro u = 9001) : nwMtH l d yX0_leak cX0_leak 4 (some .int) [(0, 10, 13, 19), (0, 10, 16, 27)] 8 150 4 40 [.ref x, .int p0, .ref u] H (nwWv d ro x u sm (op_leak σ p0) H) nwNo (nwAW ro u H) := by
  refine nw_startH "NightwatchWallLaw" "leak" hf (by decide +kernel) rfl rfl (fun _ h => Or.inl (Or.inr h)) (nwAW_B hR hB hru) (Nat.le_of_ble_eq_true rfl) ?_
  intro X C
  have hE := C.E0
  have hnu : ¬ nwAC ro H u := nwAC_u hru hu.lt
  show nwV X _ _ 4 H 0 0 0 [(0, .ref x), (1, .int p0), (2, .ref u)] []
  refine nw_aload_n C 2 dX0_leak_0 rfl 1 rfl ?_
  refine nw_aload_n C 0 dX0_leak_1 rfl 2 rfl ?_
  refine nw_iload_n C 1 dX0_leak_2 rfl 3 rfl ?_
  refine nw_callV C (mX1_leak _ C.hfl d ro ad x σ sm p0 H hB hR ok) kX1_leak q1124 (hR.2.1.1.is C (ci := 0) rfl) (As := [.int p0]) (rest := [.ref u]) rfl rfl ⟨⟨Nat.le_of_ble_eq_true rfl, Nat.le_of_ble_eq_true rfl⟩, (show 0 + 4 ≤ 4 by omega), (show 0 + 40 ≤ 40 by omega)⟩ (Nat.le_of_ble_eq_true rfl) (fun q8 h8 h9 => Or.inl h9) dX0_leak_3 6 rfl ?_ ?_
  rotate_left
  · intro E9 w9 H1 hR2 hz3 hq4
    obtain ⟨⟨k9, hk9, he9⟩, hx9⟩ := hR2
    rcases k9 with _ | _ | k9
    · have hE9 : E9 = cIA := (Option.some.inj (show some cIA = some E9 from he9)).symm
      subst hE9
      refine nw_catch C (name := cIA) [] [⟨0, 10, 16, 27⟩] ⟨0, 10, 13, 19⟩ rfl (fun z hz => absurd hz List.not_mem_nil) (by decide) (by decide) q650 q660 13 rfl ?_
      refine nw_astore_n C [(3, .ref w9), (0, .ref x), (1, .int p0), (2, .ref u)] dX0_leak_13 (by decide) rfl 14 rfl ?_
      refine nw_iconst C (nI 1) dX0_leak_14 (by decide) 15 rfl ?_
      have hst : (op_leak σ p0).2.2 = σ := op_leak_t σ p0 (by rw [hk9]; exact Nat.succ_ne_zero _)
      exact nw_iret C dX0_leak_15 (by omega) (by omega) ⟨congrArg (fun z => some (Value.int (nI z))) hk9.symm, by rw [hst]; exact ok, hx9.1, ro, ad, by rw [hst]; exact hR.ext hx9, fun _ _ => rfl, ov, sv, hu.ext hx9.2, fun h9 => absurd (h9.symm.trans hk9) (by decide)⟩
    · have hE9 : E9 = cIS := (Option.some.inj (show some cIS = some E9 from he9)).symm
      subst hE9
      refine nw_catch C (name := cIS) [⟨0, 10, 13, 19⟩] [] ⟨0, 10, 16, 27⟩ rfl (fun z hz => by
            simp only [List.mem_cons, List.not_mem_nil, or_false] at hz
            rcases hz with rfl
            · exact Or.inr ⟨by decide, _, q650, C.hE.1.2.2.2.2.2.2.2.2.2.2⟩) (by decide) (by decide) q805 q837 16 rfl ?_
      refine nw_astore_n C [(3, .ref w9), (0, .ref x), (1, .int p0), (2, .ref u)] dX0_leak_16 (by decide) rfl 17 rfl ?_
      refine nw_iconst C (nI 2) dX0_leak_17 (by decide) 18 rfl ?_
      have hst : (op_leak σ p0).2.2 = σ := op_leak_t σ p0 (by rw [hk9]; exact Nat.succ_ne_zero _)
      exact nw_iret C dX0_leak_18 (by omega) (by omega) ⟨congrArg (fun z => some (Value.int (nI z))) hk9.symm, by rw [hst]; exact ok, hx9.1, ro, ad, by rw [hst]; exact hR.ext hx9, fun _ _ => rfl, ov, sv, hu.ext hx9.2, fun h9 => absurd (h9.symm.trans hk9) (by decide)⟩
    · cases (show (none : Option String) = some E9 from he9)
  intro v9 H1 hR2 hz3 hq4
  obtain ⟨⟨ho9, rfl⟩, ok9, hz9, ro9, ad9, hR9, hk9⟩ := hR2
  have hu9 := hu.kept (hq4 _ hu.lt hnu)
  have hru9 : ro9 u = 9001 := nw_rt hk9 hru (by decide)
  show nwV X _ _ 4 H1 (0 + 4) (0 + 40) 6 [(0, .ref x), (1, .int p0), (2, .ref u)] [.int ((op_leak σ p0).2.1), .ref u]
  refine nw_wide (k' := 4) (n' := 40) (by omega) (by omega) ?_
  refine nw_i2l C dX0_leak_6 7 rfl ?_
  refine nw_putN C hu9 (Or.inr rfl) (T := TX5) (ty0 := tyX5) rfl in_X5 tyX5_ok nmX5 0 (by decide) q640 rfl rfl rfl rfl (Nat.le_of_ble_eq_true rfl) dX0_leak_7 10 rfl (fun H5 ho6 hz7 hq8 => ?_)
  have ho6 : nwO d u 12 [.long (Int32.toInt64 ((op_leak σ p0).2.1)), sv] H5 := ho6
  have hR8 := hR9.putu hru9 hz7 hq8
  have hz8 : H.size ≤ H5.size := by rw [hz7]; exact hz9
  refine nw_goto C 19 dX0_leak_10 (by decide) ?_
  refine nw_iconst C (nI 0) dX0_leak_19 (by decide) 20 rfl ?_
  exact nw_iret C dX0_leak_20 (by omega) (by omega) ⟨congrArg (fun z => some (Value.int (nI z))) ho9.symm, ok9, hz8, ro9, ad9, hR8, hk9, _, sv, ho6, fun _ => rfl⟩
theorem hX0_leak : nwPH yX0_leak cX0_leak 4 (some .int) [(0, 10, 13, 19), (0, 10, 16, 27)] 3 := ⟨⟨q1122, q85, q1123⟩, by decide +kernel, by decide +kernel, by decide +kernel⟩
set_option maxHeartbeats 4000000 in
theorem mX0_answer (l : Launch) (hf : l.flags = flags0) (d : nwD) (ro ad : Nat → Nat) (x : Nat) (σ : spSg) (sm : Int64) (p0 : Int32) (p1 : Int32) (p2 : Int32) (u : Nat) (ov : Int64) (sv : Value) (H : Heap) (hB : nd_B d ≤ H.size) (hR : nwWR d ro ad x σ sm H) (ok : spOk σ) (hu : nwO d u 12 [.long ov, sv] H) (hru : ro u = 9001) : nwMtH l d yX0_answer cX0_answer 6 (some .int) [(0, 13, 16, 25), (0, 13, 20, 19)] 9 167 2 12 [.ref x, .int p0, .int p1, .int p2, .ref u] H (nwWv d ro x u sm (op_answer σ p0 p1 p2) H) nwNo (nwAW ro u H) := by
  refine nw_startH "NightwatchWallLaw" "answer" hf (by decide +kernel) rfl rfl (fun _ h => Or.inl (Or.inr h)) (nwAW_B hR hB hru) (Nat.le_of_ble_eq_true rfl) ?_
  intro X C
  have hE := C.E0
  have hnu : ¬ nwAC ro H u := nwAC_u hru hu.lt
  show nwV X _ _ 6 H 0 0 0 [(0, .ref x), (1, .int p0), (2, .int p1), (3, .int p2), (4, .ref u)] []
  refine nw_aload C 4 dX0_answer_0 rfl 2 rfl ?_
  refine nw_aload_n C 0 dX0_answer_2 rfl 3 rfl ?_
  refine nw_iload_n C 1 dX0_answer_3 rfl 4 rfl ?_
  refine nw_iload_n C 2 dX0_answer_4 rfl 5 rfl ?_
  refine nw_iload_n C 3 dX0_answer_5 rfl 6 rfl ?_
  refine nw_callV C (mX1_answer _ C.hfl d ro ad x σ sm p0 p1 p2 H hB hR ok) kX1_answer q1142 (hR.2.1.1.is C (ci := 0) rfl) (As := [.int p0, .int p1, .int p2]) (rest := [.ref u]) rfl rfl ⟨⟨Nat.le_of_ble_eq_true rfl, Nat.le_of_ble_eq_true rfl⟩, (show 0 + 2 ≤ 2 by omega), (show 0 + 12 ≤ 12 by omega)⟩ (Nat.le_of_ble_eq_true rfl) (fun q8 h8 h9 => Or.inl h9) dX0_answer_6 9 rfl ?_ ?_
  rotate_left
  · intro E9 w9 H1 hR2 hz3 hq4
    obtain ⟨⟨k9, hk9, he9⟩, hx9⟩ := hR2
    rcases k9 with _ | _ | k9
    · have hE9 : E9 = cIO := (Option.some.inj (show some cIO = some E9 from he9)).symm
      subst hE9
      refine nw_catch C (name := cIO) [] [⟨0, 13, 20, 19⟩] ⟨0, 13, 16, 25⟩ rfl (fun z hz => absurd hz List.not_mem_nil) (by decide) (by decide) q772 q819 16 rfl ?_
      refine nw_astore C [(5, .ref w9), (0, .ref x), (1, .int p0), (2, .int p1), (3, .int p2), (4, .ref u)] dX0_answer_16 (by decide) rfl 18 rfl ?_
      refine nw_iconst C (nI 1) dX0_answer_18 (by decide) 19 rfl ?_
      have hst : (op_answer σ p0 p1 p2).2.2 = σ := op_answer_t σ p0 p1 p2 (by rw [hk9]; exact Nat.succ_ne_zero _)
      exact nw_iret C dX0_answer_19 (by omega) (by omega) ⟨congrArg (fun z => some (Value.int (nI z))) hk9.symm, by rw [hst]; exact ok, hx9.1, ro, ad, by rw [hst]; exact hR.ext hx9, fun _ _ => rfl, ov, sv, hu.ext hx9.2, fun h9 => absurd (h9.symm.trans hk9) (by decide)⟩
    · have hE9 : E9 = cIA := (Option.some.inj (show some cIA = some E9 from he9)).symm
      subst hE9
      refine nw_catch C (name := cIA) [⟨0, 13, 16, 25⟩] [] ⟨0, 13, 20, 19⟩ rfl (fun z hz => by
            simp only [List.mem_cons, List.not_mem_nil, or_false] at hz
            rcases hz with rfl
            · exact Or.inr ⟨by decide, _, q772, C.hE.1.2.2.2.2.2.2.2.2.1⟩) (by decide) (by decide) q650 q660 20 rfl ?_
      refine nw_astore C [(5, .ref w9), (0, .ref x), (1, .int p0), (2, .int p1), (3, .int p2), (4, .ref u)] dX0_answer_20 (by decide) rfl 22 rfl ?_
      refine nw_iconst C (nI 2) dX0_answer_22 (by decide) 23 rfl ?_
      have hst : (op_answer σ p0 p1 p2).2.2 = σ := op_answer_t σ p0 p1 p2 (by rw [hk9]; exact Nat.succ_ne_zero _)
      exact nw_iret C dX0_answer_23 (by omega) (by omega) ⟨congrArg (fun z => some (Value.int (nI z))) hk9.symm, by rw [hst]; exact ok, hx9.1, ro, ad, by rw [hst]; exact hR.ext hx9, fun _ _ => rfl, ov, sv, hu.ext hx9.2, fun h9 => absurd (h9.symm.trans hk9) (by decide)⟩
    · cases (show (none : Option String) = some E9 from he9)
  intro v9 H1 hR2 hz3 hq4
  obtain ⟨⟨ho9, rfl⟩, ok9, hz9, ro9, ad9, hR9, hk9⟩ := hR2
  have hu9 := hu.kept (hq4 _ hu.lt hnu)
  have hru9 : ro9 u = 9001 := nw_rt hk9 hru (by decide)
  show nwV X _ _ 6 H1 (0 + 2) (0 + 12) 9 [(0, .ref x), (1, .int p0), (2, .int p1), (3, .int p2), (4, .ref u)] [.int ((op_answer σ p0 p1 p2).2.1), .ref u]
  refine nw_wide (k' := 2) (n' := 12) (by omega) (by omega) ?_
  refine nw_i2l C dX0_answer_9 10 rfl ?_
  refine nw_putN C hu9 (Or.inr rfl) (T := TX5) (ty0 := tyX5) rfl in_X5 tyX5_ok nmX5 0 (by decide) q640 rfl rfl rfl rfl (Nat.le_of_ble_eq_true rfl) dX0_answer_10 13 rfl (fun H5 ho6 hz7 hq8 => ?_)
  have ho6 : nwO d u 12 [.long (Int32.toInt64 ((op_answer σ p0 p1 p2).2.1)), sv] H5 := ho6
  have hR8 := hR9.putu hru9 hz7 hq8
  have hz8 : H.size ≤ H5.size := by rw [hz7]; exact hz9
  refine nw_goto C 24 dX0_answer_13 (by decide) ?_
  refine nw_iconst C (nI 0) dX0_answer_24 (by decide) 25 rfl ?_
  exact nw_iret C dX0_answer_25 (by omega) (by omega) ⟨congrArg (fun z => some (Value.int (nI z))) ho9.symm, ok9, hz8, ro9, ad9, hR8, hk9, _, sv, ho6, fun _ => rfl⟩
theorem hX0_answer : nwPH yX0_answer cX0_answer 6 (some .int) [(0, 13, 16, 25), (0, 13, 20, 19)] 5 := ⟨⟨q1140, q85, q1141⟩, by decide +kernel, by decide +kernel, by decide +kernel⟩
set_option maxHeartbeats 4000000 in
theorem mX0_key (l : Launch) (hf : l.flags = flags0) (d : nwD) (ro ad : Nat → Nat) (x : Nat) (σ : spSg) (sm : Int64) (p0 : Int32) (p1 : Int32) (u : Nat) (ov : Int64) (sv : Value) (H : Heap) (hB : nd_B d ≤ H.size) (hR : nwWR d ro ad x σ sm H) (ok : spOk σ) (hu : nwO d u 12 [.long ov, sv] H) (hru : ro u = 9001) : nwMtH l d yX0_key cX0_key 5 (some .int) [(0, 11, 14, 25)] 8 144 2 12 [.ref x, .int p0, .int p1, .ref u] H (nwWv d ro x u sm (op_key σ p0 p1) H) nwNo (nwAW ro u H) := by
  refine nw_startH "NightwatchWallLaw" "key" hf (by decide +kernel) rfl rfl (fun _ h => Or.inl (Or.inr h)) (nwAW_B hR hB hru) (Nat.le_of_ble_eq_true rfl) ?_
  intro X C
  have hE := C.E0
  have hnu : ¬ nwAC ro H u := nwAC_u hru hu.lt
  show nwV X _ _ 5 H 0 0 0 [(0, .ref x), (1, .int p0), (2, .int p1), (3, .ref u)] []
  refine nw_aload_n C 3 dX0_key_0 rfl 1 rfl ?_
  refine nw_aload_n C 0 dX0_key_1 rfl 2 rfl ?_
  refine nw_iload_n C 1 dX0_key_2 rfl 3 rfl ?_
  refine nw_iload_n C 2 dX0_key_3 rfl 4 rfl ?_
  refine nw_callV C (mX1_key _ C.hfl d ro ad x σ sm p0 p1 H hB hR ok) kX1_key q1168 (hR.2.1.1.is C (ci := 0) rfl) (As := [.int p0, .int p1]) (rest := [.ref u]) rfl rfl ⟨⟨Nat.le_of_ble_eq_true rfl, Nat.le_of_ble_eq_true rfl⟩, (show 0 + 2 ≤ 2 by omega), (show 0 + 12 ≤ 12 by omega)⟩ (Nat.le_of_ble_eq_true rfl) (fun q8 h8 h9 => Or.inl h9) dX0_key_4 7 rfl ?_ ?_
  rotate_left
  · intro E9 w9 H1 hR2 hz3 hq4
    obtain ⟨⟨k9, hk9, he9⟩, hx9⟩ := hR2
    rcases k9 with _ | k9
    · have hE9 : E9 = cIO := (Option.some.inj (show some cIO = some E9 from he9)).symm
      subst hE9
      refine nw_catch C (name := cIO) [] [] ⟨0, 11, 14, 25⟩ rfl (fun z hz => absurd hz List.not_mem_nil) (by decide) (by decide) q772 q819 14 rfl ?_
      refine nw_astore C [(4, .ref w9), (0, .ref x), (1, .int p0), (2, .int p1), (3, .ref u)] dX0_key_14 (by decide) rfl 16 rfl ?_
      refine nw_iconst C (nI 1) dX0_key_16 (by decide) 17 rfl ?_
      have hst : (op_key σ p0 p1).2.2 = σ := op_key_t σ p0 p1 (by rw [hk9]; exact Nat.succ_ne_zero _)
      exact nw_iret C dX0_key_17 (by omega) (by omega) ⟨congrArg (fun z => some (Value.int (nI z))) hk9.symm, by rw [hst]; exact ok, hx9.1, ro, ad, by rw [hst]; exact hR.ext hx9, fun _ _ => rfl, ov, sv, hu.ext hx9.2, fun h9 => absurd (h9.symm.trans hk9) (by decide)⟩
    · cases (show (none : Option String) = some E9 from he9)
  intro v9 H1 hR2 hz3 hq4
  obtain ⟨⟨ho9, rfl⟩, ok9, hz9, ro9, ad9, hR9, hk9⟩ := hR2
  have hu9 := hu.kept (hq4 _ hu.lt hnu)
  have hru9 : ro9 u = 9001 := nw_rt hk9 hru (by decide)
  show nwV X _ _ 5 H1 (0 + 2) (0 + 12) 7 [(0, .ref x), (1, .int p0), (2, .int p1), (3, .ref u)] [.int ((op_key σ p0 p1).2.1), .ref u]
  refine nw_wide (k' := 2) (n' := 12) (by omega) (by omega) ?_
  refine nw_i2l C dX0_key_7 8 rfl ?_
  refine nw_putN C hu9 (Or.inr rfl) (T := TX5) (ty0 := tyX5) rfl in_X5 tyX5_ok nmX5 0 (by decide) q640 rfl rfl rfl rfl (Nat.le_of_ble_eq_true rfl) dX0_key_8 11 rfl (fun H5 ho6 hz7 hq8 => ?_)
  have ho6 : nwO d u 12 [.long (Int32.toInt64 ((op_key σ p0 p1).2.1)), sv] H5 := ho6
  have hR8 := hR9.putu hru9 hz7 hq8
  have hz8 : H.size ≤ H5.size := by rw [hz7]; exact hz9
  refine nw_goto C 18 dX0_key_11 (by decide) ?_
  refine nw_iconst C (nI 0) dX0_key_18 (by decide) 19 rfl ?_
  exact nw_iret C dX0_key_19 (by omega) (by omega) ⟨congrArg (fun z => some (Value.int (nI z))) ho9.symm, ok9, hz8, ro9, ad9, hR8, hk9, _, sv, ho6, fun _ => rfl⟩
theorem hX0_key : nwPH yX0_key cX0_key 5 (some .int) [(0, 11, 14, 25)] 4 := ⟨⟨q1166, q85, q1167⟩, by decide +kernel, by decide +kernel, by decide +kernel⟩
set_option maxHeartbeats 4000000 in
theorem mX0_ofGuard (l : Launch) (hf : l.flags = flags0) (d : nwD) (ro ad : Nat → Nat) (x : Nat) (σ : spSg) (sm : Int64) (p0 : Int32) (p1 : Int32) (u : Nat) (ov : Int64) (sv : Value) (H : Heap) (hB : nd_B d ≤ H.size) (hR : nwWR d ro ad x σ sm H) (ok : spOk σ) (hu : nwO d u 12 [.long ov, sv] H) (hru : ro u = 9001) : nwMtH l d yX0_ofGuard cX0_ofGuard 5 (some .int) [(0, 11, 14, 25), (0, 11, 18, 19)] 9 164 2 12 [.ref x, .int p0, .int p1, .ref u] H (nwWv d ro x u sm ((op_ofGuard σ p0 p1).1, (op_ofGuard σ p0 p1).2, σ) H) nwNo (nwAW ro u H) := by
  refine nw_startH "NightwatchWallLaw" "ofGuard" hf (by decide +kernel) rfl rfl (fun _ h => Or.inl (Or.inr h)) (nwAW_B hR hB hru) (Nat.le_of_ble_eq_true rfl) ?_
  intro X C
  have hE := C.E0
  have hnu : ¬ nwAC ro H u := nwAC_u hru hu.lt
  show nwV X _ _ 5 H 0 0 0 [(0, .ref x), (1, .int p0), (2, .int p1), (3, .ref u)] []
  refine nw_aload_n C 3 dX0_ofGuard_0 rfl 1 rfl ?_
  refine nw_aload_n C 0 dX0_ofGuard_1 rfl 2 rfl ?_
  refine nw_iload_n C 1 dX0_ofGuard_2 rfl 3 rfl ?_
  refine nw_iload_n C 2 dX0_ofGuard_3 rfl 4 rfl ?_
  refine nw_callV C (mX1_ofGuard _ C.hfl d ro ad x σ sm p0 p1 H hB hR.wc ok) kX1_ofGuard q1175 (hR.2.1.1.is C (ci := 0) rfl) (As := [.int p0, .int p1]) (rest := [.ref u]) rfl rfl ⟨⟨Nat.le_of_ble_eq_true rfl, Nat.le_of_ble_eq_true rfl⟩, (show 0 + 2 ≤ 2 by omega), (show 0 + 12 ≤ 12 by omega)⟩ (Nat.le_of_ble_eq_true rfl) (fun q8 h8 h9 => absurd h8 (Nat.not_lt.mpr h9)) dX0_ofGuard_4 7 rfl ?_ ?_
  rotate_left
  · intro E9 w9 H1 hR2 hz3 hq4
    obtain ⟨⟨k9, hk9, he9⟩, hx9⟩ := hR2
    rcases k9 with _ | _ | k9
    · have hE9 : E9 = cIO := (Option.some.inj (show some cIO = some E9 from he9)).symm
      subst hE9
      refine nw_catch C (name := cIO) [] [⟨0, 11, 18, 19⟩] ⟨0, 11, 14, 25⟩ rfl (fun z hz => absurd hz List.not_mem_nil) (by decide) (by decide) q772 q819 14 rfl ?_
      refine nw_astore C [(4, .ref w9), (0, .ref x), (1, .int p0), (2, .int p1), (3, .ref u)] dX0_ofGuard_14 (by decide) rfl 16 rfl ?_
      refine nw_iconst C (nI 1) dX0_ofGuard_16 (by decide) 17 rfl ?_
      exact nw_iret C dX0_ofGuard_17 (by omega) (by omega) ⟨congrArg (fun z => some (Value.int (nI z))) hk9.symm, ok, hx9.1, ro, ad, hR.ext hx9, fun _ _ => rfl, ov, sv, hu.ext hx9.2, fun h9 => absurd (h9.symm.trans hk9) (by decide)⟩
    · have hE9 : E9 = cIA := (Option.some.inj (show some cIA = some E9 from he9)).symm
      subst hE9
      refine nw_catch C (name := cIA) [⟨0, 11, 14, 25⟩] [] ⟨0, 11, 18, 19⟩ rfl (fun z hz => by
            simp only [List.mem_cons, List.not_mem_nil, or_false] at hz
            rcases hz with rfl
            · exact Or.inr ⟨by decide, _, q772, C.hE.1.2.2.2.2.2.2.2.2.1⟩) (by decide) (by decide) q650 q660 18 rfl ?_
      refine nw_astore C [(4, .ref w9), (0, .ref x), (1, .int p0), (2, .int p1), (3, .ref u)] dX0_ofGuard_18 (by decide) rfl 20 rfl ?_
      refine nw_iconst C (nI 2) dX0_ofGuard_20 (by decide) 21 rfl ?_
      exact nw_iret C dX0_ofGuard_21 (by omega) (by omega) ⟨congrArg (fun z => some (Value.int (nI z))) hk9.symm, ok, hx9.1, ro, ad, hR.ext hx9, fun _ _ => rfl, ov, sv, hu.ext hx9.2, fun h9 => absurd (h9.symm.trans hk9) (by decide)⟩
    · cases (show (none : Option String) = some E9 from he9)
  intro v9 H1 hR2 hz3 hq4
  obtain ⟨⟨ho9, rfl⟩, hx9⟩ := hR2
  have hR9 := hR.ext hx9
  have hz9 := hx9.1
  have hu9 := hu.ext hx9.2
  have hru9 := hru
  show nwV X _ _ 5 H1 (0 + 2) (0 + 12) 7 [(0, .ref x), (1, .int p0), (2, .int p1), (3, .ref u)] [.int ((op_ofGuard σ p0 p1).2), .ref u]
  refine nw_wide (k' := 2) (n' := 12) (by omega) (by omega) ?_
  refine nw_i2l C dX0_ofGuard_7 8 rfl ?_
  refine nw_putN C hu9 (Or.inr rfl) (T := TX5) (ty0 := tyX5) rfl in_X5 tyX5_ok nmX5 0 (by decide) q640 rfl rfl rfl rfl (Nat.le_of_ble_eq_true rfl) dX0_ofGuard_8 11 rfl (fun H5 ho6 hz7 hq8 => ?_)
  have ho6 : nwO d u 12 [.long (Int32.toInt64 ((op_ofGuard σ p0 p1).2)), sv] H5 := ho6
  have hR8 := hR9.putu hru9 hz7 hq8
  have hz8 : H.size ≤ H5.size := by rw [hz7]; exact hz9
  refine nw_goto C 22 dX0_ofGuard_11 (by decide) ?_
  refine nw_iconst C (nI 0) dX0_ofGuard_22 (by decide) 23 rfl ?_
  exact nw_iret C dX0_ofGuard_23 (by omega) (by omega) ⟨congrArg (fun z => some (Value.int (nI z))) ho9.symm, ok, hz8, ro, ad, hR8, fun _ _ => rfl, _, sv, ho6, fun _ => rfl⟩
theorem hX0_ofGuard : nwPH yX0_ofGuard cX0_ofGuard 5 (some .int) [(0, 11, 14, 25), (0, 11, 18, 19)] 4 := ⟨⟨q1173, q85, q1174⟩, by decide +kernel, by decide +kernel, by decide +kernel⟩
set_option maxHeartbeats 4000000 in
theorem mX0_intruder (l : Launch) (hf : l.flags = flags0) (d : nwD) (ro ad : Nat → Nat) (x : Nat) (σ : spSg) (sm : Int64) (p0 : Int32) (p1 : Int32) (p2 : Int32) (u : Nat) (ov : Int64) (sv : Value) (H : Heap) (hB : nd_B d ≤ H.size) (hR : nwWR d ro ad x σ sm H) (ok : spOk σ) (hu : nwO d u 12 [.long ov, sv] H) (hru : ro u = 9001) : nwMtH l d yX0_intruder cX0_intruder 6 (some .int) [(0, 13, 16, 25), (0, 13, 20, 19), (0, 13, 24, 27)] 10 248 60 700 [.ref x, .int p0, .int p1, .int p2, .ref u] H (nwWv d ro x u sm (op_intr σ p0 p1 p2) H) nwNo (nwAW ro u H) := by
  refine nw_startH "NightwatchWallLaw" "intruder" hf (by decide +kernel) rfl rfl (fun _ h => Or.inl (Or.inr h)) (nwAW_B hR hB hru) (Nat.le_of_ble_eq_true rfl) ?_
  intro X C
  have hE := C.E0
  have hnu : ¬ nwAC ro H u := nwAC_u hru hu.lt
  show nwV X _ _ 6 H 0 0 0 [(0, .ref x), (1, .int p0), (2, .int p1), (3, .int p2), (4, .ref u)] []
  refine nw_aload C 4 dX0_intruder_0 rfl 2 rfl ?_
  refine nw_aload_n C 0 dX0_intruder_2 rfl 3 rfl ?_
  refine nw_iload_n C 1 dX0_intruder_3 rfl 4 rfl ?_
  refine nw_iload_n C 2 dX0_intruder_4 rfl 5 rfl ?_
  refine nw_iload_n C 3 dX0_intruder_5 rfl 6 rfl ?_
  refine nw_callV C (mX1_intruder _ C.hfl d ro ad x σ sm p0 p1 p2 H hB hR ok) kX1_intruder q1182 (hR.2.1.1.is C (ci := 0) rfl) (As := [.int p0, .int p1, .int p2]) (rest := [.ref u]) rfl rfl ⟨⟨Nat.le_of_ble_eq_true rfl, Nat.le_of_ble_eq_true rfl⟩, (show 0 + 60 ≤ 60 by omega), (show 0 + 700 ≤ 700 by omega)⟩ (Nat.le_of_ble_eq_true rfl) (fun q8 h8 h9 => Or.inl h9) dX0_intruder_6 9 rfl ?_ ?_
  rotate_left
  · intro E9 w9 H1 hR2 hz3 hq4
    obtain ⟨⟨k9, hk9, he9⟩, hx9⟩ := hR2
    rcases k9 with _ | _ | _ | k9
    · have hE9 : E9 = cIO := (Option.some.inj (show some cIO = some E9 from he9)).symm
      subst hE9
      refine nw_catch C (name := cIO) [] [⟨0, 13, 20, 19⟩, ⟨0, 13, 24, 27⟩] ⟨0, 13, 16, 25⟩ rfl (fun z hz => absurd hz List.not_mem_nil) (by decide) (by decide) q772 q819 16 rfl ?_
      refine nw_astore C [(5, .ref w9), (0, .ref x), (1, .int p0), (2, .int p1), (3, .int p2), (4, .ref u)] dX0_intruder_16 (by decide) rfl 18 rfl ?_
      refine nw_iconst C (nI 1) dX0_intruder_18 (by decide) 19 rfl ?_
      have hst : (op_intr σ p0 p1 p2).2.2 = σ := op_intr_t σ p0 p1 p2 (by rw [hk9]; exact Nat.succ_ne_zero _)
      exact nw_iret C dX0_intruder_19 (by omega) (by omega) ⟨congrArg (fun z => some (Value.int (nI z))) hk9.symm, by rw [hst]; exact ok, hx9.1, ro, ad, by rw [hst]; exact hR.ext hx9, fun _ _ => rfl, ov, sv, hu.ext hx9.2, fun h9 => absurd (h9.symm.trans hk9) (by decide)⟩
    · have hE9 : E9 = cIA := (Option.some.inj (show some cIA = some E9 from he9)).symm
      subst hE9
      refine nw_catch C (name := cIA) [⟨0, 13, 16, 25⟩] [⟨0, 13, 24, 27⟩] ⟨0, 13, 20, 19⟩ rfl (fun z hz => by
            simp only [List.mem_cons, List.not_mem_nil, or_false] at hz
            rcases hz with rfl
            · exact Or.inr ⟨by decide, _, q772, C.hE.1.2.2.2.2.2.2.2.2.1⟩) (by decide) (by decide) q650 q660 20 rfl ?_
      refine nw_astore C [(5, .ref w9), (0, .ref x), (1, .int p0), (2, .int p1), (3, .int p2), (4, .ref u)] dX0_intruder_20 (by decide) rfl 22 rfl ?_
      refine nw_iconst C (nI 2) dX0_intruder_22 (by decide) 23 rfl ?_
      have hst : (op_intr σ p0 p1 p2).2.2 = σ := op_intr_t σ p0 p1 p2 (by rw [hk9]; exact Nat.succ_ne_zero _)
      exact nw_iret C dX0_intruder_23 (by omega) (by omega) ⟨congrArg (fun z => some (Value.int (nI z))) hk9.symm, by rw [hst]; exact ok, hx9.1, ro, ad, by rw [hst]; exact hR.ext hx9, fun _ _ => rfl, ov, sv, hu.ext hx9.2, fun h9 => absurd (h9.symm.trans hk9) (by decide)⟩
    · have hE9 : E9 = cIS := (Option.some.inj (show some cIS = some E9 from he9)).symm
      subst hE9
      refine nw_catch C (name := cIS) [⟨0, 13, 16, 25⟩, ⟨0, 13, 20, 19⟩] [] ⟨0, 13, 24, 27⟩ rfl (fun z hz => by
            simp only [List.mem_cons, List.not_mem_nil, or_false] at hz
            rcases hz with rfl | rfl
            · exact Or.inr ⟨by decide, _, q772, C.hE.1.2.2.2.2.2.2.2.2.2.1⟩
            · exact Or.inr ⟨by decide, _, q650, C.hE.1.2.2.2.2.2.2.2.2.2.2⟩) (by decide) (by decide) q805 q837 24 rfl ?_
      refine nw_astore C [(5, .ref w9), (0, .ref x), (1, .int p0), (2, .int p1), (3, .int p2), (4, .ref u)] dX0_intruder_24 (by decide) rfl 26 rfl ?_
      refine nw_iconst C (nI 3) dX0_intruder_26 (by decide) 27 rfl ?_
      have hst : (op_intr σ p0 p1 p2).2.2 = σ := op_intr_t σ p0 p1 p2 (by rw [hk9]; exact Nat.succ_ne_zero _)
      exact nw_iret C dX0_intruder_27 (by omega) (by omega) ⟨congrArg (fun z => some (Value.int (nI z))) hk9.symm, by rw [hst]; exact ok, hx9.1, ro, ad, by rw [hst]; exact hR.ext hx9, fun _ _ => rfl, ov, sv, hu.ext hx9.2, fun h9 => absurd (h9.symm.trans hk9) (by decide)⟩
    · cases (show (none : Option String) = some E9 from he9)
  intro v9 H1 hR2 hz3 hq4
  obtain ⟨⟨ho9, rfl⟩, ok9, hz9, ro9, ad9, hR9, hk9⟩ := hR2
  have hu9 := hu.kept (hq4 _ hu.lt hnu)
  have hru9 : ro9 u = 9001 := nw_rt hk9 hru (by decide)
  show nwV X _ _ 6 H1 (0 + 60) (0 + 700) 9 [(0, .ref x), (1, .int p0), (2, .int p1), (3, .int p2), (4, .ref u)] [.int ((op_intr σ p0 p1 p2).2.1), .ref u]
  refine nw_wide (k' := 60) (n' := 700) (by omega) (by omega) ?_
  refine nw_i2l C dX0_intruder_9 10 rfl ?_
  refine nw_putN C hu9 (Or.inr rfl) (T := TX5) (ty0 := tyX5) rfl in_X5 tyX5_ok nmX5 0 (by decide) q640 rfl rfl rfl rfl (Nat.le_of_ble_eq_true rfl) dX0_intruder_10 13 rfl (fun H5 ho6 hz7 hq8 => ?_)
  have ho6 : nwO d u 12 [.long (Int32.toInt64 ((op_intr σ p0 p1 p2).2.1)), sv] H5 := ho6
  have hR8 := hR9.putu hru9 hz7 hq8
  have hz8 : H.size ≤ H5.size := by rw [hz7]; exact hz9
  refine nw_goto C 28 dX0_intruder_13 (by decide) ?_
  refine nw_iconst C (nI 0) dX0_intruder_28 (by decide) 29 rfl ?_
  exact nw_iret C dX0_intruder_29 (by omega) (by omega) ⟨congrArg (fun z => some (Value.int (nI z))) ho9.symm, ok9, hz8, ro9, ad9, hR8, hk9, _, sv, ho6, fun _ => rfl⟩
theorem hX0_intruder : nwPH yX0_intruder cX0_intruder 6 (some .int) [(0, 13, 16, 25), (0, 13, 20, 19), (0, 13, 24, 27)] 5 := ⟨⟨q1180, q85, q1181⟩, by decide +kernel, by decide +kernel, by decide +kernel⟩
set_option maxHeartbeats 4000000 in
theorem mX0_wire (l : Launch) (hf : l.flags = flags0) (d : nwD) (ro ad : Nat → Nat) (x : Nat) (σ : spSg) (sm : Int64) (p0 : Int32) (p1 : Int32) (u : Nat) (ov : Int64) (sv : Value) (H : Heap) (hB : nd_B d ≤ H.size) (hR : nwWR d ro ad x σ sm H) (ok : spOk σ) (hu : nwO d u 12 [.long ov, sv] H) (hru : ro u = 9001) : nwMtH l d yX0_wire cX0_wire 5 (some .int) [(0, 11, 14, 25), (0, 11, 18, 19), (0, 11, 22, 27)] 9 164 4 40 [.ref x, .int p0, .int p1, .ref u] H (nwWv d ro x u sm (op_wire σ p0 p1) H) nwNo (nwAW ro u H) := by
  refine nw_startH "NightwatchWallLaw" "wire" hf (by decide +kernel) rfl rfl (fun _ h => Or.inl (Or.inr h)) (nwAW_B hR hB hru) (Nat.le_of_ble_eq_true rfl) ?_
  intro X C
  have hE := C.E0
  have hnu : ¬ nwAC ro H u := nwAC_u hru hu.lt
  show nwV X _ _ 5 H 0 0 0 [(0, .ref x), (1, .int p0), (2, .int p1), (3, .ref u)] []
  refine nw_aload_n C 3 dX0_wire_0 rfl 1 rfl ?_
  refine nw_aload_n C 0 dX0_wire_1 rfl 2 rfl ?_
  refine nw_iload_n C 1 dX0_wire_2 rfl 3 rfl ?_
  refine nw_iload_n C 2 dX0_wire_3 rfl 4 rfl ?_
  refine nw_callV C (mX1_wire _ C.hfl d ro ad x σ sm p0 p1 H hB hR ok) kX1_wire q1217 (hR.2.1.1.is C (ci := 0) rfl) (As := [.int p0, .int p1]) (rest := [.ref u]) rfl rfl ⟨⟨Nat.le_of_ble_eq_true rfl, Nat.le_of_ble_eq_true rfl⟩, (show 0 + 4 ≤ 4 by omega), (show 0 + 40 ≤ 40 by omega)⟩ (Nat.le_of_ble_eq_true rfl) (fun q8 h8 h9 => Or.inl h9) dX0_wire_4 7 rfl ?_ ?_
  rotate_left
  · intro E9 w9 H1 hR2 hz3 hq4
    obtain ⟨⟨k9, hk9, he9⟩, hx9⟩ := hR2
    rcases k9 with _ | _ | _ | k9
    · have hE9 : E9 = cIO := (Option.some.inj (show some cIO = some E9 from he9)).symm
      subst hE9
      refine nw_catch C (name := cIO) [] [⟨0, 11, 18, 19⟩, ⟨0, 11, 22, 27⟩] ⟨0, 11, 14, 25⟩ rfl (fun z hz => absurd hz List.not_mem_nil) (by decide) (by decide) q772 q819 14 rfl ?_
      refine nw_astore C [(4, .ref w9), (0, .ref x), (1, .int p0), (2, .int p1), (3, .ref u)] dX0_wire_14 (by decide) rfl 16 rfl ?_
      refine nw_iconst C (nI 1) dX0_wire_16 (by decide) 17 rfl ?_
      have hst : (op_wire σ p0 p1).2.2 = σ := op_wire_t σ p0 p1 (by rw [hk9]; exact Nat.succ_ne_zero _)
      exact nw_iret C dX0_wire_17 (by omega) (by omega) ⟨congrArg (fun z => some (Value.int (nI z))) hk9.symm, by rw [hst]; exact ok, hx9.1, ro, ad, by rw [hst]; exact hR.ext hx9, fun _ _ => rfl, ov, sv, hu.ext hx9.2, fun h9 => absurd (h9.symm.trans hk9) (by decide)⟩
    · have hE9 : E9 = cIA := (Option.some.inj (show some cIA = some E9 from he9)).symm
      subst hE9
      refine nw_catch C (name := cIA) [⟨0, 11, 14, 25⟩] [⟨0, 11, 22, 27⟩] ⟨0, 11, 18, 19⟩ rfl (fun z hz => by
            simp only [List.mem_cons, List.not_mem_nil, or_false] at hz
            rcases hz with rfl
            · exact Or.inr ⟨by decide, _, q772, C.hE.1.2.2.2.2.2.2.2.2.1⟩) (by decide) (by decide) q650 q660 18 rfl ?_
      refine nw_astore C [(4, .ref w9), (0, .ref x), (1, .int p0), (2, .int p1), (3, .ref u)] dX0_wire_18 (by decide) rfl 20 rfl ?_
      refine nw_iconst C (nI 2) dX0_wire_20 (by decide) 21 rfl ?_
      have hst : (op_wire σ p0 p1).2.2 = σ := op_wire_t σ p0 p1 (by rw [hk9]; exact Nat.succ_ne_zero _)
      exact nw_iret C dX0_wire_21 (by omega) (by omega) ⟨congrArg (fun z => some (Value.int (nI z))) hk9.symm, by rw [hst]; exact ok, hx9.1, ro, ad, by rw [hst]; exact hR.ext hx9, fun _ _ => rfl, ov, sv, hu.ext hx9.2, fun h9 => absurd (h9.symm.trans hk9) (by decide)⟩
    · have hE9 : E9 = cIS := (Option.some.inj (show some cIS = some E9 from he9)).symm
      subst hE9
      refine nw_catch C (name := cIS) [⟨0, 11, 14, 25⟩, ⟨0, 11, 18, 19⟩] [] ⟨0, 11, 22, 27⟩ rfl (fun z hz => by
            simp only [List.mem_cons, List.not_mem_nil, or_false] at hz
            rcases hz with rfl | rfl
            · exact Or.inr ⟨by decide, _, q772, C.hE.1.2.2.2.2.2.2.2.2.2.1⟩
            · exact Or.inr ⟨by decide, _, q650, C.hE.1.2.2.2.2.2.2.2.2.2.2⟩) (by decide) (by decide) q805 q837 22 rfl ?_
      refine nw_astore C [(4, .ref w9), (0, .ref x), (1, .int p0), (2, .int p1), (3, .ref u)] dX0_wire_22 (by decide) rfl 24 rfl ?_
      refine nw_iconst C (nI 3) dX0_wire_24 (by decide) 25 rfl ?_
      have hst : (op_wire σ p0 p1).2.2 = σ := op_wire_t σ p0 p1 (by rw [hk9]; exact Nat.succ_ne_zero _)
      exact nw_iret C dX0_wire_25 (by omega) (by omega) ⟨congrArg (fun z => some (Value.int (nI z))) hk9.symm, by rw [hst]; exact ok, hx9.1, ro, ad, by rw [hst]; exact hR.ext hx9, fun _ _ => rfl, ov, sv, hu.ext hx9.2, fun h9 => absurd (h9.symm.trans hk9) (by decide)⟩
    · cases (show (none : Option String) = some E9 from he9)
  intro v9 H1 hR2 hz3 hq4
  obtain ⟨⟨ho9, rfl⟩, ok9, hz9, ro9, ad9, hR9, hk9⟩ := hR2
  have hu9 := hu.kept (hq4 _ hu.lt hnu)
  have hru9 : ro9 u = 9001 := nw_rt hk9 hru (by decide)
  show nwV X _ _ 5 H1 (0 + 4) (0 + 40) 7 [(0, .ref x), (1, .int p0), (2, .int p1), (3, .ref u)] [.int ((op_wire σ p0 p1).2.1), .ref u]
  refine nw_wide (k' := 4) (n' := 40) (by omega) (by omega) ?_
  refine nw_i2l C dX0_wire_7 8 rfl ?_
  refine nw_putN C hu9 (Or.inr rfl) (T := TX5) (ty0 := tyX5) rfl in_X5 tyX5_ok nmX5 0 (by decide) q640 rfl rfl rfl rfl (Nat.le_of_ble_eq_true rfl) dX0_wire_8 11 rfl (fun H5 ho6 hz7 hq8 => ?_)
  have ho6 : nwO d u 12 [.long (Int32.toInt64 ((op_wire σ p0 p1).2.1)), sv] H5 := ho6
  have hR8 := hR9.putu hru9 hz7 hq8
  have hz8 : H.size ≤ H5.size := by rw [hz7]; exact hz9
  refine nw_goto C 26 dX0_wire_11 (by decide) ?_
  refine nw_iconst C (nI 0) dX0_wire_26 (by decide) 27 rfl ?_
  exact nw_iret C dX0_wire_27 (by omega) (by omega) ⟨congrArg (fun z => some (Value.int (nI z))) ho9.symm, ok9, hz8, ro9, ad9, hR8, hk9, _, sv, ho6, fun _ => rfl⟩
theorem hX0_wire : nwPH yX0_wire cX0_wire 5 (some .int) [(0, 11, 14, 25), (0, 11, 18, 19), (0, 11, 22, 27)] 4 := ⟨⟨q1215, q85, q1216⟩, by decide +kernel, by decide +kernel, by decide +kernel⟩
set_option maxHeartbeats 4000000 in
theorem mX0_where (l : Launch) (hf : l.flags = flags0) (d : nwD) (ro ad : Nat → Nat) (x : Nat) (σ : spSg) (sm : Int64) (p0 : Int32) (p1 : Int32) (u : Nat) (ov : Int64) (sv : Value) (H : Heap) (hB : nd_B d ≤ H.size) (hR : nwWR d ro ad x σ sm H) (ok : spOk σ) (hu : nwO d u 12 [.long ov, sv] H) (hru : ro u = 9001) : nwMtH l d yX0_where cX0_where 5 (some .int) [(0, 11, 14, 25), (0, 11, 18, 19)] 9 165 2 12 [.ref x, .int p0, .int p1, .ref u] H (nwWv d ro x u sm ((op_where σ p0 p1).1, (op_where σ p0 p1).2, σ) H) nwNo (nwAW ro u H) := by
  refine nw_startH "NightwatchWallLaw" "where" hf (by decide +kernel) rfl rfl (fun _ h => Or.inl (Or.inr h)) (nwAW_B hR hB hru) (Nat.le_of_ble_eq_true rfl) ?_
  intro X C
  have hE := C.E0
  have hnu : ¬ nwAC ro H u := nwAC_u hru hu.lt
  show nwV X _ _ 5 H 0 0 0 [(0, .ref x), (1, .int p0), (2, .int p1), (3, .ref u)] []
  refine nw_aload_n C 3 dX0_where_0 rfl 1 rfl ?_
  refine nw_aload_n C 0 dX0_where_1 rfl 2 rfl ?_
  refine nw_iload_n C 1 dX0_where_2 rfl 3 rfl ?_
  refine nw_iload_n C 2 dX0_where_3 rfl 4 rfl ?_
  refine nw_callV C (mX1_where _ C.hfl d ro ad x σ sm p0 p1 H hB hR.wc ok) kX1_where q1238 (hR.2.1.1.is C (ci := 0) rfl) (As := [.int p0, .int p1]) (rest := [.ref u]) rfl rfl ⟨⟨Nat.le_of_ble_eq_true rfl, Nat.le_of_ble_eq_true rfl⟩, (show 0 + 2 ≤ 2 by omega), (show 0 + 12 ≤ 12 by omega)⟩ (Nat.le_of_ble_eq_true rfl) (fun q8 h8 h9 => absurd h8 (Nat.not_lt.mpr h9)) dX0_where_4 7 rfl ?_ ?_
  rotate_left
  · intro E9 w9 H1 hR2 hz3 hq4
    obtain ⟨⟨k9, hk9, he9⟩, hx9⟩ := hR2
    rcases k9 with _ | _ | k9
    · have hE9 : E9 = cIO := (Option.some.inj (show some cIO = some E9 from he9)).symm
      subst hE9
      refine nw_catch C (name := cIO) [] [⟨0, 11, 18, 19⟩] ⟨0, 11, 14, 25⟩ rfl (fun z hz => absurd hz List.not_mem_nil) (by decide) (by decide) q772 q819 14 rfl ?_
      refine nw_astore C [(4, .ref w9), (0, .ref x), (1, .int p0), (2, .int p1), (3, .ref u)] dX0_where_14 (by decide) rfl 16 rfl ?_
      refine nw_iconst C (nI 1) dX0_where_16 (by decide) 17 rfl ?_
      exact nw_iret C dX0_where_17 (by omega) (by omega) ⟨congrArg (fun z => some (Value.int (nI z))) hk9.symm, ok, hx9.1, ro, ad, hR.ext hx9, fun _ _ => rfl, ov, sv, hu.ext hx9.2, fun h9 => absurd (h9.symm.trans hk9) (by decide)⟩
    · have hE9 : E9 = cIA := (Option.some.inj (show some cIA = some E9 from he9)).symm
      subst hE9
      refine nw_catch C (name := cIA) [⟨0, 11, 14, 25⟩] [] ⟨0, 11, 18, 19⟩ rfl (fun z hz => by
            simp only [List.mem_cons, List.not_mem_nil, or_false] at hz
            rcases hz with rfl
            · exact Or.inr ⟨by decide, _, q772, C.hE.1.2.2.2.2.2.2.2.2.1⟩) (by decide) (by decide) q650 q660 18 rfl ?_
      refine nw_astore C [(4, .ref w9), (0, .ref x), (1, .int p0), (2, .int p1), (3, .ref u)] dX0_where_18 (by decide) rfl 20 rfl ?_
      refine nw_iconst C (nI 2) dX0_where_20 (by decide) 21 rfl ?_
      exact nw_iret C dX0_where_21 (by omega) (by omega) ⟨congrArg (fun z => some (Value.int (nI z))) hk9.symm, ok, hx9.1, ro, ad, hR.ext hx9, fun _ _ => rfl, ov, sv, hu.ext hx9.2, fun h9 => absurd (h9.symm.trans hk9) (by decide)⟩
    · cases (show (none : Option String) = some E9 from he9)
  intro v9 H1 hR2 hz3 hq4
  obtain ⟨⟨ho9, rfl⟩, hx9⟩ := hR2
  have hR9 := hR.ext hx9
  have hz9 := hx9.1
  have hu9 := hu.ext hx9.2
  have hru9 := hru
  show nwV X _ _ 5 H1 (0 + 2) (0 + 12) 7 [(0, .ref x), (1, .int p0), (2, .int p1), (3, .ref u)] [.int ((op_where σ p0 p1).2), .ref u]
  refine nw_wide (k' := 2) (n' := 12) (by omega) (by omega) ?_
  refine nw_i2l C dX0_where_7 8 rfl ?_
  refine nw_putN C hu9 (Or.inr rfl) (T := TX5) (ty0 := tyX5) rfl in_X5 tyX5_ok nmX5 0 (by decide) q640 rfl rfl rfl rfl (Nat.le_of_ble_eq_true rfl) dX0_where_8 11 rfl (fun H5 ho6 hz7 hq8 => ?_)
  have ho6 : nwO d u 12 [.long (Int32.toInt64 ((op_where σ p0 p1).2)), sv] H5 := ho6
  have hR8 := hR9.putu hru9 hz7 hq8
  have hz8 : H.size ≤ H5.size := by rw [hz7]; exact hz9
  refine nw_goto C 22 dX0_where_11 (by decide) ?_
  refine nw_iconst C (nI 0) dX0_where_22 (by decide) 23 rfl ?_
  exact nw_iret C dX0_where_23 (by omega) (by omega) ⟨congrArg (fun z => some (Value.int (nI z))) ho9.symm, ok, hz8, ro, ad, hR8, fun _ _ => rfl, _, sv, ho6, fun _ => rfl⟩
theorem hX0_where : nwPH yX0_where cX0_where 5 (some .int) [(0, 11, 14, 25), (0, 11, 18, 19)] 4 := ⟨⟨q1236, q85, q1237⟩, by decide +kernel, by decide +kernel, by decide +kernel⟩
set_option maxHeartbeats 4000000 in
theorem mX0_ofIntruder (l : Launch) (hf : l.flags = flags0) (d : nwD) (ro ad : Nat → Nat) (x : Nat) (σ : spSg) (sm : Int64) (p0 : Int32) (p1 : Int32) (u : Nat) (ov : Int64) (sv : Value) (H : Heap) (hB : nd_B d ≤ H.size) (hR : nwWR d ro ad x σ sm H) (ok : spOk σ) (hu : nwO d u 12 [.long ov, sv] H) (hru : ro u = 9001) : nwMtH l d yX0_ofIntruder cX0_ofIntruder 5 (some .int) [(0, 11, 14, 25), (0, 11, 18, 19)] 12 277 14 780 [.ref x, .int p0, .int p1, .ref u] H (nwWv d ro x u sm ((op_ofIntr σ p0 p1).1, (op_ofIntr σ p0 p1).2, σ) H) nwNo (nwAW ro u H) := by
  refine nw_startH "NightwatchWallLaw" "ofIntruder" hf (by decide +kernel) rfl rfl (fun _ h => Or.inl (Or.inr h)) (nwAW_B hR hB hru) (Nat.le_of_ble_eq_true rfl) ?_
  intro X C
  have hE := C.E0
  have hnu : ¬ nwAC ro H u := nwAC_u hru hu.lt
  show nwV X _ _ 5 H 0 0 0 [(0, .ref x), (1, .int p0), (2, .int p1), (3, .ref u)] []
  refine nw_aload_n C 3 dX0_ofIntruder_0 rfl 1 rfl ?_
  refine nw_aload_n C 0 dX0_ofIntruder_1 rfl 2 rfl ?_
  refine nw_iload_n C 1 dX0_ofIntruder_2 rfl 3 rfl ?_
  refine nw_iload_n C 2 dX0_ofIntruder_3 rfl 4 rfl ?_
  refine nw_callV C (mX1_ofIntruder _ C.hfl d ro ad x σ sm p0 p1 H hB hR.wc ok) kX1_ofIntruder q1249 (hR.2.1.1.is C (ci := 0) rfl) (As := [.int p0, .int p1]) (rest := [.ref u]) rfl rfl ⟨⟨Nat.le_of_ble_eq_true rfl, Nat.le_of_ble_eq_true rfl⟩, (show 0 + 14 ≤ 14 by omega), (show 0 + 780 ≤ 780 by omega)⟩ (Nat.le_of_ble_eq_true rfl) (fun q8 h8 h9 => absurd h8 (Nat.not_lt.mpr h9)) dX0_ofIntruder_4 7 rfl ?_ ?_
  rotate_left
  · intro E9 w9 H1 hR2 hz3 hq4
    obtain ⟨⟨k9, hk9, he9⟩, hx9⟩ := hR2
    rcases k9 with _ | _ | k9
    · have hE9 : E9 = cIO := (Option.some.inj (show some cIO = some E9 from he9)).symm
      subst hE9
      refine nw_catch C (name := cIO) [] [⟨0, 11, 18, 19⟩] ⟨0, 11, 14, 25⟩ rfl (fun z hz => absurd hz List.not_mem_nil) (by decide) (by decide) q772 q819 14 rfl ?_
      refine nw_astore C [(4, .ref w9), (0, .ref x), (1, .int p0), (2, .int p1), (3, .ref u)] dX0_ofIntruder_14 (by decide) rfl 16 rfl ?_
      refine nw_iconst C (nI 1) dX0_ofIntruder_16 (by decide) 17 rfl ?_
      exact nw_iret C dX0_ofIntruder_17 (by omega) (by omega) ⟨congrArg (fun z => some (Value.int (nI z))) hk9.symm, ok, hx9.1, ro, ad, hR.ext hx9, fun _ _ => rfl, ov, sv, hu.ext hx9.2, fun h9 => absurd (h9.symm.trans hk9) (by decide)⟩
    · have hE9 : E9 = cIA := (Option.some.inj (show some cIA = some E9 from he9)).symm
      subst hE9
      refine nw_catch C (name := cIA) [⟨0, 11, 14, 25⟩] [] ⟨0, 11, 18, 19⟩ rfl (fun z hz => by
            simp only [List.mem_cons, List.not_mem_nil, or_false] at hz
            rcases hz with rfl
            · exact Or.inr ⟨by decide, _, q772, C.hE.1.2.2.2.2.2.2.2.2.1⟩) (by decide) (by decide) q650 q660 18 rfl ?_
      refine nw_astore C [(4, .ref w9), (0, .ref x), (1, .int p0), (2, .int p1), (3, .ref u)] dX0_ofIntruder_18 (by decide) rfl 20 rfl ?_
      refine nw_iconst C (nI 2) dX0_ofIntruder_20 (by decide) 21 rfl ?_
      exact nw_iret C dX0_ofIntruder_21 (by omega) (by omega) ⟨congrArg (fun z => some (Value.int (nI z))) hk9.symm, ok, hx9.1, ro, ad, hR.ext hx9, fun _ _ => rfl, ov, sv, hu.ext hx9.2, fun h9 => absurd (h9.symm.trans hk9) (by decide)⟩
    · cases (show (none : Option String) = some E9 from he9)
  intro v9 H1 hR2 hz3 hq4
  obtain ⟨⟨ho9, rfl⟩, hx9⟩ := hR2
  have hR9 := hR.ext hx9
  have hz9 := hx9.1
  have hu9 := hu.ext hx9.2
  have hru9 := hru
  show nwV X _ _ 5 H1 (0 + 14) (0 + 780) 7 [(0, .ref x), (1, .int p0), (2, .int p1), (3, .ref u)] [.int ((op_ofIntr σ p0 p1).2), .ref u]
  refine nw_wide (k' := 14) (n' := 780) (by omega) (by omega) ?_
  refine nw_i2l C dX0_ofIntruder_7 8 rfl ?_
  refine nw_putN C hu9 (Or.inr rfl) (T := TX5) (ty0 := tyX5) rfl in_X5 tyX5_ok nmX5 0 (by decide) q640 rfl rfl rfl rfl (Nat.le_of_ble_eq_true rfl) dX0_ofIntruder_8 11 rfl (fun H5 ho6 hz7 hq8 => ?_)
  have ho6 : nwO d u 12 [.long (Int32.toInt64 ((op_ofIntr σ p0 p1).2)), sv] H5 := ho6
  have hR8 := hR9.putu hru9 hz7 hq8
  have hz8 : H.size ≤ H5.size := by rw [hz7]; exact hz9
  refine nw_goto C 22 dX0_ofIntruder_11 (by decide) ?_
  refine nw_iconst C (nI 0) dX0_ofIntruder_22 (by decide) 23 rfl ?_
  exact nw_iret C dX0_ofIntruder_23 (by omega) (by omega) ⟨congrArg (fun z => some (Value.int (nI z))) ho9.symm, ok, hz8, ro, ad, hR8, fun _ _ => rfl, _, sv, ho6, fun _ => rfl⟩
theorem hX0_ofIntruder : nwPH yX0_ofIntruder cX0_ofIntruder 5 (some .int) [(0, 11, 14, 25), (0, 11, 18, 19)] 4 := ⟨⟨q1247, q85, q1248⟩, by decide +kernel, by decide +kernel, by decide +kernel⟩
set_option maxHeartbeats 4000000 in
theorem mX0_force (l : Launch) (hf : l.flags = flags0) (d : nwD) (ro ad : Nat → Nat) (x : Nat) (σ : spSg) (sm : Int64) (p0 : Int32) (p1 : Int32) (p2 : Int32) (u : Nat) (ov : Int64) (sv : Value) (H : Heap) (hB : nd_B d ≤ H.size) (hR : nwWR d ro ad x σ sm H) (ok : spOk σ) (hu : nwO d u 12 [.long ov, sv] H) (hru : ro u = 9001) : nwMtH l d yX0_force cX0_force 6 (some .int) [(0, 13, 16, 25), (0, 13, 20, 19), (0, 13, 24, 27)] 10 229 4 30 [.ref x, .int p0, .int p1, .int p2, .ref u] H (nwWv d ro x u sm (op_force σ p0 p1 p2) H) nwNo (nwAW ro u H) := by
  refine nw_startH "NightwatchWallLaw" "force" hf (by decide +kernel) rfl rfl (fun _ h => Or.inl (Or.inr h)) (nwAW_B hR hB hru) (Nat.le_of_ble_eq_true rfl) ?_
  intro X C
  have hE := C.E0
  have hnu : ¬ nwAC ro H u := nwAC_u hru hu.lt
  show nwV X _ _ 6 H 0 0 0 [(0, .ref x), (1, .int p0), (2, .int p1), (3, .int p2), (4, .ref u)] []
  refine nw_aload C 4 dX0_force_0 rfl 2 rfl ?_
  refine nw_aload_n C 0 dX0_force_2 rfl 3 rfl ?_
  refine nw_iload_n C 1 dX0_force_3 rfl 4 rfl ?_
  refine nw_iload_n C 2 dX0_force_4 rfl 5 rfl ?_
  refine nw_iload_n C 3 dX0_force_5 rfl 6 rfl ?_
  refine nw_callV C (mX1_force _ C.hfl d ro ad x σ sm p0 p1 p2 H hB hR ok) kX1_force q1256 (hR.2.1.1.is C (ci := 0) rfl) (As := [.int p0, .int p1, .int p2]) (rest := [.ref u]) rfl rfl ⟨⟨Nat.le_of_ble_eq_true rfl, Nat.le_of_ble_eq_true rfl⟩, (show 0 + 4 ≤ 4 by omega), (show 0 + 30 ≤ 30 by omega)⟩ (Nat.le_of_ble_eq_true rfl) (fun q8 h8 h9 => Or.inl h9) dX0_force_6 9 rfl ?_ ?_
  rotate_left
  · intro E9 w9 H1 hR2 hz3 hq4
    obtain ⟨⟨k9, hk9, he9⟩, hx9⟩ := hR2
    rcases k9 with _ | _ | _ | k9
    · have hE9 : E9 = cIO := (Option.some.inj (show some cIO = some E9 from he9)).symm
      subst hE9
      refine nw_catch C (name := cIO) [] [⟨0, 13, 20, 19⟩, ⟨0, 13, 24, 27⟩] ⟨0, 13, 16, 25⟩ rfl (fun z hz => absurd hz List.not_mem_nil) (by decide) (by decide) q772 q819 16 rfl ?_
      refine nw_astore C [(5, .ref w9), (0, .ref x), (1, .int p0), (2, .int p1), (3, .int p2), (4, .ref u)] dX0_force_16 (by decide) rfl 18 rfl ?_
      refine nw_iconst C (nI 1) dX0_force_18 (by decide) 19 rfl ?_
      have hst : (op_force σ p0 p1 p2).2.2 = σ := op_force_t σ p0 p1 p2 (by rw [hk9]; exact Nat.succ_ne_zero _)
      exact nw_iret C dX0_force_19 (by omega) (by omega) ⟨congrArg (fun z => some (Value.int (nI z))) hk9.symm, by rw [hst]; exact ok, hx9.1, ro, ad, by rw [hst]; exact hR.ext hx9, fun _ _ => rfl, ov, sv, hu.ext hx9.2, fun h9 => absurd (h9.symm.trans hk9) (by decide)⟩
    · have hE9 : E9 = cIA := (Option.some.inj (show some cIA = some E9 from he9)).symm
      subst hE9
      refine nw_catch C (name := cIA) [⟨0, 13, 16, 25⟩] [⟨0, 13, 24, 27⟩] ⟨0, 13, 20, 19⟩ rfl (fun z hz => by
            simp only [List.mem_cons, List.not_mem_nil, or_false] at hz
            rcases hz with rfl
            · exact Or.inr ⟨by decide, _, q772, C.hE.1.2.2.2.2.2.2.2.2.1⟩) (by decide) (by decide) q650 q660 20 rfl ?_
      refine nw_astore C [(5, .ref w9), (0, .ref x), (1, .int p0), (2, .int p1), (3, .int p2), (4, .ref u)] dX0_force_20 (by decide) rfl 22 rfl ?_
      refine nw_iconst C (nI 2) dX0_force_22 (by decide) 23 rfl ?_
      have hst : (op_force σ p0 p1 p2).2.2 = σ := op_force_t σ p0 p1 p2 (by rw [hk9]; exact Nat.succ_ne_zero _)
      exact nw_iret C dX0_force_23 (by omega) (by omega) ⟨congrArg (fun z => some (Value.int (nI z))) hk9.symm, by rw [hst]; exact ok, hx9.1, ro, ad, by rw [hst]; exact hR.ext hx9, fun _ _ => rfl, ov, sv, hu.ext hx9.2, fun h9 => absurd (h9.symm.trans hk9) (by decide)⟩
    · have hE9 : E9 = cIS := (Option.some.inj (show some cIS = some E9 from he9)).symm
      subst hE9
      refine nw_catch C (name := cIS) [⟨0, 13, 16, 25⟩, ⟨0, 13, 20, 19⟩] [] ⟨0, 13, 24, 27⟩ rfl (fun z hz => by
            simp only [List.mem_cons, List.not_mem_nil, or_false] at hz
            rcases hz with rfl | rfl
            · exact Or.inr ⟨by decide, _, q772, C.hE.1.2.2.2.2.2.2.2.2.2.1⟩
            · exact Or.inr ⟨by decide, _, q650, C.hE.1.2.2.2.2.2.2.2.2.2.2⟩) (by decide) (by decide) q805 q837 24 rfl ?_
      refine nw_astore C [(5, .ref w9), (0, .ref x), (1, .int p0), (2, .int p1), (3, .int p2), (4, .ref u)] dX0_force_24 (by decide) rfl 26 rfl ?_
      refine nw_iconst C (nI 3) dX0_force_26 (by decide) 27 rfl ?_
      have hst : (op_force σ p0 p1 p2).2.2 = σ := op_force_t σ p0 p1 p2 (by rw [hk9]; exact Nat.succ_ne_zero _)
      exact nw_iret C dX0_force_27 (by omega) (by omega) ⟨congrArg (fun z => some (Value.int (nI z))) hk9.symm, by rw [hst]; exact ok, hx9.1, ro, ad, by rw [hst]; exact hR.ext hx9, fun _ _ => rfl, ov, sv, hu.ext hx9.2, fun h9 => absurd (h9.symm.trans hk9) (by decide)⟩
    · cases (show (none : Option String) = some E9 from he9)
  intro v9 H1 hR2 hz3 hq4
  obtain ⟨⟨ho9, rfl⟩, ok9, hz9, ro9, ad9, hR9, hk9⟩ := hR2
  have hu9 := hu.kept (hq4 _ hu.lt hnu)
  have hru9 : ro9 u = 9001 := nw_rt hk9 hru (by decide)
  show nwV X _ _ 6 H1 (0 + 4) (0 + 30) 9 [(0, .ref x), (1, .int p0), (2, .int p1), (3, .int p2), (4, .ref u)] [.int ((op_force σ p0 p1 p2).2.1), .ref u]
  refine nw_wide (k' := 4) (n' := 30) (by omega) (by omega) ?_
  refine nw_i2l C dX0_force_9 10 rfl ?_
  refine nw_putN C hu9 (Or.inr rfl) (T := TX5) (ty0 := tyX5) rfl in_X5 tyX5_ok nmX5 0 (by decide) q640 rfl rfl rfl rfl (Nat.le_of_ble_eq_true rfl) dX0_force_10 13 rfl (fun H5 ho6 hz7 hq8 => ?_)
  have ho6 : nwO d u 12 [.long (Int32.toInt64 ((op_force σ p0 p1 p2).2.1)), sv] H5 := ho6
  have hR8 := hR9.putu hru9 hz7 hq8
  have hz8 : H.size ≤ H5.size := by rw [hz7]; exact hz9
  refine nw_goto C 28 dX0_force_13 (by decide) ?_
  refine nw_iconst C (nI 0) dX0_force_28 (by decide) 29 rfl ?_
  exact nw_iret C dX0_force_29 (by omega) (by omega) ⟨congrArg (fun z => some (Value.int (nI z))) ho9.symm, ok9, hz8, ro9, ad9, hR8, hk9, _, sv, ho6, fun _ => rfl⟩
theorem hX0_force : nwPH yX0_force cX0_force 6 (some .int) [(0, 13, 16, 25), (0, 13, 20, 19), (0, 13, 24, 27)] 5 := ⟨⟨q1254, q85, q1255⟩, by decide +kernel, by decide +kernel, by decide +kernel⟩
set_option maxHeartbeats 4000000 in
theorem mX0_ofWire (l : Launch) (hf : l.flags = flags0) (d : nwD) (ro ad : Nat → Nat) (x : Nat) (σ : spSg) (sm : Int64) (p0 : Int32) (p1 : Int32) (u : Nat) (ov : Int64) (sv : Value) (H : Heap) (hB : nd_B d ≤ H.size) (hR : nwWR d ro ad x σ sm H) (ok : spOk σ) (hu : nwO d u 12 [.long ov, sv] H) (hru : ro u = 9001) : nwMtH l d yX0_ofWire cX0_ofWire 5 (some .int) [(0, 11, 14, 25), (0, 11, 18, 19)] 8 178 2 12 [.ref x, .int p0, .int p1, .ref u] H (nwWv d ro x u sm ((op_ofWire σ p0 p1).1, (op_ofWire σ p0 p1).2, σ) H) nwNo (nwAW ro u H) := by
  refine nw_startH "NightwatchWallLaw" "ofWire" hf (by decide +kernel) rfl rfl (fun _ h => Or.inl (Or.inr h)) (nwAW_B hR hB hru) (Nat.le_of_ble_eq_true rfl) ?_
  intro X C
  have hE := C.E0
  have hnu : ¬ nwAC ro H u := nwAC_u hru hu.lt
  show nwV X _ _ 5 H 0 0 0 [(0, .ref x), (1, .int p0), (2, .int p1), (3, .ref u)] []
  refine nw_aload_n C 3 dX0_ofWire_0 rfl 1 rfl ?_
  refine nw_aload_n C 0 dX0_ofWire_1 rfl 2 rfl ?_
  refine nw_iload_n C 1 dX0_ofWire_2 rfl 3 rfl ?_
  refine nw_iload_n C 2 dX0_ofWire_3 rfl 4 rfl ?_
  refine nw_callV C (mX1_ofWire _ C.hfl d ro ad x σ sm p0 p1 H hB hR.wc ok) kX1_ofWire q1263 (hR.2.1.1.is C (ci := 0) rfl) (As := [.int p0, .int p1]) (rest := [.ref u]) rfl rfl ⟨⟨Nat.le_of_ble_eq_true rfl, Nat.le_of_ble_eq_true rfl⟩, (show 0 + 2 ≤ 2 by omega), (show 0 + 12 ≤ 12 by omega)⟩ (Nat.le_of_ble_eq_true rfl) (fun q8 h8 h9 => absurd h8 (Nat.not_lt.mpr h9)) dX0_ofWire_4 7 rfl ?_ ?_
  rotate_left
  · intro E9 w9 H1 hR2 hz3 hq4
    obtain ⟨⟨k9, hk9, he9⟩, hx9⟩ := hR2
    rcases k9 with _ | _ | k9
    · have hE9 : E9 = cIO := (Option.some.inj (show some cIO = some E9 from he9)).symm
      subst hE9
      refine nw_catch C (name := cIO) [] [⟨0, 11, 18, 19⟩] ⟨0, 11, 14, 25⟩ rfl (fun z hz => absurd hz List.not_mem_nil) (by decide) (by decide) q772 q819 14 rfl ?_
      refine nw_astore C [(4, .ref w9), (0, .ref x), (1, .int p0), (2, .int p1), (3, .ref u)] dX0_ofWire_14 (by decide) rfl 16 rfl ?_
      refine nw_iconst C (nI 1) dX0_ofWire_16 (by decide) 17 rfl ?_
      exact nw_iret C dX0_ofWire_17 (by omega) (by omega) ⟨congrArg (fun z => some (Value.int (nI z))) hk9.symm, ok, hx9.1, ro, ad, hR.ext hx9, fun _ _ => rfl, ov, sv, hu.ext hx9.2, fun h9 => absurd (h9.symm.trans hk9) (by decide)⟩
    · have hE9 : E9 = cIA := (Option.some.inj (show some cIA = some E9 from he9)).symm
      subst hE9
      refine nw_catch C (name := cIA) [⟨0, 11, 14, 25⟩] [] ⟨0, 11, 18, 19⟩ rfl (fun z hz => by
            simp only [List.mem_cons, List.not_mem_nil, or_false] at hz
            rcases hz with rfl
            · exact Or.inr ⟨by decide, _, q772, C.hE.1.2.2.2.2.2.2.2.2.1⟩) (by decide) (by decide) q650 q660 18 rfl ?_
      refine nw_astore C [(4, .ref w9), (0, .ref x), (1, .int p0), (2, .int p1), (3, .ref u)] dX0_ofWire_18 (by decide) rfl 20 rfl ?_
      refine nw_iconst C (nI 2) dX0_ofWire_20 (by decide) 21 rfl ?_
      exact nw_iret C dX0_ofWire_21 (by omega) (by omega) ⟨congrArg (fun z => some (Value.int (nI z))) hk9.symm, ok, hx9.1, ro, ad, hR.ext hx9, fun _ _ => rfl, ov, sv, hu.ext hx9.2, fun h9 => absurd (h9.symm.trans hk9) (by decide)⟩
    · cases (show (none : Option String) = some E9 from he9)
  intro v9 H1 hR2 hz3 hq4
  obtain ⟨⟨ho9, rfl⟩, hx9⟩ := hR2
  have hR9 := hR.ext hx9
  have hz9 := hx9.1
  have hu9 := hu.ext hx9.2
  have hru9 := hru
  show nwV X _ _ 5 H1 (0 + 2) (0 + 12) 7 [(0, .ref x), (1, .int p0), (2, .int p1), (3, .ref u)] [.int ((op_ofWire σ p0 p1).2), .ref u]
  refine nw_wide (k' := 2) (n' := 12) (by omega) (by omega) ?_
  refine nw_i2l C dX0_ofWire_7 8 rfl ?_
  refine nw_putN C hu9 (Or.inr rfl) (T := TX5) (ty0 := tyX5) rfl in_X5 tyX5_ok nmX5 0 (by decide) q640 rfl rfl rfl rfl (Nat.le_of_ble_eq_true rfl) dX0_ofWire_8 11 rfl (fun H5 ho6 hz7 hq8 => ?_)
  have ho6 : nwO d u 12 [.long (Int32.toInt64 ((op_ofWire σ p0 p1).2)), sv] H5 := ho6
  have hR8 := hR9.putu hru9 hz7 hq8
  have hz8 : H.size ≤ H5.size := by rw [hz7]; exact hz9
  refine nw_goto C 22 dX0_ofWire_11 (by decide) ?_
  refine nw_iconst C (nI 0) dX0_ofWire_22 (by decide) 23 rfl ?_
  exact nw_iret C dX0_ofWire_23 (by omega) (by omega) ⟨congrArg (fun z => some (Value.int (nI z))) ho9.symm, ok, hz8, ro, ad, hR8, fun _ _ => rfl, _, sv, ho6, fun _ => rfl⟩
theorem hX0_ofWire : nwPH yX0_ofWire cX0_ofWire 5 (some .int) [(0, 11, 14, 25), (0, 11, 18, 19)] 4 := ⟨⟨q1261, q85, q1262⟩, by decide +kernel, by decide +kernel, by decide +kernel⟩
set_option maxHeartbeats 4000000 in
theorem mX0_sneak (l : Launch) (hf : l.flags = flags0) (d : nwD) (ro ad : Nat → Nat) (x : Nat) (σ : spSg) (sm : Int64) (p0 : Int32) (p1 : Int32) (p2 : Int32) (p3 : Int32) (u : Nat) (ov : Int64) (sv : Value) (H : Heap) (hB : nd_B d ≤ H.size) (hR : nwWR d ro ad x σ sm H) (ok : spOk σ) (hu : nwO d u 12 [.long ov, sv] H) (hru : ro u = 9001) : nwMtH l d yX0_sneak cX0_sneak 7 (some .int) [(0, 15, 18, 25), (0, 15, 22, 19)] 11 257 66 4050 [.ref x, .int p0, .int p1, .int p2, .int p3, .ref u] H (nwWv d ro x u sm ((op_sneak σ p0 p1 p2 p3).1, (op_sneak σ p0 p1 p2 p3).2, σ) H) nwNo (nwAW ro u H) := by
  refine nw_startH "NightwatchWallLaw" "sneak" hf (by decide +kernel) rfl rfl (fun _ h => Or.inl (Or.inr h)) (nwAW_B hR hB hru) (Nat.le_of_ble_eq_true rfl) ?_
  intro X C
  have hE := C.E0
  have hnu : ¬ nwAC ro H u := nwAC_u hru hu.lt
  show nwV X _ _ 7 H 0 0 0 [(0, .ref x), (1, .int p0), (2, .int p1), (3, .int p2), (4, .int p3), (5, .ref u)] []
  refine nw_aload C 5 dX0_sneak_0 rfl 2 rfl ?_
  refine nw_aload_n C 0 dX0_sneak_2 rfl 3 rfl ?_
  refine nw_iload_n C 1 dX0_sneak_3 rfl 4 rfl ?_
  refine nw_iload_n C 2 dX0_sneak_4 rfl 5 rfl ?_
  refine nw_iload_n C 3 dX0_sneak_5 rfl 6 rfl ?_
  refine nw_iload C 4 dX0_sneak_6 rfl 8 rfl ?_
  refine nw_callV C (mX1_sneak _ C.hfl d ro ad x σ sm p0 p1 p2 p3 H hB hR.wc ok) kX1_sneak q1270 (hR.2.1.1.is C (ci := 0) rfl) (As := [.int p0, .int p1, .int p2, .int p3]) (rest := [.ref u]) rfl rfl ⟨⟨Nat.le_of_ble_eq_true rfl, Nat.le_of_ble_eq_true rfl⟩, (show 0 + 66 ≤ 66 by omega), (show 0 + 4050 ≤ 4050 by omega)⟩ (Nat.le_of_ble_eq_true rfl) (fun q8 h8 h9 => absurd h8 (Nat.not_lt.mpr h9)) dX0_sneak_8 11 rfl ?_ ?_
  rotate_left
  · intro E9 w9 H1 hR2 hz3 hq4
    obtain ⟨⟨k9, hk9, he9⟩, hx9⟩ := hR2
    rcases k9 with _ | _ | k9
    · have hE9 : E9 = cIO := (Option.some.inj (show some cIO = some E9 from he9)).symm
      subst hE9
      refine nw_catch C (name := cIO) [] [⟨0, 15, 22, 19⟩] ⟨0, 15, 18, 25⟩ rfl (fun z hz => absurd hz List.not_mem_nil) (by decide) (by decide) q772 q819 18 rfl ?_
      refine nw_astore C [(6, .ref w9), (0, .ref x), (1, .int p0), (2, .int p1), (3, .int p2), (4, .int p3), (5, .ref u)] dX0_sneak_18 (by decide) rfl 20 rfl ?_
      refine nw_iconst C (nI 1) dX0_sneak_20 (by decide) 21 rfl ?_
      exact nw_iret C dX0_sneak_21 (by omega) (by omega) ⟨congrArg (fun z => some (Value.int (nI z))) hk9.symm, ok, hx9.1, ro, ad, hR.ext hx9, fun _ _ => rfl, ov, sv, hu.ext hx9.2, fun h9 => absurd (h9.symm.trans hk9) (by decide)⟩
    · have hE9 : E9 = cIA := (Option.some.inj (show some cIA = some E9 from he9)).symm
      subst hE9
      refine nw_catch C (name := cIA) [⟨0, 15, 18, 25⟩] [] ⟨0, 15, 22, 19⟩ rfl (fun z hz => by
            simp only [List.mem_cons, List.not_mem_nil, or_false] at hz
            rcases hz with rfl
            · exact Or.inr ⟨by decide, _, q772, C.hE.1.2.2.2.2.2.2.2.2.1⟩) (by decide) (by decide) q650 q660 22 rfl ?_
      refine nw_astore C [(6, .ref w9), (0, .ref x), (1, .int p0), (2, .int p1), (3, .int p2), (4, .int p3), (5, .ref u)] dX0_sneak_22 (by decide) rfl 24 rfl ?_
      refine nw_iconst C (nI 2) dX0_sneak_24 (by decide) 25 rfl ?_
      exact nw_iret C dX0_sneak_25 (by omega) (by omega) ⟨congrArg (fun z => some (Value.int (nI z))) hk9.symm, ok, hx9.1, ro, ad, hR.ext hx9, fun _ _ => rfl, ov, sv, hu.ext hx9.2, fun h9 => absurd (h9.symm.trans hk9) (by decide)⟩
    · cases (show (none : Option String) = some E9 from he9)
  intro v9 H1 hR2 hz3 hq4
  obtain ⟨⟨ho9, rfl⟩, hx9⟩ := hR2
  have hR9 := hR.ext hx9
  have hz9 := hx9.1
  have hu9 := hu.ext hx9.2
  have hru9 := hru
  show nwV X _ _ 7 H1 (0 + 66) (0 + 4050) 11 [(0, .ref x), (1, .int p0), (2, .int p1), (3, .int p2), (4, .int p3), (5, .ref u)] [.int ((op_sneak σ p0 p1 p2 p3).2), .ref u]
  refine nw_wide (k' := 66) (n' := 4050) (by omega) (by omega) ?_
  refine nw_i2l C dX0_sneak_11 12 rfl ?_
  refine nw_putN C hu9 (Or.inr rfl) (T := TX5) (ty0 := tyX5) rfl in_X5 tyX5_ok nmX5 0 (by decide) q640 rfl rfl rfl rfl (Nat.le_of_ble_eq_true rfl) dX0_sneak_12 15 rfl (fun H5 ho6 hz7 hq8 => ?_)
  have ho6 : nwO d u 12 [.long (Int32.toInt64 ((op_sneak σ p0 p1 p2 p3).2)), sv] H5 := ho6
  have hR8 := hR9.putu hru9 hz7 hq8
  have hz8 : H.size ≤ H5.size := by rw [hz7]; exact hz9
  refine nw_goto C 26 dX0_sneak_15 (by decide) ?_
  refine nw_iconst C (nI 0) dX0_sneak_26 (by decide) 27 rfl ?_
  exact nw_iret C dX0_sneak_27 (by omega) (by omega) ⟨congrArg (fun z => some (Value.int (nI z))) ho9.symm, ok, hz8, ro, ad, hR8, fun _ _ => rfl, _, sv, ho6, fun _ => rfl⟩
theorem hX0_sneak : nwPH yX0_sneak cX0_sneak 7 (some .int) [(0, 15, 18, 25), (0, 15, 22, 19)] 6 := ⟨⟨q1268, q85, q1269⟩, by decide +kernel, by decide +kernel, by decide +kernel⟩
set_option maxHeartbeats 4000000 in
theorem mX0_reach (l : Launch) (hf : l.flags = flags0) (d : nwD) (ro ad : Nat → Nat) (x : Nat) (σ : spSg) (sm : Int64) (p0 : Int32) (p1 : Int32) (p2 : Int32) (u : Nat) (ov : Int64) (sv : Value) (H : Heap) (hB : nd_B d ≤ H.size) (hR : nwWR d ro ad x σ sm H) (ok : spOk σ) (hu : nwO d u 12 [.long ov, sv] H) (hru : ro u = 9001) : nwMtH l d yX0_reach cX0_reach 6 (some .int) [(0, 13, 16, 25), (0, 13, 20, 19)] 11 257 66 4050 [.ref x, .int p0, .int p1, .int p2, .ref u] H (nwWv d ro x u sm ((op_reach σ p0 p1 p2).1, (op_reach σ p0 p1 p2).2, σ) H) nwNo (nwAW ro u H) := by
  refine nw_startH "NightwatchWallLaw" "reach" hf (by decide +kernel) rfl rfl (fun _ h => Or.inl (Or.inr h)) (nwAW_B hR hB hru) (Nat.le_of_ble_eq_true rfl) ?_
  intro X C
  have hE := C.E0
  have hnu : ¬ nwAC ro H u := nwAC_u hru hu.lt
  show nwV X _ _ 6 H 0 0 0 [(0, .ref x), (1, .int p0), (2, .int p1), (3, .int p2), (4, .ref u)] []
  refine nw_aload C 4 dX0_reach_0 rfl 2 rfl ?_
  refine nw_aload_n C 0 dX0_reach_2 rfl 3 rfl ?_
  refine nw_iload_n C 1 dX0_reach_3 rfl 4 rfl ?_
  refine nw_iload_n C 2 dX0_reach_4 rfl 5 rfl ?_
  refine nw_iload_n C 3 dX0_reach_5 rfl 6 rfl ?_
  refine nw_callV C (mX1_reach _ C.hfl d ro ad x σ sm p0 p1 p2 H hB hR.wc ok) kX1_reach q1290 (hR.2.1.1.is C (ci := 0) rfl) (As := [.int p0, .int p1, .int p2]) (rest := [.ref u]) rfl rfl ⟨⟨Nat.le_of_ble_eq_true rfl, Nat.le_of_ble_eq_true rfl⟩, (show 0 + 66 ≤ 66 by omega), (show 0 + 4050 ≤ 4050 by omega)⟩ (Nat.le_of_ble_eq_true rfl) (fun q8 h8 h9 => absurd h8 (Nat.not_lt.mpr h9)) dX0_reach_6 9 rfl ?_ ?_
  rotate_left
  · intro E9 w9 H1 hR2 hz3 hq4
    obtain ⟨⟨k9, hk9, he9⟩, hx9⟩ := hR2
    rcases k9 with _ | _ | k9
    · have hE9 : E9 = cIO := (Option.some.inj (show some cIO = some E9 from he9)).symm
      subst hE9
      refine nw_catch C (name := cIO) [] [⟨0, 13, 20, 19⟩] ⟨0, 13, 16, 25⟩ rfl (fun z hz => absurd hz List.not_mem_nil) (by decide) (by decide) q772 q819 16 rfl ?_
      refine nw_astore C [(5, .ref w9), (0, .ref x), (1, .int p0), (2, .int p1), (3, .int p2), (4, .ref u)] dX0_reach_16 (by decide) rfl 18 rfl ?_
      refine nw_iconst C (nI 1) dX0_reach_18 (by decide) 19 rfl ?_
      exact nw_iret C dX0_reach_19 (by omega) (by omega) ⟨congrArg (fun z => some (Value.int (nI z))) hk9.symm, ok, hx9.1, ro, ad, hR.ext hx9, fun _ _ => rfl, ov, sv, hu.ext hx9.2, fun h9 => absurd (h9.symm.trans hk9) (by decide)⟩
    · have hE9 : E9 = cIA := (Option.some.inj (show some cIA = some E9 from he9)).symm
      subst hE9
      refine nw_catch C (name := cIA) [⟨0, 13, 16, 25⟩] [] ⟨0, 13, 20, 19⟩ rfl (fun z hz => by
            simp only [List.mem_cons, List.not_mem_nil, or_false] at hz
            rcases hz with rfl
            · exact Or.inr ⟨by decide, _, q772, C.hE.1.2.2.2.2.2.2.2.2.1⟩) (by decide) (by decide) q650 q660 20 rfl ?_
      refine nw_astore C [(5, .ref w9), (0, .ref x), (1, .int p0), (2, .int p1), (3, .int p2), (4, .ref u)] dX0_reach_20 (by decide) rfl 22 rfl ?_
      refine nw_iconst C (nI 2) dX0_reach_22 (by decide) 23 rfl ?_
      exact nw_iret C dX0_reach_23 (by omega) (by omega) ⟨congrArg (fun z => some (Value.int (nI z))) hk9.symm, ok, hx9.1, ro, ad, hR.ext hx9, fun _ _ => rfl, ov, sv, hu.ext hx9.2, fun h9 => absurd (h9.symm.trans hk9) (by decide)⟩
    · cases (show (none : Option String) = some E9 from he9)
  intro v9 H1 hR2 hz3 hq4
  obtain ⟨⟨ho9, rfl⟩, hx9⟩ := hR2
  have hR9 := hR.ext hx9
  have hz9 := hx9.1
  have hu9 := hu.ext hx9.2
  have hru9 := hru
  show nwV X _ _ 6 H1 (0 + 66) (0 + 4050) 9 [(0, .ref x), (1, .int p0), (2, .int p1), (3, .int p2), (4, .ref u)] [.int ((op_reach σ p0 p1 p2).2), .ref u]
  refine nw_wide (k' := 66) (n' := 4050) (by omega) (by omega) ?_
  refine nw_i2l C dX0_reach_9 10 rfl ?_
  refine nw_putN C hu9 (Or.inr rfl) (T := TX5) (ty0 := tyX5) rfl in_X5 tyX5_ok nmX5 0 (by decide) q640 rfl rfl rfl rfl (Nat.le_of_ble_eq_true rfl) dX0_reach_10 13 rfl (fun H5 ho6 hz7 hq8 => ?_)
  have ho6 : nwO d u 12 [.long (Int32.toInt64 ((op_reach σ p0 p1 p2).2)), sv] H5 := ho6
  have hR8 := hR9.putu hru9 hz7 hq8
  have hz8 : H.size ≤ H5.size := by rw [hz7]; exact hz9
  refine nw_goto C 24 dX0_reach_13 (by decide) ?_
  refine nw_iconst C (nI 0) dX0_reach_24 (by decide) 25 rfl ?_
  exact nw_iret C dX0_reach_25 (by omega) (by omega) ⟨congrArg (fun z => some (Value.int (nI z))) ho9.symm, ok, hz8, ro, ad, hR8, fun _ _ => rfl, _, sv, ho6, fun _ => rfl⟩
theorem hX0_reach : nwPH yX0_reach cX0_reach 6 (some .int) [(0, 13, 16, 25), (0, 13, 20, 19)] 5 := ⟨⟨q1288, q85, q1289⟩, by decide +kernel, by decide +kernel, by decide +kernel⟩
set_option maxHeartbeats 4000000 in
theorem mX0_nextLamp (l : Launch) (hf : l.flags = flags0) (d : nwD) (ro ad : Nat → Nat) (x : Nat) (σ : spSg) (sm : Int64) (p0 : Int32) (p1 : Int32) (p2 : Bool) (u : Nat) (ov : Int64) (sv : Value) (H : Heap) (hB : nd_B d ≤ H.size) (hR : nwWR d ro ad x σ sm H) (ok : spOk σ) (hu : nwO d u 12 [.long ov, sv] H) (hru : ro u = 9001) : nwMtH l d yX0_nextLamp cX0_nextLamp 6 (some .int) [(0, 13, 16, 19)] 10 235 66 262 [.ref x, .int p0, .int p1, .int (b2i p2), .ref u] H (nwWv d ro x u sm ((op_nextLamp σ p0 p1 p2).1, (op_nextLamp σ p0 p1 p2).2, σ) H) nwNo (nwAW ro u H) := by
  refine nw_startH "NightwatchWallLaw" "nextLamp" hf (by decide +kernel) rfl rfl (fun _ h => Or.inl (Or.inr h)) (nwAW_B hR hB hru) (Nat.le_of_ble_eq_true rfl) ?_
  intro X C
  have hE := C.E0
  have hnu : ¬ nwAC ro H u := nwAC_u hru hu.lt
  show nwV X _ _ 6 H 0 0 0 [(0, .ref x), (1, .int p0), (2, .int p1), (3, .int (b2i p2)), (4, .ref u)] []
  refine nw_aload C 4 dX0_nextLamp_0 rfl 2 rfl ?_
  refine nw_aload_n C 0 dX0_nextLamp_2 rfl 3 rfl ?_
  refine nw_iload_n C 1 dX0_nextLamp_3 rfl 4 rfl ?_
  refine nw_iload_n C 2 dX0_nextLamp_4 rfl 5 rfl ?_
  refine nw_iload_n C 3 dX0_nextLamp_5 rfl 6 rfl ?_
  refine nw_callV C (mX1_nextLamp _ C.hfl d ro ad x σ sm p0 p1 p2 H hB hR.wc ok) kX1_nextLamp q1297 (hR.2.1.1.is C (ci := 0) rfl) (As := [.int p0, .int p1, .int (b2i p2)]) (rest := [.ref u]) rfl rfl ⟨⟨Nat.le_of_ble_eq_true rfl, Nat.le_of_ble_eq_true rfl⟩, (show 0 + 66 ≤ 66 by omega), (show 0 + 262 ≤ 262 by omega)⟩ (Nat.le_of_ble_eq_true rfl) (fun q8 h8 h9 => absurd h8 (Nat.not_lt.mpr h9)) dX0_nextLamp_6 9 rfl ?_ ?_
  rotate_left
  · intro E9 w9 H1 hR2 hz3 hq4
    obtain ⟨⟨k9, hk9, he9⟩, hx9⟩ := hR2
    rcases k9 with _ | k9
    · have hE9 : E9 = cIA := (Option.some.inj (show some cIA = some E9 from he9)).symm
      subst hE9
      refine nw_catch C (name := cIA) [] [] ⟨0, 13, 16, 19⟩ rfl (fun z hz => absurd hz List.not_mem_nil) (by decide) (by decide) q650 q660 16 rfl ?_
      refine nw_astore C [(5, .ref w9), (0, .ref x), (1, .int p0), (2, .int p1), (3, .int (b2i p2)), (4, .ref u)] dX0_nextLamp_16 (by decide) rfl 18 rfl ?_
      refine nw_iconst C (nI 1) dX0_nextLamp_18 (by decide) 19 rfl ?_
      exact nw_iret C dX0_nextLamp_19 (by omega) (by omega) ⟨congrArg (fun z => some (Value.int (nI z))) hk9.symm, ok, hx9.1, ro, ad, hR.ext hx9, fun _ _ => rfl, ov, sv, hu.ext hx9.2, fun h9 => absurd (h9.symm.trans hk9) (by decide)⟩
    · cases (show (none : Option String) = some E9 from he9)
  intro v9 H1 hR2 hz3 hq4
  obtain ⟨⟨ho9, rfl⟩, hx9⟩ := hR2
  have hR9 := hR.ext hx9
  have hz9 := hx9.1
  have hu9 := hu.ext hx9.2
  have hru9 := hru
  show nwV X _ _ 6 H1 (0 + 66) (0 + 262) 9 [(0, .ref x), (1, .int p0), (2, .int p1), (3, .int (b2i p2)), (4, .ref u)] [.int ((op_nextLamp σ p0 p1 p2).2), .ref u]
  refine nw_wide (k' := 66) (n' := 262) (by omega) (by omega) ?_
  refine nw_i2l C dX0_nextLamp_9 10 rfl ?_
  refine nw_putN C hu9 (Or.inr rfl) (T := TX5) (ty0 := tyX5) rfl in_X5 tyX5_ok nmX5 0 (by decide) q640 rfl rfl rfl rfl (Nat.le_of_ble_eq_true rfl) dX0_nextLamp_10 13 rfl (fun H5 ho6 hz7 hq8 => ?_)
  have ho6 : nwO d u 12 [.long (Int32.toInt64 ((op_nextLamp σ p0 p1 p2).2)), sv] H5 := ho6
  have hR8 := hR9.putu hru9 hz7 hq8
  have hz8 : H.size ≤ H5.size := by rw [hz7]; exact hz9
  refine nw_goto C 20 dX0_nextLamp_13 (by decide) ?_
  refine nw_iconst C (nI 0) dX0_nextLamp_20 (by decide) 21 rfl ?_
  exact nw_iret C dX0_nextLamp_21 (by omega) (by omega) ⟨congrArg (fun z => some (Value.int (nI z))) ho9.symm, ok, hz8, ro, ad, hR8, fun _ _ => rfl, _, sv, ho6, fun _ => rfl⟩
theorem hX0_nextLamp : nwPH yX0_nextLamp cX0_nextLamp 6 (some .int) [(0, 13, 16, 19)] 5 := ⟨⟨q1295, q85, q1296⟩, by decide +kernel, by decide +kernel, by decide +kernel⟩
set_option maxHeartbeats 4000000 in
theorem mX0_many (l : Launch) (hf : l.flags = flags0) (d : nwD) (ro ad : Nat → Nat) (x : Nat) (σ : spSg) (sm : Int64) (p0 : Int32) (u : Nat) (ov : Int64) (sv : Value) (H : Heap) (hB : nd_B d ≤ H.size) (hR : nwWR d ro ad x σ sm H) (ok : spOk σ) (hu : nwO d u 12 [.long ov, sv] H) (hru : ro u = 9001) : nwMtH l d yX0_many cX0_many 4 (some .int) [(0, 10, 13, 19)] 11 249 2 10 [.ref x, .int p0, .ref u] H (nwWv d ro x u sm ((op_many σ p0).1, (op_many σ p0).2, σ) H) nwNo (nwAW ro u H) := by
  refine nw_startH "NightwatchWallLaw" "many" hf (by decide +kernel) rfl rfl (fun _ h => Or.inl (Or.inr h)) (nwAW_B hR hB hru) (Nat.le_of_ble_eq_true rfl) ?_
  intro X C
  have hE := C.E0
  have hnu : ¬ nwAC ro H u := nwAC_u hru hu.lt
  show nwV X _ _ 4 H 0 0 0 [(0, .ref x), (1, .int p0), (2, .ref u)] []
  refine nw_aload_n C 2 dX0_many_0 rfl 1 rfl ?_
  refine nw_aload_n C 0 dX0_many_1 rfl 2 rfl ?_
  refine nw_iload_n C 1 dX0_many_2 rfl 3 rfl ?_
  refine nw_callV C (mX1_many _ C.hfl d ro ad x σ sm p0 H hB hR.wc ok) kX1_many q1312 (hR.2.1.1.is C (ci := 0) rfl) (As := [.int p0]) (rest := [.ref u]) rfl rfl ⟨⟨Nat.le_of_ble_eq_true rfl, Nat.le_of_ble_eq_true rfl⟩, (show 0 + 2 ≤ 2 by omega), (show 0 + 10 ≤ 10 by omega)⟩ (Nat.le_of_ble_eq_true rfl) (fun q8 h8 h9 => absurd h8 (Nat.not_lt.mpr h9)) dX0_many_3 6 rfl ?_ ?_
  rotate_left
  · intro E9 w9 H1 hR2 hz3 hq4
    obtain ⟨⟨k9, hk9, he9⟩, hx9⟩ := hR2
    rcases k9 with _ | k9
    · have hE9 : E9 = cIA := (Option.some.inj (show some cIA = some E9 from he9)).symm
      subst hE9
      refine nw_catch C (name := cIA) [] [] ⟨0, 10, 13, 19⟩ rfl (fun z hz => absurd hz List.not_mem_nil) (by decide) (by decide) q650 q660 13 rfl ?_
      refine nw_astore_n C [(3, .ref w9), (0, .ref x), (1, .int p0), (2, .ref u)] dX0_many_13 (by decide) rfl 14 rfl ?_
      refine nw_iconst C (nI 1) dX0_many_14 (by decide) 15 rfl ?_
      exact nw_iret C dX0_many_15 (by omega) (by omega) ⟨congrArg (fun z => some (Value.int (nI z))) hk9.symm, ok, hx9.1, ro, ad, hR.ext hx9, fun _ _ => rfl, ov, sv, hu.ext hx9.2, fun h9 => absurd (h9.symm.trans hk9) (by decide)⟩
    · cases (show (none : Option String) = some E9 from he9)
  intro v9 H1 hR2 hz3 hq4
  obtain ⟨⟨ho9, rfl⟩, hx9⟩ := hR2
  have hR9 := hR.ext hx9
  have hz9 := hx9.1
  have hu9 := hu.ext hx9.2
  have hru9 := hru
  show nwV X _ _ 4 H1 (0 + 2) (0 + 10) 6 [(0, .ref x), (1, .int p0), (2, .ref u)] [.int ((op_many σ p0).2), .ref u]
  refine nw_wide (k' := 2) (n' := 10) (by omega) (by omega) ?_
  refine nw_i2l C dX0_many_6 7 rfl ?_
  refine nw_putN C hu9 (Or.inr rfl) (T := TX5) (ty0 := tyX5) rfl in_X5 tyX5_ok nmX5 0 (by decide) q640 rfl rfl rfl rfl (Nat.le_of_ble_eq_true rfl) dX0_many_7 10 rfl (fun H5 ho6 hz7 hq8 => ?_)
  have ho6 : nwO d u 12 [.long (Int32.toInt64 ((op_many σ p0).2)), sv] H5 := ho6
  have hR8 := hR9.putu hru9 hz7 hq8
  have hz8 : H.size ≤ H5.size := by rw [hz7]; exact hz9
  refine nw_goto C 16 dX0_many_10 (by decide) ?_
  refine nw_iconst C (nI 0) dX0_many_16 (by decide) 17 rfl ?_
  exact nw_iret C dX0_many_17 (by omega) (by omega) ⟨congrArg (fun z => some (Value.int (nI z))) ho9.symm, ok, hz8, ro, ad, hR8, fun _ _ => rfl, _, sv, ho6, fun _ => rfl⟩
theorem hX0_many : nwPH yX0_many cX0_many 4 (some .int) [(0, 10, 13, 19)] 3 := ⟨⟨q1310, q85, q1311⟩, by decide +kernel, by decide +kernel, by decide +kernel⟩
set_option maxHeartbeats 4000000 in
theorem mX0_drawn (l : Launch) (hf : l.flags = flags0) (d : nwD) (ro ad : Nat → Nat) (x : Nat) (σ : spSg) (sm : Int64) (p0 : Int32) (p1 : Int32) (u : Nat) (ov : Int64) (sv : Value) (H : Heap) (hB : nd_B d ≤ H.size) (hR : nwWR d ro ad x σ sm H) (ok : spOk σ) (hu : nwO d u 12 [.long ov, sv] H) (hru : ro u = 9001) : nwMtH l d yX0_drawn cX0_drawn 5 (some .int) [(0, 10, 13, 25), (0, 10, 17, 19)] 10 231 8 80 [.ref x, .int p0, .int p1, .ref u] H (nwWd d ro ad x u σ sm p0 p1 H) nwNo (nwAW ro u H) := by
  refine nw_startH "NightwatchWallLaw" "drawn" hf (by decide +kernel) rfl rfl (fun _ h => Or.inl (Or.inr h)) (nwAW_B hR hB hru) (Nat.le_of_ble_eq_true rfl) ?_
  intro X C
  have hE := C.E0
  have hnu : ¬ nwAC ro H u := nwAC_u hru hu.lt
  show nwV X _ _ 5 H 0 0 0 [(0, .ref x), (1, .int p0), (2, .int p1), (3, .ref u)] []
  refine nw_aload_n C 3 dX0_drawn_0 rfl 1 rfl ?_
  refine nw_aload_n C 0 dX0_drawn_1 rfl 2 rfl ?_
  refine nw_iload_n C 1 dX0_drawn_2 rfl 3 rfl ?_
  refine nw_iload_n C 2 dX0_drawn_3 rfl 4 rfl ?_
  refine nw_callV C (mX1_drawn _ C.hfl d ro ad x σ sm p0 p1 H hB hR.wc ok) kX1_drawn q1319 (hR.2.1.1.is C (ci := 0) rfl) (As := [.int p0, .int p1]) (rest := [.ref u]) rfl rfl ⟨⟨Nat.le_of_ble_eq_true rfl, Nat.le_of_ble_eq_true rfl⟩, (show 0 + 8 ≤ 8 by omega), (show 0 + 80 ≤ 80 by omega)⟩ (Nat.le_of_ble_eq_true rfl) (fun q8 h8 h9 => absurd h8 (Nat.not_lt.mpr h9)) dX0_drawn_4 7 rfl ?_ ?_
  rotate_left
  · intro E9 w9 H1 hR2 hz3 hq4
    obtain ⟨⟨k9, hk9, he9⟩, hx9⟩ := hR2
    rcases k9 with _ | _ | k9
    · have hE9 : E9 = cIO := (Option.some.inj (show some cIO = some E9 from he9)).symm
      subst hE9
      refine nw_catch C (name := cIO) [] [⟨0, 10, 17, 19⟩] ⟨0, 10, 13, 25⟩ rfl (fun z hz => absurd hz List.not_mem_nil) (by decide) (by decide) q772 q819 13 rfl ?_
      refine nw_astore C [(4, .ref w9), (0, .ref x), (1, .int p0), (2, .int p1), (3, .ref u)] dX0_drawn_13 (by decide) rfl 15 rfl ?_
      refine nw_iconst C (nI 1) dX0_drawn_15 (by decide) 16 rfl ?_
      exact nw_iret C dX0_drawn_16 (by omega) (by omega) ⟨congrArg (fun z => some (Value.int (nI z))) hk9.symm, hx9.1, hR.ext hx9, ov, sv, hu.ext hx9.2, fun h9 => absurd (h9.symm.trans hk9) (by decide)⟩
    · have hE9 : E9 = cIA := (Option.some.inj (show some cIA = some E9 from he9)).symm
      subst hE9
      refine nw_catch C (name := cIA) [⟨0, 10, 13, 25⟩] [] ⟨0, 10, 17, 19⟩ rfl (fun z hz => by
            simp only [List.mem_cons, List.not_mem_nil, or_false] at hz
            rcases hz with rfl
            · exact Or.inr ⟨by decide, _, q772, C.hE.1.2.2.2.2.2.2.2.2.1⟩) (by decide) (by decide) q650 q660 17 rfl ?_
      refine nw_astore C [(4, .ref w9), (0, .ref x), (1, .int p0), (2, .int p1), (3, .ref u)] dX0_drawn_17 (by decide) rfl 19 rfl ?_
      refine nw_iconst C (nI 2) dX0_drawn_19 (by decide) 20 rfl ?_
      exact nw_iret C dX0_drawn_20 (by omega) (by omega) ⟨congrArg (fun z => some (Value.int (nI z))) hk9.symm, hx9.1, hR.ext hx9, ov, sv, hu.ext hx9.2, fun h9 => absurd (h9.symm.trans hk9) (by decide)⟩
    · cases (show (none : Option String) = some E9 from he9)
  intro v9 H1 hR2 hz3 hq4
  obtain ⟨⟨ho9, q9, rfl, hdr9⟩, hx9⟩ := hR2
  have hR9 := hR.ext hx9
  have hz9 := hx9.1
  have hu9 := hu.ext hx9.2
  have hru9 := hru
  show nwV X _ _ 5 H1 (0 + 8) (0 + 80) 7 [(0, .ref x), (1, .int p0), (2, .int p1), (3, .ref u)] [.ref q9, .ref u]
  refine nw_wide (k' := 8) (n' := 80) (by omega) (by omega) ?_
  refine nw_putN C hu9 (Or.inr rfl) (T := TX5) (ty0 := tyX5) rfl in_X5 tyX5_ok nmX5 1 (by decide) q641 rfl rfl rfl rfl (Nat.le_of_ble_eq_true rfl) dX0_drawn_7 10 rfl (fun H5 ho6 hz7 hq8 => ?_)
  have ho6 : nwO d u 12 [.long ov, .ref q9] H5 := ho6
  have hR8 := hR9.putu hru9 hz7 hq8
  have hz8 : H.size ≤ H5.size := by rw [hz7]; exact hz9
  have hdr8 := hdr9.kp hu.lt hq8
  refine nw_goto C 21 dX0_drawn_10 (by decide) ?_
  refine nw_iconst C (nI 0) dX0_drawn_21 (by decide) 22 rfl ?_
  exact nw_iret C dX0_drawn_22 (by omega) (by omega) ⟨congrArg (fun z => some (Value.int (nI z))) ho9.symm, hz8, hR8, ov, .ref q9, ho6, fun _ => ⟨q9, rfl, hdr8⟩⟩
theorem hX0_drawn : nwPH yX0_drawn cX0_drawn 5 (some .int) [(0, 10, 13, 25), (0, 10, 17, 19)] 4 := ⟨⟨q1317, q85, q1318⟩, by decide +kernel, by decide +kernel, by decide +kernel⟩
