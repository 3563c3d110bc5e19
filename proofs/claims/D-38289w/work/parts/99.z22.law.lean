/-! ===== the law's cases ===== -/
theorem lg_self (x : Int64) : lg_cmp x x = 0 := by
  have h : ¬ x > x := Int64.lt_irrefl x
  unfold lg_cmp
  rw [if_neg h, if_pos rfl]
theorem nwAW_M {ro : Nat → Nat} {u : Nat} {H : Heap} (hru : ro u = 9001) {q : Nat} (hq : q < H.size) (hr : 21 ≤ rp (ro q) ∧ rp (ro q) ≤ 30) : ¬ nwAW ro u H q := by
  intro h
  rcases h with h | h
  · rcases h with h | h <;> omega
  · rw [h, hru] at hr; exact absurd hr (by decide +kernel)
theorem nwAM_R {ro : Nat → Nat} {H : Heap} {q : Nat} (hq : q < H.size) (hr : 1 ≤ rp (ro q) ∧ rp (ro q) ≤ 10) : ¬ nwAM ro H q := by
  intro h
  rcases h with h | h <;> omega
theorem nwAM_u {ro : Nat → Nat} {H : Heap} {u : Nat} (hru : ro u = 9001) (hu : u < H.size) : ¬ nwAM ro H u := by
  intro h
  rcases h with h | h
  · rw [hru] at h; exact absurd h (by decide +kernel)
  · omega
theorem nwAM_0 {ro : Nat → Nat} {H : Heap} {u : Nat} (hru : ro u = 0) (hu : u < H.size) : ¬ nwAM ro H u := by
  intro h
  rcases h with h | h
  · rw [hru] at h; exact absurd h (by decide +kernel)
  · omega
/-- both sides at one state, and the Out object -/
def nwLW (d : nwD) (U : State) (ro ad am : Nat → Nat) (x y u : Nat) (s : spSg) (sm : Int64) (th : Int32) (ov : Int64) (sv : Value) (H : Heap) : Prop := nwWR d ro ad x s sm H ∧ nwMW d ro am y s th H ∧ nwO d u 12 [.long ov, sv] H ∧ ro u = 9001 ∧ spOk s ∧ nd_B d ≤ H.size ∧ nwE d U H
abbrev nwLoc (b x y u i : Nat) : List (Nat × Value) := [(0, .ref b), (1, .ref x), (2, .ref y), (3, .ref u), (4, .int (nI i))]
theorem nwMW.kpM {d : nwD} {ro ro' am : Nat → Nat} {y : Nat} {s : spSg} {th : Int32} {H H1 : Heap} {A1 : Nat → Prop} (h : nwMW d ro am y s th H) (hok : roOk d ro' H1) (hro : ∀ q, ro q ≠ 0 → ro' q = ro q) (hq : ∀ q, q < H.size → ¬ A1 q → H1[q]? = H[q]?) (hA : ∀ q, q < H.size → (21 ≤ rp (ro q) ∧ rp (ro q) ≤ 30) → ¬ A1 q) : nwMW d ro' am y s th H1 := h.mv hok hro (fun q g hr => hq q g (hA q g hr))
theorem nwWR.kpR {d : nwD} {ro ro' ad : Nat → Nat} {x : Nat} {s : spSg} {sm : Int64} {H H1 : Heap} {A1 : Nat → Prop} (h : nwWR d ro ad x s sm H) (hok : roOk d ro' H1) (hro : ∀ q, ro q ≠ 0 → ro' q = ro q) (hq : ∀ q, q < H.size → ¬ A1 q → H1[q]? = H[q]?) (hA : ∀ q, q < H.size → (1 ≤ rp (ro q) ∧ rp (ro q) ≤ 10) → ¬ A1 q) : nwWR d ro' ad x s sm H1 := h.mv hok hro (fun q g hr => hq q g (hA q g hr))
theorem lw_newB {d : nwD} {H : Heap} (hB : nd_B d ≤ H.size) : ∀ q, nwNew H q → nd_B d ≤ q := fun q h => Nat.le_trans hB h
theorem op_base_3 (s : spSg) (a0 : Int32) (a1 : Int32) (a2 : Int32) : (op_base s a0 a1 a2).1 ≤ 3 := by
  unfold op_base
  repeat' split
  all_goals exact Nat.le_of_ble_eq_true rfl
theorem op_lay_3 (s : spSg) (a0 : Int32) (a1 : Int32) : (op_lay s a0 a1).1 ≤ 3 := by
  unfold op_lay
  repeat' split
  all_goals exact Nat.le_of_ble_eq_true rfl
theorem op_gates_3 (s : spSg) (a0 : Int32) (a1 : Int32) : (op_gates s a0 a1).1 ≤ 3 := by
  unfold op_gates
  repeat' split
  all_goals exact Nat.le_of_ble_eq_true rfl
theorem op_lamp_3 (s : spSg) (a0 : Int32) (a1 : Int32) : (op_lamp s a0 a1).1 ≤ 3 := by
  unfold op_lamp
  repeat' split
  all_goals exact Nat.le_of_ble_eq_true rfl
theorem op_light_3 (s : spSg) (a0 : Int32) (a1 : Bool) : (op_light s a0 a1).1 ≤ 3 := by
  unfold op_light
  repeat' split
  all_goals exact Nat.le_of_ble_eq_true rfl
theorem op_fog_3 (s : spSg) (a0 : Int32) (a1 : Int32) : (op_fog s a0 a1).1 ≤ 3 := by
  unfold op_fog
  repeat' split
  all_goals exact Nat.le_of_ble_eq_true rfl
theorem op_guard_3 (s : spSg) (a0 : Int32) (a1 : Int32) (a2 : Int32) (a3 : Int32) : (op_guard s a0 a1 a2 a3).1 ≤ 3 := by
  unfold op_guard
  repeat' split
  all_goals exact Nat.le_of_ble_eq_true rfl
theorem op_round_3 (s : spSg) (a0 : Int32) (a1 : Int32) : (op_round s a0 a1).1 ≤ 3 := by
  unfold op_round
  repeat' split
  all_goals exact Nat.le_of_ble_eq_true rfl
theorem op_post_3 (s : spSg) (a0 : Int32) : (op_post s a0).1 ≤ 3 := by
  unfold op_post
  repeat' split
  all_goals exact Nat.le_of_ble_eq_true rfl
theorem op_place_3 (s : spSg) (a0 : Int32) (a1 : Int32) : (op_place s a0 a1).1 ≤ 3 := by
  unfold op_place
  repeat' split
  all_goals exact Nat.le_of_ble_eq_true rfl
theorem op_sees_3 (s : spSg) (a0 : Int32) (a1 : Int32) (a2 : Int32) : (op_sees s a0 a1 a2).1 ≤ 3 := by
  unfold op_sees
  repeat' split
  all_goals exact Nat.le_of_ble_eq_true rfl
theorem op_ofCell_3 (s : spSg) (a0 : Int32) (a1 : Int32) (a2 : Int32) : (op_ofCell s a0 a1 a2).1 ≤ 3 := by
  unfold op_ofCell
  repeat' split
  all_goals exact Nat.le_of_ble_eq_true rfl
theorem op_ofMinute_3 (s : spSg) (a0 : Int32) (a1 : Int32) : (op_ofMinute s a0 a1).1 ≤ 3 := by
  unfold op_ofMinute
  repeat' split
  all_goals exact Nat.le_of_ble_eq_true rfl
theorem op_empty_3 (s : spSg) (a0 : Int32) (a1 : Bool) : (op_empty s a0 a1).1 ≤ 3 := by
  unfold op_empty
  repeat' split
  all_goals exact Nat.le_of_ble_eq_true rfl
theorem op_lapse_3 (s : spSg) (a0 : Int32) (a1 : Int32) (a2 : Int32) : (op_lapse s a0 a1 a2).1 ≤ 3 := by
  unfold op_lapse
  repeat' split
  all_goals exact Nat.le_of_ble_eq_true rfl
theorem op_words_3 (s : spSg) (a0 : Int32) : (op_words s a0).1 ≤ 3 := by
  unfold op_words
  repeat' split
  all_goals exact Nat.le_of_ble_eq_true rfl
theorem op_leak_3 (s : spSg) (a0 : Int32) : (op_leak s a0).1 ≤ 3 := by
  unfold op_leak
  repeat' split
  all_goals exact Nat.le_of_ble_eq_true rfl
theorem op_answer_3 (s : spSg) (a0 : Int32) (a1 : Int32) (a2 : Int32) : (op_answer s a0 a1 a2).1 ≤ 3 := by
  unfold op_answer
  repeat' split
  all_goals exact Nat.le_of_ble_eq_true rfl
theorem op_key_3 (s : spSg) (a0 : Int32) (a1 : Int32) : (op_key s a0 a1).1 ≤ 3 := by
  unfold op_key
  repeat' split
  all_goals exact Nat.le_of_ble_eq_true rfl
theorem op_ofGuard_3 (s : spSg) (a0 : Int32) (a1 : Int32) : (op_ofGuard s a0 a1).1 ≤ 3 := by
  unfold op_ofGuard
  repeat' split
  all_goals exact Nat.le_of_ble_eq_true rfl
theorem op_intr_3 (s : spSg) (a0 : Int32) (a1 : Int32) (a2 : Int32) : (op_intr s a0 a1 a2).1 ≤ 3 := by
  unfold op_intr
  repeat' split
  all_goals exact Nat.le_of_ble_eq_true rfl
theorem op_wire_3 (s : spSg) (a0 : Int32) (a1 : Int32) : (op_wire s a0 a1).1 ≤ 3 := by
  unfold op_wire
  repeat' split
  all_goals exact Nat.le_of_ble_eq_true rfl
theorem op_where_3 (s : spSg) (a0 : Int32) (a1 : Int32) : (op_where s a0 a1).1 ≤ 3 := by
  unfold op_where
  repeat' split
  all_goals exact Nat.le_of_ble_eq_true rfl
theorem op_ofIntr_3 (s : spSg) (a0 : Int32) (a1 : Int32) : (op_ofIntr s a0 a1).1 ≤ 3 := by
  unfold op_ofIntr
  repeat' split
  all_goals exact Nat.le_of_ble_eq_true rfl
theorem op_force_3 (s : spSg) (a0 : Int32) (a1 : Int32) (a2 : Int32) : (op_force s a0 a1 a2).1 ≤ 3 := by
  unfold op_force
  repeat' split
  all_goals exact Nat.le_of_ble_eq_true rfl
theorem op_ofWire_3 (s : spSg) (a0 : Int32) (a1 : Int32) : (op_ofWire s a0 a1).1 ≤ 3 := by
  unfold op_ofWire
  repeat' split
  all_goals exact Nat.le_of_ble_eq_true rfl
theorem op_sneak_3 (s : spSg) (a0 : Int32) (a1 : Int32) (a2 : Int32) (a3 : Int32) : (op_sneak s a0 a1 a2 a3).1 ≤ 3 := by
  unfold op_sneak
  repeat' split
  all_goals exact Nat.le_of_ble_eq_true rfl
theorem op_reach_3 (s : spSg) (a0 : Int32) (a1 : Int32) (a2 : Int32) : (op_reach s a0 a1 a2).1 ≤ 3 := by
  unfold op_reach
  repeat' split
  all_goals exact Nat.le_of_ble_eq_true rfl
theorem op_nextLamp_3 (s : spSg) (a0 : Int32) (a1 : Int32) (a2 : Bool) : (op_nextLamp s a0 a1 a2).1 ≤ 3 := by
  unfold op_nextLamp
  repeat' split
  all_goals exact Nat.le_of_ble_eq_true rfl
theorem op_many_3 (s : spSg) (a0 : Int32) : (op_many s a0).1 ≤ 3 := by
  unfold op_many
  repeat' split
  all_goals exact Nat.le_of_ble_eq_true rfl
theorem op_drawn_3 (s : spSg) (a0 : Int32) (a1 : Int32) : (op_drawn s a0 a1).1 ≤ 3 := by
  unfold op_drawn
  repeat' split
  all_goals exact Nat.le_of_ble_eq_true rfl
theorem kX4_base : nwPV "NightwatchWallModel" yX4_base cX4_base 8 (some .int) 3 := ⟨⟨q1688, q1689, q93, q1690⟩, rfl, by decide +kernel, by decide +kernel, by decide +kernel⟩
theorem kX4_thrown : nwPV "NightwatchWallModel" yX4_thrown cX4_thrown 1 (some .int) 0 := ⟨⟨q1684, q1685, q93, q1686⟩, rfl, by decide +kernel, by decide +kernel, by decide +kernel⟩
theorem kX4_lay : nwPV "NightwatchWallModel" yX4_lay cX4_lay 4 (some .int) 2 := ⟨⟨q1699, q1700, q93, q1701⟩, rfl, by decide +kernel, by decide +kernel, by decide +kernel⟩
theorem kX4_gates : nwPV "NightwatchWallModel" yX4_gates cX4_gates 8 (some .int) 2 := ⟨⟨q1719, q1720, q93, q1721⟩, rfl, by decide +kernel, by decide +kernel, by decide +kernel⟩
theorem kX4_lamp : nwPV "NightwatchWallModel" yX4_lamp cX4_lamp 3 (some .int) 2 := ⟨⟨q1726, q1727, q93, q1728⟩, rfl, by decide +kernel, by decide +kernel, by decide +kernel⟩
theorem kX4_light : nwPV "NightwatchWallModel" yX4_light cX4_light 3 (some .int) 2 := ⟨⟨q1737, q1738, q93, q1739⟩, rfl, by decide +kernel, by decide +kernel, by decide +kernel⟩
theorem kX4_fog : nwPV "NightwatchWallModel" yX4_fog cX4_fog 3 (some .int) 2 := ⟨⟨q1764, q1765, q93, q1766⟩, rfl, by decide +kernel, by decide +kernel, by decide +kernel⟩
theorem kX4_guard : nwPV "NightwatchWallModel" yX4_guard cX4_guard 5 (some .int) 4 := ⟨⟨q1768, q1769, q93, q1770⟩, rfl, by decide +kernel, by decide +kernel, by decide +kernel⟩
theorem kX4_round : nwPV "NightwatchWallModel" yX4_round cX4_round 4 (some .int) 2 := ⟨⟨q1805, q1806, q93, q1807⟩, rfl, by decide +kernel, by decide +kernel, by decide +kernel⟩
theorem kX4_post : nwPV "NightwatchWallModel" yX4_post cX4_post 2 (some .int) 1 := ⟨⟨q1814, q1815, q93, q1816⟩, rfl, by decide +kernel, by decide +kernel, by decide +kernel⟩
theorem kX4_place : nwPV "NightwatchWallModel" yX4_place cX4_place 3 (some .int) 2 := ⟨⟨q1818, q1819, q93, q1820⟩, rfl, by decide +kernel, by decide +kernel, by decide +kernel⟩
theorem kX4_sees : nwPV "NightwatchWallModel" yX4_sees cX4_sees 4 (some .boolean) 3 := ⟨⟨q1837, q1838, q93, q1839⟩, rfl, by decide +kernel, by decide +kernel, by decide +kernel⟩
theorem kX4_ofCell : nwPV "NightwatchWallModel" yX4_ofCell cX4_ofCell 4 (some .int) 3 := ⟨⟨q1861, q1862, q93, q1863⟩, rfl, by decide +kernel, by decide +kernel, by decide +kernel⟩
theorem kX4_ofMinute : nwPV "NightwatchWallModel" yX4_ofMinute cX4_ofMinute 3 (some .int) 2 := ⟨⟨q1877, q1878, q93, q1879⟩, rfl, by decide +kernel, by decide +kernel, by decide +kernel⟩
theorem kX4_empty : nwPV "NightwatchWallModel" yX4_empty cX4_empty 3 (some .int) 2 := ⟨⟨q1890, q1891, q93, q1892⟩, rfl, by decide +kernel, by decide +kernel, by decide +kernel⟩
theorem kX4_lapse : nwPV "NightwatchWallModel" yX4_lapse cX4_lapse 5 (some .int) 3 := ⟨⟨q1898, q1899, q93, q1900⟩, rfl, by decide +kernel, by decide +kernel, by decide +kernel⟩
theorem kX4_words : nwPV "NightwatchWallModel" yX4_words cX4_words 2 (some .int) 1 := ⟨⟨q1902, q1903, q93, q1904⟩, rfl, by decide +kernel, by decide +kernel, by decide +kernel⟩
theorem kX4_leak : nwPV "NightwatchWallModel" yX4_leak cX4_leak 2 (some .int) 1 := ⟨⟨q1906, q1907, q93, q1908⟩, rfl, by decide +kernel, by decide +kernel, by decide +kernel⟩
theorem kX4_answer : nwPV "NightwatchWallModel" yX4_answer cX4_answer 6 (some .int) 3 := ⟨⟨q1910, q1911, q93, q1912⟩, rfl, by decide +kernel, by decide +kernel, by decide +kernel⟩
theorem kX4_key : nwPV "NightwatchWallModel" yX4_key cX4_key 4 (some .int) 2 := ⟨⟨q1918, q1919, q93, q1920⟩, rfl, by decide +kernel, by decide +kernel, by decide +kernel⟩
theorem kX4_ofGuard : nwPV "NightwatchWallModel" yX4_ofGuard cX4_ofGuard 3 (some .int) 2 := ⟨⟨q1922, q1923, q93, q1924⟩, rfl, by decide +kernel, by decide +kernel, by decide +kernel⟩
theorem kX4_intruder : nwPV "NightwatchWallModel" yX4_intruder cX4_intruder 8 (some .int) 3 := ⟨⟨q1930, q1931, q93, q1932⟩, rfl, by decide +kernel, by decide +kernel, by decide +kernel⟩
theorem kX4_wire : nwPV "NightwatchWallModel" yX4_wire cX4_wire 3 (some .int) 2 := ⟨⟨q1969, q1970, q93, q1971⟩, rfl, by decide +kernel, by decide +kernel, by decide +kernel⟩
theorem kX4_where : nwPV "NightwatchWallModel" yX4_where cX4_where 3 (some .int) 2 := ⟨⟨q1973, q1974, q93, q1975⟩, rfl, by decide +kernel, by decide +kernel, by decide +kernel⟩
theorem kX4_ofIntruder : nwPV "NightwatchWallModel" yX4_ofIntruder cX4_ofIntruder 3 (some .int) 2 := ⟨⟨q1981, q1982, q93, q1983⟩, rfl, by decide +kernel, by decide +kernel, by decide +kernel⟩
theorem kX4_force : nwPV "NightwatchWallModel" yX4_force cX4_force 6 (some .int) 3 := ⟨⟨q2005, q2006, q93, q2007⟩, rfl, by decide +kernel, by decide +kernel, by decide +kernel⟩
theorem kX4_ofWire : nwPV "NightwatchWallModel" yX4_ofWire cX4_ofWire 3 (some .int) 2 := ⟨⟨q2009, q2010, q93, q2011⟩, rfl, by decide +kernel, by decide +kernel, by decide +kernel⟩
theorem kX4_sneak : nwPV "NightwatchWallModel" yX4_sneak cX4_sneak 7 (some .int) 4 := ⟨⟨q2021, q2022, q93, q2023⟩, rfl, by decide +kernel, by decide +kernel, by decide +kernel⟩
theorem kX4_reach : nwPV "NightwatchWallModel" yX4_reach cX4_reach 10 (some .int) 3 := ⟨⟨q2037, q2038, q93, q2039⟩, rfl, by decide +kernel, by decide +kernel, by decide +kernel⟩
theorem kX4_nextLamp : nwPV "NightwatchWallModel" yX4_nextLamp cX4_nextLamp 9 (some .int) 3 := ⟨⟨q2041, q2042, q93, q2043⟩, rfl, by decide +kernel, by decide +kernel, by decide +kernel⟩
theorem kX4_many : nwPV "NightwatchWallModel" yX4_many cX4_many 2 (some .int) 1 := ⟨⟨q2059, q2060, q93, q2061⟩, rfl, by decide +kernel, by decide +kernel, by decide +kernel⟩
theorem kX4_drawn : nwPV "NightwatchWallModel" yX4_drawn cX4_drawn 7 (some (.object "java/lang/String")) 2 := ⟨⟨q2067, q2068, q93, q2069⟩, rfl, by decide +kernel, by decide +kernel, by decide +kernel⟩
theorem kJ12_equals : nwPV "java/lang/String" yJ12_equals cJ12_equals 3 (some .boolean) 1 := ⟨⟨q2100, q2101, q106, q2102⟩, rfl, by decide +kernel, by decide +kernel, by decide +kernel⟩
theorem kX1_isSound : nwPV "NightwatchWall" yX1_isSound cX1_isSound 1 (some .boolean) 0 := ⟨⟨q265, q266, q86, q267⟩, rfl, by decide +kernel, by decide +kernel, by decide +kernel⟩
theorem kX4_isSound : nwPV "NightwatchWallModel" yX4_isSound cX4_isSound 1 (some .boolean) 0 := ⟨⟨q2082, q2083, q93, q2084⟩, rfl, by decide +kernel, by decide +kernel, by decide +kernel⟩
theorem kX1_knock : nwPV "NightwatchWall" yX1_knock cX1_knock 1 (some .int) 0 := ⟨⟨q395, q396, q86, q397⟩, rfl, by decide +kernel, by decide +kernel, by decide +kernel⟩
theorem kX4_knock : nwPV "NightwatchWallModel" yX4_knock cX4_knock 1 (some .int) 0 := ⟨⟨q2090, q2091, q93, q2092⟩, rfl, by decide +kernel, by decide +kernel, by decide +kernel⟩
theorem kX1_digest : nwPV "NightwatchWall" yX1_digest cX1_digest 4 (some .long) 0 := ⟨⟨q399, q400, q86, q401⟩, rfl, by decide +kernel, by decide +kernel, by decide +kernel⟩
theorem kX4_digest : nwPV "NightwatchWallModel" yX4_digest cX4_digest 5 (some .long) 0 := ⟨⟨q2094, q2095, q93, q2096⟩, rfl, by decide +kernel, by decide +kernel, by decide +kernel⟩
set_option maxHeartbeats 4000000 in
theorem mX4_thrown (l : Launch) (hf : l.flags = flags0) (d : nwD) (ro am : Nat → Nat) (y : Nat) (σ : spSg) (th : Int32) (H : Heap) (hB : nd_B d ≤ H.size) (hW : nwMC d ro am y σ th H) : nwRd l d yX4_thrown cX4_thrown 1 (some .int) 1 20 [.ref y] H (some (.int th)) := by
  refine nw_rd "NightwatchWallModel" "thrown" hf (by decide +kernel) rfl rfl hB (Nat.le_of_ble_eq_true rfl) ?_
  intro X C
  show nwV X _ _ 1 H 0 0 0 [(0, .ref y)] []
  refine nw_aload_n C 0 dX4_thrown_0 rfl 1 rfl ?_
  refine nw_get C hW.1 (T := TX4) rfl in_X4 0 (by decide) q1622 (Or.inl rfl) rfl dX4_thrown_1 4 rfl ?_
  exact nw_iret C dX4_thrown_4 (Nat.le_refl _) (Nat.le_refl _) ⟨congrArg (fun z => some (Value.int z)) (show (th) = (th) from rfl), rfl⟩
set_option maxHeartbeats 4000000 in
theorem mX5_init (l : Launch) (hf : l.flags = flags0) (d : nwD) (g : Nat)  (H : Heap) (hB : nd_B d ≤ H.size) (hgB : nd_B d ≤ g) (hg : nwO d g 12 [.long 0, .null] H)  : nwMt l d yX5_init cX5_init 1 none 1 20 0 0 [.ref g] H (fun v H1 => v = none ∧ nwO d g 12 [.long 0, .null] H1) nwNo (fun q => q = g ∨ H.size ≤ q) := by
  refine nw_start "NightwatchWallLaw$Out" "<init>" hf (by decide +kernel) rfl rfl (fun _ h => Or.inr h) (fun q h => h.elim (fun e => by rw [e]; exact hgB) (fun h => Nat.le_trans hB h)) (Nat.le_of_ble_eq_true rfl) ?_
  intro X C
  have hE := C.E0
  have hB0 := hB
  have hsz : H.size ≤ H.size := Nat.le_refl _
  show nwV X _ _ 1 H 0 0 0 [(0, .ref g)] []
  refine nw_aload_n C 0 dX5_init_0 rfl 1 rfl ?_
  refine nw_objInit C q639 q133 q134 dX5_init_1 ⟨Nat.le_of_ble_eq_true rfl, Nat.le_of_ble_eq_true rfl⟩ (Nat.le_of_ble_eq_true rfl) 4 rfl ?_
  exact nw_vret C dX5_init_4 (Nat.le_refl _) (Nat.le_refl _) ⟨rfl, hg⟩
set_option maxHeartbeats 4000000 in
theorem lc_0 {d : nwD} {X : nwX} {A : Nat → Prop} {Q : State → Prop} {H0 : Heap} {b L x y u i kc ns : Nat} {xs : Nat → Int32} {ro ad am : Nat → Nat} {σ : spSg} {sm ov : Int64} {th : Int32} {sv : Value} {H : Heap} (C : nwC d X A H0 "NightwatchWallLaw" "law" code 7 ret room_1 []) (hAA : ∀ q, nd_B d ≤ q → A q) (hX : va_X b L xs (nx_s X) (nx_s X).heap) (hbl : b < (nx_s X).heap.size) (hbA : ¬ A b) (hi : i + 5 ≤ L ∧ L ≤ 320) (hcap : kc + 9000 ≤ 601152 ∧ ns + 110000 ≤ 7246570) (hW : nwLW d (nx_s X) ro ad am x y u σ sm th ov sv H)
    (K : ∀ (H1 : Heap) (ro1 ad1 am1 : Nat → Nat) (σ1 : spSg) (sm1 : Int64) (th1 : Int32) (ov1 : Int64) (sv1 : Value), nwLW d (nx_s X) ro1 ad1 am1 x y u σ1 sm1 th1 ov1 sv1 H1 → nwV X A Q 7 H1 (kc + 9000) (ns + 110000) 2535 (nwLoc b x y u i) []) : nwV X A Q 7 H kc ns 192 (nwLoc b x y u i) [] := by
  obtain ⟨hR, hM, hu, hru, ok, hB, hE⟩ := hW
  show nwV X A Q 7 H kc ns 192 [(0, .ref b), (1, .ref x), (2, .ref y), (3, .ref u), (4, .int (nI i))] []
  refine nw_aload_n C 1 dL_law_192 rfl 193 rfl ?_
  refine nw_aload_n C 0 dL_law_193 rfl 194 rfl ?_
  refine nw_iload C 4 dL_law_194 rfl 196 rfl ?_
  refine nw_iconst C (nI 1) dL_law_196 (by decide) 197 rfl ?_
  refine nw_iaddN C dL_law_197 198 rfl ?_
  refine nw_sld C hX hbl hbA (by omega) dL_law_198 199 rfl ?_
  refine nw_aload_n C 0 dL_law_199 rfl 200 rfl ?_
  refine nw_iload C 4 dL_law_200 rfl 202 rfl ?_
  refine nw_iconst C (nI 2) dL_law_202 (by decide) 203 rfl ?_
  refine nw_iaddN C dL_law_203 204 rfl ?_
  refine nw_sld C hX hbl hbA (by omega) dL_law_204 205 rfl ?_
  refine nw_aload_n C 0 dL_law_205 rfl 206 rfl ?_
  refine nw_iload C 4 dL_law_206 rfl 208 rfl ?_
  refine nw_iconst C (nI 3) dL_law_208 (by decide) 209 rfl ?_
  refine nw_iaddN C dL_law_209 210 rfl ?_
  refine nw_sld C hX hbl hbA (by omega) dL_law_210 211 rfl ?_
  refine nw_aload_n C 3 dL_law_211 rfl 212 rfl ?_
  refine nw_callSH C (mX0_base _ C.hfl d ro ad x σ sm (xs (i + 1)) (xs (i + 2)) (xs (i + 3)) u ov sv H hB hR ok hu hru) hX0_base q647 (As := [.ref x, .int (xs (i + 1)), .int (xs (i + 2)), .int (xs (i + 3)), .ref u]) (rest := []) rfl rfl ⟨⟨Nat.le_of_ble_eq_true rfl, Nat.le_of_ble_eq_true rfl⟩, (show kc + 6 ≤ 601152 by omega), (show ns + 90 ≤ 7246570 by omega)⟩ (Nat.le_of_ble_eq_true rfl) (fun q8 h8 h9 => hAA q8 (nwAW_B hR hB hru q8 h9)) dL_law_212 215 rfl (fun v9 H1 hR2 hz3 hq4 => ?_) nw_noX
  obtain ⟨rfl, ok9, hz9, ro9, ad9, hR9, hk9, ov9, sv9, hu9, hov9⟩ := hR2
  have hM9 := hM.kpM hR9.1 hk9 hq4 (fun q g hr => nwAW_M hru g hr)
  replace hE := hE.kept (fun q9 g9 hb9 => hq4 q9 g9 (fun h9 => hb9 (nwAW_B hR (Nat.le_trans hB (Nat.le_refl _)) hru q9 h9)))
  replace hB := Nat.le_trans hB hz3
  replace hru := nw_rt hk9 hru (by decide)
  show nwV X _ _ 7 H1 (kc + 6) (ns + 90) 215 [(0, .ref b), (1, .ref x), (2, .ref y), (3, .ref u), (4, .int (nI i))] [.int (nI (op_base σ (xs (i + 1)) (xs (i + 2)) (xs (i + 3))).1)]
  refine nw_istore C [(5, .int (nI (op_base σ (xs (i + 1)) (xs (i + 2)) (xs (i + 3))).1)), (0, .ref b), (1, .ref x), (2, .ref y), (3, .ref u), (4, .int (nI i))] dL_law_215 (by decide) rfl 217 rfl ?_
  refine nw_aload_n C 3 dL_law_217 rfl 218 rfl ?_
  refine nw_aload_n C 1 dL_law_218 rfl 219 rfl ?_
  refine nw_iload C 5 dL_law_219 rfl 221 rfl ?_
  refine nw_iconst C (nI 1) dL_law_221 (by decide) 222 rfl ?_
  refine nw_iaddN C dL_law_222 223 rfl ?_
  refine nw_sld C hX hbl hbA (by omega) dL_law_223 224 rfl ?_
  refine nw_aload_n C 1 dL_law_224 rfl 225 rfl ?_
  refine nw_iload C 5 dL_law_225 rfl 227 rfl ?_
  refine nw_iconst C (nI 2) dL_law_227 (by decide) 228 rfl ?_
  refine nw_iaddN C dL_law_228 229 rfl ?_
  refine nw_sld C hX hbl hbA (by omega) dL_law_229 230 rfl ?_
  refine nw_aload_n C 1 dL_law_230 rfl 231 rfl ?_
  refine nw_iload C 5 dL_law_231 rfl 233 rfl ?_
  refine nw_iconst C (nI 3) dL_law_233 (by decide) 234 rfl ?_
  refine nw_iaddN C dL_law_234 235 rfl ?_
  refine nw_sld C hX hbl hbA (by omega) dL_law_235 236 rfl ?_
  refine nw_callV C (mX4_base _ C.hfl d ro9 am y σ th (xs (i + 1)) (xs (i + 2)) (xs (i + 3)) H1 hB hM9 ok) kX4_base q1687 (hM9.2.1.1.is C (ci := 9) rfl) (As := [.int (xs (i + 1)), .int (xs (i + 2)), .int (xs (i + 3))]) (rest := []) rfl rfl ⟨⟨Nat.le_of_ble_eq_true rfl, Nat.le_of_ble_eq_true rfl⟩, (show (kc + 6) + 10 ≤ 601152 by omega), (show (ns + 90) + 120 ≤ 7246570 by omega)⟩ (Nat.le_of_ble_eq_true rfl) (fun q8 h8 h9 => hAA q8 (nwAM_B hM9 hB q8 h9)) dL_law_236 239 rfl (fun v9 H5 hR6 hz7 hq8 => ?_) nw_noX
  obtain ⟨rfl, okm, hzm, rom, amm, hMm, hkm⟩ := hR6
  have hRm := hR9.kpR hMm.1 hkm hq8 (fun q g hr => nwAM_R g hr)
  have hum := hu9.kept (hq8 _ hu9.lt (nwAM_u hru hu9.lt))
  replace hE := hE.kept (fun q9 g9 hb9 => hq8 q9 g9 (fun h9 => hb9 (nwAM_B hM9 hB q9 h9)))
  replace hB := Nat.le_trans hB hz7
  replace hru := nw_rt hkm hru (by decide)
  show nwV X _ _ 7 H5 ((kc + 6) + 10) ((ns + 90) + 120) 239 [(5, .int (nI (op_base σ (xs (i + 1)) (xs (i + 2)) (xs (i + 3))).1)), (0, .ref b), (1, .ref x), (2, .ref y), (3, .ref u), (4, .int (nI i))] [.int ((op_base σ (xs (i + 1)) (xs (i + 2)) (xs (i + 3))).2.1)]
  refine nw_wide (k' := kc + 16) (n' := ns + 210) (by omega) (by omega) ?_
  refine nw_istore C [(6, .int ((op_base σ (xs (i + 1)) (xs (i + 2)) (xs (i + 3))).2.1)), (5, .int (nI (op_base σ (xs (i + 1)) (xs (i + 2)) (xs (i + 3))).1)), (0, .ref b), (1, .ref x), (2, .ref y), (3, .ref u), (4, .int (nI i))] dL_law_239 (by decide) rfl 241 rfl ?_
  refine nw_aload_n C 4 dL_law_241 rfl 242 rfl ?_
  refine nw_callV C (mX4_thrown _ C.hfl d rom amm y (op_base σ (xs (i + 1)) (xs (i + 2)) (xs (i + 3))).2.2 (nI (op_base σ (xs (i + 1)) (xs (i + 2)) (xs (i + 3))).1) H5 hB hMm.wc) kX4_thrown q1683 (hMm.2.1.1.is C (ci := 9) rfl) (As := []) (rest := []) rfl rfl ⟨⟨Nat.le_of_ble_eq_true rfl, Nat.le_of_ble_eq_true rfl⟩, (show (kc + 16) + 0 ≤ 601152 by omega), (show (ns + 210) + 0 ≤ 7246570 by omega)⟩ (Nat.le_of_ble_eq_true rfl) (fun _ h8 h9 => absurd h9 (Nat.not_le.mpr h8)) dL_law_242 245 rfl (nw_rdK ?_) nw_noX
  refine nw_iload C 1 dL_law_245 rfl 247 rfl ?_
  refine nw_icmpeq C 252 dL_law_247 (by decide) 250 rfl (fun _ => ?_) (fun h9 => absurd rfl h9)
  refine nw_iload C 1 dL_law_252 rfl 254 rfl ?_
  refine nw_ifne C 270 dL_law_254 (by decide) 257 rfl (fun h10 => ?_) (fun h10 => ?_)
  · refine nw_goto C 2535 dL_law_270 (by decide) ?_
    exact nw_wide (k' := kc + 9000) (n' := ns + 110000) (by omega) (by omega) (nw_sub [2, 3, 4, 5, 6] rfl (K H5 rom ad9 amm ((op_base σ (xs (i + 1)) (xs (i + 2)) (xs (i + 3))).2.2) sm (nI (op_base σ (xs (i + 1)) (xs (i + 2)) (xs (i + 3))).1) ov9 sv9 ⟨hRm, hMm, hum, hru, ok9, hB, hE⟩))
  · have h0 : (op_base σ (xs (i + 1)) (xs (i + 2)) (xs (i + 3))).1 = 0 := (nI_eq (Nat.lt_of_le_of_lt (op_base_3 σ (xs (i + 1)) (xs (i + 2)) (xs (i + 3))) (by decide)) (by decide)).mp h10
    refine nw_aload_n C 5 dL_law_257 rfl 258 rfl ?_
    refine nw_getN C hum (T := TX5) rfl in_X5 0 (by decide) q640 rfl rfl dL_law_258 261 rfl ?_
    refine nw_iload C 0 dL_law_261 rfl 263 rfl ?_
    refine nw_i2l C dL_law_263 264 rfl ?_
    refine nw_lcmp C dL_law_264 265 rfl ?_
    refine nw_ifeq C 270 dL_law_265 (by decide) 268 rfl (fun _ => ?_) (fun h11 => absurd (by rw [hov9 h0]; exact lg_self _) h11)
    refine nw_goto C 2535 dL_law_270 (by decide) ?_
    exact nw_wide (k' := kc + 9000) (n' := ns + 110000) (by omega) (by omega) (nw_sub [2, 3, 4, 5, 6] rfl (K H5 rom ad9 amm ((op_base σ (xs (i + 1)) (xs (i + 2)) (xs (i + 3))).2.2) sm (nI (op_base σ (xs (i + 1)) (xs (i + 2)) (xs (i + 3))).1) ov9 sv9 ⟨hRm, hMm, hum, hru, ok9, hB, hE⟩))
set_option maxHeartbeats 4000000 in
theorem lc_1 {d : nwD} {X : nwX} {A : Nat → Prop} {Q : State → Prop} {H0 : Heap} {b L x y u i kc ns : Nat} {xs : Nat → Int32} {ro ad am : Nat → Nat} {σ : spSg} {sm ov : Int64} {th : Int32} {sv : Value} {H : Heap} (C : nwC d X A H0 "NightwatchWallLaw" "law" code 7 ret room_1 []) (hAA : ∀ q, nd_B d ≤ q → A q) (hX : va_X b L xs (nx_s X) (nx_s X).heap) (hbl : b < (nx_s X).heap.size) (hbA : ¬ A b) (hi : i + 5 ≤ L ∧ L ≤ 320) (hcap : kc + 9000 ≤ 601152 ∧ ns + 110000 ≤ 7246570) (hW : nwLW d (nx_s X) ro ad am x y u σ sm th ov sv H)
    (K : ∀ (H1 : Heap) (ro1 ad1 am1 : Nat → Nat) (σ1 : spSg) (sm1 : Int64) (th1 : Int32) (ov1 : Int64) (sv1 : Value), nwLW d (nx_s X) ro1 ad1 am1 x y u σ1 sm1 th1 ov1 sv1 H1 → nwV X A Q 7 H1 (kc + 9000) (ns + 110000) 2535 (nwLoc b x y u i) []) : nwV X A Q 7 H kc ns 273 (nwLoc b x y u i) [] := by
  obtain ⟨hR, hM, hu, hru, ok, hB, hE⟩ := hW
  show nwV X A Q 7 H kc ns 273 [(0, .ref b), (1, .ref x), (2, .ref y), (3, .ref u), (4, .int (nI i))] []
  refine nw_aload_n C 1 dL_law_273 rfl 274 rfl ?_
  refine nw_aload_n C 0 dL_law_274 rfl 275 rfl ?_
  refine nw_iload C 4 dL_law_275 rfl 277 rfl ?_
  refine nw_iconst C (nI 1) dL_law_277 (by decide) 278 rfl ?_
  refine nw_iaddN C dL_law_278 279 rfl ?_
  refine nw_sld C hX hbl hbA (by omega) dL_law_279 280 rfl ?_
  refine nw_aload_n C 0 dL_law_280 rfl 281 rfl ?_
  refine nw_iload C 4 dL_law_281 rfl 283 rfl ?_
  refine nw_iconst C (nI 2) dL_law_283 (by decide) 284 rfl ?_
  refine nw_iaddN C dL_law_284 285 rfl ?_
  refine nw_sld C hX hbl hbA (by omega) dL_law_285 286 rfl ?_
  refine nw_aload_n C 3 dL_law_286 rfl 287 rfl ?_
  refine nw_callSH C (mX0_lay _ C.hfl d ro ad x σ sm (xs (i + 1)) (xs (i + 2)) u ov sv H hB hR ok hu hru) hX0_lay q769 (As := [.ref x, .int (xs (i + 1)), .int (xs (i + 2)), .ref u]) (rest := []) rfl rfl ⟨⟨Nat.le_of_ble_eq_true rfl, Nat.le_of_ble_eq_true rfl⟩, (show kc + 8 ≤ 601152 by omega), (show ns + 40 ≤ 7246570 by omega)⟩ (Nat.le_of_ble_eq_true rfl) (fun q8 h8 h9 => hAA q8 (nwAW_B hR hB hru q8 h9)) dL_law_287 290 rfl (fun v9 H1 hR2 hz3 hq4 => ?_) nw_noX
  obtain ⟨rfl, ok9, hz9, ro9, ad9, hR9, hk9, ov9, sv9, hu9, hov9⟩ := hR2
  have hM9 := hM.kpM hR9.1 hk9 hq4 (fun q g hr => nwAW_M hru g hr)
  replace hE := hE.kept (fun q9 g9 hb9 => hq4 q9 g9 (fun h9 => hb9 (nwAW_B hR (Nat.le_trans hB (Nat.le_refl _)) hru q9 h9)))
  replace hB := Nat.le_trans hB hz3
  replace hru := nw_rt hk9 hru (by decide)
  show nwV X _ _ 7 H1 (kc + 8) (ns + 40) 290 [(0, .ref b), (1, .ref x), (2, .ref y), (3, .ref u), (4, .int (nI i))] [.int (nI (op_lay σ (xs (i + 1)) (xs (i + 2))).1)]
  refine nw_istore C [(5, .int (nI (op_lay σ (xs (i + 1)) (xs (i + 2))).1)), (0, .ref b), (1, .ref x), (2, .ref y), (3, .ref u), (4, .int (nI i))] dL_law_290 (by decide) rfl 292 rfl ?_
  refine nw_aload_n C 3 dL_law_292 rfl 293 rfl ?_
  refine nw_aload_n C 1 dL_law_293 rfl 294 rfl ?_
  refine nw_iload C 5 dL_law_294 rfl 296 rfl ?_
  refine nw_iconst C (nI 1) dL_law_296 (by decide) 297 rfl ?_
  refine nw_iaddN C dL_law_297 298 rfl ?_
  refine nw_sld C hX hbl hbA (by omega) dL_law_298 299 rfl ?_
  refine nw_aload_n C 1 dL_law_299 rfl 300 rfl ?_
  refine nw_iload C 5 dL_law_300 rfl 302 rfl ?_
  refine nw_iconst C (nI 2) dL_law_302 (by decide) 303 rfl ?_
  refine nw_iaddN C dL_law_303 304 rfl ?_
  refine nw_sld C hX hbl hbA (by omega) dL_law_304 305 rfl ?_
  refine nw_callV C (mX4_lay _ C.hfl d ro9 am y σ th (xs (i + 1)) (xs (i + 2)) H1 hB hM9 ok) kX4_lay q1698 (hM9.2.1.1.is C (ci := 9) rfl) (As := [.int (xs (i + 1)), .int (xs (i + 2))]) (rest := []) rfl rfl ⟨⟨Nat.le_of_ble_eq_true rfl, Nat.le_of_ble_eq_true rfl⟩, (show (kc + 8) + 0 ≤ 601152 by omega), (show (ns + 40) + 0 ≤ 7246570 by omega)⟩ (Nat.le_of_ble_eq_true rfl) (fun q8 h8 h9 => hAA q8 (nwAM_B hM9 hB q8 h9)) dL_law_305 308 rfl (fun v9 H5 hR6 hz7 hq8 => ?_) nw_noX
  obtain ⟨rfl, okm, hzm, rom, amm, hMm, hkm⟩ := hR6
  have hRm := hR9.kpR hMm.1 hkm hq8 (fun q g hr => nwAM_R g hr)
  have hum := hu9.kept (hq8 _ hu9.lt (nwAM_u hru hu9.lt))
  replace hE := hE.kept (fun q9 g9 hb9 => hq8 q9 g9 (fun h9 => hb9 (nwAM_B hM9 hB q9 h9)))
  replace hB := Nat.le_trans hB hz7
  replace hru := nw_rt hkm hru (by decide)
  show nwV X _ _ 7 H5 ((kc + 8) + 0) ((ns + 40) + 0) 308 [(5, .int (nI (op_lay σ (xs (i + 1)) (xs (i + 2))).1)), (0, .ref b), (1, .ref x), (2, .ref y), (3, .ref u), (4, .int (nI i))] [.int ((op_lay σ (xs (i + 1)) (xs (i + 2))).2.1)]
  refine nw_wide (k' := kc + 8) (n' := ns + 40) (by omega) (by omega) ?_
  refine nw_istore C [(6, .int ((op_lay σ (xs (i + 1)) (xs (i + 2))).2.1)), (5, .int (nI (op_lay σ (xs (i + 1)) (xs (i + 2))).1)), (0, .ref b), (1, .ref x), (2, .ref y), (3, .ref u), (4, .int (nI i))] dL_law_308 (by decide) rfl 310 rfl ?_
  refine nw_aload_n C 4 dL_law_310 rfl 311 rfl ?_
  refine nw_callV C (mX4_thrown _ C.hfl d rom amm y (op_lay σ (xs (i + 1)) (xs (i + 2))).2.2 (nI (op_lay σ (xs (i + 1)) (xs (i + 2))).1) H5 hB hMm.wc) kX4_thrown q1683 (hMm.2.1.1.is C (ci := 9) rfl) (As := []) (rest := []) rfl rfl ⟨⟨Nat.le_of_ble_eq_true rfl, Nat.le_of_ble_eq_true rfl⟩, (show (kc + 8) + 0 ≤ 601152 by omega), (show (ns + 40) + 0 ≤ 7246570 by omega)⟩ (Nat.le_of_ble_eq_true rfl) (fun _ h8 h9 => absurd h9 (Nat.not_le.mpr h8)) dL_law_311 314 rfl (nw_rdK ?_) nw_noX
  refine nw_iload C 1 dL_law_314 rfl 316 rfl ?_
  refine nw_icmpeq C 321 dL_law_316 (by decide) 319 rfl (fun _ => ?_) (fun h9 => absurd rfl h9)
  refine nw_iload C 1 dL_law_321 rfl 323 rfl ?_
  refine nw_ifne C 339 dL_law_323 (by decide) 326 rfl (fun h10 => ?_) (fun h10 => ?_)
  · refine nw_goto C 2535 dL_law_339 (by decide) ?_
    exact nw_wide (k' := kc + 9000) (n' := ns + 110000) (by omega) (by omega) (nw_sub [2, 3, 4, 5, 6] rfl (K H5 rom ad9 amm ((op_lay σ (xs (i + 1)) (xs (i + 2))).2.2) sm (nI (op_lay σ (xs (i + 1)) (xs (i + 2))).1) ov9 sv9 ⟨hRm, hMm, hum, hru, ok9, hB, hE⟩))
  · have h0 : (op_lay σ (xs (i + 1)) (xs (i + 2))).1 = 0 := (nI_eq (Nat.lt_of_le_of_lt (op_lay_3 σ (xs (i + 1)) (xs (i + 2))) (by decide)) (by decide)).mp h10
    refine nw_aload_n C 5 dL_law_326 rfl 327 rfl ?_
    refine nw_getN C hum (T := TX5) rfl in_X5 0 (by decide) q640 rfl rfl dL_law_327 330 rfl ?_
    refine nw_iload C 0 dL_law_330 rfl 332 rfl ?_
    refine nw_i2l C dL_law_332 333 rfl ?_
    refine nw_lcmp C dL_law_333 334 rfl ?_
    refine nw_ifeq C 339 dL_law_334 (by decide) 337 rfl (fun _ => ?_) (fun h11 => absurd (by rw [hov9 h0]; exact lg_self _) h11)
    refine nw_goto C 2535 dL_law_339 (by decide) ?_
    exact nw_wide (k' := kc + 9000) (n' := ns + 110000) (by omega) (by omega) (nw_sub [2, 3, 4, 5, 6] rfl (K H5 rom ad9 amm ((op_lay σ (xs (i + 1)) (xs (i + 2))).2.2) sm (nI (op_lay σ (xs (i + 1)) (xs (i + 2))).1) ov9 sv9 ⟨hRm, hMm, hum, hru, ok9, hB, hE⟩))
set_option maxHeartbeats 4000000 in
theorem lc_2 {d : nwD} {X : nwX} {A : Nat → Prop} {Q : State → Prop} {H0 : Heap} {b L x y u i kc ns : Nat} {xs : Nat → Int32} {ro ad am : Nat → Nat} {σ : spSg} {sm ov : Int64} {th : Int32} {sv : Value} {H : Heap} (C : nwC d X A H0 "NightwatchWallLaw" "law" code 7 ret room_1 []) (hAA : ∀ q, nd_B d ≤ q → A q) (hX : va_X b L xs (nx_s X) (nx_s X).heap) (hbl : b < (nx_s X).heap.size) (hbA : ¬ A b) (hi : i + 5 ≤ L ∧ L ≤ 320) (hcap : kc + 9000 ≤ 601152 ∧ ns + 110000 ≤ 7246570) (hW : nwLW d (nx_s X) ro ad am x y u σ sm th ov sv H)
    (K : ∀ (H1 : Heap) (ro1 ad1 am1 : Nat → Nat) (σ1 : spSg) (sm1 : Int64) (th1 : Int32) (ov1 : Int64) (sv1 : Value), nwLW d (nx_s X) ro1 ad1 am1 x y u σ1 sm1 th1 ov1 sv1 H1 → nwV X A Q 7 H1 (kc + 9000) (ns + 110000) 2535 (nwLoc b x y u i) []) : nwV X A Q 7 H kc ns 342 (nwLoc b x y u i) [] := by
  obtain ⟨hR, hM, hu, hru, ok, hB, hE⟩ := hW
  show nwV X A Q 7 H kc ns 342 [(0, .ref b), (1, .ref x), (2, .ref y), (3, .ref u), (4, .int (nI i))] []
  refine nw_aload_n C 1 dL_law_342 rfl 343 rfl ?_
  refine nw_aload_n C 0 dL_law_343 rfl 344 rfl ?_
  refine nw_iload C 4 dL_law_344 rfl 346 rfl ?_
  refine nw_iconst C (nI 1) dL_law_346 (by decide) 347 rfl ?_
  refine nw_iaddN C dL_law_347 348 rfl ?_
  refine nw_sld C hX hbl hbA (by omega) dL_law_348 349 rfl ?_
  refine nw_aload_n C 0 dL_law_349 rfl 350 rfl ?_
  refine nw_iload C 4 dL_law_350 rfl 352 rfl ?_
  refine nw_iconst C (nI 2) dL_law_352 (by decide) 353 rfl ?_
  refine nw_iaddN C dL_law_353 354 rfl ?_
  refine nw_sld C hX hbl hbA (by omega) dL_law_354 355 rfl ?_
  refine nw_aload_n C 3 dL_law_355 rfl 356 rfl ?_
  refine nw_callSH C (mX0_gates _ C.hfl d ro ad x σ sm (xs (i + 1)) (xs (i + 2)) u ov sv H hB hR ok hu hru) hX0_gates q854 (As := [.ref x, .int (xs (i + 1)), .int (xs (i + 2)), .ref u]) (rest := []) rfl rfl ⟨⟨Nat.le_of_ble_eq_true rfl, Nat.le_of_ble_eq_true rfl⟩, (show kc + 1 ≤ 601152 by omega), (show ns + 6 ≤ 7246570 by omega)⟩ (Nat.le_of_ble_eq_true rfl) (fun q8 h8 h9 => hAA q8 (nwAW_B hR hB hru q8 h9)) dL_law_356 359 rfl (fun v9 H1 hR2 hz3 hq4 => ?_) nw_noX
  obtain ⟨rfl, ok9, hz9, ro9, ad9, hR9, hk9, ov9, sv9, hu9, hov9⟩ := hR2
  have hM9 := hM.kpM hR9.1 hk9 hq4 (fun q g hr => nwAW_M hru g hr)
  replace hE := hE.kept (fun q9 g9 hb9 => hq4 q9 g9 (fun h9 => hb9 (nwAW_B hR (Nat.le_trans hB (Nat.le_refl _)) hru q9 h9)))
  replace hB := Nat.le_trans hB hz3
  replace hru := nw_rt hk9 hru (by decide)
  show nwV X _ _ 7 H1 (kc + 1) (ns + 6) 359 [(0, .ref b), (1, .ref x), (2, .ref y), (3, .ref u), (4, .int (nI i))] [.int (nI (op_gates σ (xs (i + 1)) (xs (i + 2))).1)]
  refine nw_istore C [(5, .int (nI (op_gates σ (xs (i + 1)) (xs (i + 2))).1)), (0, .ref b), (1, .ref x), (2, .ref y), (3, .ref u), (4, .int (nI i))] dL_law_359 (by decide) rfl 361 rfl ?_
  refine nw_aload_n C 3 dL_law_361 rfl 362 rfl ?_
  refine nw_aload_n C 1 dL_law_362 rfl 363 rfl ?_
  refine nw_iload C 5 dL_law_363 rfl 365 rfl ?_
  refine nw_iconst C (nI 1) dL_law_365 (by decide) 366 rfl ?_
  refine nw_iaddN C dL_law_366 367 rfl ?_
  refine nw_sld C hX hbl hbA (by omega) dL_law_367 368 rfl ?_
  refine nw_aload_n C 1 dL_law_368 rfl 369 rfl ?_
  refine nw_iload C 5 dL_law_369 rfl 371 rfl ?_
  refine nw_iconst C (nI 2) dL_law_371 (by decide) 372 rfl ?_
  refine nw_iaddN C dL_law_372 373 rfl ?_
  refine nw_sld C hX hbl hbA (by omega) dL_law_373 374 rfl ?_
  refine nw_callV C (mX4_gates _ C.hfl d ro9 am y σ th (xs (i + 1)) (xs (i + 2)) H1 hB hM9 ok) kX4_gates q1718 (hM9.2.1.1.is C (ci := 9) rfl) (As := [.int (xs (i + 1)), .int (xs (i + 2))]) (rest := []) rfl rfl ⟨⟨Nat.le_of_ble_eq_true rfl, Nat.le_of_ble_eq_true rfl⟩, (show (kc + 1) + 0 ≤ 601152 by omega), (show (ns + 6) + 0 ≤ 7246570 by omega)⟩ (Nat.le_of_ble_eq_true rfl) (fun q8 h8 h9 => hAA q8 (nwAM_B hM9 hB q8 h9)) dL_law_374 377 rfl (fun v9 H5 hR6 hz7 hq8 => ?_) nw_noX
  obtain ⟨rfl, okm, hzm, rom, amm, hMm, hkm⟩ := hR6
  have hRm := hR9.kpR hMm.1 hkm hq8 (fun q g hr => nwAM_R g hr)
  have hum := hu9.kept (hq8 _ hu9.lt (nwAM_u hru hu9.lt))
  replace hE := hE.kept (fun q9 g9 hb9 => hq8 q9 g9 (fun h9 => hb9 (nwAM_B hM9 hB q9 h9)))
  replace hB := Nat.le_trans hB hz7
  replace hru := nw_rt hkm hru (by decide)
  show nwV X _ _ 7 H5 ((kc + 1) + 0) ((ns + 6) + 0) 377 [(5, .int (nI (op_gates σ (xs (i + 1)) (xs (i + 2))).1)), (0, .ref b), (1, .ref x), (2, .ref y), (3, .ref u), (4, .int (nI i))] [.int ((op_gates σ (xs (i + 1)) (xs (i + 2))).2.1)]
  refine nw_wide (k' := kc + 1) (n' := ns + 6) (by omega) (by omega) ?_
  refine nw_istore C [(6, .int ((op_gates σ (xs (i + 1)) (xs (i + 2))).2.1)), (5, .int (nI (op_gates σ (xs (i + 1)) (xs (i + 2))).1)), (0, .ref b), (1, .ref x), (2, .ref y), (3, .ref u), (4, .int (nI i))] dL_law_377 (by decide) rfl 379 rfl ?_
  refine nw_aload_n C 4 dL_law_379 rfl 380 rfl ?_
  refine nw_callV C (mX4_thrown _ C.hfl d rom amm y (op_gates σ (xs (i + 1)) (xs (i + 2))).2.2 (nI (op_gates σ (xs (i + 1)) (xs (i + 2))).1) H5 hB hMm.wc) kX4_thrown q1683 (hMm.2.1.1.is C (ci := 9) rfl) (As := []) (rest := []) rfl rfl ⟨⟨Nat.le_of_ble_eq_true rfl, Nat.le_of_ble_eq_true rfl⟩, (show (kc + 1) + 0 ≤ 601152 by omega), (show (ns + 6) + 0 ≤ 7246570 by omega)⟩ (Nat.le_of_ble_eq_true rfl) (fun _ h8 h9 => absurd h9 (Nat.not_le.mpr h8)) dL_law_380 383 rfl (nw_rdK ?_) nw_noX
  refine nw_iload C 1 dL_law_383 rfl 385 rfl ?_
  refine nw_icmpeq C 390 dL_law_385 (by decide) 388 rfl (fun _ => ?_) (fun h9 => absurd rfl h9)
  refine nw_iload C 1 dL_law_390 rfl 392 rfl ?_
  refine nw_ifne C 408 dL_law_392 (by decide) 395 rfl (fun h10 => ?_) (fun h10 => ?_)
  · refine nw_goto C 2535 dL_law_408 (by decide) ?_
    exact nw_wide (k' := kc + 9000) (n' := ns + 110000) (by omega) (by omega) (nw_sub [2, 3, 4, 5, 6] rfl (K H5 rom ad9 amm ((op_gates σ (xs (i + 1)) (xs (i + 2))).2.2) sm (nI (op_gates σ (xs (i + 1)) (xs (i + 2))).1) ov9 sv9 ⟨hRm, hMm, hum, hru, ok9, hB, hE⟩))
  · have h0 : (op_gates σ (xs (i + 1)) (xs (i + 2))).1 = 0 := (nI_eq (Nat.lt_of_le_of_lt (op_gates_3 σ (xs (i + 1)) (xs (i + 2))) (by decide)) (by decide)).mp h10
    refine nw_aload_n C 5 dL_law_395 rfl 396 rfl ?_
    refine nw_getN C hum (T := TX5) rfl in_X5 0 (by decide) q640 rfl rfl dL_law_396 399 rfl ?_
    refine nw_iload C 0 dL_law_399 rfl 401 rfl ?_
    refine nw_i2l C dL_law_401 402 rfl ?_
    refine nw_lcmp C dL_law_402 403 rfl ?_
    refine nw_ifeq C 408 dL_law_403 (by decide) 406 rfl (fun _ => ?_) (fun h11 => absurd (by rw [hov9 h0]; exact lg_self _) h11)
    refine nw_goto C 2535 dL_law_408 (by decide) ?_
    exact nw_wide (k' := kc + 9000) (n' := ns + 110000) (by omega) (by omega) (nw_sub [2, 3, 4, 5, 6] rfl (K H5 rom ad9 amm ((op_gates σ (xs (i + 1)) (xs (i + 2))).2.2) sm (nI (op_gates σ (xs (i + 1)) (xs (i + 2))).1) ov9 sv9 ⟨hRm, hMm, hum, hru, ok9, hB, hE⟩))
set_option maxHeartbeats 4000000 in
theorem lc_3 {d : nwD} {X : nwX} {A : Nat → Prop} {Q : State → Prop} {H0 : Heap} {b L x y u i kc ns : Nat} {xs : Nat → Int32} {ro ad am : Nat → Nat} {σ : spSg} {sm ov : Int64} {th : Int32} {sv : Value} {H : Heap} (C : nwC d X A H0 "NightwatchWallLaw" "law" code 7 ret room_1 []) (hAA : ∀ q, nd_B d ≤ q → A q) (hX : va_X b L xs (nx_s X) (nx_s X).heap) (hbl : b < (nx_s X).heap.size) (hbA : ¬ A b) (hi : i + 5 ≤ L ∧ L ≤ 320) (hcap : kc + 9000 ≤ 601152 ∧ ns + 110000 ≤ 7246570) (hW : nwLW d (nx_s X) ro ad am x y u σ sm th ov sv H)
    (K : ∀ (H1 : Heap) (ro1 ad1 am1 : Nat → Nat) (σ1 : spSg) (sm1 : Int64) (th1 : Int32) (ov1 : Int64) (sv1 : Value), nwLW d (nx_s X) ro1 ad1 am1 x y u σ1 sm1 th1 ov1 sv1 H1 → nwV X A Q 7 H1 (kc + 9000) (ns + 110000) 2535 (nwLoc b x y u i) []) : nwV X A Q 7 H kc ns 411 (nwLoc b x y u i) [] := by
  obtain ⟨hR, hM, hu, hru, ok, hB, hE⟩ := hW
  show nwV X A Q 7 H kc ns 411 [(0, .ref b), (1, .ref x), (2, .ref y), (3, .ref u), (4, .int (nI i))] []
  refine nw_aload_n C 1 dL_law_411 rfl 412 rfl ?_
  refine nw_aload_n C 0 dL_law_412 rfl 413 rfl ?_
  refine nw_iload C 4 dL_law_413 rfl 415 rfl ?_
  refine nw_iconst C (nI 1) dL_law_415 (by decide) 416 rfl ?_
  refine nw_iaddN C dL_law_416 417 rfl ?_
  refine nw_sld C hX hbl hbA (by omega) dL_law_417 418 rfl ?_
  refine nw_aload_n C 0 dL_law_418 rfl 419 rfl ?_
  refine nw_iload C 4 dL_law_419 rfl 421 rfl ?_
  refine nw_iconst C (nI 2) dL_law_421 (by decide) 422 rfl ?_
  refine nw_iaddN C dL_law_422 423 rfl ?_
  refine nw_sld C hX hbl hbA (by omega) dL_law_423 424 rfl ?_
  refine nw_aload_n C 3 dL_law_424 rfl 425 rfl ?_
  refine nw_callSH C (mX0_lamp _ C.hfl d ro ad x σ sm (xs (i + 1)) (xs (i + 2)) u ov sv H hB hR ok hu hru) hX0_lamp q864 (As := [.ref x, .int (xs (i + 1)), .int (xs (i + 2)), .ref u]) (rest := []) rfl rfl ⟨⟨Nat.le_of_ble_eq_true rfl, Nat.le_of_ble_eq_true rfl⟩, (show kc + 4 ≤ 601152 by omega), (show ns + 40 ≤ 7246570 by omega)⟩ (Nat.le_of_ble_eq_true rfl) (fun q8 h8 h9 => hAA q8 (nwAW_B hR hB hru q8 h9)) dL_law_425 428 rfl (fun v9 H1 hR2 hz3 hq4 => ?_) nw_noX
  obtain ⟨rfl, ok9, hz9, ro9, ad9, hR9, hk9, ov9, sv9, hu9, hov9⟩ := hR2
  have hM9 := hM.kpM hR9.1 hk9 hq4 (fun q g hr => nwAW_M hru g hr)
  replace hE := hE.kept (fun q9 g9 hb9 => hq4 q9 g9 (fun h9 => hb9 (nwAW_B hR (Nat.le_trans hB (Nat.le_refl _)) hru q9 h9)))
  replace hB := Nat.le_trans hB hz3
  replace hru := nw_rt hk9 hru (by decide)
  show nwV X _ _ 7 H1 (kc + 4) (ns + 40) 428 [(0, .ref b), (1, .ref x), (2, .ref y), (3, .ref u), (4, .int (nI i))] [.int (nI (op_lamp σ (xs (i + 1)) (xs (i + 2))).1)]
  refine nw_istore C [(5, .int (nI (op_lamp σ (xs (i + 1)) (xs (i + 2))).1)), (0, .ref b), (1, .ref x), (2, .ref y), (3, .ref u), (4, .int (nI i))] dL_law_428 (by decide) rfl 430 rfl ?_
  refine nw_aload_n C 3 dL_law_430 rfl 431 rfl ?_
  refine nw_aload_n C 1 dL_law_431 rfl 432 rfl ?_
  refine nw_iload C 5 dL_law_432 rfl 434 rfl ?_
  refine nw_iconst C (nI 1) dL_law_434 (by decide) 435 rfl ?_
  refine nw_iaddN C dL_law_435 436 rfl ?_
  refine nw_sld C hX hbl hbA (by omega) dL_law_436 437 rfl ?_
  refine nw_aload_n C 1 dL_law_437 rfl 438 rfl ?_
  refine nw_iload C 5 dL_law_438 rfl 440 rfl ?_
  refine nw_iconst C (nI 2) dL_law_440 (by decide) 441 rfl ?_
  refine nw_iaddN C dL_law_441 442 rfl ?_
  refine nw_sld C hX hbl hbA (by omega) dL_law_442 443 rfl ?_
  refine nw_callV C (mX4_lamp _ C.hfl d ro9 am y σ th (xs (i + 1)) (xs (i + 2)) H1 hB hM9 ok) kX4_lamp q1725 (hM9.2.1.1.is C (ci := 9) rfl) (As := [.int (xs (i + 1)), .int (xs (i + 2))]) (rest := []) rfl rfl ⟨⟨Nat.le_of_ble_eq_true rfl, Nat.le_of_ble_eq_true rfl⟩, (show (kc + 4) + 2 ≤ 601152 by omega), (show (ns + 40) + 13 ≤ 7246570 by omega)⟩ (Nat.le_of_ble_eq_true rfl) (fun q8 h8 h9 => hAA q8 (nwAM_B hM9 hB q8 h9)) dL_law_443 446 rfl (fun v9 H5 hR6 hz7 hq8 => ?_) nw_noX
  obtain ⟨rfl, okm, hzm, rom, amm, hMm, hkm⟩ := hR6
  have hRm := hR9.kpR hMm.1 hkm hq8 (fun q g hr => nwAM_R g hr)
  have hum := hu9.kept (hq8 _ hu9.lt (nwAM_u hru hu9.lt))
  replace hE := hE.kept (fun q9 g9 hb9 => hq8 q9 g9 (fun h9 => hb9 (nwAM_B hM9 hB q9 h9)))
  replace hB := Nat.le_trans hB hz7
  replace hru := nw_rt hkm hru (by decide)
  show nwV X _ _ 7 H5 ((kc + 4) + 2) ((ns + 40) + 13) 446 [(5, .int (nI (op_lamp σ (xs (i + 1)) (xs (i + 2))).1)), (0, .ref b), (1, .ref x), (2, .ref y), (3, .ref u), (4, .int (nI i))] [.int ((op_lamp σ (xs (i + 1)) (xs (i + 2))).2.1)]
  refine nw_wide (k' := kc + 6) (n' := ns + 53) (by omega) (by omega) ?_
  refine nw_istore C [(6, .int ((op_lamp σ (xs (i + 1)) (xs (i + 2))).2.1)), (5, .int (nI (op_lamp σ (xs (i + 1)) (xs (i + 2))).1)), (0, .ref b), (1, .ref x), (2, .ref y), (3, .ref u), (4, .int (nI i))] dL_law_446 (by decide) rfl 448 rfl ?_
  refine nw_aload_n C 4 dL_law_448 rfl 449 rfl ?_
  refine nw_callV C (mX4_thrown _ C.hfl d rom amm y (op_lamp σ (xs (i + 1)) (xs (i + 2))).2.2 (nI (op_lamp σ (xs (i + 1)) (xs (i + 2))).1) H5 hB hMm.wc) kX4_thrown q1683 (hMm.2.1.1.is C (ci := 9) rfl) (As := []) (rest := []) rfl rfl ⟨⟨Nat.le_of_ble_eq_true rfl, Nat.le_of_ble_eq_true rfl⟩, (show (kc + 6) + 0 ≤ 601152 by omega), (show (ns + 53) + 0 ≤ 7246570 by omega)⟩ (Nat.le_of_ble_eq_true rfl) (fun _ h8 h9 => absurd h9 (Nat.not_le.mpr h8)) dL_law_449 452 rfl (nw_rdK ?_) nw_noX
  refine nw_iload C 1 dL_law_452 rfl 454 rfl ?_
  refine nw_icmpeq C 459 dL_law_454 (by decide) 457 rfl (fun _ => ?_) (fun h9 => absurd rfl h9)
  refine nw_iload C 1 dL_law_459 rfl 461 rfl ?_
  refine nw_ifne C 477 dL_law_461 (by decide) 464 rfl (fun h10 => ?_) (fun h10 => ?_)
  · refine nw_goto C 2535 dL_law_477 (by decide) ?_
    exact nw_wide (k' := kc + 9000) (n' := ns + 110000) (by omega) (by omega) (nw_sub [2, 3, 4, 5, 6] rfl (K H5 rom ad9 amm ((op_lamp σ (xs (i + 1)) (xs (i + 2))).2.2) sm (nI (op_lamp σ (xs (i + 1)) (xs (i + 2))).1) ov9 sv9 ⟨hRm, hMm, hum, hru, ok9, hB, hE⟩))
  · have h0 : (op_lamp σ (xs (i + 1)) (xs (i + 2))).1 = 0 := (nI_eq (Nat.lt_of_le_of_lt (op_lamp_3 σ (xs (i + 1)) (xs (i + 2))) (by decide)) (by decide)).mp h10
    refine nw_aload_n C 5 dL_law_464 rfl 465 rfl ?_
    refine nw_getN C hum (T := TX5) rfl in_X5 0 (by decide) q640 rfl rfl dL_law_465 468 rfl ?_
    refine nw_iload C 0 dL_law_468 rfl 470 rfl ?_
    refine nw_i2l C dL_law_470 471 rfl ?_
    refine nw_lcmp C dL_law_471 472 rfl ?_
    refine nw_ifeq C 477 dL_law_472 (by decide) 475 rfl (fun _ => ?_) (fun h11 => absurd (by rw [hov9 h0]; exact lg_self _) h11)
    refine nw_goto C 2535 dL_law_477 (by decide) ?_
    exact nw_wide (k' := kc + 9000) (n' := ns + 110000) (by omega) (by omega) (nw_sub [2, 3, 4, 5, 6] rfl (K H5 rom ad9 amm ((op_lamp σ (xs (i + 1)) (xs (i + 2))).2.2) sm (nI (op_lamp σ (xs (i + 1)) (xs (i + 2))).1) ov9 sv9 ⟨hRm, hMm, hum, hru, ok9, hB, hE⟩))
set_option maxHeartbeats 4000000 in
theorem lc_4 {d : nwD} {X : nwX} {A : Nat → Prop} {Q : State → Prop} {H0 : Heap} {b L x y u i kc ns : Nat} {xs : Nat → Int32} {ro ad am : Nat → Nat} {σ : spSg} {sm ov : Int64} {th : Int32} {sv : Value} {H : Heap} (C : nwC d X A H0 "NightwatchWallLaw" "law" code 7 ret room_1 []) (hAA : ∀ q, nd_B d ≤ q → A q) (hX : va_X b L xs (nx_s X) (nx_s X).heap) (hbl : b < (nx_s X).heap.size) (hbA : ¬ A b) (hi : i + 5 ≤ L ∧ L ≤ 320) (hcap : kc + 9000 ≤ 601152 ∧ ns + 110000 ≤ 7246570) (hW : nwLW d (nx_s X) ro ad am x y u σ sm th ov sv H)
    (K : ∀ (H1 : Heap) (ro1 ad1 am1 : Nat → Nat) (σ1 : spSg) (sm1 : Int64) (th1 : Int32) (ov1 : Int64) (sv1 : Value), nwLW d (nx_s X) ro1 ad1 am1 x y u σ1 sm1 th1 ov1 sv1 H1 → nwV X A Q 7 H1 (kc + 9000) (ns + 110000) 2535 (nwLoc b x y u i) []) : nwV X A Q 7 H kc ns 480 (nwLoc b x y u i) [] := by
  obtain ⟨hR, hM, hu, hru, ok, hB, hE⟩ := hW
  show nwV X A Q 7 H kc ns 480 [(0, .ref b), (1, .ref x), (2, .ref y), (3, .ref u), (4, .int (nI i))] []
  refine nw_aload_n C 1 dL_law_480 rfl 481 rfl ?_
  refine nw_aload_n C 0 dL_law_481 rfl 482 rfl ?_
  refine nw_iload C 4 dL_law_482 rfl 484 rfl ?_
  refine nw_iconst C (nI 1) dL_law_484 (by decide) 485 rfl ?_
  refine nw_iaddN C dL_law_485 486 rfl ?_
  refine nw_sld C hX hbl hbA (by omega) dL_law_486 487 rfl ?_
  refine nw_aload_n C 0 dL_law_487 rfl 488 rfl ?_
  refine nw_iload C 4 dL_law_488 rfl 490 rfl ?_
  refine nw_iconst C (nI 2) dL_law_490 (by decide) 491 rfl ?_
  refine nw_iaddN C dL_law_491 492 rfl ?_
  refine nw_sld C hX hbl hbA (by omega) dL_law_492 493 rfl ?_
  refine nw_ifeq C 500 dL_law_493 (by decide) 496 rfl (fun h1 => ?_) (fun h1 => ?_)
  · refine nw_iconst C (nI 0) dL_law_500 (by decide) 501 rfl ?_
    refine nw_aload_n C 3 dL_law_501 rfl 502 rfl ?_
    refine nw_callSH C (mX0_light _ C.hfl d ro ad x σ sm (xs (i + 1)) false u ov sv H hB hR ok hu hru) hX0_light q958 (As := [.ref x, .int (xs (i + 1)), .int (b2i false), .ref u]) (rest := []) rfl rfl ⟨⟨Nat.le_of_ble_eq_true rfl, Nat.le_of_ble_eq_true rfl⟩, (show kc + 1 ≤ 601152 by omega), (show ns + 6 ≤ 7246570 by omega)⟩ (Nat.le_of_ble_eq_true rfl) (fun q8 h8 h9 => hAA q8 (nwAW_B hR hB hru q8 h9)) dL_law_502 505 rfl (fun v9 H2 hR3 hz4 hq5 => ?_) nw_noX
    obtain ⟨rfl, ok9, hz9, ro9, ad9, hR9, hk9, ov9, sv9, hu9, hov9⟩ := hR3
    have hM9 := hM.kpM hR9.1 hk9 hq5 (fun q g hr => nwAW_M hru g hr)
    replace hE := hE.kept (fun q9 g9 hb9 => hq5 q9 g9 (fun h9 => hb9 (nwAW_B hR (Nat.le_trans hB (Nat.le_refl _)) hru q9 h9)))
    replace hB := Nat.le_trans hB hz4
    replace hru := nw_rt hk9 hru (by decide)
    show nwV X _ _ 7 H2 (kc + 1) (ns + 6) 505 [(0, .ref b), (1, .ref x), (2, .ref y), (3, .ref u), (4, .int (nI i))] [.int (nI (op_light σ (xs (i + 1)) false).1)]
    refine nw_istore C [(5, .int (nI (op_light σ (xs (i + 1)) false).1)), (0, .ref b), (1, .ref x), (2, .ref y), (3, .ref u), (4, .int (nI i))] dL_law_505 (by decide) rfl 507 rfl ?_
    refine nw_aload_n C 3 dL_law_507 rfl 508 rfl ?_
    refine nw_aload_n C 1 dL_law_508 rfl 509 rfl ?_
    refine nw_iload C 5 dL_law_509 rfl 511 rfl ?_
    refine nw_iconst C (nI 1) dL_law_511 (by decide) 512 rfl ?_
    refine nw_iaddN C dL_law_512 513 rfl ?_
    refine nw_sld C hX hbl hbA (by omega) dL_law_513 514 rfl ?_
    refine nw_aload_n C 1 dL_law_514 rfl 515 rfl ?_
    refine nw_iload C 5 dL_law_515 rfl 517 rfl ?_
    refine nw_iconst C (nI 2) dL_law_517 (by decide) 518 rfl ?_
    refine nw_iaddN C dL_law_518 519 rfl ?_
    refine nw_sld C hX hbl hbA (by omega) dL_law_519 520 rfl ?_
    refine nw_ifeq C 527 dL_law_520 (by decide) 523 rfl (fun _ => ?_) (fun h6 => absurd h1 h6)
    refine nw_iconst C (nI 0) dL_law_527 (by decide) 528 rfl ?_
    refine nw_callV C (mX4_light _ C.hfl d ro9 am y σ th (xs (i + 1)) false H2 hB hM9 ok) kX4_light q1736 (hM9.2.1.1.is C (ci := 9) rfl) (As := [.int (xs (i + 1)), .int (b2i false)]) (rest := []) rfl rfl ⟨⟨Nat.le_of_ble_eq_true rfl, Nat.le_of_ble_eq_true rfl⟩, (show (kc + 1) + 0 ≤ 601152 by omega), (show (ns + 6) + 0 ≤ 7246570 by omega)⟩ (Nat.le_of_ble_eq_true rfl) (fun q8 h8 h9 => hAA q8 (nwAM_B hM9 hB q8 h9)) dL_law_528 531 rfl (fun v9 H7 hR8 hz9 hq10 => ?_) nw_noX
    obtain ⟨rfl, okm, hzm, rom, amm, hMm, hkm⟩ := hR8
    have hRm := hR9.kpR hMm.1 hkm hq10 (fun q g hr => nwAM_R g hr)
    have hum := hu9.kept (hq10 _ hu9.lt (nwAM_u hru hu9.lt))
    replace hE := hE.kept (fun q9 g9 hb9 => hq10 q9 g9 (fun h9 => hb9 (nwAM_B hM9 hB q9 h9)))
    replace hB := Nat.le_trans hB hz9
    replace hru := nw_rt hkm hru (by decide)
    show nwV X _ _ 7 H7 ((kc + 1) + 0) ((ns + 6) + 0) 531 [(5, .int (nI (op_light σ (xs (i + 1)) false).1)), (0, .ref b), (1, .ref x), (2, .ref y), (3, .ref u), (4, .int (nI i))] [.int ((op_light σ (xs (i + 1)) false).2.1)]
    refine nw_wide (k' := kc + 1) (n' := ns + 6) (by omega) (by omega) ?_
    refine nw_istore C [(6, .int ((op_light σ (xs (i + 1)) false).2.1)), (5, .int (nI (op_light σ (xs (i + 1)) false).1)), (0, .ref b), (1, .ref x), (2, .ref y), (3, .ref u), (4, .int (nI i))] dL_law_531 (by decide) rfl 533 rfl ?_
    refine nw_aload_n C 4 dL_law_533 rfl 534 rfl ?_
    refine nw_callV C (mX4_thrown _ C.hfl d rom amm y (op_light σ (xs (i + 1)) false).2.2 (nI (op_light σ (xs (i + 1)) false).1) H7 hB hMm.wc) kX4_thrown q1683 (hMm.2.1.1.is C (ci := 9) rfl) (As := []) (rest := []) rfl rfl ⟨⟨Nat.le_of_ble_eq_true rfl, Nat.le_of_ble_eq_true rfl⟩, (show (kc + 1) + 0 ≤ 601152 by omega), (show (ns + 6) + 0 ≤ 7246570 by omega)⟩ (Nat.le_of_ble_eq_true rfl) (fun _ h8 h9 => absurd h9 (Nat.not_le.mpr h8)) dL_law_534 537 rfl (nw_rdK ?_) nw_noX
    refine nw_iload C 1 dL_law_537 rfl 539 rfl ?_
    refine nw_icmpeq C 544 dL_law_539 (by decide) 542 rfl (fun _ => ?_) (fun h11 => absurd rfl h11)
    refine nw_iload C 1 dL_law_544 rfl 546 rfl ?_
    refine nw_ifne C 562 dL_law_546 (by decide) 549 rfl (fun h12 => ?_) (fun h12 => ?_)
    · refine nw_goto C 2535 dL_law_562 (by decide) ?_
      exact nw_wide (k' := kc + 9000) (n' := ns + 110000) (by omega) (by omega) (nw_sub [2, 3, 4, 5, 6] rfl (K H7 rom ad9 amm ((op_light σ (xs (i + 1)) false).2.2) sm (nI (op_light σ (xs (i + 1)) false).1) ov9 sv9 ⟨hRm, hMm, hum, hru, ok9, hB, hE⟩))
    · have h0 : (op_light σ (xs (i + 1)) false).1 = 0 := (nI_eq (Nat.lt_of_le_of_lt (op_light_3 σ (xs (i + 1)) false) (by decide)) (by decide)).mp h12
      refine nw_aload_n C 5 dL_law_549 rfl 550 rfl ?_
      refine nw_getN C hum (T := TX5) rfl in_X5 0 (by decide) q640 rfl rfl dL_law_550 553 rfl ?_
      refine nw_iload C 0 dL_law_553 rfl 555 rfl ?_
      refine nw_i2l C dL_law_555 556 rfl ?_
      refine nw_lcmp C dL_law_556 557 rfl ?_
      refine nw_ifeq C 562 dL_law_557 (by decide) 560 rfl (fun _ => ?_) (fun h13 => absurd (by rw [hov9 h0]; exact lg_self _) h13)
      refine nw_goto C 2535 dL_law_562 (by decide) ?_
      exact nw_wide (k' := kc + 9000) (n' := ns + 110000) (by omega) (by omega) (nw_sub [2, 3, 4, 5, 6] rfl (K H7 rom ad9 amm ((op_light σ (xs (i + 1)) false).2.2) sm (nI (op_light σ (xs (i + 1)) false).1) ov9 sv9 ⟨hRm, hMm, hum, hru, ok9, hB, hE⟩))
  · refine nw_iconst C (nI 1) dL_law_496 (by decide) 497 rfl ?_
    refine nw_goto C 501 dL_law_497 (by decide) ?_
    refine nw_aload_n C 3 dL_law_501 rfl 502 rfl ?_
    refine nw_callSH C (mX0_light _ C.hfl d ro ad x σ sm (xs (i + 1)) true u ov sv H hB hR ok hu hru) hX0_light q958 (As := [.ref x, .int (xs (i + 1)), .int (b2i true), .ref u]) (rest := []) rfl rfl ⟨⟨Nat.le_of_ble_eq_true rfl, Nat.le_of_ble_eq_true rfl⟩, (show kc + 1 ≤ 601152 by omega), (show ns + 6 ≤ 7246570 by omega)⟩ (Nat.le_of_ble_eq_true rfl) (fun q8 h8 h9 => hAA q8 (nwAW_B hR hB hru q8 h9)) dL_law_502 505 rfl (fun v9 H14 hR15 hz16 hq17 => ?_) nw_noX
    obtain ⟨rfl, ok9, hz9, ro9, ad9, hR9, hk9, ov9, sv9, hu9, hov9⟩ := hR15
    have hM9 := hM.kpM hR9.1 hk9 hq17 (fun q g hr => nwAW_M hru g hr)
    replace hE := hE.kept (fun q9 g9 hb9 => hq17 q9 g9 (fun h9 => hb9 (nwAW_B hR (Nat.le_trans hB (Nat.le_refl _)) hru q9 h9)))
    replace hB := Nat.le_trans hB hz16
    replace hru := nw_rt hk9 hru (by decide)
    show nwV X _ _ 7 H14 (kc + 1) (ns + 6) 505 [(0, .ref b), (1, .ref x), (2, .ref y), (3, .ref u), (4, .int (nI i))] [.int (nI (op_light σ (xs (i + 1)) true).1)]
    refine nw_istore C [(5, .int (nI (op_light σ (xs (i + 1)) true).1)), (0, .ref b), (1, .ref x), (2, .ref y), (3, .ref u), (4, .int (nI i))] dL_law_505 (by decide) rfl 507 rfl ?_
    refine nw_aload_n C 3 dL_law_507 rfl 508 rfl ?_
    refine nw_aload_n C 1 dL_law_508 rfl 509 rfl ?_
    refine nw_iload C 5 dL_law_509 rfl 511 rfl ?_
    refine nw_iconst C (nI 1) dL_law_511 (by decide) 512 rfl ?_
    refine nw_iaddN C dL_law_512 513 rfl ?_
    refine nw_sld C hX hbl hbA (by omega) dL_law_513 514 rfl ?_
    refine nw_aload_n C 1 dL_law_514 rfl 515 rfl ?_
    refine nw_iload C 5 dL_law_515 rfl 517 rfl ?_
    refine nw_iconst C (nI 2) dL_law_517 (by decide) 518 rfl ?_
    refine nw_iaddN C dL_law_518 519 rfl ?_
    refine nw_sld C hX hbl hbA (by omega) dL_law_519 520 rfl ?_
    refine nw_ifeq C 527 dL_law_520 (by decide) 523 rfl (fun h18 => absurd h18 h1) (fun _ => ?_)
    refine nw_iconst C (nI 1) dL_law_523 (by decide) 524 rfl ?_
    refine nw_goto C 528 dL_law_524 (by decide) ?_
    refine nw_callV C (mX4_light _ C.hfl d ro9 am y σ th (xs (i + 1)) true H14 hB hM9 ok) kX4_light q1736 (hM9.2.1.1.is C (ci := 9) rfl) (As := [.int (xs (i + 1)), .int (b2i true)]) (rest := []) rfl rfl ⟨⟨Nat.le_of_ble_eq_true rfl, Nat.le_of_ble_eq_true rfl⟩, (show (kc + 1) + 0 ≤ 601152 by omega), (show (ns + 6) + 0 ≤ 7246570 by omega)⟩ (Nat.le_of_ble_eq_true rfl) (fun q8 h8 h9 => hAA q8 (nwAM_B hM9 hB q8 h9)) dL_law_528 531 rfl (fun v9 H19 hR20 hz21 hq22 => ?_) nw_noX
    obtain ⟨rfl, okm, hzm, rom, amm, hMm, hkm⟩ := hR20
    have hRm := hR9.kpR hMm.1 hkm hq22 (fun q g hr => nwAM_R g hr)
    have hum := hu9.kept (hq22 _ hu9.lt (nwAM_u hru hu9.lt))
    replace hE := hE.kept (fun q9 g9 hb9 => hq22 q9 g9 (fun h9 => hb9 (nwAM_B hM9 hB q9 h9)))
    replace hB := Nat.le_trans hB hz21
    replace hru := nw_rt hkm hru (by decide)
    show nwV X _ _ 7 H19 ((kc + 1) + 0) ((ns + 6) + 0) 531 [(5, .int (nI (op_light σ (xs (i + 1)) true).1)), (0, .ref b), (1, .ref x), (2, .ref y), (3, .ref u), (4, .int (nI i))] [.int ((op_light σ (xs (i + 1)) true).2.1)]
    refine nw_wide (k' := kc + 1) (n' := ns + 6) (by omega) (by omega) ?_
    refine nw_istore C [(6, .int ((op_light σ (xs (i + 1)) true).2.1)), (5, .int (nI (op_light σ (xs (i + 1)) true).1)), (0, .ref b), (1, .ref x), (2, .ref y), (3, .ref u), (4, .int (nI i))] dL_law_531 (by decide) rfl 533 rfl ?_
    refine nw_aload_n C 4 dL_law_533 rfl 534 rfl ?_
    refine nw_callV C (mX4_thrown _ C.hfl d rom amm y (op_light σ (xs (i + 1)) true).2.2 (nI (op_light σ (xs (i + 1)) true).1) H19 hB hMm.wc) kX4_thrown q1683 (hMm.2.1.1.is C (ci := 9) rfl) (As := []) (rest := []) rfl rfl ⟨⟨Nat.le_of_ble_eq_true rfl, Nat.le_of_ble_eq_true rfl⟩, (show (kc + 1) + 0 ≤ 601152 by omega), (show (ns + 6) + 0 ≤ 7246570 by omega)⟩ (Nat.le_of_ble_eq_true rfl) (fun _ h8 h9 => absurd h9 (Nat.not_le.mpr h8)) dL_law_534 537 rfl (nw_rdK ?_) nw_noX
    refine nw_iload C 1 dL_law_537 rfl 539 rfl ?_
    refine nw_icmpeq C 544 dL_law_539 (by decide) 542 rfl (fun _ => ?_) (fun h23 => absurd rfl h23)
    refine nw_iload C 1 dL_law_544 rfl 546 rfl ?_
    refine nw_ifne C 562 dL_law_546 (by decide) 549 rfl (fun h24 => ?_) (fun h24 => ?_)
    · refine nw_goto C 2535 dL_law_562 (by decide) ?_
      exact nw_wide (k' := kc + 9000) (n' := ns + 110000) (by omega) (by omega) (nw_sub [2, 3, 4, 5, 6] rfl (K H19 rom ad9 amm ((op_light σ (xs (i + 1)) true).2.2) sm (nI (op_light σ (xs (i + 1)) true).1) ov9 sv9 ⟨hRm, hMm, hum, hru, ok9, hB, hE⟩))
    · have h0 : (op_light σ (xs (i + 1)) true).1 = 0 := (nI_eq (Nat.lt_of_le_of_lt (op_light_3 σ (xs (i + 1)) true) (by decide)) (by decide)).mp h24
      refine nw_aload_n C 5 dL_law_549 rfl 550 rfl ?_
      refine nw_getN C hum (T := TX5) rfl in_X5 0 (by decide) q640 rfl rfl dL_law_550 553 rfl ?_
      refine nw_iload C 0 dL_law_553 rfl 555 rfl ?_
      refine nw_i2l C dL_law_555 556 rfl ?_
      refine nw_lcmp C dL_law_556 557 rfl ?_
      refine nw_ifeq C 562 dL_law_557 (by decide) 560 rfl (fun _ => ?_) (fun h25 => absurd (by rw [hov9 h0]; exact lg_self _) h25)
      refine nw_goto C 2535 dL_law_562 (by decide) ?_
      exact nw_wide (k' := kc + 9000) (n' := ns + 110000) (by omega) (by omega) (nw_sub [2, 3, 4, 5, 6] rfl (K H19 rom ad9 amm ((op_light σ (xs (i + 1)) true).2.2) sm (nI (op_light σ (xs (i + 1)) true).1) ov9 sv9 ⟨hRm, hMm, hum, hru, ok9, hB, hE⟩))
set_option maxHeartbeats 4000000 in
theorem lc_5 {d : nwD} {X : nwX} {A : Nat → Prop} {Q : State → Prop} {H0 : Heap} {b L x y u i kc ns : Nat} {xs : Nat → Int32} {ro ad am : Nat → Nat} {σ : spSg} {sm ov : Int64} {th : Int32} {sv : Value} {H : Heap} (C : nwC d X A H0 "NightwatchWallLaw" "law" code 7 ret room_1 []) (hAA : ∀ q, nd_B d ≤ q → A q) (hX : va_X b L xs (nx_s X) (nx_s X).heap) (hbl : b < (nx_s X).heap.size) (hbA : ¬ A b) (hi : i + 5 ≤ L ∧ L ≤ 320) (hcap : kc + 9000 ≤ 601152 ∧ ns + 110000 ≤ 7246570) (hW : nwLW d (nx_s X) ro ad am x y u σ sm th ov sv H)
    (K : ∀ (H1 : Heap) (ro1 ad1 am1 : Nat → Nat) (σ1 : spSg) (sm1 : Int64) (th1 : Int32) (ov1 : Int64) (sv1 : Value), nwLW d (nx_s X) ro1 ad1 am1 x y u σ1 sm1 th1 ov1 sv1 H1 → nwV X A Q 7 H1 (kc + 9000) (ns + 110000) 2535 (nwLoc b x y u i) []) : nwV X A Q 7 H kc ns 565 (nwLoc b x y u i) [] := by
  obtain ⟨hR, hM, hu, hru, ok, hB, hE⟩ := hW
  show nwV X A Q 7 H kc ns 565 [(0, .ref b), (1, .ref x), (2, .ref y), (3, .ref u), (4, .int (nI i))] []
  refine nw_aload_n C 1 dL_law_565 rfl 566 rfl ?_
  refine nw_aload_n C 0 dL_law_566 rfl 567 rfl ?_
  refine nw_iload C 4 dL_law_567 rfl 569 rfl ?_
  refine nw_iconst C (nI 1) dL_law_569 (by decide) 570 rfl ?_
  refine nw_iaddN C dL_law_570 571 rfl ?_
  refine nw_sld C hX hbl hbA (by omega) dL_law_571 572 rfl ?_
  refine nw_aload_n C 0 dL_law_572 rfl 573 rfl ?_
  refine nw_iload C 4 dL_law_573 rfl 575 rfl ?_
  refine nw_iconst C (nI 2) dL_law_575 (by decide) 576 rfl ?_
  refine nw_iaddN C dL_law_576 577 rfl ?_
  refine nw_sld C hX hbl hbA (by omega) dL_law_577 578 rfl ?_
  refine nw_aload_n C 3 dL_law_578 rfl 579 rfl ?_
  refine nw_callSH C (mX0_fog _ C.hfl d ro ad x σ sm (xs (i + 1)) (xs (i + 2)) u ov sv H hB hR ok hu hru) hX0_fog q965 (As := [.ref x, .int (xs (i + 1)), .int (xs (i + 2)), .ref u]) (rest := []) rfl rfl ⟨⟨Nat.le_of_ble_eq_true rfl, Nat.le_of_ble_eq_true rfl⟩, (show kc + 4 ≤ 601152 by omega), (show ns + 40 ≤ 7246570 by omega)⟩ (Nat.le_of_ble_eq_true rfl) (fun q8 h8 h9 => hAA q8 (nwAW_B hR hB hru q8 h9)) dL_law_579 582 rfl (fun v9 H1 hR2 hz3 hq4 => ?_) nw_noX
  obtain ⟨rfl, ok9, hz9, ro9, ad9, hR9, hk9, ov9, sv9, hu9, hov9⟩ := hR2
  have hM9 := hM.kpM hR9.1 hk9 hq4 (fun q g hr => nwAW_M hru g hr)
  replace hE := hE.kept (fun q9 g9 hb9 => hq4 q9 g9 (fun h9 => hb9 (nwAW_B hR (Nat.le_trans hB (Nat.le_refl _)) hru q9 h9)))
  replace hB := Nat.le_trans hB hz3
  replace hru := nw_rt hk9 hru (by decide)
  show nwV X _ _ 7 H1 (kc + 4) (ns + 40) 582 [(0, .ref b), (1, .ref x), (2, .ref y), (3, .ref u), (4, .int (nI i))] [.int (nI (op_fog σ (xs (i + 1)) (xs (i + 2))).1)]
  refine nw_istore C [(5, .int (nI (op_fog σ (xs (i + 1)) (xs (i + 2))).1)), (0, .ref b), (1, .ref x), (2, .ref y), (3, .ref u), (4, .int (nI i))] dL_law_582 (by decide) rfl 584 rfl ?_
  refine nw_aload_n C 3 dL_law_584 rfl 585 rfl ?_
  refine nw_aload_n C 1 dL_law_585 rfl 586 rfl ?_
  refine nw_iload C 5 dL_law_586 rfl 588 rfl ?_
  refine nw_iconst C (nI 1) dL_law_588 (by decide) 589 rfl ?_
  refine nw_iaddN C dL_law_589 590 rfl ?_
  refine nw_sld C hX hbl hbA (by omega) dL_law_590 591 rfl ?_
  refine nw_aload_n C 1 dL_law_591 rfl 592 rfl ?_
  refine nw_iload C 5 dL_law_592 rfl 594 rfl ?_
  refine nw_iconst C (nI 2) dL_law_594 (by decide) 595 rfl ?_
  refine nw_iaddN C dL_law_595 596 rfl ?_
  refine nw_sld C hX hbl hbA (by omega) dL_law_596 597 rfl ?_
  refine nw_callV C (mX4_fog _ C.hfl d ro9 am y σ th (xs (i + 1)) (xs (i + 2)) H1 hB hM9 ok) kX4_fog q1763 (hM9.2.1.1.is C (ci := 9) rfl) (As := [.int (xs (i + 1)), .int (xs (i + 2))]) (rest := []) rfl rfl ⟨⟨Nat.le_of_ble_eq_true rfl, Nat.le_of_ble_eq_true rfl⟩, (show (kc + 4) + 2 ≤ 601152 by omega), (show (ns + 40) + 12 ≤ 7246570 by omega)⟩ (Nat.le_of_ble_eq_true rfl) (fun q8 h8 h9 => hAA q8 (nwAM_B hM9 hB q8 h9)) dL_law_597 600 rfl (fun v9 H5 hR6 hz7 hq8 => ?_) nw_noX
  obtain ⟨rfl, okm, hzm, rom, amm, hMm, hkm⟩ := hR6
  have hRm := hR9.kpR hMm.1 hkm hq8 (fun q g hr => nwAM_R g hr)
  have hum := hu9.kept (hq8 _ hu9.lt (nwAM_u hru hu9.lt))
  replace hE := hE.kept (fun q9 g9 hb9 => hq8 q9 g9 (fun h9 => hb9 (nwAM_B hM9 hB q9 h9)))
  replace hB := Nat.le_trans hB hz7
  replace hru := nw_rt hkm hru (by decide)
  show nwV X _ _ 7 H5 ((kc + 4) + 2) ((ns + 40) + 12) 600 [(5, .int (nI (op_fog σ (xs (i + 1)) (xs (i + 2))).1)), (0, .ref b), (1, .ref x), (2, .ref y), (3, .ref u), (4, .int (nI i))] [.int ((op_fog σ (xs (i + 1)) (xs (i + 2))).2.1)]
  refine nw_wide (k' := kc + 6) (n' := ns + 52) (by omega) (by omega) ?_
  refine nw_istore C [(6, .int ((op_fog σ (xs (i + 1)) (xs (i + 2))).2.1)), (5, .int (nI (op_fog σ (xs (i + 1)) (xs (i + 2))).1)), (0, .ref b), (1, .ref x), (2, .ref y), (3, .ref u), (4, .int (nI i))] dL_law_600 (by decide) rfl 602 rfl ?_
  refine nw_aload_n C 4 dL_law_602 rfl 603 rfl ?_
  refine nw_callV C (mX4_thrown _ C.hfl d rom amm y (op_fog σ (xs (i + 1)) (xs (i + 2))).2.2 (nI (op_fog σ (xs (i + 1)) (xs (i + 2))).1) H5 hB hMm.wc) kX4_thrown q1683 (hMm.2.1.1.is C (ci := 9) rfl) (As := []) (rest := []) rfl rfl ⟨⟨Nat.le_of_ble_eq_true rfl, Nat.le_of_ble_eq_true rfl⟩, (show (kc + 6) + 0 ≤ 601152 by omega), (show (ns + 52) + 0 ≤ 7246570 by omega)⟩ (Nat.le_of_ble_eq_true rfl) (fun _ h8 h9 => absurd h9 (Nat.not_le.mpr h8)) dL_law_603 606 rfl (nw_rdK ?_) nw_noX
  refine nw_iload C 1 dL_law_606 rfl 608 rfl ?_
  refine nw_icmpeq C 613 dL_law_608 (by decide) 611 rfl (fun _ => ?_) (fun h9 => absurd rfl h9)
  refine nw_iload C 1 dL_law_613 rfl 615 rfl ?_
  refine nw_ifne C 631 dL_law_615 (by decide) 618 rfl (fun h10 => ?_) (fun h10 => ?_)
  · refine nw_goto C 2535 dL_law_631 (by decide) ?_
    exact nw_wide (k' := kc + 9000) (n' := ns + 110000) (by omega) (by omega) (nw_sub [2, 3, 4, 5, 6] rfl (K H5 rom ad9 amm ((op_fog σ (xs (i + 1)) (xs (i + 2))).2.2) sm (nI (op_fog σ (xs (i + 1)) (xs (i + 2))).1) ov9 sv9 ⟨hRm, hMm, hum, hru, ok9, hB, hE⟩))
  · have h0 : (op_fog σ (xs (i + 1)) (xs (i + 2))).1 = 0 := (nI_eq (Nat.lt_of_le_of_lt (op_fog_3 σ (xs (i + 1)) (xs (i + 2))) (by decide)) (by decide)).mp h10
    refine nw_aload_n C 5 dL_law_618 rfl 619 rfl ?_
    refine nw_getN C hum (T := TX5) rfl in_X5 0 (by decide) q640 rfl rfl dL_law_619 622 rfl ?_
    refine nw_iload C 0 dL_law_622 rfl 624 rfl ?_
    refine nw_i2l C dL_law_624 625 rfl ?_
    refine nw_lcmp C dL_law_625 626 rfl ?_
    refine nw_ifeq C 631 dL_law_626 (by decide) 629 rfl (fun _ => ?_) (fun h11 => absurd (by rw [hov9 h0]; exact lg_self _) h11)
    refine nw_goto C 2535 dL_law_631 (by decide) ?_
    exact nw_wide (k' := kc + 9000) (n' := ns + 110000) (by omega) (by omega) (nw_sub [2, 3, 4, 5, 6] rfl (K H5 rom ad9 amm ((op_fog σ (xs (i + 1)) (xs (i + 2))).2.2) sm (nI (op_fog σ (xs (i + 1)) (xs (i + 2))).1) ov9 sv9 ⟨hRm, hMm, hum, hru, ok9, hB, hE⟩))
set_option maxHeartbeats 4000000 in
theorem lc_6 {d : nwD} {X : nwX} {A : Nat → Prop} {Q : State → Prop} {H0 : Heap} {b L x y u i kc ns : Nat} {xs : Nat → Int32} {ro ad am : Nat → Nat} {σ : spSg} {sm ov : Int64} {th : Int32} {sv : Value} {H : Heap} (C : nwC d X A H0 "NightwatchWallLaw" "law" code 7 ret room_1 []) (hAA : ∀ q, nd_B d ≤ q → A q) (hX : va_X b L xs (nx_s X) (nx_s X).heap) (hbl : b < (nx_s X).heap.size) (hbA : ¬ A b) (hi : i + 5 ≤ L ∧ L ≤ 320) (hcap : kc + 9000 ≤ 601152 ∧ ns + 110000 ≤ 7246570) (hW : nwLW d (nx_s X) ro ad am x y u σ sm th ov sv H)
    (K : ∀ (H1 : Heap) (ro1 ad1 am1 : Nat → Nat) (σ1 : spSg) (sm1 : Int64) (th1 : Int32) (ov1 : Int64) (sv1 : Value), nwLW d (nx_s X) ro1 ad1 am1 x y u σ1 sm1 th1 ov1 sv1 H1 → nwV X A Q 7 H1 (kc + 9000) (ns + 110000) 2535 (nwLoc b x y u i) []) : nwV X A Q 7 H kc ns 634 (nwLoc b x y u i) [] := by
  obtain ⟨hR, hM, hu, hru, ok, hB, hE⟩ := hW
  show nwV X A Q 7 H kc ns 634 [(0, .ref b), (1, .ref x), (2, .ref y), (3, .ref u), (4, .int (nI i))] []
  refine nw_aload_n C 1 dL_law_634 rfl 635 rfl ?_
  refine nw_aload_n C 0 dL_law_635 rfl 636 rfl ?_
  refine nw_iload C 4 dL_law_636 rfl 638 rfl ?_
  refine nw_iconst C (nI 1) dL_law_638 (by decide) 639 rfl ?_
  refine nw_iaddN C dL_law_639 640 rfl ?_
  refine nw_sld C hX hbl hbA (by omega) dL_law_640 641 rfl ?_
  refine nw_aload_n C 0 dL_law_641 rfl 642 rfl ?_
  refine nw_iload C 4 dL_law_642 rfl 644 rfl ?_
  refine nw_iconst C (nI 2) dL_law_644 (by decide) 645 rfl ?_
  refine nw_iaddN C dL_law_645 646 rfl ?_
  refine nw_sld C hX hbl hbA (by omega) dL_law_646 647 rfl ?_
  refine nw_aload_n C 0 dL_law_647 rfl 648 rfl ?_
  refine nw_iload C 4 dL_law_648 rfl 650 rfl ?_
  refine nw_iconst C (nI 3) dL_law_650 (by decide) 651 rfl ?_
  refine nw_iaddN C dL_law_651 652 rfl ?_
  refine nw_sld C hX hbl hbA (by omega) dL_law_652 653 rfl ?_
  refine nw_aload_n C 0 dL_law_653 rfl 654 rfl ?_
  refine nw_iload C 4 dL_law_654 rfl 656 rfl ?_
  refine nw_iconst C (nI 4) dL_law_656 (by decide) 657 rfl ?_
  refine nw_iaddN C dL_law_657 658 rfl ?_
  refine nw_sld C hX hbl hbA (by omega) dL_law_658 659 rfl ?_
  refine nw_aload_n C 3 dL_law_659 rfl 660 rfl ?_
  refine nw_callSH C (mX0_guard _ C.hfl d ro ad x σ sm (xs (i + 1)) (xs (i + 2)) (xs (i + 3)) (xs (i + 4)) u ov sv H hB hR ok hu hru) hX0_guard q986 (As := [.ref x, .int (xs (i + 1)), .int (xs (i + 2)), .int (xs (i + 3)), .int (xs (i + 4)), .ref u]) (rest := []) rfl rfl ⟨⟨Nat.le_of_ble_eq_true rfl, Nat.le_of_ble_eq_true rfl⟩, (show kc + 6 ≤ 601152 by omega), (show ns + 60 ≤ 7246570 by omega)⟩ (Nat.le_of_ble_eq_true rfl) (fun q8 h8 h9 => hAA q8 (nwAW_B hR hB hru q8 h9)) dL_law_660 663 rfl (fun v9 H1 hR2 hz3 hq4 => ?_) nw_noX
  obtain ⟨rfl, ok9, hz9, ro9, ad9, hR9, hk9, ov9, sv9, hu9, hov9⟩ := hR2
  have hM9 := hM.kpM hR9.1 hk9 hq4 (fun q g hr => nwAW_M hru g hr)
  replace hE := hE.kept (fun q9 g9 hb9 => hq4 q9 g9 (fun h9 => hb9 (nwAW_B hR (Nat.le_trans hB (Nat.le_refl _)) hru q9 h9)))
  replace hB := Nat.le_trans hB hz3
  replace hru := nw_rt hk9 hru (by decide)
  show nwV X _ _ 7 H1 (kc + 6) (ns + 60) 663 [(0, .ref b), (1, .ref x), (2, .ref y), (3, .ref u), (4, .int (nI i))] [.int (nI (op_guard σ (xs (i + 1)) (xs (i + 2)) (xs (i + 3)) (xs (i + 4))).1)]
  refine nw_istore C [(5, .int (nI (op_guard σ (xs (i + 1)) (xs (i + 2)) (xs (i + 3)) (xs (i + 4))).1)), (0, .ref b), (1, .ref x), (2, .ref y), (3, .ref u), (4, .int (nI i))] dL_law_663 (by decide) rfl 665 rfl ?_
  refine nw_aload_n C 3 dL_law_665 rfl 666 rfl ?_
  refine nw_aload_n C 1 dL_law_666 rfl 667 rfl ?_
  refine nw_iload C 5 dL_law_667 rfl 669 rfl ?_
  refine nw_iconst C (nI 1) dL_law_669 (by decide) 670 rfl ?_
  refine nw_iaddN C dL_law_670 671 rfl ?_
  refine nw_sld C hX hbl hbA (by omega) dL_law_671 672 rfl ?_
  refine nw_aload_n C 1 dL_law_672 rfl 673 rfl ?_
  refine nw_iload C 5 dL_law_673 rfl 675 rfl ?_
  refine nw_iconst C (nI 2) dL_law_675 (by decide) 676 rfl ?_
  refine nw_iaddN C dL_law_676 677 rfl ?_
  refine nw_sld C hX hbl hbA (by omega) dL_law_677 678 rfl ?_
  refine nw_aload_n C 1 dL_law_678 rfl 679 rfl ?_
  refine nw_iload C 5 dL_law_679 rfl 681 rfl ?_
  refine nw_iconst C (nI 3) dL_law_681 (by decide) 682 rfl ?_
  refine nw_iaddN C dL_law_682 683 rfl ?_
  refine nw_sld C hX hbl hbA (by omega) dL_law_683 684 rfl ?_
  refine nw_aload_n C 1 dL_law_684 rfl 685 rfl ?_
  refine nw_iload C 5 dL_law_685 rfl 687 rfl ?_
  refine nw_iconst C (nI 4) dL_law_687 (by decide) 688 rfl ?_
  refine nw_iaddN C dL_law_688 689 rfl ?_
  refine nw_sld C hX hbl hbA (by omega) dL_law_689 690 rfl ?_
  refine nw_callV C (mX4_guard _ C.hfl d ro9 am y σ th (xs (i + 1)) (xs (i + 2)) (xs (i + 3)) (xs (i + 4)) H1 hB hM9 ok) kX4_guard q1767 (hM9.2.1.1.is C (ci := 9) rfl) (As := [.int (xs (i + 1)), .int (xs (i + 2)), .int (xs (i + 3)), .int (xs (i + 4))]) (rest := []) rfl rfl ⟨⟨Nat.le_of_ble_eq_true rfl, Nat.le_of_ble_eq_true rfl⟩, (show (kc + 6) + 4 ≤ 601152 by omega), (show (ns + 60) + 33 ≤ 7246570 by omega)⟩ (Nat.le_of_ble_eq_true rfl) (fun q8 h8 h9 => hAA q8 (nwAM_B hM9 hB q8 h9)) dL_law_690 693 rfl (fun v9 H5 hR6 hz7 hq8 => ?_) nw_noX
  obtain ⟨rfl, okm, hzm, rom, amm, hMm, hkm⟩ := hR6
  have hRm := hR9.kpR hMm.1 hkm hq8 (fun q g hr => nwAM_R g hr)
  have hum := hu9.kept (hq8 _ hu9.lt (nwAM_u hru hu9.lt))
  replace hE := hE.kept (fun q9 g9 hb9 => hq8 q9 g9 (fun h9 => hb9 (nwAM_B hM9 hB q9 h9)))
  replace hB := Nat.le_trans hB hz7
  replace hru := nw_rt hkm hru (by decide)
  show nwV X _ _ 7 H5 ((kc + 6) + 4) ((ns + 60) + 33) 693 [(5, .int (nI (op_guard σ (xs (i + 1)) (xs (i + 2)) (xs (i + 3)) (xs (i + 4))).1)), (0, .ref b), (1, .ref x), (2, .ref y), (3, .ref u), (4, .int (nI i))] [.int ((op_guard σ (xs (i + 1)) (xs (i + 2)) (xs (i + 3)) (xs (i + 4))).2.1)]
  refine nw_wide (k' := kc + 10) (n' := ns + 93) (by omega) (by omega) ?_
  refine nw_istore C [(6, .int ((op_guard σ (xs (i + 1)) (xs (i + 2)) (xs (i + 3)) (xs (i + 4))).2.1)), (5, .int (nI (op_guard σ (xs (i + 1)) (xs (i + 2)) (xs (i + 3)) (xs (i + 4))).1)), (0, .ref b), (1, .ref x), (2, .ref y), (3, .ref u), (4, .int (nI i))] dL_law_693 (by decide) rfl 695 rfl ?_
  refine nw_aload_n C 4 dL_law_695 rfl 696 rfl ?_
  refine nw_callV C (mX4_thrown _ C.hfl d rom amm y (op_guard σ (xs (i + 1)) (xs (i + 2)) (xs (i + 3)) (xs (i + 4))).2.2 (nI (op_guard σ (xs (i + 1)) (xs (i + 2)) (xs (i + 3)) (xs (i + 4))).1) H5 hB hMm.wc) kX4_thrown q1683 (hMm.2.1.1.is C (ci := 9) rfl) (As := []) (rest := []) rfl rfl ⟨⟨Nat.le_of_ble_eq_true rfl, Nat.le_of_ble_eq_true rfl⟩, (show (kc + 10) + 0 ≤ 601152 by omega), (show (ns + 93) + 0 ≤ 7246570 by omega)⟩ (Nat.le_of_ble_eq_true rfl) (fun _ h8 h9 => absurd h9 (Nat.not_le.mpr h8)) dL_law_696 699 rfl (nw_rdK ?_) nw_noX
  refine nw_iload C 1 dL_law_699 rfl 701 rfl ?_
  refine nw_icmpeq C 706 dL_law_701 (by decide) 704 rfl (fun _ => ?_) (fun h9 => absurd rfl h9)
  refine nw_iload C 1 dL_law_706 rfl 708 rfl ?_
  refine nw_ifne C 724 dL_law_708 (by decide) 711 rfl (fun h10 => ?_) (fun h10 => ?_)
  · refine nw_goto C 2535 dL_law_724 (by decide) ?_
    exact nw_wide (k' := kc + 9000) (n' := ns + 110000) (by omega) (by omega) (nw_sub [2, 3, 4, 5, 6] rfl (K H5 rom ad9 amm ((op_guard σ (xs (i + 1)) (xs (i + 2)) (xs (i + 3)) (xs (i + 4))).2.2) sm (nI (op_guard σ (xs (i + 1)) (xs (i + 2)) (xs (i + 3)) (xs (i + 4))).1) ov9 sv9 ⟨hRm, hMm, hum, hru, ok9, hB, hE⟩))
  · have h0 : (op_guard σ (xs (i + 1)) (xs (i + 2)) (xs (i + 3)) (xs (i + 4))).1 = 0 := (nI_eq (Nat.lt_of_le_of_lt (op_guard_3 σ (xs (i + 1)) (xs (i + 2)) (xs (i + 3)) (xs (i + 4))) (by decide)) (by decide)).mp h10
    refine nw_aload_n C 5 dL_law_711 rfl 712 rfl ?_
    refine nw_getN C hum (T := TX5) rfl in_X5 0 (by decide) q640 rfl rfl dL_law_712 715 rfl ?_
    refine nw_iload C 0 dL_law_715 rfl 717 rfl ?_
    refine nw_i2l C dL_law_717 718 rfl ?_
    refine nw_lcmp C dL_law_718 719 rfl ?_
    refine nw_ifeq C 724 dL_law_719 (by decide) 722 rfl (fun _ => ?_) (fun h11 => absurd (by rw [hov9 h0]; exact lg_self _) h11)
    refine nw_goto C 2535 dL_law_724 (by decide) ?_
    exact nw_wide (k' := kc + 9000) (n' := ns + 110000) (by omega) (by omega) (nw_sub [2, 3, 4, 5, 6] rfl (K H5 rom ad9 amm ((op_guard σ (xs (i + 1)) (xs (i + 2)) (xs (i + 3)) (xs (i + 4))).2.2) sm (nI (op_guard σ (xs (i + 1)) (xs (i + 2)) (xs (i + 3)) (xs (i + 4))).1) ov9 sv9 ⟨hRm, hMm, hum, hru, ok9, hB, hE⟩))
set_option maxHeartbeats 4000000 in
theorem lc_7 {d : nwD} {X : nwX} {A : Nat → Prop} {Q : State → Prop} {H0 : Heap} {b L x y u i kc ns : Nat} {xs : Nat → Int32} {ro ad am : Nat → Nat} {σ : spSg} {sm ov : Int64} {th : Int32} {sv : Value} {H : Heap} (C : nwC d X A H0 "NightwatchWallLaw" "law" code 7 ret room_1 []) (hAA : ∀ q, nd_B d ≤ q → A q) (hX : va_X b L xs (nx_s X) (nx_s X).heap) (hbl : b < (nx_s X).heap.size) (hbA : ¬ A b) (hi : i + 5 ≤ L ∧ L ≤ 320) (hcap : kc + 9000 ≤ 601152 ∧ ns + 110000 ≤ 7246570) (hW : nwLW d (nx_s X) ro ad am x y u σ sm th ov sv H)
    (K : ∀ (H1 : Heap) (ro1 ad1 am1 : Nat → Nat) (σ1 : spSg) (sm1 : Int64) (th1 : Int32) (ov1 : Int64) (sv1 : Value), nwLW d (nx_s X) ro1 ad1 am1 x y u σ1 sm1 th1 ov1 sv1 H1 → nwV X A Q 7 H1 (kc + 9000) (ns + 110000) 2535 (nwLoc b x y u i) []) : nwV X A Q 7 H kc ns 727 (nwLoc b x y u i) [] := by
  obtain ⟨hR, hM, hu, hru, ok, hB, hE⟩ := hW
  show nwV X A Q 7 H kc ns 727 [(0, .ref b), (1, .ref x), (2, .ref y), (3, .ref u), (4, .int (nI i))] []
  refine nw_aload_n C 1 dL_law_727 rfl 728 rfl ?_
  refine nw_aload_n C 0 dL_law_728 rfl 729 rfl ?_
  refine nw_iload C 4 dL_law_729 rfl 731 rfl ?_
  refine nw_iconst C (nI 1) dL_law_731 (by decide) 732 rfl ?_
  refine nw_iaddN C dL_law_732 733 rfl ?_
  refine nw_sld C hX hbl hbA (by omega) dL_law_733 734 rfl ?_
  refine nw_aload_n C 0 dL_law_734 rfl 735 rfl ?_
  refine nw_iload C 4 dL_law_735 rfl 737 rfl ?_
  refine nw_iconst C (nI 2) dL_law_737 (by decide) 738 rfl ?_
  refine nw_iaddN C dL_law_738 739 rfl ?_
  refine nw_sld C hX hbl hbA (by omega) dL_law_739 740 rfl ?_
  refine nw_aload_n C 3 dL_law_740 rfl 741 rfl ?_
  refine nw_callSH C (mX0_round _ C.hfl d ro ad x σ sm (xs (i + 1)) (xs (i + 2)) u ov sv H hB hR ok hu hru) hX0_round q1046 (As := [.ref x, .int (xs (i + 1)), .int (xs (i + 2)), .ref u]) (rest := []) rfl rfl ⟨⟨Nat.le_of_ble_eq_true rfl, Nat.le_of_ble_eq_true rfl⟩, (show kc + 4 ≤ 601152 by omega), (show ns + 40 ≤ 7246570 by omega)⟩ (Nat.le_of_ble_eq_true rfl) (fun q8 h8 h9 => hAA q8 (nwAW_B hR hB hru q8 h9)) dL_law_741 744 rfl (fun v9 H1 hR2 hz3 hq4 => ?_) nw_noX
  obtain ⟨rfl, ok9, hz9, ro9, ad9, hR9, hk9, ov9, sv9, hu9, hov9⟩ := hR2
  have hM9 := hM.kpM hR9.1 hk9 hq4 (fun q g hr => nwAW_M hru g hr)
  replace hE := hE.kept (fun q9 g9 hb9 => hq4 q9 g9 (fun h9 => hb9 (nwAW_B hR (Nat.le_trans hB (Nat.le_refl _)) hru q9 h9)))
  replace hB := Nat.le_trans hB hz3
  replace hru := nw_rt hk9 hru (by decide)
  show nwV X _ _ 7 H1 (kc + 4) (ns + 40) 744 [(0, .ref b), (1, .ref x), (2, .ref y), (3, .ref u), (4, .int (nI i))] [.int (nI (op_round σ (xs (i + 1)) (xs (i + 2))).1)]
  refine nw_istore C [(5, .int (nI (op_round σ (xs (i + 1)) (xs (i + 2))).1)), (0, .ref b), (1, .ref x), (2, .ref y), (3, .ref u), (4, .int (nI i))] dL_law_744 (by decide) rfl 746 rfl ?_
  refine nw_aload_n C 3 dL_law_746 rfl 747 rfl ?_
  refine nw_aload_n C 1 dL_law_747 rfl 748 rfl ?_
  refine nw_iload C 5 dL_law_748 rfl 750 rfl ?_
  refine nw_iconst C (nI 1) dL_law_750 (by decide) 751 rfl ?_
  refine nw_iaddN C dL_law_751 752 rfl ?_
  refine nw_sld C hX hbl hbA (by omega) dL_law_752 753 rfl ?_
  refine nw_aload_n C 1 dL_law_753 rfl 754 rfl ?_
  refine nw_iload C 5 dL_law_754 rfl 756 rfl ?_
  refine nw_iconst C (nI 2) dL_law_756 (by decide) 757 rfl ?_
  refine nw_iaddN C dL_law_757 758 rfl ?_
  refine nw_sld C hX hbl hbA (by omega) dL_law_758 759 rfl ?_
  refine nw_callV C (mX4_round _ C.hfl d ro9 am y σ th (xs (i + 1)) (xs (i + 2)) H1 hB hM9 ok) kX4_round q1804 (hM9.2.1.1.is C (ci := 9) rfl) (As := [.int (xs (i + 1)), .int (xs (i + 2))]) (rest := []) rfl rfl ⟨⟨Nat.le_of_ble_eq_true rfl, Nat.le_of_ble_eq_true rfl⟩, (show (kc + 4) + 1 ≤ 601152 by omega), (show (ns + 40) + 10 ≤ 7246570 by omega)⟩ (Nat.le_of_ble_eq_true rfl) (fun q8 h8 h9 => hAA q8 (nwAM_B hM9 hB q8 h9)) dL_law_759 762 rfl (fun v9 H5 hR6 hz7 hq8 => ?_) nw_noX
  obtain ⟨rfl, okm, hzm, rom, amm, hMm, hkm⟩ := hR6
  have hRm := hR9.kpR hMm.1 hkm hq8 (fun q g hr => nwAM_R g hr)
  have hum := hu9.kept (hq8 _ hu9.lt (nwAM_u hru hu9.lt))
  replace hE := hE.kept (fun q9 g9 hb9 => hq8 q9 g9 (fun h9 => hb9 (nwAM_B hM9 hB q9 h9)))
  replace hB := Nat.le_trans hB hz7
  replace hru := nw_rt hkm hru (by decide)
  show nwV X _ _ 7 H5 ((kc + 4) + 1) ((ns + 40) + 10) 762 [(5, .int (nI (op_round σ (xs (i + 1)) (xs (i + 2))).1)), (0, .ref b), (1, .ref x), (2, .ref y), (3, .ref u), (4, .int (nI i))] [.int ((op_round σ (xs (i + 1)) (xs (i + 2))).2.1)]
  refine nw_wide (k' := kc + 5) (n' := ns + 50) (by omega) (by omega) ?_
  refine nw_istore C [(6, .int ((op_round σ (xs (i + 1)) (xs (i + 2))).2.1)), (5, .int (nI (op_round σ (xs (i + 1)) (xs (i + 2))).1)), (0, .ref b), (1, .ref x), (2, .ref y), (3, .ref u), (4, .int (nI i))] dL_law_762 (by decide) rfl 764 rfl ?_
  refine nw_aload_n C 4 dL_law_764 rfl 765 rfl ?_
  refine nw_callV C (mX4_thrown _ C.hfl d rom amm y (op_round σ (xs (i + 1)) (xs (i + 2))).2.2 (nI (op_round σ (xs (i + 1)) (xs (i + 2))).1) H5 hB hMm.wc) kX4_thrown q1683 (hMm.2.1.1.is C (ci := 9) rfl) (As := []) (rest := []) rfl rfl ⟨⟨Nat.le_of_ble_eq_true rfl, Nat.le_of_ble_eq_true rfl⟩, (show (kc + 5) + 0 ≤ 601152 by omega), (show (ns + 50) + 0 ≤ 7246570 by omega)⟩ (Nat.le_of_ble_eq_true rfl) (fun _ h8 h9 => absurd h9 (Nat.not_le.mpr h8)) dL_law_765 768 rfl (nw_rdK ?_) nw_noX
  refine nw_iload C 1 dL_law_768 rfl 770 rfl ?_
  refine nw_icmpeq C 775 dL_law_770 (by decide) 773 rfl (fun _ => ?_) (fun h9 => absurd rfl h9)
  refine nw_iload C 1 dL_law_775 rfl 777 rfl ?_
  refine nw_ifne C 793 dL_law_777 (by decide) 780 rfl (fun h10 => ?_) (fun h10 => ?_)
  · refine nw_goto C 2535 dL_law_793 (by decide) ?_
    exact nw_wide (k' := kc + 9000) (n' := ns + 110000) (by omega) (by omega) (nw_sub [2, 3, 4, 5, 6] rfl (K H5 rom ad9 amm ((op_round σ (xs (i + 1)) (xs (i + 2))).2.2) sm (nI (op_round σ (xs (i + 1)) (xs (i + 2))).1) ov9 sv9 ⟨hRm, hMm, hum, hru, ok9, hB, hE⟩))
  · have h0 : (op_round σ (xs (i + 1)) (xs (i + 2))).1 = 0 := (nI_eq (Nat.lt_of_le_of_lt (op_round_3 σ (xs (i + 1)) (xs (i + 2))) (by decide)) (by decide)).mp h10
    refine nw_aload_n C 5 dL_law_780 rfl 781 rfl ?_
    refine nw_getN C hum (T := TX5) rfl in_X5 0 (by decide) q640 rfl rfl dL_law_781 784 rfl ?_
    refine nw_iload C 0 dL_law_784 rfl 786 rfl ?_
    refine nw_i2l C dL_law_786 787 rfl ?_
    refine nw_lcmp C dL_law_787 788 rfl ?_
    refine nw_ifeq C 793 dL_law_788 (by decide) 791 rfl (fun _ => ?_) (fun h11 => absurd (by rw [hov9 h0]; exact lg_self _) h11)
    refine nw_goto C 2535 dL_law_793 (by decide) ?_
    exact nw_wide (k' := kc + 9000) (n' := ns + 110000) (by omega) (by omega) (nw_sub [2, 3, 4, 5, 6] rfl (K H5 rom ad9 amm ((op_round σ (xs (i + 1)) (xs (i + 2))).2.2) sm (nI (op_round σ (xs (i + 1)) (xs (i + 2))).1) ov9 sv9 ⟨hRm, hMm, hum, hru, ok9, hB, hE⟩))
set_option maxHeartbeats 4000000 in
theorem lc_8 {d : nwD} {X : nwX} {A : Nat → Prop} {Q : State → Prop} {H0 : Heap} {b L x y u i kc ns : Nat} {xs : Nat → Int32} {ro ad am : Nat → Nat} {σ : spSg} {sm ov : Int64} {th : Int32} {sv : Value} {H : Heap} (C : nwC d X A H0 "NightwatchWallLaw" "law" code 7 ret room_1 []) (hAA : ∀ q, nd_B d ≤ q → A q) (hX : va_X b L xs (nx_s X) (nx_s X).heap) (hbl : b < (nx_s X).heap.size) (hbA : ¬ A b) (hi : i + 5 ≤ L ∧ L ≤ 320) (hcap : kc + 9000 ≤ 601152 ∧ ns + 110000 ≤ 7246570) (hW : nwLW d (nx_s X) ro ad am x y u σ sm th ov sv H)
    (K : ∀ (H1 : Heap) (ro1 ad1 am1 : Nat → Nat) (σ1 : spSg) (sm1 : Int64) (th1 : Int32) (ov1 : Int64) (sv1 : Value), nwLW d (nx_s X) ro1 ad1 am1 x y u σ1 sm1 th1 ov1 sv1 H1 → nwV X A Q 7 H1 (kc + 9000) (ns + 110000) 2535 (nwLoc b x y u i) []) : nwV X A Q 7 H kc ns 796 (nwLoc b x y u i) [] := by
  obtain ⟨hR, hM, hu, hru, ok, hB, hE⟩ := hW
  show nwV X A Q 7 H kc ns 796 [(0, .ref b), (1, .ref x), (2, .ref y), (3, .ref u), (4, .int (nI i))] []
  refine nw_aload_n C 1 dL_law_796 rfl 797 rfl ?_
  refine nw_aload_n C 0 dL_law_797 rfl 798 rfl ?_
  refine nw_iload C 4 dL_law_798 rfl 800 rfl ?_
  refine nw_iconst C (nI 1) dL_law_800 (by decide) 801 rfl ?_
  refine nw_iaddN C dL_law_801 802 rfl ?_
  refine nw_sld C hX hbl hbA (by omega) dL_law_802 803 rfl ?_
  refine nw_aload_n C 3 dL_law_803 rfl 804 rfl ?_
  refine nw_callSH C (mX0_post _ C.hfl d ro ad x σ sm (xs (i + 1)) u ov sv H hB hR ok hu hru) hX0_post q1058 (As := [.ref x, .int (xs (i + 1)), .ref u]) (rest := []) rfl rfl ⟨⟨Nat.le_of_ble_eq_true rfl, Nat.le_of_ble_eq_true rfl⟩, (show kc + 3 ≤ 601152 by omega), (show ns + 30 ≤ 7246570 by omega)⟩ (Nat.le_of_ble_eq_true rfl) (fun q8 h8 h9 => hAA q8 (nwAW_B hR hB hru q8 h9)) dL_law_804 807 rfl (fun v9 H1 hR2 hz3 hq4 => ?_) nw_noX
  obtain ⟨rfl, ok9, hz9, ro9, ad9, hR9, hk9, ov9, sv9, hu9, hov9⟩ := hR2
  have hM9 := hM.kpM hR9.1 hk9 hq4 (fun q g hr => nwAW_M hru g hr)
  replace hE := hE.kept (fun q9 g9 hb9 => hq4 q9 g9 (fun h9 => hb9 (nwAW_B hR (Nat.le_trans hB (Nat.le_refl _)) hru q9 h9)))
  replace hB := Nat.le_trans hB hz3
  replace hru := nw_rt hk9 hru (by decide)
  show nwV X _ _ 7 H1 (kc + 3) (ns + 30) 807 [(0, .ref b), (1, .ref x), (2, .ref y), (3, .ref u), (4, .int (nI i))] [.int (nI (op_post σ (xs (i + 1))).1)]
  refine nw_istore C [(5, .int (nI (op_post σ (xs (i + 1))).1)), (0, .ref b), (1, .ref x), (2, .ref y), (3, .ref u), (4, .int (nI i))] dL_law_807 (by decide) rfl 809 rfl ?_
  refine nw_aload_n C 3 dL_law_809 rfl 810 rfl ?_
  refine nw_aload_n C 1 dL_law_810 rfl 811 rfl ?_
  refine nw_iload C 5 dL_law_811 rfl 813 rfl ?_
  refine nw_iconst C (nI 1) dL_law_813 (by decide) 814 rfl ?_
  refine nw_iaddN C dL_law_814 815 rfl ?_
  refine nw_sld C hX hbl hbA (by omega) dL_law_815 816 rfl ?_
  refine nw_callV C (mX4_post _ C.hfl d ro9 am y σ th (xs (i + 1)) H1 hB hM9 ok) kX4_post q1813 (hM9.2.1.1.is C (ci := 9) rfl) (As := [.int (xs (i + 1))]) (rest := []) rfl rfl ⟨⟨Nat.le_of_ble_eq_true rfl, Nat.le_of_ble_eq_true rfl⟩, (show (kc + 3) + 1 ≤ 601152 by omega), (show (ns + 30) + 10 ≤ 7246570 by omega)⟩ (Nat.le_of_ble_eq_true rfl) (fun q8 h8 h9 => hAA q8 (nwAM_B hM9 hB q8 h9)) dL_law_816 819 rfl (fun v9 H5 hR6 hz7 hq8 => ?_) nw_noX
  obtain ⟨rfl, okm, hzm, rom, amm, hMm, hkm⟩ := hR6
  have hRm := hR9.kpR hMm.1 hkm hq8 (fun q g hr => nwAM_R g hr)
  have hum := hu9.kept (hq8 _ hu9.lt (nwAM_u hru hu9.lt))
  replace hE := hE.kept (fun q9 g9 hb9 => hq8 q9 g9 (fun h9 => hb9 (nwAM_B hM9 hB q9 h9)))
  replace hB := Nat.le_trans hB hz7
  replace hru := nw_rt hkm hru (by decide)
  show nwV X _ _ 7 H5 ((kc + 3) + 1) ((ns + 30) + 10) 819 [(5, .int (nI (op_post σ (xs (i + 1))).1)), (0, .ref b), (1, .ref x), (2, .ref y), (3, .ref u), (4, .int (nI i))] [.int ((op_post σ (xs (i + 1))).2.1)]
  refine nw_wide (k' := kc + 4) (n' := ns + 40) (by omega) (by omega) ?_
  refine nw_istore C [(6, .int ((op_post σ (xs (i + 1))).2.1)), (5, .int (nI (op_post σ (xs (i + 1))).1)), (0, .ref b), (1, .ref x), (2, .ref y), (3, .ref u), (4, .int (nI i))] dL_law_819 (by decide) rfl 821 rfl ?_
  refine nw_aload_n C 4 dL_law_821 rfl 822 rfl ?_
  refine nw_callV C (mX4_thrown _ C.hfl d rom amm y (op_post σ (xs (i + 1))).2.2 (nI (op_post σ (xs (i + 1))).1) H5 hB hMm.wc) kX4_thrown q1683 (hMm.2.1.1.is C (ci := 9) rfl) (As := []) (rest := []) rfl rfl ⟨⟨Nat.le_of_ble_eq_true rfl, Nat.le_of_ble_eq_true rfl⟩, (show (kc + 4) + 0 ≤ 601152 by omega), (show (ns + 40) + 0 ≤ 7246570 by omega)⟩ (Nat.le_of_ble_eq_true rfl) (fun _ h8 h9 => absurd h9 (Nat.not_le.mpr h8)) dL_law_822 825 rfl (nw_rdK ?_) nw_noX
  refine nw_iload C 1 dL_law_825 rfl 827 rfl ?_
  refine nw_icmpeq C 832 dL_law_827 (by decide) 830 rfl (fun _ => ?_) (fun h9 => absurd rfl h9)
  refine nw_iload C 1 dL_law_832 rfl 834 rfl ?_
  refine nw_ifne C 850 dL_law_834 (by decide) 837 rfl (fun h10 => ?_) (fun h10 => ?_)
  · refine nw_goto C 2535 dL_law_850 (by decide) ?_
    exact nw_wide (k' := kc + 9000) (n' := ns + 110000) (by omega) (by omega) (nw_sub [2, 3, 4, 5, 6] rfl (K H5 rom ad9 amm ((op_post σ (xs (i + 1))).2.2) sm (nI (op_post σ (xs (i + 1))).1) ov9 sv9 ⟨hRm, hMm, hum, hru, ok9, hB, hE⟩))
  · have h0 : (op_post σ (xs (i + 1))).1 = 0 := (nI_eq (Nat.lt_of_le_of_lt (op_post_3 σ (xs (i + 1))) (by decide)) (by decide)).mp h10
    refine nw_aload_n C 5 dL_law_837 rfl 838 rfl ?_
    refine nw_getN C hum (T := TX5) rfl in_X5 0 (by decide) q640 rfl rfl dL_law_838 841 rfl ?_
    refine nw_iload C 0 dL_law_841 rfl 843 rfl ?_
    refine nw_i2l C dL_law_843 844 rfl ?_
    refine nw_lcmp C dL_law_844 845 rfl ?_
    refine nw_ifeq C 850 dL_law_845 (by decide) 848 rfl (fun _ => ?_) (fun h11 => absurd (by rw [hov9 h0]; exact lg_self _) h11)
    refine nw_goto C 2535 dL_law_850 (by decide) ?_
    exact nw_wide (k' := kc + 9000) (n' := ns + 110000) (by omega) (by omega) (nw_sub [2, 3, 4, 5, 6] rfl (K H5 rom ad9 amm ((op_post σ (xs (i + 1))).2.2) sm (nI (op_post σ (xs (i + 1))).1) ov9 sv9 ⟨hRm, hMm, hum, hru, ok9, hB, hE⟩))
set_option maxHeartbeats 4000000 in
theorem lc_9 {d : nwD} {X : nwX} {A : Nat → Prop} {Q : State → Prop} {H0 : Heap} {b L x y u i kc ns : Nat} {xs : Nat → Int32} {ro ad am : Nat → Nat} {σ : spSg} {sm ov : Int64} {th : Int32} {sv : Value} {H : Heap} (C : nwC d X A H0 "NightwatchWallLaw" "law" code 7 ret room_1 []) (hAA : ∀ q, nd_B d ≤ q → A q) (hX : va_X b L xs (nx_s X) (nx_s X).heap) (hbl : b < (nx_s X).heap.size) (hbA : ¬ A b) (hi : i + 5 ≤ L ∧ L ≤ 320) (hcap : kc + 9000 ≤ 601152 ∧ ns + 110000 ≤ 7246570) (hW : nwLW d (nx_s X) ro ad am x y u σ sm th ov sv H)
    (K : ∀ (H1 : Heap) (ro1 ad1 am1 : Nat → Nat) (σ1 : spSg) (sm1 : Int64) (th1 : Int32) (ov1 : Int64) (sv1 : Value), nwLW d (nx_s X) ro1 ad1 am1 x y u σ1 sm1 th1 ov1 sv1 H1 → nwV X A Q 7 H1 (kc + 9000) (ns + 110000) 2535 (nwLoc b x y u i) []) : nwV X A Q 7 H kc ns 853 (nwLoc b x y u i) [] := by
  obtain ⟨hR, hM, hu, hru, ok, hB, hE⟩ := hW
  show nwV X A Q 7 H kc ns 853 [(0, .ref b), (1, .ref x), (2, .ref y), (3, .ref u), (4, .int (nI i))] []
  refine nw_aload_n C 1 dL_law_853 rfl 854 rfl ?_
  refine nw_aload_n C 0 dL_law_854 rfl 855 rfl ?_
  refine nw_iload C 4 dL_law_855 rfl 857 rfl ?_
  refine nw_iconst C (nI 1) dL_law_857 (by decide) 858 rfl ?_
  refine nw_iaddN C dL_law_858 859 rfl ?_
  refine nw_sld C hX hbl hbA (by omega) dL_law_859 860 rfl ?_
  refine nw_aload_n C 0 dL_law_860 rfl 861 rfl ?_
  refine nw_iload C 4 dL_law_861 rfl 863 rfl ?_
  refine nw_iconst C (nI 2) dL_law_863 (by decide) 864 rfl ?_
  refine nw_iaddN C dL_law_864 865 rfl ?_
  refine nw_sld C hX hbl hbA (by omega) dL_law_865 866 rfl ?_
  refine nw_aload_n C 3 dL_law_866 rfl 867 rfl ?_
  refine nw_callSH C (mX0_place _ C.hfl d ro ad x σ sm (xs (i + 1)) (xs (i + 2)) u ov sv H hB hR ok hu hru) hX0_place q1065 (As := [.ref x, .int (xs (i + 1)), .int (xs (i + 2)), .ref u]) (rest := []) rfl rfl ⟨⟨Nat.le_of_ble_eq_true rfl, Nat.le_of_ble_eq_true rfl⟩, (show kc + 2 ≤ 601152 by omega), (show ns + 12 ≤ 7246570 by omega)⟩ (Nat.le_of_ble_eq_true rfl) (fun q8 h8 h9 => hAA q8 (nwAW_B hR hB hru q8 h9)) dL_law_867 870 rfl (fun v9 H1 hR2 hz3 hq4 => ?_) nw_noX
  obtain ⟨rfl, ok9, hz9, ro9, ad9, hR9, hk9, ov9, sv9, hu9, hov9⟩ := hR2
  have hM9 := hM.kpM hR9.1 hk9 hq4 (fun q g hr => nwAW_M hru g hr)
  replace hE := hE.kept (fun q9 g9 hb9 => hq4 q9 g9 (fun h9 => hb9 (nwAW_B hR (Nat.le_trans hB (Nat.le_refl _)) hru q9 h9)))
  replace hB := Nat.le_trans hB hz3
  replace hru := nw_rt hk9 hru (by decide)
  show nwV X _ _ 7 H1 (kc + 2) (ns + 12) 870 [(0, .ref b), (1, .ref x), (2, .ref y), (3, .ref u), (4, .int (nI i))] [.int (nI (op_place σ (xs (i + 1)) (xs (i + 2))).1)]
  refine nw_istore C [(5, .int (nI (op_place σ (xs (i + 1)) (xs (i + 2))).1)), (0, .ref b), (1, .ref x), (2, .ref y), (3, .ref u), (4, .int (nI i))] dL_law_870 (by decide) rfl 872 rfl ?_
  refine nw_aload_n C 3 dL_law_872 rfl 873 rfl ?_
  refine nw_aload_n C 1 dL_law_873 rfl 874 rfl ?_
  refine nw_iload C 5 dL_law_874 rfl 876 rfl ?_
  refine nw_iconst C (nI 1) dL_law_876 (by decide) 877 rfl ?_
  refine nw_iaddN C dL_law_877 878 rfl ?_
  refine nw_sld C hX hbl hbA (by omega) dL_law_878 879 rfl ?_
  refine nw_aload_n C 1 dL_law_879 rfl 880 rfl ?_
  refine nw_iload C 5 dL_law_880 rfl 882 rfl ?_
  refine nw_iconst C (nI 2) dL_law_882 (by decide) 883 rfl ?_
  refine nw_iaddN C dL_law_883 884 rfl ?_
  refine nw_sld C hX hbl hbA (by omega) dL_law_884 885 rfl ?_
  refine nw_callV C (mX4_place _ C.hfl d ro9 am y σ th (xs (i + 1)) (xs (i + 2)) H1 hB hM9 ok) kX4_place q1817 (hM9.2.1.1.is C (ci := 9) rfl) (As := [.int (xs (i + 1)), .int (xs (i + 2))]) (rest := []) rfl rfl ⟨⟨Nat.le_of_ble_eq_true rfl, Nat.le_of_ble_eq_true rfl⟩, (show (kc + 2) + 0 ≤ 601152 by omega), (show (ns + 12) + 0 ≤ 7246570 by omega)⟩ (Nat.le_of_ble_eq_true rfl) (fun q8 h8 h9 => hAA q8 (nwAM_B hM9 hB q8 h9)) dL_law_885 888 rfl (fun v9 H5 hR6 hz7 hq8 => ?_) nw_noX
  obtain ⟨rfl, okm, hzm, rom, amm, hMm, hkm⟩ := hR6
  have hRm := hR9.kpR hMm.1 hkm hq8 (fun q g hr => nwAM_R g hr)
  have hum := hu9.kept (hq8 _ hu9.lt (nwAM_u hru hu9.lt))
  replace hE := hE.kept (fun q9 g9 hb9 => hq8 q9 g9 (fun h9 => hb9 (nwAM_B hM9 hB q9 h9)))
  replace hB := Nat.le_trans hB hz7
  replace hru := nw_rt hkm hru (by decide)
  show nwV X _ _ 7 H5 ((kc + 2) + 0) ((ns + 12) + 0) 888 [(5, .int (nI (op_place σ (xs (i + 1)) (xs (i + 2))).1)), (0, .ref b), (1, .ref x), (2, .ref y), (3, .ref u), (4, .int (nI i))] [.int ((op_place σ (xs (i + 1)) (xs (i + 2))).2)]
  refine nw_wide (k' := kc + 2) (n' := ns + 12) (by omega) (by omega) ?_
  refine nw_istore C [(6, .int ((op_place σ (xs (i + 1)) (xs (i + 2))).2)), (5, .int (nI (op_place σ (xs (i + 1)) (xs (i + 2))).1)), (0, .ref b), (1, .ref x), (2, .ref y), (3, .ref u), (4, .int (nI i))] dL_law_888 (by decide) rfl 890 rfl ?_
  refine nw_aload_n C 4 dL_law_890 rfl 891 rfl ?_
  refine nw_callV C (mX4_thrown _ C.hfl d rom amm y σ (nI (op_place σ (xs (i + 1)) (xs (i + 2))).1) H5 hB hMm.wc) kX4_thrown q1683 (hMm.2.1.1.is C (ci := 9) rfl) (As := []) (rest := []) rfl rfl ⟨⟨Nat.le_of_ble_eq_true rfl, Nat.le_of_ble_eq_true rfl⟩, (show (kc + 2) + 0 ≤ 601152 by omega), (show (ns + 12) + 0 ≤ 7246570 by omega)⟩ (Nat.le_of_ble_eq_true rfl) (fun _ h8 h9 => absurd h9 (Nat.not_le.mpr h8)) dL_law_891 894 rfl (nw_rdK ?_) nw_noX
  refine nw_iload C 1 dL_law_894 rfl 896 rfl ?_
  refine nw_icmpeq C 901 dL_law_896 (by decide) 899 rfl (fun _ => ?_) (fun h9 => absurd rfl h9)
  refine nw_iload C 1 dL_law_901 rfl 903 rfl ?_
  refine nw_ifne C 919 dL_law_903 (by decide) 906 rfl (fun h10 => ?_) (fun h10 => ?_)
  · refine nw_goto C 2535 dL_law_919 (by decide) ?_
    exact nw_wide (k' := kc + 9000) (n' := ns + 110000) (by omega) (by omega) (nw_sub [2, 3, 4, 5, 6] rfl (K H5 rom ad9 amm σ sm (nI (op_place σ (xs (i + 1)) (xs (i + 2))).1) ov9 sv9 ⟨hRm, hMm, hum, hru, ok9, hB, hE⟩))
  · have h0 : (op_place σ (xs (i + 1)) (xs (i + 2))).1 = 0 := (nI_eq (Nat.lt_of_le_of_lt (op_place_3 σ (xs (i + 1)) (xs (i + 2))) (by decide)) (by decide)).mp h10
    refine nw_aload_n C 5 dL_law_906 rfl 907 rfl ?_
    refine nw_getN C hum (T := TX5) rfl in_X5 0 (by decide) q640 rfl rfl dL_law_907 910 rfl ?_
    refine nw_iload C 0 dL_law_910 rfl 912 rfl ?_
    refine nw_i2l C dL_law_912 913 rfl ?_
    refine nw_lcmp C dL_law_913 914 rfl ?_
    refine nw_ifeq C 919 dL_law_914 (by decide) 917 rfl (fun _ => ?_) (fun h11 => absurd (by rw [hov9 h0]; exact lg_self _) h11)
    refine nw_goto C 2535 dL_law_919 (by decide) ?_
    exact nw_wide (k' := kc + 9000) (n' := ns + 110000) (by omega) (by omega) (nw_sub [2, 3, 4, 5, 6] rfl (K H5 rom ad9 amm σ sm (nI (op_place σ (xs (i + 1)) (xs (i + 2))).1) ov9 sv9 ⟨hRm, hMm, hum, hru, ok9, hB, hE⟩))
set_option maxHeartbeats 4000000 in
theorem lc_10 {d : nwD} {X : nwX} {A : Nat → Prop} {Q : State → Prop} {H0 : Heap} {b L x y u i kc ns : Nat} {xs : Nat → Int32} {ro ad am : Nat → Nat} {σ : spSg} {sm ov : Int64} {th : Int32} {sv : Value} {H : Heap} (C : nwC d X A H0 "NightwatchWallLaw" "law" code 7 ret room_1 []) (hAA : ∀ q, nd_B d ≤ q → A q) (hX : va_X b L xs (nx_s X) (nx_s X).heap) (hbl : b < (nx_s X).heap.size) (hbA : ¬ A b) (hi : i + 5 ≤ L ∧ L ≤ 320) (hcap : kc + 9000 ≤ 601152 ∧ ns + 110000 ≤ 7246570) (hW : nwLW d (nx_s X) ro ad am x y u σ sm th ov sv H)
    (K : ∀ (H1 : Heap) (ro1 ad1 am1 : Nat → Nat) (σ1 : spSg) (sm1 : Int64) (th1 : Int32) (ov1 : Int64) (sv1 : Value), nwLW d (nx_s X) ro1 ad1 am1 x y u σ1 sm1 th1 ov1 sv1 H1 → nwV X A Q 7 H1 (kc + 9000) (ns + 110000) 2535 (nwLoc b x y u i) []) : nwV X A Q 7 H kc ns 922 (nwLoc b x y u i) [] := by
  obtain ⟨hR, hM, hu, hru, ok, hB, hE⟩ := hW
  show nwV X A Q 7 H kc ns 922 [(0, .ref b), (1, .ref x), (2, .ref y), (3, .ref u), (4, .int (nI i))] []
  refine nw_aload_n C 1 dL_law_922 rfl 923 rfl ?_
  refine nw_aload_n C 0 dL_law_923 rfl 924 rfl ?_
  refine nw_iload C 4 dL_law_924 rfl 926 rfl ?_
  refine nw_iconst C (nI 1) dL_law_926 (by decide) 927 rfl ?_
  refine nw_iaddN C dL_law_927 928 rfl ?_
  refine nw_sld C hX hbl hbA (by omega) dL_law_928 929 rfl ?_
  refine nw_aload_n C 0 dL_law_929 rfl 930 rfl ?_
  refine nw_iload C 4 dL_law_930 rfl 932 rfl ?_
  refine nw_iconst C (nI 2) dL_law_932 (by decide) 933 rfl ?_
  refine nw_iaddN C dL_law_933 934 rfl ?_
  refine nw_sld C hX hbl hbA (by omega) dL_law_934 935 rfl ?_
  refine nw_aload_n C 0 dL_law_935 rfl 936 rfl ?_
  refine nw_iload C 4 dL_law_936 rfl 938 rfl ?_
  refine nw_iconst C (nI 3) dL_law_938 (by decide) 939 rfl ?_
  refine nw_iaddN C dL_law_939 940 rfl ?_
  refine nw_sld C hX hbl hbA (by omega) dL_law_940 941 rfl ?_
  refine nw_aload_n C 3 dL_law_941 rfl 942 rfl ?_
  refine nw_callSH C (mX0_sees _ C.hfl d ro ad x σ sm (xs (i + 1)) (xs (i + 2)) (xs (i + 3)) u ov sv H hB hR ok hu hru) hX0_sees q1075 (As := [.ref x, .int (xs (i + 1)), .int (xs (i + 2)), .int (xs (i + 3)), .ref u]) (rest := []) rfl rfl ⟨⟨Nat.le_of_ble_eq_true rfl, Nat.le_of_ble_eq_true rfl⟩, (show kc + 3 ≤ 601152 by omega), (show ns + 18 ≤ 7246570 by omega)⟩ (Nat.le_of_ble_eq_true rfl) (fun q8 h8 h9 => hAA q8 (nwAW_B hR hB hru q8 h9)) dL_law_942 945 rfl (fun v9 H1 hR2 hz3 hq4 => ?_) nw_noX
  obtain ⟨rfl, ok9, hz9, ro9, ad9, hR9, hk9, ov9, sv9, hu9, hov9⟩ := hR2
  have hM9 := hM.kpM hR9.1 hk9 hq4 (fun q g hr => nwAW_M hru g hr)
  replace hE := hE.kept (fun q9 g9 hb9 => hq4 q9 g9 (fun h9 => hb9 (nwAW_B hR (Nat.le_trans hB (Nat.le_refl _)) hru q9 h9)))
  replace hB := Nat.le_trans hB hz3
  replace hru := nw_rt hk9 hru (by decide)
  show nwV X _ _ 7 H1 (kc + 3) (ns + 18) 945 [(0, .ref b), (1, .ref x), (2, .ref y), (3, .ref u), (4, .int (nI i))] [.int (nI (op_sees σ (xs (i + 1)) (xs (i + 2)) (xs (i + 3))).1)]
  refine nw_istore C [(5, .int (nI (op_sees σ (xs (i + 1)) (xs (i + 2)) (xs (i + 3))).1)), (0, .ref b), (1, .ref x), (2, .ref y), (3, .ref u), (4, .int (nI i))] dL_law_945 (by decide) rfl 947 rfl ?_
  refine nw_aload_n C 3 dL_law_947 rfl 948 rfl ?_
  refine nw_aload_n C 1 dL_law_948 rfl 949 rfl ?_
  refine nw_iload C 5 dL_law_949 rfl 951 rfl ?_
  refine nw_iconst C (nI 1) dL_law_951 (by decide) 952 rfl ?_
  refine nw_iaddN C dL_law_952 953 rfl ?_
  refine nw_sld C hX hbl hbA (by omega) dL_law_953 954 rfl ?_
  refine nw_aload_n C 1 dL_law_954 rfl 955 rfl ?_
  refine nw_iload C 5 dL_law_955 rfl 957 rfl ?_
  refine nw_iconst C (nI 2) dL_law_957 (by decide) 958 rfl ?_
  refine nw_iaddN C dL_law_958 959 rfl ?_
  refine nw_sld C hX hbl hbA (by omega) dL_law_959 960 rfl ?_
  refine nw_aload_n C 1 dL_law_960 rfl 961 rfl ?_
  refine nw_iload C 5 dL_law_961 rfl 963 rfl ?_
  refine nw_iconst C (nI 3) dL_law_963 (by decide) 964 rfl ?_
  refine nw_iaddN C dL_law_964 965 rfl ?_
  refine nw_sld C hX hbl hbA (by omega) dL_law_965 966 rfl ?_
  refine nw_callV C (mX4_sees _ C.hfl d ro9 am y σ th (xs (i + 1)) (xs (i + 2)) (xs (i + 3)) H1 hB hM9 ok) kX4_sees q1836 (hM9.2.1.1.is C (ci := 9) rfl) (As := [.int (xs (i + 1)), .int (xs (i + 2)), .int (xs (i + 3))]) (rest := []) rfl rfl ⟨⟨Nat.le_of_ble_eq_true rfl, Nat.le_of_ble_eq_true rfl⟩, (show (kc + 3) + 0 ≤ 601152 by omega), (show (ns + 18) + 0 ≤ 7246570 by omega)⟩ (Nat.le_of_ble_eq_true rfl) (fun q8 h8 h9 => hAA q8 (nwAM_B hM9 hB q8 h9)) dL_law_966 969 rfl (fun v9 H5 hR6 hz7 hq8 => ?_) nw_noX
  obtain ⟨rfl, okm, hzm, rom, amm, hMm, hkm⟩ := hR6
  have hRm := hR9.kpR hMm.1 hkm hq8 (fun q g hr => nwAM_R g hr)
  have hum := hu9.kept (hq8 _ hu9.lt (nwAM_u hru hu9.lt))
  replace hE := hE.kept (fun q9 g9 hb9 => hq8 q9 g9 (fun h9 => hb9 (nwAM_B hM9 hB q9 h9)))
  replace hB := Nat.le_trans hB hz7
  replace hru := nw_rt hkm hru (by decide)
  show nwV X _ _ 7 H5 ((kc + 3) + 0) ((ns + 18) + 0) 969 [(5, .int (nI (op_sees σ (xs (i + 1)) (xs (i + 2)) (xs (i + 3))).1)), (0, .ref b), (1, .ref x), (2, .ref y), (3, .ref u), (4, .int (nI i))] [.int ((op_sees σ (xs (i + 1)) (xs (i + 2)) (xs (i + 3))).2)]
  refine nw_wide (k' := kc + 3) (n' := ns + 18) (by omega) (by omega) ?_
  refine nw_istore C [(6, .int ((op_sees σ (xs (i + 1)) (xs (i + 2)) (xs (i + 3))).2)), (5, .int (nI (op_sees σ (xs (i + 1)) (xs (i + 2)) (xs (i + 3))).1)), (0, .ref b), (1, .ref x), (2, .ref y), (3, .ref u), (4, .int (nI i))] dL_law_969 (by decide) rfl 971 rfl ?_
  refine nw_aload_n C 4 dL_law_971 rfl 972 rfl ?_
  refine nw_callV C (mX4_thrown _ C.hfl d rom amm y σ (nI (op_sees σ (xs (i + 1)) (xs (i + 2)) (xs (i + 3))).1) H5 hB hMm.wc) kX4_thrown q1683 (hMm.2.1.1.is C (ci := 9) rfl) (As := []) (rest := []) rfl rfl ⟨⟨Nat.le_of_ble_eq_true rfl, Nat.le_of_ble_eq_true rfl⟩, (show (kc + 3) + 0 ≤ 601152 by omega), (show (ns + 18) + 0 ≤ 7246570 by omega)⟩ (Nat.le_of_ble_eq_true rfl) (fun _ h8 h9 => absurd h9 (Nat.not_le.mpr h8)) dL_law_972 975 rfl (nw_rdK ?_) nw_noX
  refine nw_iload C 1 dL_law_975 rfl 977 rfl ?_
  refine nw_icmpeq C 982 dL_law_977 (by decide) 980 rfl (fun _ => ?_) (fun h9 => absurd rfl h9)
  refine nw_iload C 1 dL_law_982 rfl 984 rfl ?_
  refine nw_ifne C 1007 dL_law_984 (by decide) 987 rfl (fun h10 => ?_) (fun h10 => ?_)
  · refine nw_goto C 2535 dL_law_1007 (by decide) ?_
    exact nw_wide (k' := kc + 9000) (n' := ns + 110000) (by omega) (by omega) (nw_sub [2, 3, 4, 5, 6] rfl (K H5 rom ad9 amm σ sm (nI (op_sees σ (xs (i + 1)) (xs (i + 2)) (xs (i + 3))).1) ov9 sv9 ⟨hRm, hMm, hum, hru, ok9, hB, hE⟩))
  · have h0 : (op_sees σ (xs (i + 1)) (xs (i + 2)) (xs (i + 3))).1 = 0 := (nI_eq (Nat.lt_of_le_of_lt (op_sees_3 σ (xs (i + 1)) (xs (i + 2)) (xs (i + 3))) (by decide)) (by decide)).mp h10
    refine nw_aload_n C 5 dL_law_987 rfl 988 rfl ?_
    refine nw_getN C hum (T := TX5) rfl in_X5 0 (by decide) q640 rfl rfl dL_law_988 991 rfl ?_
    refine nw_iload C 0 dL_law_991 rfl 993 rfl ?_
    refine nw_ifeq C 1000 dL_law_993 (by decide) 996 rfl (fun h11 => ?_) (fun h11 => ?_)
    · refine nw_lconst C 0 dL_law_1000 rfl 1001 rfl ?_
      refine nw_lcmp C dL_law_1001 1002 rfl ?_
      refine nw_ifeq C 1007 dL_law_1002 (by decide) 1005 rfl (fun _ => ?_) (fun h12 => absurd (by rw [hov9 h0]; show lg_cmp (Int32.toInt64 (op_sees σ (xs (i + 1)) (xs (i + 2)) (xs (i + 3))).2) 0 = 0; rw [h11]; exact lg_self 0) h12)
      refine nw_goto C 2535 dL_law_1007 (by decide) ?_
      exact nw_wide (k' := kc + 9000) (n' := ns + 110000) (by omega) (by omega) (nw_sub [2, 3, 4, 5, 6] rfl (K H5 rom ad9 amm σ sm (nI (op_sees σ (xs (i + 1)) (xs (i + 2)) (xs (i + 3))).1) ov9 sv9 ⟨hRm, hMm, hum, hru, ok9, hB, hE⟩))
    · refine nw_lconst C 1 dL_law_996 rfl 997 rfl ?_
      refine nw_goto C 1001 dL_law_997 (by decide) ?_
      refine nw_lcmp C dL_law_1001 1002 rfl ?_
      refine nw_ifeq C 1007 dL_law_1002 (by decide) 1005 rfl (fun _ => ?_) (fun h13 => absurd (by rw [hov9 h0]; show lg_cmp (Int32.toInt64 (op_sees σ (xs (i + 1)) (xs (i + 2)) (xs (i + 3))).2) 1 = 0; rw [(op_sees_b σ (xs (i + 1)) (xs (i + 2)) (xs (i + 3))).resolve_left h11]; exact lg_self 1) h13)
      refine nw_goto C 2535 dL_law_1007 (by decide) ?_
      exact nw_wide (k' := kc + 9000) (n' := ns + 110000) (by omega) (by omega) (nw_sub [2, 3, 4, 5, 6] rfl (K H5 rom ad9 amm σ sm (nI (op_sees σ (xs (i + 1)) (xs (i + 2)) (xs (i + 3))).1) ov9 sv9 ⟨hRm, hMm, hum, hru, ok9, hB, hE⟩))
set_option maxHeartbeats 4000000 in
theorem lc_11 {d : nwD} {X : nwX} {A : Nat → Prop} {Q : State → Prop} {H0 : Heap} {b L x y u i kc ns : Nat} {xs : Nat → Int32} {ro ad am : Nat → Nat} {σ : spSg} {sm ov : Int64} {th : Int32} {sv : Value} {H : Heap} (C : nwC d X A H0 "NightwatchWallLaw" "law" code 7 ret room_1 []) (hAA : ∀ q, nd_B d ≤ q → A q) (hX : va_X b L xs (nx_s X) (nx_s X).heap) (hbl : b < (nx_s X).heap.size) (hbA : ¬ A b) (hi : i + 5 ≤ L ∧ L ≤ 320) (hcap : kc + 9000 ≤ 601152 ∧ ns + 110000 ≤ 7246570) (hW : nwLW d (nx_s X) ro ad am x y u σ sm th ov sv H)
    (K : ∀ (H1 : Heap) (ro1 ad1 am1 : Nat → Nat) (σ1 : spSg) (sm1 : Int64) (th1 : Int32) (ov1 : Int64) (sv1 : Value), nwLW d (nx_s X) ro1 ad1 am1 x y u σ1 sm1 th1 ov1 sv1 H1 → nwV X A Q 7 H1 (kc + 9000) (ns + 110000) 2535 (nwLoc b x y u i) []) : nwV X A Q 7 H kc ns 1010 (nwLoc b x y u i) [] := by
  obtain ⟨hR, hM, hu, hru, ok, hB, hE⟩ := hW
  show nwV X A Q 7 H kc ns 1010 [(0, .ref b), (1, .ref x), (2, .ref y), (3, .ref u), (4, .int (nI i))] []
  refine nw_aload_n C 1 dL_law_1010 rfl 1011 rfl ?_
  refine nw_aload_n C 0 dL_law_1011 rfl 1012 rfl ?_
  refine nw_iload C 4 dL_law_1012 rfl 1014 rfl ?_
  refine nw_iconst C (nI 1) dL_law_1014 (by decide) 1015 rfl ?_
  refine nw_iaddN C dL_law_1015 1016 rfl ?_
  refine nw_sld C hX hbl hbA (by omega) dL_law_1016 1017 rfl ?_
  refine nw_aload_n C 0 dL_law_1017 rfl 1018 rfl ?_
  refine nw_iload C 4 dL_law_1018 rfl 1020 rfl ?_
  refine nw_iconst C (nI 2) dL_law_1020 (by decide) 1021 rfl ?_
  refine nw_iaddN C dL_law_1021 1022 rfl ?_
  refine nw_sld C hX hbl hbA (by omega) dL_law_1022 1023 rfl ?_
  refine nw_aload_n C 0 dL_law_1023 rfl 1024 rfl ?_
  refine nw_iload C 4 dL_law_1024 rfl 1026 rfl ?_
  refine nw_iconst C (nI 3) dL_law_1026 (by decide) 1027 rfl ?_
  refine nw_iaddN C dL_law_1027 1028 rfl ?_
  refine nw_sld C hX hbl hbA (by omega) dL_law_1028 1029 rfl ?_
  refine nw_aload_n C 3 dL_law_1029 rfl 1030 rfl ?_
  refine nw_callSH C (mX0_ofCell _ C.hfl d ro ad x σ sm (xs (i + 1)) (xs (i + 2)) (xs (i + 3)) u ov sv H hB hR ok hu hru) hX0_ofCell q1082 (As := [.ref x, .int (xs (i + 1)), .int (xs (i + 2)), .int (xs (i + 3)), .ref u]) (rest := []) rfl rfl ⟨⟨Nat.le_of_ble_eq_true rfl, Nat.le_of_ble_eq_true rfl⟩, (show kc + 2 ≤ 601152 by omega), (show ns + 12 ≤ 7246570 by omega)⟩ (Nat.le_of_ble_eq_true rfl) (fun q8 h8 h9 => hAA q8 (nwAW_B hR hB hru q8 h9)) dL_law_1030 1033 rfl (fun v9 H1 hR2 hz3 hq4 => ?_) nw_noX
  obtain ⟨rfl, ok9, hz9, ro9, ad9, hR9, hk9, ov9, sv9, hu9, hov9⟩ := hR2
  have hM9 := hM.kpM hR9.1 hk9 hq4 (fun q g hr => nwAW_M hru g hr)
  replace hE := hE.kept (fun q9 g9 hb9 => hq4 q9 g9 (fun h9 => hb9 (nwAW_B hR (Nat.le_trans hB (Nat.le_refl _)) hru q9 h9)))
  replace hB := Nat.le_trans hB hz3
  replace hru := nw_rt hk9 hru (by decide)
  show nwV X _ _ 7 H1 (kc + 2) (ns + 12) 1033 [(0, .ref b), (1, .ref x), (2, .ref y), (3, .ref u), (4, .int (nI i))] [.int (nI (op_ofCell σ (xs (i + 1)) (xs (i + 2)) (xs (i + 3))).1)]
  refine nw_istore C [(5, .int (nI (op_ofCell σ (xs (i + 1)) (xs (i + 2)) (xs (i + 3))).1)), (0, .ref b), (1, .ref x), (2, .ref y), (3, .ref u), (4, .int (nI i))] dL_law_1033 (by decide) rfl 1035 rfl ?_
  refine nw_aload_n C 3 dL_law_1035 rfl 1036 rfl ?_
  refine nw_aload_n C 1 dL_law_1036 rfl 1037 rfl ?_
  refine nw_iload C 5 dL_law_1037 rfl 1039 rfl ?_
  refine nw_iconst C (nI 1) dL_law_1039 (by decide) 1040 rfl ?_
  refine nw_iaddN C dL_law_1040 1041 rfl ?_
  refine nw_sld C hX hbl hbA (by omega) dL_law_1041 1042 rfl ?_
  refine nw_aload_n C 1 dL_law_1042 rfl 1043 rfl ?_
  refine nw_iload C 5 dL_law_1043 rfl 1045 rfl ?_
  refine nw_iconst C (nI 2) dL_law_1045 (by decide) 1046 rfl ?_
  refine nw_iaddN C dL_law_1046 1047 rfl ?_
  refine nw_sld C hX hbl hbA (by omega) dL_law_1047 1048 rfl ?_
  refine nw_aload_n C 1 dL_law_1048 rfl 1049 rfl ?_
  refine nw_iload C 5 dL_law_1049 rfl 1051 rfl ?_
  refine nw_iconst C (nI 3) dL_law_1051 (by decide) 1052 rfl ?_
  refine nw_iaddN C dL_law_1052 1053 rfl ?_
  refine nw_sld C hX hbl hbA (by omega) dL_law_1053 1054 rfl ?_
  refine nw_callV C (mX4_ofCell _ C.hfl d ro9 am y σ th (xs (i + 1)) (xs (i + 2)) (xs (i + 3)) H1 hB hM9 ok) kX4_ofCell q1860 (hM9.2.1.1.is C (ci := 9) rfl) (As := [.int (xs (i + 1)), .int (xs (i + 2)), .int (xs (i + 3))]) (rest := []) rfl rfl ⟨⟨Nat.le_of_ble_eq_true rfl, Nat.le_of_ble_eq_true rfl⟩, (show (kc + 2) + 0 ≤ 601152 by omega), (show (ns + 12) + 0 ≤ 7246570 by omega)⟩ (Nat.le_of_ble_eq_true rfl) (fun q8 h8 h9 => hAA q8 (nwAM_B hM9 hB q8 h9)) dL_law_1054 1057 rfl (fun v9 H5 hR6 hz7 hq8 => ?_) nw_noX
  obtain ⟨rfl, okm, hzm, rom, amm, hMm, hkm⟩ := hR6
  have hRm := hR9.kpR hMm.1 hkm hq8 (fun q g hr => nwAM_R g hr)
  have hum := hu9.kept (hq8 _ hu9.lt (nwAM_u hru hu9.lt))
  replace hE := hE.kept (fun q9 g9 hb9 => hq8 q9 g9 (fun h9 => hb9 (nwAM_B hM9 hB q9 h9)))
  replace hB := Nat.le_trans hB hz7
  replace hru := nw_rt hkm hru (by decide)
  show nwV X _ _ 7 H5 ((kc + 2) + 0) ((ns + 12) + 0) 1057 [(5, .int (nI (op_ofCell σ (xs (i + 1)) (xs (i + 2)) (xs (i + 3))).1)), (0, .ref b), (1, .ref x), (2, .ref y), (3, .ref u), (4, .int (nI i))] [.int ((op_ofCell σ (xs (i + 1)) (xs (i + 2)) (xs (i + 3))).2)]
  refine nw_wide (k' := kc + 2) (n' := ns + 12) (by omega) (by omega) ?_
  refine nw_istore C [(6, .int ((op_ofCell σ (xs (i + 1)) (xs (i + 2)) (xs (i + 3))).2)), (5, .int (nI (op_ofCell σ (xs (i + 1)) (xs (i + 2)) (xs (i + 3))).1)), (0, .ref b), (1, .ref x), (2, .ref y), (3, .ref u), (4, .int (nI i))] dL_law_1057 (by decide) rfl 1059 rfl ?_
  refine nw_aload_n C 4 dL_law_1059 rfl 1060 rfl ?_
  refine nw_callV C (mX4_thrown _ C.hfl d rom amm y σ (nI (op_ofCell σ (xs (i + 1)) (xs (i + 2)) (xs (i + 3))).1) H5 hB hMm.wc) kX4_thrown q1683 (hMm.2.1.1.is C (ci := 9) rfl) (As := []) (rest := []) rfl rfl ⟨⟨Nat.le_of_ble_eq_true rfl, Nat.le_of_ble_eq_true rfl⟩, (show (kc + 2) + 0 ≤ 601152 by omega), (show (ns + 12) + 0 ≤ 7246570 by omega)⟩ (Nat.le_of_ble_eq_true rfl) (fun _ h8 h9 => absurd h9 (Nat.not_le.mpr h8)) dL_law_1060 1063 rfl (nw_rdK ?_) nw_noX
  refine nw_iload C 1 dL_law_1063 rfl 1065 rfl ?_
  refine nw_icmpeq C 1070 dL_law_1065 (by decide) 1068 rfl (fun _ => ?_) (fun h9 => absurd rfl h9)
  refine nw_iload C 1 dL_law_1070 rfl 1072 rfl ?_
  refine nw_ifne C 1088 dL_law_1072 (by decide) 1075 rfl (fun h10 => ?_) (fun h10 => ?_)
  · refine nw_goto C 2535 dL_law_1088 (by decide) ?_
    exact nw_wide (k' := kc + 9000) (n' := ns + 110000) (by omega) (by omega) (nw_sub [2, 3, 4, 5, 6] rfl (K H5 rom ad9 amm σ sm (nI (op_ofCell σ (xs (i + 1)) (xs (i + 2)) (xs (i + 3))).1) ov9 sv9 ⟨hRm, hMm, hum, hru, ok9, hB, hE⟩))
  · have h0 : (op_ofCell σ (xs (i + 1)) (xs (i + 2)) (xs (i + 3))).1 = 0 := (nI_eq (Nat.lt_of_le_of_lt (op_ofCell_3 σ (xs (i + 1)) (xs (i + 2)) (xs (i + 3))) (by decide)) (by decide)).mp h10
    refine nw_aload_n C 5 dL_law_1075 rfl 1076 rfl ?_
    refine nw_getN C hum (T := TX5) rfl in_X5 0 (by decide) q640 rfl rfl dL_law_1076 1079 rfl ?_
    refine nw_iload C 0 dL_law_1079 rfl 1081 rfl ?_
    refine nw_i2l C dL_law_1081 1082 rfl ?_
    refine nw_lcmp C dL_law_1082 1083 rfl ?_
    refine nw_ifeq C 1088 dL_law_1083 (by decide) 1086 rfl (fun _ => ?_) (fun h11 => absurd (by rw [hov9 h0]; exact lg_self _) h11)
    refine nw_goto C 2535 dL_law_1088 (by decide) ?_
    exact nw_wide (k' := kc + 9000) (n' := ns + 110000) (by omega) (by omega) (nw_sub [2, 3, 4, 5, 6] rfl (K H5 rom ad9 amm σ sm (nI (op_ofCell σ (xs (i + 1)) (xs (i + 2)) (xs (i + 3))).1) ov9 sv9 ⟨hRm, hMm, hum, hru, ok9, hB, hE⟩))
set_option maxHeartbeats 4000000 in
theorem lc_12 {d : nwD} {X : nwX} {A : Nat → Prop} {Q : State → Prop} {H0 : Heap} {b L x y u i kc ns : Nat} {xs : Nat → Int32} {ro ad am : Nat → Nat} {σ : spSg} {sm ov : Int64} {th : Int32} {sv : Value} {H : Heap} (C : nwC d X A H0 "NightwatchWallLaw" "law" code 7 ret room_1 []) (hAA : ∀ q, nd_B d ≤ q → A q) (hX : va_X b L xs (nx_s X) (nx_s X).heap) (hbl : b < (nx_s X).heap.size) (hbA : ¬ A b) (hi : i + 5 ≤ L ∧ L ≤ 320) (hcap : kc + 9000 ≤ 601152 ∧ ns + 110000 ≤ 7246570) (hW : nwLW d (nx_s X) ro ad am x y u σ sm th ov sv H)
    (K : ∀ (H1 : Heap) (ro1 ad1 am1 : Nat → Nat) (σ1 : spSg) (sm1 : Int64) (th1 : Int32) (ov1 : Int64) (sv1 : Value), nwLW d (nx_s X) ro1 ad1 am1 x y u σ1 sm1 th1 ov1 sv1 H1 → nwV X A Q 7 H1 (kc + 9000) (ns + 110000) 2535 (nwLoc b x y u i) []) : nwV X A Q 7 H kc ns 1091 (nwLoc b x y u i) [] := by
  obtain ⟨hR, hM, hu, hru, ok, hB, hE⟩ := hW
  show nwV X A Q 7 H kc ns 1091 [(0, .ref b), (1, .ref x), (2, .ref y), (3, .ref u), (4, .int (nI i))] []
  refine nw_aload_n C 1 dL_law_1091 rfl 1092 rfl ?_
  refine nw_aload_n C 0 dL_law_1092 rfl 1093 rfl ?_
  refine nw_iload C 4 dL_law_1093 rfl 1095 rfl ?_
  refine nw_iconst C (nI 1) dL_law_1095 (by decide) 1096 rfl ?_
  refine nw_iaddN C dL_law_1096 1097 rfl ?_
  refine nw_sld C hX hbl hbA (by omega) dL_law_1097 1098 rfl ?_
  refine nw_aload_n C 0 dL_law_1098 rfl 1099 rfl ?_
  refine nw_iload C 4 dL_law_1099 rfl 1101 rfl ?_
  refine nw_iconst C (nI 2) dL_law_1101 (by decide) 1102 rfl ?_
  refine nw_iaddN C dL_law_1102 1103 rfl ?_
  refine nw_sld C hX hbl hbA (by omega) dL_law_1103 1104 rfl ?_
  refine nw_aload_n C 3 dL_law_1104 rfl 1105 rfl ?_
  refine nw_callSH C (mX0_ofMinute _ C.hfl d ro ad x σ sm (xs (i + 1)) (xs (i + 2)) u ov sv H hB hR ok hu hru) hX0_ofMinute q1089 (As := [.ref x, .int (xs (i + 1)), .int (xs (i + 2)), .ref u]) (rest := []) rfl rfl ⟨⟨Nat.le_of_ble_eq_true rfl, Nat.le_of_ble_eq_true rfl⟩, (show kc + 1 ≤ 601152 by omega), (show ns + 6 ≤ 7246570 by omega)⟩ (Nat.le_of_ble_eq_true rfl) (fun q8 h8 h9 => hAA q8 (nwAW_B hR hB hru q8 h9)) dL_law_1105 1108 rfl (fun v9 H1 hR2 hz3 hq4 => ?_) nw_noX
  obtain ⟨rfl, ok9, hz9, ro9, ad9, hR9, hk9, ov9, sv9, hu9, hov9⟩ := hR2
  have hM9 := hM.kpM hR9.1 hk9 hq4 (fun q g hr => nwAW_M hru g hr)
  replace hE := hE.kept (fun q9 g9 hb9 => hq4 q9 g9 (fun h9 => hb9 (nwAW_B hR (Nat.le_trans hB (Nat.le_refl _)) hru q9 h9)))
  replace hB := Nat.le_trans hB hz3
  replace hru := nw_rt hk9 hru (by decide)
  show nwV X _ _ 7 H1 (kc + 1) (ns + 6) 1108 [(0, .ref b), (1, .ref x), (2, .ref y), (3, .ref u), (4, .int (nI i))] [.int (nI (op_ofMinute σ (xs (i + 1)) (xs (i + 2))).1)]
  refine nw_istore C [(5, .int (nI (op_ofMinute σ (xs (i + 1)) (xs (i + 2))).1)), (0, .ref b), (1, .ref x), (2, .ref y), (3, .ref u), (4, .int (nI i))] dL_law_1108 (by decide) rfl 1110 rfl ?_
  refine nw_aload_n C 3 dL_law_1110 rfl 1111 rfl ?_
  refine nw_aload_n C 1 dL_law_1111 rfl 1112 rfl ?_
  refine nw_iload C 5 dL_law_1112 rfl 1114 rfl ?_
  refine nw_iconst C (nI 1) dL_law_1114 (by decide) 1115 rfl ?_
  refine nw_iaddN C dL_law_1115 1116 rfl ?_
  refine nw_sld C hX hbl hbA (by omega) dL_law_1116 1117 rfl ?_
  refine nw_aload_n C 1 dL_law_1117 rfl 1118 rfl ?_
  refine nw_iload C 5 dL_law_1118 rfl 1120 rfl ?_
  refine nw_iconst C (nI 2) dL_law_1120 (by decide) 1121 rfl ?_
  refine nw_iaddN C dL_law_1121 1122 rfl ?_
  refine nw_sld C hX hbl hbA (by omega) dL_law_1122 1123 rfl ?_
  refine nw_callV C (mX4_ofMinute _ C.hfl d ro9 am y σ th (xs (i + 1)) (xs (i + 2)) H1 hB hM9 ok) kX4_ofMinute q1876 (hM9.2.1.1.is C (ci := 9) rfl) (As := [.int (xs (i + 1)), .int (xs (i + 2))]) (rest := []) rfl rfl ⟨⟨Nat.le_of_ble_eq_true rfl, Nat.le_of_ble_eq_true rfl⟩, (show (kc + 1) + 0 ≤ 601152 by omega), (show (ns + 6) + 0 ≤ 7246570 by omega)⟩ (Nat.le_of_ble_eq_true rfl) (fun q8 h8 h9 => hAA q8 (nwAM_B hM9 hB q8 h9)) dL_law_1123 1126 rfl (fun v9 H5 hR6 hz7 hq8 => ?_) nw_noX
  obtain ⟨rfl, okm, hzm, rom, amm, hMm, hkm⟩ := hR6
  have hRm := hR9.kpR hMm.1 hkm hq8 (fun q g hr => nwAM_R g hr)
  have hum := hu9.kept (hq8 _ hu9.lt (nwAM_u hru hu9.lt))
  replace hE := hE.kept (fun q9 g9 hb9 => hq8 q9 g9 (fun h9 => hb9 (nwAM_B hM9 hB q9 h9)))
  replace hB := Nat.le_trans hB hz7
  replace hru := nw_rt hkm hru (by decide)
  show nwV X _ _ 7 H5 ((kc + 1) + 0) ((ns + 6) + 0) 1126 [(5, .int (nI (op_ofMinute σ (xs (i + 1)) (xs (i + 2))).1)), (0, .ref b), (1, .ref x), (2, .ref y), (3, .ref u), (4, .int (nI i))] [.int ((op_ofMinute σ (xs (i + 1)) (xs (i + 2))).2)]
  refine nw_wide (k' := kc + 1) (n' := ns + 6) (by omega) (by omega) ?_
  refine nw_istore C [(6, .int ((op_ofMinute σ (xs (i + 1)) (xs (i + 2))).2)), (5, .int (nI (op_ofMinute σ (xs (i + 1)) (xs (i + 2))).1)), (0, .ref b), (1, .ref x), (2, .ref y), (3, .ref u), (4, .int (nI i))] dL_law_1126 (by decide) rfl 1128 rfl ?_
  refine nw_aload_n C 4 dL_law_1128 rfl 1129 rfl ?_
  refine nw_callV C (mX4_thrown _ C.hfl d rom amm y σ (nI (op_ofMinute σ (xs (i + 1)) (xs (i + 2))).1) H5 hB hMm.wc) kX4_thrown q1683 (hMm.2.1.1.is C (ci := 9) rfl) (As := []) (rest := []) rfl rfl ⟨⟨Nat.le_of_ble_eq_true rfl, Nat.le_of_ble_eq_true rfl⟩, (show (kc + 1) + 0 ≤ 601152 by omega), (show (ns + 6) + 0 ≤ 7246570 by omega)⟩ (Nat.le_of_ble_eq_true rfl) (fun _ h8 h9 => absurd h9 (Nat.not_le.mpr h8)) dL_law_1129 1132 rfl (nw_rdK ?_) nw_noX
  refine nw_iload C 1 dL_law_1132 rfl 1134 rfl ?_
  refine nw_icmpeq C 1139 dL_law_1134 (by decide) 1137 rfl (fun _ => ?_) (fun h9 => absurd rfl h9)
  refine nw_iload C 1 dL_law_1139 rfl 1141 rfl ?_
  refine nw_ifne C 1157 dL_law_1141 (by decide) 1144 rfl (fun h10 => ?_) (fun h10 => ?_)
  · refine nw_goto C 2535 dL_law_1157 (by decide) ?_
    exact nw_wide (k' := kc + 9000) (n' := ns + 110000) (by omega) (by omega) (nw_sub [2, 3, 4, 5, 6] rfl (K H5 rom ad9 amm σ sm (nI (op_ofMinute σ (xs (i + 1)) (xs (i + 2))).1) ov9 sv9 ⟨hRm, hMm, hum, hru, ok9, hB, hE⟩))
  · have h0 : (op_ofMinute σ (xs (i + 1)) (xs (i + 2))).1 = 0 := (nI_eq (Nat.lt_of_le_of_lt (op_ofMinute_3 σ (xs (i + 1)) (xs (i + 2))) (by decide)) (by decide)).mp h10
    refine nw_aload_n C 5 dL_law_1144 rfl 1145 rfl ?_
    refine nw_getN C hum (T := TX5) rfl in_X5 0 (by decide) q640 rfl rfl dL_law_1145 1148 rfl ?_
    refine nw_iload C 0 dL_law_1148 rfl 1150 rfl ?_
    refine nw_i2l C dL_law_1150 1151 rfl ?_
    refine nw_lcmp C dL_law_1151 1152 rfl ?_
    refine nw_ifeq C 1157 dL_law_1152 (by decide) 1155 rfl (fun _ => ?_) (fun h11 => absurd (by rw [hov9 h0]; exact lg_self _) h11)
    refine nw_goto C 2535 dL_law_1157 (by decide) ?_
    exact nw_wide (k' := kc + 9000) (n' := ns + 110000) (by omega) (by omega) (nw_sub [2, 3, 4, 5, 6] rfl (K H5 rom ad9 amm σ sm (nI (op_ofMinute σ (xs (i + 1)) (xs (i + 2))).1) ov9 sv9 ⟨hRm, hMm, hum, hru, ok9, hB, hE⟩))
set_option maxHeartbeats 4000000 in
theorem lc_13 {d : nwD} {X : nwX} {A : Nat → Prop} {Q : State → Prop} {H0 : Heap} {b L x y u i kc ns : Nat} {xs : Nat → Int32} {ro ad am : Nat → Nat} {σ : spSg} {sm ov : Int64} {th : Int32} {sv : Value} {H : Heap} (C : nwC d X A H0 "NightwatchWallLaw" "law" code 7 ret room_1 []) (hAA : ∀ q, nd_B d ≤ q → A q) (hX : va_X b L xs (nx_s X) (nx_s X).heap) (hbl : b < (nx_s X).heap.size) (hbA : ¬ A b) (hi : i + 5 ≤ L ∧ L ≤ 320) (hcap : kc + 9000 ≤ 601152 ∧ ns + 110000 ≤ 7246570) (hW : nwLW d (nx_s X) ro ad am x y u σ sm th ov sv H)
    (K : ∀ (H1 : Heap) (ro1 ad1 am1 : Nat → Nat) (σ1 : spSg) (sm1 : Int64) (th1 : Int32) (ov1 : Int64) (sv1 : Value), nwLW d (nx_s X) ro1 ad1 am1 x y u σ1 sm1 th1 ov1 sv1 H1 → nwV X A Q 7 H1 (kc + 9000) (ns + 110000) 2535 (nwLoc b x y u i) []) : nwV X A Q 7 H kc ns 1160 (nwLoc b x y u i) [] := by
  obtain ⟨hR, hM, hu, hru, ok, hB, hE⟩ := hW
  show nwV X A Q 7 H kc ns 1160 [(0, .ref b), (1, .ref x), (2, .ref y), (3, .ref u), (4, .int (nI i))] []
  refine nw_aload_n C 1 dL_law_1160 rfl 1161 rfl ?_
  refine nw_aload_n C 0 dL_law_1161 rfl 1162 rfl ?_
  refine nw_iload C 4 dL_law_1162 rfl 1164 rfl ?_
  refine nw_iconst C (nI 1) dL_law_1164 (by decide) 1165 rfl ?_
  refine nw_iaddN C dL_law_1165 1166 rfl ?_
  refine nw_sld C hX hbl hbA (by omega) dL_law_1166 1167 rfl ?_
  refine nw_aload_n C 0 dL_law_1167 rfl 1168 rfl ?_
  refine nw_iload C 4 dL_law_1168 rfl 1170 rfl ?_
  refine nw_iconst C (nI 2) dL_law_1170 (by decide) 1171 rfl ?_
  refine nw_iaddN C dL_law_1171 1172 rfl ?_
  refine nw_sld C hX hbl hbA (by omega) dL_law_1172 1173 rfl ?_
  refine nw_ifeq C 1180 dL_law_1173 (by decide) 1176 rfl (fun h1 => ?_) (fun h1 => ?_)
  · refine nw_iconst C (nI 0) dL_law_1180 (by decide) 1181 rfl ?_
    refine nw_aload_n C 3 dL_law_1181 rfl 1182 rfl ?_
    refine nw_callSH C (mX0_empty _ C.hfl d ro ad x σ sm (xs (i + 1)) false u ov sv H hB hR ok hu hru) hX0_empty q1096 (As := [.ref x, .int (xs (i + 1)), .int (b2i false), .ref u]) (rest := []) rfl rfl ⟨⟨Nat.le_of_ble_eq_true rfl, Nat.le_of_ble_eq_true rfl⟩, (show kc + 1 ≤ 601152 by omega), (show ns + 6 ≤ 7246570 by omega)⟩ (Nat.le_of_ble_eq_true rfl) (fun q8 h8 h9 => hAA q8 (nwAW_B hR hB hru q8 h9)) dL_law_1182 1185 rfl (fun v9 H2 hR3 hz4 hq5 => ?_) nw_noX
    obtain ⟨rfl, ok9, hz9, ro9, ad9, hR9, hk9, ov9, sv9, hu9, hov9⟩ := hR3
    have hM9 := hM.kpM hR9.1 hk9 hq5 (fun q g hr => nwAW_M hru g hr)
    replace hE := hE.kept (fun q9 g9 hb9 => hq5 q9 g9 (fun h9 => hb9 (nwAW_B hR (Nat.le_trans hB (Nat.le_refl _)) hru q9 h9)))
    replace hB := Nat.le_trans hB hz4
    replace hru := nw_rt hk9 hru (by decide)
    show nwV X _ _ 7 H2 (kc + 1) (ns + 6) 1185 [(0, .ref b), (1, .ref x), (2, .ref y), (3, .ref u), (4, .int (nI i))] [.int (nI (op_empty σ (xs (i + 1)) false).1)]
    refine nw_istore C [(5, .int (nI (op_empty σ (xs (i + 1)) false).1)), (0, .ref b), (1, .ref x), (2, .ref y), (3, .ref u), (4, .int (nI i))] dL_law_1185 (by decide) rfl 1187 rfl ?_
    refine nw_aload_n C 3 dL_law_1187 rfl 1188 rfl ?_
    refine nw_aload_n C 1 dL_law_1188 rfl 1189 rfl ?_
    refine nw_iload C 5 dL_law_1189 rfl 1191 rfl ?_
    refine nw_iconst C (nI 1) dL_law_1191 (by decide) 1192 rfl ?_
    refine nw_iaddN C dL_law_1192 1193 rfl ?_
    refine nw_sld C hX hbl hbA (by omega) dL_law_1193 1194 rfl ?_
    refine nw_aload_n C 1 dL_law_1194 rfl 1195 rfl ?_
    refine nw_iload C 5 dL_law_1195 rfl 1197 rfl ?_
    refine nw_iconst C (nI 2) dL_law_1197 (by decide) 1198 rfl ?_
    refine nw_iaddN C dL_law_1198 1199 rfl ?_
    refine nw_sld C hX hbl hbA (by omega) dL_law_1199 1200 rfl ?_
    refine nw_ifeq C 1207 dL_law_1200 (by decide) 1203 rfl (fun _ => ?_) (fun h6 => absurd h1 h6)
    refine nw_iconst C (nI 0) dL_law_1207 (by decide) 1208 rfl ?_
    refine nw_callV C (mX4_empty _ C.hfl d ro9 am y σ th (xs (i + 1)) false H2 hB hM9 ok) kX4_empty q1889 (hM9.2.1.1.is C (ci := 9) rfl) (As := [.int (xs (i + 1)), .int (b2i false)]) (rest := []) rfl rfl ⟨⟨Nat.le_of_ble_eq_true rfl, Nat.le_of_ble_eq_true rfl⟩, (show (kc + 1) + 0 ≤ 601152 by omega), (show (ns + 6) + 0 ≤ 7246570 by omega)⟩ (Nat.le_of_ble_eq_true rfl) (fun q8 h8 h9 => hAA q8 (nwAM_B hM9 hB q8 h9)) dL_law_1208 1211 rfl (fun v9 H7 hR8 hz9 hq10 => ?_) nw_noX
    obtain ⟨rfl, okm, hzm, rom, amm, hMm, hkm⟩ := hR8
    have hRm := hR9.kpR hMm.1 hkm hq10 (fun q g hr => nwAM_R g hr)
    have hum := hu9.kept (hq10 _ hu9.lt (nwAM_u hru hu9.lt))
    replace hE := hE.kept (fun q9 g9 hb9 => hq10 q9 g9 (fun h9 => hb9 (nwAM_B hM9 hB q9 h9)))
    replace hB := Nat.le_trans hB hz9
    replace hru := nw_rt hkm hru (by decide)
    show nwV X _ _ 7 H7 ((kc + 1) + 0) ((ns + 6) + 0) 1211 [(5, .int (nI (op_empty σ (xs (i + 1)) false).1)), (0, .ref b), (1, .ref x), (2, .ref y), (3, .ref u), (4, .int (nI i))] [.int ((op_empty σ (xs (i + 1)) false).2)]
    refine nw_wide (k' := kc + 1) (n' := ns + 6) (by omega) (by omega) ?_
    refine nw_istore C [(6, .int ((op_empty σ (xs (i + 1)) false).2)), (5, .int (nI (op_empty σ (xs (i + 1)) false).1)), (0, .ref b), (1, .ref x), (2, .ref y), (3, .ref u), (4, .int (nI i))] dL_law_1211 (by decide) rfl 1213 rfl ?_
    refine nw_aload_n C 4 dL_law_1213 rfl 1214 rfl ?_
    refine nw_callV C (mX4_thrown _ C.hfl d rom amm y σ (nI (op_empty σ (xs (i + 1)) false).1) H7 hB hMm.wc) kX4_thrown q1683 (hMm.2.1.1.is C (ci := 9) rfl) (As := []) (rest := []) rfl rfl ⟨⟨Nat.le_of_ble_eq_true rfl, Nat.le_of_ble_eq_true rfl⟩, (show (kc + 1) + 0 ≤ 601152 by omega), (show (ns + 6) + 0 ≤ 7246570 by omega)⟩ (Nat.le_of_ble_eq_true rfl) (fun _ h8 h9 => absurd h9 (Nat.not_le.mpr h8)) dL_law_1214 1217 rfl (nw_rdK ?_) nw_noX
    refine nw_iload C 1 dL_law_1217 rfl 1219 rfl ?_
    refine nw_icmpeq C 1224 dL_law_1219 (by decide) 1222 rfl (fun _ => ?_) (fun h11 => absurd rfl h11)
    refine nw_iload C 1 dL_law_1224 rfl 1226 rfl ?_
    refine nw_ifne C 1242 dL_law_1226 (by decide) 1229 rfl (fun h12 => ?_) (fun h12 => ?_)
    · refine nw_goto C 2535 dL_law_1242 (by decide) ?_
      exact nw_wide (k' := kc + 9000) (n' := ns + 110000) (by omega) (by omega) (nw_sub [2, 3, 4, 5, 6] rfl (K H7 rom ad9 amm σ sm (nI (op_empty σ (xs (i + 1)) false).1) ov9 sv9 ⟨hRm, hMm, hum, hru, ok9, hB, hE⟩))
    · have h0 : (op_empty σ (xs (i + 1)) false).1 = 0 := (nI_eq (Nat.lt_of_le_of_lt (op_empty_3 σ (xs (i + 1)) false) (by decide)) (by decide)).mp h12
      refine nw_aload_n C 5 dL_law_1229 rfl 1230 rfl ?_
      refine nw_getN C hum (T := TX5) rfl in_X5 0 (by decide) q640 rfl rfl dL_law_1230 1233 rfl ?_
      refine nw_iload C 0 dL_law_1233 rfl 1235 rfl ?_
      refine nw_i2l C dL_law_1235 1236 rfl ?_
      refine nw_lcmp C dL_law_1236 1237 rfl ?_
      refine nw_ifeq C 1242 dL_law_1237 (by decide) 1240 rfl (fun _ => ?_) (fun h13 => absurd (by rw [hov9 h0]; exact lg_self _) h13)
      refine nw_goto C 2535 dL_law_1242 (by decide) ?_
      exact nw_wide (k' := kc + 9000) (n' := ns + 110000) (by omega) (by omega) (nw_sub [2, 3, 4, 5, 6] rfl (K H7 rom ad9 amm σ sm (nI (op_empty σ (xs (i + 1)) false).1) ov9 sv9 ⟨hRm, hMm, hum, hru, ok9, hB, hE⟩))
  · refine nw_iconst C (nI 1) dL_law_1176 (by decide) 1177 rfl ?_
    refine nw_goto C 1181 dL_law_1177 (by decide) ?_
    refine nw_aload_n C 3 dL_law_1181 rfl 1182 rfl ?_
    refine nw_callSH C (mX0_empty _ C.hfl d ro ad x σ sm (xs (i + 1)) true u ov sv H hB hR ok hu hru) hX0_empty q1096 (As := [.ref x, .int (xs (i + 1)), .int (b2i true), .ref u]) (rest := []) rfl rfl ⟨⟨Nat.le_of_ble_eq_true rfl, Nat.le_of_ble_eq_true rfl⟩, (show kc + 1 ≤ 601152 by omega), (show ns + 6 ≤ 7246570 by omega)⟩ (Nat.le_of_ble_eq_true rfl) (fun q8 h8 h9 => hAA q8 (nwAW_B hR hB hru q8 h9)) dL_law_1182 1185 rfl (fun v9 H14 hR15 hz16 hq17 => ?_) nw_noX
    obtain ⟨rfl, ok9, hz9, ro9, ad9, hR9, hk9, ov9, sv9, hu9, hov9⟩ := hR15
    have hM9 := hM.kpM hR9.1 hk9 hq17 (fun q g hr => nwAW_M hru g hr)
    replace hE := hE.kept (fun q9 g9 hb9 => hq17 q9 g9 (fun h9 => hb9 (nwAW_B hR (Nat.le_trans hB (Nat.le_refl _)) hru q9 h9)))
    replace hB := Nat.le_trans hB hz16
    replace hru := nw_rt hk9 hru (by decide)
    show nwV X _ _ 7 H14 (kc + 1) (ns + 6) 1185 [(0, .ref b), (1, .ref x), (2, .ref y), (3, .ref u), (4, .int (nI i))] [.int (nI (op_empty σ (xs (i + 1)) true).1)]
    refine nw_istore C [(5, .int (nI (op_empty σ (xs (i + 1)) true).1)), (0, .ref b), (1, .ref x), (2, .ref y), (3, .ref u), (4, .int (nI i))] dL_law_1185 (by decide) rfl 1187 rfl ?_
    refine nw_aload_n C 3 dL_law_1187 rfl 1188 rfl ?_
    refine nw_aload_n C 1 dL_law_1188 rfl 1189 rfl ?_
    refine nw_iload C 5 dL_law_1189 rfl 1191 rfl ?_
    refine nw_iconst C (nI 1) dL_law_1191 (by decide) 1192 rfl ?_
    refine nw_iaddN C dL_law_1192 1193 rfl ?_
    refine nw_sld C hX hbl hbA (by omega) dL_law_1193 1194 rfl ?_
    refine nw_aload_n C 1 dL_law_1194 rfl 1195 rfl ?_
    refine nw_iload C 5 dL_law_1195 rfl 1197 rfl ?_
    refine nw_iconst C (nI 2) dL_law_1197 (by decide) 1198 rfl ?_
    refine nw_iaddN C dL_law_1198 1199 rfl ?_
    refine nw_sld C hX hbl hbA (by omega) dL_law_1199 1200 rfl ?_
    refine nw_ifeq C 1207 dL_law_1200 (by decide) 1203 rfl (fun h18 => absurd h18 h1) (fun _ => ?_)
    refine nw_iconst C (nI 1) dL_law_1203 (by decide) 1204 rfl ?_
    refine nw_goto C 1208 dL_law_1204 (by decide) ?_
    refine nw_callV C (mX4_empty _ C.hfl d ro9 am y σ th (xs (i + 1)) true H14 hB hM9 ok) kX4_empty q1889 (hM9.2.1.1.is C (ci := 9) rfl) (As := [.int (xs (i + 1)), .int (b2i true)]) (rest := []) rfl rfl ⟨⟨Nat.le_of_ble_eq_true rfl, Nat.le_of_ble_eq_true rfl⟩, (show (kc + 1) + 0 ≤ 601152 by omega), (show (ns + 6) + 0 ≤ 7246570 by omega)⟩ (Nat.le_of_ble_eq_true rfl) (fun q8 h8 h9 => hAA q8 (nwAM_B hM9 hB q8 h9)) dL_law_1208 1211 rfl (fun v9 H19 hR20 hz21 hq22 => ?_) nw_noX
    obtain ⟨rfl, okm, hzm, rom, amm, hMm, hkm⟩ := hR20
    have hRm := hR9.kpR hMm.1 hkm hq22 (fun q g hr => nwAM_R g hr)
    have hum := hu9.kept (hq22 _ hu9.lt (nwAM_u hru hu9.lt))
    replace hE := hE.kept (fun q9 g9 hb9 => hq22 q9 g9 (fun h9 => hb9 (nwAM_B hM9 hB q9 h9)))
    replace hB := Nat.le_trans hB hz21
    replace hru := nw_rt hkm hru (by decide)
    show nwV X _ _ 7 H19 ((kc + 1) + 0) ((ns + 6) + 0) 1211 [(5, .int (nI (op_empty σ (xs (i + 1)) true).1)), (0, .ref b), (1, .ref x), (2, .ref y), (3, .ref u), (4, .int (nI i))] [.int ((op_empty σ (xs (i + 1)) true).2)]
    refine nw_wide (k' := kc + 1) (n' := ns + 6) (by omega) (by omega) ?_
    refine nw_istore C [(6, .int ((op_empty σ (xs (i + 1)) true).2)), (5, .int (nI (op_empty σ (xs (i + 1)) true).1)), (0, .ref b), (1, .ref x), (2, .ref y), (3, .ref u), (4, .int (nI i))] dL_law_1211 (by decide) rfl 1213 rfl ?_
    refine nw_aload_n C 4 dL_law_1213 rfl 1214 rfl ?_
    refine nw_callV C (mX4_thrown _ C.hfl d rom amm y σ (nI (op_empty σ (xs (i + 1)) true).1) H19 hB hMm.wc) kX4_thrown q1683 (hMm.2.1.1.is C (ci := 9) rfl) (As := []) (rest := []) rfl rfl ⟨⟨Nat.le_of_ble_eq_true rfl, Nat.le_of_ble_eq_true rfl⟩, (show (kc + 1) + 0 ≤ 601152 by omega), (show (ns + 6) + 0 ≤ 7246570 by omega)⟩ (Nat.le_of_ble_eq_true rfl) (fun _ h8 h9 => absurd h9 (Nat.not_le.mpr h8)) dL_law_1214 1217 rfl (nw_rdK ?_) nw_noX
    refine nw_iload C 1 dL_law_1217 rfl 1219 rfl ?_
    refine nw_icmpeq C 1224 dL_law_1219 (by decide) 1222 rfl (fun _ => ?_) (fun h23 => absurd rfl h23)
    refine nw_iload C 1 dL_law_1224 rfl 1226 rfl ?_
    refine nw_ifne C 1242 dL_law_1226 (by decide) 1229 rfl (fun h24 => ?_) (fun h24 => ?_)
    · refine nw_goto C 2535 dL_law_1242 (by decide) ?_
      exact nw_wide (k' := kc + 9000) (n' := ns + 110000) (by omega) (by omega) (nw_sub [2, 3, 4, 5, 6] rfl (K H19 rom ad9 amm σ sm (nI (op_empty σ (xs (i + 1)) true).1) ov9 sv9 ⟨hRm, hMm, hum, hru, ok9, hB, hE⟩))
    · have h0 : (op_empty σ (xs (i + 1)) true).1 = 0 := (nI_eq (Nat.lt_of_le_of_lt (op_empty_3 σ (xs (i + 1)) true) (by decide)) (by decide)).mp h24
      refine nw_aload_n C 5 dL_law_1229 rfl 1230 rfl ?_
      refine nw_getN C hum (T := TX5) rfl in_X5 0 (by decide) q640 rfl rfl dL_law_1230 1233 rfl ?_
      refine nw_iload C 0 dL_law_1233 rfl 1235 rfl ?_
      refine nw_i2l C dL_law_1235 1236 rfl ?_
      refine nw_lcmp C dL_law_1236 1237 rfl ?_
      refine nw_ifeq C 1242 dL_law_1237 (by decide) 1240 rfl (fun _ => ?_) (fun h25 => absurd (by rw [hov9 h0]; exact lg_self _) h25)
      refine nw_goto C 2535 dL_law_1242 (by decide) ?_
      exact nw_wide (k' := kc + 9000) (n' := ns + 110000) (by omega) (by omega) (nw_sub [2, 3, 4, 5, 6] rfl (K H19 rom ad9 amm σ sm (nI (op_empty σ (xs (i + 1)) true).1) ov9 sv9 ⟨hRm, hMm, hum, hru, ok9, hB, hE⟩))
set_option maxHeartbeats 4000000 in
theorem lc_14 {d : nwD} {X : nwX} {A : Nat → Prop} {Q : State → Prop} {H0 : Heap} {b L x y u i kc ns : Nat} {xs : Nat → Int32} {ro ad am : Nat → Nat} {σ : spSg} {sm ov : Int64} {th : Int32} {sv : Value} {H : Heap} (C : nwC d X A H0 "NightwatchWallLaw" "law" code 7 ret room_1 []) (hAA : ∀ q, nd_B d ≤ q → A q) (hX : va_X b L xs (nx_s X) (nx_s X).heap) (hbl : b < (nx_s X).heap.size) (hbA : ¬ A b) (hi : i + 5 ≤ L ∧ L ≤ 320) (hcap : kc + 9000 ≤ 601152 ∧ ns + 110000 ≤ 7246570) (hW : nwLW d (nx_s X) ro ad am x y u σ sm th ov sv H)
    (K : ∀ (H1 : Heap) (ro1 ad1 am1 : Nat → Nat) (σ1 : spSg) (sm1 : Int64) (th1 : Int32) (ov1 : Int64) (sv1 : Value), nwLW d (nx_s X) ro1 ad1 am1 x y u σ1 sm1 th1 ov1 sv1 H1 → nwV X A Q 7 H1 (kc + 9000) (ns + 110000) 2535 (nwLoc b x y u i) []) : nwV X A Q 7 H kc ns 1245 (nwLoc b x y u i) [] := by
  obtain ⟨hR, hM, hu, hru, ok, hB, hE⟩ := hW
  show nwV X A Q 7 H kc ns 1245 [(0, .ref b), (1, .ref x), (2, .ref y), (3, .ref u), (4, .int (nI i))] []
  refine nw_aload_n C 1 dL_law_1245 rfl 1246 rfl ?_
  refine nw_aload_n C 0 dL_law_1246 rfl 1247 rfl ?_
  refine nw_iload C 4 dL_law_1247 rfl 1249 rfl ?_
  refine nw_iconst C (nI 1) dL_law_1249 (by decide) 1250 rfl ?_
  refine nw_iaddN C dL_law_1250 1251 rfl ?_
  refine nw_sld C hX hbl hbA (by omega) dL_law_1251 1252 rfl ?_
  refine nw_aload_n C 0 dL_law_1252 rfl 1253 rfl ?_
  refine nw_iload C 4 dL_law_1253 rfl 1255 rfl ?_
  refine nw_iconst C (nI 2) dL_law_1255 (by decide) 1256 rfl ?_
  refine nw_iaddN C dL_law_1256 1257 rfl ?_
  refine nw_sld C hX hbl hbA (by omega) dL_law_1257 1258 rfl ?_
  refine nw_aload_n C 0 dL_law_1258 rfl 1259 rfl ?_
  refine nw_iload C 4 dL_law_1259 rfl 1261 rfl ?_
  refine nw_iconst C (nI 3) dL_law_1261 (by decide) 1262 rfl ?_
  refine nw_iaddN C dL_law_1262 1263 rfl ?_
  refine nw_sld C hX hbl hbA (by omega) dL_law_1263 1264 rfl ?_
  refine nw_aload_n C 3 dL_law_1264 rfl 1265 rfl ?_
  refine nw_callSH C (mX0_lapse _ C.hfl d ro ad x σ sm (xs (i + 1)) (xs (i + 2)) (xs (i + 3)) u ov sv H hB hR ok hu hru) hX0_lapse q1103 (As := [.ref x, .int (xs (i + 1)), .int (xs (i + 2)), .int (xs (i + 3)), .ref u]) (rest := []) rfl rfl ⟨⟨Nat.le_of_ble_eq_true rfl, Nat.le_of_ble_eq_true rfl⟩, (show kc + 2 ≤ 601152 by omega), (show ns + 12 ≤ 7246570 by omega)⟩ (Nat.le_of_ble_eq_true rfl) (fun q8 h8 h9 => hAA q8 (nwAW_B hR hB hru q8 h9)) dL_law_1265 1268 rfl (fun v9 H1 hR2 hz3 hq4 => ?_) nw_noX
  obtain ⟨rfl, ok9, hz9, ro9, ad9, hR9, hk9, ov9, sv9, hu9, hov9⟩ := hR2
  have hM9 := hM.kpM hR9.1 hk9 hq4 (fun q g hr => nwAW_M hru g hr)
  replace hE := hE.kept (fun q9 g9 hb9 => hq4 q9 g9 (fun h9 => hb9 (nwAW_B hR (Nat.le_trans hB (Nat.le_refl _)) hru q9 h9)))
  replace hB := Nat.le_trans hB hz3
  replace hru := nw_rt hk9 hru (by decide)
  show nwV X _ _ 7 H1 (kc + 2) (ns + 12) 1268 [(0, .ref b), (1, .ref x), (2, .ref y), (3, .ref u), (4, .int (nI i))] [.int (nI (op_lapse σ (xs (i + 1)) (xs (i + 2)) (xs (i + 3))).1)]
  refine nw_istore C [(5, .int (nI (op_lapse σ (xs (i + 1)) (xs (i + 2)) (xs (i + 3))).1)), (0, .ref b), (1, .ref x), (2, .ref y), (3, .ref u), (4, .int (nI i))] dL_law_1268 (by decide) rfl 1270 rfl ?_
  refine nw_aload_n C 3 dL_law_1270 rfl 1271 rfl ?_
  refine nw_aload_n C 1 dL_law_1271 rfl 1272 rfl ?_
  refine nw_iload C 5 dL_law_1272 rfl 1274 rfl ?_
  refine nw_iconst C (nI 1) dL_law_1274 (by decide) 1275 rfl ?_
  refine nw_iaddN C dL_law_1275 1276 rfl ?_
  refine nw_sld C hX hbl hbA (by omega) dL_law_1276 1277 rfl ?_
  refine nw_aload_n C 1 dL_law_1277 rfl 1278 rfl ?_
  refine nw_iload C 5 dL_law_1278 rfl 1280 rfl ?_
  refine nw_iconst C (nI 2) dL_law_1280 (by decide) 1281 rfl ?_
  refine nw_iaddN C dL_law_1281 1282 rfl ?_
  refine nw_sld C hX hbl hbA (by omega) dL_law_1282 1283 rfl ?_
  refine nw_aload_n C 1 dL_law_1283 rfl 1284 rfl ?_
  refine nw_iload C 5 dL_law_1284 rfl 1286 rfl ?_
  refine nw_iconst C (nI 3) dL_law_1286 (by decide) 1287 rfl ?_
  refine nw_iaddN C dL_law_1287 1288 rfl ?_
  refine nw_sld C hX hbl hbA (by omega) dL_law_1288 1289 rfl ?_
  refine nw_callV C (mX4_lapse _ C.hfl d ro9 am y σ th (xs (i + 1)) (xs (i + 2)) (xs (i + 3)) H1 hB hM9 ok) kX4_lapse q1897 (hM9.2.1.1.is C (ci := 9) rfl) (As := [.int (xs (i + 1)), .int (xs (i + 2)), .int (xs (i + 3))]) (rest := []) rfl rfl ⟨⟨Nat.le_of_ble_eq_true rfl, Nat.le_of_ble_eq_true rfl⟩, (show (kc + 2) + 0 ≤ 601152 by omega), (show (ns + 12) + 0 ≤ 7246570 by omega)⟩ (Nat.le_of_ble_eq_true rfl) (fun q8 h8 h9 => hAA q8 (nwAM_B hM9 hB q8 h9)) dL_law_1289 1292 rfl (fun v9 H5 hR6 hz7 hq8 => ?_) nw_noX
  obtain ⟨rfl, okm, hzm, rom, amm, hMm, hkm⟩ := hR6
  have hRm := hR9.kpR hMm.1 hkm hq8 (fun q g hr => nwAM_R g hr)
  have hum := hu9.kept (hq8 _ hu9.lt (nwAM_u hru hu9.lt))
  replace hE := hE.kept (fun q9 g9 hb9 => hq8 q9 g9 (fun h9 => hb9 (nwAM_B hM9 hB q9 h9)))
  replace hB := Nat.le_trans hB hz7
  replace hru := nw_rt hkm hru (by decide)
  show nwV X _ _ 7 H5 ((kc + 2) + 0) ((ns + 12) + 0) 1292 [(5, .int (nI (op_lapse σ (xs (i + 1)) (xs (i + 2)) (xs (i + 3))).1)), (0, .ref b), (1, .ref x), (2, .ref y), (3, .ref u), (4, .int (nI i))] [.int ((op_lapse σ (xs (i + 1)) (xs (i + 2)) (xs (i + 3))).2)]
  refine nw_wide (k' := kc + 2) (n' := ns + 12) (by omega) (by omega) ?_
  refine nw_istore C [(6, .int ((op_lapse σ (xs (i + 1)) (xs (i + 2)) (xs (i + 3))).2)), (5, .int (nI (op_lapse σ (xs (i + 1)) (xs (i + 2)) (xs (i + 3))).1)), (0, .ref b), (1, .ref x), (2, .ref y), (3, .ref u), (4, .int (nI i))] dL_law_1292 (by decide) rfl 1294 rfl ?_
  refine nw_aload_n C 4 dL_law_1294 rfl 1295 rfl ?_
  refine nw_callV C (mX4_thrown _ C.hfl d rom amm y σ (nI (op_lapse σ (xs (i + 1)) (xs (i + 2)) (xs (i + 3))).1) H5 hB hMm.wc) kX4_thrown q1683 (hMm.2.1.1.is C (ci := 9) rfl) (As := []) (rest := []) rfl rfl ⟨⟨Nat.le_of_ble_eq_true rfl, Nat.le_of_ble_eq_true rfl⟩, (show (kc + 2) + 0 ≤ 601152 by omega), (show (ns + 12) + 0 ≤ 7246570 by omega)⟩ (Nat.le_of_ble_eq_true rfl) (fun _ h8 h9 => absurd h9 (Nat.not_le.mpr h8)) dL_law_1295 1298 rfl (nw_rdK ?_) nw_noX
  refine nw_iload C 1 dL_law_1298 rfl 1300 rfl ?_
  refine nw_icmpeq C 1305 dL_law_1300 (by decide) 1303 rfl (fun _ => ?_) (fun h9 => absurd rfl h9)
  refine nw_iload C 1 dL_law_1305 rfl 1307 rfl ?_
  refine nw_ifne C 1323 dL_law_1307 (by decide) 1310 rfl (fun h10 => ?_) (fun h10 => ?_)
  · refine nw_goto C 2535 dL_law_1323 (by decide) ?_
    exact nw_wide (k' := kc + 9000) (n' := ns + 110000) (by omega) (by omega) (nw_sub [2, 3, 4, 5, 6] rfl (K H5 rom ad9 amm σ sm (nI (op_lapse σ (xs (i + 1)) (xs (i + 2)) (xs (i + 3))).1) ov9 sv9 ⟨hRm, hMm, hum, hru, ok9, hB, hE⟩))
  · have h0 : (op_lapse σ (xs (i + 1)) (xs (i + 2)) (xs (i + 3))).1 = 0 := (nI_eq (Nat.lt_of_le_of_lt (op_lapse_3 σ (xs (i + 1)) (xs (i + 2)) (xs (i + 3))) (by decide)) (by decide)).mp h10
    refine nw_aload_n C 5 dL_law_1310 rfl 1311 rfl ?_
    refine nw_getN C hum (T := TX5) rfl in_X5 0 (by decide) q640 rfl rfl dL_law_1311 1314 rfl ?_
    refine nw_iload C 0 dL_law_1314 rfl 1316 rfl ?_
    refine nw_i2l C dL_law_1316 1317 rfl ?_
    refine nw_lcmp C dL_law_1317 1318 rfl ?_
    refine nw_ifeq C 1323 dL_law_1318 (by decide) 1321 rfl (fun _ => ?_) (fun h11 => absurd (by rw [hov9 h0]; exact lg_self _) h11)
    refine nw_goto C 2535 dL_law_1323 (by decide) ?_
    exact nw_wide (k' := kc + 9000) (n' := ns + 110000) (by omega) (by omega) (nw_sub [2, 3, 4, 5, 6] rfl (K H5 rom ad9 amm σ sm (nI (op_lapse σ (xs (i + 1)) (xs (i + 2)) (xs (i + 3))).1) ov9 sv9 ⟨hRm, hMm, hum, hru, ok9, hB, hE⟩))
set_option maxHeartbeats 4000000 in
theorem lc_15 {d : nwD} {X : nwX} {A : Nat → Prop} {Q : State → Prop} {H0 : Heap} {b L x y u i kc ns : Nat} {xs : Nat → Int32} {ro ad am : Nat → Nat} {σ : spSg} {sm ov : Int64} {th : Int32} {sv : Value} {H : Heap} (C : nwC d X A H0 "NightwatchWallLaw" "law" code 7 ret room_1 []) (hAA : ∀ q, nd_B d ≤ q → A q) (hX : va_X b L xs (nx_s X) (nx_s X).heap) (hbl : b < (nx_s X).heap.size) (hbA : ¬ A b) (hi : i + 5 ≤ L ∧ L ≤ 320) (hcap : kc + 9000 ≤ 601152 ∧ ns + 110000 ≤ 7246570) (hW : nwLW d (nx_s X) ro ad am x y u σ sm th ov sv H)
    (K : ∀ (H1 : Heap) (ro1 ad1 am1 : Nat → Nat) (σ1 : spSg) (sm1 : Int64) (th1 : Int32) (ov1 : Int64) (sv1 : Value), nwLW d (nx_s X) ro1 ad1 am1 x y u σ1 sm1 th1 ov1 sv1 H1 → nwV X A Q 7 H1 (kc + 9000) (ns + 110000) 2535 (nwLoc b x y u i) []) : nwV X A Q 7 H kc ns 1326 (nwLoc b x y u i) [] := by
  obtain ⟨hR, hM, hu, hru, ok, hB, hE⟩ := hW
  show nwV X A Q 7 H kc ns 1326 [(0, .ref b), (1, .ref x), (2, .ref y), (3, .ref u), (4, .int (nI i))] []
  refine nw_aload_n C 1 dL_law_1326 rfl 1327 rfl ?_
  refine nw_aload_n C 0 dL_law_1327 rfl 1328 rfl ?_
  refine nw_iload C 4 dL_law_1328 rfl 1330 rfl ?_
  refine nw_iconst C (nI 1) dL_law_1330 (by decide) 1331 rfl ?_
  refine nw_iaddN C dL_law_1331 1332 rfl ?_
  refine nw_sld C hX hbl hbA (by omega) dL_law_1332 1333 rfl ?_
  refine nw_aload_n C 3 dL_law_1333 rfl 1334 rfl ?_
  refine nw_callSH C (mX0_words _ C.hfl d ro ad x σ sm (xs (i + 1)) u ov sv H hB hR ok hu hru) hX0_words q1110 (As := [.ref x, .int (xs (i + 1)), .ref u]) (rest := []) rfl rfl ⟨⟨Nat.le_of_ble_eq_true rfl, Nat.le_of_ble_eq_true rfl⟩, (show kc + 4 ≤ 601152 by omega), (show ns + 20 ≤ 7246570 by omega)⟩ (Nat.le_of_ble_eq_true rfl) (fun q8 h8 h9 => hAA q8 (nwAW_B hR hB hru q8 h9)) dL_law_1334 1337 rfl (fun v9 H1 hR2 hz3 hq4 => ?_) nw_noX
  obtain ⟨rfl, ok9, hz9, ro9, ad9, hR9, hk9, ov9, sv9, hu9, hov9⟩ := hR2
  have hM9 := hM.kpM hR9.1 hk9 hq4 (fun q g hr => nwAW_M hru g hr)
  replace hE := hE.kept (fun q9 g9 hb9 => hq4 q9 g9 (fun h9 => hb9 (nwAW_B hR (Nat.le_trans hB (Nat.le_refl _)) hru q9 h9)))
  replace hB := Nat.le_trans hB hz3
  replace hru := nw_rt hk9 hru (by decide)
  show nwV X _ _ 7 H1 (kc + 4) (ns + 20) 1337 [(0, .ref b), (1, .ref x), (2, .ref y), (3, .ref u), (4, .int (nI i))] [.int (nI (op_words σ (xs (i + 1))).1)]
  refine nw_istore C [(5, .int (nI (op_words σ (xs (i + 1))).1)), (0, .ref b), (1, .ref x), (2, .ref y), (3, .ref u), (4, .int (nI i))] dL_law_1337 (by decide) rfl 1339 rfl ?_
  refine nw_aload_n C 3 dL_law_1339 rfl 1340 rfl ?_
  refine nw_aload_n C 1 dL_law_1340 rfl 1341 rfl ?_
  refine nw_iload C 5 dL_law_1341 rfl 1343 rfl ?_
  refine nw_iconst C (nI 1) dL_law_1343 (by decide) 1344 rfl ?_
  refine nw_iaddN C dL_law_1344 1345 rfl ?_
  refine nw_sld C hX hbl hbA (by omega) dL_law_1345 1346 rfl ?_
  refine nw_callV C (mX4_words _ C.hfl d ro9 am y σ th (xs (i + 1)) H1 hB hM9 ok) kX4_words q1901 (hM9.2.1.1.is C (ci := 9) rfl) (As := [.int (xs (i + 1))]) (rest := []) rfl rfl ⟨⟨Nat.le_of_ble_eq_true rfl, Nat.le_of_ble_eq_true rfl⟩, (show (kc + 4) + 1 ≤ 601152 by omega), (show (ns + 20) + 3 ≤ 7246570 by omega)⟩ (Nat.le_of_ble_eq_true rfl) (fun q8 h8 h9 => hAA q8 (nwAM_B hM9 hB q8 h9)) dL_law_1346 1349 rfl (fun v9 H5 hR6 hz7 hq8 => ?_) nw_noX
  obtain ⟨rfl, okm, hzm, rom, amm, hMm, hkm⟩ := hR6
  have hRm := hR9.kpR hMm.1 hkm hq8 (fun q g hr => nwAM_R g hr)
  have hum := hu9.kept (hq8 _ hu9.lt (nwAM_u hru hu9.lt))
  replace hE := hE.kept (fun q9 g9 hb9 => hq8 q9 g9 (fun h9 => hb9 (nwAM_B hM9 hB q9 h9)))
  replace hB := Nat.le_trans hB hz7
  replace hru := nw_rt hkm hru (by decide)
  show nwV X _ _ 7 H5 ((kc + 4) + 1) ((ns + 20) + 3) 1349 [(5, .int (nI (op_words σ (xs (i + 1))).1)), (0, .ref b), (1, .ref x), (2, .ref y), (3, .ref u), (4, .int (nI i))] [.int ((op_words σ (xs (i + 1))).2.1)]
  refine nw_wide (k' := kc + 5) (n' := ns + 23) (by omega) (by omega) ?_
  refine nw_istore C [(6, .int ((op_words σ (xs (i + 1))).2.1)), (5, .int (nI (op_words σ (xs (i + 1))).1)), (0, .ref b), (1, .ref x), (2, .ref y), (3, .ref u), (4, .int (nI i))] dL_law_1349 (by decide) rfl 1351 rfl ?_
  refine nw_aload_n C 4 dL_law_1351 rfl 1352 rfl ?_
  refine nw_callV C (mX4_thrown _ C.hfl d rom amm y (op_words σ (xs (i + 1))).2.2 (nI (op_words σ (xs (i + 1))).1) H5 hB hMm.wc) kX4_thrown q1683 (hMm.2.1.1.is C (ci := 9) rfl) (As := []) (rest := []) rfl rfl ⟨⟨Nat.le_of_ble_eq_true rfl, Nat.le_of_ble_eq_true rfl⟩, (show (kc + 5) + 0 ≤ 601152 by omega), (show (ns + 23) + 0 ≤ 7246570 by omega)⟩ (Nat.le_of_ble_eq_true rfl) (fun _ h8 h9 => absurd h9 (Nat.not_le.mpr h8)) dL_law_1352 1355 rfl (nw_rdK ?_) nw_noX
  refine nw_iload C 1 dL_law_1355 rfl 1357 rfl ?_
  refine nw_icmpeq C 1362 dL_law_1357 (by decide) 1360 rfl (fun _ => ?_) (fun h9 => absurd rfl h9)
  refine nw_iload C 1 dL_law_1362 rfl 1364 rfl ?_
  refine nw_ifne C 1380 dL_law_1364 (by decide) 1367 rfl (fun h10 => ?_) (fun h10 => ?_)
  · refine nw_goto C 2535 dL_law_1380 (by decide) ?_
    exact nw_wide (k' := kc + 9000) (n' := ns + 110000) (by omega) (by omega) (nw_sub [2, 3, 4, 5, 6] rfl (K H5 rom ad9 amm ((op_words σ (xs (i + 1))).2.2) sm (nI (op_words σ (xs (i + 1))).1) ov9 sv9 ⟨hRm, hMm, hum, hru, ok9, hB, hE⟩))
  · have h0 : (op_words σ (xs (i + 1))).1 = 0 := (nI_eq (Nat.lt_of_le_of_lt (op_words_3 σ (xs (i + 1))) (by decide)) (by decide)).mp h10
    refine nw_aload_n C 5 dL_law_1367 rfl 1368 rfl ?_
    refine nw_getN C hum (T := TX5) rfl in_X5 0 (by decide) q640 rfl rfl dL_law_1368 1371 rfl ?_
    refine nw_iload C 0 dL_law_1371 rfl 1373 rfl ?_
    refine nw_i2l C dL_law_1373 1374 rfl ?_
    refine nw_lcmp C dL_law_1374 1375 rfl ?_
    refine nw_ifeq C 1380 dL_law_1375 (by decide) 1378 rfl (fun _ => ?_) (fun h11 => absurd (by rw [hov9 h0]; exact lg_self _) h11)
    refine nw_goto C 2535 dL_law_1380 (by decide) ?_
    exact nw_wide (k' := kc + 9000) (n' := ns + 110000) (by omega) (by omega) (nw_sub [2, 3, 4, 5, 6] rfl (K H5 rom ad9 amm ((op_words σ (xs (i + 1))).2.2) sm (nI (op_words σ (xs (i + 1))).1) ov9 sv9 ⟨hRm, hMm, hum, hru, ok9, hB, hE⟩))
set_option maxHeartbeats 4000000 in
theorem lc_16 {d : nwD} {X : nwX} {A : Nat → Prop} {Q : State → Prop} {H0 : Heap} {b L x y u i kc ns : Nat} {xs : Nat → Int32} {ro ad am : Nat → Nat} {σ : spSg} {sm ov : Int64} {th : Int32} {sv : Value} {H : Heap} (C : nwC d X A H0 "NightwatchWallLaw" "law" code 7 ret room_1 []) (hAA : ∀ q, nd_B d ≤ q → A q) (hX : va_X b L xs (nx_s X) (nx_s X).heap) (hbl : b < (nx_s X).heap.size) (hbA : ¬ A b) (hi : i + 5 ≤ L ∧ L ≤ 320) (hcap : kc + 9000 ≤ 601152 ∧ ns + 110000 ≤ 7246570) (hW : nwLW d (nx_s X) ro ad am x y u σ sm th ov sv H)
    (K : ∀ (H1 : Heap) (ro1 ad1 am1 : Nat → Nat) (σ1 : spSg) (sm1 : Int64) (th1 : Int32) (ov1 : Int64) (sv1 : Value), nwLW d (nx_s X) ro1 ad1 am1 x y u σ1 sm1 th1 ov1 sv1 H1 → nwV X A Q 7 H1 (kc + 9000) (ns + 110000) 2535 (nwLoc b x y u i) []) : nwV X A Q 7 H kc ns 1383 (nwLoc b x y u i) [] := by
  obtain ⟨hR, hM, hu, hru, ok, hB, hE⟩ := hW
  show nwV X A Q 7 H kc ns 1383 [(0, .ref b), (1, .ref x), (2, .ref y), (3, .ref u), (4, .int (nI i))] []
  refine nw_aload_n C 1 dL_law_1383 rfl 1384 rfl ?_
  refine nw_aload_n C 0 dL_law_1384 rfl 1385 rfl ?_
  refine nw_iload C 4 dL_law_1385 rfl 1387 rfl ?_
  refine nw_iconst C (nI 1) dL_law_1387 (by decide) 1388 rfl ?_
  refine nw_iaddN C dL_law_1388 1389 rfl ?_
  refine nw_sld C hX hbl hbA (by omega) dL_law_1389 1390 rfl ?_
  refine nw_aload_n C 3 dL_law_1390 rfl 1391 rfl ?_
  refine nw_callSH C (mX0_leak _ C.hfl d ro ad x σ sm (xs (i + 1)) u ov sv H hB hR ok hu hru) hX0_leak q1121 (As := [.ref x, .int (xs (i + 1)), .ref u]) (rest := []) rfl rfl ⟨⟨Nat.le_of_ble_eq_true rfl, Nat.le_of_ble_eq_true rfl⟩, (show kc + 4 ≤ 601152 by omega), (show ns + 40 ≤ 7246570 by omega)⟩ (Nat.le_of_ble_eq_true rfl) (fun q8 h8 h9 => hAA q8 (nwAW_B hR hB hru q8 h9)) dL_law_1391 1394 rfl (fun v9 H1 hR2 hz3 hq4 => ?_) nw_noX
  obtain ⟨rfl, ok9, hz9, ro9, ad9, hR9, hk9, ov9, sv9, hu9, hov9⟩ := hR2
  have hM9 := hM.kpM hR9.1 hk9 hq4 (fun q g hr => nwAW_M hru g hr)
  replace hE := hE.kept (fun q9 g9 hb9 => hq4 q9 g9 (fun h9 => hb9 (nwAW_B hR (Nat.le_trans hB (Nat.le_refl _)) hru q9 h9)))
  replace hB := Nat.le_trans hB hz3
  replace hru := nw_rt hk9 hru (by decide)
  show nwV X _ _ 7 H1 (kc + 4) (ns + 40) 1394 [(0, .ref b), (1, .ref x), (2, .ref y), (3, .ref u), (4, .int (nI i))] [.int (nI (op_leak σ (xs (i + 1))).1)]
  refine nw_istore C [(5, .int (nI (op_leak σ (xs (i + 1))).1)), (0, .ref b), (1, .ref x), (2, .ref y), (3, .ref u), (4, .int (nI i))] dL_law_1394 (by decide) rfl 1396 rfl ?_
  refine nw_aload_n C 3 dL_law_1396 rfl 1397 rfl ?_
  refine nw_aload_n C 1 dL_law_1397 rfl 1398 rfl ?_
  refine nw_iload C 5 dL_law_1398 rfl 1400 rfl ?_
  refine nw_iconst C (nI 1) dL_law_1400 (by decide) 1401 rfl ?_
  refine nw_iaddN C dL_law_1401 1402 rfl ?_
  refine nw_sld C hX hbl hbA (by omega) dL_law_1402 1403 rfl ?_
  refine nw_callV C (mX4_leak _ C.hfl d ro9 am y σ th (xs (i + 1)) H1 hB hM9 ok) kX4_leak q1905 (hM9.2.1.1.is C (ci := 9) rfl) (As := [.int (xs (i + 1))]) (rest := []) rfl rfl ⟨⟨Nat.le_of_ble_eq_true rfl, Nat.le_of_ble_eq_true rfl⟩, (show (kc + 4) + 1 ≤ 601152 by omega), (show (ns + 40) + 10 ≤ 7246570 by omega)⟩ (Nat.le_of_ble_eq_true rfl) (fun q8 h8 h9 => hAA q8 (nwAM_B hM9 hB q8 h9)) dL_law_1403 1406 rfl (fun v9 H5 hR6 hz7 hq8 => ?_) nw_noX
  obtain ⟨rfl, okm, hzm, rom, amm, hMm, hkm⟩ := hR6
  have hRm := hR9.kpR hMm.1 hkm hq8 (fun q g hr => nwAM_R g hr)
  have hum := hu9.kept (hq8 _ hu9.lt (nwAM_u hru hu9.lt))
  replace hE := hE.kept (fun q9 g9 hb9 => hq8 q9 g9 (fun h9 => hb9 (nwAM_B hM9 hB q9 h9)))
  replace hB := Nat.le_trans hB hz7
  replace hru := nw_rt hkm hru (by decide)
  show nwV X _ _ 7 H5 ((kc + 4) + 1) ((ns + 40) + 10) 1406 [(5, .int (nI (op_leak σ (xs (i + 1))).1)), (0, .ref b), (1, .ref x), (2, .ref y), (3, .ref u), (4, .int (nI i))] [.int ((op_leak σ (xs (i + 1))).2.1)]
  refine nw_wide (k' := kc + 5) (n' := ns + 50) (by omega) (by omega) ?_
  refine nw_istore C [(6, .int ((op_leak σ (xs (i + 1))).2.1)), (5, .int (nI (op_leak σ (xs (i + 1))).1)), (0, .ref b), (1, .ref x), (2, .ref y), (3, .ref u), (4, .int (nI i))] dL_law_1406 (by decide) rfl 1408 rfl ?_
  refine nw_aload_n C 4 dL_law_1408 rfl 1409 rfl ?_
  refine nw_callV C (mX4_thrown _ C.hfl d rom amm y (op_leak σ (xs (i + 1))).2.2 (nI (op_leak σ (xs (i + 1))).1) H5 hB hMm.wc) kX4_thrown q1683 (hMm.2.1.1.is C (ci := 9) rfl) (As := []) (rest := []) rfl rfl ⟨⟨Nat.le_of_ble_eq_true rfl, Nat.le_of_ble_eq_true rfl⟩, (show (kc + 5) + 0 ≤ 601152 by omega), (show (ns + 50) + 0 ≤ 7246570 by omega)⟩ (Nat.le_of_ble_eq_true rfl) (fun _ h8 h9 => absurd h9 (Nat.not_le.mpr h8)) dL_law_1409 1412 rfl (nw_rdK ?_) nw_noX
  refine nw_iload C 1 dL_law_1412 rfl 1414 rfl ?_
  refine nw_icmpeq C 1419 dL_law_1414 (by decide) 1417 rfl (fun _ => ?_) (fun h9 => absurd rfl h9)
  refine nw_iload C 1 dL_law_1419 rfl 1421 rfl ?_
  refine nw_ifne C 1437 dL_law_1421 (by decide) 1424 rfl (fun h10 => ?_) (fun h10 => ?_)
  · refine nw_goto C 2535 dL_law_1437 (by decide) ?_
    exact nw_wide (k' := kc + 9000) (n' := ns + 110000) (by omega) (by omega) (nw_sub [2, 3, 4, 5, 6] rfl (K H5 rom ad9 amm ((op_leak σ (xs (i + 1))).2.2) sm (nI (op_leak σ (xs (i + 1))).1) ov9 sv9 ⟨hRm, hMm, hum, hru, ok9, hB, hE⟩))
  · have h0 : (op_leak σ (xs (i + 1))).1 = 0 := (nI_eq (Nat.lt_of_le_of_lt (op_leak_3 σ (xs (i + 1))) (by decide)) (by decide)).mp h10
    refine nw_aload_n C 5 dL_law_1424 rfl 1425 rfl ?_
    refine nw_getN C hum (T := TX5) rfl in_X5 0 (by decide) q640 rfl rfl dL_law_1425 1428 rfl ?_
    refine nw_iload C 0 dL_law_1428 rfl 1430 rfl ?_
    refine nw_i2l C dL_law_1430 1431 rfl ?_
    refine nw_lcmp C dL_law_1431 1432 rfl ?_
    refine nw_ifeq C 1437 dL_law_1432 (by decide) 1435 rfl (fun _ => ?_) (fun h11 => absurd (by rw [hov9 h0]; exact lg_self _) h11)
    refine nw_goto C 2535 dL_law_1437 (by decide) ?_
    exact nw_wide (k' := kc + 9000) (n' := ns + 110000) (by omega) (by omega) (nw_sub [2, 3, 4, 5, 6] rfl (K H5 rom ad9 amm ((op_leak σ (xs (i + 1))).2.2) sm (nI (op_leak σ (xs (i + 1))).1) ov9 sv9 ⟨hRm, hMm, hum, hru, ok9, hB, hE⟩))
set_option maxHeartbeats 4000000 in
theorem lc_17 {d : nwD} {X : nwX} {A : Nat → Prop} {Q : State → Prop} {H0 : Heap} {b L x y u i kc ns : Nat} {xs : Nat → Int32} {ro ad am : Nat → Nat} {σ : spSg} {sm ov : Int64} {th : Int32} {sv : Value} {H : Heap} (C : nwC d X A H0 "NightwatchWallLaw" "law" code 7 ret room_1 []) (hAA : ∀ q, nd_B d ≤ q → A q) (hX : va_X b L xs (nx_s X) (nx_s X).heap) (hbl : b < (nx_s X).heap.size) (hbA : ¬ A b) (hi : i + 5 ≤ L ∧ L ≤ 320) (hcap : kc + 9000 ≤ 601152 ∧ ns + 110000 ≤ 7246570) (hW : nwLW d (nx_s X) ro ad am x y u σ sm th ov sv H)
    (K : ∀ (H1 : Heap) (ro1 ad1 am1 : Nat → Nat) (σ1 : spSg) (sm1 : Int64) (th1 : Int32) (ov1 : Int64) (sv1 : Value), nwLW d (nx_s X) ro1 ad1 am1 x y u σ1 sm1 th1 ov1 sv1 H1 → nwV X A Q 7 H1 (kc + 9000) (ns + 110000) 2535 (nwLoc b x y u i) []) : nwV X A Q 7 H kc ns 1440 (nwLoc b x y u i) [] := by
  obtain ⟨hR, hM, hu, hru, ok, hB, hE⟩ := hW
  show nwV X A Q 7 H kc ns 1440 [(0, .ref b), (1, .ref x), (2, .ref y), (3, .ref u), (4, .int (nI i))] []
  refine nw_aload_n C 1 dL_law_1440 rfl 1441 rfl ?_
  refine nw_aload_n C 0 dL_law_1441 rfl 1442 rfl ?_
  refine nw_iload C 4 dL_law_1442 rfl 1444 rfl ?_
  refine nw_iconst C (nI 1) dL_law_1444 (by decide) 1445 rfl ?_
  refine nw_iaddN C dL_law_1445 1446 rfl ?_
  refine nw_sld C hX hbl hbA (by omega) dL_law_1446 1447 rfl ?_
  refine nw_aload_n C 0 dL_law_1447 rfl 1448 rfl ?_
  refine nw_iload C 4 dL_law_1448 rfl 1450 rfl ?_
  refine nw_iconst C (nI 2) dL_law_1450 (by decide) 1451 rfl ?_
  refine nw_iaddN C dL_law_1451 1452 rfl ?_
  refine nw_sld C hX hbl hbA (by omega) dL_law_1452 1453 rfl ?_
  refine nw_aload_n C 0 dL_law_1453 rfl 1454 rfl ?_
  refine nw_iload C 4 dL_law_1454 rfl 1456 rfl ?_
  refine nw_iconst C (nI 3) dL_law_1456 (by decide) 1457 rfl ?_
  refine nw_iaddN C dL_law_1457 1458 rfl ?_
  refine nw_sld C hX hbl hbA (by omega) dL_law_1458 1459 rfl ?_
  refine nw_aload_n C 3 dL_law_1459 rfl 1460 rfl ?_
  refine nw_callSH C (mX0_answer _ C.hfl d ro ad x σ sm (xs (i + 1)) (xs (i + 2)) (xs (i + 3)) u ov sv H hB hR ok hu hru) hX0_answer q1139 (As := [.ref x, .int (xs (i + 1)), .int (xs (i + 2)), .int (xs (i + 3)), .ref u]) (rest := []) rfl rfl ⟨⟨Nat.le_of_ble_eq_true rfl, Nat.le_of_ble_eq_true rfl⟩, (show kc + 2 ≤ 601152 by omega), (show ns + 12 ≤ 7246570 by omega)⟩ (Nat.le_of_ble_eq_true rfl) (fun q8 h8 h9 => hAA q8 (nwAW_B hR hB hru q8 h9)) dL_law_1460 1463 rfl (fun v9 H1 hR2 hz3 hq4 => ?_) nw_noX
  obtain ⟨rfl, ok9, hz9, ro9, ad9, hR9, hk9, ov9, sv9, hu9, hov9⟩ := hR2
  have hM9 := hM.kpM hR9.1 hk9 hq4 (fun q g hr => nwAW_M hru g hr)
  replace hE := hE.kept (fun q9 g9 hb9 => hq4 q9 g9 (fun h9 => hb9 (nwAW_B hR (Nat.le_trans hB (Nat.le_refl _)) hru q9 h9)))
  replace hB := Nat.le_trans hB hz3
  replace hru := nw_rt hk9 hru (by decide)
  show nwV X _ _ 7 H1 (kc + 2) (ns + 12) 1463 [(0, .ref b), (1, .ref x), (2, .ref y), (3, .ref u), (4, .int (nI i))] [.int (nI (op_answer σ (xs (i + 1)) (xs (i + 2)) (xs (i + 3))).1)]
  refine nw_istore C [(5, .int (nI (op_answer σ (xs (i + 1)) (xs (i + 2)) (xs (i + 3))).1)), (0, .ref b), (1, .ref x), (2, .ref y), (3, .ref u), (4, .int (nI i))] dL_law_1463 (by decide) rfl 1465 rfl ?_
  refine nw_aload_n C 3 dL_law_1465 rfl 1466 rfl ?_
  refine nw_aload_n C 1 dL_law_1466 rfl 1467 rfl ?_
  refine nw_iload C 5 dL_law_1467 rfl 1469 rfl ?_
  refine nw_iconst C (nI 1) dL_law_1469 (by decide) 1470 rfl ?_
  refine nw_iaddN C dL_law_1470 1471 rfl ?_
  refine nw_sld C hX hbl hbA (by omega) dL_law_1471 1472 rfl ?_
  refine nw_aload_n C 1 dL_law_1472 rfl 1473 rfl ?_
  refine nw_iload C 5 dL_law_1473 rfl 1475 rfl ?_
  refine nw_iconst C (nI 2) dL_law_1475 (by decide) 1476 rfl ?_
  refine nw_iaddN C dL_law_1476 1477 rfl ?_
  refine nw_sld C hX hbl hbA (by omega) dL_law_1477 1478 rfl ?_
  refine nw_aload_n C 1 dL_law_1478 rfl 1479 rfl ?_
  refine nw_iload C 5 dL_law_1479 rfl 1481 rfl ?_
  refine nw_iconst C (nI 3) dL_law_1481 (by decide) 1482 rfl ?_
  refine nw_iaddN C dL_law_1482 1483 rfl ?_
  refine nw_sld C hX hbl hbA (by omega) dL_law_1483 1484 rfl ?_
  refine nw_callV C (mX4_answer _ C.hfl d ro9 am y σ th (xs (i + 1)) (xs (i + 2)) (xs (i + 3)) H1 hB hM9 ok) kX4_answer q1909 (hM9.2.1.1.is C (ci := 9) rfl) (As := [.int (xs (i + 1)), .int (xs (i + 2)), .int (xs (i + 3))]) (rest := []) rfl rfl ⟨⟨Nat.le_of_ble_eq_true rfl, Nat.le_of_ble_eq_true rfl⟩, (show (kc + 2) + 0 ≤ 601152 by omega), (show (ns + 12) + 0 ≤ 7246570 by omega)⟩ (Nat.le_of_ble_eq_true rfl) (fun q8 h8 h9 => hAA q8 (nwAM_B hM9 hB q8 h9)) dL_law_1484 1487 rfl (fun v9 H5 hR6 hz7 hq8 => ?_) nw_noX
  obtain ⟨rfl, okm, hzm, rom, amm, hMm, hkm⟩ := hR6
  have hRm := hR9.kpR hMm.1 hkm hq8 (fun q g hr => nwAM_R g hr)
  have hum := hu9.kept (hq8 _ hu9.lt (nwAM_u hru hu9.lt))
  replace hE := hE.kept (fun q9 g9 hb9 => hq8 q9 g9 (fun h9 => hb9 (nwAM_B hM9 hB q9 h9)))
  replace hB := Nat.le_trans hB hz7
  replace hru := nw_rt hkm hru (by decide)
  show nwV X _ _ 7 H5 ((kc + 2) + 0) ((ns + 12) + 0) 1487 [(5, .int (nI (op_answer σ (xs (i + 1)) (xs (i + 2)) (xs (i + 3))).1)), (0, .ref b), (1, .ref x), (2, .ref y), (3, .ref u), (4, .int (nI i))] [.int ((op_answer σ (xs (i + 1)) (xs (i + 2)) (xs (i + 3))).2.1)]
  refine nw_wide (k' := kc + 2) (n' := ns + 12) (by omega) (by omega) ?_
  refine nw_istore C [(6, .int ((op_answer σ (xs (i + 1)) (xs (i + 2)) (xs (i + 3))).2.1)), (5, .int (nI (op_answer σ (xs (i + 1)) (xs (i + 2)) (xs (i + 3))).1)), (0, .ref b), (1, .ref x), (2, .ref y), (3, .ref u), (4, .int (nI i))] dL_law_1487 (by decide) rfl 1489 rfl ?_
  refine nw_aload_n C 4 dL_law_1489 rfl 1490 rfl ?_
  refine nw_callV C (mX4_thrown _ C.hfl d rom amm y (op_answer σ (xs (i + 1)) (xs (i + 2)) (xs (i + 3))).2.2 (nI (op_answer σ (xs (i + 1)) (xs (i + 2)) (xs (i + 3))).1) H5 hB hMm.wc) kX4_thrown q1683 (hMm.2.1.1.is C (ci := 9) rfl) (As := []) (rest := []) rfl rfl ⟨⟨Nat.le_of_ble_eq_true rfl, Nat.le_of_ble_eq_true rfl⟩, (show (kc + 2) + 0 ≤ 601152 by omega), (show (ns + 12) + 0 ≤ 7246570 by omega)⟩ (Nat.le_of_ble_eq_true rfl) (fun _ h8 h9 => absurd h9 (Nat.not_le.mpr h8)) dL_law_1490 1493 rfl (nw_rdK ?_) nw_noX
  refine nw_iload C 1 dL_law_1493 rfl 1495 rfl ?_
  refine nw_icmpeq C 1500 dL_law_1495 (by decide) 1498 rfl (fun _ => ?_) (fun h9 => absurd rfl h9)
  refine nw_iload C 1 dL_law_1500 rfl 1502 rfl ?_
  refine nw_ifne C 1518 dL_law_1502 (by decide) 1505 rfl (fun h10 => ?_) (fun h10 => ?_)
  · refine nw_goto C 2535 dL_law_1518 (by decide) ?_
    exact nw_wide (k' := kc + 9000) (n' := ns + 110000) (by omega) (by omega) (nw_sub [2, 3, 4, 5, 6] rfl (K H5 rom ad9 amm ((op_answer σ (xs (i + 1)) (xs (i + 2)) (xs (i + 3))).2.2) sm (nI (op_answer σ (xs (i + 1)) (xs (i + 2)) (xs (i + 3))).1) ov9 sv9 ⟨hRm, hMm, hum, hru, ok9, hB, hE⟩))
  · have h0 : (op_answer σ (xs (i + 1)) (xs (i + 2)) (xs (i + 3))).1 = 0 := (nI_eq (Nat.lt_of_le_of_lt (op_answer_3 σ (xs (i + 1)) (xs (i + 2)) (xs (i + 3))) (by decide)) (by decide)).mp h10
    refine nw_aload_n C 5 dL_law_1505 rfl 1506 rfl ?_
    refine nw_getN C hum (T := TX5) rfl in_X5 0 (by decide) q640 rfl rfl dL_law_1506 1509 rfl ?_
    refine nw_iload C 0 dL_law_1509 rfl 1511 rfl ?_
    refine nw_i2l C dL_law_1511 1512 rfl ?_
    refine nw_lcmp C dL_law_1512 1513 rfl ?_
    refine nw_ifeq C 1518 dL_law_1513 (by decide) 1516 rfl (fun _ => ?_) (fun h11 => absurd (by rw [hov9 h0]; exact lg_self _) h11)
    refine nw_goto C 2535 dL_law_1518 (by decide) ?_
    exact nw_wide (k' := kc + 9000) (n' := ns + 110000) (by omega) (by omega) (nw_sub [2, 3, 4, 5, 6] rfl (K H5 rom ad9 amm ((op_answer σ (xs (i + 1)) (xs (i + 2)) (xs (i + 3))).2.2) sm (nI (op_answer σ (xs (i + 1)) (xs (i + 2)) (xs (i + 3))).1) ov9 sv9 ⟨hRm, hMm, hum, hru, ok9, hB, hE⟩))
set_option maxHeartbeats 4000000 in
theorem lc_18 {d : nwD} {X : nwX} {A : Nat → Prop} {Q : State → Prop} {H0 : Heap} {b L x y u i kc ns : Nat} {xs : Nat → Int32} {ro ad am : Nat → Nat} {σ : spSg} {sm ov : Int64} {th : Int32} {sv : Value} {H : Heap} (C : nwC d X A H0 "NightwatchWallLaw" "law" code 7 ret room_1 []) (hAA : ∀ q, nd_B d ≤ q → A q) (hX : va_X b L xs (nx_s X) (nx_s X).heap) (hbl : b < (nx_s X).heap.size) (hbA : ¬ A b) (hi : i + 5 ≤ L ∧ L ≤ 320) (hcap : kc + 9000 ≤ 601152 ∧ ns + 110000 ≤ 7246570) (hW : nwLW d (nx_s X) ro ad am x y u σ sm th ov sv H)
    (K : ∀ (H1 : Heap) (ro1 ad1 am1 : Nat → Nat) (σ1 : spSg) (sm1 : Int64) (th1 : Int32) (ov1 : Int64) (sv1 : Value), nwLW d (nx_s X) ro1 ad1 am1 x y u σ1 sm1 th1 ov1 sv1 H1 → nwV X A Q 7 H1 (kc + 9000) (ns + 110000) 2535 (nwLoc b x y u i) []) : nwV X A Q 7 H kc ns 1521 (nwLoc b x y u i) [] := by
  obtain ⟨hR, hM, hu, hru, ok, hB, hE⟩ := hW
  show nwV X A Q 7 H kc ns 1521 [(0, .ref b), (1, .ref x), (2, .ref y), (3, .ref u), (4, .int (nI i))] []
  refine nw_aload_n C 1 dL_law_1521 rfl 1522 rfl ?_
  refine nw_aload_n C 0 dL_law_1522 rfl 1523 rfl ?_
  refine nw_iload C 4 dL_law_1523 rfl 1525 rfl ?_
  refine nw_iconst C (nI 1) dL_law_1525 (by decide) 1526 rfl ?_
  refine nw_iaddN C dL_law_1526 1527 rfl ?_
  refine nw_sld C hX hbl hbA (by omega) dL_law_1527 1528 rfl ?_
  refine nw_aload_n C 0 dL_law_1528 rfl 1529 rfl ?_
  refine nw_iload C 4 dL_law_1529 rfl 1531 rfl ?_
  refine nw_iconst C (nI 2) dL_law_1531 (by decide) 1532 rfl ?_
  refine nw_iaddN C dL_law_1532 1533 rfl ?_
  refine nw_sld C hX hbl hbA (by omega) dL_law_1533 1534 rfl ?_
  refine nw_aload_n C 3 dL_law_1534 rfl 1535 rfl ?_
  refine nw_callSH C (mX0_key _ C.hfl d ro ad x σ sm (xs (i + 1)) (xs (i + 2)) u ov sv H hB hR ok hu hru) hX0_key q1165 (As := [.ref x, .int (xs (i + 1)), .int (xs (i + 2)), .ref u]) (rest := []) rfl rfl ⟨⟨Nat.le_of_ble_eq_true rfl, Nat.le_of_ble_eq_true rfl⟩, (show kc + 2 ≤ 601152 by omega), (show ns + 12 ≤ 7246570 by omega)⟩ (Nat.le_of_ble_eq_true rfl) (fun q8 h8 h9 => hAA q8 (nwAW_B hR hB hru q8 h9)) dL_law_1535 1538 rfl (fun v9 H1 hR2 hz3 hq4 => ?_) nw_noX
  obtain ⟨rfl, ok9, hz9, ro9, ad9, hR9, hk9, ov9, sv9, hu9, hov9⟩ := hR2
  have hM9 := hM.kpM hR9.1 hk9 hq4 (fun q g hr => nwAW_M hru g hr)
  replace hE := hE.kept (fun q9 g9 hb9 => hq4 q9 g9 (fun h9 => hb9 (nwAW_B hR (Nat.le_trans hB (Nat.le_refl _)) hru q9 h9)))
  replace hB := Nat.le_trans hB hz3
  replace hru := nw_rt hk9 hru (by decide)
  show nwV X _ _ 7 H1 (kc + 2) (ns + 12) 1538 [(0, .ref b), (1, .ref x), (2, .ref y), (3, .ref u), (4, .int (nI i))] [.int (nI (op_key σ (xs (i + 1)) (xs (i + 2))).1)]
  refine nw_istore C [(5, .int (nI (op_key σ (xs (i + 1)) (xs (i + 2))).1)), (0, .ref b), (1, .ref x), (2, .ref y), (3, .ref u), (4, .int (nI i))] dL_law_1538 (by decide) rfl 1540 rfl ?_
  refine nw_aload_n C 3 dL_law_1540 rfl 1541 rfl ?_
  refine nw_aload_n C 1 dL_law_1541 rfl 1542 rfl ?_
  refine nw_iload C 5 dL_law_1542 rfl 1544 rfl ?_
  refine nw_iconst C (nI 1) dL_law_1544 (by decide) 1545 rfl ?_
  refine nw_iaddN C dL_law_1545 1546 rfl ?_
  refine nw_sld C hX hbl hbA (by omega) dL_law_1546 1547 rfl ?_
  refine nw_aload_n C 1 dL_law_1547 rfl 1548 rfl ?_
  refine nw_iload C 5 dL_law_1548 rfl 1550 rfl ?_
  refine nw_iconst C (nI 2) dL_law_1550 (by decide) 1551 rfl ?_
  refine nw_iaddN C dL_law_1551 1552 rfl ?_
  refine nw_sld C hX hbl hbA (by omega) dL_law_1552 1553 rfl ?_
  refine nw_callV C (mX4_key _ C.hfl d ro9 am y σ th (xs (i + 1)) (xs (i + 2)) H1 hB hM9 ok) kX4_key q1917 (hM9.2.1.1.is C (ci := 9) rfl) (As := [.int (xs (i + 1)), .int (xs (i + 2))]) (rest := []) rfl rfl ⟨⟨Nat.le_of_ble_eq_true rfl, Nat.le_of_ble_eq_true rfl⟩, (show (kc + 2) + 0 ≤ 601152 by omega), (show (ns + 12) + 0 ≤ 7246570 by omega)⟩ (Nat.le_of_ble_eq_true rfl) (fun q8 h8 h9 => hAA q8 (nwAM_B hM9 hB q8 h9)) dL_law_1553 1556 rfl (fun v9 H5 hR6 hz7 hq8 => ?_) nw_noX
  obtain ⟨rfl, okm, hzm, rom, amm, hMm, hkm⟩ := hR6
  have hRm := hR9.kpR hMm.1 hkm hq8 (fun q g hr => nwAM_R g hr)
  have hum := hu9.kept (hq8 _ hu9.lt (nwAM_u hru hu9.lt))
  replace hE := hE.kept (fun q9 g9 hb9 => hq8 q9 g9 (fun h9 => hb9 (nwAM_B hM9 hB q9 h9)))
  replace hB := Nat.le_trans hB hz7
  replace hru := nw_rt hkm hru (by decide)
  show nwV X _ _ 7 H5 ((kc + 2) + 0) ((ns + 12) + 0) 1556 [(5, .int (nI (op_key σ (xs (i + 1)) (xs (i + 2))).1)), (0, .ref b), (1, .ref x), (2, .ref y), (3, .ref u), (4, .int (nI i))] [.int ((op_key σ (xs (i + 1)) (xs (i + 2))).2.1)]
  refine nw_wide (k' := kc + 2) (n' := ns + 12) (by omega) (by omega) ?_
  refine nw_istore C [(6, .int ((op_key σ (xs (i + 1)) (xs (i + 2))).2.1)), (5, .int (nI (op_key σ (xs (i + 1)) (xs (i + 2))).1)), (0, .ref b), (1, .ref x), (2, .ref y), (3, .ref u), (4, .int (nI i))] dL_law_1556 (by decide) rfl 1558 rfl ?_
  refine nw_aload_n C 4 dL_law_1558 rfl 1559 rfl ?_
  refine nw_callV C (mX4_thrown _ C.hfl d rom amm y (op_key σ (xs (i + 1)) (xs (i + 2))).2.2 (nI (op_key σ (xs (i + 1)) (xs (i + 2))).1) H5 hB hMm.wc) kX4_thrown q1683 (hMm.2.1.1.is C (ci := 9) rfl) (As := []) (rest := []) rfl rfl ⟨⟨Nat.le_of_ble_eq_true rfl, Nat.le_of_ble_eq_true rfl⟩, (show (kc + 2) + 0 ≤ 601152 by omega), (show (ns + 12) + 0 ≤ 7246570 by omega)⟩ (Nat.le_of_ble_eq_true rfl) (fun _ h8 h9 => absurd h9 (Nat.not_le.mpr h8)) dL_law_1559 1562 rfl (nw_rdK ?_) nw_noX
  refine nw_iload C 1 dL_law_1562 rfl 1564 rfl ?_
  refine nw_icmpeq C 1569 dL_law_1564 (by decide) 1567 rfl (fun _ => ?_) (fun h9 => absurd rfl h9)
  refine nw_iload C 1 dL_law_1569 rfl 1571 rfl ?_
  refine nw_ifne C 1587 dL_law_1571 (by decide) 1574 rfl (fun h10 => ?_) (fun h10 => ?_)
  · refine nw_goto C 2535 dL_law_1587 (by decide) ?_
    exact nw_wide (k' := kc + 9000) (n' := ns + 110000) (by omega) (by omega) (nw_sub [2, 3, 4, 5, 6] rfl (K H5 rom ad9 amm ((op_key σ (xs (i + 1)) (xs (i + 2))).2.2) sm (nI (op_key σ (xs (i + 1)) (xs (i + 2))).1) ov9 sv9 ⟨hRm, hMm, hum, hru, ok9, hB, hE⟩))
  · have h0 : (op_key σ (xs (i + 1)) (xs (i + 2))).1 = 0 := (nI_eq (Nat.lt_of_le_of_lt (op_key_3 σ (xs (i + 1)) (xs (i + 2))) (by decide)) (by decide)).mp h10
    refine nw_aload_n C 5 dL_law_1574 rfl 1575 rfl ?_
    refine nw_getN C hum (T := TX5) rfl in_X5 0 (by decide) q640 rfl rfl dL_law_1575 1578 rfl ?_
    refine nw_iload C 0 dL_law_1578 rfl 1580 rfl ?_
    refine nw_i2l C dL_law_1580 1581 rfl ?_
    refine nw_lcmp C dL_law_1581 1582 rfl ?_
    refine nw_ifeq C 1587 dL_law_1582 (by decide) 1585 rfl (fun _ => ?_) (fun h11 => absurd (by rw [hov9 h0]; exact lg_self _) h11)
    refine nw_goto C 2535 dL_law_1587 (by decide) ?_
    exact nw_wide (k' := kc + 9000) (n' := ns + 110000) (by omega) (by omega) (nw_sub [2, 3, 4, 5, 6] rfl (K H5 rom ad9 amm ((op_key σ (xs (i + 1)) (xs (i + 2))).2.2) sm (nI (op_key σ (xs (i + 1)) (xs (i + 2))).1) ov9 sv9 ⟨hRm, hMm, hum, hru, ok9, hB, hE⟩))
set_option maxHeartbeats 4000000 in
theorem lc_19 {d : nwD} {X : nwX} {A : Nat → Prop} {Q : State → Prop} {H0 : Heap} {b L x y u i kc ns : Nat} {xs : Nat → Int32} {ro ad am : Nat → Nat} {σ : spSg} {sm ov : Int64} {th : Int32} {sv : Value} {H : Heap} (C : nwC d X A H0 "NightwatchWallLaw" "law" code 7 ret room_1 []) (hAA : ∀ q, nd_B d ≤ q → A q) (hX : va_X b L xs (nx_s X) (nx_s X).heap) (hbl : b < (nx_s X).heap.size) (hbA : ¬ A b) (hi : i + 5 ≤ L ∧ L ≤ 320) (hcap : kc + 9000 ≤ 601152 ∧ ns + 110000 ≤ 7246570) (hW : nwLW d (nx_s X) ro ad am x y u σ sm th ov sv H)
    (K : ∀ (H1 : Heap) (ro1 ad1 am1 : Nat → Nat) (σ1 : spSg) (sm1 : Int64) (th1 : Int32) (ov1 : Int64) (sv1 : Value), nwLW d (nx_s X) ro1 ad1 am1 x y u σ1 sm1 th1 ov1 sv1 H1 → nwV X A Q 7 H1 (kc + 9000) (ns + 110000) 2535 (nwLoc b x y u i) []) : nwV X A Q 7 H kc ns 1590 (nwLoc b x y u i) [] := by
  obtain ⟨hR, hM, hu, hru, ok, hB, hE⟩ := hW
  show nwV X A Q 7 H kc ns 1590 [(0, .ref b), (1, .ref x), (2, .ref y), (3, .ref u), (4, .int (nI i))] []
  refine nw_aload_n C 1 dL_law_1590 rfl 1591 rfl ?_
  refine nw_aload_n C 0 dL_law_1591 rfl 1592 rfl ?_
  refine nw_iload C 4 dL_law_1592 rfl 1594 rfl ?_
  refine nw_iconst C (nI 1) dL_law_1594 (by decide) 1595 rfl ?_
  refine nw_iaddN C dL_law_1595 1596 rfl ?_
  refine nw_sld C hX hbl hbA (by omega) dL_law_1596 1597 rfl ?_
  refine nw_aload_n C 0 dL_law_1597 rfl 1598 rfl ?_
  refine nw_iload C 4 dL_law_1598 rfl 1600 rfl ?_
  refine nw_iconst C (nI 2) dL_law_1600 (by decide) 1601 rfl ?_
  refine nw_iaddN C dL_law_1601 1602 rfl ?_
  refine nw_sld C hX hbl hbA (by omega) dL_law_1602 1603 rfl ?_
  refine nw_aload_n C 3 dL_law_1603 rfl 1604 rfl ?_
  refine nw_callSH C (mX0_ofGuard _ C.hfl d ro ad x σ sm (xs (i + 1)) (xs (i + 2)) u ov sv H hB hR ok hu hru) hX0_ofGuard q1172 (As := [.ref x, .int (xs (i + 1)), .int (xs (i + 2)), .ref u]) (rest := []) rfl rfl ⟨⟨Nat.le_of_ble_eq_true rfl, Nat.le_of_ble_eq_true rfl⟩, (show kc + 2 ≤ 601152 by omega), (show ns + 12 ≤ 7246570 by omega)⟩ (Nat.le_of_ble_eq_true rfl) (fun q8 h8 h9 => hAA q8 (nwAW_B hR hB hru q8 h9)) dL_law_1604 1607 rfl (fun v9 H1 hR2 hz3 hq4 => ?_) nw_noX
  obtain ⟨rfl, ok9, hz9, ro9, ad9, hR9, hk9, ov9, sv9, hu9, hov9⟩ := hR2
  have hM9 := hM.kpM hR9.1 hk9 hq4 (fun q g hr => nwAW_M hru g hr)
  replace hE := hE.kept (fun q9 g9 hb9 => hq4 q9 g9 (fun h9 => hb9 (nwAW_B hR (Nat.le_trans hB (Nat.le_refl _)) hru q9 h9)))
  replace hB := Nat.le_trans hB hz3
  replace hru := nw_rt hk9 hru (by decide)
  show nwV X _ _ 7 H1 (kc + 2) (ns + 12) 1607 [(0, .ref b), (1, .ref x), (2, .ref y), (3, .ref u), (4, .int (nI i))] [.int (nI (op_ofGuard σ (xs (i + 1)) (xs (i + 2))).1)]
  refine nw_istore C [(5, .int (nI (op_ofGuard σ (xs (i + 1)) (xs (i + 2))).1)), (0, .ref b), (1, .ref x), (2, .ref y), (3, .ref u), (4, .int (nI i))] dL_law_1607 (by decide) rfl 1609 rfl ?_
  refine nw_aload_n C 3 dL_law_1609 rfl 1610 rfl ?_
  refine nw_aload_n C 1 dL_law_1610 rfl 1611 rfl ?_
  refine nw_iload C 5 dL_law_1611 rfl 1613 rfl ?_
  refine nw_iconst C (nI 1) dL_law_1613 (by decide) 1614 rfl ?_
  refine nw_iaddN C dL_law_1614 1615 rfl ?_
  refine nw_sld C hX hbl hbA (by omega) dL_law_1615 1616 rfl ?_
  refine nw_aload_n C 1 dL_law_1616 rfl 1617 rfl ?_
  refine nw_iload C 5 dL_law_1617 rfl 1619 rfl ?_
  refine nw_iconst C (nI 2) dL_law_1619 (by decide) 1620 rfl ?_
  refine nw_iaddN C dL_law_1620 1621 rfl ?_
  refine nw_sld C hX hbl hbA (by omega) dL_law_1621 1622 rfl ?_
  refine nw_callV C (mX4_ofGuard _ C.hfl d ro9 am y σ th (xs (i + 1)) (xs (i + 2)) H1 hB hM9 ok) kX4_ofGuard q1921 (hM9.2.1.1.is C (ci := 9) rfl) (As := [.int (xs (i + 1)), .int (xs (i + 2))]) (rest := []) rfl rfl ⟨⟨Nat.le_of_ble_eq_true rfl, Nat.le_of_ble_eq_true rfl⟩, (show (kc + 2) + 1 ≤ 601152 by omega), (show (ns + 12) + 9 ≤ 7246570 by omega)⟩ (Nat.le_of_ble_eq_true rfl) (fun q8 h8 h9 => hAA q8 (nwAM_B hM9 hB q8 h9)) dL_law_1622 1625 rfl (fun v9 H5 hR6 hz7 hq8 => ?_) nw_noX
  obtain ⟨rfl, okm, hzm, rom, amm, hMm, hkm⟩ := hR6
  have hRm := hR9.kpR hMm.1 hkm hq8 (fun q g hr => nwAM_R g hr)
  have hum := hu9.kept (hq8 _ hu9.lt (nwAM_u hru hu9.lt))
  replace hE := hE.kept (fun q9 g9 hb9 => hq8 q9 g9 (fun h9 => hb9 (nwAM_B hM9 hB q9 h9)))
  replace hB := Nat.le_trans hB hz7
  replace hru := nw_rt hkm hru (by decide)
  show nwV X _ _ 7 H5 ((kc + 2) + 1) ((ns + 12) + 9) 1625 [(5, .int (nI (op_ofGuard σ (xs (i + 1)) (xs (i + 2))).1)), (0, .ref b), (1, .ref x), (2, .ref y), (3, .ref u), (4, .int (nI i))] [.int ((op_ofGuard σ (xs (i + 1)) (xs (i + 2))).2)]
  refine nw_wide (k' := kc + 3) (n' := ns + 21) (by omega) (by omega) ?_
  refine nw_istore C [(6, .int ((op_ofGuard σ (xs (i + 1)) (xs (i + 2))).2)), (5, .int (nI (op_ofGuard σ (xs (i + 1)) (xs (i + 2))).1)), (0, .ref b), (1, .ref x), (2, .ref y), (3, .ref u), (4, .int (nI i))] dL_law_1625 (by decide) rfl 1627 rfl ?_
  refine nw_aload_n C 4 dL_law_1627 rfl 1628 rfl ?_
  refine nw_callV C (mX4_thrown _ C.hfl d rom amm y σ (nI (op_ofGuard σ (xs (i + 1)) (xs (i + 2))).1) H5 hB hMm.wc) kX4_thrown q1683 (hMm.2.1.1.is C (ci := 9) rfl) (As := []) (rest := []) rfl rfl ⟨⟨Nat.le_of_ble_eq_true rfl, Nat.le_of_ble_eq_true rfl⟩, (show (kc + 3) + 0 ≤ 601152 by omega), (show (ns + 21) + 0 ≤ 7246570 by omega)⟩ (Nat.le_of_ble_eq_true rfl) (fun _ h8 h9 => absurd h9 (Nat.not_le.mpr h8)) dL_law_1628 1631 rfl (nw_rdK ?_) nw_noX
  refine nw_iload C 1 dL_law_1631 rfl 1633 rfl ?_
  refine nw_icmpeq C 1638 dL_law_1633 (by decide) 1636 rfl (fun _ => ?_) (fun h9 => absurd rfl h9)
  refine nw_iload C 1 dL_law_1638 rfl 1640 rfl ?_
  refine nw_ifne C 1656 dL_law_1640 (by decide) 1643 rfl (fun h10 => ?_) (fun h10 => ?_)
  · refine nw_goto C 2535 dL_law_1656 (by decide) ?_
    exact nw_wide (k' := kc + 9000) (n' := ns + 110000) (by omega) (by omega) (nw_sub [2, 3, 4, 5, 6] rfl (K H5 rom ad9 amm σ sm (nI (op_ofGuard σ (xs (i + 1)) (xs (i + 2))).1) ov9 sv9 ⟨hRm, hMm, hum, hru, ok9, hB, hE⟩))
  · have h0 : (op_ofGuard σ (xs (i + 1)) (xs (i + 2))).1 = 0 := (nI_eq (Nat.lt_of_le_of_lt (op_ofGuard_3 σ (xs (i + 1)) (xs (i + 2))) (by decide)) (by decide)).mp h10
    refine nw_aload_n C 5 dL_law_1643 rfl 1644 rfl ?_
    refine nw_getN C hum (T := TX5) rfl in_X5 0 (by decide) q640 rfl rfl dL_law_1644 1647 rfl ?_
    refine nw_iload C 0 dL_law_1647 rfl 1649 rfl ?_
    refine nw_i2l C dL_law_1649 1650 rfl ?_
    refine nw_lcmp C dL_law_1650 1651 rfl ?_
    refine nw_ifeq C 1656 dL_law_1651 (by decide) 1654 rfl (fun _ => ?_) (fun h11 => absurd (by rw [hov9 h0]; exact lg_self _) h11)
    refine nw_goto C 2535 dL_law_1656 (by decide) ?_
    exact nw_wide (k' := kc + 9000) (n' := ns + 110000) (by omega) (by omega) (nw_sub [2, 3, 4, 5, 6] rfl (K H5 rom ad9 amm σ sm (nI (op_ofGuard σ (xs (i + 1)) (xs (i + 2))).1) ov9 sv9 ⟨hRm, hMm, hum, hru, ok9, hB, hE⟩))
set_option maxHeartbeats 4000000 in
theorem lc_20 {d : nwD} {X : nwX} {A : Nat → Prop} {Q : State → Prop} {H0 : Heap} {b L x y u i kc ns : Nat} {xs : Nat → Int32} {ro ad am : Nat → Nat} {σ : spSg} {sm ov : Int64} {th : Int32} {sv : Value} {H : Heap} (C : nwC d X A H0 "NightwatchWallLaw" "law" code 7 ret room_1 []) (hAA : ∀ q, nd_B d ≤ q → A q) (hX : va_X b L xs (nx_s X) (nx_s X).heap) (hbl : b < (nx_s X).heap.size) (hbA : ¬ A b) (hi : i + 5 ≤ L ∧ L ≤ 320) (hcap : kc + 9000 ≤ 601152 ∧ ns + 110000 ≤ 7246570) (hW : nwLW d (nx_s X) ro ad am x y u σ sm th ov sv H)
    (K : ∀ (H1 : Heap) (ro1 ad1 am1 : Nat → Nat) (σ1 : spSg) (sm1 : Int64) (th1 : Int32) (ov1 : Int64) (sv1 : Value), nwLW d (nx_s X) ro1 ad1 am1 x y u σ1 sm1 th1 ov1 sv1 H1 → nwV X A Q 7 H1 (kc + 9000) (ns + 110000) 2535 (nwLoc b x y u i) []) : nwV X A Q 7 H kc ns 1659 (nwLoc b x y u i) [] := by
  obtain ⟨hR, hM, hu, hru, ok, hB, hE⟩ := hW
  show nwV X A Q 7 H kc ns 1659 [(0, .ref b), (1, .ref x), (2, .ref y), (3, .ref u), (4, .int (nI i))] []
  refine nw_aload_n C 1 dL_law_1659 rfl 1660 rfl ?_
  refine nw_aload_n C 0 dL_law_1660 rfl 1661 rfl ?_
  refine nw_iload C 4 dL_law_1661 rfl 1663 rfl ?_
  refine nw_iconst C (nI 1) dL_law_1663 (by decide) 1664 rfl ?_
  refine nw_iaddN C dL_law_1664 1665 rfl ?_
  refine nw_sld C hX hbl hbA (by omega) dL_law_1665 1666 rfl ?_
  refine nw_aload_n C 0 dL_law_1666 rfl 1667 rfl ?_
  refine nw_iload C 4 dL_law_1667 rfl 1669 rfl ?_
  refine nw_iconst C (nI 2) dL_law_1669 (by decide) 1670 rfl ?_
  refine nw_iaddN C dL_law_1670 1671 rfl ?_
  refine nw_sld C hX hbl hbA (by omega) dL_law_1671 1672 rfl ?_
  refine nw_aload_n C 0 dL_law_1672 rfl 1673 rfl ?_
  refine nw_iload C 4 dL_law_1673 rfl 1675 rfl ?_
  refine nw_iconst C (nI 3) dL_law_1675 (by decide) 1676 rfl ?_
  refine nw_iaddN C dL_law_1676 1677 rfl ?_
  refine nw_sld C hX hbl hbA (by omega) dL_law_1677 1678 rfl ?_
  refine nw_aload_n C 3 dL_law_1678 rfl 1679 rfl ?_
  refine nw_callSH C (mX0_intruder _ C.hfl d ro ad x σ sm (xs (i + 1)) (xs (i + 2)) (xs (i + 3)) u ov sv H hB hR ok hu hru) hX0_intruder q1179 (As := [.ref x, .int (xs (i + 1)), .int (xs (i + 2)), .int (xs (i + 3)), .ref u]) (rest := []) rfl rfl ⟨⟨Nat.le_of_ble_eq_true rfl, Nat.le_of_ble_eq_true rfl⟩, (show kc + 60 ≤ 601152 by omega), (show ns + 700 ≤ 7246570 by omega)⟩ (Nat.le_of_ble_eq_true rfl) (fun q8 h8 h9 => hAA q8 (nwAW_B hR hB hru q8 h9)) dL_law_1679 1682 rfl (fun v9 H1 hR2 hz3 hq4 => ?_) nw_noX
  obtain ⟨rfl, ok9, hz9, ro9, ad9, hR9, hk9, ov9, sv9, hu9, hov9⟩ := hR2
  have hM9 := hM.kpM hR9.1 hk9 hq4 (fun q g hr => nwAW_M hru g hr)
  replace hE := hE.kept (fun q9 g9 hb9 => hq4 q9 g9 (fun h9 => hb9 (nwAW_B hR (Nat.le_trans hB (Nat.le_refl _)) hru q9 h9)))
  replace hB := Nat.le_trans hB hz3
  replace hru := nw_rt hk9 hru (by decide)
  show nwV X _ _ 7 H1 (kc + 60) (ns + 700) 1682 [(0, .ref b), (1, .ref x), (2, .ref y), (3, .ref u), (4, .int (nI i))] [.int (nI (op_intr σ (xs (i + 1)) (xs (i + 2)) (xs (i + 3))).1)]
  refine nw_istore C [(5, .int (nI (op_intr σ (xs (i + 1)) (xs (i + 2)) (xs (i + 3))).1)), (0, .ref b), (1, .ref x), (2, .ref y), (3, .ref u), (4, .int (nI i))] dL_law_1682 (by decide) rfl 1684 rfl ?_
  refine nw_aload_n C 3 dL_law_1684 rfl 1685 rfl ?_
  refine nw_aload_n C 1 dL_law_1685 rfl 1686 rfl ?_
  refine nw_iload C 5 dL_law_1686 rfl 1688 rfl ?_
  refine nw_iconst C (nI 1) dL_law_1688 (by decide) 1689 rfl ?_
  refine nw_iaddN C dL_law_1689 1690 rfl ?_
  refine nw_sld C hX hbl hbA (by omega) dL_law_1690 1691 rfl ?_
  refine nw_aload_n C 1 dL_law_1691 rfl 1692 rfl ?_
  refine nw_iload C 5 dL_law_1692 rfl 1694 rfl ?_
  refine nw_iconst C (nI 2) dL_law_1694 (by decide) 1695 rfl ?_
  refine nw_iaddN C dL_law_1695 1696 rfl ?_
  refine nw_sld C hX hbl hbA (by omega) dL_law_1696 1697 rfl ?_
  refine nw_aload_n C 1 dL_law_1697 rfl 1698 rfl ?_
  refine nw_iload C 5 dL_law_1698 rfl 1700 rfl ?_
  refine nw_iconst C (nI 3) dL_law_1700 (by decide) 1701 rfl ?_
  refine nw_iaddN C dL_law_1701 1702 rfl ?_
  refine nw_sld C hX hbl hbA (by omega) dL_law_1702 1703 rfl ?_
  refine nw_callV C (mX4_intruder _ C.hfl d ro9 am y σ th (xs (i + 1)) (xs (i + 2)) (xs (i + 3)) H1 hB hM9 ok) kX4_intruder q1929 (hM9.2.1.1.is C (ci := 9) rfl) (As := [.int (xs (i + 1)), .int (xs (i + 2)), .int (xs (i + 3))]) (rest := []) rfl rfl ⟨⟨Nat.le_of_ble_eq_true rfl, Nat.le_of_ble_eq_true rfl⟩, (show (kc + 60) + 4 ≤ 601152 by omega), (show (ns + 700) + 260 ≤ 7246570 by omega)⟩ (Nat.le_of_ble_eq_true rfl) (fun q8 h8 h9 => hAA q8 (nwAM_B hM9 hB q8 h9)) dL_law_1703 1706 rfl (fun v9 H5 hR6 hz7 hq8 => ?_) nw_noX
  obtain ⟨rfl, okm, hzm, rom, amm, hMm, hkm⟩ := hR6
  have hRm := hR9.kpR hMm.1 hkm hq8 (fun q g hr => nwAM_R g hr)
  have hum := hu9.kept (hq8 _ hu9.lt (nwAM_u hru hu9.lt))
  replace hE := hE.kept (fun q9 g9 hb9 => hq8 q9 g9 (fun h9 => hb9 (nwAM_B hM9 hB q9 h9)))
  replace hB := Nat.le_trans hB hz7
  replace hru := nw_rt hkm hru (by decide)
  show nwV X _ _ 7 H5 ((kc + 60) + 4) ((ns + 700) + 260) 1706 [(5, .int (nI (op_intr σ (xs (i + 1)) (xs (i + 2)) (xs (i + 3))).1)), (0, .ref b), (1, .ref x), (2, .ref y), (3, .ref u), (4, .int (nI i))] [.int ((op_intr σ (xs (i + 1)) (xs (i + 2)) (xs (i + 3))).2.1)]
  refine nw_wide (k' := kc + 64) (n' := ns + 960) (by omega) (by omega) ?_
  refine nw_istore C [(6, .int ((op_intr σ (xs (i + 1)) (xs (i + 2)) (xs (i + 3))).2.1)), (5, .int (nI (op_intr σ (xs (i + 1)) (xs (i + 2)) (xs (i + 3))).1)), (0, .ref b), (1, .ref x), (2, .ref y), (3, .ref u), (4, .int (nI i))] dL_law_1706 (by decide) rfl 1708 rfl ?_
  refine nw_aload_n C 4 dL_law_1708 rfl 1709 rfl ?_
  refine nw_callV C (mX4_thrown _ C.hfl d rom amm y (op_intr σ (xs (i + 1)) (xs (i + 2)) (xs (i + 3))).2.2 (nI (op_intr σ (xs (i + 1)) (xs (i + 2)) (xs (i + 3))).1) H5 hB hMm.wc) kX4_thrown q1683 (hMm.2.1.1.is C (ci := 9) rfl) (As := []) (rest := []) rfl rfl ⟨⟨Nat.le_of_ble_eq_true rfl, Nat.le_of_ble_eq_true rfl⟩, (show (kc + 64) + 0 ≤ 601152 by omega), (show (ns + 960) + 0 ≤ 7246570 by omega)⟩ (Nat.le_of_ble_eq_true rfl) (fun _ h8 h9 => absurd h9 (Nat.not_le.mpr h8)) dL_law_1709 1712 rfl (nw_rdK ?_) nw_noX
  refine nw_iload C 1 dL_law_1712 rfl 1714 rfl ?_
  refine nw_icmpeq C 1719 dL_law_1714 (by decide) 1717 rfl (fun _ => ?_) (fun h9 => absurd rfl h9)
  refine nw_iload C 1 dL_law_1719 rfl 1721 rfl ?_
  refine nw_ifne C 1737 dL_law_1721 (by decide) 1724 rfl (fun h10 => ?_) (fun h10 => ?_)
  · refine nw_goto C 2535 dL_law_1737 (by decide) ?_
    exact nw_wide (k' := kc + 9000) (n' := ns + 110000) (by omega) (by omega) (nw_sub [2, 3, 4, 5, 6] rfl (K H5 rom ad9 amm ((op_intr σ (xs (i + 1)) (xs (i + 2)) (xs (i + 3))).2.2) sm (nI (op_intr σ (xs (i + 1)) (xs (i + 2)) (xs (i + 3))).1) ov9 sv9 ⟨hRm, hMm, hum, hru, ok9, hB, hE⟩))
  · have h0 : (op_intr σ (xs (i + 1)) (xs (i + 2)) (xs (i + 3))).1 = 0 := (nI_eq (Nat.lt_of_le_of_lt (op_intr_3 σ (xs (i + 1)) (xs (i + 2)) (xs (i + 3))) (by decide)) (by decide)).mp h10
    refine nw_aload_n C 5 dL_law_1724 rfl 1725 rfl ?_
    refine nw_getN C hum (T := TX5) rfl in_X5 0 (by decide) q640 rfl rfl dL_law_1725 1728 rfl ?_
    refine nw_iload C 0 dL_law_1728 rfl 1730 rfl ?_
    refine nw_i2l C dL_law_1730 1731 rfl ?_
    refine nw_lcmp C dL_law_1731 1732 rfl ?_
    refine nw_ifeq C 1737 dL_law_1732 (by decide) 1735 rfl (fun _ => ?_) (fun h11 => absurd (by rw [hov9 h0]; exact lg_self _) h11)
    refine nw_goto C 2535 dL_law_1737 (by decide) ?_
    exact nw_wide (k' := kc + 9000) (n' := ns + 110000) (by omega) (by omega) (nw_sub [2, 3, 4, 5, 6] rfl (K H5 rom ad9 amm ((op_intr σ (xs (i + 1)) (xs (i + 2)) (xs (i + 3))).2.2) sm (nI (op_intr σ (xs (i + 1)) (xs (i + 2)) (xs (i + 3))).1) ov9 sv9 ⟨hRm, hMm, hum, hru, ok9, hB, hE⟩))
set_option maxHeartbeats 4000000 in
theorem lc_21 {d : nwD} {X : nwX} {A : Nat → Prop} {Q : State → Prop} {H0 : Heap} {b L x y u i kc ns : Nat} {xs : Nat → Int32} {ro ad am : Nat → Nat} {σ : spSg} {sm ov : Int64} {th : Int32} {sv : Value} {H : Heap} (C : nwC d X A H0 "NightwatchWallLaw" "law" code 7 ret room_1 []) (hAA : ∀ q, nd_B d ≤ q → A q) (hX : va_X b L xs (nx_s X) (nx_s X).heap) (hbl : b < (nx_s X).heap.size) (hbA : ¬ A b) (hi : i + 5 ≤ L ∧ L ≤ 320) (hcap : kc + 9000 ≤ 601152 ∧ ns + 110000 ≤ 7246570) (hW : nwLW d (nx_s X) ro ad am x y u σ sm th ov sv H)
    (K : ∀ (H1 : Heap) (ro1 ad1 am1 : Nat → Nat) (σ1 : spSg) (sm1 : Int64) (th1 : Int32) (ov1 : Int64) (sv1 : Value), nwLW d (nx_s X) ro1 ad1 am1 x y u σ1 sm1 th1 ov1 sv1 H1 → nwV X A Q 7 H1 (kc + 9000) (ns + 110000) 2535 (nwLoc b x y u i) []) : nwV X A Q 7 H kc ns 1740 (nwLoc b x y u i) [] := by
  obtain ⟨hR, hM, hu, hru, ok, hB, hE⟩ := hW
  show nwV X A Q 7 H kc ns 1740 [(0, .ref b), (1, .ref x), (2, .ref y), (3, .ref u), (4, .int (nI i))] []
  refine nw_aload_n C 1 dL_law_1740 rfl 1741 rfl ?_
  refine nw_aload_n C 0 dL_law_1741 rfl 1742 rfl ?_
  refine nw_iload C 4 dL_law_1742 rfl 1744 rfl ?_
  refine nw_iconst C (nI 1) dL_law_1744 (by decide) 1745 rfl ?_
  refine nw_iaddN C dL_law_1745 1746 rfl ?_
  refine nw_sld C hX hbl hbA (by omega) dL_law_1746 1747 rfl ?_
  refine nw_aload_n C 0 dL_law_1747 rfl 1748 rfl ?_
  refine nw_iload C 4 dL_law_1748 rfl 1750 rfl ?_
  refine nw_iconst C (nI 2) dL_law_1750 (by decide) 1751 rfl ?_
  refine nw_iaddN C dL_law_1751 1752 rfl ?_
  refine nw_sld C hX hbl hbA (by omega) dL_law_1752 1753 rfl ?_
  refine nw_aload_n C 3 dL_law_1753 rfl 1754 rfl ?_
  refine nw_callSH C (mX0_wire _ C.hfl d ro ad x σ sm (xs (i + 1)) (xs (i + 2)) u ov sv H hB hR ok hu hru) hX0_wire q1214 (As := [.ref x, .int (xs (i + 1)), .int (xs (i + 2)), .ref u]) (rest := []) rfl rfl ⟨⟨Nat.le_of_ble_eq_true rfl, Nat.le_of_ble_eq_true rfl⟩, (show kc + 4 ≤ 601152 by omega), (show ns + 40 ≤ 7246570 by omega)⟩ (Nat.le_of_ble_eq_true rfl) (fun q8 h8 h9 => hAA q8 (nwAW_B hR hB hru q8 h9)) dL_law_1754 1757 rfl (fun v9 H1 hR2 hz3 hq4 => ?_) nw_noX
  obtain ⟨rfl, ok9, hz9, ro9, ad9, hR9, hk9, ov9, sv9, hu9, hov9⟩ := hR2
  have hM9 := hM.kpM hR9.1 hk9 hq4 (fun q g hr => nwAW_M hru g hr)
  replace hE := hE.kept (fun q9 g9 hb9 => hq4 q9 g9 (fun h9 => hb9 (nwAW_B hR (Nat.le_trans hB (Nat.le_refl _)) hru q9 h9)))
  replace hB := Nat.le_trans hB hz3
  replace hru := nw_rt hk9 hru (by decide)
  show nwV X _ _ 7 H1 (kc + 4) (ns + 40) 1757 [(0, .ref b), (1, .ref x), (2, .ref y), (3, .ref u), (4, .int (nI i))] [.int (nI (op_wire σ (xs (i + 1)) (xs (i + 2))).1)]
  refine nw_istore C [(5, .int (nI (op_wire σ (xs (i + 1)) (xs (i + 2))).1)), (0, .ref b), (1, .ref x), (2, .ref y), (3, .ref u), (4, .int (nI i))] dL_law_1757 (by decide) rfl 1759 rfl ?_
  refine nw_aload_n C 3 dL_law_1759 rfl 1760 rfl ?_
  refine nw_aload_n C 1 dL_law_1760 rfl 1761 rfl ?_
  refine nw_iload C 5 dL_law_1761 rfl 1763 rfl ?_
  refine nw_iconst C (nI 1) dL_law_1763 (by decide) 1764 rfl ?_
  refine nw_iaddN C dL_law_1764 1765 rfl ?_
  refine nw_sld C hX hbl hbA (by omega) dL_law_1765 1766 rfl ?_
  refine nw_aload_n C 1 dL_law_1766 rfl 1767 rfl ?_
  refine nw_iload C 5 dL_law_1767 rfl 1769 rfl ?_
  refine nw_iconst C (nI 2) dL_law_1769 (by decide) 1770 rfl ?_
  refine nw_iaddN C dL_law_1770 1771 rfl ?_
  refine nw_sld C hX hbl hbA (by omega) dL_law_1771 1772 rfl ?_
  refine nw_callV C (mX4_wire _ C.hfl d ro9 am y σ th (xs (i + 1)) (xs (i + 2)) H1 hB hM9 ok) kX4_wire q1968 (hM9.2.1.1.is C (ci := 9) rfl) (As := [.int (xs (i + 1)), .int (xs (i + 2))]) (rest := []) rfl rfl ⟨⟨Nat.le_of_ble_eq_true rfl, Nat.le_of_ble_eq_true rfl⟩, (show (kc + 4) + 2 ≤ 601152 by omega), (show (ns + 40) + 12 ≤ 7246570 by omega)⟩ (Nat.le_of_ble_eq_true rfl) (fun q8 h8 h9 => hAA q8 (nwAM_B hM9 hB q8 h9)) dL_law_1772 1775 rfl (fun v9 H5 hR6 hz7 hq8 => ?_) nw_noX
  obtain ⟨rfl, okm, hzm, rom, amm, hMm, hkm⟩ := hR6
  have hRm := hR9.kpR hMm.1 hkm hq8 (fun q g hr => nwAM_R g hr)
  have hum := hu9.kept (hq8 _ hu9.lt (nwAM_u hru hu9.lt))
  replace hE := hE.kept (fun q9 g9 hb9 => hq8 q9 g9 (fun h9 => hb9 (nwAM_B hM9 hB q9 h9)))
  replace hB := Nat.le_trans hB hz7
  replace hru := nw_rt hkm hru (by decide)
  show nwV X _ _ 7 H5 ((kc + 4) + 2) ((ns + 40) + 12) 1775 [(5, .int (nI (op_wire σ (xs (i + 1)) (xs (i + 2))).1)), (0, .ref b), (1, .ref x), (2, .ref y), (3, .ref u), (4, .int (nI i))] [.int ((op_wire σ (xs (i + 1)) (xs (i + 2))).2.1)]
  refine nw_wide (k' := kc + 6) (n' := ns + 52) (by omega) (by omega) ?_
  refine nw_istore C [(6, .int ((op_wire σ (xs (i + 1)) (xs (i + 2))).2.1)), (5, .int (nI (op_wire σ (xs (i + 1)) (xs (i + 2))).1)), (0, .ref b), (1, .ref x), (2, .ref y), (3, .ref u), (4, .int (nI i))] dL_law_1775 (by decide) rfl 1777 rfl ?_
  refine nw_aload_n C 4 dL_law_1777 rfl 1778 rfl ?_
  refine nw_callV C (mX4_thrown _ C.hfl d rom amm y (op_wire σ (xs (i + 1)) (xs (i + 2))).2.2 (nI (op_wire σ (xs (i + 1)) (xs (i + 2))).1) H5 hB hMm.wc) kX4_thrown q1683 (hMm.2.1.1.is C (ci := 9) rfl) (As := []) (rest := []) rfl rfl ⟨⟨Nat.le_of_ble_eq_true rfl, Nat.le_of_ble_eq_true rfl⟩, (show (kc + 6) + 0 ≤ 601152 by omega), (show (ns + 52) + 0 ≤ 7246570 by omega)⟩ (Nat.le_of_ble_eq_true rfl) (fun _ h8 h9 => absurd h9 (Nat.not_le.mpr h8)) dL_law_1778 1781 rfl (nw_rdK ?_) nw_noX
  refine nw_iload C 1 dL_law_1781 rfl 1783 rfl ?_
  refine nw_icmpeq C 1788 dL_law_1783 (by decide) 1786 rfl (fun _ => ?_) (fun h9 => absurd rfl h9)
  refine nw_iload C 1 dL_law_1788 rfl 1790 rfl ?_
  refine nw_ifne C 1806 dL_law_1790 (by decide) 1793 rfl (fun h10 => ?_) (fun h10 => ?_)
  · refine nw_goto C 2535 dL_law_1806 (by decide) ?_
    exact nw_wide (k' := kc + 9000) (n' := ns + 110000) (by omega) (by omega) (nw_sub [2, 3, 4, 5, 6] rfl (K H5 rom ad9 amm ((op_wire σ (xs (i + 1)) (xs (i + 2))).2.2) sm (nI (op_wire σ (xs (i + 1)) (xs (i + 2))).1) ov9 sv9 ⟨hRm, hMm, hum, hru, ok9, hB, hE⟩))
  · have h0 : (op_wire σ (xs (i + 1)) (xs (i + 2))).1 = 0 := (nI_eq (Nat.lt_of_le_of_lt (op_wire_3 σ (xs (i + 1)) (xs (i + 2))) (by decide)) (by decide)).mp h10
    refine nw_aload_n C 5 dL_law_1793 rfl 1794 rfl ?_
    refine nw_getN C hum (T := TX5) rfl in_X5 0 (by decide) q640 rfl rfl dL_law_1794 1797 rfl ?_
    refine nw_iload C 0 dL_law_1797 rfl 1799 rfl ?_
    refine nw_i2l C dL_law_1799 1800 rfl ?_
    refine nw_lcmp C dL_law_1800 1801 rfl ?_
    refine nw_ifeq C 1806 dL_law_1801 (by decide) 1804 rfl (fun _ => ?_) (fun h11 => absurd (by rw [hov9 h0]; exact lg_self _) h11)
    refine nw_goto C 2535 dL_law_1806 (by decide) ?_
    exact nw_wide (k' := kc + 9000) (n' := ns + 110000) (by omega) (by omega) (nw_sub [2, 3, 4, 5, 6] rfl (K H5 rom ad9 amm ((op_wire σ (xs (i + 1)) (xs (i + 2))).2.2) sm (nI (op_wire σ (xs (i + 1)) (xs (i + 2))).1) ov9 sv9 ⟨hRm, hMm, hum, hru, ok9, hB, hE⟩))
set_option maxHeartbeats 4000000 in
theorem lc_22 {d : nwD} {X : nwX} {A : Nat → Prop} {Q : State → Prop} {H0 : Heap} {b L x y u i kc ns : Nat} {xs : Nat → Int32} {ro ad am : Nat → Nat} {σ : spSg} {sm ov : Int64} {th : Int32} {sv : Value} {H : Heap} (C : nwC d X A H0 "NightwatchWallLaw" "law" code 7 ret room_1 []) (hAA : ∀ q, nd_B d ≤ q → A q) (hX : va_X b L xs (nx_s X) (nx_s X).heap) (hbl : b < (nx_s X).heap.size) (hbA : ¬ A b) (hi : i + 5 ≤ L ∧ L ≤ 320) (hcap : kc + 9000 ≤ 601152 ∧ ns + 110000 ≤ 7246570) (hW : nwLW d (nx_s X) ro ad am x y u σ sm th ov sv H)
    (K : ∀ (H1 : Heap) (ro1 ad1 am1 : Nat → Nat) (σ1 : spSg) (sm1 : Int64) (th1 : Int32) (ov1 : Int64) (sv1 : Value), nwLW d (nx_s X) ro1 ad1 am1 x y u σ1 sm1 th1 ov1 sv1 H1 → nwV X A Q 7 H1 (kc + 9000) (ns + 110000) 2535 (nwLoc b x y u i) []) : nwV X A Q 7 H kc ns 1809 (nwLoc b x y u i) [] := by
  obtain ⟨hR, hM, hu, hru, ok, hB, hE⟩ := hW
  show nwV X A Q 7 H kc ns 1809 [(0, .ref b), (1, .ref x), (2, .ref y), (3, .ref u), (4, .int (nI i))] []
  refine nw_aload_n C 1 dL_law_1809 rfl 1810 rfl ?_
  refine nw_aload_n C 0 dL_law_1810 rfl 1811 rfl ?_
  refine nw_iload C 4 dL_law_1811 rfl 1813 rfl ?_
  refine nw_iconst C (nI 1) dL_law_1813 (by decide) 1814 rfl ?_
  refine nw_iaddN C dL_law_1814 1815 rfl ?_
  refine nw_sld C hX hbl hbA (by omega) dL_law_1815 1816 rfl ?_
  refine nw_aload_n C 0 dL_law_1816 rfl 1817 rfl ?_
  refine nw_iload C 4 dL_law_1817 rfl 1819 rfl ?_
  refine nw_iconst C (nI 2) dL_law_1819 (by decide) 1820 rfl ?_
  refine nw_iaddN C dL_law_1820 1821 rfl ?_
  refine nw_sld C hX hbl hbA (by omega) dL_law_1821 1822 rfl ?_
  refine nw_aload_n C 3 dL_law_1822 rfl 1823 rfl ?_
  refine nw_callSH C (mX0_where _ C.hfl d ro ad x σ sm (xs (i + 1)) (xs (i + 2)) u ov sv H hB hR ok hu hru) hX0_where q1235 (As := [.ref x, .int (xs (i + 1)), .int (xs (i + 2)), .ref u]) (rest := []) rfl rfl ⟨⟨Nat.le_of_ble_eq_true rfl, Nat.le_of_ble_eq_true rfl⟩, (show kc + 2 ≤ 601152 by omega), (show ns + 12 ≤ 7246570 by omega)⟩ (Nat.le_of_ble_eq_true rfl) (fun q8 h8 h9 => hAA q8 (nwAW_B hR hB hru q8 h9)) dL_law_1823 1826 rfl (fun v9 H1 hR2 hz3 hq4 => ?_) nw_noX
  obtain ⟨rfl, ok9, hz9, ro9, ad9, hR9, hk9, ov9, sv9, hu9, hov9⟩ := hR2
  have hM9 := hM.kpM hR9.1 hk9 hq4 (fun q g hr => nwAW_M hru g hr)
  replace hE := hE.kept (fun q9 g9 hb9 => hq4 q9 g9 (fun h9 => hb9 (nwAW_B hR (Nat.le_trans hB (Nat.le_refl _)) hru q9 h9)))
  replace hB := Nat.le_trans hB hz3
  replace hru := nw_rt hk9 hru (by decide)
  show nwV X _ _ 7 H1 (kc + 2) (ns + 12) 1826 [(0, .ref b), (1, .ref x), (2, .ref y), (3, .ref u), (4, .int (nI i))] [.int (nI (op_where σ (xs (i + 1)) (xs (i + 2))).1)]
  refine nw_istore C [(5, .int (nI (op_where σ (xs (i + 1)) (xs (i + 2))).1)), (0, .ref b), (1, .ref x), (2, .ref y), (3, .ref u), (4, .int (nI i))] dL_law_1826 (by decide) rfl 1828 rfl ?_
  refine nw_aload_n C 3 dL_law_1828 rfl 1829 rfl ?_
  refine nw_aload_n C 1 dL_law_1829 rfl 1830 rfl ?_
  refine nw_iload C 5 dL_law_1830 rfl 1832 rfl ?_
  refine nw_iconst C (nI 1) dL_law_1832 (by decide) 1833 rfl ?_
  refine nw_iaddN C dL_law_1833 1834 rfl ?_
  refine nw_sld C hX hbl hbA (by omega) dL_law_1834 1835 rfl ?_
  refine nw_aload_n C 1 dL_law_1835 rfl 1836 rfl ?_
  refine nw_iload C 5 dL_law_1836 rfl 1838 rfl ?_
  refine nw_iconst C (nI 2) dL_law_1838 (by decide) 1839 rfl ?_
  refine nw_iaddN C dL_law_1839 1840 rfl ?_
  refine nw_sld C hX hbl hbA (by omega) dL_law_1840 1841 rfl ?_
  refine nw_callV C (mX4_where _ C.hfl d ro9 am y σ th (xs (i + 1)) (xs (i + 2)) H1 hB hM9 ok) kX4_where q1972 (hM9.2.1.1.is C (ci := 9) rfl) (As := [.int (xs (i + 1)), .int (xs (i + 2))]) (rest := []) rfl rfl ⟨⟨Nat.le_of_ble_eq_true rfl, Nat.le_of_ble_eq_true rfl⟩, (show (kc + 2) + 0 ≤ 601152 by omega), (show (ns + 12) + 0 ≤ 7246570 by omega)⟩ (Nat.le_of_ble_eq_true rfl) (fun q8 h8 h9 => hAA q8 (nwAM_B hM9 hB q8 h9)) dL_law_1841 1844 rfl (fun v9 H5 hR6 hz7 hq8 => ?_) nw_noX
  obtain ⟨rfl, okm, hzm, rom, amm, hMm, hkm⟩ := hR6
  have hRm := hR9.kpR hMm.1 hkm hq8 (fun q g hr => nwAM_R g hr)
  have hum := hu9.kept (hq8 _ hu9.lt (nwAM_u hru hu9.lt))
  replace hE := hE.kept (fun q9 g9 hb9 => hq8 q9 g9 (fun h9 => hb9 (nwAM_B hM9 hB q9 h9)))
  replace hB := Nat.le_trans hB hz7
  replace hru := nw_rt hkm hru (by decide)
  show nwV X _ _ 7 H5 ((kc + 2) + 0) ((ns + 12) + 0) 1844 [(5, .int (nI (op_where σ (xs (i + 1)) (xs (i + 2))).1)), (0, .ref b), (1, .ref x), (2, .ref y), (3, .ref u), (4, .int (nI i))] [.int ((op_where σ (xs (i + 1)) (xs (i + 2))).2)]
  refine nw_wide (k' := kc + 2) (n' := ns + 12) (by omega) (by omega) ?_
  refine nw_istore C [(6, .int ((op_where σ (xs (i + 1)) (xs (i + 2))).2)), (5, .int (nI (op_where σ (xs (i + 1)) (xs (i + 2))).1)), (0, .ref b), (1, .ref x), (2, .ref y), (3, .ref u), (4, .int (nI i))] dL_law_1844 (by decide) rfl 1846 rfl ?_
  refine nw_aload_n C 4 dL_law_1846 rfl 1847 rfl ?_
  refine nw_callV C (mX4_thrown _ C.hfl d rom amm y σ (nI (op_where σ (xs (i + 1)) (xs (i + 2))).1) H5 hB hMm.wc) kX4_thrown q1683 (hMm.2.1.1.is C (ci := 9) rfl) (As := []) (rest := []) rfl rfl ⟨⟨Nat.le_of_ble_eq_true rfl, Nat.le_of_ble_eq_true rfl⟩, (show (kc + 2) + 0 ≤ 601152 by omega), (show (ns + 12) + 0 ≤ 7246570 by omega)⟩ (Nat.le_of_ble_eq_true rfl) (fun _ h8 h9 => absurd h9 (Nat.not_le.mpr h8)) dL_law_1847 1850 rfl (nw_rdK ?_) nw_noX
  refine nw_iload C 1 dL_law_1850 rfl 1852 rfl ?_
  refine nw_icmpeq C 1857 dL_law_1852 (by decide) 1855 rfl (fun _ => ?_) (fun h9 => absurd rfl h9)
  refine nw_iload C 1 dL_law_1857 rfl 1859 rfl ?_
  refine nw_ifne C 1875 dL_law_1859 (by decide) 1862 rfl (fun h10 => ?_) (fun h10 => ?_)
  · refine nw_goto C 2535 dL_law_1875 (by decide) ?_
    exact nw_wide (k' := kc + 9000) (n' := ns + 110000) (by omega) (by omega) (nw_sub [2, 3, 4, 5, 6] rfl (K H5 rom ad9 amm σ sm (nI (op_where σ (xs (i + 1)) (xs (i + 2))).1) ov9 sv9 ⟨hRm, hMm, hum, hru, ok9, hB, hE⟩))
  · have h0 : (op_where σ (xs (i + 1)) (xs (i + 2))).1 = 0 := (nI_eq (Nat.lt_of_le_of_lt (op_where_3 σ (xs (i + 1)) (xs (i + 2))) (by decide)) (by decide)).mp h10
    refine nw_aload_n C 5 dL_law_1862 rfl 1863 rfl ?_
    refine nw_getN C hum (T := TX5) rfl in_X5 0 (by decide) q640 rfl rfl dL_law_1863 1866 rfl ?_
    refine nw_iload C 0 dL_law_1866 rfl 1868 rfl ?_
    refine nw_i2l C dL_law_1868 1869 rfl ?_
    refine nw_lcmp C dL_law_1869 1870 rfl ?_
    refine nw_ifeq C 1875 dL_law_1870 (by decide) 1873 rfl (fun _ => ?_) (fun h11 => absurd (by rw [hov9 h0]; exact lg_self _) h11)
    refine nw_goto C 2535 dL_law_1875 (by decide) ?_
    exact nw_wide (k' := kc + 9000) (n' := ns + 110000) (by omega) (by omega) (nw_sub [2, 3, 4, 5, 6] rfl (K H5 rom ad9 amm σ sm (nI (op_where σ (xs (i + 1)) (xs (i + 2))).1) ov9 sv9 ⟨hRm, hMm, hum, hru, ok9, hB, hE⟩))
set_option maxHeartbeats 4000000 in
theorem lc_23 {d : nwD} {X : nwX} {A : Nat → Prop} {Q : State → Prop} {H0 : Heap} {b L x y u i kc ns : Nat} {xs : Nat → Int32} {ro ad am : Nat → Nat} {σ : spSg} {sm ov : Int64} {th : Int32} {sv : Value} {H : Heap} (C : nwC d X A H0 "NightwatchWallLaw" "law" code 7 ret room_1 []) (hAA : ∀ q, nd_B d ≤ q → A q) (hX : va_X b L xs (nx_s X) (nx_s X).heap) (hbl : b < (nx_s X).heap.size) (hbA : ¬ A b) (hi : i + 5 ≤ L ∧ L ≤ 320) (hcap : kc + 9000 ≤ 601152 ∧ ns + 110000 ≤ 7246570) (hW : nwLW d (nx_s X) ro ad am x y u σ sm th ov sv H)
    (K : ∀ (H1 : Heap) (ro1 ad1 am1 : Nat → Nat) (σ1 : spSg) (sm1 : Int64) (th1 : Int32) (ov1 : Int64) (sv1 : Value), nwLW d (nx_s X) ro1 ad1 am1 x y u σ1 sm1 th1 ov1 sv1 H1 → nwV X A Q 7 H1 (kc + 9000) (ns + 110000) 2535 (nwLoc b x y u i) []) : nwV X A Q 7 H kc ns 1878 (nwLoc b x y u i) [] := by
  obtain ⟨hR, hM, hu, hru, ok, hB, hE⟩ := hW
  show nwV X A Q 7 H kc ns 1878 [(0, .ref b), (1, .ref x), (2, .ref y), (3, .ref u), (4, .int (nI i))] []
  refine nw_aload_n C 1 dL_law_1878 rfl 1879 rfl ?_
  refine nw_aload_n C 0 dL_law_1879 rfl 1880 rfl ?_
  refine nw_iload C 4 dL_law_1880 rfl 1882 rfl ?_
  refine nw_iconst C (nI 1) dL_law_1882 (by decide) 1883 rfl ?_
  refine nw_iaddN C dL_law_1883 1884 rfl ?_
  refine nw_sld C hX hbl hbA (by omega) dL_law_1884 1885 rfl ?_
  refine nw_aload_n C 0 dL_law_1885 rfl 1886 rfl ?_
  refine nw_iload C 4 dL_law_1886 rfl 1888 rfl ?_
  refine nw_iconst C (nI 2) dL_law_1888 (by decide) 1889 rfl ?_
  refine nw_iaddN C dL_law_1889 1890 rfl ?_
  refine nw_sld C hX hbl hbA (by omega) dL_law_1890 1891 rfl ?_
  refine nw_aload_n C 3 dL_law_1891 rfl 1892 rfl ?_
  refine nw_callSH C (mX0_ofIntruder _ C.hfl d ro ad x σ sm (xs (i + 1)) (xs (i + 2)) u ov sv H hB hR ok hu hru) hX0_ofIntruder q1246 (As := [.ref x, .int (xs (i + 1)), .int (xs (i + 2)), .ref u]) (rest := []) rfl rfl ⟨⟨Nat.le_of_ble_eq_true rfl, Nat.le_of_ble_eq_true rfl⟩, (show kc + 14 ≤ 601152 by omega), (show ns + 780 ≤ 7246570 by omega)⟩ (Nat.le_of_ble_eq_true rfl) (fun q8 h8 h9 => hAA q8 (nwAW_B hR hB hru q8 h9)) dL_law_1892 1895 rfl (fun v9 H1 hR2 hz3 hq4 => ?_) nw_noX
  obtain ⟨rfl, ok9, hz9, ro9, ad9, hR9, hk9, ov9, sv9, hu9, hov9⟩ := hR2
  have hM9 := hM.kpM hR9.1 hk9 hq4 (fun q g hr => nwAW_M hru g hr)
  replace hE := hE.kept (fun q9 g9 hb9 => hq4 q9 g9 (fun h9 => hb9 (nwAW_B hR (Nat.le_trans hB (Nat.le_refl _)) hru q9 h9)))
  replace hB := Nat.le_trans hB hz3
  replace hru := nw_rt hk9 hru (by decide)
  show nwV X _ _ 7 H1 (kc + 14) (ns + 780) 1895 [(0, .ref b), (1, .ref x), (2, .ref y), (3, .ref u), (4, .int (nI i))] [.int (nI (op_ofIntr σ (xs (i + 1)) (xs (i + 2))).1)]
  refine nw_istore C [(5, .int (nI (op_ofIntr σ (xs (i + 1)) (xs (i + 2))).1)), (0, .ref b), (1, .ref x), (2, .ref y), (3, .ref u), (4, .int (nI i))] dL_law_1895 (by decide) rfl 1897 rfl ?_
  refine nw_aload_n C 3 dL_law_1897 rfl 1898 rfl ?_
  refine nw_aload_n C 1 dL_law_1898 rfl 1899 rfl ?_
  refine nw_iload C 5 dL_law_1899 rfl 1901 rfl ?_
  refine nw_iconst C (nI 1) dL_law_1901 (by decide) 1902 rfl ?_
  refine nw_iaddN C dL_law_1902 1903 rfl ?_
  refine nw_sld C hX hbl hbA (by omega) dL_law_1903 1904 rfl ?_
  refine nw_aload_n C 1 dL_law_1904 rfl 1905 rfl ?_
  refine nw_iload C 5 dL_law_1905 rfl 1907 rfl ?_
  refine nw_iconst C (nI 2) dL_law_1907 (by decide) 1908 rfl ?_
  refine nw_iaddN C dL_law_1908 1909 rfl ?_
  refine nw_sld C hX hbl hbA (by omega) dL_law_1909 1910 rfl ?_
  refine nw_callV C (mX4_ofIntruder _ C.hfl d ro9 am y σ th (xs (i + 1)) (xs (i + 2)) H1 hB hM9 ok) kX4_ofIntruder q1980 (hM9.2.1.1.is C (ci := 9) rfl) (As := [.int (xs (i + 1)), .int (xs (i + 2))]) (rest := []) rfl rfl ⟨⟨Nat.le_of_ble_eq_true rfl, Nat.le_of_ble_eq_true rfl⟩, (show (kc + 14) + 12 ≤ 601152 by omega), (show (ns + 780) + 768 ≤ 7246570 by omega)⟩ (Nat.le_of_ble_eq_true rfl) (fun q8 h8 h9 => hAA q8 (nwAM_B hM9 hB q8 h9)) dL_law_1910 1913 rfl (fun v9 H5 hR6 hz7 hq8 => ?_) nw_noX
  obtain ⟨rfl, okm, hzm, rom, amm, hMm, hkm⟩ := hR6
  have hRm := hR9.kpR hMm.1 hkm hq8 (fun q g hr => nwAM_R g hr)
  have hum := hu9.kept (hq8 _ hu9.lt (nwAM_u hru hu9.lt))
  replace hE := hE.kept (fun q9 g9 hb9 => hq8 q9 g9 (fun h9 => hb9 (nwAM_B hM9 hB q9 h9)))
  replace hB := Nat.le_trans hB hz7
  replace hru := nw_rt hkm hru (by decide)
  show nwV X _ _ 7 H5 ((kc + 14) + 12) ((ns + 780) + 768) 1913 [(5, .int (nI (op_ofIntr σ (xs (i + 1)) (xs (i + 2))).1)), (0, .ref b), (1, .ref x), (2, .ref y), (3, .ref u), (4, .int (nI i))] [.int ((op_ofIntr σ (xs (i + 1)) (xs (i + 2))).2)]
  refine nw_wide (k' := kc + 26) (n' := ns + 1548) (by omega) (by omega) ?_
  refine nw_istore C [(6, .int ((op_ofIntr σ (xs (i + 1)) (xs (i + 2))).2)), (5, .int (nI (op_ofIntr σ (xs (i + 1)) (xs (i + 2))).1)), (0, .ref b), (1, .ref x), (2, .ref y), (3, .ref u), (4, .int (nI i))] dL_law_1913 (by decide) rfl 1915 rfl ?_
  refine nw_aload_n C 4 dL_law_1915 rfl 1916 rfl ?_
  refine nw_callV C (mX4_thrown _ C.hfl d rom amm y σ (nI (op_ofIntr σ (xs (i + 1)) (xs (i + 2))).1) H5 hB hMm.wc) kX4_thrown q1683 (hMm.2.1.1.is C (ci := 9) rfl) (As := []) (rest := []) rfl rfl ⟨⟨Nat.le_of_ble_eq_true rfl, Nat.le_of_ble_eq_true rfl⟩, (show (kc + 26) + 0 ≤ 601152 by omega), (show (ns + 1548) + 0 ≤ 7246570 by omega)⟩ (Nat.le_of_ble_eq_true rfl) (fun _ h8 h9 => absurd h9 (Nat.not_le.mpr h8)) dL_law_1916 1919 rfl (nw_rdK ?_) nw_noX
  refine nw_iload C 1 dL_law_1919 rfl 1921 rfl ?_
  refine nw_icmpeq C 1926 dL_law_1921 (by decide) 1924 rfl (fun _ => ?_) (fun h9 => absurd rfl h9)
  refine nw_iload C 1 dL_law_1926 rfl 1928 rfl ?_
  refine nw_ifne C 1944 dL_law_1928 (by decide) 1931 rfl (fun h10 => ?_) (fun h10 => ?_)
  · refine nw_goto C 2535 dL_law_1944 (by decide) ?_
    exact nw_wide (k' := kc + 9000) (n' := ns + 110000) (by omega) (by omega) (nw_sub [2, 3, 4, 5, 6] rfl (K H5 rom ad9 amm σ sm (nI (op_ofIntr σ (xs (i + 1)) (xs (i + 2))).1) ov9 sv9 ⟨hRm, hMm, hum, hru, ok9, hB, hE⟩))
  · have h0 : (op_ofIntr σ (xs (i + 1)) (xs (i + 2))).1 = 0 := (nI_eq (Nat.lt_of_le_of_lt (op_ofIntr_3 σ (xs (i + 1)) (xs (i + 2))) (by decide)) (by decide)).mp h10
    refine nw_aload_n C 5 dL_law_1931 rfl 1932 rfl ?_
    refine nw_getN C hum (T := TX5) rfl in_X5 0 (by decide) q640 rfl rfl dL_law_1932 1935 rfl ?_
    refine nw_iload C 0 dL_law_1935 rfl 1937 rfl ?_
    refine nw_i2l C dL_law_1937 1938 rfl ?_
    refine nw_lcmp C dL_law_1938 1939 rfl ?_
    refine nw_ifeq C 1944 dL_law_1939 (by decide) 1942 rfl (fun _ => ?_) (fun h11 => absurd (by rw [hov9 h0]; exact lg_self _) h11)
    refine nw_goto C 2535 dL_law_1944 (by decide) ?_
    exact nw_wide (k' := kc + 9000) (n' := ns + 110000) (by omega) (by omega) (nw_sub [2, 3, 4, 5, 6] rfl (K H5 rom ad9 amm σ sm (nI (op_ofIntr σ (xs (i + 1)) (xs (i + 2))).1) ov9 sv9 ⟨hRm, hMm, hum, hru, ok9, hB, hE⟩))
set_option maxHeartbeats 4000000 in
theorem lc_24 {d : nwD} {X : nwX} {A : Nat → Prop} {Q : State → Prop} {H0 : Heap} {b L x y u i kc ns : Nat} {xs : Nat → Int32} {ro ad am : Nat → Nat} {σ : spSg} {sm ov : Int64} {th : Int32} {sv : Value} {H : Heap} (C : nwC d X A H0 "NightwatchWallLaw" "law" code 7 ret room_1 []) (hAA : ∀ q, nd_B d ≤ q → A q) (hX : va_X b L xs (nx_s X) (nx_s X).heap) (hbl : b < (nx_s X).heap.size) (hbA : ¬ A b) (hi : i + 5 ≤ L ∧ L ≤ 320) (hcap : kc + 9000 ≤ 601152 ∧ ns + 110000 ≤ 7246570) (hW : nwLW d (nx_s X) ro ad am x y u σ sm th ov sv H)
    (K : ∀ (H1 : Heap) (ro1 ad1 am1 : Nat → Nat) (σ1 : spSg) (sm1 : Int64) (th1 : Int32) (ov1 : Int64) (sv1 : Value), nwLW d (nx_s X) ro1 ad1 am1 x y u σ1 sm1 th1 ov1 sv1 H1 → nwV X A Q 7 H1 (kc + 9000) (ns + 110000) 2535 (nwLoc b x y u i) []) : nwV X A Q 7 H kc ns 1947 (nwLoc b x y u i) [] := by
  obtain ⟨hR, hM, hu, hru, ok, hB, hE⟩ := hW
  show nwV X A Q 7 H kc ns 1947 [(0, .ref b), (1, .ref x), (2, .ref y), (3, .ref u), (4, .int (nI i))] []
  refine nw_aload_n C 1 dL_law_1947 rfl 1948 rfl ?_
  refine nw_aload_n C 0 dL_law_1948 rfl 1949 rfl ?_
  refine nw_iload C 4 dL_law_1949 rfl 1951 rfl ?_
  refine nw_iconst C (nI 1) dL_law_1951 (by decide) 1952 rfl ?_
  refine nw_iaddN C dL_law_1952 1953 rfl ?_
  refine nw_sld C hX hbl hbA (by omega) dL_law_1953 1954 rfl ?_
  refine nw_aload_n C 0 dL_law_1954 rfl 1955 rfl ?_
  refine nw_iload C 4 dL_law_1955 rfl 1957 rfl ?_
  refine nw_iconst C (nI 2) dL_law_1957 (by decide) 1958 rfl ?_
  refine nw_iaddN C dL_law_1958 1959 rfl ?_
  refine nw_sld C hX hbl hbA (by omega) dL_law_1959 1960 rfl ?_
  refine nw_aload_n C 0 dL_law_1960 rfl 1961 rfl ?_
  refine nw_iload C 4 dL_law_1961 rfl 1963 rfl ?_
  refine nw_iconst C (nI 3) dL_law_1963 (by decide) 1964 rfl ?_
  refine nw_iaddN C dL_law_1964 1965 rfl ?_
  refine nw_sld C hX hbl hbA (by omega) dL_law_1965 1966 rfl ?_
  refine nw_aload_n C 3 dL_law_1966 rfl 1967 rfl ?_
  refine nw_callSH C (mX0_force _ C.hfl d ro ad x σ sm (xs (i + 1)) (xs (i + 2)) (xs (i + 3)) u ov sv H hB hR ok hu hru) hX0_force q1253 (As := [.ref x, .int (xs (i + 1)), .int (xs (i + 2)), .int (xs (i + 3)), .ref u]) (rest := []) rfl rfl ⟨⟨Nat.le_of_ble_eq_true rfl, Nat.le_of_ble_eq_true rfl⟩, (show kc + 4 ≤ 601152 by omega), (show ns + 30 ≤ 7246570 by omega)⟩ (Nat.le_of_ble_eq_true rfl) (fun q8 h8 h9 => hAA q8 (nwAW_B hR hB hru q8 h9)) dL_law_1967 1970 rfl (fun v9 H1 hR2 hz3 hq4 => ?_) nw_noX
  obtain ⟨rfl, ok9, hz9, ro9, ad9, hR9, hk9, ov9, sv9, hu9, hov9⟩ := hR2
  have hM9 := hM.kpM hR9.1 hk9 hq4 (fun q g hr => nwAW_M hru g hr)
  replace hE := hE.kept (fun q9 g9 hb9 => hq4 q9 g9 (fun h9 => hb9 (nwAW_B hR (Nat.le_trans hB (Nat.le_refl _)) hru q9 h9)))
  replace hB := Nat.le_trans hB hz3
  replace hru := nw_rt hk9 hru (by decide)
  show nwV X _ _ 7 H1 (kc + 4) (ns + 30) 1970 [(0, .ref b), (1, .ref x), (2, .ref y), (3, .ref u), (4, .int (nI i))] [.int (nI (op_force σ (xs (i + 1)) (xs (i + 2)) (xs (i + 3))).1)]
  refine nw_istore C [(5, .int (nI (op_force σ (xs (i + 1)) (xs (i + 2)) (xs (i + 3))).1)), (0, .ref b), (1, .ref x), (2, .ref y), (3, .ref u), (4, .int (nI i))] dL_law_1970 (by decide) rfl 1972 rfl ?_
  refine nw_aload_n C 3 dL_law_1972 rfl 1973 rfl ?_
  refine nw_aload_n C 1 dL_law_1973 rfl 1974 rfl ?_
  refine nw_iload C 5 dL_law_1974 rfl 1976 rfl ?_
  refine nw_iconst C (nI 1) dL_law_1976 (by decide) 1977 rfl ?_
  refine nw_iaddN C dL_law_1977 1978 rfl ?_
  refine nw_sld C hX hbl hbA (by omega) dL_law_1978 1979 rfl ?_
  refine nw_aload_n C 1 dL_law_1979 rfl 1980 rfl ?_
  refine nw_iload C 5 dL_law_1980 rfl 1982 rfl ?_
  refine nw_iconst C (nI 2) dL_law_1982 (by decide) 1983 rfl ?_
  refine nw_iaddN C dL_law_1983 1984 rfl ?_
  refine nw_sld C hX hbl hbA (by omega) dL_law_1984 1985 rfl ?_
  refine nw_aload_n C 1 dL_law_1985 rfl 1986 rfl ?_
  refine nw_iload C 5 dL_law_1986 rfl 1988 rfl ?_
  refine nw_iconst C (nI 3) dL_law_1988 (by decide) 1989 rfl ?_
  refine nw_iaddN C dL_law_1989 1990 rfl ?_
  refine nw_sld C hX hbl hbA (by omega) dL_law_1990 1991 rfl ?_
  refine nw_callV C (mX4_force _ C.hfl d ro9 am y σ th (xs (i + 1)) (xs (i + 2)) (xs (i + 3)) H1 hB hM9 ok) kX4_force q2004 (hM9.2.1.1.is C (ci := 9) rfl) (As := [.int (xs (i + 1)), .int (xs (i + 2)), .int (xs (i + 3))]) (rest := []) rfl rfl ⟨⟨Nat.le_of_ble_eq_true rfl, Nat.le_of_ble_eq_true rfl⟩, (show (kc + 4) + 0 ≤ 601152 by omega), (show (ns + 30) + 0 ≤ 7246570 by omega)⟩ (Nat.le_of_ble_eq_true rfl) (fun q8 h8 h9 => hAA q8 (nwAM_B hM9 hB q8 h9)) dL_law_1991 1994 rfl (fun v9 H5 hR6 hz7 hq8 => ?_) nw_noX
  obtain ⟨rfl, okm, hzm, rom, amm, hMm, hkm⟩ := hR6
  have hRm := hR9.kpR hMm.1 hkm hq8 (fun q g hr => nwAM_R g hr)
  have hum := hu9.kept (hq8 _ hu9.lt (nwAM_u hru hu9.lt))
  replace hE := hE.kept (fun q9 g9 hb9 => hq8 q9 g9 (fun h9 => hb9 (nwAM_B hM9 hB q9 h9)))
  replace hB := Nat.le_trans hB hz7
  replace hru := nw_rt hkm hru (by decide)
  show nwV X _ _ 7 H5 ((kc + 4) + 0) ((ns + 30) + 0) 1994 [(5, .int (nI (op_force σ (xs (i + 1)) (xs (i + 2)) (xs (i + 3))).1)), (0, .ref b), (1, .ref x), (2, .ref y), (3, .ref u), (4, .int (nI i))] [.int ((op_force σ (xs (i + 1)) (xs (i + 2)) (xs (i + 3))).2.1)]
  refine nw_wide (k' := kc + 4) (n' := ns + 30) (by omega) (by omega) ?_
  refine nw_istore C [(6, .int ((op_force σ (xs (i + 1)) (xs (i + 2)) (xs (i + 3))).2.1)), (5, .int (nI (op_force σ (xs (i + 1)) (xs (i + 2)) (xs (i + 3))).1)), (0, .ref b), (1, .ref x), (2, .ref y), (3, .ref u), (4, .int (nI i))] dL_law_1994 (by decide) rfl 1996 rfl ?_
  refine nw_aload_n C 4 dL_law_1996 rfl 1997 rfl ?_
  refine nw_callV C (mX4_thrown _ C.hfl d rom amm y (op_force σ (xs (i + 1)) (xs (i + 2)) (xs (i + 3))).2.2 (nI (op_force σ (xs (i + 1)) (xs (i + 2)) (xs (i + 3))).1) H5 hB hMm.wc) kX4_thrown q1683 (hMm.2.1.1.is C (ci := 9) rfl) (As := []) (rest := []) rfl rfl ⟨⟨Nat.le_of_ble_eq_true rfl, Nat.le_of_ble_eq_true rfl⟩, (show (kc + 4) + 0 ≤ 601152 by omega), (show (ns + 30) + 0 ≤ 7246570 by omega)⟩ (Nat.le_of_ble_eq_true rfl) (fun _ h8 h9 => absurd h9 (Nat.not_le.mpr h8)) dL_law_1997 2000 rfl (nw_rdK ?_) nw_noX
  refine nw_iload C 1 dL_law_2000 rfl 2002 rfl ?_
  refine nw_icmpeq C 2007 dL_law_2002 (by decide) 2005 rfl (fun _ => ?_) (fun h9 => absurd rfl h9)
  refine nw_iload C 1 dL_law_2007 rfl 2009 rfl ?_
  refine nw_ifne C 2025 dL_law_2009 (by decide) 2012 rfl (fun h10 => ?_) (fun h10 => ?_)
  · refine nw_goto C 2535 dL_law_2025 (by decide) ?_
    exact nw_wide (k' := kc + 9000) (n' := ns + 110000) (by omega) (by omega) (nw_sub [2, 3, 4, 5, 6] rfl (K H5 rom ad9 amm ((op_force σ (xs (i + 1)) (xs (i + 2)) (xs (i + 3))).2.2) sm (nI (op_force σ (xs (i + 1)) (xs (i + 2)) (xs (i + 3))).1) ov9 sv9 ⟨hRm, hMm, hum, hru, ok9, hB, hE⟩))
  · have h0 : (op_force σ (xs (i + 1)) (xs (i + 2)) (xs (i + 3))).1 = 0 := (nI_eq (Nat.lt_of_le_of_lt (op_force_3 σ (xs (i + 1)) (xs (i + 2)) (xs (i + 3))) (by decide)) (by decide)).mp h10
    refine nw_aload_n C 5 dL_law_2012 rfl 2013 rfl ?_
    refine nw_getN C hum (T := TX5) rfl in_X5 0 (by decide) q640 rfl rfl dL_law_2013 2016 rfl ?_
    refine nw_iload C 0 dL_law_2016 rfl 2018 rfl ?_
    refine nw_i2l C dL_law_2018 2019 rfl ?_
    refine nw_lcmp C dL_law_2019 2020 rfl ?_
    refine nw_ifeq C 2025 dL_law_2020 (by decide) 2023 rfl (fun _ => ?_) (fun h11 => absurd (by rw [hov9 h0]; exact lg_self _) h11)
    refine nw_goto C 2535 dL_law_2025 (by decide) ?_
    exact nw_wide (k' := kc + 9000) (n' := ns + 110000) (by omega) (by omega) (nw_sub [2, 3, 4, 5, 6] rfl (K H5 rom ad9 amm ((op_force σ (xs (i + 1)) (xs (i + 2)) (xs (i + 3))).2.2) sm (nI (op_force σ (xs (i + 1)) (xs (i + 2)) (xs (i + 3))).1) ov9 sv9 ⟨hRm, hMm, hum, hru, ok9, hB, hE⟩))
set_option maxHeartbeats 4000000 in
theorem lc_25 {d : nwD} {X : nwX} {A : Nat → Prop} {Q : State → Prop} {H0 : Heap} {b L x y u i kc ns : Nat} {xs : Nat → Int32} {ro ad am : Nat → Nat} {σ : spSg} {sm ov : Int64} {th : Int32} {sv : Value} {H : Heap} (C : nwC d X A H0 "NightwatchWallLaw" "law" code 7 ret room_1 []) (hAA : ∀ q, nd_B d ≤ q → A q) (hX : va_X b L xs (nx_s X) (nx_s X).heap) (hbl : b < (nx_s X).heap.size) (hbA : ¬ A b) (hi : i + 5 ≤ L ∧ L ≤ 320) (hcap : kc + 9000 ≤ 601152 ∧ ns + 110000 ≤ 7246570) (hW : nwLW d (nx_s X) ro ad am x y u σ sm th ov sv H)
    (K : ∀ (H1 : Heap) (ro1 ad1 am1 : Nat → Nat) (σ1 : spSg) (sm1 : Int64) (th1 : Int32) (ov1 : Int64) (sv1 : Value), nwLW d (nx_s X) ro1 ad1 am1 x y u σ1 sm1 th1 ov1 sv1 H1 → nwV X A Q 7 H1 (kc + 9000) (ns + 110000) 2535 (nwLoc b x y u i) []) : nwV X A Q 7 H kc ns 2028 (nwLoc b x y u i) [] := by
  obtain ⟨hR, hM, hu, hru, ok, hB, hE⟩ := hW
  show nwV X A Q 7 H kc ns 2028 [(0, .ref b), (1, .ref x), (2, .ref y), (3, .ref u), (4, .int (nI i))] []
  refine nw_aload_n C 1 dL_law_2028 rfl 2029 rfl ?_
  refine nw_aload_n C 0 dL_law_2029 rfl 2030 rfl ?_
  refine nw_iload C 4 dL_law_2030 rfl 2032 rfl ?_
  refine nw_iconst C (nI 1) dL_law_2032 (by decide) 2033 rfl ?_
  refine nw_iaddN C dL_law_2033 2034 rfl ?_
  refine nw_sld C hX hbl hbA (by omega) dL_law_2034 2035 rfl ?_
  refine nw_aload_n C 0 dL_law_2035 rfl 2036 rfl ?_
  refine nw_iload C 4 dL_law_2036 rfl 2038 rfl ?_
  refine nw_iconst C (nI 2) dL_law_2038 (by decide) 2039 rfl ?_
  refine nw_iaddN C dL_law_2039 2040 rfl ?_
  refine nw_sld C hX hbl hbA (by omega) dL_law_2040 2041 rfl ?_
  refine nw_aload_n C 3 dL_law_2041 rfl 2042 rfl ?_
  refine nw_callSH C (mX0_ofWire _ C.hfl d ro ad x σ sm (xs (i + 1)) (xs (i + 2)) u ov sv H hB hR ok hu hru) hX0_ofWire q1260 (As := [.ref x, .int (xs (i + 1)), .int (xs (i + 2)), .ref u]) (rest := []) rfl rfl ⟨⟨Nat.le_of_ble_eq_true rfl, Nat.le_of_ble_eq_true rfl⟩, (show kc + 2 ≤ 601152 by omega), (show ns + 12 ≤ 7246570 by omega)⟩ (Nat.le_of_ble_eq_true rfl) (fun q8 h8 h9 => hAA q8 (nwAW_B hR hB hru q8 h9)) dL_law_2042 2045 rfl (fun v9 H1 hR2 hz3 hq4 => ?_) nw_noX
  obtain ⟨rfl, ok9, hz9, ro9, ad9, hR9, hk9, ov9, sv9, hu9, hov9⟩ := hR2
  have hM9 := hM.kpM hR9.1 hk9 hq4 (fun q g hr => nwAW_M hru g hr)
  replace hE := hE.kept (fun q9 g9 hb9 => hq4 q9 g9 (fun h9 => hb9 (nwAW_B hR (Nat.le_trans hB (Nat.le_refl _)) hru q9 h9)))
  replace hB := Nat.le_trans hB hz3
  replace hru := nw_rt hk9 hru (by decide)
  show nwV X _ _ 7 H1 (kc + 2) (ns + 12) 2045 [(0, .ref b), (1, .ref x), (2, .ref y), (3, .ref u), (4, .int (nI i))] [.int (nI (op_ofWire σ (xs (i + 1)) (xs (i + 2))).1)]
  refine nw_istore C [(5, .int (nI (op_ofWire σ (xs (i + 1)) (xs (i + 2))).1)), (0, .ref b), (1, .ref x), (2, .ref y), (3, .ref u), (4, .int (nI i))] dL_law_2045 (by decide) rfl 2047 rfl ?_
  refine nw_aload_n C 3 dL_law_2047 rfl 2048 rfl ?_
  refine nw_aload_n C 1 dL_law_2048 rfl 2049 rfl ?_
  refine nw_iload C 5 dL_law_2049 rfl 2051 rfl ?_
  refine nw_iconst C (nI 1) dL_law_2051 (by decide) 2052 rfl ?_
  refine nw_iaddN C dL_law_2052 2053 rfl ?_
  refine nw_sld C hX hbl hbA (by omega) dL_law_2053 2054 rfl ?_
  refine nw_aload_n C 1 dL_law_2054 rfl 2055 rfl ?_
  refine nw_iload C 5 dL_law_2055 rfl 2057 rfl ?_
  refine nw_iconst C (nI 2) dL_law_2057 (by decide) 2058 rfl ?_
  refine nw_iaddN C dL_law_2058 2059 rfl ?_
  refine nw_sld C hX hbl hbA (by omega) dL_law_2059 2060 rfl ?_
  refine nw_callV C (mX4_ofWire _ C.hfl d ro9 am y σ th (xs (i + 1)) (xs (i + 2)) H1 hB hM9 ok) kX4_ofWire q2008 (hM9.2.1.1.is C (ci := 9) rfl) (As := [.int (xs (i + 1)), .int (xs (i + 2))]) (rest := []) rfl rfl ⟨⟨Nat.le_of_ble_eq_true rfl, Nat.le_of_ble_eq_true rfl⟩, (show (kc + 2) + 0 ≤ 601152 by omega), (show (ns + 12) + 0 ≤ 7246570 by omega)⟩ (Nat.le_of_ble_eq_true rfl) (fun q8 h8 h9 => hAA q8 (nwAM_B hM9 hB q8 h9)) dL_law_2060 2063 rfl (fun v9 H5 hR6 hz7 hq8 => ?_) nw_noX
  obtain ⟨rfl, okm, hzm, rom, amm, hMm, hkm⟩ := hR6
  have hRm := hR9.kpR hMm.1 hkm hq8 (fun q g hr => nwAM_R g hr)
  have hum := hu9.kept (hq8 _ hu9.lt (nwAM_u hru hu9.lt))
  replace hE := hE.kept (fun q9 g9 hb9 => hq8 q9 g9 (fun h9 => hb9 (nwAM_B hM9 hB q9 h9)))
  replace hB := Nat.le_trans hB hz7
  replace hru := nw_rt hkm hru (by decide)
  show nwV X _ _ 7 H5 ((kc + 2) + 0) ((ns + 12) + 0) 2063 [(5, .int (nI (op_ofWire σ (xs (i + 1)) (xs (i + 2))).1)), (0, .ref b), (1, .ref x), (2, .ref y), (3, .ref u), (4, .int (nI i))] [.int ((op_ofWire σ (xs (i + 1)) (xs (i + 2))).2)]
  refine nw_wide (k' := kc + 2) (n' := ns + 12) (by omega) (by omega) ?_
  refine nw_istore C [(6, .int ((op_ofWire σ (xs (i + 1)) (xs (i + 2))).2)), (5, .int (nI (op_ofWire σ (xs (i + 1)) (xs (i + 2))).1)), (0, .ref b), (1, .ref x), (2, .ref y), (3, .ref u), (4, .int (nI i))] dL_law_2063 (by decide) rfl 2065 rfl ?_
  refine nw_aload_n C 4 dL_law_2065 rfl 2066 rfl ?_
  refine nw_callV C (mX4_thrown _ C.hfl d rom amm y σ (nI (op_ofWire σ (xs (i + 1)) (xs (i + 2))).1) H5 hB hMm.wc) kX4_thrown q1683 (hMm.2.1.1.is C (ci := 9) rfl) (As := []) (rest := []) rfl rfl ⟨⟨Nat.le_of_ble_eq_true rfl, Nat.le_of_ble_eq_true rfl⟩, (show (kc + 2) + 0 ≤ 601152 by omega), (show (ns + 12) + 0 ≤ 7246570 by omega)⟩ (Nat.le_of_ble_eq_true rfl) (fun _ h8 h9 => absurd h9 (Nat.not_le.mpr h8)) dL_law_2066 2069 rfl (nw_rdK ?_) nw_noX
  refine nw_iload C 1 dL_law_2069 rfl 2071 rfl ?_
  refine nw_icmpeq C 2076 dL_law_2071 (by decide) 2074 rfl (fun _ => ?_) (fun h9 => absurd rfl h9)
  refine nw_iload C 1 dL_law_2076 rfl 2078 rfl ?_
  refine nw_ifne C 2094 dL_law_2078 (by decide) 2081 rfl (fun h10 => ?_) (fun h10 => ?_)
  · refine nw_goto C 2535 dL_law_2094 (by decide) ?_
    exact nw_wide (k' := kc + 9000) (n' := ns + 110000) (by omega) (by omega) (nw_sub [2, 3, 4, 5, 6] rfl (K H5 rom ad9 amm σ sm (nI (op_ofWire σ (xs (i + 1)) (xs (i + 2))).1) ov9 sv9 ⟨hRm, hMm, hum, hru, ok9, hB, hE⟩))
  · have h0 : (op_ofWire σ (xs (i + 1)) (xs (i + 2))).1 = 0 := (nI_eq (Nat.lt_of_le_of_lt (op_ofWire_3 σ (xs (i + 1)) (xs (i + 2))) (by decide)) (by decide)).mp h10
    refine nw_aload_n C 5 dL_law_2081 rfl 2082 rfl ?_
    refine nw_getN C hum (T := TX5) rfl in_X5 0 (by decide) q640 rfl rfl dL_law_2082 2085 rfl ?_
    refine nw_iload C 0 dL_law_2085 rfl 2087 rfl ?_
    refine nw_i2l C dL_law_2087 2088 rfl ?_
    refine nw_lcmp C dL_law_2088 2089 rfl ?_
    refine nw_ifeq C 2094 dL_law_2089 (by decide) 2092 rfl (fun _ => ?_) (fun h11 => absurd (by rw [hov9 h0]; exact lg_self _) h11)
    refine nw_goto C 2535 dL_law_2094 (by decide) ?_
    exact nw_wide (k' := kc + 9000) (n' := ns + 110000) (by omega) (by omega) (nw_sub [2, 3, 4, 5, 6] rfl (K H5 rom ad9 amm σ sm (nI (op_ofWire σ (xs (i + 1)) (xs (i + 2))).1) ov9 sv9 ⟨hRm, hMm, hum, hru, ok9, hB, hE⟩))
set_option maxHeartbeats 4000000 in
theorem lc_26 {d : nwD} {X : nwX} {A : Nat → Prop} {Q : State → Prop} {H0 : Heap} {b L x y u i kc ns : Nat} {xs : Nat → Int32} {ro ad am : Nat → Nat} {σ : spSg} {sm ov : Int64} {th : Int32} {sv : Value} {H : Heap} (C : nwC d X A H0 "NightwatchWallLaw" "law" code 7 ret room_1 []) (hAA : ∀ q, nd_B d ≤ q → A q) (hX : va_X b L xs (nx_s X) (nx_s X).heap) (hbl : b < (nx_s X).heap.size) (hbA : ¬ A b) (hi : i + 5 ≤ L ∧ L ≤ 320) (hcap : kc + 9000 ≤ 601152 ∧ ns + 110000 ≤ 7246570) (hW : nwLW d (nx_s X) ro ad am x y u σ sm th ov sv H)
    (K : ∀ (H1 : Heap) (ro1 ad1 am1 : Nat → Nat) (σ1 : spSg) (sm1 : Int64) (th1 : Int32) (ov1 : Int64) (sv1 : Value), nwLW d (nx_s X) ro1 ad1 am1 x y u σ1 sm1 th1 ov1 sv1 H1 → nwV X A Q 7 H1 (kc + 9000) (ns + 110000) 2535 (nwLoc b x y u i) []) : nwV X A Q 7 H kc ns 2097 (nwLoc b x y u i) [] := by
  obtain ⟨hR, hM, hu, hru, ok, hB, hE⟩ := hW
  show nwV X A Q 7 H kc ns 2097 [(0, .ref b), (1, .ref x), (2, .ref y), (3, .ref u), (4, .int (nI i))] []
  refine nw_aload_n C 1 dL_law_2097 rfl 2098 rfl ?_
  refine nw_aload_n C 0 dL_law_2098 rfl 2099 rfl ?_
  refine nw_iload C 4 dL_law_2099 rfl 2101 rfl ?_
  refine nw_iconst C (nI 1) dL_law_2101 (by decide) 2102 rfl ?_
  refine nw_iaddN C dL_law_2102 2103 rfl ?_
  refine nw_sld C hX hbl hbA (by omega) dL_law_2103 2104 rfl ?_
  refine nw_aload_n C 0 dL_law_2104 rfl 2105 rfl ?_
  refine nw_iload C 4 dL_law_2105 rfl 2107 rfl ?_
  refine nw_iconst C (nI 2) dL_law_2107 (by decide) 2108 rfl ?_
  refine nw_iaddN C dL_law_2108 2109 rfl ?_
  refine nw_sld C hX hbl hbA (by omega) dL_law_2109 2110 rfl ?_
  refine nw_aload_n C 0 dL_law_2110 rfl 2111 rfl ?_
  refine nw_iload C 4 dL_law_2111 rfl 2113 rfl ?_
  refine nw_iconst C (nI 3) dL_law_2113 (by decide) 2114 rfl ?_
  refine nw_iaddN C dL_law_2114 2115 rfl ?_
  refine nw_sld C hX hbl hbA (by omega) dL_law_2115 2116 rfl ?_
  refine nw_aload_n C 0 dL_law_2116 rfl 2117 rfl ?_
  refine nw_iload C 4 dL_law_2117 rfl 2119 rfl ?_
  refine nw_iconst C (nI 4) dL_law_2119 (by decide) 2120 rfl ?_
  refine nw_iaddN C dL_law_2120 2121 rfl ?_
  refine nw_sld C hX hbl hbA (by omega) dL_law_2121 2122 rfl ?_
  refine nw_aload_n C 3 dL_law_2122 rfl 2123 rfl ?_
  refine nw_callSH C (mX0_sneak _ C.hfl d ro ad x σ sm (xs (i + 1)) (xs (i + 2)) (xs (i + 3)) (xs (i + 4)) u ov sv H hB hR ok hu hru) hX0_sneak q1267 (As := [.ref x, .int (xs (i + 1)), .int (xs (i + 2)), .int (xs (i + 3)), .int (xs (i + 4)), .ref u]) (rest := []) rfl rfl ⟨⟨Nat.le_of_ble_eq_true rfl, Nat.le_of_ble_eq_true rfl⟩, (show kc + 66 ≤ 601152 by omega), (show ns + 4050 ≤ 7246570 by omega)⟩ (Nat.le_of_ble_eq_true rfl) (fun q8 h8 h9 => hAA q8 (nwAW_B hR hB hru q8 h9)) dL_law_2123 2126 rfl (fun v9 H1 hR2 hz3 hq4 => ?_) nw_noX
  obtain ⟨rfl, ok9, hz9, ro9, ad9, hR9, hk9, ov9, sv9, hu9, hov9⟩ := hR2
  have hM9 := hM.kpM hR9.1 hk9 hq4 (fun q g hr => nwAW_M hru g hr)
  replace hE := hE.kept (fun q9 g9 hb9 => hq4 q9 g9 (fun h9 => hb9 (nwAW_B hR (Nat.le_trans hB (Nat.le_refl _)) hru q9 h9)))
  replace hB := Nat.le_trans hB hz3
  replace hru := nw_rt hk9 hru (by decide)
  show nwV X _ _ 7 H1 (kc + 66) (ns + 4050) 2126 [(0, .ref b), (1, .ref x), (2, .ref y), (3, .ref u), (4, .int (nI i))] [.int (nI (op_sneak σ (xs (i + 1)) (xs (i + 2)) (xs (i + 3)) (xs (i + 4))).1)]
  refine nw_istore C [(5, .int (nI (op_sneak σ (xs (i + 1)) (xs (i + 2)) (xs (i + 3)) (xs (i + 4))).1)), (0, .ref b), (1, .ref x), (2, .ref y), (3, .ref u), (4, .int (nI i))] dL_law_2126 (by decide) rfl 2128 rfl ?_
  refine nw_aload_n C 3 dL_law_2128 rfl 2129 rfl ?_
  refine nw_aload_n C 1 dL_law_2129 rfl 2130 rfl ?_
  refine nw_iload C 5 dL_law_2130 rfl 2132 rfl ?_
  refine nw_iconst C (nI 1) dL_law_2132 (by decide) 2133 rfl ?_
  refine nw_iaddN C dL_law_2133 2134 rfl ?_
  refine nw_sld C hX hbl hbA (by omega) dL_law_2134 2135 rfl ?_
  refine nw_aload_n C 1 dL_law_2135 rfl 2136 rfl ?_
  refine nw_iload C 5 dL_law_2136 rfl 2138 rfl ?_
  refine nw_iconst C (nI 2) dL_law_2138 (by decide) 2139 rfl ?_
  refine nw_iaddN C dL_law_2139 2140 rfl ?_
  refine nw_sld C hX hbl hbA (by omega) dL_law_2140 2141 rfl ?_
  refine nw_aload_n C 1 dL_law_2141 rfl 2142 rfl ?_
  refine nw_iload C 5 dL_law_2142 rfl 2144 rfl ?_
  refine nw_iconst C (nI 3) dL_law_2144 (by decide) 2145 rfl ?_
  refine nw_iaddN C dL_law_2145 2146 rfl ?_
  refine nw_sld C hX hbl hbA (by omega) dL_law_2146 2147 rfl ?_
  refine nw_aload_n C 1 dL_law_2147 rfl 2148 rfl ?_
  refine nw_iload C 5 dL_law_2148 rfl 2150 rfl ?_
  refine nw_iconst C (nI 4) dL_law_2150 (by decide) 2151 rfl ?_
  refine nw_iaddN C dL_law_2151 2152 rfl ?_
  refine nw_sld C hX hbl hbA (by omega) dL_law_2152 2153 rfl ?_
  refine nw_callV C (mX4_sneak _ C.hfl d ro9 am y σ th (xs (i + 1)) (xs (i + 2)) (xs (i + 3)) (xs (i + 4)) H1 hB hM9 ok) kX4_sneak q2020 (hM9.2.1.1.is C (ci := 9) rfl) (As := [.int (xs (i + 1)), .int (xs (i + 2)), .int (xs (i + 3)), .int (xs (i + 4))]) (rest := []) rfl rfl ⟨⟨Nat.le_of_ble_eq_true rfl, Nat.le_of_ble_eq_true rfl⟩, (show (kc + 66) + 62 ≤ 601152 by omega), (show (ns + 4050) + 3968 ≤ 7246570 by omega)⟩ (Nat.le_of_ble_eq_true rfl) (fun q8 h8 h9 => hAA q8 (nwAM_B hM9 hB q8 h9)) dL_law_2153 2156 rfl (fun v9 H5 hR6 hz7 hq8 => ?_) nw_noX
  obtain ⟨rfl, okm, hzm, rom, amm, hMm, hkm⟩ := hR6
  have hRm := hR9.kpR hMm.1 hkm hq8 (fun q g hr => nwAM_R g hr)
  have hum := hu9.kept (hq8 _ hu9.lt (nwAM_u hru hu9.lt))
  replace hE := hE.kept (fun q9 g9 hb9 => hq8 q9 g9 (fun h9 => hb9 (nwAM_B hM9 hB q9 h9)))
  replace hB := Nat.le_trans hB hz7
  replace hru := nw_rt hkm hru (by decide)
  show nwV X _ _ 7 H5 ((kc + 66) + 62) ((ns + 4050) + 3968) 2156 [(5, .int (nI (op_sneak σ (xs (i + 1)) (xs (i + 2)) (xs (i + 3)) (xs (i + 4))).1)), (0, .ref b), (1, .ref x), (2, .ref y), (3, .ref u), (4, .int (nI i))] [.int ((op_sneak σ (xs (i + 1)) (xs (i + 2)) (xs (i + 3)) (xs (i + 4))).2)]
  refine nw_wide (k' := kc + 128) (n' := ns + 8018) (by omega) (by omega) ?_
  refine nw_istore C [(6, .int ((op_sneak σ (xs (i + 1)) (xs (i + 2)) (xs (i + 3)) (xs (i + 4))).2)), (5, .int (nI (op_sneak σ (xs (i + 1)) (xs (i + 2)) (xs (i + 3)) (xs (i + 4))).1)), (0, .ref b), (1, .ref x), (2, .ref y), (3, .ref u), (4, .int (nI i))] dL_law_2156 (by decide) rfl 2158 rfl ?_
  refine nw_aload_n C 4 dL_law_2158 rfl 2159 rfl ?_
  refine nw_callV C (mX4_thrown _ C.hfl d rom amm y σ (nI (op_sneak σ (xs (i + 1)) (xs (i + 2)) (xs (i + 3)) (xs (i + 4))).1) H5 hB hMm.wc) kX4_thrown q1683 (hMm.2.1.1.is C (ci := 9) rfl) (As := []) (rest := []) rfl rfl ⟨⟨Nat.le_of_ble_eq_true rfl, Nat.le_of_ble_eq_true rfl⟩, (show (kc + 128) + 0 ≤ 601152 by omega), (show (ns + 8018) + 0 ≤ 7246570 by omega)⟩ (Nat.le_of_ble_eq_true rfl) (fun _ h8 h9 => absurd h9 (Nat.not_le.mpr h8)) dL_law_2159 2162 rfl (nw_rdK ?_) nw_noX
  refine nw_iload C 1 dL_law_2162 rfl 2164 rfl ?_
  refine nw_icmpeq C 2169 dL_law_2164 (by decide) 2167 rfl (fun _ => ?_) (fun h9 => absurd rfl h9)
  refine nw_iload C 1 dL_law_2169 rfl 2171 rfl ?_
  refine nw_ifne C 2187 dL_law_2171 (by decide) 2174 rfl (fun h10 => ?_) (fun h10 => ?_)
  · refine nw_goto C 2535 dL_law_2187 (by decide) ?_
    exact nw_wide (k' := kc + 9000) (n' := ns + 110000) (by omega) (by omega) (nw_sub [2, 3, 4, 5, 6] rfl (K H5 rom ad9 amm σ sm (nI (op_sneak σ (xs (i + 1)) (xs (i + 2)) (xs (i + 3)) (xs (i + 4))).1) ov9 sv9 ⟨hRm, hMm, hum, hru, ok9, hB, hE⟩))
  · have h0 : (op_sneak σ (xs (i + 1)) (xs (i + 2)) (xs (i + 3)) (xs (i + 4))).1 = 0 := (nI_eq (Nat.lt_of_le_of_lt (op_sneak_3 σ (xs (i + 1)) (xs (i + 2)) (xs (i + 3)) (xs (i + 4))) (by decide)) (by decide)).mp h10
    refine nw_aload_n C 5 dL_law_2174 rfl 2175 rfl ?_
    refine nw_getN C hum (T := TX5) rfl in_X5 0 (by decide) q640 rfl rfl dL_law_2175 2178 rfl ?_
    refine nw_iload C 0 dL_law_2178 rfl 2180 rfl ?_
    refine nw_i2l C dL_law_2180 2181 rfl ?_
    refine nw_lcmp C dL_law_2181 2182 rfl ?_
    refine nw_ifeq C 2187 dL_law_2182 (by decide) 2185 rfl (fun _ => ?_) (fun h11 => absurd (by rw [hov9 h0]; exact lg_self _) h11)
    refine nw_goto C 2535 dL_law_2187 (by decide) ?_
    exact nw_wide (k' := kc + 9000) (n' := ns + 110000) (by omega) (by omega) (nw_sub [2, 3, 4, 5, 6] rfl (K H5 rom ad9 amm σ sm (nI (op_sneak σ (xs (i + 1)) (xs (i + 2)) (xs (i + 3)) (xs (i + 4))).1) ov9 sv9 ⟨hRm, hMm, hum, hru, ok9, hB, hE⟩))
set_option maxHeartbeats 4000000 in
theorem lc_27 {d : nwD} {X : nwX} {A : Nat → Prop} {Q : State → Prop} {H0 : Heap} {b L x y u i kc ns : Nat} {xs : Nat → Int32} {ro ad am : Nat → Nat} {σ : spSg} {sm ov : Int64} {th : Int32} {sv : Value} {H : Heap} (C : nwC d X A H0 "NightwatchWallLaw" "law" code 7 ret room_1 []) (hAA : ∀ q, nd_B d ≤ q → A q) (hX : va_X b L xs (nx_s X) (nx_s X).heap) (hbl : b < (nx_s X).heap.size) (hbA : ¬ A b) (hi : i + 5 ≤ L ∧ L ≤ 320) (hcap : kc + 9000 ≤ 601152 ∧ ns + 110000 ≤ 7246570) (hW : nwLW d (nx_s X) ro ad am x y u σ sm th ov sv H)
    (K : ∀ (H1 : Heap) (ro1 ad1 am1 : Nat → Nat) (σ1 : spSg) (sm1 : Int64) (th1 : Int32) (ov1 : Int64) (sv1 : Value), nwLW d (nx_s X) ro1 ad1 am1 x y u σ1 sm1 th1 ov1 sv1 H1 → nwV X A Q 7 H1 (kc + 9000) (ns + 110000) 2535 (nwLoc b x y u i) []) : nwV X A Q 7 H kc ns 2190 (nwLoc b x y u i) [] := by
  obtain ⟨hR, hM, hu, hru, ok, hB, hE⟩ := hW
  show nwV X A Q 7 H kc ns 2190 [(0, .ref b), (1, .ref x), (2, .ref y), (3, .ref u), (4, .int (nI i))] []
  refine nw_aload_n C 1 dL_law_2190 rfl 2191 rfl ?_
  refine nw_aload_n C 0 dL_law_2191 rfl 2192 rfl ?_
  refine nw_iload C 4 dL_law_2192 rfl 2194 rfl ?_
  refine nw_iconst C (nI 1) dL_law_2194 (by decide) 2195 rfl ?_
  refine nw_iaddN C dL_law_2195 2196 rfl ?_
  refine nw_sld C hX hbl hbA (by omega) dL_law_2196 2197 rfl ?_
  refine nw_aload_n C 0 dL_law_2197 rfl 2198 rfl ?_
  refine nw_iload C 4 dL_law_2198 rfl 2200 rfl ?_
  refine nw_iconst C (nI 2) dL_law_2200 (by decide) 2201 rfl ?_
  refine nw_iaddN C dL_law_2201 2202 rfl ?_
  refine nw_sld C hX hbl hbA (by omega) dL_law_2202 2203 rfl ?_
  refine nw_aload_n C 0 dL_law_2203 rfl 2204 rfl ?_
  refine nw_iload C 4 dL_law_2204 rfl 2206 rfl ?_
  refine nw_iconst C (nI 3) dL_law_2206 (by decide) 2207 rfl ?_
  refine nw_iaddN C dL_law_2207 2208 rfl ?_
  refine nw_sld C hX hbl hbA (by omega) dL_law_2208 2209 rfl ?_
  refine nw_aload_n C 3 dL_law_2209 rfl 2210 rfl ?_
  refine nw_callSH C (mX0_reach _ C.hfl d ro ad x σ sm (xs (i + 1)) (xs (i + 2)) (xs (i + 3)) u ov sv H hB hR ok hu hru) hX0_reach q1287 (As := [.ref x, .int (xs (i + 1)), .int (xs (i + 2)), .int (xs (i + 3)), .ref u]) (rest := []) rfl rfl ⟨⟨Nat.le_of_ble_eq_true rfl, Nat.le_of_ble_eq_true rfl⟩, (show kc + 66 ≤ 601152 by omega), (show ns + 4050 ≤ 7246570 by omega)⟩ (Nat.le_of_ble_eq_true rfl) (fun q8 h8 h9 => hAA q8 (nwAW_B hR hB hru q8 h9)) dL_law_2210 2213 rfl (fun v9 H1 hR2 hz3 hq4 => ?_) nw_noX
  obtain ⟨rfl, ok9, hz9, ro9, ad9, hR9, hk9, ov9, sv9, hu9, hov9⟩ := hR2
  have hM9 := hM.kpM hR9.1 hk9 hq4 (fun q g hr => nwAW_M hru g hr)
  replace hE := hE.kept (fun q9 g9 hb9 => hq4 q9 g9 (fun h9 => hb9 (nwAW_B hR (Nat.le_trans hB (Nat.le_refl _)) hru q9 h9)))
  replace hB := Nat.le_trans hB hz3
  replace hru := nw_rt hk9 hru (by decide)
  show nwV X _ _ 7 H1 (kc + 66) (ns + 4050) 2213 [(0, .ref b), (1, .ref x), (2, .ref y), (3, .ref u), (4, .int (nI i))] [.int (nI (op_reach σ (xs (i + 1)) (xs (i + 2)) (xs (i + 3))).1)]
  refine nw_istore C [(5, .int (nI (op_reach σ (xs (i + 1)) (xs (i + 2)) (xs (i + 3))).1)), (0, .ref b), (1, .ref x), (2, .ref y), (3, .ref u), (4, .int (nI i))] dL_law_2213 (by decide) rfl 2215 rfl ?_
  refine nw_aload_n C 3 dL_law_2215 rfl 2216 rfl ?_
  refine nw_aload_n C 1 dL_law_2216 rfl 2217 rfl ?_
  refine nw_iload C 5 dL_law_2217 rfl 2219 rfl ?_
  refine nw_iconst C (nI 1) dL_law_2219 (by decide) 2220 rfl ?_
  refine nw_iaddN C dL_law_2220 2221 rfl ?_
  refine nw_sld C hX hbl hbA (by omega) dL_law_2221 2222 rfl ?_
  refine nw_aload_n C 1 dL_law_2222 rfl 2223 rfl ?_
  refine nw_iload C 5 dL_law_2223 rfl 2225 rfl ?_
  refine nw_iconst C (nI 2) dL_law_2225 (by decide) 2226 rfl ?_
  refine nw_iaddN C dL_law_2226 2227 rfl ?_
  refine nw_sld C hX hbl hbA (by omega) dL_law_2227 2228 rfl ?_
  refine nw_aload_n C 1 dL_law_2228 rfl 2229 rfl ?_
  refine nw_iload C 5 dL_law_2229 rfl 2231 rfl ?_
  refine nw_iconst C (nI 3) dL_law_2231 (by decide) 2232 rfl ?_
  refine nw_iaddN C dL_law_2232 2233 rfl ?_
  refine nw_sld C hX hbl hbA (by omega) dL_law_2233 2234 rfl ?_
  refine nw_callV C (mX4_reach _ C.hfl d ro9 am y σ th (xs (i + 1)) (xs (i + 2)) (xs (i + 3)) H1 hB hM9 ok) kX4_reach q2036 (hM9.2.1.1.is C (ci := 9) rfl) (As := [.int (xs (i + 1)), .int (xs (i + 2)), .int (xs (i + 3))]) (rest := []) rfl rfl ⟨⟨Nat.le_of_ble_eq_true rfl, Nat.le_of_ble_eq_true rfl⟩, (show (kc + 66) + 62 ≤ 601152 by omega), (show (ns + 4050) + 3968 ≤ 7246570 by omega)⟩ (Nat.le_of_ble_eq_true rfl) (fun q8 h8 h9 => hAA q8 (nwAM_B hM9 hB q8 h9)) dL_law_2234 2237 rfl (fun v9 H5 hR6 hz7 hq8 => ?_) nw_noX
  obtain ⟨rfl, okm, hzm, rom, amm, hMm, hkm⟩ := hR6
  have hRm := hR9.kpR hMm.1 hkm hq8 (fun q g hr => nwAM_R g hr)
  have hum := hu9.kept (hq8 _ hu9.lt (nwAM_u hru hu9.lt))
  replace hE := hE.kept (fun q9 g9 hb9 => hq8 q9 g9 (fun h9 => hb9 (nwAM_B hM9 hB q9 h9)))
  replace hB := Nat.le_trans hB hz7
  replace hru := nw_rt hkm hru (by decide)
  show nwV X _ _ 7 H5 ((kc + 66) + 62) ((ns + 4050) + 3968) 2237 [(5, .int (nI (op_reach σ (xs (i + 1)) (xs (i + 2)) (xs (i + 3))).1)), (0, .ref b), (1, .ref x), (2, .ref y), (3, .ref u), (4, .int (nI i))] [.int ((op_reach σ (xs (i + 1)) (xs (i + 2)) (xs (i + 3))).2)]
  refine nw_wide (k' := kc + 128) (n' := ns + 8018) (by omega) (by omega) ?_
  refine nw_istore C [(6, .int ((op_reach σ (xs (i + 1)) (xs (i + 2)) (xs (i + 3))).2)), (5, .int (nI (op_reach σ (xs (i + 1)) (xs (i + 2)) (xs (i + 3))).1)), (0, .ref b), (1, .ref x), (2, .ref y), (3, .ref u), (4, .int (nI i))] dL_law_2237 (by decide) rfl 2239 rfl ?_
  refine nw_aload_n C 4 dL_law_2239 rfl 2240 rfl ?_
  refine nw_callV C (mX4_thrown _ C.hfl d rom amm y σ (nI (op_reach σ (xs (i + 1)) (xs (i + 2)) (xs (i + 3))).1) H5 hB hMm.wc) kX4_thrown q1683 (hMm.2.1.1.is C (ci := 9) rfl) (As := []) (rest := []) rfl rfl ⟨⟨Nat.le_of_ble_eq_true rfl, Nat.le_of_ble_eq_true rfl⟩, (show (kc + 128) + 0 ≤ 601152 by omega), (show (ns + 8018) + 0 ≤ 7246570 by omega)⟩ (Nat.le_of_ble_eq_true rfl) (fun _ h8 h9 => absurd h9 (Nat.not_le.mpr h8)) dL_law_2240 2243 rfl (nw_rdK ?_) nw_noX
  refine nw_iload C 1 dL_law_2243 rfl 2245 rfl ?_
  refine nw_icmpeq C 2250 dL_law_2245 (by decide) 2248 rfl (fun _ => ?_) (fun h9 => absurd rfl h9)
  refine nw_iload C 1 dL_law_2250 rfl 2252 rfl ?_
  refine nw_ifne C 2268 dL_law_2252 (by decide) 2255 rfl (fun h10 => ?_) (fun h10 => ?_)
  · refine nw_goto C 2535 dL_law_2268 (by decide) ?_
    exact nw_wide (k' := kc + 9000) (n' := ns + 110000) (by omega) (by omega) (nw_sub [2, 3, 4, 5, 6] rfl (K H5 rom ad9 amm σ sm (nI (op_reach σ (xs (i + 1)) (xs (i + 2)) (xs (i + 3))).1) ov9 sv9 ⟨hRm, hMm, hum, hru, ok9, hB, hE⟩))
  · have h0 : (op_reach σ (xs (i + 1)) (xs (i + 2)) (xs (i + 3))).1 = 0 := (nI_eq (Nat.lt_of_le_of_lt (op_reach_3 σ (xs (i + 1)) (xs (i + 2)) (xs (i + 3))) (by decide)) (by decide)).mp h10
    refine nw_aload_n C 5 dL_law_2255 rfl 2256 rfl ?_
    refine nw_getN C hum (T := TX5) rfl in_X5 0 (by decide) q640 rfl rfl dL_law_2256 2259 rfl ?_
    refine nw_iload C 0 dL_law_2259 rfl 2261 rfl ?_
    refine nw_i2l C dL_law_2261 2262 rfl ?_
    refine nw_lcmp C dL_law_2262 2263 rfl ?_
    refine nw_ifeq C 2268 dL_law_2263 (by decide) 2266 rfl (fun _ => ?_) (fun h11 => absurd (by rw [hov9 h0]; exact lg_self _) h11)
    refine nw_goto C 2535 dL_law_2268 (by decide) ?_
    exact nw_wide (k' := kc + 9000) (n' := ns + 110000) (by omega) (by omega) (nw_sub [2, 3, 4, 5, 6] rfl (K H5 rom ad9 amm σ sm (nI (op_reach σ (xs (i + 1)) (xs (i + 2)) (xs (i + 3))).1) ov9 sv9 ⟨hRm, hMm, hum, hru, ok9, hB, hE⟩))
set_option maxHeartbeats 4000000 in
theorem lc_28 {d : nwD} {X : nwX} {A : Nat → Prop} {Q : State → Prop} {H0 : Heap} {b L x y u i kc ns : Nat} {xs : Nat → Int32} {ro ad am : Nat → Nat} {σ : spSg} {sm ov : Int64} {th : Int32} {sv : Value} {H : Heap} (C : nwC d X A H0 "NightwatchWallLaw" "law" code 7 ret room_1 []) (hAA : ∀ q, nd_B d ≤ q → A q) (hX : va_X b L xs (nx_s X) (nx_s X).heap) (hbl : b < (nx_s X).heap.size) (hbA : ¬ A b) (hi : i + 5 ≤ L ∧ L ≤ 320) (hcap : kc + 9000 ≤ 601152 ∧ ns + 110000 ≤ 7246570) (hW : nwLW d (nx_s X) ro ad am x y u σ sm th ov sv H)
    (K : ∀ (H1 : Heap) (ro1 ad1 am1 : Nat → Nat) (σ1 : spSg) (sm1 : Int64) (th1 : Int32) (ov1 : Int64) (sv1 : Value), nwLW d (nx_s X) ro1 ad1 am1 x y u σ1 sm1 th1 ov1 sv1 H1 → nwV X A Q 7 H1 (kc + 9000) (ns + 110000) 2535 (nwLoc b x y u i) []) : nwV X A Q 7 H kc ns 2271 (nwLoc b x y u i) [] := by
  obtain ⟨hR, hM, hu, hru, ok, hB, hE⟩ := hW
  show nwV X A Q 7 H kc ns 2271 [(0, .ref b), (1, .ref x), (2, .ref y), (3, .ref u), (4, .int (nI i))] []
  refine nw_aload_n C 1 dL_law_2271 rfl 2272 rfl ?_
  refine nw_aload_n C 0 dL_law_2272 rfl 2273 rfl ?_
  refine nw_iload C 4 dL_law_2273 rfl 2275 rfl ?_
  refine nw_iconst C (nI 1) dL_law_2275 (by decide) 2276 rfl ?_
  refine nw_iaddN C dL_law_2276 2277 rfl ?_
  refine nw_sld C hX hbl hbA (by omega) dL_law_2277 2278 rfl ?_
  refine nw_aload_n C 0 dL_law_2278 rfl 2279 rfl ?_
  refine nw_iload C 4 dL_law_2279 rfl 2281 rfl ?_
  refine nw_iconst C (nI 2) dL_law_2281 (by decide) 2282 rfl ?_
  refine nw_iaddN C dL_law_2282 2283 rfl ?_
  refine nw_sld C hX hbl hbA (by omega) dL_law_2283 2284 rfl ?_
  refine nw_aload_n C 0 dL_law_2284 rfl 2285 rfl ?_
  refine nw_iload C 4 dL_law_2285 rfl 2287 rfl ?_
  refine nw_iconst C (nI 3) dL_law_2287 (by decide) 2288 rfl ?_
  refine nw_iaddN C dL_law_2288 2289 rfl ?_
  refine nw_sld C hX hbl hbA (by omega) dL_law_2289 2290 rfl ?_
  refine nw_ifeq C 2297 dL_law_2290 (by decide) 2293 rfl (fun h1 => ?_) (fun h1 => ?_)
  · refine nw_iconst C (nI 0) dL_law_2297 (by decide) 2298 rfl ?_
    refine nw_aload_n C 3 dL_law_2298 rfl 2299 rfl ?_
    refine nw_callSH C (mX0_nextLamp _ C.hfl d ro ad x σ sm (xs (i + 1)) (xs (i + 2)) false u ov sv H hB hR ok hu hru) hX0_nextLamp q1294 (As := [.ref x, .int (xs (i + 1)), .int (xs (i + 2)), .int (b2i false), .ref u]) (rest := []) rfl rfl ⟨⟨Nat.le_of_ble_eq_true rfl, Nat.le_of_ble_eq_true rfl⟩, (show kc + 66 ≤ 601152 by omega), (show ns + 262 ≤ 7246570 by omega)⟩ (Nat.le_of_ble_eq_true rfl) (fun q8 h8 h9 => hAA q8 (nwAW_B hR hB hru q8 h9)) dL_law_2299 2302 rfl (fun v9 H2 hR3 hz4 hq5 => ?_) nw_noX
    obtain ⟨rfl, ok9, hz9, ro9, ad9, hR9, hk9, ov9, sv9, hu9, hov9⟩ := hR3
    have hM9 := hM.kpM hR9.1 hk9 hq5 (fun q g hr => nwAW_M hru g hr)
    replace hE := hE.kept (fun q9 g9 hb9 => hq5 q9 g9 (fun h9 => hb9 (nwAW_B hR (Nat.le_trans hB (Nat.le_refl _)) hru q9 h9)))
    replace hB := Nat.le_trans hB hz4
    replace hru := nw_rt hk9 hru (by decide)
    show nwV X _ _ 7 H2 (kc + 66) (ns + 262) 2302 [(0, .ref b), (1, .ref x), (2, .ref y), (3, .ref u), (4, .int (nI i))] [.int (nI (op_nextLamp σ (xs (i + 1)) (xs (i + 2)) false).1)]
    refine nw_istore C [(5, .int (nI (op_nextLamp σ (xs (i + 1)) (xs (i + 2)) false).1)), (0, .ref b), (1, .ref x), (2, .ref y), (3, .ref u), (4, .int (nI i))] dL_law_2302 (by decide) rfl 2304 rfl ?_
    refine nw_aload_n C 3 dL_law_2304 rfl 2305 rfl ?_
    refine nw_aload_n C 1 dL_law_2305 rfl 2306 rfl ?_
    refine nw_iload C 5 dL_law_2306 rfl 2308 rfl ?_
    refine nw_iconst C (nI 1) dL_law_2308 (by decide) 2309 rfl ?_
    refine nw_iaddN C dL_law_2309 2310 rfl ?_
    refine nw_sld C hX hbl hbA (by omega) dL_law_2310 2311 rfl ?_
    refine nw_aload_n C 1 dL_law_2311 rfl 2312 rfl ?_
    refine nw_iload C 5 dL_law_2312 rfl 2314 rfl ?_
    refine nw_iconst C (nI 2) dL_law_2314 (by decide) 2315 rfl ?_
    refine nw_iaddN C dL_law_2315 2316 rfl ?_
    refine nw_sld C hX hbl hbA (by omega) dL_law_2316 2317 rfl ?_
    refine nw_aload_n C 1 dL_law_2317 rfl 2318 rfl ?_
    refine nw_iload C 5 dL_law_2318 rfl 2320 rfl ?_
    refine nw_iconst C (nI 3) dL_law_2320 (by decide) 2321 rfl ?_
    refine nw_iaddN C dL_law_2321 2322 rfl ?_
    refine nw_sld C hX hbl hbA (by omega) dL_law_2322 2323 rfl ?_
    refine nw_ifeq C 2330 dL_law_2323 (by decide) 2326 rfl (fun _ => ?_) (fun h6 => absurd h1 h6)
    refine nw_iconst C (nI 0) dL_law_2330 (by decide) 2331 rfl ?_
    refine nw_callV C (mX4_nextLamp _ C.hfl d ro9 am y σ th (xs (i + 1)) (xs (i + 2)) false H2 hB hM9 ok) kX4_nextLamp q2040 (hM9.2.1.1.is C (ci := 9) rfl) (As := [.int (xs (i + 1)), .int (xs (i + 2)), .int (b2i false)]) (rest := []) rfl rfl ⟨⟨Nat.le_of_ble_eq_true rfl, Nat.le_of_ble_eq_true rfl⟩, (show (kc + 66) + 130 ≤ 601152 by omega), (show (ns + 262) + 840 ≤ 7246570 by omega)⟩ (Nat.le_of_ble_eq_true rfl) (fun q8 h8 h9 => hAA q8 (nwAM_B hM9 hB q8 h9)) dL_law_2331 2334 rfl (fun v9 H7 hR8 hz9 hq10 => ?_) nw_noX
    obtain ⟨rfl, okm, hzm, rom, amm, hMm, hkm⟩ := hR8
    have hRm := hR9.kpR hMm.1 hkm hq10 (fun q g hr => nwAM_R g hr)
    have hum := hu9.kept (hq10 _ hu9.lt (nwAM_u hru hu9.lt))
    replace hE := hE.kept (fun q9 g9 hb9 => hq10 q9 g9 (fun h9 => hb9 (nwAM_B hM9 hB q9 h9)))
    replace hB := Nat.le_trans hB hz9
    replace hru := nw_rt hkm hru (by decide)
    show nwV X _ _ 7 H7 ((kc + 66) + 130) ((ns + 262) + 840) 2334 [(5, .int (nI (op_nextLamp σ (xs (i + 1)) (xs (i + 2)) false).1)), (0, .ref b), (1, .ref x), (2, .ref y), (3, .ref u), (4, .int (nI i))] [.int ((op_nextLamp σ (xs (i + 1)) (xs (i + 2)) false).2)]
    refine nw_wide (k' := kc + 196) (n' := ns + 1102) (by omega) (by omega) ?_
    refine nw_istore C [(6, .int ((op_nextLamp σ (xs (i + 1)) (xs (i + 2)) false).2)), (5, .int (nI (op_nextLamp σ (xs (i + 1)) (xs (i + 2)) false).1)), (0, .ref b), (1, .ref x), (2, .ref y), (3, .ref u), (4, .int (nI i))] dL_law_2334 (by decide) rfl 2336 rfl ?_
    refine nw_aload_n C 4 dL_law_2336 rfl 2337 rfl ?_
    refine nw_callV C (mX4_thrown _ C.hfl d rom amm y σ (nI (op_nextLamp σ (xs (i + 1)) (xs (i + 2)) false).1) H7 hB hMm.wc) kX4_thrown q1683 (hMm.2.1.1.is C (ci := 9) rfl) (As := []) (rest := []) rfl rfl ⟨⟨Nat.le_of_ble_eq_true rfl, Nat.le_of_ble_eq_true rfl⟩, (show (kc + 196) + 0 ≤ 601152 by omega), (show (ns + 1102) + 0 ≤ 7246570 by omega)⟩ (Nat.le_of_ble_eq_true rfl) (fun _ h8 h9 => absurd h9 (Nat.not_le.mpr h8)) dL_law_2337 2340 rfl (nw_rdK ?_) nw_noX
    refine nw_iload C 1 dL_law_2340 rfl 2342 rfl ?_
    refine nw_icmpeq C 2347 dL_law_2342 (by decide) 2345 rfl (fun _ => ?_) (fun h11 => absurd rfl h11)
    refine nw_iload C 1 dL_law_2347 rfl 2349 rfl ?_
    refine nw_ifne C 2365 dL_law_2349 (by decide) 2352 rfl (fun h12 => ?_) (fun h12 => ?_)
    · refine nw_goto C 2535 dL_law_2365 (by decide) ?_
      exact nw_wide (k' := kc + 9000) (n' := ns + 110000) (by omega) (by omega) (nw_sub [2, 3, 4, 5, 6] rfl (K H7 rom ad9 amm σ sm (nI (op_nextLamp σ (xs (i + 1)) (xs (i + 2)) false).1) ov9 sv9 ⟨hRm, hMm, hum, hru, ok9, hB, hE⟩))
    · have h0 : (op_nextLamp σ (xs (i + 1)) (xs (i + 2)) false).1 = 0 := (nI_eq (Nat.lt_of_le_of_lt (op_nextLamp_3 σ (xs (i + 1)) (xs (i + 2)) false) (by decide)) (by decide)).mp h12
      refine nw_aload_n C 5 dL_law_2352 rfl 2353 rfl ?_
      refine nw_getN C hum (T := TX5) rfl in_X5 0 (by decide) q640 rfl rfl dL_law_2353 2356 rfl ?_
      refine nw_iload C 0 dL_law_2356 rfl 2358 rfl ?_
      refine nw_i2l C dL_law_2358 2359 rfl ?_
      refine nw_lcmp C dL_law_2359 2360 rfl ?_
      refine nw_ifeq C 2365 dL_law_2360 (by decide) 2363 rfl (fun _ => ?_) (fun h13 => absurd (by rw [hov9 h0]; exact lg_self _) h13)
      refine nw_goto C 2535 dL_law_2365 (by decide) ?_
      exact nw_wide (k' := kc + 9000) (n' := ns + 110000) (by omega) (by omega) (nw_sub [2, 3, 4, 5, 6] rfl (K H7 rom ad9 amm σ sm (nI (op_nextLamp σ (xs (i + 1)) (xs (i + 2)) false).1) ov9 sv9 ⟨hRm, hMm, hum, hru, ok9, hB, hE⟩))
  · refine nw_iconst C (nI 1) dL_law_2293 (by decide) 2294 rfl ?_
    refine nw_goto C 2298 dL_law_2294 (by decide) ?_
    refine nw_aload_n C 3 dL_law_2298 rfl 2299 rfl ?_
    refine nw_callSH C (mX0_nextLamp _ C.hfl d ro ad x σ sm (xs (i + 1)) (xs (i + 2)) true u ov sv H hB hR ok hu hru) hX0_nextLamp q1294 (As := [.ref x, .int (xs (i + 1)), .int (xs (i + 2)), .int (b2i true), .ref u]) (rest := []) rfl rfl ⟨⟨Nat.le_of_ble_eq_true rfl, Nat.le_of_ble_eq_true rfl⟩, (show kc + 66 ≤ 601152 by omega), (show ns + 262 ≤ 7246570 by omega)⟩ (Nat.le_of_ble_eq_true rfl) (fun q8 h8 h9 => hAA q8 (nwAW_B hR hB hru q8 h9)) dL_law_2299 2302 rfl (fun v9 H14 hR15 hz16 hq17 => ?_) nw_noX
    obtain ⟨rfl, ok9, hz9, ro9, ad9, hR9, hk9, ov9, sv9, hu9, hov9⟩ := hR15
    have hM9 := hM.kpM hR9.1 hk9 hq17 (fun q g hr => nwAW_M hru g hr)
    replace hE := hE.kept (fun q9 g9 hb9 => hq17 q9 g9 (fun h9 => hb9 (nwAW_B hR (Nat.le_trans hB (Nat.le_refl _)) hru q9 h9)))
    replace hB := Nat.le_trans hB hz16
    replace hru := nw_rt hk9 hru (by decide)
    show nwV X _ _ 7 H14 (kc + 66) (ns + 262) 2302 [(0, .ref b), (1, .ref x), (2, .ref y), (3, .ref u), (4, .int (nI i))] [.int (nI (op_nextLamp σ (xs (i + 1)) (xs (i + 2)) true).1)]
    refine nw_istore C [(5, .int (nI (op_nextLamp σ (xs (i + 1)) (xs (i + 2)) true).1)), (0, .ref b), (1, .ref x), (2, .ref y), (3, .ref u), (4, .int (nI i))] dL_law_2302 (by decide) rfl 2304 rfl ?_
    refine nw_aload_n C 3 dL_law_2304 rfl 2305 rfl ?_
    refine nw_aload_n C 1 dL_law_2305 rfl 2306 rfl ?_
    refine nw_iload C 5 dL_law_2306 rfl 2308 rfl ?_
    refine nw_iconst C (nI 1) dL_law_2308 (by decide) 2309 rfl ?_
    refine nw_iaddN C dL_law_2309 2310 rfl ?_
    refine nw_sld C hX hbl hbA (by omega) dL_law_2310 2311 rfl ?_
    refine nw_aload_n C 1 dL_law_2311 rfl 2312 rfl ?_
    refine nw_iload C 5 dL_law_2312 rfl 2314 rfl ?_
    refine nw_iconst C (nI 2) dL_law_2314 (by decide) 2315 rfl ?_
    refine nw_iaddN C dL_law_2315 2316 rfl ?_
    refine nw_sld C hX hbl hbA (by omega) dL_law_2316 2317 rfl ?_
    refine nw_aload_n C 1 dL_law_2317 rfl 2318 rfl ?_
    refine nw_iload C 5 dL_law_2318 rfl 2320 rfl ?_
    refine nw_iconst C (nI 3) dL_law_2320 (by decide) 2321 rfl ?_
    refine nw_iaddN C dL_law_2321 2322 rfl ?_
    refine nw_sld C hX hbl hbA (by omega) dL_law_2322 2323 rfl ?_
    refine nw_ifeq C 2330 dL_law_2323 (by decide) 2326 rfl (fun h18 => absurd h18 h1) (fun _ => ?_)
    refine nw_iconst C (nI 1) dL_law_2326 (by decide) 2327 rfl ?_
    refine nw_goto C 2331 dL_law_2327 (by decide) ?_
    refine nw_callV C (mX4_nextLamp _ C.hfl d ro9 am y σ th (xs (i + 1)) (xs (i + 2)) true H14 hB hM9 ok) kX4_nextLamp q2040 (hM9.2.1.1.is C (ci := 9) rfl) (As := [.int (xs (i + 1)), .int (xs (i + 2)), .int (b2i true)]) (rest := []) rfl rfl ⟨⟨Nat.le_of_ble_eq_true rfl, Nat.le_of_ble_eq_true rfl⟩, (show (kc + 66) + 130 ≤ 601152 by omega), (show (ns + 262) + 840 ≤ 7246570 by omega)⟩ (Nat.le_of_ble_eq_true rfl) (fun q8 h8 h9 => hAA q8 (nwAM_B hM9 hB q8 h9)) dL_law_2331 2334 rfl (fun v9 H19 hR20 hz21 hq22 => ?_) nw_noX
    obtain ⟨rfl, okm, hzm, rom, amm, hMm, hkm⟩ := hR20
    have hRm := hR9.kpR hMm.1 hkm hq22 (fun q g hr => nwAM_R g hr)
    have hum := hu9.kept (hq22 _ hu9.lt (nwAM_u hru hu9.lt))
    replace hE := hE.kept (fun q9 g9 hb9 => hq22 q9 g9 (fun h9 => hb9 (nwAM_B hM9 hB q9 h9)))
    replace hB := Nat.le_trans hB hz21
    replace hru := nw_rt hkm hru (by decide)
    show nwV X _ _ 7 H19 ((kc + 66) + 130) ((ns + 262) + 840) 2334 [(5, .int (nI (op_nextLamp σ (xs (i + 1)) (xs (i + 2)) true).1)), (0, .ref b), (1, .ref x), (2, .ref y), (3, .ref u), (4, .int (nI i))] [.int ((op_nextLamp σ (xs (i + 1)) (xs (i + 2)) true).2)]
    refine nw_wide (k' := kc + 196) (n' := ns + 1102) (by omega) (by omega) ?_
    refine nw_istore C [(6, .int ((op_nextLamp σ (xs (i + 1)) (xs (i + 2)) true).2)), (5, .int (nI (op_nextLamp σ (xs (i + 1)) (xs (i + 2)) true).1)), (0, .ref b), (1, .ref x), (2, .ref y), (3, .ref u), (4, .int (nI i))] dL_law_2334 (by decide) rfl 2336 rfl ?_
    refine nw_aload_n C 4 dL_law_2336 rfl 2337 rfl ?_
    refine nw_callV C (mX4_thrown _ C.hfl d rom amm y σ (nI (op_nextLamp σ (xs (i + 1)) (xs (i + 2)) true).1) H19 hB hMm.wc) kX4_thrown q1683 (hMm.2.1.1.is C (ci := 9) rfl) (As := []) (rest := []) rfl rfl ⟨⟨Nat.le_of_ble_eq_true rfl, Nat.le_of_ble_eq_true rfl⟩, (show (kc + 196) + 0 ≤ 601152 by omega), (show (ns + 1102) + 0 ≤ 7246570 by omega)⟩ (Nat.le_of_ble_eq_true rfl) (fun _ h8 h9 => absurd h9 (Nat.not_le.mpr h8)) dL_law_2337 2340 rfl (nw_rdK ?_) nw_noX
    refine nw_iload C 1 dL_law_2340 rfl 2342 rfl ?_
    refine nw_icmpeq C 2347 dL_law_2342 (by decide) 2345 rfl (fun _ => ?_) (fun h23 => absurd rfl h23)
    refine nw_iload C 1 dL_law_2347 rfl 2349 rfl ?_
    refine nw_ifne C 2365 dL_law_2349 (by decide) 2352 rfl (fun h24 => ?_) (fun h24 => ?_)
    · refine nw_goto C 2535 dL_law_2365 (by decide) ?_
      exact nw_wide (k' := kc + 9000) (n' := ns + 110000) (by omega) (by omega) (nw_sub [2, 3, 4, 5, 6] rfl (K H19 rom ad9 amm σ sm (nI (op_nextLamp σ (xs (i + 1)) (xs (i + 2)) true).1) ov9 sv9 ⟨hRm, hMm, hum, hru, ok9, hB, hE⟩))
    · have h0 : (op_nextLamp σ (xs (i + 1)) (xs (i + 2)) true).1 = 0 := (nI_eq (Nat.lt_of_le_of_lt (op_nextLamp_3 σ (xs (i + 1)) (xs (i + 2)) true) (by decide)) (by decide)).mp h24
      refine nw_aload_n C 5 dL_law_2352 rfl 2353 rfl ?_
      refine nw_getN C hum (T := TX5) rfl in_X5 0 (by decide) q640 rfl rfl dL_law_2353 2356 rfl ?_
      refine nw_iload C 0 dL_law_2356 rfl 2358 rfl ?_
      refine nw_i2l C dL_law_2358 2359 rfl ?_
      refine nw_lcmp C dL_law_2359 2360 rfl ?_
      refine nw_ifeq C 2365 dL_law_2360 (by decide) 2363 rfl (fun _ => ?_) (fun h25 => absurd (by rw [hov9 h0]; exact lg_self _) h25)
      refine nw_goto C 2535 dL_law_2365 (by decide) ?_
      exact nw_wide (k' := kc + 9000) (n' := ns + 110000) (by omega) (by omega) (nw_sub [2, 3, 4, 5, 6] rfl (K H19 rom ad9 amm σ sm (nI (op_nextLamp σ (xs (i + 1)) (xs (i + 2)) true).1) ov9 sv9 ⟨hRm, hMm, hum, hru, ok9, hB, hE⟩))
set_option maxHeartbeats 4000000 in
theorem lc_29 {d : nwD} {X : nwX} {A : Nat → Prop} {Q : State → Prop} {H0 : Heap} {b L x y u i kc ns : Nat} {xs : Nat → Int32} {ro ad am : Nat → Nat} {σ : spSg} {sm ov : Int64} {th : Int32} {sv : Value} {H : Heap} (C : nwC d X A H0 "NightwatchWallLaw" "law" code 7 ret room_1 []) (hAA : ∀ q, nd_B d ≤ q → A q) (hX : va_X b L xs (nx_s X) (nx_s X).heap) (hbl : b < (nx_s X).heap.size) (hbA : ¬ A b) (hi : i + 5 ≤ L ∧ L ≤ 320) (hcap : kc + 9000 ≤ 601152 ∧ ns + 110000 ≤ 7246570) (hW : nwLW d (nx_s X) ro ad am x y u σ sm th ov sv H)
    (K : ∀ (H1 : Heap) (ro1 ad1 am1 : Nat → Nat) (σ1 : spSg) (sm1 : Int64) (th1 : Int32) (ov1 : Int64) (sv1 : Value), nwLW d (nx_s X) ro1 ad1 am1 x y u σ1 sm1 th1 ov1 sv1 H1 → nwV X A Q 7 H1 (kc + 9000) (ns + 110000) 2535 (nwLoc b x y u i) []) : nwV X A Q 7 H kc ns 2368 (nwLoc b x y u i) [] := by
  obtain ⟨hR, hM, hu, hru, ok, hB, hE⟩ := hW
  show nwV X A Q 7 H kc ns 2368 [(0, .ref b), (1, .ref x), (2, .ref y), (3, .ref u), (4, .int (nI i))] []
  refine nw_aload_n C 1 dL_law_2368 rfl 2369 rfl ?_
  refine nw_aload_n C 0 dL_law_2369 rfl 2370 rfl ?_
  refine nw_iload C 4 dL_law_2370 rfl 2372 rfl ?_
  refine nw_iconst C (nI 1) dL_law_2372 (by decide) 2373 rfl ?_
  refine nw_iaddN C dL_law_2373 2374 rfl ?_
  refine nw_sld C hX hbl hbA (by omega) dL_law_2374 2375 rfl ?_
  refine nw_aload_n C 3 dL_law_2375 rfl 2376 rfl ?_
  refine nw_callSH C (mX0_many _ C.hfl d ro ad x σ sm (xs (i + 1)) u ov sv H hB hR ok hu hru) hX0_many q1309 (As := [.ref x, .int (xs (i + 1)), .ref u]) (rest := []) rfl rfl ⟨⟨Nat.le_of_ble_eq_true rfl, Nat.le_of_ble_eq_true rfl⟩, (show kc + 2 ≤ 601152 by omega), (show ns + 10 ≤ 7246570 by omega)⟩ (Nat.le_of_ble_eq_true rfl) (fun q8 h8 h9 => hAA q8 (nwAW_B hR hB hru q8 h9)) dL_law_2376 2379 rfl (fun v9 H1 hR2 hz3 hq4 => ?_) nw_noX
  obtain ⟨rfl, ok9, hz9, ro9, ad9, hR9, hk9, ov9, sv9, hu9, hov9⟩ := hR2
  have hM9 := hM.kpM hR9.1 hk9 hq4 (fun q g hr => nwAW_M hru g hr)
  replace hE := hE.kept (fun q9 g9 hb9 => hq4 q9 g9 (fun h9 => hb9 (nwAW_B hR (Nat.le_trans hB (Nat.le_refl _)) hru q9 h9)))
  replace hB := Nat.le_trans hB hz3
  replace hru := nw_rt hk9 hru (by decide)
  show nwV X _ _ 7 H1 (kc + 2) (ns + 10) 2379 [(0, .ref b), (1, .ref x), (2, .ref y), (3, .ref u), (4, .int (nI i))] [.int (nI (op_many σ (xs (i + 1))).1)]
  refine nw_istore C [(5, .int (nI (op_many σ (xs (i + 1))).1)), (0, .ref b), (1, .ref x), (2, .ref y), (3, .ref u), (4, .int (nI i))] dL_law_2379 (by decide) rfl 2381 rfl ?_
  refine nw_aload_n C 3 dL_law_2381 rfl 2382 rfl ?_
  refine nw_aload_n C 1 dL_law_2382 rfl 2383 rfl ?_
  refine nw_iload C 5 dL_law_2383 rfl 2385 rfl ?_
  refine nw_iconst C (nI 1) dL_law_2385 (by decide) 2386 rfl ?_
  refine nw_iaddN C dL_law_2386 2387 rfl ?_
  refine nw_sld C hX hbl hbA (by omega) dL_law_2387 2388 rfl ?_
  refine nw_callV C (mX4_many _ C.hfl d ro9 am y σ th (xs (i + 1)) H1 hB hM9 ok) kX4_many q2058 (hM9.2.1.1.is C (ci := 9) rfl) (As := [.int (xs (i + 1))]) (rest := []) rfl rfl ⟨⟨Nat.le_of_ble_eq_true rfl, Nat.le_of_ble_eq_true rfl⟩, (show (kc + 2) + 1 ≤ 601152 by omega), (show (ns + 10) + 13 ≤ 7246570 by omega)⟩ (Nat.le_of_ble_eq_true rfl) (fun q8 h8 h9 => hAA q8 (nwAM_B hM9 hB q8 h9)) dL_law_2388 2391 rfl (fun v9 H5 hR6 hz7 hq8 => ?_) nw_noX
  obtain ⟨rfl, okm, hzm, rom, amm, hMm, hkm⟩ := hR6
  have hRm := hR9.kpR hMm.1 hkm hq8 (fun q g hr => nwAM_R g hr)
  have hum := hu9.kept (hq8 _ hu9.lt (nwAM_u hru hu9.lt))
  replace hE := hE.kept (fun q9 g9 hb9 => hq8 q9 g9 (fun h9 => hb9 (nwAM_B hM9 hB q9 h9)))
  replace hB := Nat.le_trans hB hz7
  replace hru := nw_rt hkm hru (by decide)
  show nwV X _ _ 7 H5 ((kc + 2) + 1) ((ns + 10) + 13) 2391 [(5, .int (nI (op_many σ (xs (i + 1))).1)), (0, .ref b), (1, .ref x), (2, .ref y), (3, .ref u), (4, .int (nI i))] [.int ((op_many σ (xs (i + 1))).2)]
  refine nw_wide (k' := kc + 3) (n' := ns + 23) (by omega) (by omega) ?_
  refine nw_istore C [(6, .int ((op_many σ (xs (i + 1))).2)), (5, .int (nI (op_many σ (xs (i + 1))).1)), (0, .ref b), (1, .ref x), (2, .ref y), (3, .ref u), (4, .int (nI i))] dL_law_2391 (by decide) rfl 2393 rfl ?_
  refine nw_aload_n C 4 dL_law_2393 rfl 2394 rfl ?_
  refine nw_callV C (mX4_thrown _ C.hfl d rom amm y σ (nI (op_many σ (xs (i + 1))).1) H5 hB hMm.wc) kX4_thrown q1683 (hMm.2.1.1.is C (ci := 9) rfl) (As := []) (rest := []) rfl rfl ⟨⟨Nat.le_of_ble_eq_true rfl, Nat.le_of_ble_eq_true rfl⟩, (show (kc + 3) + 0 ≤ 601152 by omega), (show (ns + 23) + 0 ≤ 7246570 by omega)⟩ (Nat.le_of_ble_eq_true rfl) (fun _ h8 h9 => absurd h9 (Nat.not_le.mpr h8)) dL_law_2394 2397 rfl (nw_rdK ?_) nw_noX
  refine nw_iload C 1 dL_law_2397 rfl 2399 rfl ?_
  refine nw_icmpeq C 2404 dL_law_2399 (by decide) 2402 rfl (fun _ => ?_) (fun h9 => absurd rfl h9)
  refine nw_iload C 1 dL_law_2404 rfl 2406 rfl ?_
  refine nw_ifne C 2422 dL_law_2406 (by decide) 2409 rfl (fun h10 => ?_) (fun h10 => ?_)
  · refine nw_goto C 2535 dL_law_2422 (by decide) ?_
    exact nw_wide (k' := kc + 9000) (n' := ns + 110000) (by omega) (by omega) (nw_sub [2, 3, 4, 5, 6] rfl (K H5 rom ad9 amm σ sm (nI (op_many σ (xs (i + 1))).1) ov9 sv9 ⟨hRm, hMm, hum, hru, ok9, hB, hE⟩))
  · have h0 : (op_many σ (xs (i + 1))).1 = 0 := (nI_eq (Nat.lt_of_le_of_lt (op_many_3 σ (xs (i + 1))) (by decide)) (by decide)).mp h10
    refine nw_aload_n C 5 dL_law_2409 rfl 2410 rfl ?_
    refine nw_getN C hum (T := TX5) rfl in_X5 0 (by decide) q640 rfl rfl dL_law_2410 2413 rfl ?_
    refine nw_iload C 0 dL_law_2413 rfl 2415 rfl ?_
    refine nw_i2l C dL_law_2415 2416 rfl ?_
    refine nw_lcmp C dL_law_2416 2417 rfl ?_
    refine nw_ifeq C 2422 dL_law_2417 (by decide) 2420 rfl (fun _ => ?_) (fun h11 => absurd (by rw [hov9 h0]; exact lg_self _) h11)
    refine nw_goto C 2535 dL_law_2422 (by decide) ?_
    exact nw_wide (k' := kc + 9000) (n' := ns + 110000) (by omega) (by omega) (nw_sub [2, 3, 4, 5, 6] rfl (K H5 rom ad9 amm σ sm (nI (op_many σ (xs (i + 1))).1) ov9 sv9 ⟨hRm, hMm, hum, hru, ok9, hB, hE⟩))
set_option maxHeartbeats 4000000 in
theorem lc_30 {d : nwD} {X : nwX} {A : Nat → Prop} {Q : State → Prop} {H0 : Heap} {b L x y u i kc ns : Nat} {xs : Nat → Int32} {ro ad am : Nat → Nat} {σ : spSg} {sm ov : Int64} {th : Int32} {sv : Value} {H : Heap} (C : nwC d X A H0 "NightwatchWallLaw" "law" code 7 ret room_1 []) (hAA : ∀ q, nd_B d ≤ q → A q) (hX : va_X b L xs (nx_s X) (nx_s X).heap) (hbl : b < (nx_s X).heap.size) (hbA : ¬ A b) (hi : i + 5 ≤ L ∧ L ≤ 320) (hcap : kc + 9000 ≤ 601152 ∧ ns + 110000 ≤ 7246570) (hW : nwLW d (nx_s X) ro ad am x y u σ sm th ov sv H)
    (K : ∀ (H1 : Heap) (ro1 ad1 am1 : Nat → Nat) (σ1 : spSg) (sm1 : Int64) (th1 : Int32) (ov1 : Int64) (sv1 : Value), nwLW d (nx_s X) ro1 ad1 am1 x y u σ1 sm1 th1 ov1 sv1 H1 → nwV X A Q 7 H1 (kc + 9000) (ns + 110000) 2535 (nwLoc b x y u i) []) : nwV X A Q 7 H kc ns 2425 (nwLoc b x y u i) [] := by
  obtain ⟨hR, hM, hu, hru, ok, hB, hE⟩ := hW
  show nwV X A Q 7 H kc ns 2425 [(0, .ref b), (1, .ref x), (2, .ref y), (3, .ref u), (4, .int (nI i))] []
  refine nw_aload_n C 1 dL_law_2425 rfl 2426 rfl ?_
  refine nw_aload_n C 0 dL_law_2426 rfl 2427 rfl ?_
  refine nw_iload C 4 dL_law_2427 rfl 2429 rfl ?_
  refine nw_iconst C (nI 1) dL_law_2429 (by decide) 2430 rfl ?_
  refine nw_iaddN C dL_law_2430 2431 rfl ?_
  refine nw_sld C hX hbl hbA (by omega) dL_law_2431 2432 rfl ?_
  refine nw_aload_n C 0 dL_law_2432 rfl 2433 rfl ?_
  refine nw_iload C 4 dL_law_2433 rfl 2435 rfl ?_
  refine nw_iconst C (nI 2) dL_law_2435 (by decide) 2436 rfl ?_
  refine nw_iaddN C dL_law_2436 2437 rfl ?_
  refine nw_sld C hX hbl hbA (by omega) dL_law_2437 2438 rfl ?_
  refine nw_aload_n C 3 dL_law_2438 rfl 2439 rfl ?_
  refine nw_callSH C (mX0_drawn _ C.hfl d ro ad x σ sm (xs (i + 1)) (xs (i + 2)) u ov sv H hB hR ok hu hru) hX0_drawn q1316 (As := [.ref x, .int (xs (i + 1)), .int (xs (i + 2)), .ref u]) (rest := []) rfl rfl ⟨⟨Nat.le_of_ble_eq_true rfl, Nat.le_of_ble_eq_true rfl⟩, (show kc + 8 ≤ 601152 by omega), (show ns + 80 ≤ 7246570 by omega)⟩ (Nat.le_of_ble_eq_true rfl) (fun q8 h8 h9 => hAA q8 (nwAW_B hR hB hru q8 h9)) dL_law_2439 2442 rfl (fun v9 H1 hR2 hz3 hq4 => ?_) nw_noX
  obtain ⟨rfl, hz9, hR9, ov9, sv9, hu9, hsv9⟩ := hR2
  have hk9 : ∀ q, ro q ≠ 0 → ro q = ro q := fun _ _ => rfl
  have hR0 := hR
  have hM9 := hM.kpM hR9.1 hk9 hq4 (fun q g hr => nwAW_M hru g hr)
  replace hE := hE.kept (fun q9 g9 hb9 => hq4 q9 g9 (fun h9 => hb9 (nwAW_B hR (Nat.le_trans hB (Nat.le_refl _)) hru q9 h9)))
  replace hB := Nat.le_trans hB hz3
  replace hru := nw_rt hk9 hru (by decide)
  show nwV X _ _ 7 H1 (kc + 8) (ns + 80) 2442 [(0, .ref b), (1, .ref x), (2, .ref y), (3, .ref u), (4, .int (nI i))] [.int (nI (op_drawn σ (xs (i + 1)) (xs (i + 2))).1)]
  refine nw_istore C [(5, .int (nI (op_drawn σ (xs (i + 1)) (xs (i + 2))).1)), (0, .ref b), (1, .ref x), (2, .ref y), (3, .ref u), (4, .int (nI i))] dL_law_2442 (by decide) rfl 2444 rfl ?_
  refine nw_aload_n C 3 dL_law_2444 rfl 2445 rfl ?_
  refine nw_aload_n C 1 dL_law_2445 rfl 2446 rfl ?_
  refine nw_iload C 5 dL_law_2446 rfl 2448 rfl ?_
  refine nw_iconst C (nI 1) dL_law_2448 (by decide) 2449 rfl ?_
  refine nw_iaddN C dL_law_2449 2450 rfl ?_
  refine nw_sld C hX hbl hbA (by omega) dL_law_2450 2451 rfl ?_
  refine nw_aload_n C 1 dL_law_2451 rfl 2452 rfl ?_
  refine nw_iload C 5 dL_law_2452 rfl 2454 rfl ?_
  refine nw_iconst C (nI 2) dL_law_2454 (by decide) 2455 rfl ?_
  refine nw_iaddN C dL_law_2455 2456 rfl ?_
  refine nw_sld C hX hbl hbA (by omega) dL_law_2456 2457 rfl ?_
  refine nw_callV C (mX4_drawn _ C.hfl d ro am y σ th (xs (i + 1)) (xs (i + 2)) H1 hB hM9 ok) kX4_drawn q2066 (hM9.2.1.1.is C (ci := 9) rfl) (As := [.int (xs (i + 1)), .int (xs (i + 2))]) (rest := []) rfl rfl ⟨⟨Nat.le_of_ble_eq_true rfl, Nat.le_of_ble_eq_true rfl⟩, (show (kc + 8) + 40 ≤ 601152 by omega), (show (ns + 80) + 400 ≤ 7246570 by omega)⟩ (Nat.le_of_ble_eq_true rfl) (fun q8 h8 h9 => hAA q8 (nwAM_B hM9 hB q8 h9)) dL_law_2457 2460 rfl (fun v9 H5 hR6 hz7 hq8 => ?_) nw_noX
  obtain ⟨qm, rfl, hdm, hzm, rom, amm, hMm, hkm⟩ := hR6
  have hRm := hR9.kpR hMm.1 hkm hq8 (fun q g hr => nwAM_R g hr)
  have hum := hu9.kept (hq8 _ hu9.lt (nwAM_u hru hu9.lt))
  have hqm := hq8
  have hroA := hru
  have hH9 : nwMW d ro am y σ th H1 := hM9
  replace hE := hE.kept (fun q9 g9 hb9 => hq8 q9 g9 (fun h9 => hb9 (nwAM_B hM9 hB q9 h9)))
  replace hB := Nat.le_trans hB hz7
  replace hru := nw_rt hkm hru (by decide)
  show nwV X _ _ 7 H5 ((kc + 8) + 40) ((ns + 80) + 400) 2460 [(5, .int (nI (op_drawn σ (xs (i + 1)) (xs (i + 2))).1)), (0, .ref b), (1, .ref x), (2, .ref y), (3, .ref u), (4, .int (nI i))] [.ref qm]
  refine nw_wide (k' := kc + 48) (n' := ns + 480) (by omega) (by omega) ?_
  refine nw_astore C [(6, .ref qm), (5, .int (nI (op_drawn σ (xs (i + 1)) (xs (i + 2))).1)), (0, .ref b), (1, .ref x), (2, .ref y), (3, .ref u), (4, .int (nI i))] dL_law_2460 (by decide) rfl 2462 rfl ?_
  refine nw_aload_n C 4 dL_law_2462 rfl 2463 rfl ?_
  refine nw_callV C (mX4_thrown _ C.hfl d rom amm y σ (nI (op_drawn σ (xs (i + 1)) (xs (i + 2))).1) H5 hB hMm.wc) kX4_thrown q1683 (hMm.2.1.1.is C (ci := 9) rfl) (As := []) (rest := []) rfl rfl ⟨⟨Nat.le_of_ble_eq_true rfl, Nat.le_of_ble_eq_true rfl⟩, (show (kc + 48) + 0 ≤ 601152 by omega), (show (ns + 480) + 0 ≤ 7246570 by omega)⟩ (Nat.le_of_ble_eq_true rfl) (fun _ h8 h9 => absurd h9 (Nat.not_le.mpr h8)) dL_law_2463 2466 rfl (nw_rdK ?_) nw_noX
  refine nw_iload C 1 dL_law_2466 rfl 2468 rfl ?_
  refine nw_icmpeq C 2473 dL_law_2468 (by decide) 2471 rfl (fun _ => ?_) (fun h9 => absurd rfl h9)
  refine nw_iload C 1 dL_law_2473 rfl 2475 rfl ?_
  refine nw_ifne C 2492 dL_law_2475 (by decide) 2478 rfl (fun h10 => ?_) (fun h10 => ?_)
  · refine nw_goto C 2535 dL_law_2492 (by decide) ?_
    exact nw_wide (k' := kc + 9000) (n' := ns + 110000) (by omega) (by omega) (nw_sub [2, 3, 4, 5, 6] rfl (K H5 rom ad amm σ sm (nI (op_drawn σ (xs (i + 1)) (xs (i + 2))).1) ov9 sv9 ⟨hRm, hMm, hum, hru, ok, hB, hE⟩))
  · have h0 : (op_drawn σ (xs (i + 1)) (xs (i + 2))).1 = 0 := (nI_eq (Nat.lt_of_le_of_lt (op_drawn_3 σ (xs (i + 1)) (xs (i + 2))) (by decide)) (by decide)).mp h10
    obtain ⟨q9, rfl, hdr9⟩ := hsv9 h0
    have hdm9 := hdm h0
    refine nw_aload_n C 5 dL_law_2478 rfl 2479 rfl ?_
    refine nw_getN C hum (T := TX5) rfl in_X5 1 (by decide) q641 rfl rfl dL_law_2479 2482 rfl ?_
    refine nw_aload C 0 dL_law_2482 rfl 2484 rfl ?_
    obtain ⟨v1, f1, ⟨hs1, hs2⟩, hso1, hf1⟩ := hdr9
    obtain ⟨v2, f2, ⟨ht1, ht2⟩, hso2, hf2⟩ := hdm9
    have hz0 : ∀ q, H.size ≤ q → ro q = 0 := fun q g => nwWR.new0 hR0 g
    have hso3 := hso1.kp (hqm _ hso1.1.lt (nwAM_0 (hz0 _ hs1) hso1.1.lt)) (hqm _ hso1.2.1.lt (nwAM_0 (hz0 _ hs2) hso1.2.1.lt))
    have hne9 : q9 ≠ qm := Nat.ne_of_lt (Nat.lt_of_lt_of_le hso1.1.lt ht1)
    have hw8 := ok.1.hh
    refine nw_callV C (mJ12_equals _ C.hfl d q9 qm v1 v2 (gr_w (sg_gr σ)) f1 f2 H5 hB hso3 hso2 hne9 (by omega) (fun j hj => (hf1 j hj).trans (hf2 j hj).symm)) kJ12_equals q2099 (hso3.1.is C (ci := 18) rfl) (As := [.ref qm]) (rest := []) rfl rfl ⟨⟨Nat.le_of_ble_eq_true rfl, Nat.le_of_ble_eq_true rfl⟩, (show (kc + 48) + 0 ≤ 601152 by omega), (show (ns + 480) + 0 ≤ 7246570 by omega)⟩ (Nat.le_of_ble_eq_true rfl) (fun _ h8 h9 => absurd h9 (Nat.not_le.mpr h8)) dL_law_2484 2487 rfl (nw_rdK ?_) nw_noX
    refine nw_ifne C 2492 dL_law_2487 (by decide) 2490 rfl (fun _ => ?_) (fun h11 => absurd h11 (by decide))
    refine nw_goto C 2535 dL_law_2492 (by decide) ?_
    exact nw_wide (k' := kc + 9000) (n' := ns + 110000) (by omega) (by omega) (nw_sub [2, 3, 4, 5, 6] rfl (K H5 rom ad amm σ sm (nI (op_drawn σ (xs (i + 1)) (xs (i + 2))).1) ov9 (.ref q9) ⟨hRm, hMm, hum, hru, ok, hB, hE⟩))
set_option maxHeartbeats 4000000 in
theorem lc_31 {d : nwD} {X : nwX} {A : Nat → Prop} {Q : State → Prop} {H0 : Heap} {b L x y u i kc ns : Nat} {xs : Nat → Int32} {ro ad am : Nat → Nat} {σ : spSg} {sm ov : Int64} {th : Int32} {sv : Value} {H : Heap} (C : nwC d X A H0 "NightwatchWallLaw" "law" code 7 ret room_1 []) (hAA : ∀ q, nd_B d ≤ q → A q) (hX : va_X b L xs (nx_s X) (nx_s X).heap) (hbl : b < (nx_s X).heap.size) (hbA : ¬ A b) (hi : i + 5 ≤ L ∧ L ≤ 320) (hcap : kc + 9000 ≤ 601152 ∧ ns + 110000 ≤ 7246570) (hW : nwLW d (nx_s X) ro ad am x y u σ sm th ov sv H)
    (K : ∀ (H1 : Heap) (ro1 ad1 am1 : Nat → Nat) (σ1 : spSg) (sm1 : Int64) (th1 : Int32) (ov1 : Int64) (sv1 : Value), nwLW d (nx_s X) ro1 ad1 am1 x y u σ1 sm1 th1 ov1 sv1 H1 → nwV X A Q 7 H1 (kc + 9000) (ns + 110000) 2535 (nwLoc b x y u i) []) : nwV X A Q 7 H kc ns 2495 (nwLoc b x y u i) [] := by
  obtain ⟨hR, hM, hu, hru, ok, hB, hE⟩ := hW
  show nwV X A Q 7 H kc ns 2495 [(0, .ref b), (1, .ref x), (2, .ref y), (3, .ref u), (4, .int (nI i))] []
  refine nw_aload_n C 1 dL_law_2495 rfl 2496 rfl ?_
  refine nw_callV C (mX1_isSound _ C.hfl d ro ad x σ sm H hB hR.wc ok) kX1_isSound q264 (hR.2.1.1.is C (ci := 0) rfl) (As := []) (rest := []) rfl rfl ⟨⟨Nat.le_of_ble_eq_true rfl, Nat.le_of_ble_eq_true rfl⟩, (show kc + 194 ≤ 601152 by omega), (show ns + 776 ≤ 7246570 by omega)⟩ (Nat.le_of_ble_eq_true rfl) (fun q8 h8 h9 => absurd h8 (Nat.not_lt.mpr h9)) dL_law_2496 2499 rfl (fun v9 H1 hR2 hz3 hq4 => ?_) nw_noX
  obtain ⟨rfl, hx9⟩ := hR2
  have hR9 := hR.ext hx9
  have hk9 : ∀ q, ro q ≠ 0 → ro q = ro q := fun _ _ => rfl
  have hM9 := hM.ext hx9
  have hu9 := hu.ext hx9.2
  replace hE := hE.kept (fun q9 g9 hb9 => hq4 q9 g9 (fun h9 => hb9 (lw_newB hB q9 h9)))
  replace hB := Nat.le_trans hB hz3
  replace hru := nw_rt hk9 hru (by decide)
  show nwV X _ _ 7 H1 (kc + 194) (ns + 776) 2499 [(0, .ref b), (1, .ref x), (2, .ref y), (3, .ref u), (4, .int (nI i))] [.int (b2i (sp_sound σ))]
  refine nw_aload_n C 2 dL_law_2499 rfl 2500 rfl ?_
  refine nw_callV C (mX4_isSound _ C.hfl d ro am y σ th H1 hB hM9 ok) kX4_isSound q2081 (hM9.2.1.1.is C (ci := 9) rfl) (As := []) (rest := [.int (b2i (sp_sound σ))]) rfl rfl ⟨⟨Nat.le_of_ble_eq_true rfl, Nat.le_of_ble_eq_true rfl⟩, (show (kc + 194) + 0 ≤ 601152 by omega), (show (ns + 776) + 0 ≤ 7246570 by omega)⟩ (Nat.le_of_ble_eq_true rfl) (fun q8 h8 h9 => hAA q8 (nwAM_B hM9 hB q8 h9)) dL_law_2500 2503 rfl (fun v9 H5 hR6 hz7 hq8 => ?_) nw_noX
  obtain ⟨rfl, okm, hzm, rom, amm, hMm, hkm⟩ := hR6
  have hRm := hR9.kpR hMm.1 hkm hq8 (fun q g hr => nwAM_R g hr)
  have hum := hu9.kept (hq8 _ hu9.lt (nwAM_u hru hu9.lt))
  replace hE := hE.kept (fun q9 g9 hb9 => hq8 q9 g9 (fun h9 => hb9 (nwAM_B hM9 hB q9 h9)))
  replace hB := Nat.le_trans hB hz7
  replace hru := nw_rt hkm hru (by decide)
  show nwV X _ _ 7 H5 ((kc + 194) + 0) ((ns + 776) + 0) 2503 [(0, .ref b), (1, .ref x), (2, .ref y), (3, .ref u), (4, .int (nI i))] [.int (b2i (sp_sound σ)), .int (b2i (sp_sound σ))]
  refine nw_wide (k' := kc + 194) (n' := ns + 776) (by omega) (by omega) ?_
  refine nw_icmpeq C 2535 dL_law_2503 (by decide) 2506 rfl (fun _ => ?_) (fun h9 => absurd rfl h9)
  exact nw_wide (k' := kc + 9000) (n' := ns + 110000) (by omega) (by omega) (nw_sub [0, 1, 2, 3, 4] rfl (K H5 rom ad amm σ sm (nI 0) ov sv ⟨hRm, hMm, hum, hru, ok, hB, hE⟩))
set_option maxHeartbeats 4000000 in
theorem lc_32 {d : nwD} {X : nwX} {A : Nat → Prop} {Q : State → Prop} {H0 : Heap} {b L x y u i kc ns : Nat} {xs : Nat → Int32} {ro ad am : Nat → Nat} {σ : spSg} {sm ov : Int64} {th : Int32} {sv : Value} {H : Heap} (C : nwC d X A H0 "NightwatchWallLaw" "law" code 7 ret room_1 []) (hAA : ∀ q, nd_B d ≤ q → A q) (hX : va_X b L xs (nx_s X) (nx_s X).heap) (hbl : b < (nx_s X).heap.size) (hbA : ¬ A b) (hi : i + 5 ≤ L ∧ L ≤ 320) (hcap : kc + 9000 ≤ 601152 ∧ ns + 110000 ≤ 7246570) (hW : nwLW d (nx_s X) ro ad am x y u σ sm th ov sv H)
    (K : ∀ (H1 : Heap) (ro1 ad1 am1 : Nat → Nat) (σ1 : spSg) (sm1 : Int64) (th1 : Int32) (ov1 : Int64) (sv1 : Value), nwLW d (nx_s X) ro1 ad1 am1 x y u σ1 sm1 th1 ov1 sv1 H1 → nwV X A Q 7 H1 (kc + 9000) (ns + 110000) 2535 (nwLoc b x y u i) []) : nwV X A Q 7 H kc ns 2508 (nwLoc b x y u i) [] := by
  obtain ⟨hR, hM, hu, hru, ok, hB, hE⟩ := hW
  show nwV X A Q 7 H kc ns 2508 [(0, .ref b), (1, .ref x), (2, .ref y), (3, .ref u), (4, .int (nI i))] []
  refine nw_aload_n C 1 dL_law_2508 rfl 2509 rfl ?_
  refine nw_callV C (mX1_knock _ C.hfl d ro ad x σ sm H hB hR ok) kX1_knock q394 (hR.2.1.1.is C (ci := 0) rfl) (As := []) (rest := []) rfl rfl ⟨⟨Nat.le_of_ble_eq_true rfl, Nat.le_of_ble_eq_true rfl⟩, (show kc + 0 ≤ 601152 by omega), (show ns + 0 ≤ 7246570 by omega)⟩ (Nat.le_of_ble_eq_true rfl) (fun q8 h8 h9 => hAA q8 (nwAC_B hR hB q8 h9)) dL_law_2509 2512 rfl (fun v9 H1 hR2 hz3 hq4 => ?_) lw_noK
  obtain ⟨⟨ho9, rfl⟩, ok9, hz9, ro9, ad9, hR9, hk9⟩ := hR2
  have hM9 := hM.kpM hR9.1 hk9 hq4 (fun q g hr h => nwAW_M hru g hr (Or.inl h))
  have hu9 := hu.kept (hq4 _ hu.lt (nwAC_u hru hu.lt))
  replace hE := hE.kept (fun q9 g9 hb9 => hq4 q9 g9 (fun h9 => hb9 (nwAC_B hR hB q9 h9)))
  replace hB := Nat.le_trans hB hz3
  replace hru := nw_rt hk9 hru (by decide)
  show nwV X _ _ 7 H1 (kc + 0) (ns + 0) 2512 [(0, .ref b), (1, .ref x), (2, .ref y), (3, .ref u), (4, .int (nI i))] [.int ((op_knock σ).2.1)]
  refine nw_aload_n C 2 dL_law_2512 rfl 2513 rfl ?_
  refine nw_callV C (mX4_knock _ C.hfl d ro9 am y σ th H1 hB hM9 ok) kX4_knock q2089 (hM9.2.1.1.is C (ci := 9) rfl) (As := []) (rest := [.int ((op_knock σ).2.1)]) rfl rfl ⟨⟨Nat.le_of_ble_eq_true rfl, Nat.le_of_ble_eq_true rfl⟩, (show (kc + 0) + 0 ≤ 601152 by omega), (show (ns + 0) + 0 ≤ 7246570 by omega)⟩ (Nat.le_of_ble_eq_true rfl) (fun q8 h8 h9 => hAA q8 (nwAM_B hM9 hB q8 h9)) dL_law_2513 2516 rfl (fun v9 H5 hR6 hz7 hq8 => ?_) nw_noX
  obtain ⟨rfl, okm, hzm, rom, amm, hMm, hkm⟩ := hR6
  have hRm := hR9.kpR hMm.1 hkm hq8 (fun q g hr => nwAM_R g hr)
  have hum := hu9.kept (hq8 _ hu9.lt (nwAM_u hru hu9.lt))
  replace hE := hE.kept (fun q9 g9 hb9 => hq8 q9 g9 (fun h9 => hb9 (nwAM_B hM9 hB q9 h9)))
  replace hB := Nat.le_trans hB hz7
  replace hru := nw_rt hkm hru (by decide)
  show nwV X _ _ 7 H5 ((kc + 0) + 0) ((ns + 0) + 0) 2516 [(0, .ref b), (1, .ref x), (2, .ref y), (3, .ref u), (4, .int (nI i))] [.int ((op_knock σ).2.1), .int ((op_knock σ).2.1)]
  refine nw_wide (k' := kc + 0) (n' := ns + 0) (by omega) (by omega) ?_
  refine nw_icmpeq C 2535 dL_law_2516 (by decide) 2519 rfl (fun _ => ?_) (fun h9 => absurd rfl h9)
  exact nw_wide (k' := kc + 9000) (n' := ns + 110000) (by omega) (by omega) (nw_sub [0, 1, 2, 3, 4] rfl (K H5 rom ad9 amm (op_knock σ).2.2 sm (nI 0) ov sv ⟨hRm, hMm, hum, hru, ok9, hB, hE⟩))
set_option maxHeartbeats 4000000 in
theorem lc_33 {d : nwD} {X : nwX} {A : Nat → Prop} {Q : State → Prop} {H0 : Heap} {b L x y u i kc ns : Nat} {xs : Nat → Int32} {ro ad am : Nat → Nat} {σ : spSg} {sm ov : Int64} {th : Int32} {sv : Value} {H : Heap} (C : nwC d X A H0 "NightwatchWallLaw" "law" code 7 ret room_1 []) (hAA : ∀ q, nd_B d ≤ q → A q) (hX : va_X b L xs (nx_s X) (nx_s X).heap) (hbl : b < (nx_s X).heap.size) (hbA : ¬ A b) (hi : i + 5 ≤ L ∧ L ≤ 320) (hcap : kc + 9000 ≤ 601152 ∧ ns + 110000 ≤ 7246570) (hW : nwLW d (nx_s X) ro ad am x y u σ sm th ov sv H)
    (K : ∀ (H1 : Heap) (ro1 ad1 am1 : Nat → Nat) (σ1 : spSg) (sm1 : Int64) (th1 : Int32) (ov1 : Int64) (sv1 : Value), nwLW d (nx_s X) ro1 ad1 am1 x y u σ1 sm1 th1 ov1 sv1 H1 → nwV X A Q 7 H1 (kc + 9000) (ns + 110000) 2535 (nwLoc b x y u i) []) : nwV X A Q 7 H kc ns 2521 (nwLoc b x y u i) [] := by
  obtain ⟨hR, hM, hu, hru, ok, hB, hE⟩ := hW
  show nwV X A Q 7 H kc ns 2521 [(0, .ref b), (1, .ref x), (2, .ref y), (3, .ref u), (4, .int (nI i))] []
  refine nw_aload_n C 1 dL_law_2521 rfl 2522 rfl ?_
  refine nw_callV C (mX1_digest _ C.hfl d ro ad x σ sm H hB hR ok) kX1_digest q398 (hR.2.1.1.is C (ci := 0) rfl) (As := []) (rest := []) rfl rfl ⟨⟨Nat.le_of_ble_eq_true rfl, Nat.le_of_ble_eq_true rfl⟩, (show kc + 650 ≤ 601152 by omega), (show ns + 28500 ≤ 7246570 by omega)⟩ (Nat.le_of_ble_eq_true rfl) (fun q8 h8 h9 => hAA q8 (nwAC_B hR hB q8 h9)) dL_law_2522 2525 rfl (fun v9 H1 hR2 hz3 hq4 => ?_) nw_noX
  obtain ⟨rfl, hz9, hR9⟩ := hR2
  have hk9 : ∀ q, ro q ≠ 0 → ro q = ro q := fun _ _ => rfl
  have hM9 := hM.kpM hR9.1 hk9 hq4 (fun q g hr h => nwAW_M hru g hr (Or.inl h))
  have hu9 := hu.kept (hq4 _ hu.lt (nwAC_u hru hu.lt))
  replace hE := hE.kept (fun q9 g9 hb9 => hq4 q9 g9 (fun h9 => hb9 (nwAC_B hR hB q9 h9)))
  replace hB := Nat.le_trans hB hz3
  replace hru := nw_rt hk9 hru (by decide)
  show nwV X _ _ 7 H1 (kc + 650) (ns + 28500) 2525 [(0, .ref b), (1, .ref x), (2, .ref y), (3, .ref u), (4, .int (nI i))] [.long (sp_digest σ)]
  refine nw_aload_n C 2 dL_law_2525 rfl 2526 rfl ?_
  refine nw_callV C (mX4_digest _ C.hfl d ro am y σ th H1 hB hM9 ok) kX4_digest q2093 (hM9.2.1.1.is C (ci := 9) rfl) (As := []) (rest := [.long (sp_digest σ)]) rfl rfl ⟨⟨Nat.le_of_ble_eq_true rfl, Nat.le_of_ble_eq_true rfl⟩, (show (kc + 650) + 499 ≤ 601152 by omega), (show (ns + 28500) + 28303 ≤ 7246570 by omega)⟩ (Nat.le_of_ble_eq_true rfl) (fun q8 h8 h9 => hAA q8 (nwAM_B hM9 hB q8 h9)) dL_law_2526 2529 rfl (fun v9 H5 hR6 hz7 hq8 => ?_) nw_noX
  obtain ⟨rfl, hzm, hMm⟩ := hR6
  have hkm : ∀ q, ro q ≠ 0 → ro q = ro q := fun _ _ => rfl
  have hRm := hR9.kpR hMm.1 hkm hq8 (fun q g hr => nwAM_R g hr)
  have hum := hu9.kept (hq8 _ hu9.lt (nwAM_u hru hu9.lt))
  replace hE := hE.kept (fun q9 g9 hb9 => hq8 q9 g9 (fun h9 => hb9 (nwAM_B hM9 hB q9 h9)))
  replace hB := Nat.le_trans hB hz7
  replace hru := nw_rt hkm hru (by decide)
  show nwV X _ _ 7 H5 ((kc + 650) + 499) ((ns + 28500) + 28303) 2529 [(0, .ref b), (1, .ref x), (2, .ref y), (3, .ref u), (4, .int (nI i))] [.long (sp_digest σ), .long (sp_digest σ)]
  refine nw_wide (k' := kc + 1149) (n' := ns + 56803) (by omega) (by omega) ?_
  refine nw_lcmp C dL_law_2529 2530 rfl ?_
  refine nw_ifeq C 2535 dL_law_2530 (by decide) 2533 rfl (fun _ => ?_) (fun h9 => absurd (lg_self _) h9)
  exact nw_wide (k' := kc + 9000) (n' := ns + 110000) (by omega) (by omega) (nw_sub [0, 1, 2, 3, 4] rfl (K H5 ro ad am σ (sp_digest σ) (nI 0) ov sv ⟨hRm, hMm, hum, hru, ok, hB, hE⟩))
