/-! ===== the reference's constructor ===== -/
/-- what lies there ahead of 'begin': next is 0, the keys are 0 -/
def sp_zeroM : spSg := ((0, 0, fun _ => 0), (0, fun _ => (0, 0, false)), (0, fun _ => (0, 0)), (0, fun _ => sp_gd 0 0 0 0), (0, fun _ => 0), (0, fun _ => (0, (0, fun _ => 0), 0, 0, none)), (0, fun _ => (0, 0)), ((0, 12, fun _ => 0), (0, fun _ => 0)), (fun _ => some 0), none, 0, 0)
theorem sp_newM : st_begin sp_zeroM (fun _ => none) = sp_new := by
  have h : sp_fresh (sg_gu sp_zeroM).2 (sg_gu sp_zeroM).1 = fun _ => sp_gd 0 0 0 0 := by
    funext k
    unfold sp_fresh
    exact if_neg (Nat.not_lt_zero k)
  unfold st_begin sp_new st_clear
  rw [h]
  show st_ke (st_gu (st_ri (st_wo sp_zeroM (sp_words 0 (fun _ => 0))) 0) (0, fun _ => sp_gd 0 0 0 0)) (fun _ => none) = ((0, 0, fun _ => 0), (0, fun _ => (0, 0, false)), (0, fun _ => (0, 0)), (0, fun _ => sp_gd 0 0 0 0), (0, fun _ => 0), (0, fun _ => (0, (0, fun _ => 0), 0, 0, none)), (0, fun _ => (0, 0)), sp_words 0 (fun _ => 0), (fun _ => none), none, 0, 0)
  generalize sp_words 0 (fun _ => 0) = W
  rfl
theorem mr_new {d : nwD} {H : Heap} {g k0 a1 a2 a3 a4 now old ke a5 a6 : Nat} (hB : nd_B d ≤ g) (hl : g < k0 ∧ k0 < a1 ∧ a1 < a2 ∧ a2 < a3 ∧ a3 < a4 ∧ a4 < now ∧ now < old ∧ old < ke ∧ ke < a5 ∧ a5 < a6) (hz : a6 < H.size) (hg : nwO d g 9 [.int (nI 0), .int (nI 0), .int (nI 0), .ref k0, .int (nI 0), .int (oI none), .ref a1, .ref a2, .ref a3, .ref a4, .int (nI 0), .int (nI 0), .int (nI 0), .ref now, .ref old, .int (nI 0), .ref ke, .ref a5, .ref a6, .int (nI 0)] H) (hk0 : nwI d k0 0 0 (fun _ => 0) H)
    (ha1 : nwO d a1 13 [.int (nI 0), .ref (nd_st d 5), .int (nI 0)] H) (ha2 : nwO d a2 13 [.int (nI 0), .ref (nd_st d 5), .int (nI 0)] H) (ha3 : nwO d a3 13 [.int (nI 0), .ref (nd_st d 5), .int (nI 0)] H) (ha4 : nwO d a4 13 [.int (nI 0), .ref (nd_st d 5), .int (nI 0)] H) (ha5 : nwO d a5 13 [.int (nI 0), .ref (nd_st d 5), .int (nI 0)] H) (ha6 : nwO d a6 13 [.int (nI 0), .ref (nd_st d 5), .int (nI 0)] H) (hold : nwO d old 13 [.int (nI 0), .ref (nd_st d 5), .int (nI 0)] H) (hn : nwI d now 0 4 (fun _ => 0) H) (hk : nwI d ke 0 6 (fun _ => 0) H) : ∃ ro' am' : Nat → Nat, nwMW d ro' am' g sp_zeroM (nI 0) H ∧ ∀ q, ro' q ≠ 0 → q = g ∨ k0 ≤ q := by
  have hm : ∀ q, rol [(g, 8000), (k0, 5010), (a1, 5002), (a2, 5003), (a3, 5004), (a4, 5005), (now, 5012), (old, 5013), (ke, 5009), (a5, 5006), (a6, 5007)] q ≠ 0 → g ≤ q ∧ q ≤ a6 ∧ (q = g ∨ k0 ≤ q) := by
    intro q hq
    obtain ⟨r, hr⟩ := rol_mem hq
    simp only [List.mem_cons, Prod.mk.injEq, List.not_mem_nil, or_false] at hr
    omega
  have r_g : rol [(g, 8000), (k0, 5010), (a1, 5002), (a2, 5003), (a3, 5004), (a4, 5005), (now, 5012), (old, 5013), (ke, 5009), (a5, 5006), (a6, 5007)] g = 8000 := if_pos rfl
  have r_k0 : rol [(g, 8000), (k0, 5010), (a1, 5002), (a2, 5003), (a3, 5004), (a4, 5005), (now, 5012), (old, 5013), (ke, 5009), (a5, 5006), (a6, 5007)] k0 = 5010 := (if_neg (show ¬ k0 = g by omega)).trans (if_pos rfl)
  have r_a1 : rol [(g, 8000), (k0, 5010), (a1, 5002), (a2, 5003), (a3, 5004), (a4, 5005), (now, 5012), (old, 5013), (ke, 5009), (a5, 5006), (a6, 5007)] a1 = 5002 := (if_neg (show ¬ a1 = g by omega)).trans ((if_neg (show ¬ a1 = k0 by omega)).trans (if_pos rfl))
  have r_a2 : rol [(g, 8000), (k0, 5010), (a1, 5002), (a2, 5003), (a3, 5004), (a4, 5005), (now, 5012), (old, 5013), (ke, 5009), (a5, 5006), (a6, 5007)] a2 = 5003 := (if_neg (show ¬ a2 = g by omega)).trans ((if_neg (show ¬ a2 = k0 by omega)).trans ((if_neg (show ¬ a2 = a1 by omega)).trans (if_pos rfl)))
  have r_a3 : rol [(g, 8000), (k0, 5010), (a1, 5002), (a2, 5003), (a3, 5004), (a4, 5005), (now, 5012), (old, 5013), (ke, 5009), (a5, 5006), (a6, 5007)] a3 = 5004 := (if_neg (show ¬ a3 = g by omega)).trans ((if_neg (show ¬ a3 = k0 by omega)).trans ((if_neg (show ¬ a3 = a1 by omega)).trans ((if_neg (show ¬ a3 = a2 by omega)).trans (if_pos rfl))))
  have r_a4 : rol [(g, 8000), (k0, 5010), (a1, 5002), (a2, 5003), (a3, 5004), (a4, 5005), (now, 5012), (old, 5013), (ke, 5009), (a5, 5006), (a6, 5007)] a4 = 5005 := (if_neg (show ¬ a4 = g by omega)).trans ((if_neg (show ¬ a4 = k0 by omega)).trans ((if_neg (show ¬ a4 = a1 by omega)).trans ((if_neg (show ¬ a4 = a2 by omega)).trans ((if_neg (show ¬ a4 = a3 by omega)).trans (if_pos rfl)))))
  have r_now : rol [(g, 8000), (k0, 5010), (a1, 5002), (a2, 5003), (a3, 5004), (a4, 5005), (now, 5012), (old, 5013), (ke, 5009), (a5, 5006), (a6, 5007)] now = 5012 := (if_neg (show ¬ now = g by omega)).trans ((if_neg (show ¬ now = k0 by omega)).trans ((if_neg (show ¬ now = a1 by omega)).trans ((if_neg (show ¬ now = a2 by omega)).trans ((if_neg (show ¬ now = a3 by omega)).trans ((if_neg (show ¬ now = a4 by omega)).trans (if_pos rfl))))))
  have r_old : rol [(g, 8000), (k0, 5010), (a1, 5002), (a2, 5003), (a3, 5004), (a4, 5005), (now, 5012), (old, 5013), (ke, 5009), (a5, 5006), (a6, 5007)] old = 5013 := (if_neg (show ¬ old = g by omega)).trans ((if_neg (show ¬ old = k0 by omega)).trans ((if_neg (show ¬ old = a1 by omega)).trans ((if_neg (show ¬ old = a2 by omega)).trans ((if_neg (show ¬ old = a3 by omega)).trans ((if_neg (show ¬ old = a4 by omega)).trans ((if_neg (show ¬ old = now by omega)).trans (if_pos rfl)))))))
  have r_ke : rol [(g, 8000), (k0, 5010), (a1, 5002), (a2, 5003), (a3, 5004), (a4, 5005), (now, 5012), (old, 5013), (ke, 5009), (a5, 5006), (a6, 5007)] ke = 5009 := (if_neg (show ¬ ke = g by omega)).trans ((if_neg (show ¬ ke = k0 by omega)).trans ((if_neg (show ¬ ke = a1 by omega)).trans ((if_neg (show ¬ ke = a2 by omega)).trans ((if_neg (show ¬ ke = a3 by omega)).trans ((if_neg (show ¬ ke = a4 by omega)).trans ((if_neg (show ¬ ke = now by omega)).trans ((if_neg (show ¬ ke = old by omega)).trans (if_pos rfl))))))))
  have r_a5 : rol [(g, 8000), (k0, 5010), (a1, 5002), (a2, 5003), (a3, 5004), (a4, 5005), (now, 5012), (old, 5013), (ke, 5009), (a5, 5006), (a6, 5007)] a5 = 5006 := (if_neg (show ¬ a5 = g by omega)).trans ((if_neg (show ¬ a5 = k0 by omega)).trans ((if_neg (show ¬ a5 = a1 by omega)).trans ((if_neg (show ¬ a5 = a2 by omega)).trans ((if_neg (show ¬ a5 = a3 by omega)).trans ((if_neg (show ¬ a5 = a4 by omega)).trans ((if_neg (show ¬ a5 = now by omega)).trans ((if_neg (show ¬ a5 = old by omega)).trans ((if_neg (show ¬ a5 = ke by omega)).trans (if_pos rfl)))))))))
  have r_a6 : rol [(g, 8000), (k0, 5010), (a1, 5002), (a2, 5003), (a3, 5004), (a4, 5005), (now, 5012), (old, 5013), (ke, 5009), (a5, 5006), (a6, 5007)] a6 = 5007 := (if_neg (show ¬ a6 = g by omega)).trans ((if_neg (show ¬ a6 = k0 by omega)).trans ((if_neg (show ¬ a6 = a1 by omega)).trans ((if_neg (show ¬ a6 = a2 by omega)).trans ((if_neg (show ¬ a6 = a3 by omega)).trans ((if_neg (show ¬ a6 = a4 by omega)).trans ((if_neg (show ¬ a6 = now by omega)).trans ((if_neg (show ¬ a6 = old by omega)).trans ((if_neg (show ¬ a6 = ke by omega)).trans ((if_neg (show ¬ a6 = a5 by omega)).trans (if_pos rfl))))))))))
  generalize rol [(g, 8000), (k0, 5010), (a1, 5002), (a2, 5003), (a3, 5004), (a4, 5005), (now, 5012), (old, 5013), (ke, 5009), (a5, 5006), (a6, 5007)] = ro' at *
  have b9 : rol [(9, k0), (1, a1), (2, a2), (3, a3), (4, a4), (11, now), (12, old), (8, ke), (5, a5), (6, a6)] 9 = k0 := rfl
  have b1 : rol [(9, k0), (1, a1), (2, a2), (3, a3), (4, a4), (11, now), (12, old), (8, ke), (5, a5), (6, a6)] 1 = a1 := rfl
  have b2 : rol [(9, k0), (1, a1), (2, a2), (3, a3), (4, a4), (11, now), (12, old), (8, ke), (5, a5), (6, a6)] 2 = a2 := rfl
  have b3 : rol [(9, k0), (1, a1), (2, a2), (3, a3), (4, a4), (11, now), (12, old), (8, ke), (5, a5), (6, a6)] 3 = a3 := rfl
  have b4 : rol [(9, k0), (1, a1), (2, a2), (3, a3), (4, a4), (11, now), (12, old), (8, ke), (5, a5), (6, a6)] 4 = a4 := rfl
  have b11 : rol [(9, k0), (1, a1), (2, a2), (3, a3), (4, a4), (11, now), (12, old), (8, ke), (5, a5), (6, a6)] 11 = now := rfl
  have b12 : rol [(9, k0), (1, a1), (2, a2), (3, a3), (4, a4), (11, now), (12, old), (8, ke), (5, a5), (6, a6)] 12 = old := rfl
  have b8 : rol [(9, k0), (1, a1), (2, a2), (3, a3), (4, a4), (11, now), (12, old), (8, ke), (5, a5), (6, a6)] 8 = ke := rfl
  have b5 : rol [(9, k0), (1, a1), (2, a2), (3, a3), (4, a4), (11, now), (12, old), (8, ke), (5, a5), (6, a6)] 5 = a5 := rfl
  have b6 : rol [(9, k0), (1, a1), (2, a2), (3, a3), (4, a4), (11, now), (12, old), (8, ke), (5, a5), (6, a6)] 6 = a6 := rfl
  generalize rol [(9, k0), (1, a1), (2, a2), (3, a3), (4, a4), (11, now), (12, old), (8, ke), (5, a5), (6, a6)] = am' at *
  refine ⟨ro', am', ⟨fun q hq => ⟨Nat.le_trans hB (hm q hq).1, Nat.lt_of_le_of_lt (hm q hq).2.1 hz⟩, ⟨?_, r_g⟩, ⟨?_, by rw [b9]; exact r_k0⟩, ⟨⟨?_, fun k hk => absurd hk (Nat.not_lt_zero k)⟩, by decide, by rw [b1]; exact r_a1, fun k hk => absurd hk (Nat.not_lt_zero k)⟩, ⟨⟨?_, fun k hk => absurd hk (Nat.not_lt_zero k)⟩, by decide, by rw [b2]; exact r_a2, fun k hk => absurd hk (Nat.not_lt_zero k)⟩, ⟨⟨?_, fun k hk => absurd hk (Nat.not_lt_zero k)⟩, by decide, by rw [b3]; exact r_a3, fun k hk => absurd hk (Nat.not_lt_zero k)⟩, ⟨?_, by rw [b4]; exact r_a4⟩, ⟨⟨?_, fun k hk => absurd hk (Nat.not_lt_zero k)⟩, by decide, by rw [b5]; exact r_a5, fun k hk => absurd hk (Nat.not_lt_zero k)⟩, ⟨⟨?_, fun k hk => absurd hk (Nat.not_lt_zero k)⟩, by decide, by rw [b6]; exact r_a6, fun k hk => absurd hk (Nat.not_lt_zero k)⟩, ⟨⟨?_, ?_⟩, by rw [b11]; exact r_now, by rw [b12]; exact r_old⟩, ⟨?_, by rw [b8]; exact r_ke⟩⟩, fun q hq => (hm q hq).2.2⟩
  · show nwO d g 9 [.int (nI 0), .int (nI 0), .int (nI 0), .ref (am' 9), .int (nI 0), .int (oI none), .ref (am' 1), .ref (am' 2), .ref (am' 3), .ref (am' 4), .int (nI 0), .int (nI 0), .int (nI (sp_after 12)), .ref (am' 11), .ref (am' 12), .int (nI 0), .ref (am' 8), .ref (am' 5), .ref (am' 6), .int (nI 0)] H
    rw [b1, b2, b3, b4, b5, b6, b8, b9, b11, b12, show sp_after 12 = 0 by decide]
    exact hg
  · show nwI d (am' 9) 0 0 (fun c => nI 0) H
    rw [b9]; exact hk0
  · rw [b1]; exact nwLi_new ha1
  · rw [b2]; exact nwLi_new ha2
  · rw [b3]; exact nwLi_new ha3
  · show nwLi d (am' 4) 0 (fun k => nd_bx d 0) (fun q => ro' q = 7005) H
    rw [b4]; exact nwLi_new ha4
  · rw [b5]; exact nwLi_new ha5
  · rw [b6]; exact nwLi_new ha6
  · show nwI d (am' 11) 0 4 (fun h => nI 0) H
    rw [b11]; exact hn
  · show nwLi d (am' 12) 0 (fun k => nd_bx d 0) (fun q => ro' q = 7013) H
    rw [b12]; exact nwLi_new hold
  · show nwI d (am' 8) 0 6 (fun k => oI (some 0)) H
    rw [b8]; exact hk
set_option maxHeartbeats 4000000 in
theorem mX4_init (l : Launch) (hf : l.flags = flags0) (d : nwD) (g : Nat)  (H : Heap) (hB : nd_B d ≤ H.size) (hgB : nd_B d ≤ g) (hg : nwO d g 9 [.int (nI 0), .int (nI 0), .int (nI 0), .null, .int (nI 0), .int (nI 0), .null, .null, .null, .null, .int (nI 0), .int (nI 0), .int (nI 0), .null, .null, .int (nI 0), .null, .null, .null, .int (nI 0)] H)  : nwMt l d yX4_init cX4_init 1 none 5 105 11 60 [.ref g] H (fun v H1 => v = none ∧ ∃ ro' am' : Nat → Nat, nwMW d ro' am' g sp_new (nI 0) H1 ∧ ∀ q, ro' q ≠ 0 → q = g ∨ H.size ≤ q) nwNo (fun q => q = g ∨ H.size ≤ q) := by
  refine nw_start "NightwatchWallModel" "<init>" hf (by decide +kernel) rfl rfl (fun _ h => Or.inr h) (fun q h => h.elim (fun e => by rw [e]; exact hgB) (fun h => Nat.le_trans hB h)) (Nat.le_of_ble_eq_true rfl) ?_
  intro X C
  have hE := C.E0
  have hB0 := hB
  have hsz : H.size ≤ H.size := Nat.le_refl _
  show nwV X _ _ 1 H 0 0 0 [(0, .ref g)] []
  refine nw_aload_n C 0 dX4_init_0 rfl 1 rfl ?_
  refine nw_objInit C q1596 q133 q134 dX4_init_1 ⟨Nat.le_of_ble_eq_true rfl, Nat.le_of_ble_eq_true rfl⟩ (Nat.le_of_ble_eq_true rfl) 4 rfl ?_
  refine nw_aload_n C 0 dX4_init_4 rfl 5 rfl ?_
  refine nw_iconst C (nI 0) dX4_init_5 (by decide) 6 rfl ?_
  refine nw_newi C (by omega) 1 0 (by omega) (by omega) ⟨(show 1 ≤ 11 by omega), (show 0 ≤ 60 by omega)⟩ dX4_init_6 8 rfl (fun a1 H2 hx3 ho4 hz5 hq6 => ?_)
  have hlt7 : g < a1 := by rw [hx3]; exact hg.lt
  have hn8 : H.size ≤ a1 := by rw [hx3]; exact hsz
  have hsz := Nat.le_trans hsz (show _ ≤ H2.size by omega)
  have hB := Nat.le_trans hB0 hsz
  have hne9 : g ≠ a1 := Nat.ne_of_lt (by rw [hx3]; exact hg.lt)
  have ho10 := hg.kept (hq6 _ hg.lt)
  refine nw_put C ho10 (Or.inl rfl) (T := TX4) (ty0 := tyX4) rfl in_X4 tyX4_ok nmX4 3 (by decide) q1625 (Or.inl rfl) rfl rfl rfl (Nat.le_of_ble_eq_true rfl) dX4_init_8 11 rfl (fun H11 ho12 hz13 hq14 => ?_)
  have ho12 : nwO d g 9 [.int (nI 0), .int (nI 0), .int (nI 0), .ref a1, .int (nI 0), .int (nI 0), .null, .null, .null, .null, .int (nI 0), .int (nI 0), .int (nI 0), .null, .null, .int (nI 0), .null, .null, .null, .int (nI 0)] H11 := ho12
  have hsz := Nat.le_trans hsz (Nat.le_of_eq hz13.symm)
  have hB := Nat.le_trans hB0 hsz
  have ho15 := ho4.kept (hq14 _ (Ne.symm hne9))
  refine nw_aload_n C 0 dX4_init_11 rfl 12 rfl ?_
  refine nw_iconst C (oI none) dX4_init_12 (by decide) 13 rfl ?_
  refine nw_put C ho12 (Or.inl rfl) (T := TX4) (ty0 := tyX4) rfl in_X4 tyX4_ok nmX4 5 (by decide) q1627 (Or.inl rfl) rfl rfl rfl (Nat.le_of_ble_eq_true rfl) dX4_init_13 16 rfl (fun H16 ho17 hz18 hq19 => ?_)
  have ho17 : nwO d g 9 [.int (nI 0), .int (nI 0), .int (nI 0), .ref a1, .int (nI 0), .int (oI none), .null, .null, .null, .null, .int (nI 0), .int (nI 0), .int (nI 0), .null, .null, .int (nI 0), .null, .null, .null, .int (nI 0)] H16 := ho17
  have hsz := Nat.le_trans hsz (Nat.le_of_eq hz18.symm)
  have hB := Nat.le_trans hB0 hsz
  have ho20 := ho15.kept (hq19 _ (Ne.symm hne9))
  refine nw_aload_n C 0 dX4_init_16 rfl 17 rfl ?_
  refine nw_new C (ci := 13) (T := TJ3) (ty0 := tyJ3) [.int (nI 0), .null, .int (nI 0)] rfl in_J3 tyJ3_ok q1597 q141 q90 (fun j hj => by rcases (show j = 0 ∨ j = 1 ∨ j = 2 by omega) with rfl | rfl | rfl <;> rfl) 2 3 (by omega) (by omega) ⟨(show 2 ≤ 11 by omega), (show 3 ≤ 60 by omega)⟩ dX4_init_17 20 rfl (fun a21 H22 hx23 ho24 hz25 hq26 => ?_)
  have hlt27 : a1 < a21 := by rw [hx23]; exact ho20.lt
  have hn28 : H.size ≤ a21 := by rw [hx23]; exact hsz
  have hsz := Nat.le_trans hsz (show _ ≤ H22.size by omega)
  have hB := Nat.le_trans hB0 hsz
  have hne29 : g ≠ a21 := Nat.ne_of_lt (by rw [hx23]; exact ho17.lt)
  have ho30 := ho17.kept (hq26 _ ho17.lt)
  have hne31 : a1 ≠ a21 := Nat.ne_of_lt (by rw [hx23]; exact ho20.lt)
  have ho32 := ho20.kept (hq26 _ ho20.lt)
  refine nw_dup C dX4_init_20 rfl 21 rfl ?_
  refine nw_callI C (mJ3_init _ C.hfl d a21  H22 hB (Nat.le_trans hB0 hn28) ho24 ) kJ3_init q1598 (As := []) (rest := [.ref a21, .ref g]) rfl rfl ⟨⟨Nat.le_of_ble_eq_true rfl, Nat.le_of_ble_eq_true rfl⟩, (show 2 + 0 ≤ 11 by omega), (show 3 + 0 ≤ 60 by omega)⟩ (Nat.le_of_ble_eq_true rfl) (fun q8 h8 h9 => h9.elim (fun e9 => by rw [e9]; exact (Or.inr hn28)) (fun e9 => absurd h8 (Nat.not_lt.mpr e9))) dX4_init_21 24 rfl (fun v9 H33 hR34 hz35 hq36 => ?_) nw_noX
  obtain ⟨rfl, ho37⟩ := hR34
  have ho38 := ho30.kept (hq36 _ ho30.lt (fun e9 => e9.elim hne29 (Nat.not_le.mpr ho30.lt)))
  have ho39 := ho32.kept (hq36 _ ho32.lt (fun e9 => e9.elim hne31 (Nat.not_le.mpr ho32.lt)))
  have hsz := Nat.le_trans hsz hz35
  have hB := Nat.le_trans hB0 hsz
  show nwV X _ _ 1 H33 (2 + 0) (3 + 0) 24 [(0, .ref g)] [.ref a21, .ref g]
  refine nw_wide (k' := 2) (n' := 3) (by omega) (by omega) ?_
  refine nw_put C ho38 (Or.inl rfl) (T := TX4) (ty0 := tyX4) rfl in_X4 tyX4_ok nmX4 6 (by decide) q1628 (Or.inl rfl) rfl rfl rfl (Nat.le_of_ble_eq_true rfl) dX4_init_24 27 rfl (fun H40 ho41 hz42 hq43 => ?_)
  have ho41 : nwO d g 9 [.int (nI 0), .int (nI 0), .int (nI 0), .ref a1, .int (nI 0), .int (oI none), .ref a21, .null, .null, .null, .int (nI 0), .int (nI 0), .int (nI 0), .null, .null, .int (nI 0), .null, .null, .null, .int (nI 0)] H40 := ho41
  have hsz := Nat.le_trans hsz (Nat.le_of_eq hz42.symm)
  have hB := Nat.le_trans hB0 hsz
  have ho44 := ho39.kept (hq43 _ (Ne.symm hne9))
  have ho45 := ho37.kept (hq43 _ (Ne.symm hne29))
  refine nw_aload_n C 0 dX4_init_27 rfl 28 rfl ?_
  refine nw_new C (ci := 13) (T := TJ3) (ty0 := tyJ3) [.int (nI 0), .null, .int (nI 0)] rfl in_J3 tyJ3_ok q1597 q141 q90 (fun j hj => by rcases (show j = 0 ∨ j = 1 ∨ j = 2 by omega) with rfl | rfl | rfl <;> rfl) 3 6 (by omega) (by omega) ⟨(show 3 ≤ 11 by omega), (show 6 ≤ 60 by omega)⟩ dX4_init_28 31 rfl (fun a46 H47 hx48 ho49 hz50 hq51 => ?_)
  have hlt52 : a21 < a46 := by rw [hx48]; exact ho45.lt
  have hn53 : H.size ≤ a46 := by rw [hx48]; exact hsz
  have hsz := Nat.le_trans hsz (show _ ≤ H47.size by omega)
  have hB := Nat.le_trans hB0 hsz
  have hne54 : g ≠ a46 := Nat.ne_of_lt (by rw [hx48]; exact ho41.lt)
  have ho55 := ho41.kept (hq51 _ ho41.lt)
  have hne56 : a1 ≠ a46 := Nat.ne_of_lt (by rw [hx48]; exact ho44.lt)
  have ho57 := ho44.kept (hq51 _ ho44.lt)
  have hne58 : a21 ≠ a46 := Nat.ne_of_lt (by rw [hx48]; exact ho45.lt)
  have ho59 := ho45.kept (hq51 _ ho45.lt)
  refine nw_dup C dX4_init_31 rfl 32 rfl ?_
  refine nw_callI C (mJ3_init _ C.hfl d a46  H47 hB (Nat.le_trans hB0 hn53) ho49 ) kJ3_init q1598 (As := []) (rest := [.ref a46, .ref g]) rfl rfl ⟨⟨Nat.le_of_ble_eq_true rfl, Nat.le_of_ble_eq_true rfl⟩, (show 3 + 0 ≤ 11 by omega), (show 6 + 0 ≤ 60 by omega)⟩ (Nat.le_of_ble_eq_true rfl) (fun q8 h8 h9 => h9.elim (fun e9 => by rw [e9]; exact (Or.inr hn53)) (fun e9 => absurd h8 (Nat.not_lt.mpr e9))) dX4_init_32 35 rfl (fun v9 H60 hR61 hz62 hq63 => ?_) nw_noX
  obtain ⟨rfl, ho64⟩ := hR61
  have ho65 := ho55.kept (hq63 _ ho55.lt (fun e9 => e9.elim hne54 (Nat.not_le.mpr ho55.lt)))
  have ho66 := ho57.kept (hq63 _ ho57.lt (fun e9 => e9.elim hne56 (Nat.not_le.mpr ho57.lt)))
  have ho67 := ho59.kept (hq63 _ ho59.lt (fun e9 => e9.elim hne58 (Nat.not_le.mpr ho59.lt)))
  have hsz := Nat.le_trans hsz hz62
  have hB := Nat.le_trans hB0 hsz
  show nwV X _ _ 1 H60 (3 + 0) (6 + 0) 35 [(0, .ref g)] [.ref a46, .ref g]
  refine nw_wide (k' := 3) (n' := 6) (by omega) (by omega) ?_
  refine nw_put C ho65 (Or.inl rfl) (T := TX4) (ty0 := tyX4) rfl in_X4 tyX4_ok nmX4 7 (by decide) q1629 (Or.inl rfl) rfl rfl rfl (Nat.le_of_ble_eq_true rfl) dX4_init_35 38 rfl (fun H68 ho69 hz70 hq71 => ?_)
  have ho69 : nwO d g 9 [.int (nI 0), .int (nI 0), .int (nI 0), .ref a1, .int (nI 0), .int (oI none), .ref a21, .ref a46, .null, .null, .int (nI 0), .int (nI 0), .int (nI 0), .null, .null, .int (nI 0), .null, .null, .null, .int (nI 0)] H68 := ho69
  have hsz := Nat.le_trans hsz (Nat.le_of_eq hz70.symm)
  have hB := Nat.le_trans hB0 hsz
  have ho72 := ho66.kept (hq71 _ (Ne.symm hne9))
  have ho73 := ho67.kept (hq71 _ (Ne.symm hne29))
  have ho74 := ho64.kept (hq71 _ (Ne.symm hne54))
  refine nw_aload_n C 0 dX4_init_38 rfl 39 rfl ?_
  refine nw_new C (ci := 13) (T := TJ3) (ty0 := tyJ3) [.int (nI 0), .null, .int (nI 0)] rfl in_J3 tyJ3_ok q1597 q141 q90 (fun j hj => by rcases (show j = 0 ∨ j = 1 ∨ j = 2 by omega) with rfl | rfl | rfl <;> rfl) 4 9 (by omega) (by omega) ⟨(show 4 ≤ 11 by omega), (show 9 ≤ 60 by omega)⟩ dX4_init_39 42 rfl (fun a75 H76 hx77 ho78 hz79 hq80 => ?_)
  have hlt81 : a46 < a75 := by rw [hx77]; exact ho74.lt
  have hn82 : H.size ≤ a75 := by rw [hx77]; exact hsz
  have hsz := Nat.le_trans hsz (show _ ≤ H76.size by omega)
  have hB := Nat.le_trans hB0 hsz
  have hne83 : g ≠ a75 := Nat.ne_of_lt (by rw [hx77]; exact ho69.lt)
  have ho84 := ho69.kept (hq80 _ ho69.lt)
  have hne85 : a1 ≠ a75 := Nat.ne_of_lt (by rw [hx77]; exact ho72.lt)
  have ho86 := ho72.kept (hq80 _ ho72.lt)
  have hne87 : a21 ≠ a75 := Nat.ne_of_lt (by rw [hx77]; exact ho73.lt)
  have ho88 := ho73.kept (hq80 _ ho73.lt)
  have hne89 : a46 ≠ a75 := Nat.ne_of_lt (by rw [hx77]; exact ho74.lt)
  have ho90 := ho74.kept (hq80 _ ho74.lt)
  refine nw_dup C dX4_init_42 rfl 43 rfl ?_
  refine nw_callI C (mJ3_init _ C.hfl d a75  H76 hB (Nat.le_trans hB0 hn82) ho78 ) kJ3_init q1598 (As := []) (rest := [.ref a75, .ref g]) rfl rfl ⟨⟨Nat.le_of_ble_eq_true rfl, Nat.le_of_ble_eq_true rfl⟩, (show 4 + 0 ≤ 11 by omega), (show 9 + 0 ≤ 60 by omega)⟩ (Nat.le_of_ble_eq_true rfl) (fun q8 h8 h9 => h9.elim (fun e9 => by rw [e9]; exact (Or.inr hn82)) (fun e9 => absurd h8 (Nat.not_lt.mpr e9))) dX4_init_43 46 rfl (fun v9 H91 hR92 hz93 hq94 => ?_) nw_noX
  obtain ⟨rfl, ho95⟩ := hR92
  have ho96 := ho84.kept (hq94 _ ho84.lt (fun e9 => e9.elim hne83 (Nat.not_le.mpr ho84.lt)))
  have ho97 := ho86.kept (hq94 _ ho86.lt (fun e9 => e9.elim hne85 (Nat.not_le.mpr ho86.lt)))
  have ho98 := ho88.kept (hq94 _ ho88.lt (fun e9 => e9.elim hne87 (Nat.not_le.mpr ho88.lt)))
  have ho99 := ho90.kept (hq94 _ ho90.lt (fun e9 => e9.elim hne89 (Nat.not_le.mpr ho90.lt)))
  have hsz := Nat.le_trans hsz hz93
  have hB := Nat.le_trans hB0 hsz
  show nwV X _ _ 1 H91 (4 + 0) (9 + 0) 46 [(0, .ref g)] [.ref a75, .ref g]
  refine nw_wide (k' := 4) (n' := 9) (by omega) (by omega) ?_
  refine nw_put C ho96 (Or.inl rfl) (T := TX4) (ty0 := tyX4) rfl in_X4 tyX4_ok nmX4 8 (by decide) q1630 (Or.inl rfl) rfl rfl rfl (Nat.le_of_ble_eq_true rfl) dX4_init_46 49 rfl (fun H100 ho101 hz102 hq103 => ?_)
  have ho101 : nwO d g 9 [.int (nI 0), .int (nI 0), .int (nI 0), .ref a1, .int (nI 0), .int (oI none), .ref a21, .ref a46, .ref a75, .null, .int (nI 0), .int (nI 0), .int (nI 0), .null, .null, .int (nI 0), .null, .null, .null, .int (nI 0)] H100 := ho101
  have hsz := Nat.le_trans hsz (Nat.le_of_eq hz102.symm)
  have hB := Nat.le_trans hB0 hsz
  have ho104 := ho97.kept (hq103 _ (Ne.symm hne9))
  have ho105 := ho98.kept (hq103 _ (Ne.symm hne29))
  have ho106 := ho99.kept (hq103 _ (Ne.symm hne54))
  have ho107 := ho95.kept (hq103 _ (Ne.symm hne83))
  refine nw_aload_n C 0 dX4_init_49 rfl 50 rfl ?_
  refine nw_new C (ci := 13) (T := TJ3) (ty0 := tyJ3) [.int (nI 0), .null, .int (nI 0)] rfl in_J3 tyJ3_ok q1597 q141 q90 (fun j hj => by rcases (show j = 0 ∨ j = 1 ∨ j = 2 by omega) with rfl | rfl | rfl <;> rfl) 5 12 (by omega) (by omega) ⟨(show 5 ≤ 11 by omega), (show 12 ≤ 60 by omega)⟩ dX4_init_50 53 rfl (fun a108 H109 hx110 ho111 hz112 hq113 => ?_)
  have hlt114 : a75 < a108 := by rw [hx110]; exact ho107.lt
  have hn115 : H.size ≤ a108 := by rw [hx110]; exact hsz
  have hsz := Nat.le_trans hsz (show _ ≤ H109.size by omega)
  have hB := Nat.le_trans hB0 hsz
  have hne116 : g ≠ a108 := Nat.ne_of_lt (by rw [hx110]; exact ho101.lt)
  have ho117 := ho101.kept (hq113 _ ho101.lt)
  have hne118 : a1 ≠ a108 := Nat.ne_of_lt (by rw [hx110]; exact ho104.lt)
  have ho119 := ho104.kept (hq113 _ ho104.lt)
  have hne120 : a21 ≠ a108 := Nat.ne_of_lt (by rw [hx110]; exact ho105.lt)
  have ho121 := ho105.kept (hq113 _ ho105.lt)
  have hne122 : a46 ≠ a108 := Nat.ne_of_lt (by rw [hx110]; exact ho106.lt)
  have ho123 := ho106.kept (hq113 _ ho106.lt)
  have hne124 : a75 ≠ a108 := Nat.ne_of_lt (by rw [hx110]; exact ho107.lt)
  have ho125 := ho107.kept (hq113 _ ho107.lt)
  refine nw_dup C dX4_init_53 rfl 54 rfl ?_
  refine nw_callI C (mJ3_init _ C.hfl d a108  H109 hB (Nat.le_trans hB0 hn115) ho111 ) kJ3_init q1598 (As := []) (rest := [.ref a108, .ref g]) rfl rfl ⟨⟨Nat.le_of_ble_eq_true rfl, Nat.le_of_ble_eq_true rfl⟩, (show 5 + 0 ≤ 11 by omega), (show 12 + 0 ≤ 60 by omega)⟩ (Nat.le_of_ble_eq_true rfl) (fun q8 h8 h9 => h9.elim (fun e9 => by rw [e9]; exact (Or.inr hn115)) (fun e9 => absurd h8 (Nat.not_lt.mpr e9))) dX4_init_54 57 rfl (fun v9 H126 hR127 hz128 hq129 => ?_) nw_noX
  obtain ⟨rfl, ho130⟩ := hR127
  have ho131 := ho117.kept (hq129 _ ho117.lt (fun e9 => e9.elim hne116 (Nat.not_le.mpr ho117.lt)))
  have ho132 := ho119.kept (hq129 _ ho119.lt (fun e9 => e9.elim hne118 (Nat.not_le.mpr ho119.lt)))
  have ho133 := ho121.kept (hq129 _ ho121.lt (fun e9 => e9.elim hne120 (Nat.not_le.mpr ho121.lt)))
  have ho134 := ho123.kept (hq129 _ ho123.lt (fun e9 => e9.elim hne122 (Nat.not_le.mpr ho123.lt)))
  have ho135 := ho125.kept (hq129 _ ho125.lt (fun e9 => e9.elim hne124 (Nat.not_le.mpr ho125.lt)))
  have hsz := Nat.le_trans hsz hz128
  have hB := Nat.le_trans hB0 hsz
  show nwV X _ _ 1 H126 (5 + 0) (12 + 0) 57 [(0, .ref g)] [.ref a108, .ref g]
  refine nw_wide (k' := 5) (n' := 12) (by omega) (by omega) ?_
  refine nw_put C ho131 (Or.inl rfl) (T := TX4) (ty0 := tyX4) rfl in_X4 tyX4_ok nmX4 9 (by decide) q1631 (Or.inl rfl) rfl rfl rfl (Nat.le_of_ble_eq_true rfl) dX4_init_57 60 rfl (fun H136 ho137 hz138 hq139 => ?_)
  have ho137 : nwO d g 9 [.int (nI 0), .int (nI 0), .int (nI 0), .ref a1, .int (nI 0), .int (oI none), .ref a21, .ref a46, .ref a75, .ref a108, .int (nI 0), .int (nI 0), .int (nI 0), .null, .null, .int (nI 0), .null, .null, .null, .int (nI 0)] H136 := ho137
  have hsz := Nat.le_trans hsz (Nat.le_of_eq hz138.symm)
  have hB := Nat.le_trans hB0 hsz
  have ho140 := ho132.kept (hq139 _ (Ne.symm hne9))
  have ho141 := ho133.kept (hq139 _ (Ne.symm hne29))
  have ho142 := ho134.kept (hq139 _ (Ne.symm hne54))
  have ho143 := ho135.kept (hq139 _ (Ne.symm hne83))
  have ho144 := ho130.kept (hq139 _ (Ne.symm hne116))
  refine nw_aload_n C 0 dX4_init_60 rfl 61 rfl ?_
  refine nw_iconst C (nI 4) dX4_init_61 (by decide) 62 rfl ?_
  refine nw_newi C (by omega) 6 16 (by omega) (by omega) ⟨(show 6 ≤ 11 by omega), (show 16 ≤ 60 by omega)⟩ dX4_init_62 64 rfl (fun a145 H146 hx147 ho148 hz149 hq150 => ?_)
  have hlt151 : a108 < a145 := by rw [hx147]; exact ho144.lt
  have hn152 : H.size ≤ a145 := by rw [hx147]; exact hsz
  have hsz := Nat.le_trans hsz (show _ ≤ H146.size by omega)
  have hB := Nat.le_trans hB0 hsz
  have hne153 : g ≠ a145 := Nat.ne_of_lt (by rw [hx147]; exact ho137.lt)
  have ho154 := ho137.kept (hq150 _ ho137.lt)
  have hne155 : a1 ≠ a145 := Nat.ne_of_lt (by rw [hx147]; exact ho140.lt)
  have ho156 := ho140.kept (hq150 _ ho140.lt)
  have hne157 : a21 ≠ a145 := Nat.ne_of_lt (by rw [hx147]; exact ho141.lt)
  have ho158 := ho141.kept (hq150 _ ho141.lt)
  have hne159 : a46 ≠ a145 := Nat.ne_of_lt (by rw [hx147]; exact ho142.lt)
  have ho160 := ho142.kept (hq150 _ ho142.lt)
  have hne161 : a75 ≠ a145 := Nat.ne_of_lt (by rw [hx147]; exact ho143.lt)
  have ho162 := ho143.kept (hq150 _ ho143.lt)
  have hne163 : a108 ≠ a145 := Nat.ne_of_lt (by rw [hx147]; exact ho144.lt)
  have ho164 := ho144.kept (hq150 _ ho144.lt)
  refine nw_putF C ho154 (Or.inl rfl) (T := TX4) (ty0 := tyX4) rfl in_X4 tyX4_ok nmX4 13 (by decide) q1635 rfl rfl rfl rfl (Nat.le_of_ble_eq_true rfl) dX4_init_64 67 rfl (fun H165 ho166 hz167 hq168 => ?_)
  have ho166 : nwO d g 9 [.int (nI 0), .int (nI 0), .int (nI 0), .ref a1, .int (nI 0), .int (oI none), .ref a21, .ref a46, .ref a75, .ref a108, .int (nI 0), .int (nI 0), .int (nI 0), .ref a145, .null, .int (nI 0), .null, .null, .null, .int (nI 0)] H165 := ho166
  have hsz := Nat.le_trans hsz (Nat.le_of_eq hz167.symm)
  have hB := Nat.le_trans hB0 hsz
  have ho169 := ho156.kept (hq168 _ (Ne.symm hne9))
  have ho170 := ho158.kept (hq168 _ (Ne.symm hne29))
  have ho171 := ho160.kept (hq168 _ (Ne.symm hne54))
  have ho172 := ho162.kept (hq168 _ (Ne.symm hne83))
  have ho173 := ho164.kept (hq168 _ (Ne.symm hne116))
  have ho174 := ho148.kept (hq168 _ (Ne.symm hne153))
  refine nw_aload_n C 0 dX4_init_67 rfl 68 rfl ?_
  refine nw_new C (ci := 13) (T := TJ3) (ty0 := tyJ3) [.int (nI 0), .null, .int (nI 0)] rfl in_J3 tyJ3_ok q1597 q141 q90 (fun j hj => by rcases (show j = 0 ∨ j = 1 ∨ j = 2 by omega) with rfl | rfl | rfl <;> rfl) 7 19 (by omega) (by omega) ⟨(show 7 ≤ 11 by omega), (show 19 ≤ 60 by omega)⟩ dX4_init_68 71 rfl (fun a175 H176 hx177 ho178 hz179 hq180 => ?_)
  have hlt181 : a145 < a175 := by rw [hx177]; exact ho174.lt
  have hn182 : H.size ≤ a175 := by rw [hx177]; exact hsz
  have hsz := Nat.le_trans hsz (show _ ≤ H176.size by omega)
  have hB := Nat.le_trans hB0 hsz
  have hne183 : g ≠ a175 := Nat.ne_of_lt (by rw [hx177]; exact ho166.lt)
  have ho184 := ho166.kept (hq180 _ ho166.lt)
  have hne185 : a1 ≠ a175 := Nat.ne_of_lt (by rw [hx177]; exact ho169.lt)
  have ho186 := ho169.kept (hq180 _ ho169.lt)
  have hne187 : a21 ≠ a175 := Nat.ne_of_lt (by rw [hx177]; exact ho170.lt)
  have ho188 := ho170.kept (hq180 _ ho170.lt)
  have hne189 : a46 ≠ a175 := Nat.ne_of_lt (by rw [hx177]; exact ho171.lt)
  have ho190 := ho171.kept (hq180 _ ho171.lt)
  have hne191 : a75 ≠ a175 := Nat.ne_of_lt (by rw [hx177]; exact ho172.lt)
  have ho192 := ho172.kept (hq180 _ ho172.lt)
  have hne193 : a108 ≠ a175 := Nat.ne_of_lt (by rw [hx177]; exact ho173.lt)
  have ho194 := ho173.kept (hq180 _ ho173.lt)
  have hne195 : a145 ≠ a175 := Nat.ne_of_lt (by rw [hx177]; exact ho174.lt)
  have ho196 := ho174.kept (hq180 _ ho174.lt)
  refine nw_dup C dX4_init_71 rfl 72 rfl ?_
  refine nw_callI C (mJ3_init _ C.hfl d a175  H176 hB (Nat.le_trans hB0 hn182) ho178 ) kJ3_init q1598 (As := []) (rest := [.ref a175, .ref g]) rfl rfl ⟨⟨Nat.le_of_ble_eq_true rfl, Nat.le_of_ble_eq_true rfl⟩, (show 7 + 0 ≤ 11 by omega), (show 19 + 0 ≤ 60 by omega)⟩ (Nat.le_of_ble_eq_true rfl) (fun q8 h8 h9 => h9.elim (fun e9 => by rw [e9]; exact (Or.inr hn182)) (fun e9 => absurd h8 (Nat.not_lt.mpr e9))) dX4_init_72 75 rfl (fun v9 H197 hR198 hz199 hq200 => ?_) nw_noX
  obtain ⟨rfl, ho201⟩ := hR198
  have ho202 := ho184.kept (hq200 _ ho184.lt (fun e9 => e9.elim hne183 (Nat.not_le.mpr ho184.lt)))
  have ho203 := ho186.kept (hq200 _ ho186.lt (fun e9 => e9.elim hne185 (Nat.not_le.mpr ho186.lt)))
  have ho204 := ho188.kept (hq200 _ ho188.lt (fun e9 => e9.elim hne187 (Nat.not_le.mpr ho188.lt)))
  have ho205 := ho190.kept (hq200 _ ho190.lt (fun e9 => e9.elim hne189 (Nat.not_le.mpr ho190.lt)))
  have ho206 := ho192.kept (hq200 _ ho192.lt (fun e9 => e9.elim hne191 (Nat.not_le.mpr ho192.lt)))
  have ho207 := ho194.kept (hq200 _ ho194.lt (fun e9 => e9.elim hne193 (Nat.not_le.mpr ho194.lt)))
  have ho208 := ho196.kept (hq200 _ ho196.lt (fun e9 => e9.elim hne195 (Nat.not_le.mpr ho196.lt)))
  have hsz := Nat.le_trans hsz hz199
  have hB := Nat.le_trans hB0 hsz
  show nwV X _ _ 1 H197 (7 + 0) (19 + 0) 75 [(0, .ref g)] [.ref a175, .ref g]
  refine nw_wide (k' := 7) (n' := 19) (by omega) (by omega) ?_
  refine nw_put C ho202 (Or.inl rfl) (T := TX4) (ty0 := tyX4) rfl in_X4 tyX4_ok nmX4 14 (by decide) q1636 (Or.inl rfl) rfl rfl rfl (Nat.le_of_ble_eq_true rfl) dX4_init_75 78 rfl (fun H209 ho210 hz211 hq212 => ?_)
  have ho210 : nwO d g 9 [.int (nI 0), .int (nI 0), .int (nI 0), .ref a1, .int (nI 0), .int (oI none), .ref a21, .ref a46, .ref a75, .ref a108, .int (nI 0), .int (nI 0), .int (nI 0), .ref a145, .ref a175, .int (nI 0), .null, .null, .null, .int (nI 0)] H209 := ho210
  have hsz := Nat.le_trans hsz (Nat.le_of_eq hz211.symm)
  have hB := Nat.le_trans hB0 hsz
  have ho213 := ho203.kept (hq212 _ (Ne.symm hne9))
  have ho214 := ho204.kept (hq212 _ (Ne.symm hne29))
  have ho215 := ho205.kept (hq212 _ (Ne.symm hne54))
  have ho216 := ho206.kept (hq212 _ (Ne.symm hne83))
  have ho217 := ho207.kept (hq212 _ (Ne.symm hne116))
  have ho218 := ho208.kept (hq212 _ (Ne.symm hne153))
  have ho219 := ho201.kept (hq212 _ (Ne.symm hne183))
  refine nw_aload_n C 0 dX4_init_78 rfl 79 rfl ?_
  refine nw_bipush C (nI 6) dX4_init_79 (by decide) 81 rfl ?_
  refine nw_newi C (by omega) 8 25 (by omega) (by omega) ⟨(show 8 ≤ 11 by omega), (show 25 ≤ 60 by omega)⟩ dX4_init_81 83 rfl (fun a220 H221 hx222 ho223 hz224 hq225 => ?_)
  have hlt226 : a175 < a220 := by rw [hx222]; exact ho219.lt
  have hn227 : H.size ≤ a220 := by rw [hx222]; exact hsz
  have hsz := Nat.le_trans hsz (show _ ≤ H221.size by omega)
  have hB := Nat.le_trans hB0 hsz
  have hne228 : g ≠ a220 := Nat.ne_of_lt (by rw [hx222]; exact ho210.lt)
  have ho229 := ho210.kept (hq225 _ ho210.lt)
  have hne230 : a1 ≠ a220 := Nat.ne_of_lt (by rw [hx222]; exact ho213.lt)
  have ho231 := ho213.kept (hq225 _ ho213.lt)
  have hne232 : a21 ≠ a220 := Nat.ne_of_lt (by rw [hx222]; exact ho214.lt)
  have ho233 := ho214.kept (hq225 _ ho214.lt)
  have hne234 : a46 ≠ a220 := Nat.ne_of_lt (by rw [hx222]; exact ho215.lt)
  have ho235 := ho215.kept (hq225 _ ho215.lt)
  have hne236 : a75 ≠ a220 := Nat.ne_of_lt (by rw [hx222]; exact ho216.lt)
  have ho237 := ho216.kept (hq225 _ ho216.lt)
  have hne238 : a108 ≠ a220 := Nat.ne_of_lt (by rw [hx222]; exact ho217.lt)
  have ho239 := ho217.kept (hq225 _ ho217.lt)
  have hne240 : a145 ≠ a220 := Nat.ne_of_lt (by rw [hx222]; exact ho218.lt)
  have ho241 := ho218.kept (hq225 _ ho218.lt)
  have hne242 : a175 ≠ a220 := Nat.ne_of_lt (by rw [hx222]; exact ho219.lt)
  have ho243 := ho219.kept (hq225 _ ho219.lt)
  refine nw_putF C ho229 (Or.inl rfl) (T := TX4) (ty0 := tyX4) rfl in_X4 tyX4_ok nmX4 16 (by decide) q1638 rfl rfl rfl rfl (Nat.le_of_ble_eq_true rfl) dX4_init_83 86 rfl (fun H244 ho245 hz246 hq247 => ?_)
  have ho245 : nwO d g 9 [.int (nI 0), .int (nI 0), .int (nI 0), .ref a1, .int (nI 0), .int (oI none), .ref a21, .ref a46, .ref a75, .ref a108, .int (nI 0), .int (nI 0), .int (nI 0), .ref a145, .ref a175, .int (nI 0), .ref a220, .null, .null, .int (nI 0)] H244 := ho245
  have hsz := Nat.le_trans hsz (Nat.le_of_eq hz246.symm)
  have hB := Nat.le_trans hB0 hsz
  have ho248 := ho231.kept (hq247 _ (Ne.symm hne9))
  have ho249 := ho233.kept (hq247 _ (Ne.symm hne29))
  have ho250 := ho235.kept (hq247 _ (Ne.symm hne54))
  have ho251 := ho237.kept (hq247 _ (Ne.symm hne83))
  have ho252 := ho239.kept (hq247 _ (Ne.symm hne116))
  have ho253 := ho241.kept (hq247 _ (Ne.symm hne153))
  have ho254 := ho243.kept (hq247 _ (Ne.symm hne183))
  have ho255 := ho223.kept (hq247 _ (Ne.symm hne228))
  refine nw_aload_n C 0 dX4_init_86 rfl 87 rfl ?_
  refine nw_new C (ci := 13) (T := TJ3) (ty0 := tyJ3) [.int (nI 0), .null, .int (nI 0)] rfl in_J3 tyJ3_ok q1597 q141 q90 (fun j hj => by rcases (show j = 0 ∨ j = 1 ∨ j = 2 by omega) with rfl | rfl | rfl <;> rfl) 9 28 (by omega) (by omega) ⟨(show 9 ≤ 11 by omega), (show 28 ≤ 60 by omega)⟩ dX4_init_87 90 rfl (fun a256 H257 hx258 ho259 hz260 hq261 => ?_)
  have hlt262 : a220 < a256 := by rw [hx258]; exact ho255.lt
  have hn263 : H.size ≤ a256 := by rw [hx258]; exact hsz
  have hsz := Nat.le_trans hsz (show _ ≤ H257.size by omega)
  have hB := Nat.le_trans hB0 hsz
  have hne264 : g ≠ a256 := Nat.ne_of_lt (by rw [hx258]; exact ho245.lt)
  have ho265 := ho245.kept (hq261 _ ho245.lt)
  have hne266 : a1 ≠ a256 := Nat.ne_of_lt (by rw [hx258]; exact ho248.lt)
  have ho267 := ho248.kept (hq261 _ ho248.lt)
  have hne268 : a21 ≠ a256 := Nat.ne_of_lt (by rw [hx258]; exact ho249.lt)
  have ho269 := ho249.kept (hq261 _ ho249.lt)
  have hne270 : a46 ≠ a256 := Nat.ne_of_lt (by rw [hx258]; exact ho250.lt)
  have ho271 := ho250.kept (hq261 _ ho250.lt)
  have hne272 : a75 ≠ a256 := Nat.ne_of_lt (by rw [hx258]; exact ho251.lt)
  have ho273 := ho251.kept (hq261 _ ho251.lt)
  have hne274 : a108 ≠ a256 := Nat.ne_of_lt (by rw [hx258]; exact ho252.lt)
  have ho275 := ho252.kept (hq261 _ ho252.lt)
  have hne276 : a145 ≠ a256 := Nat.ne_of_lt (by rw [hx258]; exact ho253.lt)
  have ho277 := ho253.kept (hq261 _ ho253.lt)
  have hne278 : a175 ≠ a256 := Nat.ne_of_lt (by rw [hx258]; exact ho254.lt)
  have ho279 := ho254.kept (hq261 _ ho254.lt)
  have hne280 : a220 ≠ a256 := Nat.ne_of_lt (by rw [hx258]; exact ho255.lt)
  have ho281 := ho255.kept (hq261 _ ho255.lt)
  refine nw_dup C dX4_init_90 rfl 91 rfl ?_
  refine nw_callI C (mJ3_init _ C.hfl d a256  H257 hB (Nat.le_trans hB0 hn263) ho259 ) kJ3_init q1598 (As := []) (rest := [.ref a256, .ref g]) rfl rfl ⟨⟨Nat.le_of_ble_eq_true rfl, Nat.le_of_ble_eq_true rfl⟩, (show 9 + 0 ≤ 11 by omega), (show 28 + 0 ≤ 60 by omega)⟩ (Nat.le_of_ble_eq_true rfl) (fun q8 h8 h9 => h9.elim (fun e9 => by rw [e9]; exact (Or.inr hn263)) (fun e9 => absurd h8 (Nat.not_lt.mpr e9))) dX4_init_91 94 rfl (fun v9 H282 hR283 hz284 hq285 => ?_) nw_noX
  obtain ⟨rfl, ho286⟩ := hR283
  have ho287 := ho265.kept (hq285 _ ho265.lt (fun e9 => e9.elim hne264 (Nat.not_le.mpr ho265.lt)))
  have ho288 := ho267.kept (hq285 _ ho267.lt (fun e9 => e9.elim hne266 (Nat.not_le.mpr ho267.lt)))
  have ho289 := ho269.kept (hq285 _ ho269.lt (fun e9 => e9.elim hne268 (Nat.not_le.mpr ho269.lt)))
  have ho290 := ho271.kept (hq285 _ ho271.lt (fun e9 => e9.elim hne270 (Nat.not_le.mpr ho271.lt)))
  have ho291 := ho273.kept (hq285 _ ho273.lt (fun e9 => e9.elim hne272 (Nat.not_le.mpr ho273.lt)))
  have ho292 := ho275.kept (hq285 _ ho275.lt (fun e9 => e9.elim hne274 (Nat.not_le.mpr ho275.lt)))
  have ho293 := ho277.kept (hq285 _ ho277.lt (fun e9 => e9.elim hne276 (Nat.not_le.mpr ho277.lt)))
  have ho294 := ho279.kept (hq285 _ ho279.lt (fun e9 => e9.elim hne278 (Nat.not_le.mpr ho279.lt)))
  have ho295 := ho281.kept (hq285 _ ho281.lt (fun e9 => e9.elim hne280 (Nat.not_le.mpr ho281.lt)))
  have hsz := Nat.le_trans hsz hz284
  have hB := Nat.le_trans hB0 hsz
  show nwV X _ _ 1 H282 (9 + 0) (28 + 0) 94 [(0, .ref g)] [.ref a256, .ref g]
  refine nw_wide (k' := 9) (n' := 28) (by omega) (by omega) ?_
  refine nw_put C ho287 (Or.inl rfl) (T := TX4) (ty0 := tyX4) rfl in_X4 tyX4_ok nmX4 17 (by decide) q1639 (Or.inl rfl) rfl rfl rfl (Nat.le_of_ble_eq_true rfl) dX4_init_94 97 rfl (fun H296 ho297 hz298 hq299 => ?_)
  have ho297 : nwO d g 9 [.int (nI 0), .int (nI 0), .int (nI 0), .ref a1, .int (nI 0), .int (oI none), .ref a21, .ref a46, .ref a75, .ref a108, .int (nI 0), .int (nI 0), .int (nI 0), .ref a145, .ref a175, .int (nI 0), .ref a220, .ref a256, .null, .int (nI 0)] H296 := ho297
  have hsz := Nat.le_trans hsz (Nat.le_of_eq hz298.symm)
  have hB := Nat.le_trans hB0 hsz
  have ho300 := ho288.kept (hq299 _ (Ne.symm hne9))
  have ho301 := ho289.kept (hq299 _ (Ne.symm hne29))
  have ho302 := ho290.kept (hq299 _ (Ne.symm hne54))
  have ho303 := ho291.kept (hq299 _ (Ne.symm hne83))
  have ho304 := ho292.kept (hq299 _ (Ne.symm hne116))
  have ho305 := ho293.kept (hq299 _ (Ne.symm hne153))
  have ho306 := ho294.kept (hq299 _ (Ne.symm hne183))
  have ho307 := ho295.kept (hq299 _ (Ne.symm hne228))
  have ho308 := ho286.kept (hq299 _ (Ne.symm hne264))
  refine nw_aload_n C 0 dX4_init_97 rfl 98 rfl ?_
  refine nw_new C (ci := 13) (T := TJ3) (ty0 := tyJ3) [.int (nI 0), .null, .int (nI 0)] rfl in_J3 tyJ3_ok q1597 q141 q90 (fun j hj => by rcases (show j = 0 ∨ j = 1 ∨ j = 2 by omega) with rfl | rfl | rfl <;> rfl) 10 31 (by omega) (by omega) ⟨(show 10 ≤ 11 by omega), (show 31 ≤ 60 by omega)⟩ dX4_init_98 101 rfl (fun a309 H310 hx311 ho312 hz313 hq314 => ?_)
  have hlt315 : a256 < a309 := by rw [hx311]; exact ho308.lt
  have hn316 : H.size ≤ a309 := by rw [hx311]; exact hsz
  have hsz := Nat.le_trans hsz (show _ ≤ H310.size by omega)
  have hB := Nat.le_trans hB0 hsz
  have hne317 : g ≠ a309 := Nat.ne_of_lt (by rw [hx311]; exact ho297.lt)
  have ho318 := ho297.kept (hq314 _ ho297.lt)
  have hne319 : a1 ≠ a309 := Nat.ne_of_lt (by rw [hx311]; exact ho300.lt)
  have ho320 := ho300.kept (hq314 _ ho300.lt)
  have hne321 : a21 ≠ a309 := Nat.ne_of_lt (by rw [hx311]; exact ho301.lt)
  have ho322 := ho301.kept (hq314 _ ho301.lt)
  have hne323 : a46 ≠ a309 := Nat.ne_of_lt (by rw [hx311]; exact ho302.lt)
  have ho324 := ho302.kept (hq314 _ ho302.lt)
  have hne325 : a75 ≠ a309 := Nat.ne_of_lt (by rw [hx311]; exact ho303.lt)
  have ho326 := ho303.kept (hq314 _ ho303.lt)
  have hne327 : a108 ≠ a309 := Nat.ne_of_lt (by rw [hx311]; exact ho304.lt)
  have ho328 := ho304.kept (hq314 _ ho304.lt)
  have hne329 : a145 ≠ a309 := Nat.ne_of_lt (by rw [hx311]; exact ho305.lt)
  have ho330 := ho305.kept (hq314 _ ho305.lt)
  have hne331 : a175 ≠ a309 := Nat.ne_of_lt (by rw [hx311]; exact ho306.lt)
  have ho332 := ho306.kept (hq314 _ ho306.lt)
  have hne333 : a220 ≠ a309 := Nat.ne_of_lt (by rw [hx311]; exact ho307.lt)
  have ho334 := ho307.kept (hq314 _ ho307.lt)
  have hne335 : a256 ≠ a309 := Nat.ne_of_lt (by rw [hx311]; exact ho308.lt)
  have ho336 := ho308.kept (hq314 _ ho308.lt)
  refine nw_dup C dX4_init_101 rfl 102 rfl ?_
  refine nw_callI C (mJ3_init _ C.hfl d a309  H310 hB (Nat.le_trans hB0 hn316) ho312 ) kJ3_init q1598 (As := []) (rest := [.ref a309, .ref g]) rfl rfl ⟨⟨Nat.le_of_ble_eq_true rfl, Nat.le_of_ble_eq_true rfl⟩, (show 10 + 0 ≤ 11 by omega), (show 31 + 0 ≤ 60 by omega)⟩ (Nat.le_of_ble_eq_true rfl) (fun q8 h8 h9 => h9.elim (fun e9 => by rw [e9]; exact (Or.inr hn316)) (fun e9 => absurd h8 (Nat.not_lt.mpr e9))) dX4_init_102 105 rfl (fun v9 H337 hR338 hz339 hq340 => ?_) nw_noX
  obtain ⟨rfl, ho341⟩ := hR338
  have ho342 := ho318.kept (hq340 _ ho318.lt (fun e9 => e9.elim hne317 (Nat.not_le.mpr ho318.lt)))
  have ho343 := ho320.kept (hq340 _ ho320.lt (fun e9 => e9.elim hne319 (Nat.not_le.mpr ho320.lt)))
  have ho344 := ho322.kept (hq340 _ ho322.lt (fun e9 => e9.elim hne321 (Nat.not_le.mpr ho322.lt)))
  have ho345 := ho324.kept (hq340 _ ho324.lt (fun e9 => e9.elim hne323 (Nat.not_le.mpr ho324.lt)))
  have ho346 := ho326.kept (hq340 _ ho326.lt (fun e9 => e9.elim hne325 (Nat.not_le.mpr ho326.lt)))
  have ho347 := ho328.kept (hq340 _ ho328.lt (fun e9 => e9.elim hne327 (Nat.not_le.mpr ho328.lt)))
  have ho348 := ho330.kept (hq340 _ ho330.lt (fun e9 => e9.elim hne329 (Nat.not_le.mpr ho330.lt)))
  have ho349 := ho332.kept (hq340 _ ho332.lt (fun e9 => e9.elim hne331 (Nat.not_le.mpr ho332.lt)))
  have ho350 := ho334.kept (hq340 _ ho334.lt (fun e9 => e9.elim hne333 (Nat.not_le.mpr ho334.lt)))
  have ho351 := ho336.kept (hq340 _ ho336.lt (fun e9 => e9.elim hne335 (Nat.not_le.mpr ho336.lt)))
  have hsz := Nat.le_trans hsz hz339
  have hB := Nat.le_trans hB0 hsz
  show nwV X _ _ 1 H337 (10 + 0) (31 + 0) 105 [(0, .ref g)] [.ref a309, .ref g]
  refine nw_wide (k' := 10) (n' := 31) (by omega) (by omega) ?_
  refine nw_put C ho342 (Or.inl rfl) (T := TX4) (ty0 := tyX4) rfl in_X4 tyX4_ok nmX4 18 (by decide) q1640 (Or.inl rfl) rfl rfl rfl (Nat.le_of_ble_eq_true rfl) dX4_init_105 108 rfl (fun H352 ho353 hz354 hq355 => ?_)
  have ho353 : nwO d g 9 [.int (nI 0), .int (nI 0), .int (nI 0), .ref a1, .int (nI 0), .int (oI none), .ref a21, .ref a46, .ref a75, .ref a108, .int (nI 0), .int (nI 0), .int (nI 0), .ref a145, .ref a175, .int (nI 0), .ref a220, .ref a256, .ref a309, .int (nI 0)] H352 := ho353
  have hsz := Nat.le_trans hsz (Nat.le_of_eq hz354.symm)
  have hB := Nat.le_trans hB0 hsz
  have ho356 := ho343.kept (hq355 _ (Ne.symm hne9))
  have ho357 := ho344.kept (hq355 _ (Ne.symm hne29))
  have ho358 := ho345.kept (hq355 _ (Ne.symm hne54))
  have ho359 := ho346.kept (hq355 _ (Ne.symm hne83))
  have ho360 := ho347.kept (hq355 _ (Ne.symm hne116))
  have ho361 := ho348.kept (hq355 _ (Ne.symm hne153))
  have ho362 := ho349.kept (hq355 _ (Ne.symm hne183))
  have ho363 := ho350.kept (hq355 _ (Ne.symm hne228))
  have ho364 := ho351.kept (hq355 _ (Ne.symm hne264))
  have ho365 := ho341.kept (hq355 _ (Ne.symm hne317))
  refine nw_aload_n C 0 dX4_init_108 rfl 109 rfl ?_
  obtain ⟨ro9, am9, hR9, hm9⟩ := mr_new hgB ⟨hlt7, hlt27, hlt52, hlt81, hlt114, hlt151, hlt181, hlt226, hlt262, hlt315⟩ ho365.lt ho353 ho356 ho357 ho358 ho359 ho360 ho364 ho365 ho362 ho361 ho363
  have hn9 : H.size ≤ a1 := hn8
  have hsz9 : H.size ≤ H352.size := hsz
  have hAq : ∀ q8, q8 < H352.size → nwAM ro9 H352 q8 → (q8 = g ∨ H.size ≤ q8) := by
    intro q8 h8 h9
    rcases h9 with h9 | h9
    · rcases hm9 q8 (fun e9 => by rw [e9] at h9; exact absurd h9 (by decide +kernel)) with e9 | e9
      · exact Or.inl e9
      · exact Or.inr (Nat.le_trans hn9 e9)
    · omega
  refine nw_callV C (mX4_begin _ C.hfl d ro9 am9 g sp_zeroM (nI 0) (fun _ => none) H352 hB hR9 (by decide) (by decide) (Or.inr ⟨rfl, fun _ _ => rfl⟩)) kX4_begin q1599 (ho353.is C (ci := 9) rfl) (As := []) (rest := []) rfl rfl ⟨⟨Nat.le_of_ble_eq_true rfl, Nat.le_of_ble_eq_true rfl⟩, (show 10 + 1 ≤ 11 by omega), (show 31 + 3 ≤ 60 by omega)⟩ (Nat.le_of_ble_eq_true rfl) hAq dX4_init_109 112 rfl (fun v9 H366 hR367 hz368 hq369 => ?_) nw_noX
  obtain ⟨rfl, hz8, ro8, am8, hR8, hk8, ha8, hol8⟩ := hR367
  rw [sp_newM] at hR8
  have hfin : ∀ q, ro8 q ≠ 0 → q = g ∨ H.size ≤ q := fun q hq9 => by
    rcases Nat.lt_or_ge q H352.size with h9 | h9
    · rw [hol8 q h9] at hq9
      exact (hm9 q hq9).imp id (fun e9 => Nat.le_trans hn9 e9)
    · exact Or.inr (Nat.le_trans hsz9 h9)
  show nwV X _ _ 1 H366 (10 + 1) (31 + 3) 112 [(0, .ref g)] []
  refine nw_wide (k' := 11) (n' := 34) (by omega) (by omega) ?_
  exact nw_vret C dX4_init_112 (by omega) (by omega) ⟨rfl, ro8, am8, hR8, hfin⟩
