/-! ===== the component's constructor ===== -/
def sp_zero : spSg := ((0, 0, fun _ => 0), (0, fun _ => (0, 0, false)), (0, fun _ => (0, 0)), (0, fun _ => sp_gd 0 0 0 0), (0, fun _ => 0), (0, fun _ => (0, (0, fun _ => 0), 0, 0, none)), (0, fun _ => (0, 0)), sp_words 0 (fun _ => 0), (fun _ => some 0), some (0, 0), 0, 0)
def sp_new : spSg := st_clear sp_zero
theorem sp_new_ok : spOk sp_new := ⟨Or.inl ⟨rfl, rfl⟩, ⟨Nat.zero_le _, fun k hk => absurd hk (Nat.not_lt_zero k)⟩, ⟨Nat.zero_le _, fun k hk => absurd hk (Nat.not_lt_zero k)⟩, ⟨Nat.zero_le _, fun k hk => absurd hk (Nat.not_lt_zero k)⟩, ⟨Nat.zero_le _, fun k hk => absurd hk (Nat.not_lt_zero k)⟩, ⟨Nat.zero_le _, fun k hk => absurd hk (Nat.not_lt_zero k)⟩, ⟨Nat.zero_le _, fun k hk => absurd hk (Nat.not_lt_zero k)⟩, okWo.begin (by decide) _, fun k _ g e => (by cases e), fun a b e => (by cases e)⟩
def rol : List (Nat × Nat) → Nat → Nat
  | [], _ => 0
  | (a, r) :: t, q => if q = a then r else rol t q
theorem rol_mem {l : List (Nat × Nat)} {q : Nat} (h : rol l q ≠ 0) : ∃ r, (q, r) ∈ l := by
  induction l with
  | nil => exact absurd rfl h
  | cons p t ih =>
    obtain ⟨a, r⟩ := p
    by_cases e : q = a
    · exact ⟨r, by rw [e]; exact List.mem_cons_self⟩
    · obtain ⟨r2, h2⟩ := ih (by rw [rol, if_neg e] at h; exact h)
      exact ⟨r2, List.mem_cons_of_mem _ h2⟩
theorem wr_new {d : nwD} {H : Heap} {g a1 a2 a3 a4 a5 a6 wd now old row ke : Nat} (hB : nd_B d ≤ g) (hl : g < a1 ∧ a1 < a2 ∧ a2 < a3 ∧ a3 < a4 ∧ a4 < a5 ∧ a5 < a6 ∧ a6 < wd ∧ wd < now ∧ now < old ∧ old < row ∧ row < ke) (hz : ke < H.size) (hg : nwO d g 0 [.ref (nd_st d 4), .ref a1, .ref a2, .ref a3, .ref a4, .ref a5, .ref a6, .ref wd, .ref ke, .int (nI 0), .int (nI 0), .int (nI 0), .int (nI 0), .long 0] H)
    (h1 : nwO d a1 13 [.int (nI 0), .ref (nd_st d 5), .int (nI 0)] H) (h2 : nwO d a2 13 [.int (nI 0), .ref (nd_st d 5), .int (nI 0)] H) (h3 : nwO d a3 13 [.int (nI 0), .ref (nd_st d 5), .int (nI 0)] H) (h4 : nwO d a4 13 [.int (nI 0), .ref (nd_st d 5), .int (nI 0)] H) (h5 : nwO d a5 13 [.int (nI 0), .ref (nd_st d 5), .int (nI 0)] H) (h6 : nwO d a6 13 [.int (nI 0), .ref (nd_st d 5), .int (nI 0)] H) (hw : nwO d wd 5 [.int (nI 0), .ref row, .ref now, .ref old] H) (hr : nwO d row 6 [.int (nI (sp_row 0 4))] H) (hn : nwI d now 0 4 (fun h => nI (sp_row 0 (h + 1))) H) (ho : nwLi d old 0 (fun _ => 0) (fun _ => False) H) (hk : nwI d ke 0 6 (fun _ => nI 0) H) : ∃ ro' ad' : Nat → Nat, nwWR d ro' ad' g sp_zero 0 H ∧ ∀ q, ro' q ≠ 0 → g ≤ q ∧ (q = g ∨ a1 ≤ q) := by
  have hm : ∀ q, rol [(g, 3000), (a1, 2), (a2, 3), (a3, 4), (a4, 5), (a5, 6), (a6, 7), (wd, 8), (now, 12), (old, 13), (row, 14), (ke, 9)] q ≠ 0 → g ≤ q ∧ q ≤ ke ∧ (q = g ∨ a1 ≤ q) := by
    intro q hq
    obtain ⟨r, hr⟩ := rol_mem hq
    simp only [List.mem_cons, Prod.mk.injEq, List.not_mem_nil, or_false] at hr
    omega
  have r_g : rol [(g, 3000), (a1, 2), (a2, 3), (a3, 4), (a4, 5), (a5, 6), (a6, 7), (wd, 8), (now, 12), (old, 13), (row, 14), (ke, 9)] g = 3000 := if_pos rfl
  have r_a1 : rol [(g, 3000), (a1, 2), (a2, 3), (a3, 4), (a4, 5), (a5, 6), (a6, 7), (wd, 8), (now, 12), (old, 13), (row, 14), (ke, 9)] a1 = 2 := (if_neg (show ¬ a1 = g by omega)).trans (if_pos rfl)
  have r_a2 : rol [(g, 3000), (a1, 2), (a2, 3), (a3, 4), (a4, 5), (a5, 6), (a6, 7), (wd, 8), (now, 12), (old, 13), (row, 14), (ke, 9)] a2 = 3 := (if_neg (show ¬ a2 = g by omega)).trans ((if_neg (show ¬ a2 = a1 by omega)).trans (if_pos rfl))
  have r_a3 : rol [(g, 3000), (a1, 2), (a2, 3), (a3, 4), (a4, 5), (a5, 6), (a6, 7), (wd, 8), (now, 12), (old, 13), (row, 14), (ke, 9)] a3 = 4 := (if_neg (show ¬ a3 = g by omega)).trans ((if_neg (show ¬ a3 = a1 by omega)).trans ((if_neg (show ¬ a3 = a2 by omega)).trans (if_pos rfl)))
  have r_a4 : rol [(g, 3000), (a1, 2), (a2, 3), (a3, 4), (a4, 5), (a5, 6), (a6, 7), (wd, 8), (now, 12), (old, 13), (row, 14), (ke, 9)] a4 = 5 := (if_neg (show ¬ a4 = g by omega)).trans ((if_neg (show ¬ a4 = a1 by omega)).trans ((if_neg (show ¬ a4 = a2 by omega)).trans ((if_neg (show ¬ a4 = a3 by omega)).trans (if_pos rfl))))
  have r_a5 : rol [(g, 3000), (a1, 2), (a2, 3), (a3, 4), (a4, 5), (a5, 6), (a6, 7), (wd, 8), (now, 12), (old, 13), (row, 14), (ke, 9)] a5 = 6 := (if_neg (show ¬ a5 = g by omega)).trans ((if_neg (show ¬ a5 = a1 by omega)).trans ((if_neg (show ¬ a5 = a2 by omega)).trans ((if_neg (show ¬ a5 = a3 by omega)).trans ((if_neg (show ¬ a5 = a4 by omega)).trans (if_pos rfl)))))
  have r_a6 : rol [(g, 3000), (a1, 2), (a2, 3), (a3, 4), (a4, 5), (a5, 6), (a6, 7), (wd, 8), (now, 12), (old, 13), (row, 14), (ke, 9)] a6 = 7 := (if_neg (show ¬ a6 = g by omega)).trans ((if_neg (show ¬ a6 = a1 by omega)).trans ((if_neg (show ¬ a6 = a2 by omega)).trans ((if_neg (show ¬ a6 = a3 by omega)).trans ((if_neg (show ¬ a6 = a4 by omega)).trans ((if_neg (show ¬ a6 = a5 by omega)).trans (if_pos rfl))))))
  have r_wd : rol [(g, 3000), (a1, 2), (a2, 3), (a3, 4), (a4, 5), (a5, 6), (a6, 7), (wd, 8), (now, 12), (old, 13), (row, 14), (ke, 9)] wd = 8 := (if_neg (show ¬ wd = g by omega)).trans ((if_neg (show ¬ wd = a1 by omega)).trans ((if_neg (show ¬ wd = a2 by omega)).trans ((if_neg (show ¬ wd = a3 by omega)).trans ((if_neg (show ¬ wd = a4 by omega)).trans ((if_neg (show ¬ wd = a5 by omega)).trans ((if_neg (show ¬ wd = a6 by omega)).trans (if_pos rfl)))))))
  have r_now : rol [(g, 3000), (a1, 2), (a2, 3), (a3, 4), (a4, 5), (a5, 6), (a6, 7), (wd, 8), (now, 12), (old, 13), (row, 14), (ke, 9)] now = 12 := (if_neg (show ¬ now = g by omega)).trans ((if_neg (show ¬ now = a1 by omega)).trans ((if_neg (show ¬ now = a2 by omega)).trans ((if_neg (show ¬ now = a3 by omega)).trans ((if_neg (show ¬ now = a4 by omega)).trans ((if_neg (show ¬ now = a5 by omega)).trans ((if_neg (show ¬ now = a6 by omega)).trans ((if_neg (show ¬ now = wd by omega)).trans (if_pos rfl))))))))
  have r_old : rol [(g, 3000), (a1, 2), (a2, 3), (a3, 4), (a4, 5), (a5, 6), (a6, 7), (wd, 8), (now, 12), (old, 13), (row, 14), (ke, 9)] old = 13 := (if_neg (show ¬ old = g by omega)).trans ((if_neg (show ¬ old = a1 by omega)).trans ((if_neg (show ¬ old = a2 by omega)).trans ((if_neg (show ¬ old = a3 by omega)).trans ((if_neg (show ¬ old = a4 by omega)).trans ((if_neg (show ¬ old = a5 by omega)).trans ((if_neg (show ¬ old = a6 by omega)).trans ((if_neg (show ¬ old = wd by omega)).trans ((if_neg (show ¬ old = now by omega)).trans (if_pos rfl)))))))))
  have r_row : rol [(g, 3000), (a1, 2), (a2, 3), (a3, 4), (a4, 5), (a5, 6), (a6, 7), (wd, 8), (now, 12), (old, 13), (row, 14), (ke, 9)] row = 14 := (if_neg (show ¬ row = g by omega)).trans ((if_neg (show ¬ row = a1 by omega)).trans ((if_neg (show ¬ row = a2 by omega)).trans ((if_neg (show ¬ row = a3 by omega)).trans ((if_neg (show ¬ row = a4 by omega)).trans ((if_neg (show ¬ row = a5 by omega)).trans ((if_neg (show ¬ row = a6 by omega)).trans ((if_neg (show ¬ row = wd by omega)).trans ((if_neg (show ¬ row = now by omega)).trans ((if_neg (show ¬ row = old by omega)).trans (if_pos rfl))))))))))
  have r_ke : rol [(g, 3000), (a1, 2), (a2, 3), (a3, 4), (a4, 5), (a5, 6), (a6, 7), (wd, 8), (now, 12), (old, 13), (row, 14), (ke, 9)] ke = 9 := (if_neg (show ¬ ke = g by omega)).trans ((if_neg (show ¬ ke = a1 by omega)).trans ((if_neg (show ¬ ke = a2 by omega)).trans ((if_neg (show ¬ ke = a3 by omega)).trans ((if_neg (show ¬ ke = a4 by omega)).trans ((if_neg (show ¬ ke = a5 by omega)).trans ((if_neg (show ¬ ke = a6 by omega)).trans ((if_neg (show ¬ ke = wd by omega)).trans ((if_neg (show ¬ ke = now by omega)).trans ((if_neg (show ¬ ke = old by omega)).trans ((if_neg (show ¬ ke = row by omega)).trans (if_pos rfl)))))))))))
  generalize rol [(g, 3000), (a1, 2), (a2, 3), (a3, 4), (a4, 5), (a5, 6), (a6, 7), (wd, 8), (now, 12), (old, 13), (row, 14), (ke, 9)] = ro' at *
  have b0 : rol [(0, nd_st d 4), (1, a1), (2, a2), (3, a3), (4, a4), (5, a5), (6, a6), (7, wd), (8, ke), (11, now), (12, old), (13, row)] 0 = nd_st d 4 := rfl
  have b1 : rol [(0, nd_st d 4), (1, a1), (2, a2), (3, a3), (4, a4), (5, a5), (6, a6), (7, wd), (8, ke), (11, now), (12, old), (13, row)] 1 = a1 := rfl
  have b2 : rol [(0, nd_st d 4), (1, a1), (2, a2), (3, a3), (4, a4), (5, a5), (6, a6), (7, wd), (8, ke), (11, now), (12, old), (13, row)] 2 = a2 := rfl
  have b3 : rol [(0, nd_st d 4), (1, a1), (2, a2), (3, a3), (4, a4), (5, a5), (6, a6), (7, wd), (8, ke), (11, now), (12, old), (13, row)] 3 = a3 := rfl
  have b4 : rol [(0, nd_st d 4), (1, a1), (2, a2), (3, a3), (4, a4), (5, a5), (6, a6), (7, wd), (8, ke), (11, now), (12, old), (13, row)] 4 = a4 := rfl
  have b5 : rol [(0, nd_st d 4), (1, a1), (2, a2), (3, a3), (4, a4), (5, a5), (6, a6), (7, wd), (8, ke), (11, now), (12, old), (13, row)] 5 = a5 := rfl
  have b6 : rol [(0, nd_st d 4), (1, a1), (2, a2), (3, a3), (4, a4), (5, a5), (6, a6), (7, wd), (8, ke), (11, now), (12, old), (13, row)] 6 = a6 := rfl
  have b7 : rol [(0, nd_st d 4), (1, a1), (2, a2), (3, a3), (4, a4), (5, a5), (6, a6), (7, wd), (8, ke), (11, now), (12, old), (13, row)] 7 = wd := rfl
  have b8 : rol [(0, nd_st d 4), (1, a1), (2, a2), (3, a3), (4, a4), (5, a5), (6, a6), (7, wd), (8, ke), (11, now), (12, old), (13, row)] 8 = ke := rfl
  have b11 : rol [(0, nd_st d 4), (1, a1), (2, a2), (3, a3), (4, a4), (5, a5), (6, a6), (7, wd), (8, ke), (11, now), (12, old), (13, row)] 11 = now := rfl
  have b12 : rol [(0, nd_st d 4), (1, a1), (2, a2), (3, a3), (4, a4), (5, a5), (6, a6), (7, wd), (8, ke), (11, now), (12, old), (13, row)] 12 = old := rfl
  have b13 : rol [(0, nd_st d 4), (1, a1), (2, a2), (3, a3), (4, a4), (5, a5), (6, a6), (7, wd), (8, ke), (11, now), (12, old), (13, row)] 13 = row := rfl
  generalize rol [(0, nd_st d 4), (1, a1), (2, a2), (3, a3), (4, a4), (5, a5), (6, a6), (7, wd), (8, ke), (11, now), (12, old), (13, row)] = ad' at *
  have li : ∀ {a : Nat} {es : Nat → Nat} {P : Nat → Prop}, nwO d a 13 [.int (nI 0), .ref (nd_st d 5), .int (nI 0)] H → nwLi d a 0 es P H := fun h => ⟨nd_st d 5, 0, nI 0, (fun _ => none), ⟨h, Nat.le_refl 0, by decide, Or.inl ⟨rfl, rfl⟩⟩, fun h9 => absurd h9 (by decide), fun k hk => absurd hk (Nat.not_lt_zero k)⟩
  have no : ∀ {Q : Nat → Prop} (k : Nat), k < 0 → Q k := fun k hk => absurd hk (Nat.not_lt_zero k)
  refine ⟨ro', ad', ⟨fun q hq => ⟨Nat.le_trans hB (hm q hq).1, Nat.lt_of_le_of_lt (hm q hq).2.1 hz⟩, ⟨?_, r_g⟩, ⟨Or.inl ⟨rfl, rfl, b0⟩, fun h => absurd h.1.1 (by decide)⟩, ⟨⟨?_, fun k hk => absurd hk (Nat.not_lt_zero k)⟩, by decide, by rw [b1]; exact r_a1, fun k hk => absurd hk (Nat.not_lt_zero k)⟩, ⟨⟨?_, fun k hk => absurd hk (Nat.not_lt_zero k)⟩, by decide, by rw [b2]; exact r_a2, fun k hk => absurd hk (Nat.not_lt_zero k)⟩, ⟨⟨?_, fun k hk => absurd hk (Nat.not_lt_zero k)⟩, by decide, by rw [b3]; exact r_a3, fun k hk => absurd hk (Nat.not_lt_zero k)⟩, ⟨?_, by rw [b4]; exact r_a4⟩, ⟨⟨?_, fun k hk => absurd hk (Nat.not_lt_zero k)⟩, by decide, by rw [b5]; exact r_a5, fun k hk => absurd hk (Nat.not_lt_zero k)⟩, ⟨⟨?_, fun k hk => absurd hk (Nat.not_lt_zero k)⟩, by decide, by rw [b6]; exact r_a6, fun k hk => absurd hk (Nat.not_lt_zero k)⟩, ⟨⟨?_, ?_, ?_, ?_⟩, by rw [b7]; exact r_wd, by rw [b11]; exact r_now, by rw [b12]; exact r_old, by rw [b13]; exact r_row⟩, ⟨?_, by rw [b8]; exact r_ke⟩⟩, fun q hq => ⟨(hm q hq).1, (hm q hq).2.2⟩⟩
  · show nwO d g 0 [.ref (ad' 0), .ref (ad' 1), .ref (ad' 2), .ref (ad' 3), .ref (ad' 4), .ref (ad' 5), .ref (ad' 6), .ref (ad' 7), .ref (ad' 8), .int (nI 0), .int (nI 0), .int (nI 0), .int (nI 0), .long 0] H
    rw [b0, b1, b2, b3, b4, b5, b6, b7, b8]
    exact hg
  · rw [b1]; exact li h1
  · rw [b2]; exact li h2
  · rw [b3]; exact li h3
  · show nwLi d (ad' 4) 0 (fun k => nd_bx d 0) (fun q => ro' q = 2005) H
    rw [b4]; exact li h4
  · rw [b5]; exact li h5
  · rw [b6]; exact li h6
  · show nwO d (ad' 7) 5 [.int (nI 0), .ref (ad' 13), .ref (ad' 11), .ref (ad' 12)] H
    rw [b7, b11, b12, b13]; exact hw
  · rw [b13]; exact hr
  · rw [b11]; exact hn
  · rw [b12]
    obtain ⟨ar, cap, mo, f, h1, h2, h3⟩ := ho
    exact ⟨ar, cap, mo, f, h1, fun hc => (h2 hc).elim, fun k hk => absurd hk (Nat.not_lt_zero k)⟩
  · show nwI d (ad' 8) 0 6 (fun k => oI (some 0)) H
    rw [b8]; exact hk
theorem kX2_init : nwPI yX2_init cX2_init 1 0 := ⟨⟨q91, q172, q173⟩, rfl, by decide +kernel, by decide +kernel, by decide +kernel⟩
set_option maxHeartbeats 4000000 in
theorem mX1_init (l : Launch) (hf : l.flags = flags0) (d : nwD) (g : Nat)  (H : Heap) (hB : nd_B d ≤ H.size) (hgB : nd_B d ≤ g) (hg : nwO d g 0 [.null, .null, .null, .null, .null, .null, .null, .null, .null, .int (nI 0), .int (nI 0), .int (nI 0), .int (nI 0), .long 0] H)  : nwMt l d yX1_init cX1_init 1 none 5 100 12 80 [.ref g] H (fun v H1 => v = none ∧ ∃ ro' ad' : Nat → Nat, nwWR d ro' ad' g sp_new 0 H1 ∧ ∀ q, ro' q ≠ 0 → q = g ∨ H.size ≤ q) nwNo (fun q => q = g ∨ H.size ≤ q) := by
  refine nw_start "NightwatchWall" "<init>" hf (by decide +kernel) rfl rfl (fun _ h => Or.inr h) (fun q h => h.elim (fun e => by rw [e]; exact hgB) (fun h => Nat.le_trans hB h)) (Nat.le_of_ble_eq_true rfl) ?_
  intro X C
  have hE := C.E0
  have hB0 := hB
  have hsz : H.size ≤ H.size := Nat.le_refl _
  show nwV X _ _ 1 H 0 0 0 [(0, .ref g)] []
  refine nw_aload_n C 0 dX1_init_0 rfl 1 rfl ?_
  refine nw_objInit C q132 q133 q134 dX1_init_1 ⟨Nat.le_of_ble_eq_true rfl, Nat.le_of_ble_eq_true rfl⟩ (Nat.le_of_ble_eq_true rfl) 4 rfl ?_
  refine nw_aload_n C 0 dX1_init_4 rfl 5 rfl ?_
  refine nw_callS C (mJ0_empty _ C.hfl d H hB) kJ0_empty q135 (As := []) (rest := [.ref g]) rfl rfl ⟨⟨Nat.le_of_ble_eq_true rfl, Nat.le_of_ble_eq_true rfl⟩, Nat.le_of_ble_eq_true rfl, Nat.le_of_ble_eq_true rfl⟩ (Nat.le_of_ble_eq_true rfl) (fun _ h8 h9 => absurd h9 (Nat.not_le.mpr h8)) dX1_init_5 8 rfl (nw_rdK ?_) nw_noX
  refine nw_put C hg (Or.inl rfl) (T := TX1) (ty0 := tyX1) rfl in_X1 tyX1_ok nmX1 0 (by decide) q221 (Or.inl rfl) rfl rfl rfl (Nat.le_of_ble_eq_true rfl) dX1_init_8 11 rfl (fun H1 ho2 hz3 hq4 => ?_)
  have ho2 : nwO d g 0 [.ref (nd_st d 4), .null, .null, .null, .null, .null, .null, .null, .null, .int (nI 0), .int (nI 0), .int (nI 0), .int (nI 0), .long 0] H1 := ho2
  have hsz := Nat.le_trans hsz (Nat.le_of_eq hz3.symm)
  have hB := Nat.le_trans hB0 hsz
  refine nw_aload_n C 0 dX1_init_11 rfl 12 rfl ?_
  refine nw_new C (ci := 13) (T := TJ3) (ty0 := tyJ3) [.int (nI 0), .null, .int (nI 0)] rfl in_J3 tyJ3_ok q140 q141 q90 (fun j hj => by rcases (show j = 0 ∨ j = 1 ∨ j = 2 by omega) with rfl | rfl | rfl <;> rfl) 1 3 (by omega) (by omega) ⟨(show 1 ≤ 12 by omega), (show 3 ≤ 80 by omega)⟩ dX1_init_12 15 rfl (fun a5 H6 hx7 ho8 hz9 hq10 => ?_)
  have hlt11 : g < a5 := by rw [hx7]; exact ho2.lt
  have hn12 : H.size ≤ a5 := by rw [hx7]; exact hsz
  have hsz := Nat.le_trans hsz (show _ ≤ H6.size by omega)
  have hB := Nat.le_trans hB0 hsz
  have hne13 : g ≠ a5 := Nat.ne_of_lt (by rw [hx7]; exact ho2.lt)
  have ho14 := ho2.kept (hq10 _ ho2.lt)
  refine nw_dup C dX1_init_15 rfl 16 rfl ?_
  refine nw_callI C (mJ3_init _ C.hfl d a5  H6 hB (Nat.le_trans hB0 hn12) ho8 ) kJ3_init q142 (As := []) (rest := [.ref a5, .ref g]) rfl rfl ⟨⟨Nat.le_of_ble_eq_true rfl, Nat.le_of_ble_eq_true rfl⟩, (show 1 + 0 ≤ 12 by omega), (show 3 + 0 ≤ 80 by omega)⟩ (Nat.le_of_ble_eq_true rfl) (fun q8 h8 h9 => h9.elim (fun e9 => by rw [e9]; exact (Or.inr hn12)) (fun e9 => absurd h8 (Nat.not_lt.mpr e9))) dX1_init_16 19 rfl (fun v9 H15 hR16 hz17 hq18 => ?_) nw_noX
  obtain ⟨rfl, ho19⟩ := hR16
  have ho20 := ho14.kept (hq18 _ ho14.lt (fun e9 => e9.elim hne13 (Nat.not_le.mpr ho14.lt)))
  have hsz := Nat.le_trans hsz hz17
  have hB := Nat.le_trans hB0 hsz
  show nwV X _ _ 1 H15 (1 + 0) (3 + 0) 19 [(0, .ref g)] [.ref a5, .ref g]
  refine nw_wide (k' := 1) (n' := 3) (by omega) (by omega) ?_
  refine nw_putF C ho20 (Or.inl rfl) (T := TX1) (ty0 := tyX1) rfl in_X1 tyX1_ok nmX1 1 (by decide) q222 rfl rfl rfl rfl (Nat.le_of_ble_eq_true rfl) dX1_init_19 22 rfl (fun H21 ho22 hz23 hq24 => ?_)
  have ho22 : nwO d g 0 [.ref (nd_st d 4), .ref a5, .null, .null, .null, .null, .null, .null, .null, .int (nI 0), .int (nI 0), .int (nI 0), .int (nI 0), .long 0] H21 := ho22
  have hsz := Nat.le_trans hsz (Nat.le_of_eq hz23.symm)
  have hB := Nat.le_trans hB0 hsz
  have ho25 := ho19.kept (hq24 _ (Ne.symm hne13))
  refine nw_aload_n C 0 dX1_init_22 rfl 23 rfl ?_
  refine nw_new C (ci := 13) (T := TJ3) (ty0 := tyJ3) [.int (nI 0), .null, .int (nI 0)] rfl in_J3 tyJ3_ok q140 q141 q90 (fun j hj => by rcases (show j = 0 ∨ j = 1 ∨ j = 2 by omega) with rfl | rfl | rfl <;> rfl) 2 6 (by omega) (by omega) ⟨(show 2 ≤ 12 by omega), (show 6 ≤ 80 by omega)⟩ dX1_init_23 26 rfl (fun a26 H27 hx28 ho29 hz30 hq31 => ?_)
  have hlt32 : a5 < a26 := by rw [hx28]; exact ho25.lt
  have hn33 : H.size ≤ a26 := by rw [hx28]; exact hsz
  have hsz := Nat.le_trans hsz (show _ ≤ H27.size by omega)
  have hB := Nat.le_trans hB0 hsz
  have hne34 : g ≠ a26 := Nat.ne_of_lt (by rw [hx28]; exact ho22.lt)
  have ho35 := ho22.kept (hq31 _ ho22.lt)
  have hne36 : a5 ≠ a26 := Nat.ne_of_lt (by rw [hx28]; exact ho25.lt)
  have ho37 := ho25.kept (hq31 _ ho25.lt)
  refine nw_dup C dX1_init_26 rfl 27 rfl ?_
  refine nw_callI C (mJ3_init _ C.hfl d a26  H27 hB (Nat.le_trans hB0 hn33) ho29 ) kJ3_init q142 (As := []) (rest := [.ref a26, .ref g]) rfl rfl ⟨⟨Nat.le_of_ble_eq_true rfl, Nat.le_of_ble_eq_true rfl⟩, (show 2 + 0 ≤ 12 by omega), (show 6 + 0 ≤ 80 by omega)⟩ (Nat.le_of_ble_eq_true rfl) (fun q8 h8 h9 => h9.elim (fun e9 => by rw [e9]; exact (Or.inr hn33)) (fun e9 => absurd h8 (Nat.not_lt.mpr e9))) dX1_init_27 30 rfl (fun v9 H38 hR39 hz40 hq41 => ?_) nw_noX
  obtain ⟨rfl, ho42⟩ := hR39
  have ho43 := ho35.kept (hq41 _ ho35.lt (fun e9 => e9.elim hne34 (Nat.not_le.mpr ho35.lt)))
  have ho44 := ho37.kept (hq41 _ ho37.lt (fun e9 => e9.elim hne36 (Nat.not_le.mpr ho37.lt)))
  have hsz := Nat.le_trans hsz hz40
  have hB := Nat.le_trans hB0 hsz
  show nwV X _ _ 1 H38 (2 + 0) (6 + 0) 30 [(0, .ref g)] [.ref a26, .ref g]
  refine nw_wide (k' := 2) (n' := 6) (by omega) (by omega) ?_
  refine nw_putF C ho43 (Or.inl rfl) (T := TX1) (ty0 := tyX1) rfl in_X1 tyX1_ok nmX1 2 (by decide) q223 rfl rfl rfl rfl (Nat.le_of_ble_eq_true rfl) dX1_init_30 33 rfl (fun H45 ho46 hz47 hq48 => ?_)
  have ho46 : nwO d g 0 [.ref (nd_st d 4), .ref a5, .ref a26, .null, .null, .null, .null, .null, .null, .int (nI 0), .int (nI 0), .int (nI 0), .int (nI 0), .long 0] H45 := ho46
  have hsz := Nat.le_trans hsz (Nat.le_of_eq hz47.symm)
  have hB := Nat.le_trans hB0 hsz
  have ho49 := ho44.kept (hq48 _ (Ne.symm hne13))
  have ho50 := ho42.kept (hq48 _ (Ne.symm hne34))
  refine nw_aload_n C 0 dX1_init_33 rfl 34 rfl ?_
  refine nw_new C (ci := 13) (T := TJ3) (ty0 := tyJ3) [.int (nI 0), .null, .int (nI 0)] rfl in_J3 tyJ3_ok q140 q141 q90 (fun j hj => by rcases (show j = 0 ∨ j = 1 ∨ j = 2 by omega) with rfl | rfl | rfl <;> rfl) 3 9 (by omega) (by omega) ⟨(show 3 ≤ 12 by omega), (show 9 ≤ 80 by omega)⟩ dX1_init_34 37 rfl (fun a51 H52 hx53 ho54 hz55 hq56 => ?_)
  have hlt57 : a26 < a51 := by rw [hx53]; exact ho50.lt
  have hn58 : H.size ≤ a51 := by rw [hx53]; exact hsz
  have hsz := Nat.le_trans hsz (show _ ≤ H52.size by omega)
  have hB := Nat.le_trans hB0 hsz
  have hne59 : g ≠ a51 := Nat.ne_of_lt (by rw [hx53]; exact ho46.lt)
  have ho60 := ho46.kept (hq56 _ ho46.lt)
  have hne61 : a5 ≠ a51 := Nat.ne_of_lt (by rw [hx53]; exact ho49.lt)
  have ho62 := ho49.kept (hq56 _ ho49.lt)
  have hne63 : a26 ≠ a51 := Nat.ne_of_lt (by rw [hx53]; exact ho50.lt)
  have ho64 := ho50.kept (hq56 _ ho50.lt)
  refine nw_dup C dX1_init_37 rfl 38 rfl ?_
  refine nw_callI C (mJ3_init _ C.hfl d a51  H52 hB (Nat.le_trans hB0 hn58) ho54 ) kJ3_init q142 (As := []) (rest := [.ref a51, .ref g]) rfl rfl ⟨⟨Nat.le_of_ble_eq_true rfl, Nat.le_of_ble_eq_true rfl⟩, (show 3 + 0 ≤ 12 by omega), (show 9 + 0 ≤ 80 by omega)⟩ (Nat.le_of_ble_eq_true rfl) (fun q8 h8 h9 => h9.elim (fun e9 => by rw [e9]; exact (Or.inr hn58)) (fun e9 => absurd h8 (Nat.not_lt.mpr e9))) dX1_init_38 41 rfl (fun v9 H65 hR66 hz67 hq68 => ?_) nw_noX
  obtain ⟨rfl, ho69⟩ := hR66
  have ho70 := ho60.kept (hq68 _ ho60.lt (fun e9 => e9.elim hne59 (Nat.not_le.mpr ho60.lt)))
  have ho71 := ho62.kept (hq68 _ ho62.lt (fun e9 => e9.elim hne61 (Nat.not_le.mpr ho62.lt)))
  have ho72 := ho64.kept (hq68 _ ho64.lt (fun e9 => e9.elim hne63 (Nat.not_le.mpr ho64.lt)))
  have hsz := Nat.le_trans hsz hz67
  have hB := Nat.le_trans hB0 hsz
  show nwV X _ _ 1 H65 (3 + 0) (9 + 0) 41 [(0, .ref g)] [.ref a51, .ref g]
  refine nw_wide (k' := 3) (n' := 9) (by omega) (by omega) ?_
  refine nw_putF C ho70 (Or.inl rfl) (T := TX1) (ty0 := tyX1) rfl in_X1 tyX1_ok nmX1 3 (by decide) q224 rfl rfl rfl rfl (Nat.le_of_ble_eq_true rfl) dX1_init_41 44 rfl (fun H73 ho74 hz75 hq76 => ?_)
  have ho74 : nwO d g 0 [.ref (nd_st d 4), .ref a5, .ref a26, .ref a51, .null, .null, .null, .null, .null, .int (nI 0), .int (nI 0), .int (nI 0), .int (nI 0), .long 0] H73 := ho74
  have hsz := Nat.le_trans hsz (Nat.le_of_eq hz75.symm)
  have hB := Nat.le_trans hB0 hsz
  have ho77 := ho71.kept (hq76 _ (Ne.symm hne13))
  have ho78 := ho72.kept (hq76 _ (Ne.symm hne34))
  have ho79 := ho69.kept (hq76 _ (Ne.symm hne59))
  refine nw_aload_n C 0 dX1_init_44 rfl 45 rfl ?_
  refine nw_new C (ci := 13) (T := TJ3) (ty0 := tyJ3) [.int (nI 0), .null, .int (nI 0)] rfl in_J3 tyJ3_ok q140 q141 q90 (fun j hj => by rcases (show j = 0 ∨ j = 1 ∨ j = 2 by omega) with rfl | rfl | rfl <;> rfl) 4 12 (by omega) (by omega) ⟨(show 4 ≤ 12 by omega), (show 12 ≤ 80 by omega)⟩ dX1_init_45 48 rfl (fun a80 H81 hx82 ho83 hz84 hq85 => ?_)
  have hlt86 : a51 < a80 := by rw [hx82]; exact ho79.lt
  have hn87 : H.size ≤ a80 := by rw [hx82]; exact hsz
  have hsz := Nat.le_trans hsz (show _ ≤ H81.size by omega)
  have hB := Nat.le_trans hB0 hsz
  have hne88 : g ≠ a80 := Nat.ne_of_lt (by rw [hx82]; exact ho74.lt)
  have ho89 := ho74.kept (hq85 _ ho74.lt)
  have hne90 : a5 ≠ a80 := Nat.ne_of_lt (by rw [hx82]; exact ho77.lt)
  have ho91 := ho77.kept (hq85 _ ho77.lt)
  have hne92 : a26 ≠ a80 := Nat.ne_of_lt (by rw [hx82]; exact ho78.lt)
  have ho93 := ho78.kept (hq85 _ ho78.lt)
  have hne94 : a51 ≠ a80 := Nat.ne_of_lt (by rw [hx82]; exact ho79.lt)
  have ho95 := ho79.kept (hq85 _ ho79.lt)
  refine nw_dup C dX1_init_48 rfl 49 rfl ?_
  refine nw_callI C (mJ3_init _ C.hfl d a80  H81 hB (Nat.le_trans hB0 hn87) ho83 ) kJ3_init q142 (As := []) (rest := [.ref a80, .ref g]) rfl rfl ⟨⟨Nat.le_of_ble_eq_true rfl, Nat.le_of_ble_eq_true rfl⟩, (show 4 + 0 ≤ 12 by omega), (show 12 + 0 ≤ 80 by omega)⟩ (Nat.le_of_ble_eq_true rfl) (fun q8 h8 h9 => h9.elim (fun e9 => by rw [e9]; exact (Or.inr hn87)) (fun e9 => absurd h8 (Nat.not_lt.mpr e9))) dX1_init_49 52 rfl (fun v9 H96 hR97 hz98 hq99 => ?_) nw_noX
  obtain ⟨rfl, ho100⟩ := hR97
  have ho101 := ho89.kept (hq99 _ ho89.lt (fun e9 => e9.elim hne88 (Nat.not_le.mpr ho89.lt)))
  have ho102 := ho91.kept (hq99 _ ho91.lt (fun e9 => e9.elim hne90 (Nat.not_le.mpr ho91.lt)))
  have ho103 := ho93.kept (hq99 _ ho93.lt (fun e9 => e9.elim hne92 (Nat.not_le.mpr ho93.lt)))
  have ho104 := ho95.kept (hq99 _ ho95.lt (fun e9 => e9.elim hne94 (Nat.not_le.mpr ho95.lt)))
  have hsz := Nat.le_trans hsz hz98
  have hB := Nat.le_trans hB0 hsz
  show nwV X _ _ 1 H96 (4 + 0) (12 + 0) 52 [(0, .ref g)] [.ref a80, .ref g]
  refine nw_wide (k' := 4) (n' := 12) (by omega) (by omega) ?_
  refine nw_putF C ho101 (Or.inl rfl) (T := TX1) (ty0 := tyX1) rfl in_X1 tyX1_ok nmX1 4 (by decide) q225 rfl rfl rfl rfl (Nat.le_of_ble_eq_true rfl) dX1_init_52 55 rfl (fun H105 ho106 hz107 hq108 => ?_)
  have ho106 : nwO d g 0 [.ref (nd_st d 4), .ref a5, .ref a26, .ref a51, .ref a80, .null, .null, .null, .null, .int (nI 0), .int (nI 0), .int (nI 0), .int (nI 0), .long 0] H105 := ho106
  have hsz := Nat.le_trans hsz (Nat.le_of_eq hz107.symm)
  have hB := Nat.le_trans hB0 hsz
  have ho109 := ho102.kept (hq108 _ (Ne.symm hne13))
  have ho110 := ho103.kept (hq108 _ (Ne.symm hne34))
  have ho111 := ho104.kept (hq108 _ (Ne.symm hne59))
  have ho112 := ho100.kept (hq108 _ (Ne.symm hne88))
  refine nw_aload_n C 0 dX1_init_55 rfl 56 rfl ?_
  refine nw_new C (ci := 13) (T := TJ3) (ty0 := tyJ3) [.int (nI 0), .null, .int (nI 0)] rfl in_J3 tyJ3_ok q140 q141 q90 (fun j hj => by rcases (show j = 0 ∨ j = 1 ∨ j = 2 by omega) with rfl | rfl | rfl <;> rfl) 5 15 (by omega) (by omega) ⟨(show 5 ≤ 12 by omega), (show 15 ≤ 80 by omega)⟩ dX1_init_56 59 rfl (fun a113 H114 hx115 ho116 hz117 hq118 => ?_)
  have hlt119 : a80 < a113 := by rw [hx115]; exact ho112.lt
  have hn120 : H.size ≤ a113 := by rw [hx115]; exact hsz
  have hsz := Nat.le_trans hsz (show _ ≤ H114.size by omega)
  have hB := Nat.le_trans hB0 hsz
  have hne121 : g ≠ a113 := Nat.ne_of_lt (by rw [hx115]; exact ho106.lt)
  have ho122 := ho106.kept (hq118 _ ho106.lt)
  have hne123 : a5 ≠ a113 := Nat.ne_of_lt (by rw [hx115]; exact ho109.lt)
  have ho124 := ho109.kept (hq118 _ ho109.lt)
  have hne125 : a26 ≠ a113 := Nat.ne_of_lt (by rw [hx115]; exact ho110.lt)
  have ho126 := ho110.kept (hq118 _ ho110.lt)
  have hne127 : a51 ≠ a113 := Nat.ne_of_lt (by rw [hx115]; exact ho111.lt)
  have ho128 := ho111.kept (hq118 _ ho111.lt)
  have hne129 : a80 ≠ a113 := Nat.ne_of_lt (by rw [hx115]; exact ho112.lt)
  have ho130 := ho112.kept (hq118 _ ho112.lt)
  refine nw_dup C dX1_init_59 rfl 60 rfl ?_
  refine nw_callI C (mJ3_init _ C.hfl d a113  H114 hB (Nat.le_trans hB0 hn120) ho116 ) kJ3_init q142 (As := []) (rest := [.ref a113, .ref g]) rfl rfl ⟨⟨Nat.le_of_ble_eq_true rfl, Nat.le_of_ble_eq_true rfl⟩, (show 5 + 0 ≤ 12 by omega), (show 15 + 0 ≤ 80 by omega)⟩ (Nat.le_of_ble_eq_true rfl) (fun q8 h8 h9 => h9.elim (fun e9 => by rw [e9]; exact (Or.inr hn120)) (fun e9 => absurd h8 (Nat.not_lt.mpr e9))) dX1_init_60 63 rfl (fun v9 H131 hR132 hz133 hq134 => ?_) nw_noX
  obtain ⟨rfl, ho135⟩ := hR132
  have ho136 := ho122.kept (hq134 _ ho122.lt (fun e9 => e9.elim hne121 (Nat.not_le.mpr ho122.lt)))
  have ho137 := ho124.kept (hq134 _ ho124.lt (fun e9 => e9.elim hne123 (Nat.not_le.mpr ho124.lt)))
  have ho138 := ho126.kept (hq134 _ ho126.lt (fun e9 => e9.elim hne125 (Nat.not_le.mpr ho126.lt)))
  have ho139 := ho128.kept (hq134 _ ho128.lt (fun e9 => e9.elim hne127 (Nat.not_le.mpr ho128.lt)))
  have ho140 := ho130.kept (hq134 _ ho130.lt (fun e9 => e9.elim hne129 (Nat.not_le.mpr ho130.lt)))
  have hsz := Nat.le_trans hsz hz133
  have hB := Nat.le_trans hB0 hsz
  show nwV X _ _ 1 H131 (5 + 0) (15 + 0) 63 [(0, .ref g)] [.ref a113, .ref g]
  refine nw_wide (k' := 5) (n' := 15) (by omega) (by omega) ?_
  refine nw_putF C ho136 (Or.inl rfl) (T := TX1) (ty0 := tyX1) rfl in_X1 tyX1_ok nmX1 5 (by decide) q226 rfl rfl rfl rfl (Nat.le_of_ble_eq_true rfl) dX1_init_63 66 rfl (fun H141 ho142 hz143 hq144 => ?_)
  have ho142 : nwO d g 0 [.ref (nd_st d 4), .ref a5, .ref a26, .ref a51, .ref a80, .ref a113, .null, .null, .null, .int (nI 0), .int (nI 0), .int (nI 0), .int (nI 0), .long 0] H141 := ho142
  have hsz := Nat.le_trans hsz (Nat.le_of_eq hz143.symm)
  have hB := Nat.le_trans hB0 hsz
  have ho145 := ho137.kept (hq144 _ (Ne.symm hne13))
  have ho146 := ho138.kept (hq144 _ (Ne.symm hne34))
  have ho147 := ho139.kept (hq144 _ (Ne.symm hne59))
  have ho148 := ho140.kept (hq144 _ (Ne.symm hne88))
  have ho149 := ho135.kept (hq144 _ (Ne.symm hne121))
  refine nw_aload_n C 0 dX1_init_66 rfl 67 rfl ?_
  refine nw_new C (ci := 13) (T := TJ3) (ty0 := tyJ3) [.int (nI 0), .null, .int (nI 0)] rfl in_J3 tyJ3_ok q140 q141 q90 (fun j hj => by rcases (show j = 0 ∨ j = 1 ∨ j = 2 by omega) with rfl | rfl | rfl <;> rfl) 6 18 (by omega) (by omega) ⟨(show 6 ≤ 12 by omega), (show 18 ≤ 80 by omega)⟩ dX1_init_67 70 rfl (fun a150 H151 hx152 ho153 hz154 hq155 => ?_)
  have hlt156 : a113 < a150 := by rw [hx152]; exact ho149.lt
  have hn157 : H.size ≤ a150 := by rw [hx152]; exact hsz
  have hsz := Nat.le_trans hsz (show _ ≤ H151.size by omega)
  have hB := Nat.le_trans hB0 hsz
  have hne158 : g ≠ a150 := Nat.ne_of_lt (by rw [hx152]; exact ho142.lt)
  have ho159 := ho142.kept (hq155 _ ho142.lt)
  have hne160 : a5 ≠ a150 := Nat.ne_of_lt (by rw [hx152]; exact ho145.lt)
  have ho161 := ho145.kept (hq155 _ ho145.lt)
  have hne162 : a26 ≠ a150 := Nat.ne_of_lt (by rw [hx152]; exact ho146.lt)
  have ho163 := ho146.kept (hq155 _ ho146.lt)
  have hne164 : a51 ≠ a150 := Nat.ne_of_lt (by rw [hx152]; exact ho147.lt)
  have ho165 := ho147.kept (hq155 _ ho147.lt)
  have hne166 : a80 ≠ a150 := Nat.ne_of_lt (by rw [hx152]; exact ho148.lt)
  have ho167 := ho148.kept (hq155 _ ho148.lt)
  have hne168 : a113 ≠ a150 := Nat.ne_of_lt (by rw [hx152]; exact ho149.lt)
  have ho169 := ho149.kept (hq155 _ ho149.lt)
  refine nw_dup C dX1_init_70 rfl 71 rfl ?_
  refine nw_callI C (mJ3_init _ C.hfl d a150  H151 hB (Nat.le_trans hB0 hn157) ho153 ) kJ3_init q142 (As := []) (rest := [.ref a150, .ref g]) rfl rfl ⟨⟨Nat.le_of_ble_eq_true rfl, Nat.le_of_ble_eq_true rfl⟩, (show 6 + 0 ≤ 12 by omega), (show 18 + 0 ≤ 80 by omega)⟩ (Nat.le_of_ble_eq_true rfl) (fun q8 h8 h9 => h9.elim (fun e9 => by rw [e9]; exact (Or.inr hn157)) (fun e9 => absurd h8 (Nat.not_lt.mpr e9))) dX1_init_71 74 rfl (fun v9 H170 hR171 hz172 hq173 => ?_) nw_noX
  obtain ⟨rfl, ho174⟩ := hR171
  have ho175 := ho159.kept (hq173 _ ho159.lt (fun e9 => e9.elim hne158 (Nat.not_le.mpr ho159.lt)))
  have ho176 := ho161.kept (hq173 _ ho161.lt (fun e9 => e9.elim hne160 (Nat.not_le.mpr ho161.lt)))
  have ho177 := ho163.kept (hq173 _ ho163.lt (fun e9 => e9.elim hne162 (Nat.not_le.mpr ho163.lt)))
  have ho178 := ho165.kept (hq173 _ ho165.lt (fun e9 => e9.elim hne164 (Nat.not_le.mpr ho165.lt)))
  have ho179 := ho167.kept (hq173 _ ho167.lt (fun e9 => e9.elim hne166 (Nat.not_le.mpr ho167.lt)))
  have ho180 := ho169.kept (hq173 _ ho169.lt (fun e9 => e9.elim hne168 (Nat.not_le.mpr ho169.lt)))
  have hsz := Nat.le_trans hsz hz172
  have hB := Nat.le_trans hB0 hsz
  show nwV X _ _ 1 H170 (6 + 0) (18 + 0) 74 [(0, .ref g)] [.ref a150, .ref g]
  refine nw_wide (k' := 6) (n' := 18) (by omega) (by omega) ?_
  refine nw_putF C ho175 (Or.inl rfl) (T := TX1) (ty0 := tyX1) rfl in_X1 tyX1_ok nmX1 6 (by decide) q227 rfl rfl rfl rfl (Nat.le_of_ble_eq_true rfl) dX1_init_74 77 rfl (fun H181 ho182 hz183 hq184 => ?_)
  have ho182 : nwO d g 0 [.ref (nd_st d 4), .ref a5, .ref a26, .ref a51, .ref a80, .ref a113, .ref a150, .null, .null, .int (nI 0), .int (nI 0), .int (nI 0), .int (nI 0), .long 0] H181 := ho182
  have hsz := Nat.le_trans hsz (Nat.le_of_eq hz183.symm)
  have hB := Nat.le_trans hB0 hsz
  have ho185 := ho176.kept (hq184 _ (Ne.symm hne13))
  have ho186 := ho177.kept (hq184 _ (Ne.symm hne34))
  have ho187 := ho178.kept (hq184 _ (Ne.symm hne59))
  have ho188 := ho179.kept (hq184 _ (Ne.symm hne88))
  have ho189 := ho180.kept (hq184 _ (Ne.symm hne121))
  have ho190 := ho174.kept (hq184 _ (Ne.symm hne158))
  refine nw_aload_n C 0 dX1_init_77 rfl 78 rfl ?_
  refine nw_new C (ci := 5) (T := TX2) (ty0 := tyX2) [.int (nI 0), .null, .null, .null] rfl in_X2 tyX2_ok q169 q170 q91 (fun j hj => by rcases (show j = 0 ∨ j = 1 ∨ j = 2 ∨ j = 3 by omega) with rfl | rfl | rfl | rfl <;> rfl) 7 22 (by omega) (by omega) ⟨(show 7 ≤ 12 by omega), (show 22 ≤ 80 by omega)⟩ dX1_init_78 81 rfl (fun a191 H192 hx193 ho194 hz195 hq196 => ?_)
  have hlt197 : a150 < a191 := by rw [hx193]; exact ho190.lt
  have hn198 : H.size ≤ a191 := by rw [hx193]; exact hsz
  have hsz := Nat.le_trans hsz (show _ ≤ H192.size by omega)
  have hB := Nat.le_trans hB0 hsz
  have hne199 : g ≠ a191 := Nat.ne_of_lt (by rw [hx193]; exact ho182.lt)
  have ho200 := ho182.kept (hq196 _ ho182.lt)
  have hne201 : a5 ≠ a191 := Nat.ne_of_lt (by rw [hx193]; exact ho185.lt)
  have ho202 := ho185.kept (hq196 _ ho185.lt)
  have hne203 : a26 ≠ a191 := Nat.ne_of_lt (by rw [hx193]; exact ho186.lt)
  have ho204 := ho186.kept (hq196 _ ho186.lt)
  have hne205 : a51 ≠ a191 := Nat.ne_of_lt (by rw [hx193]; exact ho187.lt)
  have ho206 := ho187.kept (hq196 _ ho187.lt)
  have hne207 : a80 ≠ a191 := Nat.ne_of_lt (by rw [hx193]; exact ho188.lt)
  have ho208 := ho188.kept (hq196 _ ho188.lt)
  have hne209 : a113 ≠ a191 := Nat.ne_of_lt (by rw [hx193]; exact ho189.lt)
  have ho210 := ho189.kept (hq196 _ ho189.lt)
  have hne211 : a150 ≠ a191 := Nat.ne_of_lt (by rw [hx193]; exact ho190.lt)
  have ho212 := ho190.kept (hq196 _ ho190.lt)
  refine nw_dup C dX1_init_81 rfl 82 rfl ?_
  refine nw_callI C (mX2_init _ C.hfl d a191 H192 hB (Nat.le_trans hB0 hn198) ho194) kX2_init q171 (As := []) (rest := [.ref a191, .ref g]) rfl rfl ⟨⟨Nat.le_of_ble_eq_true rfl, Nat.le_of_ble_eq_true rfl⟩, (show 7 + 3 ≤ 12 by omega), (show 22 + 20 ≤ 80 by omega)⟩ (Nat.le_of_ble_eq_true rfl) (fun q8 h8 h9 => h9.elim (fun e9 => by rw [e9]; exact (Or.inr hn198)) (fun e9 => absurd h8 (Nat.not_lt.mpr e9))) dX1_init_82 85 rfl (fun v9 H213 hR214 hz215 hq216 => ?_) nw_noX
  obtain ⟨rfl, now, old, row, ⟨hw1, hw2, hw3⟩, hwo, hwr, hwn, hwl⟩ := hR214
  obtain ⟨mo9, ar9, cap9, f9, hwL⟩ := nwLi_m hwl
  have hw0 : a191 < now := Nat.lt_of_lt_of_le ho194.lt hw1
  have hnN : H.size ≤ now := Nat.le_trans hsz hw1
  have hoN : H.size ≤ old := by omega
  have hrN : H.size ≤ row := by omega
  have hlt217 : g < now := Nat.lt_of_lt_of_le ho200.lt hw1
  have hlt218 : a5 < now := Nat.lt_of_lt_of_le ho202.lt hw1
  have hlt219 : a26 < now := Nat.lt_of_lt_of_le ho204.lt hw1
  have hlt220 : a51 < now := Nat.lt_of_lt_of_le ho206.lt hw1
  have hlt221 : a80 < now := Nat.lt_of_lt_of_le ho208.lt hw1
  have hlt222 : a113 < now := Nat.lt_of_lt_of_le ho210.lt hw1
  have hlt223 : a150 < now := Nat.lt_of_lt_of_le ho212.lt hw1
  have hlt224 : a191 < now := Nat.lt_of_lt_of_le ho194.lt hw1
  have ho225 := ho200.kept (hq216 _ ho200.lt (fun e9 => e9.elim hne199 (Nat.not_le.mpr ho200.lt)))
  have ho226 := ho202.kept (hq216 _ ho202.lt (fun e9 => e9.elim hne201 (Nat.not_le.mpr ho202.lt)))
  have ho227 := ho204.kept (hq216 _ ho204.lt (fun e9 => e9.elim hne203 (Nat.not_le.mpr ho204.lt)))
  have ho228 := ho206.kept (hq216 _ ho206.lt (fun e9 => e9.elim hne205 (Nat.not_le.mpr ho206.lt)))
  have ho229 := ho208.kept (hq216 _ ho208.lt (fun e9 => e9.elim hne207 (Nat.not_le.mpr ho208.lt)))
  have ho230 := ho210.kept (hq216 _ ho210.lt (fun e9 => e9.elim hne209 (Nat.not_le.mpr ho210.lt)))
  have ho231 := ho212.kept (hq216 _ ho212.lt (fun e9 => e9.elim hne211 (Nat.not_le.mpr ho212.lt)))
  have hsz := Nat.le_trans hsz hz215
  have hB := Nat.le_trans hB0 hsz
  show nwV X _ _ 1 H213 (7 + 3) (22 + 20) 85 [(0, .ref g)] [.ref a191, .ref g]
  refine nw_wide (k' := 10) (n' := 42) (by omega) (by omega) ?_
  refine nw_putF C ho225 (Or.inl rfl) (T := TX1) (ty0 := tyX1) rfl in_X1 tyX1_ok nmX1 7 (by decide) q228 rfl rfl rfl rfl (Nat.le_of_ble_eq_true rfl) dX1_init_85 88 rfl (fun H232 ho233 hz234 hq235 => ?_)
  have ho233 : nwO d g 0 [.ref (nd_st d 4), .ref a5, .ref a26, .ref a51, .ref a80, .ref a113, .ref a150, .ref a191, .null, .int (nI 0), .int (nI 0), .int (nI 0), .int (nI 0), .long 0] H232 := ho233
  have hsz := Nat.le_trans hsz (Nat.le_of_eq hz234.symm)
  have hB := Nat.le_trans hB0 hsz
  have ho236 := ho226.kept (hq235 _ (Ne.symm hne13))
  have ho237 := ho227.kept (hq235 _ (Ne.symm hne34))
  have ho238 := ho228.kept (hq235 _ (Ne.symm hne59))
  have ho239 := ho229.kept (hq235 _ (Ne.symm hne88))
  have ho240 := ho230.kept (hq235 _ (Ne.symm hne121))
  have ho241 := ho231.kept (hq235 _ (Ne.symm hne158))
  have ho242 := hwo.kept (hq235 _ (Ne.symm hne199))
  have ho243 := hwn.kept (hq235 _ (Ne.symm (Nat.ne_of_lt (by omega))))
  have ho244 := hwr.kept (hq235 _ (Ne.symm (Nat.ne_of_lt (by omega))))
  have hL245 := hwL.kp (hq235 _ (Ne.symm (Nat.ne_of_lt (by omega)))) (fun q9 p9 _ => hq235 q9 (fun e9 => p9.elim))
  refine nw_aload_n C 0 dX1_init_88 rfl 89 rfl ?_
  refine nw_bipush C (nI 6) dX1_init_89 (by decide) 91 rfl ?_
  refine nw_newi C (by omega) 11 48 (by omega) (by omega) ⟨(show 11 ≤ 12 by omega), (show 48 ≤ 80 by omega)⟩ dX1_init_91 93 rfl (fun a246 H247 hx248 ho249 hz250 hq251 => ?_)
  have hlt252 : row < a246 := by rw [hx248]; exact ho244.lt
  have hn253 : H.size ≤ a246 := by rw [hx248]; exact hsz
  have hsz := Nat.le_trans hsz (show _ ≤ H247.size by omega)
  have hB := Nat.le_trans hB0 hsz
  have hne254 : g ≠ a246 := Nat.ne_of_lt (by rw [hx248]; exact ho233.lt)
  have ho255 := ho233.kept (hq251 _ ho233.lt)
  have hne256 : a5 ≠ a246 := Nat.ne_of_lt (by rw [hx248]; exact ho236.lt)
  have ho257 := ho236.kept (hq251 _ ho236.lt)
  have hne258 : a26 ≠ a246 := Nat.ne_of_lt (by rw [hx248]; exact ho237.lt)
  have ho259 := ho237.kept (hq251 _ ho237.lt)
  have hne260 : a51 ≠ a246 := Nat.ne_of_lt (by rw [hx248]; exact ho238.lt)
  have ho261 := ho238.kept (hq251 _ ho238.lt)
  have hne262 : a80 ≠ a246 := Nat.ne_of_lt (by rw [hx248]; exact ho239.lt)
  have ho263 := ho239.kept (hq251 _ ho239.lt)
  have hne264 : a113 ≠ a246 := Nat.ne_of_lt (by rw [hx248]; exact ho240.lt)
  have ho265 := ho240.kept (hq251 _ ho240.lt)
  have hne266 : a150 ≠ a246 := Nat.ne_of_lt (by rw [hx248]; exact ho241.lt)
  have ho267 := ho241.kept (hq251 _ ho241.lt)
  have hne268 : a191 ≠ a246 := Nat.ne_of_lt (by rw [hx248]; exact ho242.lt)
  have ho269 := ho242.kept (hq251 _ ho242.lt)
  have hne270 : now ≠ a246 := Nat.ne_of_lt (by rw [hx248]; exact ho243.lt)
  have ho271 := ho243.kept (hq251 _ ho243.lt)
  have hne272 : row ≠ a246 := Nat.ne_of_lt (by rw [hx248]; exact ho244.lt)
  have ho273 := ho244.kept (hq251 _ ho244.lt)
  have hne274 : old ≠ a246 := Nat.ne_of_lt (by rw [hx248]; exact hL245.lt)
  have ho275 := hL245.ext hq251
  refine nw_putF C ho255 (Or.inl rfl) (T := TX1) (ty0 := tyX1) rfl in_X1 tyX1_ok nmX1 8 (by decide) q229 rfl rfl rfl rfl (Nat.le_of_ble_eq_true rfl) dX1_init_93 96 rfl (fun H276 ho277 hz278 hq279 => ?_)
  have ho277 : nwO d g 0 [.ref (nd_st d 4), .ref a5, .ref a26, .ref a51, .ref a80, .ref a113, .ref a150, .ref a191, .ref a246, .int (nI 0), .int (nI 0), .int (nI 0), .int (nI 0), .long 0] H276 := ho277
  have hsz := Nat.le_trans hsz (Nat.le_of_eq hz278.symm)
  have hB := Nat.le_trans hB0 hsz
  have ho280 := ho257.kept (hq279 _ (Ne.symm hne13))
  have ho281 := ho259.kept (hq279 _ (Ne.symm hne34))
  have ho282 := ho261.kept (hq279 _ (Ne.symm hne59))
  have ho283 := ho263.kept (hq279 _ (Ne.symm hne88))
  have ho284 := ho265.kept (hq279 _ (Ne.symm hne121))
  have ho285 := ho267.kept (hq279 _ (Ne.symm hne158))
  have ho286 := ho269.kept (hq279 _ (Ne.symm hne199))
  have ho287 := ho271.kept (hq279 _ (Ne.symm (Nat.ne_of_lt (by omega))))
  have ho288 := ho273.kept (hq279 _ (Ne.symm (Nat.ne_of_lt (by omega))))
  have hL289 := ho275.kp (hq279 _ (Ne.symm (Nat.ne_of_lt (by omega)))) (fun q9 p9 _ => hq279 q9 (fun e9 => p9.elim))
  have ho290 := ho249.kept (hq279 _ (Ne.symm hne254))
  refine nw_aload_n C 0 dX1_init_96 rfl 97 rfl ?_
  obtain ⟨ro9, ad9, hR9, hm9⟩ := wr_new hgB ⟨hlt11, hlt32, hlt57, hlt86, hlt119, hlt156, hlt197, hw0, hw2, hw3, hlt252⟩ ho290.lt ho277 ho280 ho281 ho282 ho283 ho284 ho285 ho286 ho288 ho287 hL289.li ho290
  have hAq : ∀ q8, q8 < H276.size → nwAC ro9 H276 q8 → (q8 = g ∨ H.size ≤ q8) := by
    intro q8 h8 h9
    rcases h9 with h9 | h9
    · rcases (hm9 q8 (fun e9 => by rw [e9] at h9; exact absurd h9 (by decide +kernel))).2 with e9 | e9
      · exact Or.inl e9
      · exact Or.inr (Nat.le_trans hn12 e9)
    · omega
  have hn9 : H.size ≤ a5 := hn12
  refine nw_callV C (mX1_clear _ C.hfl d ro9 ad9 g sp_zero 0 H276 hB hR9) kX1_clear q216 (ho277.is C (ci := 0) rfl) (As := []) (rest := []) rfl rfl ⟨⟨Nat.le_of_ble_eq_true rfl, Nat.le_of_ble_eq_true rfl⟩, (show 11 + 0 ≤ 12 by omega), (show 48 + 0 ≤ 80 by omega)⟩ (Nat.le_of_ble_eq_true rfl) hAq dX1_init_97 100 rfl (fun v9 H291 hR292 hz293 hq294 => ?_) nw_noX
  obtain ⟨rfl, hR8⟩ := hR292
  show nwV X _ _ 1 H291 (11 + 0) (48 + 0) 100 [(0, .ref g)] []
  refine nw_wide (k' := 11) (n' := 48) (by omega) (by omega) ?_
  exact nw_vret C dX1_init_100 (by omega) (by omega) ⟨rfl, ro9, ad9, hR8, fun q9 e9 => (hm9 q9 e9).2.elim Or.inl (fun e8 => Or.inr (Nat.le_trans hn9 e8))⟩
