/-! ===== what a change of cells makes of the reference's world ===== -/
section MTRANS
variable {d : nwD} {ro am m : Nat → Nat} {Hc Hn : Heap} {r2 : Nat}
theorem trm_la {y : Nat} {s : spSg} {th : Int32} (h : nwMW d ro am y s th Hc) {e ar cap : Nat} {mo : Int32} {f : Nat → Option Nat} {v : Nat × Nat × Bool} (hn : (sg_la s).1 < 49) (he : ro e = 0) (heB : nd_B d ≤ e) (ho : nwI d e 0 3 (fn3 (nI v.1) (nI v.2.1) (b2i v.2.2)) Hc) (hz : Hc.size ≤ Hn.size) (hq : ∀ q, q < Hc.size → ¬ (q = am 1 ∨ ro q = 7002 ∨ Hc.size ≤ q) → Hn[q]? = Hc[q]?)
    (hL : nwLm d (am 1) ((sg_la s).1 + 1) (fun k => if k = (sg_la s).1 then e else am (100 + k)) (fun q => ro q = 7002 ∨ Hc.size ≤ q) mo ar cap f Hn) : ∃ ro' am' : Nat → Nat, nwMW d ro' am' y (st_la s ((sg_la s).1 + 1, sp_up (sg_la s).2 (sg_la s).1 v)) th Hn ∧ ∀ q, ro q ≠ 0 → ro' q = ro q := by
  obtain ⟨h1, hb, r1, r2⟩ := h.2.2.2.1
  have hX := h.2.1
  generalize hN : (sg_la s).1 = n at *
  have hes := ho.lt
  have hm : nwMo d ro (nwM1 e (5101 + n)) Hc := nwM1.ok he heB hes
  have hk := nwRn.keep (Hn := Hn) (r2 := 7002) h.1 hm
  have a0 : ∀ j, j ≠ 100 + n → sp_up am (100 + n) e j = am j := fun j hj => sp_up_ne _ _ hj
  have kp : ∀ q, q < Hc.size → ro q ≠ 5002 → ro q ≠ 7002 → Hn[q]? = Hc[q]? := fun q g g1 g2 => hq q g (fun e2 => by
    rcases e2 with e2 | e2 | e2
    · exact g1 (by rw [e2]; exact r1)
    · exact g2 e2
    · omega)
  refine ⟨nwRn ro (nwM1 e (5101 + n)) Hc Hn 7002, sp_up am (100 + n) e, h.upd (fun p => p == 23) (nwRn.ok h.1 hm hz (Nat.le_trans heB (Nat.le_of_lt hes))) hk (fun j hj => a0 j (fun e2 => ?_)) (fun q g hS h0 h8 => kp q g (fun e2 => ?_) (fun e2 => ?_)) (mcX.adr (am := am) (hX.1.kept (kp _ hX.1.lt (by rw [hX.2]; decide) (by rw [hX.2]; decide))) (fun j hj => a0 j (by omega))) ⟨Or.inr rfl, Or.inl rfl, Or.inr rfl, Or.inr rfl, Or.inr rfl, Or.inr rfl, Or.inr rfl, Or.inr rfl, Or.inr rfl⟩ ⟨fun h => absurd h (by decide), fun _ => ?_, fun h => absurd h (by decide), fun h => absurd h (by decide), fun h => absurd h (by decide), fun h => absurd h (by decide), fun h => absurd h (by decide), fun h => absurd h (by decide), fun h => absurd h (by decide)⟩, hk⟩
  · rw [e2, show 100 + n + 5001 = 5101 + n by omega, rp_5101 n (by omega)] at hj; exact absurd hj (by decide)
  · rw [e2] at hS; exact absurd hS (by decide)
  · rw [e2] at hS; exact absurd hS (by decide)
  · refine ⟨⟨?_, fun k hk2 => ?_⟩, by show n + 1 < 50; omega, ?_, fun k hk2 => ?_⟩
    · rw [a0 1 (by omega)]
      exact hL.to (fun q g e2 => nwRn.arr hm g (by decide) e2) (fun k hk2 => by
        by_cases e2 : k = n
        · rw [if_pos e2, e2]; exact sp_up_at _ _ _
        · rw [if_neg e2]; exact a0 _ (by omega))
    · by_cases e2 : k = n
      · subst e2
        rw [show sp_up am (100 + k) e (100 + k) = e from sp_up_at _ _ _, show (st_la s (k + 1, sp_up (sg_la s).2 k v)).2.1.2 k = v from sp_up_at _ _ _]
        exact ho.kept (kp e hes (by rw [he]; decide) (by rw [he]; decide))
      · have hk3 : k < n + 1 := hk2
        rw [a0 _ (show 100 + k ≠ 100 + n by omega), show (st_la s (n + 1, sp_up (sg_la s).2 n v)).2.1.2 k = (sg_la s).2 k from sp_up_ne _ _ e2]
        have h4 := h1.2 k (by omega)
        have r4 := r2 k (by omega)
        exact h4.kept (kp _ h4.lt (by omega) (by omega))
    · rw [a0 1 (by omega)]; exact nw_rt hk r1 (by decide)
    · have hk3 : k < n + 1 := hk2
      by_cases e2 : k = n
      · subst e2
        rw [show sp_up am (100 + k) e (100 + k) = e from sp_up_at _ _ _]; exact nwRn.is (nwM1.at _ _) (by omega)
      · rw [a0 _ (show 100 + k ≠ 100 + n by omega)]; exact nw_rt hk (r2 k (by omega)) (by omega)
theorem trm_fo {y : Nat} {s : spSg} {th : Int32} (h : nwMW d ro am y s th Hc) {e ar cap : Nat} {mo : Int32} {f : Nat → Option Nat} {v : Nat × Nat} (hn : (sg_fo s).1 < 49) (he : ro e = 0) (heB : nd_B d ≤ e) (ho : nwI d e 0 2 (fn2 (nI v.1) (nI v.2)) Hc) (hz : Hc.size ≤ Hn.size) (hq : ∀ q, q < Hc.size → ¬ (q = am 2 ∨ ro q = 7003 ∨ Hc.size ≤ q) → Hn[q]? = Hc[q]?)
    (hL : nwLm d (am 2) ((sg_fo s).1 + 1) (fun k => if k = (sg_fo s).1 then e else am (200 + k)) (fun q => ro q = 7003 ∨ Hc.size ≤ q) mo ar cap f Hn) : ∃ ro' am' : Nat → Nat, nwMW d ro' am' y (st_fo s ((sg_fo s).1 + 1, sp_up (sg_fo s).2 (sg_fo s).1 v)) th Hn ∧ ∀ q, ro q ≠ 0 → ro' q = ro q := by
  obtain ⟨h1, hb, r1, r2⟩ := h.2.2.2.2.1
  have hX := h.2.1
  generalize hN : (sg_fo s).1 = n at *
  have hes := ho.lt
  have hm : nwMo d ro (nwM1 e (5201 + n)) Hc := nwM1.ok he heB hes
  have hk := nwRn.keep (Hn := Hn) (r2 := 7003) h.1 hm
  have a0 : ∀ j, j ≠ 200 + n → sp_up am (200 + n) e j = am j := fun j hj => sp_up_ne _ _ hj
  have kp : ∀ q, q < Hc.size → ro q ≠ 5003 → ro q ≠ 7003 → Hn[q]? = Hc[q]? := fun q g g1 g2 => hq q g (fun e2 => by
    rcases e2 with e2 | e2 | e2
    · exact g1 (by rw [e2]; exact r1)
    · exact g2 e2
    · omega)
  refine ⟨nwRn ro (nwM1 e (5201 + n)) Hc Hn 7003, sp_up am (200 + n) e, h.upd (fun p => p == 24) (nwRn.ok h.1 hm hz (Nat.le_trans heB (Nat.le_of_lt hes))) hk (fun j hj => a0 j (fun e2 => ?_)) (fun q g hS h0 h8 => kp q g (fun e2 => ?_) (fun e2 => ?_)) (mcX.adr (am := am) (hX.1.kept (kp _ hX.1.lt (by rw [hX.2]; decide) (by rw [hX.2]; decide))) (fun j hj => a0 j (by omega))) ⟨Or.inr rfl, Or.inr rfl, Or.inl rfl, Or.inr rfl, Or.inr rfl, Or.inr rfl, Or.inr rfl, Or.inr rfl, Or.inr rfl⟩ ⟨fun h => absurd h (by decide), fun h => absurd h (by decide), fun _ => ?_, fun h => absurd h (by decide), fun h => absurd h (by decide), fun h => absurd h (by decide), fun h => absurd h (by decide), fun h => absurd h (by decide), fun h => absurd h (by decide)⟩, hk⟩
  · rw [e2, show 200 + n + 5001 = 5201 + n by omega, rp_5201 n (by omega)] at hj; exact absurd hj (by decide)
  · rw [e2] at hS; exact absurd hS (by decide)
  · rw [e2] at hS; exact absurd hS (by decide)
  · refine ⟨⟨?_, fun k hk2 => ?_⟩, by show n + 1 < 50; omega, ?_, fun k hk2 => ?_⟩
    · rw [a0 2 (by omega)]
      exact hL.to (fun q g e2 => nwRn.arr hm g (by decide) e2) (fun k hk2 => by
        by_cases e2 : k = n
        · rw [if_pos e2, e2]; exact sp_up_at _ _ _
        · rw [if_neg e2]; exact a0 _ (by omega))
    · by_cases e2 : k = n
      · subst e2
        rw [show sp_up am (200 + k) e (200 + k) = e from sp_up_at _ _ _, show (st_fo s (k + 1, sp_up (sg_fo s).2 k v)).2.2.1.2 k = v from sp_up_at _ _ _]
        exact ho.kept (kp e hes (by rw [he]; decide) (by rw [he]; decide))
      · have hk3 : k < n + 1 := hk2
        rw [a0 _ (show 200 + k ≠ 200 + n by omega), show (st_fo s (n + 1, sp_up (sg_fo s).2 n v)).2.2.1.2 k = (sg_fo s).2 k from sp_up_ne _ _ e2]
        have h4 := h1.2 k (by omega)
        have r4 := r2 k (by omega)
        exact h4.kept (kp _ h4.lt (by omega) (by omega))
    · rw [a0 2 (by omega)]; exact nw_rt hk r1 (by decide)
    · have hk3 : k < n + 1 := hk2
      by_cases e2 : k = n
      · subst e2
        rw [show sp_up am (200 + k) e (200 + k) = e from sp_up_at _ _ _]; exact nwRn.is (nwM1.at _ _) (by omega)
      · rw [a0 _ (show 200 + k ≠ 200 + n by omega)]; exact nw_rt hk (r2 k (by omega)) (by omega)
theorem trm_wi {y : Nat} {s : spSg} {th : Int32} (h : nwMW d ro am y s th Hc) {e ar cap : Nat} {mo : Int32} {f : Nat → Option Nat} {v : Nat × Nat} (hn : (sg_wi s).1 < 49) (he : ro e = 0) (heB : nd_B d ≤ e) (ho : nwI d e 0 2 (fn2 (nI v.1) (nI v.2)) Hc) (hz : Hc.size ≤ Hn.size) (hq : ∀ q, q < Hc.size → ¬ (q = am 6 ∨ ro q = 7007 ∨ Hc.size ≤ q) → Hn[q]? = Hc[q]?)
    (hL : nwLm d (am 6) ((sg_wi s).1 + 1) (fun k => if k = (sg_wi s).1 then e else am (700 + k)) (fun q => ro q = 7007 ∨ Hc.size ≤ q) mo ar cap f Hn) : ∃ ro' am' : Nat → Nat, nwMW d ro' am' y (st_wi s ((sg_wi s).1 + 1, sp_up (sg_wi s).2 (sg_wi s).1 v)) th Hn ∧ ∀ q, ro q ≠ 0 → ro' q = ro q := by
  obtain ⟨h1, hb, r1, r2⟩ := h.2.2.2.2.2.2.2.2.1
  have hX := h.2.1
  generalize hN : (sg_wi s).1 = n at *
  have hes := ho.lt
  have hm : nwMo d ro (nwM1 e (5701 + n)) Hc := nwM1.ok he heB hes
  have hk := nwRn.keep (Hn := Hn) (r2 := 7007) h.1 hm
  have a0 : ∀ j, j ≠ 700 + n → sp_up am (700 + n) e j = am j := fun j hj => sp_up_ne _ _ hj
  have kp : ∀ q, q < Hc.size → ro q ≠ 5007 → ro q ≠ 7007 → Hn[q]? = Hc[q]? := fun q g g1 g2 => hq q g (fun e2 => by
    rcases e2 with e2 | e2 | e2
    · exact g1 (by rw [e2]; exact r1)
    · exact g2 e2
    · omega)
  refine ⟨nwRn ro (nwM1 e (5701 + n)) Hc Hn 7007, sp_up am (700 + n) e, h.upd (fun p => p == 28) (nwRn.ok h.1 hm hz (Nat.le_trans heB (Nat.le_of_lt hes))) hk (fun j hj => a0 j (fun e2 => ?_)) (fun q g hS h0 h8 => kp q g (fun e2 => ?_) (fun e2 => ?_)) (mcX.adr (am := am) (hX.1.kept (kp _ hX.1.lt (by rw [hX.2]; decide) (by rw [hX.2]; decide))) (fun j hj => a0 j (by omega))) ⟨Or.inr rfl, Or.inr rfl, Or.inr rfl, Or.inr rfl, Or.inr rfl, Or.inr rfl, Or.inl rfl, Or.inr rfl, Or.inr rfl⟩ ⟨fun h => absurd h (by decide), fun h => absurd h (by decide), fun h => absurd h (by decide), fun h => absurd h (by decide), fun h => absurd h (by decide), fun h => absurd h (by decide), fun _ => ?_, fun h => absurd h (by decide), fun h => absurd h (by decide)⟩, hk⟩
  · rw [e2, show 700 + n + 5001 = 5701 + n by omega, rp_5701 n (by omega)] at hj; exact absurd hj (by decide)
  · rw [e2] at hS; exact absurd hS (by decide)
  · rw [e2] at hS; exact absurd hS (by decide)
  · refine ⟨⟨?_, fun k hk2 => ?_⟩, by show n + 1 < 50; omega, ?_, fun k hk2 => ?_⟩
    · rw [a0 6 (by omega)]
      exact hL.to (fun q g e2 => nwRn.arr hm g (by decide) e2) (fun k hk2 => by
        by_cases e2 : k = n
        · rw [if_pos e2, e2]; exact sp_up_at _ _ _
        · rw [if_neg e2]; exact a0 _ (by omega))
    · by_cases e2 : k = n
      · subst e2
        rw [show sp_up am (700 + k) e (700 + k) = e from sp_up_at _ _ _, show (st_wi s (k + 1, sp_up (sg_wi s).2 k v)).2.2.2.2.2.2.1.2 k = v from sp_up_at _ _ _]
        exact ho.kept (kp e hes (by rw [he]; decide) (by rw [he]; decide))
      · have hk3 : k < n + 1 := hk2
        rw [a0 _ (show 700 + k ≠ 700 + n by omega), show (st_wi s (n + 1, sp_up (sg_wi s).2 n v)).2.2.2.2.2.2.1.2 k = (sg_wi s).2 k from sp_up_ne _ _ e2]
        have h4 := h1.2 k (by omega)
        have r4 := r2 k (by omega)
        exact h4.kept (kp _ h4.lt (by omega) (by omega))
    · rw [a0 6 (by omega)]; exact nw_rt hk r1 (by decide)
    · have hk3 : k < n + 1 := hk2
      by_cases e2 : k = n
      · subst e2
        rw [show sp_up am (700 + k) e (700 + k) = e from sp_up_at _ _ _]; exact nwRn.is (nwM1.at _ _) (by omega)
      · rw [a0 _ (show 700 + k ≠ 700 + n by omega)]; exact nw_rt hk (r2 k (by omega)) (by omega)
theorem trm_po {y : Nat} {s : spSg} {th : Int32} (h : nwMW d ro am y s th Hc) {c ar cap : Nat} {mo : Int32} {f : Nat → Option Nat} (hB : nd_B d ≤ Hc.size) (hz : Hc.size ≤ Hn.size) (hq : ∀ q, q < Hc.size → ¬ (q = am 4 ∨ ro q = 7005 ∨ Hc.size ≤ q) → Hn[q]? = Hc[q]?)
    (hL : nwLm d (am 4) ((sg_po s).1 + 1) (fun k => if k = (sg_po s).1 then nd_bx d c else nd_bx d ((sg_po s).2 k)) (fun q => ro q = 7005 ∨ Hc.size ≤ q) mo ar cap f Hn) : ∃ ro' am' : Nat → Nat, nwMW d ro' am' y (st_po s ((sg_po s).1 + 1, sp_up (sg_po s).2 (sg_po s).1 c)) th Hn ∧ ∀ q, ro q ≠ 0 → ro' q = ro q := by
  obtain ⟨h1, r1⟩ := h.2.2.2.2.2.2.1
  have hX := h.2.1
  generalize hN : (sg_po s).1 = n at *
  have hm : nwMo d ro (fun _ => 0) Hc := fun q h => absurd rfl h
  have hk := nwRn.keep (Hn := Hn) (r2 := 7005) h.1 hm
  have kp : ∀ q, q < Hc.size → ro q ≠ 5005 → ro q ≠ 7005 → Hn[q]? = Hc[q]? := fun q g g1 g2 => hq q g (fun e2 => by
    rcases e2 with e2 | e2 | e2
    · exact g1 (by rw [e2]; exact r1)
    · exact g2 e2
    · omega)
  refine ⟨nwRn ro (fun _ => 0) Hc Hn 7005, am, h.upd (fun p => p == 26) (nwRn.ok h.1 hm hz hB) hk (fun _ _ => rfl) (fun q g hS h0 h8 => kp q g (fun e2 => ?_) (fun e2 => ?_)) (hX.1.kept (kp _ hX.1.lt (by rw [hX.2]; decide) (by rw [hX.2]; decide))) ⟨Or.inr rfl, Or.inr rfl, Or.inr rfl, Or.inr rfl, Or.inl rfl, Or.inr rfl, Or.inr rfl, Or.inr rfl, Or.inr rfl⟩ ⟨fun h => absurd h (by decide), fun h => absurd h (by decide), fun h => absurd h (by decide), fun h => absurd h (by decide), fun _ => ?_, fun h => absurd h (by decide), fun h => absurd h (by decide), fun h => absurd h (by decide), fun h => absurd h (by decide)⟩, hk⟩
  · rw [e2] at hS; exact absurd hS (by decide)
  · rw [e2] at hS; exact absurd hS (by decide)
  · refine ⟨hL.to (fun q g e2 => nwRn.arr hm g (by decide) e2) (fun k hk2 => ?_), nw_rt hk r1 (by decide)⟩
    show nd_bx d (sp_up (sg_po s).2 n c k) = _
    by_cases e2 : k = n
    · rw [if_pos e2, e2, sp_up_at]
    · rw [if_neg e2, sp_up_ne _ _ e2]
theorem trm_gu {y : Nat} {s : spSg} {th : Int32} (h : nwMW d ro am y s th Hc) {e cl ar cap car ccap : Nat} {mo cmo : Int32} {f cf : Nat → Option Nat} {Pc : Nat → Prop} {v : spGd} (hn : (sg_gu s).1 < 49) (he : ro e = 0 ∧ nd_B d ≤ e) (hc : ro cl = 0 ∧ nd_B d ≤ cl) (hca : ro car = 0 ∧ nd_B d ≤ car) (hec : e ≠ cl ∧ e ≠ car ∧ cl ≠ car) (hcc : 0 < ccap) (ho : nwO d e 10 [.int (nI (gd_a v)), .int (nI (gd_b v)), .int (nI (gd_s v)), .ref cl, .int (nI (gd_k v)), .int (gd_h v)] Hc) (hcl : nwLm d cl (gd_m v) (fun k => nd_bx d (gd_c v k)) Pc cmo car ccap cf Hc) (hz : Hc.size ≤ Hn.size) (hq : ∀ q, q < Hc.size → ¬ (q = am 3 ∨ ro q = 7004 ∨ Hc.size ≤ q) → Hn[q]? = Hc[q]?)
    (hL : nwLm d (am 3) ((sg_gu s).1 + 1) (fun k => if k = (sg_gu s).1 then e else am (300 + k)) (fun q => ro q = 7004 ∨ Hc.size ≤ q) mo ar cap f Hn) : ∃ ro' am' : Nat → Nat, nwMW d ro' am' y (st_gu s ((sg_gu s).1 + 1, sp_up (sg_gu s).2 (sg_gu s).1 v)) th Hn ∧ ∀ q, ro q ≠ 0 → ro' q = ro q := by
  obtain ⟨h1, hb, r1, r2⟩ := h.2.2.2.2.2.1
  have hX := h.2.1
  generalize hN : (sg_gu s).1 = n at *
  have hes := ho.lt
  have hcs := hcl.lt
  have has := hcl.art hcc
  have hm : nwMo d ro (nwM3 e (5301 + n) cl (5401 + n) car (7401 + n)) Hc := nwM3.ok ⟨he.1, he.2, hes⟩ ⟨hc.1, hc.2, hcs⟩ ⟨hca.1, hca.2, has⟩
  have hk := nwRn.keep (Hn := Hn) (r2 := 7004) h.1 hm
  have me : nwRn ro (nwM3 e (5301 + n) cl (5401 + n) car (7401 + n)) Hc Hn 7004 e = 5301 + n := nwRn.is (by unfold nwM3; rw [if_pos rfl]) (by omega)
  have mc : nwRn ro (nwM3 e (5301 + n) cl (5401 + n) car (7401 + n)) Hc Hn 7004 cl = 5401 + n := nwRn.is (by unfold nwM3; rw [if_neg (Ne.symm hec.1), if_pos rfl]) (by omega)
  have ma : nwRn ro (nwM3 e (5301 + n) cl (5401 + n) car (7401 + n)) Hc Hn 7004 car = 7401 + n := nwRn.is (by unfold nwM3; rw [if_neg (Ne.symm hec.2.1), if_neg (Ne.symm hec.2.2), if_pos rfl]) (by omega)
  have hOK := nwRn.ok (r2 := 7004) h.1 hm hz (Nat.le_trans he.2 (Nat.le_of_lt hes))
  have hAR : ∀ q, q < Hn.size → (ro q = 7004 ∨ Hc.size ≤ q) → nwRn ro (nwM3 e (5301 + n) cl (5401 + n) car (7401 + n)) Hc Hn 7004 q = 7004 := fun q g e2 => nwRn.arr hm g (by decide) e2
  generalize nwRn ro (nwM3 e (5301 + n) cl (5401 + n) car (7401 + n)) Hc Hn 7004 = ro' at *
  have a1 : ∀ j, j ≠ 300 + n → j ≠ 400 + n → sp_up (sp_up am (300 + n) e) (400 + n) cl j = am j := fun j hj hj2 => (sp_up_ne _ _ hj2).trans (sp_up_ne _ _ hj)
  have a2 : sp_up (sp_up am (300 + n) e) (400 + n) cl (300 + n) = e := (sp_up_ne _ _ (by omega)).trans (sp_up_at _ _ _)
  have a3 : sp_up (sp_up am (300 + n) e) (400 + n) cl (400 + n) = cl := sp_up_at _ _ _
  generalize sp_up (sp_up am (300 + n) e) (400 + n) cl = am' at *
  have kp : ∀ q, q < Hc.size → ro q ≠ 5004 → ro q ≠ 7004 → Hn[q]? = Hc[q]? := fun q g g1 g2 => hq q g (fun e2 => by
    rcases e2 with e2 | e2 | e2
    · exact g1 (by rw [e2]; exact r1)
    · exact g2 e2
    · omega)
  refine ⟨ro', am', h.upd (fun p => p == 25) hOK hk (fun j hj => a1 j (fun e2 => ?_) (fun e2 => ?_)) (fun q g hS h0 h8 => kp q g (fun e2 => ?_) (fun e2 => ?_)) (mcX.adr (am := am) (hX.1.kept (kp _ hX.1.lt (by rw [hX.2]; decide) (by rw [hX.2]; decide))) (fun j hj => a1 j (by omega) (by omega))) ⟨Or.inr rfl, Or.inr rfl, Or.inr rfl, Or.inl rfl, Or.inr rfl, Or.inr rfl, Or.inr rfl, Or.inr rfl, Or.inr rfl⟩ ⟨fun h => absurd h (by decide), fun h => absurd h (by decide), fun h => absurd h (by decide), fun _ => ?_, fun h => absurd h (by decide), fun h => absurd h (by decide), fun h => absurd h (by decide), fun h => absurd h (by decide), fun h => absurd h (by decide)⟩, hk⟩
  · rw [e2, show 300 + n + 5001 = 5301 + n by omega, rp_5301 n (by omega)] at hj; exact absurd hj (by decide)
  · rw [e2, show 400 + n + 5001 = 5401 + n by omega, rp_5401 n (by omega)] at hj; exact absurd hj (by decide)
  · rw [e2] at hS; exact absurd hS (by decide)
  · rw [e2] at hS; exact absurd hS (by decide)
  · have ev : ((st_gu s (n + 1, sp_up (sg_gu s).2 n v)).2.2.2.1).2 = sp_up (sg_gu s).2 n v := rfl
    refine ⟨⟨?_, fun k hk2 => ?_⟩, by show n + 1 < 50; omega, ?_, fun k hk2 => ?_⟩
    · rw [a1 3 (by omega) (by omega)]
      exact hL.to (fun q g e2 => hAR q g e2) (fun k hk2 => by
        by_cases e2 : k = n
        · rw [if_pos e2, e2]; exact a2
        · rw [if_neg e2]; exact a1 _ (by omega) (by omega))
    · rw [ev]
      have hk3 : k < n + 1 := hk2
      by_cases e2 : k = n
      · subst e2
        rw [a2, a3, sp_up_at]
        exact ⟨ho.kept (kp e hes (by rw [he.1]; decide) (by rw [he.1]; decide)), ⟨car, ccap, cmo, cf, ⟨hcl.1.1.kept (kp cl hcs (by rw [hc.1]; decide) (by rw [hc.1]; decide)), hcl.1.2.1, hcl.1.2.2.1, hcl.1.2.2.2.imp id (fun z => ⟨z.1, z.2.kept (kp car has (by rw [hca.1]; decide) (by rw [hca.1]; decide))⟩)⟩, fun _ => ma, hcl.2.2⟩⟩
      · rw [a1 _ (show 300 + k ≠ 300 + n by omega) (by omega), a1 _ (show 400 + k ≠ 300 + n by omega) (show 400 + k ≠ 400 + n by omega), sp_up_ne _ _ e2]
        obtain ⟨r4, r5⟩ := r2 k (by omega)
        have h4 : nwMGd d (am (300 + k)) (am (400 + k)) (fun q => ro q = 7401 + k) ((sg_gu s).2 k) Hc := h1.2 k (by omega)
        exact h4.go (by omega) hk (kp _ h4.1.lt (by omega) (by omega)) (kp _ h4.2.lt (by omega) (by omega)) (fun q g e3 => kp q g (by omega) (by omega))
    · rw [a1 3 (by omega) (by omega)]; exact nw_rt hk r1 (by decide)
    · have hk3 : k < n + 1 := hk2
      by_cases e2 : k = n
      · subst e2
        rw [a2, a3]; exact ⟨me, mc⟩
      · rw [a1 _ (show 300 + k ≠ 300 + n by omega) (by omega), a1 _ (show 400 + k ≠ 300 + n by omega) (show 400 + k ≠ 400 + n by omega)]
        exact ⟨nw_rt hk (r2 k (by omega)).1 (by omega), nw_rt hk (r2 k (by omega)).2 (by omega)⟩
def nwM2 (e r e2 r2 : Nat) : Nat → Nat := fun q => if q = e then r else if q = e2 then r2 else 0
theorem nwM2.ok {e r e2 s2 : Nat} (h1 : ro e = 0 ∧ nd_B d ≤ e ∧ e < Hc.size) (h2 : ro e2 = 0 ∧ nd_B d ≤ e2 ∧ e2 < Hc.size) : nwMo d ro (nwM2 e r e2 s2) Hc := by
  intro q h
  unfold nwM2 at h
  split at h
  · rename_i g; rw [g]; exact h1
  · split at h
    · rename_i g; rw [g]; exact h2
    · exact absurd rfl h
theorem trm_in {y : Nat} {s : spSg} {th : Int32} (h : nwMW d ro am y s th Hc) {e wl ar cap : Nat} {mo : Int32} {f : Nat → Option Nat} {v : spI1} (hn : (sg_in s).1 < 49) (he : ro e = 0 ∧ nd_B d ≤ e) (hc : ro wl = 0 ∧ nd_B d ≤ wl) (hec : e ≠ wl) (ho : nwMIn d e wl v Hc) (hz : Hc.size ≤ Hn.size) (hq : ∀ q, q < Hc.size → ¬ (q = am 5 ∨ ro q = 7006 ∨ Hc.size ≤ q) → Hn[q]? = Hc[q]?)
    (hL : nwLm d (am 5) ((sg_in s).1 + 1) (fun k => if k = (sg_in s).1 then e else am (500 + k)) (fun q => ro q = 7006 ∨ Hc.size ≤ q) mo ar cap f Hn) : ∃ ro' am' : Nat → Nat, nwMW d ro' am' y (st_in s ((sg_in s).1 + 1, sp_up (sg_in s).2 (sg_in s).1 v)) th Hn ∧ ∀ q, ro q ≠ 0 → ro' q = ro q := by
  obtain ⟨h1, hb, r1, r2⟩ := h.2.2.2.2.2.2.2.1
  have hX := h.2.1
  generalize hN : (sg_in s).1 = n at *
  have hes := ho.1.lt
  have hcs := ho.2.lt
  have hm : nwMo d ro (nwM2 e (5501 + n) wl (5601 + n)) Hc := nwM2.ok ⟨he.1, he.2, hes⟩ ⟨hc.1, hc.2, hcs⟩
  have hk := nwRn.keep (Hn := Hn) (r2 := 7006) h.1 hm
  have me : nwRn ro (nwM2 e (5501 + n) wl (5601 + n)) Hc Hn 7006 e = 5501 + n := nwRn.is (by unfold nwM2; rw [if_pos rfl]) (by omega)
  have mc : nwRn ro (nwM2 e (5501 + n) wl (5601 + n)) Hc Hn 7006 wl = 5601 + n := nwRn.is (by unfold nwM2; rw [if_neg (Ne.symm hec), if_pos rfl]) (by omega)
  have hOK := nwRn.ok (r2 := 7006) h.1 hm hz (Nat.le_trans he.2 (Nat.le_of_lt hes))
  have hAR : ∀ q, q < Hn.size → (ro q = 7006 ∨ Hc.size ≤ q) → nwRn ro (nwM2 e (5501 + n) wl (5601 + n)) Hc Hn 7006 q = 7006 := fun q g e2 => nwRn.arr hm g (by decide) e2
  generalize nwRn ro (nwM2 e (5501 + n) wl (5601 + n)) Hc Hn 7006 = ro' at *
  have a1 : ∀ j, j ≠ 500 + n → j ≠ 600 + n → sp_up (sp_up am (500 + n) e) (600 + n) wl j = am j := fun j hj hj2 => (sp_up_ne _ _ hj2).trans (sp_up_ne _ _ hj)
  have a2 : sp_up (sp_up am (500 + n) e) (600 + n) wl (500 + n) = e := (sp_up_ne _ _ (by omega)).trans (sp_up_at _ _ _)
  have a3 : sp_up (sp_up am (500 + n) e) (600 + n) wl (600 + n) = wl := sp_up_at _ _ _
  generalize sp_up (sp_up am (500 + n) e) (600 + n) wl = am' at *
  have kp : ∀ q, q < Hc.size → ro q ≠ 5006 → ro q ≠ 7006 → Hn[q]? = Hc[q]? := fun q g g1 g2 => hq q g (fun e2 => by
    rcases e2 with e2 | e2 | e2
    · exact g1 (by rw [e2]; exact r1)
    · exact g2 e2
    · omega)
  refine ⟨ro', am', h.upd (fun p => p == 27) hOK hk (fun j hj => a1 j (fun e2 => ?_) (fun e2 => ?_)) (fun q g hS h0 h8 => kp q g (fun e2 => ?_) (fun e2 => ?_)) (mcX.adr (am := am) (hX.1.kept (kp _ hX.1.lt (by rw [hX.2]; decide) (by rw [hX.2]; decide))) (fun j hj => a1 j (by omega) (by omega))) ⟨Or.inr rfl, Or.inr rfl, Or.inr rfl, Or.inr rfl, Or.inr rfl, Or.inl rfl, Or.inr rfl, Or.inr rfl, Or.inr rfl⟩ ⟨fun h => absurd h (by decide), fun h => absurd h (by decide), fun h => absurd h (by decide), fun h => absurd h (by decide), fun h => absurd h (by decide), fun _ => ?_, fun h => absurd h (by decide), fun h => absurd h (by decide), fun h => absurd h (by decide)⟩, hk⟩
  · rw [e2, show 500 + n + 5001 = 5501 + n by omega, rp_5501 n (by omega)] at hj; exact absurd hj (by decide)
  · rw [e2, show 600 + n + 5001 = 5601 + n by omega, rp_5601 n (by omega)] at hj; exact absurd hj (by decide)
  · rw [e2] at hS; exact absurd hS (by decide)
  · rw [e2] at hS; exact absurd hS (by decide)
  · have ev : ((st_in s (n + 1, sp_up (sg_in s).2 n v)).2.2.2.2.2.1).2 = sp_up (sg_in s).2 n v := rfl
    refine ⟨⟨?_, fun k hk2 => ?_⟩, by show n + 1 < 50; omega, ?_, fun k hk2 => ?_⟩
    · rw [a1 5 (by omega) (by omega)]
      exact hL.to (fun q g e2 => hAR q g e2) (fun k hk2 => by
        by_cases e2 : k = n
        · rw [if_pos e2, e2]; exact a2
        · rw [if_neg e2]; exact a1 _ (by omega) (by omega))
    · rw [ev]
      have hk3 : k < n + 1 := hk2
      by_cases e2 : k = n
      · subst e2
        rw [a2, a3, sp_up_at]
        exact ho.kept (kp e hes (by rw [he.1]; decide) (by rw [he.1]; decide)) (kp wl hcs (by rw [hc.1]; decide) (by rw [hc.1]; decide))
      · rw [a1 _ (show 500 + k ≠ 500 + n by omega) (by omega), a1 _ (show 600 + k ≠ 500 + n by omega) (show 600 + k ≠ 600 + n by omega), sp_up_ne _ _ e2]
        obtain ⟨r4, r5⟩ := r2 k (by omega)
        have h4 : nwMIn d (am (500 + k)) (am (600 + k)) ((sg_in s).2 k) Hc := h1.2 k (by omega)
        exact h4.kept (kp _ h4.1.lt (by omega) (by omega)) (kp _ h4.2.lt (by omega) (by omega))
    · rw [a1 5 (by omega) (by omega)]; exact nw_rt hk r1 (by decide)
    · have hk3 : k < n + 1 := hk2
      by_cases e2 : k = n
      · subst e2
        rw [a2, a3]; exact ⟨me, mc⟩
      · rw [a1 _ (show 500 + k ≠ 500 + n by omega) (by omega), a1 _ (show 600 + k ≠ 500 + n by omega) (show 600 + k ≠ 600 + n by omega)]
        exact ⟨nw_rt hk (r2 k (by omega)).1 (by omega), nw_rt hk (r2 k (by omega)).2 (by omega)⟩
theorem trm_pLa {y : Nat} {s : spSg} {th : Int32} (h : nwMW d ro am y s th Hc) {k : Nat} {v : Nat × Nat × Bool} (hk : k < (sg_la s).1) (hz : Hn.size = Hc.size) (hq : ∀ q : Nat, q ≠ am (100 + k) → Hn[q]? = Hc[q]?) (ho : nwI d (am (100 + k)) 0 3 (fn3 (nI v.1) (nI v.2.1) (b2i v.2.2)) Hn) : nwMW d ro am y (st_la s ((sg_la s).1, sp_up (sg_la s).2 k v)) th Hn := by
  obtain ⟨h1, hb, r1, r2⟩ := h.2.2.2.1
  have hX := h.2.1
  have rk := r2 k hk
  refine h.upd (fun p => p == 23) (fun q g => ⟨(h.1 q g).1, Nat.lt_of_lt_of_le (h.1 q g).2 (Nat.le_of_eq hz.symm)⟩) (fun _ _ => rfl) (fun _ _ => rfl) (fun q g hS h0 h8 => hq q (fun e2 => ?_)) (hX.1.kept (hq _ (fun e => by have r8 := hX.2; rw [e, rk] at r8; omega))) ⟨Or.inr rfl, Or.inl rfl, Or.inr rfl, Or.inr rfl, Or.inr rfl, Or.inr rfl, Or.inr rfl, Or.inr rfl, Or.inr rfl⟩ ⟨fun h => absurd h (by decide), fun _ => ⟨⟨?_, fun j hj => ?_⟩, hb, r1, r2⟩, fun h => absurd h (by decide), fun h => absurd h (by decide), fun h => absurd h (by decide), fun h => absurd h (by decide), fun h => absurd h (by decide), fun h => absurd h (by decide), fun h => absurd h (by decide)⟩
  · rw [e2, rk, rp_5101 k (by omega)] at hS; exact absurd hS (by decide)
  · exact h1.1.go (fun _ _ e => e) (hq _ (fun e => by rw [e] at r1; omega)) (fun q g e => hq q (fun e2 => by rw [e2] at e; omega)) (fun _ _ => rfl)
  · show nwI d (am (100 + j)) 0 3 (fn3 (nI (sp_up (sg_la s).2 k v j).1) (nI (sp_up (sg_la s).2 k v j).2.1) (b2i (sp_up (sg_la s).2 k v j).2.2)) Hn
    by_cases e : j = k
    · subst e; rw [sp_up_at]; exact ho
    · rw [sp_up_ne _ _ e]
      have rj := r2 j hj
      exact (h1.2 j hj).kept (hq _ (fun e2 => by rw [e2] at rj; omega))
theorem trm_pGu {y : Nat} {s : spSg} {th : Int32} (h : nwMW d ro am y s th Hc) {k : Nat} {v : spGd} (hk : k < (sg_gu s).1) (hz : Hn.size = Hc.size) (hq : ∀ q : Nat, q ≠ am (300 + k) → Hn[q]? = Hc[q]?) (hv : v.2.1 = ((sg_gu s).2 k).2.1) (ho : nwO d (am (300 + k)) 10 [.int (nI (gd_a v)), .int (nI (gd_b v)), .int (nI (gd_s v)), .ref (am (400 + k)), .int (nI (gd_k v)), .int (gd_h v)] Hn) : nwMW d ro am y (st_gu s ((sg_gu s).1, sp_up (sg_gu s).2 k v)) th Hn := by
  obtain ⟨h1, hb, r1, r2⟩ := h.2.2.2.2.2.1
  have hX := h.2.1
  have rk := (r2 k hk).1
  refine h.upd (fun p => p == 25) (fun q g => ⟨(h.1 q g).1, Nat.lt_of_lt_of_le (h.1 q g).2 (Nat.le_of_eq hz.symm)⟩) (fun _ _ => rfl) (fun _ _ => rfl) (fun q g hS h0 h8 => hq q (fun e2 => ?_)) (hX.1.kept (hq _ (fun e => by have r8 := hX.2; rw [e, rk] at r8; omega))) ⟨Or.inr rfl, Or.inr rfl, Or.inr rfl, Or.inl rfl, Or.inr rfl, Or.inr rfl, Or.inr rfl, Or.inr rfl, Or.inr rfl⟩ ⟨fun h => absurd h (by decide), fun h => absurd h (by decide), fun h => absurd h (by decide), fun _ => ⟨⟨?_, fun j hj => ?_⟩, hb, r1, r2⟩, fun h => absurd h (by decide), fun h => absurd h (by decide), fun h => absurd h (by decide), fun h => absurd h (by decide), fun h => absurd h (by decide)⟩
  · rw [e2, rk, rp_5301 k (by omega)] at hS; exact absurd hS (by decide)
  · exact h1.1.go (fun _ _ e => e) (hq _ (fun e => by rw [e] at r1; omega)) (fun q g e => hq q (fun e2 => by rw [e2] at e; omega)) (fun _ _ => rfl)
  · show nwMGd d (am (300 + j)) (am (400 + j)) (fun q => ro q = 7401 + j) (sp_up (sg_gu s).2 k v j) Hn
    have hj2 : j < (sg_gu s).1 := hj
    have hj3 : nwMGd d (am (300 + j)) (am (400 + j)) (fun q => ro q = 7401 + j) ((sg_gu s).2 j) Hc := h1.2 j hj
    obtain ⟨rj, rj2⟩ := r2 j hj
    have hl := hj3.2.go (P' := fun q => ro q = 7401 + j) (fun _ _ e => e) (hq _ (fun e => by rw [e] at rj2; omega)) (fun q g e => hq q (fun e2 => by rw [e2] at e; omega)) (fun _ _ => rfl)
    by_cases e : j = k
    · subst e; rw [sp_up_at]; exact ⟨ho, by show nwLi d (am (400 + j)) v.2.1.1 (fun k => nd_bx d (v.2.1.2 k)) _ Hn; rw [hv]; exact hl⟩
    · rw [sp_up_ne _ _ e]
      exact ⟨hj3.1.kept (hq _ (fun e2 => by rw [e2] at rj; omega)), hl⟩
theorem trm_pIn {y : Nat} {s : spSg} {th : Int32} (h : nwMW d ro am y s th Hc) {k : Nat} {v : spI1} (hk : k < (sg_in s).1) (hz : Hn.size = Hc.size) (hq : ∀ q : Nat, q ≠ am (500 + k) → Hn[q]? = Hc[q]?) (hv : v.2.1 = ((sg_in s).2 k).2.1 ∧ in_a v = in_a ((sg_in s).2 k)) (ho : nwO d (am (500 + k)) 11 [.int (nI (in_a v)), .int (nI (in_v v)), .ref (am (600 + k)), .int (nI (in_s v)), .int (oI (in_l v))] Hn) : nwMW d ro am y (st_in s ((sg_in s).1, sp_up (sg_in s).2 k v)) th Hn := by
  obtain ⟨h1, hb, r1, r2⟩ := h.2.2.2.2.2.2.2.1
  have hX := h.2.1
  have rk := (r2 k hk).1
  refine h.upd (fun p => p == 27) (fun q g => ⟨(h.1 q g).1, Nat.lt_of_lt_of_le (h.1 q g).2 (Nat.le_of_eq hz.symm)⟩) (fun _ _ => rfl) (fun _ _ => rfl) (fun q g hS h0 h8 => hq q (fun e2 => ?_)) (hX.1.kept (hq _ (fun e => by have r8 := hX.2; rw [e, rk] at r8; omega))) ⟨Or.inr rfl, Or.inr rfl, Or.inr rfl, Or.inr rfl, Or.inr rfl, Or.inl rfl, Or.inr rfl, Or.inr rfl, Or.inr rfl⟩ ⟨fun h => absurd h (by decide), fun h => absurd h (by decide), fun h => absurd h (by decide), fun h => absurd h (by decide), fun h => absurd h (by decide), fun _ => ⟨⟨?_, fun j hj => ?_⟩, hb, r1, r2⟩, fun h => absurd h (by decide), fun h => absurd h (by decide), fun h => absurd h (by decide)⟩
  · rw [e2, rk, rp_5501 k (by omega)] at hS; exact absurd hS (by decide)
  · exact h1.1.go (fun _ _ e => e) (hq _ (fun e => by rw [e] at r1; omega)) (fun q g e => hq q (fun e2 => by rw [e2] at e; omega)) (fun _ _ => rfl)
  · show nwMIn d (am (500 + j)) (am (600 + j)) (sp_up (sg_in s).2 k v j) Hn
    have hj2 : j < (sg_in s).1 := hj
    have hj3 : nwMIn d (am (500 + j)) (am (600 + j)) ((sg_in s).2 j) Hc := h1.2 j hj
    obtain ⟨rj, rj2⟩ := r2 j hj
    have hl := hj3.2.kept (hq _ (fun e => by rw [e] at rj2; omega))
    by_cases e : j = k
    · subst e; rw [sp_up_at]
      exact ⟨ho, nwI.congr hl (fun m _ => by unfold sp_wayM sp_at in_m in_w; rw [hv.2, hv.1])⟩
    · rw [sp_up_ne _ _ e]
      exact ⟨hj3.1.kept (hq _ (fun e2 => by rw [e2] at rj; omega)), hl⟩
theorem trm_pKi {y : Nat} {s : spSg} {th : Int32} (h : nwMW d ro am y s th Hc) {kk : Nat → Nat} (hz : Hn.size = Hc.size) (hq : ∀ q : Nat, q ≠ am 9 → Hn[q]? = Hc[q]?) (ho : nwI d (am 9) 0 (gr_n (sg_gr s)) (fun c => nI (kk c)) Hn) : nwMW d ro am y (st_gr s (gr_w (sg_gr s), gr_h (sg_gr s), kk)) th Hn := by
  obtain ⟨h1, r1⟩ := h.2.2.1
  have hX := h.2.1
  refine h.upd (fun p => p == 22) (fun q g => ⟨(h.1 q g).1, Nat.lt_of_lt_of_le (h.1 q g).2 (Nat.le_of_eq hz.symm)⟩) (fun _ _ => rfl) (fun _ _ => rfl) (fun q g hS h0 h8 => hq q (fun e2 => ?_)) (hX.1.kept (hq _ (fun e => by have r8 := hX.2; rw [e, r1] at r8; omega))) ⟨Or.inl rfl, Or.inr rfl, Or.inr rfl, Or.inr rfl, Or.inr rfl, Or.inr rfl, Or.inr rfl, Or.inr rfl, Or.inr rfl⟩ ⟨fun _ => ⟨ho, r1⟩, fun h => absurd h (by decide), fun h => absurd h (by decide), fun h => absurd h (by decide), fun h => absurd h (by decide), fun h => absurd h (by decide), fun h => absurd h (by decide), fun h => absurd h (by decide), fun h => absurd h (by decide)⟩
  rw [e2, r1] at hS; exact absurd hS (by decide)
theorem trm_pKe {y : Nat} {s : spSg} {th : Int32} (h : nwMW d ro am y s th Hc) {ke : Nat → Option Nat} (hz : Hn.size = Hc.size) (hq : ∀ q : Nat, q ≠ am 8 → Hn[q]? = Hc[q]?) (ho : nwI d (am 8) 0 6 (fun k => oI (ke k)) Hn) : nwMW d ro am y (st_ke s ke) th Hn := by
  obtain ⟨h1, r1⟩ := h.2.2.2.2.2.2.2.2.2.2
  have hX := h.2.1
  refine h.upd (fun p => p == 30) (fun q g => ⟨(h.1 q g).1, Nat.lt_of_lt_of_le (h.1 q g).2 (Nat.le_of_eq hz.symm)⟩) (fun _ _ => rfl) (fun _ _ => rfl) (fun q g hS h0 h8 => hq q (fun e2 => ?_)) (hX.1.kept (hq _ (fun e => by have r8 := hX.2; rw [e, r1] at r8; omega))) ⟨Or.inr rfl, Or.inr rfl, Or.inr rfl, Or.inr rfl, Or.inr rfl, Or.inr rfl, Or.inr rfl, Or.inr rfl, Or.inl rfl⟩ ⟨fun h => absurd h (by decide), fun h => absurd h (by decide), fun h => absurd h (by decide), fun h => absurd h (by decide), fun h => absurd h (by decide), fun h => absurd h (by decide), fun h => absurd h (by decide), fun h => absurd h (by decide), fun _ => ⟨ho, r1⟩⟩
  rw [e2, r1] at hS; exact absurd hS (by decide)
/-- a cell more for a guard's round -/
theorem trm_gc {y : Nat} {s : spSg} {th : Int32} (h : nwMW d ro am y s th Hc) {g c ar cap : Nat} {mo : Int32} {f : Nat → Option Nat} (hB : nd_B d ≤ Hc.size) (hg : g < (sg_gu s).1) (hz : Hc.size ≤ Hn.size) (hq : ∀ q, q < Hc.size → ¬ (q = am (400 + g) ∨ ro q = 7401 + g ∨ Hc.size ≤ q) → Hn[q]? = Hc[q]?)
    (hL : nwLm d (am (400 + g)) (gd_m ((sg_gu s).2 g) + 1) (fun k => if k = gd_m ((sg_gu s).2 g) then nd_bx d c else nd_bx d (gd_c ((sg_gu s).2 g) k)) (fun q => ro q = 7401 + g ∨ Hc.size ≤ q) mo ar cap f Hn) : ∃ ro' : Nat → Nat, nwMW d ro' am y (st_gu s ((sg_gu s).1, sp_up (sg_gu s).2 g (gd_add ((sg_gu s).2 g) c))) th Hn ∧ ∀ q, ro q ≠ 0 → ro' q = ro q := by
  obtain ⟨h1, hb, r1, r2⟩ := h.2.2.2.2.2.1
  have hX := h.2.1
  have hm : nwMo d ro (fun _ => 0) Hc := fun q h => absurd rfl h
  have hk := nwRn.keep (Hn := Hn) (r2 := 7401 + g) h.1 hm
  obtain ⟨rg, rg2⟩ := r2 g hg
  have kp : ∀ q, q < Hc.size → ro q ≠ 5401 + g → ro q ≠ 7401 + g → Hn[q]? = Hc[q]? := fun q g1 g2 g3 => hq q g1 (fun e2 => by
    rcases e2 with e2 | e2 | e2
    · exact g2 (by rw [e2]; exact rg2)
    · exact g3 e2
    · omega)
  refine ⟨nwRn ro (fun _ => 0) Hc Hn (7401 + g), h.upd (fun p => p == 25) (nwRn.ok h.1 hm hz hB) hk (fun _ _ => rfl) (fun q g1 hS h0 h8 => kp q g1 (fun e2 => ?_) (fun e2 => ?_)) (hX.1.kept (kp _ hX.1.lt (by rw [hX.2]; omega) (by rw [hX.2]; omega))) ⟨Or.inr rfl, Or.inr rfl, Or.inr rfl, Or.inl rfl, Or.inr rfl, Or.inr rfl, Or.inr rfl, Or.inr rfl, Or.inr rfl⟩ ⟨fun h => absurd h (by decide), fun h => absurd h (by decide), fun h => absurd h (by decide), fun _ => ⟨⟨?_, fun j hj => ?_⟩, hb, nw_rt hk r1 (by decide), fun j hj => ?_⟩, fun h => absurd h (by decide), fun h => absurd h (by decide), fun h => absurd h (by decide), fun h => absurd h (by decide), fun h => absurd h (by decide)⟩, hk⟩
  · rw [e2, rp_5401 g (by omega)] at hS; exact absurd hS (by decide)
  · rw [e2, rp_7401 g (by omega)] at hS; exact absurd hS (by decide)
  · exact h1.1.go (fun q _ e => nw_rt hk e (by decide)) (kp _ h1.1.lt (by omega) (by omega)) (fun q g1 e => kp q g1 (by omega) (by omega)) (fun _ _ => rfl)
  · show nwMGd d (am (300 + j)) (am (400 + j)) (fun q => nwRn ro (fun _ => 0) Hc Hn (7401 + g) q = 7401 + j) (sp_up (sg_gu s).2 g (gd_add ((sg_gu s).2 g) c) j) Hn
    have hj2 : j < (sg_gu s).1 := hj
    have hj3 : nwMGd d (am (300 + j)) (am (400 + j)) (fun q => ro q = 7401 + j) ((sg_gu s).2 j) Hc := h1.2 j hj
    obtain ⟨rj, rj2⟩ := r2 j hj
    have ho := hj3.1.kept (kp _ hj3.1.lt (by omega) (by omega))
    by_cases e : j = g
    · subst e; rw [sp_up_at]
      refine ⟨ho, hL.to (fun q g1 e2 => nwRn.arr hm g1 (by omega) e2) (fun k hk2 => ?_)⟩
      show nd_bx d (sp_up (gd_c ((sg_gu s).2 j)) (gd_m ((sg_gu s).2 j)) c k) = _
      by_cases e2 : k = gd_m ((sg_gu s).2 j)
      · rw [if_pos e2, e2, sp_up_at]
      · rw [if_neg e2, sp_up_ne _ _ e2]
    · rw [sp_up_ne _ _ e]
      exact hj3.go (by omega) hk (kp _ hj3.1.lt (by omega) (by omega)) (kp _ hj3.2.lt (by omega) (by omega)) (fun q g1 e3 => kp q g1 (by omega) (by omega))
  · exact ⟨nw_rt hk (r2 j hj).1 (by omega), nw_rt hk (r2 j hj).2 (by omega)⟩
end MTRANS
