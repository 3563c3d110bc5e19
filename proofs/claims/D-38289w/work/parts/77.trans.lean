/-! ===== what a change of cells makes of the world ===== -/
/-- roles for new cells: 'm' for some that were made before, r2 for all from Hc on -/
def nwRn (ro m : Nat → Nat) (Hc Hn : Heap) (r2 : Nat) : Nat → Nat := fun q => if m q = 0 then (if Hc.size ≤ q ∧ q < Hn.size then r2 else ro q) else m q
section TRANS
variable {d : nwD} {ro ad m : Nat → Nat} {Hc Hn : Heap} {r2 : Nat}
def nwMo (d : nwD) (ro m : Nat → Nat) (Hc : Heap) : Prop := ∀ q, m q ≠ 0 → ro q = 0 ∧ nd_B d ≤ q ∧ q < Hc.size
theorem nwRn.m0 (hm : nwMo d ro m Hc) {q : Nat} (h : ro q ≠ 0) : m q = 0 := Decidable.byContradiction fun e => h (hm q e).1
theorem nwRn.keep (hr : roOk d ro Hc) (hm : nwMo d ro m Hc) : ∀ q, ro q ≠ 0 → nwRn ro m Hc Hn r2 q = ro q := by
  intro q h
  unfold nwRn
  rw [if_pos (nwRn.m0 hm h), if_neg (fun e => absurd (hr q h).2 (Nat.not_lt.mpr e.1))]
theorem nwRn.ok (hr : roOk d ro Hc) (hm : nwMo d ro m Hc) (hz : Hc.size ≤ Hn.size) (hB : nd_B d ≤ Hc.size) : roOk d (nwRn ro m Hc Hn r2) Hn := by
  intro q h
  unfold nwRn at h
  split at h
  · split at h
    · rename_i e; exact ⟨Nat.le_trans hB e.1, e.2⟩
    · exact ⟨(hr q h).1, Nat.lt_of_lt_of_le (hr q h).2 hz⟩
  · rename_i e; exact ⟨(hm q e).2.1, Nat.lt_of_lt_of_le (hm q e).2.2 hz⟩
theorem nwRn.arr (hm : nwMo d ro m Hc) {q : Nat} (hq : q < Hn.size) (h2 : r2 ≠ 0) (h : ro q = r2 ∨ Hc.size ≤ q) : nwRn ro m Hc Hn r2 q = r2 := by
  have h0 : m q = 0 := h.elim (fun e => nwRn.m0 hm (by rw [e]; exact h2)) (fun e => Decidable.byContradiction fun e2 => absurd (hm q e2).2.2 (Nat.not_lt.mpr e))
  unfold nwRn
  rw [if_pos h0]
  split
  · rfl
  · rename_i e; exact h.elim id (fun e2 => absurd ⟨e2, hq⟩ e)
theorem nwRn.is {q : Nat} {r : Nat} (h : m q = r) (h2 : r ≠ 0) : nwRn ro m Hc Hn r2 q = r := by
  unfold nwRn
  rw [if_neg (by rw [h]; exact h2)]; exact h
theorem nwLm.to {a n ar cap : Nat} {es es' : Nat → Nat} {P P' : Nat → Prop} {mo : Int32} {f : Nat → Option Nat} {H : Heap} (h : nwLm d a n es P mo ar cap f H) (hP : ∀ q, q < H.size → P q → P' q) (he : ∀ k, k < n → es' k = es k) : nwLi d a n es' P' H :=
  ⟨ar, cap, mo, f, h.1, fun hc => hP ar (h.art hc) (h.2.1 hc), fun k hk => by rw [he k hk]; exact h.2.2 k hk⟩
def nwM1 (e r : Nat) : Nat → Nat := fun q => if q = e then r else 0
theorem nwM1.at (e r : Nat) : nwM1 e r e = r := if_pos rfl
theorem nwM1.ok {e r : Nat} (he : ro e = 0) (heB : nd_B d ≤ e) (hes : e < Hc.size) : nwMo d ro (nwM1 e r) Hc := by
  intro q h
  unfold nwM1 at h
  split at h
  · rename_i e2; rw [e2]; exact ⟨he, heB, hes⟩
  · exact absurd rfl h
theorem tr_la {x : Nat} {s : spSg} {sm : Int64} (h : nwWR d ro ad x s sm Hc) {e ar cap : Nat} {mo : Int32} {f : Nat → Option Nat} {v : Nat × Nat × Bool} (hn : (sg_la s).1 < 49) (he : ro e = 0) (heB : nd_B d ≤ e) (ho : nwO d e 2 [.int (nI v.1), .int (nI v.2.1), .int (b2i v.2.2)] Hc) (hz : Hc.size ≤ Hn.size) (hq : ∀ q, q < Hc.size → ¬ (q = ad 1 ∨ ro q = 2002 ∨ Hc.size ≤ q) → Hn[q]? = Hc[q]?)
    (hL : nwLm d (ad 1) ((sg_la s).1 + 1) (fun k => if k = (sg_la s).1 then e else ad (100 + k)) (fun q => ro q = 2002 ∨ Hc.size ≤ q) mo ar cap f Hn) : ∃ ro' ad' : Nat → Nat, nwWR d ro' ad' x (st_la s ((sg_la s).1 + 1, sp_up (sg_la s).2 (sg_la s).1 v)) sm Hn ∧ ∀ q, ro q ≠ 0 → ro' q = ro q := by
  obtain ⟨h1, hb, r1, r2⟩ := h.2.2.2.1
  generalize hN : (sg_la s).1 = n at *
  have hes := ho.lt
  have hm : nwMo d ro (nwM1 e (101 + n)) Hc := nwM1.ok he heB hes
  have hk := nwRn.keep (Hn := Hn) (r2 := 2002) h.1 hm
  have a0 : ∀ j, j ≠ 100 + n → sp_up ad (100 + n) e j = ad j := fun j hj => sp_up_ne _ _ hj
  refine ⟨nwRn ro (nwM1 e (101 + n)) Hc Hn 2002, sp_up ad (100 + n) e, h.upd (fun p => p == 3) (nwRn.ok h.1 hm hz (Nat.le_trans heB (Nat.le_of_lt hes))) hk (fun j hj => a0 j (fun e2 => ?_)) (fun _ j hj => a0 j (by omega)) (fun q g hS h0 => hq q g (fun e2 => ?_)) ⟨Or.inr ⟨rfl, rfl, rfl, rfl⟩, Or.inr rfl, Or.inl rfl, Or.inr rfl, Or.inr rfl, Or.inr rfl, Or.inr rfl, Or.inr rfl, Or.inr rfl, Or.inr rfl⟩ ⟨fun h => absurd h (by decide), fun h => absurd h (by decide), fun _ => ?_, fun h => absurd h (by decide), fun h => absurd h (by decide), fun h => absurd h (by decide), fun h => absurd h (by decide), fun h => absurd h (by decide), fun h => absurd h (by decide), fun h => absurd h (by decide)⟩, hk⟩
  · rw [e2, show 100 + n + 1 = 101 + n by omega, rp_101 n (by omega)] at hj; exact absurd hj (by decide)
  · rcases e2 with e2 | e2 | e2
    · rw [e2, r1] at hS; exact absurd hS (by decide)
    · rw [e2] at hS; exact absurd hS (by decide)
    · omega
  · refine ⟨⟨?_, fun k hk2 => ?_⟩, by show n + 1 < 50; omega, ?_, fun k hk2 => ?_⟩
    · rw [a0 1 (by omega)]
      exact hL.to (fun q g e2 => nwRn.arr hm g (by decide) e2) (fun k hk2 => by
        by_cases e2 : k = n
        · rw [if_pos e2, e2]; exact sp_up_at _ _ _
        · rw [if_neg e2]; exact a0 _ (by omega))
    · by_cases e2 : k = n
      · subst e2
        rw [show sp_up ad (100 + k) e (100 + k) = e from sp_up_at _ _ _, show (st_la s (k + 1, sp_up (sg_la s).2 k v)).2.1.2 k = v from sp_up_at _ _ _]
        exact ho.kept (hq e hes (fun e3 => by rcases e3 with e3 | e3 | e3; rw [e3, r1] at he; omega; omega; omega))
      · have hk3 : k < n + 1 := hk2
        have hk4 : k < n := by omega
        rw [a0 _ (show 100 + k ≠ 100 + n by omega), show (st_la s (n + 1, sp_up (sg_la s).2 n v)).2.1.2 k = (sg_la s).2 k from sp_up_ne _ _ e2]
        have h4 := h1.2 k (by omega)
        have r4 := r2 k (by omega)
        exact h4.kept (hq _ h4.lt (fun e3 => by rcases e3 with e3 | e3 | e3; rw [e3, r1] at r4; omega; omega; have := h4.lt; omega))
    · rw [a0 1 (by omega)]; exact nw_rt hk r1 (by decide)
    · have hk3 : k < n + 1 := hk2
      by_cases e2 : k = n
      · subst e2
        rw [show sp_up ad (100 + k) e (100 + k) = e from sp_up_at _ _ _]; exact nwRn.is (nwM1.at _ _) (by omega)
      · rw [a0 _ (show 100 + k ≠ 100 + n by omega)]; exact nw_rt hk (r2 k (by omega)) (by omega)
theorem tr_fo {x : Nat} {s : spSg} {sm : Int64} (h : nwWR d ro ad x s sm Hc) {e ar cap : Nat} {mo : Int32} {f : Nat → Option Nat} {v : Nat × Nat} (hn : (sg_fo s).1 < 49) (he : ro e = 0) (heB : nd_B d ≤ e) (ho : nwO d e 3 [.int (nI v.1), .int (nI v.2)] Hc) (hz : Hc.size ≤ Hn.size) (hq : ∀ q, q < Hc.size → ¬ (q = ad 2 ∨ ro q = 2003 ∨ Hc.size ≤ q) → Hn[q]? = Hc[q]?)
    (hL : nwLm d (ad 2) ((sg_fo s).1 + 1) (fun k => if k = (sg_fo s).1 then e else ad (200 + k)) (fun q => ro q = 2003 ∨ Hc.size ≤ q) mo ar cap f Hn) : ∃ ro' ad' : Nat → Nat, nwWR d ro' ad' x (st_fo s ((sg_fo s).1 + 1, sp_up (sg_fo s).2 (sg_fo s).1 v)) sm Hn ∧ ∀ q, ro q ≠ 0 → ro' q = ro q := by
  obtain ⟨h1, hb, r1, r2⟩ := h.2.2.2.2.1
  generalize hN : (sg_fo s).1 = n at *
  have hes := ho.lt
  have hm : nwMo d ro (nwM1 e (201 + n)) Hc := nwM1.ok he heB hes
  have hk := nwRn.keep (Hn := Hn) (r2 := 2003) h.1 hm
  have a0 : ∀ j, j ≠ 200 + n → sp_up ad (200 + n) e j = ad j := fun j hj => sp_up_ne _ _ hj
  refine ⟨nwRn ro (nwM1 e (201 + n)) Hc Hn 2003, sp_up ad (200 + n) e, h.upd (fun p => p == 4) (nwRn.ok h.1 hm hz (Nat.le_trans heB (Nat.le_of_lt hes))) hk (fun j hj => a0 j (fun e2 => ?_)) (fun _ j hj => a0 j (by omega)) (fun q g hS h0 => hq q g (fun e2 => ?_)) ⟨Or.inr ⟨rfl, rfl, rfl, rfl⟩, Or.inr rfl, Or.inr rfl, Or.inl rfl, Or.inr rfl, Or.inr rfl, Or.inr rfl, Or.inr rfl, Or.inr rfl, Or.inr rfl⟩ ⟨fun h => absurd h (by decide), fun h => absurd h (by decide), fun h => absurd h (by decide), fun _ => ?_, fun h => absurd h (by decide), fun h => absurd h (by decide), fun h => absurd h (by decide), fun h => absurd h (by decide), fun h => absurd h (by decide), fun h => absurd h (by decide)⟩, hk⟩
  · rw [e2, show 200 + n + 1 = 201 + n by omega, rp_201 n (by omega)] at hj; exact absurd hj (by decide)
  · rcases e2 with e2 | e2 | e2
    · rw [e2, r1] at hS; exact absurd hS (by decide)
    · rw [e2] at hS; exact absurd hS (by decide)
    · omega
  · refine ⟨⟨?_, fun k hk2 => ?_⟩, by show n + 1 < 50; omega, ?_, fun k hk2 => ?_⟩
    · rw [a0 2 (by omega)]
      exact hL.to (fun q g e2 => nwRn.arr hm g (by decide) e2) (fun k hk2 => by
        by_cases e2 : k = n
        · rw [if_pos e2, e2]; exact sp_up_at _ _ _
        · rw [if_neg e2]; exact a0 _ (by omega))
    · by_cases e2 : k = n
      · subst e2
        rw [show sp_up ad (200 + k) e (200 + k) = e from sp_up_at _ _ _, show (st_fo s (k + 1, sp_up (sg_fo s).2 k v)).2.2.1.2 k = v from sp_up_at _ _ _]
        exact ho.kept (hq e hes (fun e3 => by rcases e3 with e3 | e3 | e3; rw [e3, r1] at he; omega; omega; omega))
      · have hk3 : k < n + 1 := hk2
        have hk4 : k < n := by omega
        rw [a0 _ (show 200 + k ≠ 200 + n by omega), show (st_fo s (n + 1, sp_up (sg_fo s).2 n v)).2.2.1.2 k = (sg_fo s).2 k from sp_up_ne _ _ e2]
        have h4 := h1.2 k (by omega)
        have r4 := r2 k (by omega)
        exact h4.kept (hq _ h4.lt (fun e3 => by rcases e3 with e3 | e3 | e3; rw [e3, r1] at r4; omega; omega; have := h4.lt; omega))
    · rw [a0 2 (by omega)]; exact nw_rt hk r1 (by decide)
    · have hk3 : k < n + 1 := hk2
      by_cases e2 : k = n
      · subst e2
        rw [show sp_up ad (200 + k) e (200 + k) = e from sp_up_at _ _ _]; exact nwRn.is (nwM1.at _ _) (by omega)
      · rw [a0 _ (show 200 + k ≠ 200 + n by omega)]; exact nw_rt hk (r2 k (by omega)) (by omega)
theorem tr_wi {x : Nat} {s : spSg} {sm : Int64} (h : nwWR d ro ad x s sm Hc) {e ar cap : Nat} {mo : Int32} {f : Nat → Option Nat} {v : Nat × Nat} (hn : (sg_wi s).1 < 49) (he : ro e = 0) (heB : nd_B d ≤ e) (ho : nwO d e 8 [.int (nI v.1), .int (nI v.2)] Hc) (hz : Hc.size ≤ Hn.size) (hq : ∀ q, q < Hc.size → ¬ (q = ad 6 ∨ ro q = 2007 ∨ Hc.size ≤ q) → Hn[q]? = Hc[q]?)
    (hL : nwLm d (ad 6) ((sg_wi s).1 + 1) (fun k => if k = (sg_wi s).1 then e else ad (700 + k)) (fun q => ro q = 2007 ∨ Hc.size ≤ q) mo ar cap f Hn) : ∃ ro' ad' : Nat → Nat, nwWR d ro' ad' x (st_wi s ((sg_wi s).1 + 1, sp_up (sg_wi s).2 (sg_wi s).1 v)) sm Hn ∧ ∀ q, ro q ≠ 0 → ro' q = ro q := by
  obtain ⟨h1, hb, r1, r2⟩ := h.2.2.2.2.2.2.2.2.1
  generalize hN : (sg_wi s).1 = n at *
  have hes := ho.lt
  have hm : nwMo d ro (nwM1 e (701 + n)) Hc := nwM1.ok he heB hes
  have hk := nwRn.keep (Hn := Hn) (r2 := 2007) h.1 hm
  have a0 : ∀ j, j ≠ 700 + n → sp_up ad (700 + n) e j = ad j := fun j hj => sp_up_ne _ _ hj
  refine ⟨nwRn ro (nwM1 e (701 + n)) Hc Hn 2007, sp_up ad (700 + n) e, h.upd (fun p => p == 8) (nwRn.ok h.1 hm hz (Nat.le_trans heB (Nat.le_of_lt hes))) hk (fun j hj => a0 j (fun e2 => ?_)) (fun _ j hj => a0 j (by omega)) (fun q g hS h0 => hq q g (fun e2 => ?_)) ⟨Or.inr ⟨rfl, rfl, rfl, rfl⟩, Or.inr rfl, Or.inr rfl, Or.inr rfl, Or.inr rfl, Or.inr rfl, Or.inr rfl, Or.inl rfl, Or.inr rfl, Or.inr rfl⟩ ⟨fun h => absurd h (by decide), fun h => absurd h (by decide), fun h => absurd h (by decide), fun h => absurd h (by decide), fun h => absurd h (by decide), fun h => absurd h (by decide), fun h => absurd h (by decide), fun _ => ?_, fun h => absurd h (by decide), fun h => absurd h (by decide)⟩, hk⟩
  · rw [e2, show 700 + n + 1 = 701 + n by omega, rp_701 n (by omega)] at hj; exact absurd hj (by decide)
  · rcases e2 with e2 | e2 | e2
    · rw [e2, r1] at hS; exact absurd hS (by decide)
    · rw [e2] at hS; exact absurd hS (by decide)
    · omega
  · refine ⟨⟨?_, fun k hk2 => ?_⟩, by show n + 1 < 50; omega, ?_, fun k hk2 => ?_⟩
    · rw [a0 6 (by omega)]
      exact hL.to (fun q g e2 => nwRn.arr hm g (by decide) e2) (fun k hk2 => by
        by_cases e2 : k = n
        · rw [if_pos e2, e2]; exact sp_up_at _ _ _
        · rw [if_neg e2]; exact a0 _ (by omega))
    · by_cases e2 : k = n
      · subst e2
        rw [show sp_up ad (700 + k) e (700 + k) = e from sp_up_at _ _ _, show (st_wi s (k + 1, sp_up (sg_wi s).2 k v)).2.2.2.2.2.2.1.2 k = v from sp_up_at _ _ _]
        exact ho.kept (hq e hes (fun e3 => by rcases e3 with e3 | e3 | e3; rw [e3, r1] at he; omega; omega; omega))
      · have hk3 : k < n + 1 := hk2
        have hk4 : k < n := by omega
        rw [a0 _ (show 700 + k ≠ 700 + n by omega), show (st_wi s (n + 1, sp_up (sg_wi s).2 n v)).2.2.2.2.2.2.1.2 k = (sg_wi s).2 k from sp_up_ne _ _ e2]
        have h4 := h1.2 k (by omega)
        have r4 := r2 k (by omega)
        exact h4.kept (hq _ h4.lt (fun e3 => by rcases e3 with e3 | e3 | e3; rw [e3, r1] at r4; omega; omega; have := h4.lt; omega))
    · rw [a0 6 (by omega)]; exact nw_rt hk r1 (by decide)
    · have hk3 : k < n + 1 := hk2
      by_cases e2 : k = n
      · subst e2
        rw [show sp_up ad (700 + k) e (700 + k) = e from sp_up_at _ _ _]; exact nwRn.is (nwM1.at _ _) (by omega)
      · rw [a0 _ (show 700 + k ≠ 700 + n by omega)]; exact nw_rt hk (r2 k (by omega)) (by omega)
def nwM3 (e r e2 r2 e3 r3 : Nat) : Nat → Nat := fun q => if q = e then r else if q = e2 then r2 else if q = e3 then r3 else 0
theorem nwM3.ok {e r e2 s2 e3 s3 : Nat} (h1 : ro e = 0 ∧ nd_B d ≤ e ∧ e < Hc.size) (h2 : ro e2 = 0 ∧ nd_B d ≤ e2 ∧ e2 < Hc.size) (h3 : ro e3 = 0 ∧ nd_B d ≤ e3 ∧ e3 < Hc.size) : nwMo d ro (nwM3 e r e2 s2 e3 s3) Hc := by
  intro q h
  unfold nwM3 at h
  split at h
  · rename_i g; rw [g]; exact h1
  · split at h
    · rename_i g; rw [g]; exact h2
    · split at h
      · rename_i g; rw [g]; exact h3
      · exact absurd rfl h
theorem tr_gu {x : Nat} {s : spSg} {sm : Int64} (h : nwWR d ro ad x s sm Hc) {e cl ar cap car ccap : Nat} {mo cmo : Int32} {f cf : Nat → Option Nat} {Pc : Nat → Prop} {v : spGd} (hn : (sg_gu s).1 < 49) (he : ro e = 0 ∧ nd_B d ≤ e) (hc : ro cl = 0 ∧ nd_B d ≤ cl) (hca : ro car = 0 ∧ nd_B d ≤ car) (hec : e ≠ cl ∧ e ≠ car ∧ cl ≠ car) (hcc : 0 < ccap) (ho : nwO d e 4 [.int (nI (gd_a v)), .int (nI (gd_b v)), .int (nI (gd_s v)), .ref cl, .int (nI (gd_k v)), .int (gd_h v)] Hc) (hcl : nwLm d cl (gd_m v) (fun k => nd_bx d (gd_c v k)) Pc cmo car ccap cf Hc) (hz : Hc.size ≤ Hn.size) (hq : ∀ q, q < Hc.size → ¬ (q = ad 3 ∨ ro q = 2004 ∨ Hc.size ≤ q) → Hn[q]? = Hc[q]?)
    (hL : nwLm d (ad 3) ((sg_gu s).1 + 1) (fun k => if k = (sg_gu s).1 then e else ad (300 + k)) (fun q => ro q = 2004 ∨ Hc.size ≤ q) mo ar cap f Hn) : ∃ ro' ad' : Nat → Nat, nwWR d ro' ad' x (st_gu s ((sg_gu s).1 + 1, sp_up (sg_gu s).2 (sg_gu s).1 v)) sm Hn ∧ ∀ q, ro q ≠ 0 → ro' q = ro q := by
  obtain ⟨h1, hb, r1, r2⟩ := h.2.2.2.2.2.1
  generalize hN : (sg_gu s).1 = n at *
  have hes := ho.lt
  have hcs := hcl.lt
  have has := hcl.art hcc
  have hm : nwMo d ro (nwM3 e (301 + n) cl (401 + n) car (2401 + n)) Hc := nwM3.ok ⟨he.1, he.2, hes⟩ ⟨hc.1, hc.2, hcs⟩ ⟨hca.1, hca.2, has⟩
  have hk := nwRn.keep (Hn := Hn) (r2 := 2004) h.1 hm
  have me : nwRn ro (nwM3 e (301 + n) cl (401 + n) car (2401 + n)) Hc Hn 2004 e = 301 + n := nwRn.is (by unfold nwM3; rw [if_pos rfl]) (by omega)
  have mc : nwRn ro (nwM3 e (301 + n) cl (401 + n) car (2401 + n)) Hc Hn 2004 cl = 401 + n := nwRn.is (by unfold nwM3; rw [if_neg (Ne.symm hec.1), if_pos rfl]) (by omega)
  have ma : nwRn ro (nwM3 e (301 + n) cl (401 + n) car (2401 + n)) Hc Hn 2004 car = 2401 + n := nwRn.is (by unfold nwM3; rw [if_neg (Ne.symm hec.2.1), if_neg (Ne.symm hec.2.2), if_pos rfl]) (by omega)
  have hOK := nwRn.ok (r2 := 2004) h.1 hm hz (Nat.le_trans he.2 (Nat.le_of_lt hes))
  have hAR : ∀ q, q < Hn.size → (ro q = 2004 ∨ Hc.size ≤ q) → nwRn ro (nwM3 e (301 + n) cl (401 + n) car (2401 + n)) Hc Hn 2004 q = 2004 := fun q g e2 => nwRn.arr hm g (by decide) e2
  generalize nwRn ro (nwM3 e (301 + n) cl (401 + n) car (2401 + n)) Hc Hn 2004 = ro' at *
  have a1 : ∀ j, j ≠ 300 + n → j ≠ 400 + n → sp_up (sp_up ad (300 + n) e) (400 + n) cl j = ad j := fun j hj hj2 => (sp_up_ne _ _ hj2).trans (sp_up_ne _ _ hj)
  have a2 : sp_up (sp_up ad (300 + n) e) (400 + n) cl (300 + n) = e := (sp_up_ne _ _ (by omega)).trans (sp_up_at _ _ _)
  have a3 : sp_up (sp_up ad (300 + n) e) (400 + n) cl (400 + n) = cl := sp_up_at _ _ _
  generalize sp_up (sp_up ad (300 + n) e) (400 + n) cl = ad' at *
  have kp : ∀ q, q < Hc.size → ro q ≠ 4 → ro q ≠ 2004 → Hn[q]? = Hc[q]? := fun q g g1 g2 => hq q g (fun e2 => by
    rcases e2 with e2 | e2 | e2
    · exact g1 (by rw [e2]; exact r1)
    · exact g2 e2
    · omega)
  refine ⟨ro', ad', h.upd (fun p => p == 5) ?_ hk (fun j hj => a1 j (fun e2 => ?_) (fun e2 => ?_)) (fun _ j hj => a1 j (by omega) (by omega)) (fun q g hS h0 => kp q g (fun e2 => ?_) (fun e2 => ?_)) ⟨Or.inr ⟨rfl, rfl, rfl, rfl⟩, Or.inr rfl, Or.inr rfl, Or.inr rfl, Or.inl rfl, Or.inr rfl, Or.inr rfl, Or.inr rfl, Or.inr rfl, Or.inr rfl⟩ ⟨fun h => absurd h (by decide), fun h => absurd h (by decide), fun h => absurd h (by decide), fun h => absurd h (by decide), fun _ => ?_, fun h => absurd h (by decide), fun h => absurd h (by decide), fun h => absurd h (by decide), fun h => absurd h (by decide), fun h => absurd h (by decide)⟩, hk⟩
  · exact hOK
  · rw [e2, show 300 + n + 1 = 301 + n by omega, rp_301 n (by omega)] at hj; exact absurd hj (by decide)
  · rw [e2, show 400 + n + 1 = 401 + n by omega, rp_401 n (by omega)] at hj; exact absurd hj (by decide)
  · rw [e2] at hS; exact absurd hS (by decide)
  · rw [e2] at hS; exact absurd hS (by decide)
  · have ev : ((st_gu s (n + 1, sp_up (sg_gu s).2 n v)).2.2.2.1).2 = sp_up (sg_gu s).2 n v := rfl
    refine ⟨⟨?_, fun k hk2 => ?_⟩, by show n + 1 < 50; omega, ?_, fun k hk2 => ?_⟩
    · rw [a1 3 (by omega) (by omega)]
      exact hL.to (fun q g e2 => hAR q g e2) (fun k hk2 => by
        by_cases e2 : k = n
        · rw [if_pos e2, e2]; exact a2
        · rw [if_neg e2]; exact a1 _ (by omega) (by omega))
    · rw [ev]
      have hk3 : k < n + 1 := hk2
      by_cases e2 : k = n
      · subst e2
        rw [a2, a3, sp_up_at]
        exact ⟨ho.kept (kp e hes (by rw [he.1]; decide) (by rw [he.1]; decide)), ⟨car, ccap, cmo, cf, ⟨hcl.1.1.kept (kp cl hcs (by rw [hc.1]; decide) (by rw [hc.1]; decide)), hcl.1.2.1, hcl.1.2.2.1, hcl.1.2.2.2.imp id (fun z => ⟨z.1, z.2.kept (kp car has (by rw [hca.1]; decide) (by rw [hca.1]; decide))⟩)⟩, fun _ => ma, hcl.2.2⟩⟩
      · have hk4 : k < n := by omega
        rw [a1 _ (show 300 + k ≠ 300 + n by omega) (by omega), a1 _ (show 400 + k ≠ 300 + n by omega) (show 400 + k ≠ 400 + n by omega), sp_up_ne _ _ e2]
        obtain ⟨r4, r5⟩ := r2 k (by omega)
        have h4 : nwGd d (ad (300 + k)) (ad (400 + k)) (fun q => ro q = 2401 + k) ((sg_gu s).2 k) Hc := h1.2 k (by omega)
        exact h4.go (by omega) hk (kp _ h4.1.lt (by omega) (by omega)) (kp _ h4.2.lt (by omega) (by omega)) (fun q g e3 => kp q g (by omega) (by omega))
    · rw [a1 3 (by omega) (by omega)]; exact nw_rt hk r1 (by decide)
    · have hk3 : k < n + 1 := hk2
      by_cases e2 : k = n
      · subst e2
        rw [a2, a3]; exact ⟨me, mc⟩
      · rw [a1 _ (show 300 + k ≠ 300 + n by omega) (by omega), a1 _ (show 400 + k ≠ 300 + n by omega) (show 400 + k ≠ 400 + n by omega)]
        exact ⟨nw_rt hk (r2 k (by omega)).1 (by omega), nw_rt hk (r2 k (by omega)).2 (by omega)⟩
theorem tr_in {x : Nat} {s : spSg} {sm : Int64} (h : nwWR d ro ad x s sm Hc) {e cl ar cap car ccap : Nat} {mo cmo : Int32} {f cf : Nat → Option Nat} {Pc : Nat → Prop} {v : spI1} (hn : (sg_in s).1 < 49) (he : ro e = 0 ∧ nd_B d ≤ e) (hc : ro cl = 0 ∧ nd_B d ≤ cl) (hca : ro car = 0 ∧ nd_B d ≤ car) (hec : e ≠ cl ∧ e ≠ car ∧ cl ≠ car) (hcc : 0 < ccap) (ho : nwO d e 7 [.int (nI (in_a v)), .ref cl, .int (nI (in_v v)), .int (nI (in_s v)), .int (oI (in_l v))] Hc) (hcl : nwLm d cl (in_m v) (fun k => nd_bx d (in_w v k)) Pc cmo car ccap cf Hc) (hz : Hc.size ≤ Hn.size) (hq : ∀ q, q < Hc.size → ¬ (q = ad 5 ∨ ro q = 2006 ∨ Hc.size ≤ q) → Hn[q]? = Hc[q]?)
    (hL : nwLm d (ad 5) ((sg_in s).1 + 1) (fun k => if k = (sg_in s).1 then e else ad (500 + k)) (fun q => ro q = 2006 ∨ Hc.size ≤ q) mo ar cap f Hn) : ∃ ro' ad' : Nat → Nat, nwWR d ro' ad' x (st_in s ((sg_in s).1 + 1, sp_up (sg_in s).2 (sg_in s).1 v)) sm Hn ∧ ∀ q, ro q ≠ 0 → ro' q = ro q := by
  obtain ⟨h1, hb, r1, r2⟩ := h.2.2.2.2.2.2.2.1
  generalize hN : (sg_in s).1 = n at *
  have hes := ho.lt
  have hcs := hcl.lt
  have has := hcl.art hcc
  have hm : nwMo d ro (nwM3 e (501 + n) cl (601 + n) car (2601 + n)) Hc := nwM3.ok ⟨he.1, he.2, hes⟩ ⟨hc.1, hc.2, hcs⟩ ⟨hca.1, hca.2, has⟩
  have hk := nwRn.keep (Hn := Hn) (r2 := 2006) h.1 hm
  have me : nwRn ro (nwM3 e (501 + n) cl (601 + n) car (2601 + n)) Hc Hn 2006 e = 501 + n := nwRn.is (by unfold nwM3; rw [if_pos rfl]) (by omega)
  have mc : nwRn ro (nwM3 e (501 + n) cl (601 + n) car (2601 + n)) Hc Hn 2006 cl = 601 + n := nwRn.is (by unfold nwM3; rw [if_neg (Ne.symm hec.1), if_pos rfl]) (by omega)
  have ma : nwRn ro (nwM3 e (501 + n) cl (601 + n) car (2601 + n)) Hc Hn 2006 car = 2601 + n := nwRn.is (by unfold nwM3; rw [if_neg (Ne.symm hec.2.1), if_neg (Ne.symm hec.2.2), if_pos rfl]) (by omega)
  have hOK := nwRn.ok (r2 := 2006) h.1 hm hz (Nat.le_trans he.2 (Nat.le_of_lt hes))
  have hAR : ∀ q, q < Hn.size → (ro q = 2006 ∨ Hc.size ≤ q) → nwRn ro (nwM3 e (501 + n) cl (601 + n) car (2601 + n)) Hc Hn 2006 q = 2006 := fun q g e2 => nwRn.arr hm g (by decide) e2
  generalize nwRn ro (nwM3 e (501 + n) cl (601 + n) car (2601 + n)) Hc Hn 2006 = ro' at *
  have a1 : ∀ j, j ≠ 500 + n → j ≠ 600 + n → sp_up (sp_up ad (500 + n) e) (600 + n) cl j = ad j := fun j hj hj2 => (sp_up_ne _ _ hj2).trans (sp_up_ne _ _ hj)
  have a2 : sp_up (sp_up ad (500 + n) e) (600 + n) cl (500 + n) = e := (sp_up_ne _ _ (by omega)).trans (sp_up_at _ _ _)
  have a3 : sp_up (sp_up ad (500 + n) e) (600 + n) cl (600 + n) = cl := sp_up_at _ _ _
  generalize sp_up (sp_up ad (500 + n) e) (600 + n) cl = ad' at *
  have kp : ∀ q, q < Hc.size → ro q ≠ 6 → ro q ≠ 2006 → Hn[q]? = Hc[q]? := fun q g g1 g2 => hq q g (fun e2 => by
    rcases e2 with e2 | e2 | e2
    · exact g1 (by rw [e2]; exact r1)
    · exact g2 e2
    · omega)
  refine ⟨ro', ad', h.upd (fun p => p == 7) ?_ hk (fun j hj => a1 j (fun e2 => ?_) (fun e2 => ?_)) (fun _ j hj => a1 j (by omega) (by omega)) (fun q g hS h0 => kp q g (fun e2 => ?_) (fun e2 => ?_)) ⟨Or.inr ⟨rfl, rfl, rfl, rfl⟩, Or.inr rfl, Or.inr rfl, Or.inr rfl, Or.inr rfl, Or.inr rfl, Or.inl rfl, Or.inr rfl, Or.inr rfl, Or.inr rfl⟩ ⟨fun h => absurd h (by decide), fun h => absurd h (by decide), fun h => absurd h (by decide), fun h => absurd h (by decide), fun h => absurd h (by decide), fun h => absurd h (by decide), fun _ => ?_, fun h => absurd h (by decide), fun h => absurd h (by decide), fun h => absurd h (by decide)⟩, hk⟩
  · exact hOK
  · rw [e2, show 500 + n + 1 = 501 + n by omega, rp_501 n (by omega)] at hj; exact absurd hj (by decide)
  · rw [e2, show 600 + n + 1 = 601 + n by omega, rp_601 n (by omega)] at hj; exact absurd hj (by decide)
  · rw [e2] at hS; exact absurd hS (by decide)
  · rw [e2] at hS; exact absurd hS (by decide)
  · have ev : ((st_in s (n + 1, sp_up (sg_in s).2 n v)).2.2.2.2.2.1).2 = sp_up (sg_in s).2 n v := rfl
    refine ⟨⟨?_, fun k hk2 => ?_⟩, by show n + 1 < 50; omega, ?_, fun k hk2 => ?_⟩
    · rw [a1 5 (by omega) (by omega)]
      exact hL.to (fun q g e2 => hAR q g e2) (fun k hk2 => by
        by_cases e2 : k = n
        · rw [if_pos e2, e2]; exact a2
        · rw [if_neg e2]; exact a1 _ (by omega) (by omega))
    · rw [ev]
      have hk3 : k < n + 1 := hk2
      by_cases e2 : k = n
      · subst e2
        rw [a2, a3, sp_up_at]
        exact ⟨ho.kept (kp e hes (by rw [he.1]; decide) (by rw [he.1]; decide)), ⟨car, ccap, cmo, cf, ⟨hcl.1.1.kept (kp cl hcs (by rw [hc.1]; decide) (by rw [hc.1]; decide)), hcl.1.2.1, hcl.1.2.2.1, hcl.1.2.2.2.imp id (fun z => ⟨z.1, z.2.kept (kp car has (by rw [hca.1]; decide) (by rw [hca.1]; decide))⟩)⟩, fun _ => ma, hcl.2.2⟩⟩
      · have hk4 : k < n := by omega
        rw [a1 _ (show 500 + k ≠ 500 + n by omega) (by omega), a1 _ (show 600 + k ≠ 500 + n by omega) (show 600 + k ≠ 600 + n by omega), sp_up_ne _ _ e2]
        obtain ⟨r4, r5⟩ := r2 k (by omega)
        have h4 : nwIn d (ad (500 + k)) (ad (600 + k)) (fun q => ro q = 2601 + k) ((sg_in s).2 k) Hc := h1.2 k (by omega)
        exact h4.go (by omega) hk (kp _ h4.1.lt (by omega) (by omega)) (kp _ h4.2.lt (by omega) (by omega)) (fun q g e3 => kp q g (by omega) (by omega))
    · rw [a1 5 (by omega) (by omega)]; exact nw_rt hk r1 (by decide)
    · have hk3 : k < n + 1 := hk2
      by_cases e2 : k = n
      · subst e2
        rw [a2, a3]; exact ⟨me, mc⟩
      · rw [a1 _ (show 500 + k ≠ 500 + n by omega) (by omega), a1 _ (show 600 + k ≠ 500 + n by omega) (show 600 + k ≠ 600 + n by omega)]
        exact ⟨nw_rt hk (r2 k (by omega)).1 (by omega), nw_rt hk (r2 k (by omega)).2 (by omega)⟩
theorem tr_po {x : Nat} {s : spSg} {sm : Int64} (h : nwWR d ro ad x s sm Hc) {c ar cap : Nat} {mo : Int32} {f : Nat → Option Nat} (hB : nd_B d ≤ Hc.size) (hz : Hc.size ≤ Hn.size) (hq : ∀ q, q < Hc.size → ¬ (q = ad 4 ∨ ro q = 2005 ∨ Hc.size ≤ q) → Hn[q]? = Hc[q]?)
    (hL : nwLm d (ad 4) ((sg_po s).1 + 1) (fun k => if k = (sg_po s).1 then nd_bx d c else nd_bx d ((sg_po s).2 k)) (fun q => ro q = 2005 ∨ Hc.size ≤ q) mo ar cap f Hn) : ∃ ro' ad' : Nat → Nat, nwWR d ro' ad' x (st_po s ((sg_po s).1 + 1, sp_up (sg_po s).2 (sg_po s).1 c)) sm Hn ∧ ∀ q, ro q ≠ 0 → ro' q = ro q := by
  obtain ⟨h1, r1⟩ := h.2.2.2.2.2.2.1
  generalize hN : (sg_po s).1 = n at *
  have hm : nwMo d ro (fun _ => 0) Hc := fun q h => absurd rfl h
  have hk := nwRn.keep (Hn := Hn) (r2 := 2005) h.1 hm
  refine ⟨nwRn ro (fun _ => 0) Hc Hn 2005, ad, h.upd (fun p => p == 6) (nwRn.ok h.1 hm hz hB) hk (fun _ _ => rfl) (fun _ _ _ => rfl) (fun q g hS h0 => hq q g (fun e2 => ?_)) ⟨Or.inr ⟨rfl, rfl, rfl, rfl⟩, Or.inr rfl, Or.inr rfl, Or.inr rfl, Or.inr rfl, Or.inl rfl, Or.inr rfl, Or.inr rfl, Or.inr rfl, Or.inr rfl⟩ ⟨fun h => absurd h (by decide), fun h => absurd h (by decide), fun h => absurd h (by decide), fun h => absurd h (by decide), fun h => absurd h (by decide), fun _ => ?_, fun h => absurd h (by decide), fun h => absurd h (by decide), fun h => absurd h (by decide), fun h => absurd h (by decide)⟩, hk⟩
  · rcases e2 with e2 | e2 | e2
    · rw [e2, r1] at hS; exact absurd hS (by decide)
    · rw [e2] at hS; exact absurd hS (by decide)
    · omega
  · refine ⟨hL.to (fun q g e2 => nwRn.arr hm g (by decide) e2) (fun k hk2 => ?_), nw_rt hk r1 (by decide)⟩
    show nd_bx d (sp_up (sg_po s).2 n c k) = _
    by_cases e2 : k = n
    · rw [if_pos e2, e2, sp_up_at]
    · rw [if_neg e2, sp_up_ne _ _ e2]
theorem tr_cla {x : Nat} {s : spSg} {sm : Int64} (h : nwWR d ro ad x s sm Hc) {ar cap : Nat} {mo : Int32} {f : Nat → Option Nat} {es : Nat → Nat} (hz : Hc.size ≤ Hn.size) (hq : ∀ q, q < Hc.size → ¬ (q = ad 1 ∨ ro q = 2002 ∨ Hc.size ≤ q) → Hn[q]? = Hc[q]?)
    (hL : nwLm d (ad 1) 0 es (fun q => ro q = 2002) mo ar cap f Hn) : nwWR d ro ad x (st_la s (0, (sg_la s).2)) sm Hn := by
  have r1 : ro (ad 1) = 2 := h.2.2.2.1.2.2.1
  refine h.upd (fun p => p == 3) (fun q g => ⟨(h.1 q g).1, Nat.lt_of_lt_of_le (h.1 q g).2 hz⟩) (fun _ _ => rfl) (fun _ _ => rfl) (fun _ _ _ => rfl) (fun q g hS h0 => hq q g (fun e2 => ?_)) ⟨Or.inr ⟨rfl, rfl, rfl, rfl⟩, Or.inr rfl, Or.inl rfl, Or.inr rfl, Or.inr rfl, Or.inr rfl, Or.inr rfl, Or.inr rfl, Or.inr rfl, Or.inr rfl⟩ ⟨fun h => absurd h (by decide), fun h => absurd h (by decide), fun _ => ?_, fun h => absurd h (by decide), fun h => absurd h (by decide), fun h => absurd h (by decide), fun h => absurd h (by decide), fun h => absurd h (by decide), fun h => absurd h (by decide), fun h => absurd h (by decide)⟩
  · rcases e2 with e2 | e2 | e2
    · rw [e2, r1] at hS; exact absurd hS (by decide)
    · rw [e2] at hS; exact absurd hS (by decide)
    · omega
  · exact ⟨⟨hL.to (fun _ _ e2 => e2) (fun k hk2 => absurd hk2 (Nat.not_lt_zero k)), fun k hk2 => absurd hk2 (Nat.not_lt_zero k)⟩, by show 0 < 50; omega, r1, fun k hk2 => absurd hk2 (Nat.not_lt_zero k)⟩
theorem tr_cfo {x : Nat} {s : spSg} {sm : Int64} (h : nwWR d ro ad x s sm Hc) {ar cap : Nat} {mo : Int32} {f : Nat → Option Nat} {es : Nat → Nat} (hz : Hc.size ≤ Hn.size) (hq : ∀ q, q < Hc.size → ¬ (q = ad 2 ∨ ro q = 2003 ∨ Hc.size ≤ q) → Hn[q]? = Hc[q]?)
    (hL : nwLm d (ad 2) 0 es (fun q => ro q = 2003) mo ar cap f Hn) : nwWR d ro ad x (st_fo s (0, (sg_fo s).2)) sm Hn := by
  have r1 : ro (ad 2) = 3 := h.2.2.2.2.1.2.2.1
  refine h.upd (fun p => p == 4) (fun q g => ⟨(h.1 q g).1, Nat.lt_of_lt_of_le (h.1 q g).2 hz⟩) (fun _ _ => rfl) (fun _ _ => rfl) (fun _ _ _ => rfl) (fun q g hS h0 => hq q g (fun e2 => ?_)) ⟨Or.inr ⟨rfl, rfl, rfl, rfl⟩, Or.inr rfl, Or.inr rfl, Or.inl rfl, Or.inr rfl, Or.inr rfl, Or.inr rfl, Or.inr rfl, Or.inr rfl, Or.inr rfl⟩ ⟨fun h => absurd h (by decide), fun h => absurd h (by decide), fun h => absurd h (by decide), fun _ => ?_, fun h => absurd h (by decide), fun h => absurd h (by decide), fun h => absurd h (by decide), fun h => absurd h (by decide), fun h => absurd h (by decide), fun h => absurd h (by decide)⟩
  · rcases e2 with e2 | e2 | e2
    · rw [e2, r1] at hS; exact absurd hS (by decide)
    · rw [e2] at hS; exact absurd hS (by decide)
    · omega
  · exact ⟨⟨hL.to (fun _ _ e2 => e2) (fun k hk2 => absurd hk2 (Nat.not_lt_zero k)), fun k hk2 => absurd hk2 (Nat.not_lt_zero k)⟩, by show 0 < 50; omega, r1, fun k hk2 => absurd hk2 (Nat.not_lt_zero k)⟩
theorem tr_cgu {x : Nat} {s : spSg} {sm : Int64} (h : nwWR d ro ad x s sm Hc) {ar cap : Nat} {mo : Int32} {f : Nat → Option Nat} {es : Nat → Nat} (hz : Hc.size ≤ Hn.size) (hq : ∀ q, q < Hc.size → ¬ (q = ad 3 ∨ ro q = 2004 ∨ Hc.size ≤ q) → Hn[q]? = Hc[q]?)
    (hL : nwLm d (ad 3) 0 es (fun q => ro q = 2004) mo ar cap f Hn) : nwWR d ro ad x (st_gu s (0, (sg_gu s).2)) sm Hn := by
  have r1 : ro (ad 3) = 4 := h.2.2.2.2.2.1.2.2.1
  refine h.upd (fun p => p == 5) (fun q g => ⟨(h.1 q g).1, Nat.lt_of_lt_of_le (h.1 q g).2 hz⟩) (fun _ _ => rfl) (fun _ _ => rfl) (fun _ _ _ => rfl) (fun q g hS h0 => hq q g (fun e2 => ?_)) ⟨Or.inr ⟨rfl, rfl, rfl, rfl⟩, Or.inr rfl, Or.inr rfl, Or.inr rfl, Or.inl rfl, Or.inr rfl, Or.inr rfl, Or.inr rfl, Or.inr rfl, Or.inr rfl⟩ ⟨fun h => absurd h (by decide), fun h => absurd h (by decide), fun h => absurd h (by decide), fun h => absurd h (by decide), fun _ => ?_, fun h => absurd h (by decide), fun h => absurd h (by decide), fun h => absurd h (by decide), fun h => absurd h (by decide), fun h => absurd h (by decide)⟩
  · rcases e2 with e2 | e2 | e2
    · rw [e2, r1] at hS; exact absurd hS (by decide)
    · rw [e2] at hS; exact absurd hS (by decide)
    · omega
  · exact ⟨⟨hL.to (fun _ _ e2 => e2) (fun k hk2 => absurd hk2 (Nat.not_lt_zero k)), fun k hk2 => absurd hk2 (Nat.not_lt_zero k)⟩, by show 0 < 50; omega, r1, fun k hk2 => absurd hk2 (Nat.not_lt_zero k)⟩
theorem tr_cpo {x : Nat} {s : spSg} {sm : Int64} (h : nwWR d ro ad x s sm Hc) {ar cap : Nat} {mo : Int32} {f : Nat → Option Nat} {es : Nat → Nat} (hz : Hc.size ≤ Hn.size) (hq : ∀ q, q < Hc.size → ¬ (q = ad 4 ∨ ro q = 2005 ∨ Hc.size ≤ q) → Hn[q]? = Hc[q]?)
    (hL : nwLm d (ad 4) 0 es (fun q => ro q = 2005) mo ar cap f Hn) : nwWR d ro ad x (st_po s (0, (sg_po s).2)) sm Hn := by
  have r1 : ro (ad 4) = 5 := h.2.2.2.2.2.2.1.2
  refine h.upd (fun p => p == 6) (fun q g => ⟨(h.1 q g).1, Nat.lt_of_lt_of_le (h.1 q g).2 hz⟩) (fun _ _ => rfl) (fun _ _ => rfl) (fun _ _ _ => rfl) (fun q g hS h0 => hq q g (fun e2 => ?_)) ⟨Or.inr ⟨rfl, rfl, rfl, rfl⟩, Or.inr rfl, Or.inr rfl, Or.inr rfl, Or.inr rfl, Or.inl rfl, Or.inr rfl, Or.inr rfl, Or.inr rfl, Or.inr rfl⟩ ⟨fun h => absurd h (by decide), fun h => absurd h (by decide), fun h => absurd h (by decide), fun h => absurd h (by decide), fun h => absurd h (by decide), fun _ => ?_, fun h => absurd h (by decide), fun h => absurd h (by decide), fun h => absurd h (by decide), fun h => absurd h (by decide)⟩
  · rcases e2 with e2 | e2 | e2
    · rw [e2, r1] at hS; exact absurd hS (by decide)
    · rw [e2] at hS; exact absurd hS (by decide)
    · omega
  · exact ⟨hL.to (fun _ _ e2 => e2) (fun k hk2 => absurd hk2 (Nat.not_lt_zero k)), r1⟩
theorem tr_cin {x : Nat} {s : spSg} {sm : Int64} (h : nwWR d ro ad x s sm Hc) {ar cap : Nat} {mo : Int32} {f : Nat → Option Nat} {es : Nat → Nat} (hz : Hc.size ≤ Hn.size) (hq : ∀ q, q < Hc.size → ¬ (q = ad 5 ∨ ro q = 2006 ∨ Hc.size ≤ q) → Hn[q]? = Hc[q]?)
    (hL : nwLm d (ad 5) 0 es (fun q => ro q = 2006) mo ar cap f Hn) : nwWR d ro ad x (st_in s (0, (sg_in s).2)) sm Hn := by
  have r1 : ro (ad 5) = 6 := h.2.2.2.2.2.2.2.1.2.2.1
  refine h.upd (fun p => p == 7) (fun q g => ⟨(h.1 q g).1, Nat.lt_of_lt_of_le (h.1 q g).2 hz⟩) (fun _ _ => rfl) (fun _ _ => rfl) (fun _ _ _ => rfl) (fun q g hS h0 => hq q g (fun e2 => ?_)) ⟨Or.inr ⟨rfl, rfl, rfl, rfl⟩, Or.inr rfl, Or.inr rfl, Or.inr rfl, Or.inr rfl, Or.inr rfl, Or.inl rfl, Or.inr rfl, Or.inr rfl, Or.inr rfl⟩ ⟨fun h => absurd h (by decide), fun h => absurd h (by decide), fun h => absurd h (by decide), fun h => absurd h (by decide), fun h => absurd h (by decide), fun h => absurd h (by decide), fun _ => ?_, fun h => absurd h (by decide), fun h => absurd h (by decide), fun h => absurd h (by decide)⟩
  · rcases e2 with e2 | e2 | e2
    · rw [e2, r1] at hS; exact absurd hS (by decide)
    · rw [e2] at hS; exact absurd hS (by decide)
    · omega
  · exact ⟨⟨hL.to (fun _ _ e2 => e2) (fun k hk2 => absurd hk2 (Nat.not_lt_zero k)), fun k hk2 => absurd hk2 (Nat.not_lt_zero k)⟩, by show 0 < 50; omega, r1, fun k hk2 => absurd hk2 (Nat.not_lt_zero k)⟩
theorem tr_cwi {x : Nat} {s : spSg} {sm : Int64} (h : nwWR d ro ad x s sm Hc) {ar cap : Nat} {mo : Int32} {f : Nat → Option Nat} {es : Nat → Nat} (hz : Hc.size ≤ Hn.size) (hq : ∀ q, q < Hc.size → ¬ (q = ad 6 ∨ ro q = 2007 ∨ Hc.size ≤ q) → Hn[q]? = Hc[q]?)
    (hL : nwLm d (ad 6) 0 es (fun q => ro q = 2007) mo ar cap f Hn) : nwWR d ro ad x (st_wi s (0, (sg_wi s).2)) sm Hn := by
  have r1 : ro (ad 6) = 7 := h.2.2.2.2.2.2.2.2.1.2.2.1
  refine h.upd (fun p => p == 8) (fun q g => ⟨(h.1 q g).1, Nat.lt_of_lt_of_le (h.1 q g).2 hz⟩) (fun _ _ => rfl) (fun _ _ => rfl) (fun _ _ _ => rfl) (fun q g hS h0 => hq q g (fun e2 => ?_)) ⟨Or.inr ⟨rfl, rfl, rfl, rfl⟩, Or.inr rfl, Or.inr rfl, Or.inr rfl, Or.inr rfl, Or.inr rfl, Or.inr rfl, Or.inl rfl, Or.inr rfl, Or.inr rfl⟩ ⟨fun h => absurd h (by decide), fun h => absurd h (by decide), fun h => absurd h (by decide), fun h => absurd h (by decide), fun h => absurd h (by decide), fun h => absurd h (by decide), fun h => absurd h (by decide), fun _ => ?_, fun h => absurd h (by decide), fun h => absurd h (by decide)⟩
  · rcases e2 with e2 | e2 | e2
    · rw [e2, r1] at hS; exact absurd hS (by decide)
    · rw [e2] at hS; exact absurd hS (by decide)
    · omega
  · exact ⟨⟨hL.to (fun _ _ e2 => e2) (fun k hk2 => absurd hk2 (Nat.not_lt_zero k)), fun k hk2 => absurd hk2 (Nat.not_lt_zero k)⟩, by show 0 < 50; omega, r1, fun k hk2 => absurd hk2 (Nat.not_lt_zero k)⟩
theorem tr_pX {x : Nat} {s t : spSg} {sm sm' : Int64} (h : nwWR d ro ad x s sm Hc) (hz : Hn.size = Hc.size) (hq : ∀ q, q ≠ x → Hn[q]? = Hc[q]?) (hs : sgSame (fun p => p == 1) s t sm sm') (ho : wcX d ad x (sg_ga t) (sg_ri t) (sg_rf t) sm' Hn) : nwWR d ro ad x t sm' Hn := by
  refine h.upd (fun p => p == 1) (fun q g => ⟨(h.1 q g).1, Nat.lt_of_lt_of_le (h.1 q g).2 (Nat.le_of_eq hz.symm)⟩) (fun _ _ => rfl) (fun _ _ => rfl) (fun _ _ _ => rfl) (fun q g hS h0 => hq q (fun e2 => ?_)) hs ⟨fun _ => ⟨ho, h.2.1.2⟩, fun h => absurd h (by decide), fun h => absurd h (by decide), fun h => absurd h (by decide), fun h => absurd h (by decide), fun h => absurd h (by decide), fun h => absurd h (by decide), fun h => absurd h (by decide), fun h => absurd h (by decide), fun h => absurd h (by decide)⟩
  rw [e2, h.2.1.2] at hS; exact absurd hS (by decide)
theorem tr_pLa {x : Nat} {s : spSg} {sm : Int64} (h : nwWR d ro ad x s sm Hc) {k : Nat} {v : Nat × Nat × Bool} (hk : k < (sg_la s).1) (hz : Hn.size = Hc.size) (hq : ∀ q, q ≠ ad (100 + k) → Hn[q]? = Hc[q]?) (ho : nwO d (ad (100 + k)) 2 [.int (nI v.1), .int (nI v.2.1), .int (b2i v.2.2)] Hn) : nwWR d ro ad x (st_la s ((sg_la s).1, sp_up (sg_la s).2 k v)) sm Hn := by
  obtain ⟨h1, hb, r1, r2⟩ := h.2.2.2.1
  have rk := r2 k hk
  refine h.upd (fun p => p == 3) (fun q g => ⟨(h.1 q g).1, Nat.lt_of_lt_of_le (h.1 q g).2 (Nat.le_of_eq hz.symm)⟩) (fun _ _ => rfl) (fun _ _ => rfl) (fun _ _ _ => rfl) (fun q g hS h0 => hq q (fun e2 => ?_)) ⟨Or.inr ⟨rfl, rfl, rfl, rfl⟩, Or.inr rfl, Or.inl rfl, Or.inr rfl, Or.inr rfl, Or.inr rfl, Or.inr rfl, Or.inr rfl, Or.inr rfl, Or.inr rfl⟩ ⟨fun h => absurd h (by decide), fun h => absurd h (by decide), fun _ => ⟨⟨?_, fun j hj => ?_⟩, hb, r1, r2⟩, fun h => absurd h (by decide), fun h => absurd h (by decide), fun h => absurd h (by decide), fun h => absurd h (by decide), fun h => absurd h (by decide), fun h => absurd h (by decide), fun h => absurd h (by decide)⟩
  · rw [e2, rk, rp_101 k (by omega)] at hS; exact absurd hS (by decide)
  · exact h1.1.go (fun _ _ e => e) (hq _ (fun e => by rw [e] at r1; omega)) (fun q g e => hq q (fun e2 => by rw [e2] at e; omega)) (fun _ _ => rfl)
  · show nwO d (ad (100 + j)) 2 [.int (nI (sp_up (sg_la s).2 k v j).1), .int (nI (sp_up (sg_la s).2 k v j).2.1), .int (b2i (sp_up (sg_la s).2 k v j).2.2)] Hn
    by_cases e : j = k
    · subst e; rw [sp_up_at]; exact ho
    · rw [sp_up_ne _ _ e]
      have rj := r2 j hj
      exact (h1.2 j hj).kept (hq _ (fun e2 => by rw [e2] at rj; omega))
theorem tr_pGu {x : Nat} {s : spSg} {sm : Int64} (h : nwWR d ro ad x s sm Hc) {k : Nat} {v : spGd} (hk : k < (sg_gu s).1) (hz : Hn.size = Hc.size) (hq : ∀ q, q ≠ ad (300 + k) → Hn[q]? = Hc[q]?) (hv : v.2.1 = ((sg_gu s).2 k).2.1) (ho : nwO d (ad (300 + k)) 4 [.int (nI (gd_a v)), .int (nI (gd_b v)), .int (nI (gd_s v)), .ref (ad (400 + k)), .int (nI (gd_k v)), .int (gd_h v)] Hn) : nwWR d ro ad x (st_gu s ((sg_gu s).1, sp_up (sg_gu s).2 k v)) sm Hn := by
  obtain ⟨h1, hb, r1, r2⟩ := h.2.2.2.2.2.1
  have rk := (r2 k hk).1
  refine h.upd (fun p => p == 5) (fun q g => ⟨(h.1 q g).1, Nat.lt_of_lt_of_le (h.1 q g).2 (Nat.le_of_eq hz.symm)⟩) (fun _ _ => rfl) (fun _ _ => rfl) (fun _ _ _ => rfl) (fun q g hS h0 => hq q (fun e2 => ?_)) ⟨Or.inr ⟨rfl, rfl, rfl, rfl⟩, Or.inr rfl, Or.inr rfl, Or.inr rfl, Or.inl rfl, Or.inr rfl, Or.inr rfl, Or.inr rfl, Or.inr rfl, Or.inr rfl⟩ ⟨fun h => absurd h (by decide), fun h => absurd h (by decide), fun h => absurd h (by decide), fun h => absurd h (by decide), fun _ => ⟨⟨?_, fun j hj => ?_⟩, hb, r1, r2⟩, fun h => absurd h (by decide), fun h => absurd h (by decide), fun h => absurd h (by decide), fun h => absurd h (by decide), fun h => absurd h (by decide)⟩
  · rw [e2, rk, rp_301 k (by omega)] at hS; exact absurd hS (by decide)
  · exact h1.1.go (fun _ _ e => e) (hq _ (fun e => by rw [e] at r1; omega)) (fun q g e => hq q (fun e2 => by rw [e2] at e; omega)) (fun _ _ => rfl)
  · show nwGd d (ad (300 + j)) (ad (400 + j)) (fun q => ro q = 2401 + j) (sp_up (sg_gu s).2 k v j) Hn
    have hj2 : j < (sg_gu s).1 := hj
    have hj3 : nwGd d (ad (300 + j)) (ad (400 + j)) (fun q => ro q = 2401 + j) ((sg_gu s).2 j) Hc := h1.2 j hj
    obtain ⟨rj, rj2⟩ := r2 j hj
    have hl := hj3.2.go (P' := fun q => ro q = 2401 + j) (fun _ _ e => e) (hq _ (fun e => by rw [e] at rj2; omega)) (fun q g e => hq q (fun e2 => by rw [e2] at e; omega)) (fun _ _ => rfl)
    by_cases e : j = k
    · subst e; rw [sp_up_at]; exact ⟨ho, by show nwLi d (ad (400 + j)) v.2.1.1 (fun k => nd_bx d (v.2.1.2 k)) _ Hn; rw [hv]; exact hl⟩
    · rw [sp_up_ne _ _ e]
      exact ⟨hj3.1.kept (hq _ (fun e2 => by rw [e2] at rj; omega)), hl⟩
theorem tr_pIn {x : Nat} {s : spSg} {sm : Int64} (h : nwWR d ro ad x s sm Hc) {k : Nat} {v : spI1} (hk : k < (sg_in s).1) (hz : Hn.size = Hc.size) (hq : ∀ q, q ≠ ad (500 + k) → Hn[q]? = Hc[q]?) (hv : v.2.1 = ((sg_in s).2 k).2.1) (ho : nwO d (ad (500 + k)) 7 [.int (nI (in_a v)), .ref (ad (600 + k)), .int (nI (in_v v)), .int (nI (in_s v)), .int (oI (in_l v))] Hn) : nwWR d ro ad x (st_in s ((sg_in s).1, sp_up (sg_in s).2 k v)) sm Hn := by
  obtain ⟨h1, hb, r1, r2⟩ := h.2.2.2.2.2.2.2.1
  have rk := (r2 k hk).1
  refine h.upd (fun p => p == 7) (fun q g => ⟨(h.1 q g).1, Nat.lt_of_lt_of_le (h.1 q g).2 (Nat.le_of_eq hz.symm)⟩) (fun _ _ => rfl) (fun _ _ => rfl) (fun _ _ _ => rfl) (fun q g hS h0 => hq q (fun e2 => ?_)) ⟨Or.inr ⟨rfl, rfl, rfl, rfl⟩, Or.inr rfl, Or.inr rfl, Or.inr rfl, Or.inr rfl, Or.inr rfl, Or.inl rfl, Or.inr rfl, Or.inr rfl, Or.inr rfl⟩ ⟨fun h => absurd h (by decide), fun h => absurd h (by decide), fun h => absurd h (by decide), fun h => absurd h (by decide), fun h => absurd h (by decide), fun h => absurd h (by decide), fun _ => ⟨⟨?_, fun j hj => ?_⟩, hb, r1, r2⟩, fun h => absurd h (by decide), fun h => absurd h (by decide), fun h => absurd h (by decide)⟩
  · rw [e2, rk, rp_501 k (by omega)] at hS; exact absurd hS (by decide)
  · exact h1.1.go (fun _ _ e => e) (hq _ (fun e => by rw [e] at r1; omega)) (fun q g e => hq q (fun e2 => by rw [e2] at e; omega)) (fun _ _ => rfl)
  · show nwIn d (ad (500 + j)) (ad (600 + j)) (fun q => ro q = 2601 + j) (sp_up (sg_in s).2 k v j) Hn
    have hj2 : j < (sg_in s).1 := hj
    have hj3 : nwIn d (ad (500 + j)) (ad (600 + j)) (fun q => ro q = 2601 + j) ((sg_in s).2 j) Hc := h1.2 j hj
    obtain ⟨rj, rj2⟩ := r2 j hj
    have hl := hj3.2.go (P' := fun q => ro q = 2601 + j) (fun _ _ e => e) (hq _ (fun e => by rw [e] at rj2; omega)) (fun q g e => hq q (fun e2 => by rw [e2] at e; omega)) (fun _ _ => rfl)
    by_cases e : j = k
    · subst e; rw [sp_up_at]; exact ⟨ho, by show nwLi d (ad (600 + j)) v.2.1.1 (fun k => nd_bx d (v.2.1.2 k)) _ Hn; rw [hv]; exact hl⟩
    · rw [sp_up_ne _ _ e]
      exact ⟨hj3.1.kept (hq _ (fun e2 => by rw [e2] at rj; omega)), hl⟩
theorem tr_pKi {x : Nat} {s : spSg} {sm : Int64} (h : nwWR d ro ad x s sm Hc) (og : spGrOk (sg_gr s)) {kk : Nat → Nat} (hkk : ∀ c, c < gr_n (sg_gr s) → kk c < 4) (hz : Hn.size = Hc.size) (hq : ∀ q, q ≠ ad 10 → Hn[q]? = Hc[q]?) (ho : nwR d (ad 10) 4 (gr_n (sg_gr s)) (fun c => some (nd_st d (kk c))) Hn) : nwWR d ro ad x (st_gr s (gr_w (sg_gr s), gr_h (sg_gr s), kk)) sm Hn := by
  obtain ⟨h1, hr⟩ := h.2.2.1
  obtain ⟨r0, r9, r10⟩ := hr og
  rcases h1 with ⟨a, -⟩ | ⟨-, h2, h3⟩
  · exact absurd og.1.1 (by show ¬ 3 ≤ (sg_gr s).1; omega)
  · have og2 : spGrOk (gr_w (sg_gr s), gr_h (sg_gr s), kk) := ⟨og.1, hkk⟩
    refine h.upd (fun p => p == 2) (fun q g => ⟨(h.1 q g).1, Nat.lt_of_lt_of_le (h.1 q g).2 (Nat.le_of_eq hz.symm)⟩) (fun _ _ => rfl) (fun _ _ => rfl) (fun _ _ _ => rfl) (fun q g hS h0 => hq q (fun e2 => ?_)) ⟨Or.inr ⟨rfl, rfl, rfl, rfl⟩, Or.inl rfl, Or.inr rfl, Or.inr rfl, Or.inr rfl, Or.inr rfl, Or.inr rfl, Or.inr rfl, Or.inr rfl, Or.inr rfl⟩ ⟨fun h => absurd h (by decide), fun _ => ⟨Or.inr ⟨og2, ?_, ?_, ho⟩, fun _ => ⟨r0, r9, r10⟩⟩, fun h => absurd h (by decide), fun h => absurd h (by decide), fun h => absurd h (by decide), fun h => absurd h (by decide), fun h => absurd h (by decide), fun h => absurd h (by decide), fun h => absurd h (by decide), fun h => absurd h (by decide)⟩
    · rw [e2, r10] at hS; exact absurd hS (by decide)
    · exact h2.kept (hq _ (fun e => by rw [e] at r0; omega))
    · exact h3.1.kept (hq _ (fun e => by rw [e] at r9; omega))
theorem tr_pKe {x : Nat} {s : spSg} {sm : Int64} (h : nwWR d ro ad x s sm Hc) {ke : Nat → Option Nat} (hz : Hn.size = Hc.size) (hq : ∀ q, q ≠ ad 8 → Hn[q]? = Hc[q]?) (ho : nwI d (ad 8) 0 6 (fun k => oI (ke k)) Hn) : nwWR d ro ad x (st_ke s ke) sm Hn := by
  obtain ⟨h1, r1⟩ := h.2.2.2.2.2.2.2.2.2.2
  refine h.upd (fun p => p == 10) (fun q g => ⟨(h.1 q g).1, Nat.lt_of_lt_of_le (h.1 q g).2 (Nat.le_of_eq hz.symm)⟩) (fun _ _ => rfl) (fun _ _ => rfl) (fun _ _ _ => rfl) (fun q g hS h0 => hq q (fun e2 => ?_)) ⟨Or.inr ⟨rfl, rfl, rfl, rfl⟩, Or.inr rfl, Or.inr rfl, Or.inr rfl, Or.inr rfl, Or.inr rfl, Or.inr rfl, Or.inr rfl, Or.inr rfl, Or.inl rfl⟩ ⟨fun h => absurd h (by decide), fun h => absurd h (by decide), fun h => absurd h (by decide), fun h => absurd h (by decide), fun h => absurd h (by decide), fun h => absurd h (by decide), fun h => absurd h (by decide), fun h => absurd h (by decide), fun h => absurd h (by decide), fun _ => ⟨ho, r1⟩⟩
  rw [e2, r1] at hS; exact absurd hS (by decide)
/-- the words' part has changed -/
theorem tr_pWo {x : Nat} {s : spSg} {sm : Int64} {ro' ad' : Nat → Nat} (h : nwWR d ro ad x s sm Hc) {w : spWo} (hB : roOk d ro' Hn) (hro : ∀ q, ro q ≠ 0 → ro' q = ro q) (had : ∀ i, rp (i + 1) ≠ 9 → ad' i = ad i) (had7 : ad' 7 = ad 7) (hq : ∀ q, q < Hc.size → rp (ro q) ≠ 9 → ro q ≠ 0 → Hn[q]? = Hc[q]?) (hw : wrWo d ro' ad' w Hn) : nwWR d ro' ad' x (st_wo s w) sm Hn := by
  refine h.upd (fun p => p == 9) hB hro (fun i hi => had i (fun e => by rw [e] at hi; exact absurd hi (by decide))) (fun _ i hi => ?_) (fun q g hS h0 => hq q g (fun e => by rw [e] at hS; exact absurd hS (by decide)) h0) ⟨Or.inr ⟨rfl, rfl, rfl, rfl⟩, Or.inr rfl, Or.inr rfl, Or.inr rfl, Or.inr rfl, Or.inr rfl, Or.inr rfl, Or.inr rfl, Or.inl rfl, Or.inr rfl⟩ ⟨fun h => absurd h (by decide), fun h => absurd h (by decide), fun h => absurd h (by decide), fun h => absurd h (by decide), fun h => absurd h (by decide), fun h => absurd h (by decide), fun h => absurd h (by decide), fun h => absurd h (by decide), fun _ => hw, fun h => absurd h (by decide)⟩
  by_cases e : i = 7
  · rw [e]; exact had7
  · refine had i ?_
    rcases (show i = 0 ∨ i = 1 ∨ i = 2 ∨ i = 3 ∨ i = 4 ∨ i = 5 ∨ i = 6 ∨ i = 8 by omega) with e | e | e | e | e | e | e | e <;> (rw [e]; decide +kernel)
/-- a cell more for a guard's round -/
theorem tr_gc {x : Nat} {s : spSg} {sm : Int64} (h : nwWR d ro ad x s sm Hc) {g c ar cap : Nat} {mo : Int32} {f : Nat → Option Nat} (hB : nd_B d ≤ Hc.size) (hg : g < (sg_gu s).1) (hz : Hc.size ≤ Hn.size) (hq : ∀ q, q < Hc.size → ¬ (q = ad (400 + g) ∨ ro q = 2401 + g ∨ Hc.size ≤ q) → Hn[q]? = Hc[q]?)
    (hL : nwLm d (ad (400 + g)) (gd_m ((sg_gu s).2 g) + 1) (fun k => if k = gd_m ((sg_gu s).2 g) then nd_bx d c else nd_bx d (gd_c ((sg_gu s).2 g) k)) (fun q => ro q = 2401 + g ∨ Hc.size ≤ q) mo ar cap f Hn) : ∃ ro' : Nat → Nat, nwWR d ro' ad x (st_gu s ((sg_gu s).1, sp_up (sg_gu s).2 g (gd_add ((sg_gu s).2 g) c))) sm Hn ∧ ∀ q, ro q ≠ 0 → ro' q = ro q := by
  obtain ⟨h1, hb, r1, r2⟩ := h.2.2.2.2.2.1
  have hm : nwMo d ro (fun _ => 0) Hc := fun q h => absurd rfl h
  have hk := nwRn.keep (Hn := Hn) (r2 := 2401 + g) h.1 hm
  obtain ⟨rg, rg2⟩ := r2 g hg
  have kp : ∀ q, q < Hc.size → ro q ≠ 401 + g → ro q ≠ 2401 + g → Hn[q]? = Hc[q]? := fun q g1 g2 g3 => hq q g1 (fun e2 => by
    rcases e2 with e2 | e2 | e2
    · exact g2 (by rw [e2]; exact rg2)
    · exact g3 e2
    · omega)
  refine ⟨nwRn ro (fun _ => 0) Hc Hn (2401 + g), h.upd (fun p => p == 5) (nwRn.ok h.1 hm hz hB) hk (fun _ _ => rfl) (fun _ _ _ => rfl) (fun q g1 hS h0 => kp q g1 (fun e2 => ?_) (fun e2 => ?_)) ⟨Or.inr ⟨rfl, rfl, rfl, rfl⟩, Or.inr rfl, Or.inr rfl, Or.inr rfl, Or.inl rfl, Or.inr rfl, Or.inr rfl, Or.inr rfl, Or.inr rfl, Or.inr rfl⟩ ⟨fun h => absurd h (by decide), fun h => absurd h (by decide), fun h => absurd h (by decide), fun h => absurd h (by decide), fun _ => ⟨⟨?_, fun j hj => ?_⟩, hb, nw_rt hk r1 (by decide), fun j hj => ?_⟩, fun h => absurd h (by decide), fun h => absurd h (by decide), fun h => absurd h (by decide), fun h => absurd h (by decide), fun h => absurd h (by decide)⟩, hk⟩
  · rw [e2, rp_401 g (by omega)] at hS; exact absurd hS (by decide)
  · rw [e2, rp_2401 g (by omega)] at hS; exact absurd hS (by decide)
  · exact h1.1.go (fun q _ e => nw_rt hk e (by decide)) (kp _ h1.1.lt (by omega) (by omega)) (fun q g1 e => kp q g1 (by omega) (by omega)) (fun _ _ => rfl)
  · show nwGd d (ad (300 + j)) (ad (400 + j)) (fun q => nwRn ro (fun _ => 0) Hc Hn (2401 + g) q = 2401 + j) (sp_up (sg_gu s).2 g (gd_add ((sg_gu s).2 g) c) j) Hn
    have hj2 : j < (sg_gu s).1 := hj
    have hj3 : nwGd d (ad (300 + j)) (ad (400 + j)) (fun q => ro q = 2401 + j) ((sg_gu s).2 j) Hc := h1.2 j hj
    obtain ⟨rj, rj2⟩ := r2 j hj
    have ho := hj3.1.kept (kp _ hj3.1.lt (by omega) (by omega))
    by_cases e : j = g
    · subst e; rw [sp_up_at]
      refine ⟨ho, hL.to (fun q g1 e2 => nwRn.arr hm g1 (by omega) e2) (fun k hk2 => ?_)⟩
      show nd_bx d (sp_up (gd_c ((sg_gu s).2 j)) (gd_m ((sg_gu s).2 j)) c k) = _
      by_cases e2 : k = gd_m ((sg_gu s).2 j)
      · rw [if_pos e2, e2, sp_up_at]
      · rw [if_neg e2, sp_up_ne _ _ e2]
    · rw [sp_up_ne _ _ e]
      exact hj3.go (by omega) hk (kp _ hj3.1.lt (by omega) (by omega)) (kp _ hj3.2.lt (by omega) (by omega)) (fun q g1 e3 => kp q g1 (by omega) (by omega))
  · exact ⟨nw_rt hk (r2 j hj).1 (by omega), nw_rt hk (r2 j hj).2 (by omega)⟩
end TRANS
