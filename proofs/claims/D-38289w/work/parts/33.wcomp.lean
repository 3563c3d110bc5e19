/-! ===== the component in the heap ===== -/
/-- addresses 'ad': 0 laid, 1 lamps, 2 reports, 3 guards, 4 posts, 5 intruders, 6 wires, 7 words, 8 keys, 9 the ground, 10 its kinds, 11 now, 12 old, 13 the row; 100 + k lamps, 200 + k reports, 300 + k guards, 400 + k their cells, 500 + k intruders, 600 + k their ways, 700 + k wires. 'ro' gives an address its use: i + 1 for ad i, 2001 + i for the array of the list at ad i -/
def wcGr (d : nwD) (ad : Nat → Nat) (gr : spGr) (H : Heap) : Prop := gr.1 = 0 ∧ gr.2.1 = 0 ∧ ad 0 = nd_st d 4 ∨ spGrOk gr ∧ nwO d (ad 0) 15 [.ref (ad 9)] H ∧ nwGr d (ad 9) (ad 10) gr H
def wcLa (d : nwD) (ro ad : Nat → Nat) (la : spLa) (H : Heap) : Prop := nwLi d (ad 1) la.1 (fun k => ad (100 + k)) (fun q => ro q = 2002) H ∧ ∀ k, k < la.1 → nwO d (ad (100 + k)) 2 [.int (nI (la.2 k).1), .int (nI (la.2 k).2.1), .int (b2i (la.2 k).2.2)] H
def wcFo (d : nwD) (ro ad : Nat → Nat) (fo : spFo) (H : Heap) : Prop := nwLi d (ad 2) fo.1 (fun k => ad (200 + k)) (fun q => ro q = 2003) H ∧ ∀ k, k < fo.1 → nwO d (ad (200 + k)) 3 [.int (nI (fo.2 k).1), .int (nI (fo.2 k).2)] H
/-- a guard: her cells at cl -/
def nwGd (d : nwD) (a cl : Nat) (P : Nat → Prop) (g : spGd) (H : Heap) : Prop := nwO d a 4 [.int (nI (gd_a g)), .int (nI (gd_b g)), .int (nI (gd_s g)), .ref cl, .int (nI (gd_k g)), .int (gd_h g)] H ∧ nwLi d cl (gd_m g) (fun k => nd_bx d (gd_c g k)) P H
def wcGu (d : nwD) (ro ad : Nat → Nat) (gu : spGu) (H : Heap) : Prop := nwLi d (ad 3) gu.1 (fun k => ad (300 + k)) (fun q => ro q = 2004) H ∧ ∀ k, k < gu.1 → nwGd d (ad (300 + k)) (ad (400 + k)) (fun q => ro q = 2401 + k) (gu.2 k) H
def wcPo (d : nwD) (ro ad : Nat → Nat) (po : spPo) (H : Heap) : Prop := nwLi d (ad 4) po.1 (fun k => nd_bx d (po.2 k)) (fun q => ro q = 2005) H
def nwIn (d : nwD) (a wl : Nat) (P : Nat → Prop) (i : spI1) (H : Heap) : Prop := nwO d a 7 [.int (nI (in_a i)), .ref wl, .int (nI (in_v i)), .int (nI (in_s i)), .int (oI (in_l i))] H ∧ nwLi d wl (in_m i) (fun k => nd_bx d (in_w i k)) P H
def wcIn (d : nwD) (ro ad : Nat → Nat) (is : spIs) (H : Heap) : Prop := nwLi d (ad 5) is.1 (fun k => ad (500 + k)) (fun q => ro q = 2006) H ∧ ∀ k, k < is.1 → nwIn d (ad (500 + k)) (ad (600 + k)) (fun q => ro q = 2601 + k) (is.2 k) H
def wcWi (d : nwD) (ro ad : Nat → Nat) (wi : spWs) (H : Heap) : Prop := nwLi d (ad 6) wi.1 (fun k => ad (700 + k)) (fun q => ro q = 2007) H ∧ ∀ k, k < wi.1 → nwO d (ad (700 + k)) 8 [.int (nI (wi.2 k).1), .int (nI (wi.2 k).2)] H
def wcWo (d : nwD) (ro ad : Nat → Nat) (w : spWo) (H : Heap) : Prop := nwO d (ad 7) 5 [.int (nI (wo_s w)), .ref (ad 13), .ref (ad 11), .ref (ad 12)] H ∧ nwO d (ad 13) 6 [.int (nI (wo_x w))] H ∧ nwI d (ad 11) 0 4 (fun h => nI (wo_n w h)) H ∧ nwLi d (ad 12) (wo_m w) (fun k => nd_bx d (wo_o w k)) (fun q => ro q = 2013) H
def wcKe (d : nwD) (ad : Nat → Nat) (ke : Nat → Option Nat) (H : Heap) : Prop := nwI d (ad 8) 0 6 (fun k => oI (ke k)) H
def nwWC (d : nwD) (ro ad : Nat → Nat) (x : Nat) (s : spSg) (sm : Int64) (H : Heap) : Prop :=
  nwO d x 0 [.ref (ad 0), .ref (ad 1), .ref (ad 2), .ref (ad 3), .ref (ad 4), .ref (ad 5), .ref (ad 6), .ref (ad 7), .ref (ad 8), .int (nI (ga_f (sg_ga s))), .int (nI (ga_t (sg_ga s))), .int (nI (sg_ri s)), .int (nI (sg_rf s)), .long sm] H ∧
  wcGr d ad (sg_gr s) H ∧ wcLa d ro ad (sg_la s) H ∧ wcFo d ro ad (sg_fo s) H ∧ wcGu d ro ad (sg_gu s) H ∧ wcPo d ro ad (sg_po s) H ∧ wcIn d ro ad (sg_in s) H ∧ wcWi d ro ad (sg_wi s) H ∧ wcWo d ro ad (sg_wo s) H ∧ wcKe d ad (sg_ke s) H
theorem wcGr.here {d : nwD} {ad : Nat → Nat} {gr : spGr} {H : Heap} (h : wcGr d ad gr H) {c : Nat} (hc : c < gr_n gr) : spGrOk gr ∧ nwO d (ad 0) 15 [.ref (ad 9)] H ∧ nwGr d (ad 9) (ad 10) gr H := by
  rcases h with ⟨h, -⟩ | h
  · have h2 : c < gr.1 * gr.2.1 := hc
    rw [h] at h2; omega
  · exact h
