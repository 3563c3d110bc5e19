/-! ===== the reference in the heap ===== -/
/-- addresses 'am', as the component's: 1 lamps, 2 fogs, 3 guards, 4 posts, 5 intruders, 6 wires, 8 keys, 9 kinds, 11 words, 12 old; 100 + k lamps, 200 + k fogs, 300 + k guards, 400 + k their cells, 500 + k intruders, 600 + k their ways, 700 + k wires; roles are the component's, 5000 on -/
def gaM_f (ga : Option (Nat × Nat)) : Nat := match ga with | none => 0 | some (a, _) => a
def gaM_t (ga : Option (Nat × Nat)) : Option Nat := match ga with | none => none | some (_, b) => some b
def fn2 (a b : Int32) : Nat → Int32 := fun j => if j = 0 then a else b
def fn3 (a b c : Int32) : Nat → Int32 := fun j => if j = 0 then a else if j = 1 then b else c
def mcX (d : nwD) (am : Nat → Nat) (y : Nat) (s : spSg) (th : Int32) (H : Heap) : Prop := nwO d y 9 [.int th, .int (nI (gr_w (sg_gr s))), .int (nI (gr_h (sg_gr s))), .ref (am 9), .int (nI (gaM_f (sg_ga s))), .int (oI (gaM_t (sg_ga s))), .ref (am 1), .ref (am 2), .ref (am 3), .ref (am 4), .int (nI (wo_s (sg_wo s))), .int (nI (wo_m (sg_wo s))), .int (nI (sp_after (wo_x (sg_wo s)))), .ref (am 11), .ref (am 12), .int (nI (sg_ri s)), .ref (am 8), .ref (am 5), .ref (am 6), .int (nI (sg_rf s))] H
def mcKi (d : nwD) (am : Nat → Nat) (gr : spGr) (H : Heap) : Prop := nwI d (am 9) 0 (gr_n gr) (fun c => nI (gr_k gr c)) H
def mcLa (d : nwD) (ro am : Nat → Nat) (la : spLa) (H : Heap) : Prop := nwLi d (am 1) la.1 (fun k => am (100 + k)) (fun q => ro q = 7002) H ∧ ∀ k, k < la.1 → nwI d (am (100 + k)) 0 3 (fn3 (nI (la.2 k).1) (nI (la.2 k).2.1) (b2i (la.2 k).2.2)) H
def mcFo (d : nwD) (ro am : Nat → Nat) (fo : spFo) (H : Heap) : Prop := nwLi d (am 2) fo.1 (fun k => am (200 + k)) (fun q => ro q = 7003) H ∧ ∀ k, k < fo.1 → nwI d (am (200 + k)) 0 2 (fn2 (nI (fo.2 k).1) (nI (fo.2 k).2)) H
def nwMGd (d : nwD) (a cl : Nat) (P : Nat → Prop) (g : spGd) (H : Heap) : Prop := nwO d a 10 [.int (nI (gd_a g)), .int (nI (gd_b g)), .int (nI (gd_s g)), .ref cl, .int (nI (gd_k g)), .int (gd_h g)] H ∧ nwLi d cl (gd_m g) (fun k => nd_bx d (gd_c g k)) P H
def mcGu (d : nwD) (ro am : Nat → Nat) (gu : spGu) (H : Heap) : Prop := nwLi d (am 3) gu.1 (fun k => am (300 + k)) (fun q => ro q = 7004) H ∧ ∀ k, k < gu.1 → nwMGd d (am (300 + k)) (am (400 + k)) (fun q => ro q = 7401 + k) (gu.2 k) H
def mcPo (d : nwD) (ro am : Nat → Nat) (po : spPo) (H : Heap) : Prop := nwLi d (am 4) po.1 (fun k => nd_bx d (po.2 k)) (fun q => ro q = 7005) H
def sp_wayM (i : spI1) : Nat → Int32 := fun m => if m < in_a i then nI 0 else nI (sp_at i m)
def nwMIn (d : nwD) (a wl : Nat) (i : spI1) (H : Heap) : Prop := nwO d a 11 [.int (nI (in_a i)), .int (nI (in_v i)), .ref wl, .int (nI (in_s i)), .int (oI (in_l i))] H ∧ nwI d wl 0 240 (sp_wayM i) H
def mcIn (d : nwD) (ro am : Nat → Nat) (is : spIs) (H : Heap) : Prop := nwLi d (am 5) is.1 (fun k => am (500 + k)) (fun q => ro q = 7006) H ∧ ∀ k, k < is.1 → nwMIn d (am (500 + k)) (am (600 + k)) (is.2 k) H
def mcWi (d : nwD) (ro am : Nat → Nat) (wi : spWs) (H : Heap) : Prop := nwLi d (am 6) wi.1 (fun k => am (700 + k)) (fun q => ro q = 7007) H ∧ ∀ k, k < wi.1 → nwI d (am (700 + k)) 0 2 (fn2 (nI (wi.2 k).1) (nI (wi.2 k).2)) H
def mcWo (d : nwD) (ro am : Nat → Nat) (w : spWo) (H : Heap) : Prop := nwI d (am 11) 0 4 (fun h => nI (wo_n w h)) H ∧ nwLi d (am 12) (wo_m w) (fun k => nd_bx d (wo_o w k)) (fun q => ro q = 7013) H
def mcKe (d : nwD) (am : Nat → Nat) (ke : Nat → Option Nat) (H : Heap) : Prop := nwI d (am 8) 0 6 (fun k => oI (ke k)) H
def nwMC (d : nwD) (ro am : Nat → Nat) (y : Nat) (s : spSg) (th : Int32) (H : Heap) : Prop :=
  mcX d am y s th H ∧ mcKi d am (sg_gr s) H ∧ mcLa d ro am (sg_la s) H ∧ mcFo d ro am (sg_fo s) H ∧ mcGu d ro am (sg_gu s) H ∧ mcPo d ro am (sg_po s) H ∧ mcIn d ro am (sg_in s) H ∧ mcWi d ro am (sg_wi s) H ∧ mcWo d ro am (sg_wo s) H ∧ mcKe d am (sg_ke s) H
section MEXT
variable {d : nwD} {ro am : Nat → Nat} {H H1 : Heap}
theorem nwMGd.ext {a cl : Nat} {P : Nat → Prop} {g : spGd} (h : nwMGd d a cl P g H) (hq : ∀ q : Nat, q < H.size → H1[q]? = H[q]?) : nwMGd d a cl P g H1 := ⟨h.1.ext hq, h.2.ext hq⟩
theorem nwMIn.ext {a wl : Nat} {i : spI1} (h : nwMIn d a wl i H) (hq : ∀ q : Nat, q < H.size → H1[q]? = H[q]?) : nwMIn d a wl i H1 := ⟨h.1.ext hq, h.2.ext hq⟩
theorem nwMC.ext {y : Nat} {s : spSg} {th : Int32} (h : nwMC d ro am y s th H) (hq : ∀ q : Nat, q < H.size → H1[q]? = H[q]?) : nwMC d ro am y s th H1 := by
  obtain ⟨h0, h1, h2, h3, h4, h5, h6, h7, h8, h9⟩ := h
  exact ⟨nwO.ext h0 hq, nwI.ext h1 hq, ⟨h2.1.ext hq, fun k hk => (h2.2 k hk).ext hq⟩, ⟨h3.1.ext hq, fun k hk => (h3.2 k hk).ext hq⟩, ⟨h4.1.ext hq, fun k hk => (h4.2 k hk).ext hq⟩, nwLi.ext h5 hq, ⟨h6.1.ext hq, fun k hk => (h6.2 k hk).ext hq⟩, ⟨h7.1.ext hq, fun k hk => (h7.2 k hk).ext hq⟩, ⟨h8.1.ext hq, h8.2.ext hq⟩, nwI.ext h9 hq⟩
end MEXT
