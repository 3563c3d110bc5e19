/-! ===== the reference's roles: the component's, 5000 on ===== -/
theorem rp_5101 : ∀ k, k < 50 → rp (5101 + k) = 23 := by decide +kernel
theorem rp_5201 : ∀ k, k < 50 → rp (5201 + k) = 24 := by decide +kernel
theorem rp_5301 : ∀ k, k < 50 → rp (5301 + k) = 25 := by decide +kernel
theorem rp_5401 : ∀ k, k < 50 → rp (5401 + k) = 25 := by decide +kernel
theorem rp_7401 : ∀ k, k < 50 → rp (7401 + k) = 25 := by decide +kernel
theorem rp_5501 : ∀ k, k < 50 → rp (5501 + k) = 27 := by decide +kernel
theorem rp_5601 : ∀ k, k < 50 → rp (5601 + k) = 27 := by decide +kernel
theorem rp_5701 : ∀ k, k < 50 → rp (5701 + k) = 28 := by decide +kernel
section MROLES
variable {d : nwD} {ro ro' am am' : Nat → Nat} {H H1 : Heap}
def mrX (d : nwD) (ro am : Nat → Nat) (y : Nat) (s : spSg) (th : Int32) (H : Heap) : Prop := mcX d am y s th H ∧ ro y = 8000
def mrKi (d : nwD) (ro am : Nat → Nat) (gr : spGr) (H : Heap) : Prop := mcKi d am gr H ∧ ro (am 9) = 5010
def mrLa (d : nwD) (ro am : Nat → Nat) (la : spLa) (H : Heap) : Prop := mcLa d ro am la H ∧ la.1 < 50 ∧ ro (am 1) = 5002 ∧ ∀ k, k < la.1 → ro (am (100 + k)) = 5101 + k
def mrFo (d : nwD) (ro am : Nat → Nat) (fo : spFo) (H : Heap) : Prop := mcFo d ro am fo H ∧ fo.1 < 50 ∧ ro (am 2) = 5003 ∧ ∀ k, k < fo.1 → ro (am (200 + k)) = 5201 + k
def mrGu (d : nwD) (ro am : Nat → Nat) (gu : spGu) (H : Heap) : Prop := mcGu d ro am gu H ∧ gu.1 < 50 ∧ ro (am 3) = 5004 ∧ ∀ k, k < gu.1 → ro (am (300 + k)) = 5301 + k ∧ ro (am (400 + k)) = 5401 + k
def mrPo (d : nwD) (ro am : Nat → Nat) (po : spPo) (H : Heap) : Prop := mcPo d ro am po H ∧ ro (am 4) = 5005
def mrIn (d : nwD) (ro am : Nat → Nat) (is : spIs) (H : Heap) : Prop := mcIn d ro am is H ∧ is.1 < 50 ∧ ro (am 5) = 5006 ∧ ∀ k, k < is.1 → ro (am (500 + k)) = 5501 + k ∧ ro (am (600 + k)) = 5601 + k
def mrWi (d : nwD) (ro am : Nat → Nat) (wi : spWs) (H : Heap) : Prop := mcWi d ro am wi H ∧ wi.1 < 50 ∧ ro (am 6) = 5007 ∧ ∀ k, k < wi.1 → ro (am (700 + k)) = 5701 + k
def mrWo (d : nwD) (ro am : Nat → Nat) (w : spWo) (H : Heap) : Prop := mcWo d ro am w H ∧ ro (am 11) = 5012 ∧ ro (am 12) = 5013
def mrKe (d : nwD) (ro am : Nat → Nat) (ke : Nat → Option Nat) (H : Heap) : Prop := mcKe d am ke H ∧ ro (am 8) = 5009
def nwMW (d : nwD) (ro am : Nat → Nat) (y : Nat) (s : spSg) (th : Int32) (H : Heap) : Prop :=
  roOk d ro H ∧ mrX d ro am y s th H ∧ mrKi d ro am (sg_gr s) H ∧ mrLa d ro am (sg_la s) H ∧ mrFo d ro am (sg_fo s) H ∧ mrGu d ro am (sg_gu s) H ∧ mrPo d ro am (sg_po s) H ∧ mrIn d ro am (sg_in s) H ∧ mrWi d ro am (sg_wi s) H ∧ mrWo d ro am (sg_wo s) H ∧ mrKe d ro am (sg_ke s) H
theorem nwMW.wc {y : Nat} {s : spSg} {th : Int32} (h : nwMW d ro am y s th H) : nwMC d ro am y s th H := by
  obtain ⟨h0, h1, h2, h3, h4, h5, h6, h7, h8, h9, h10⟩ := h
  exact ⟨h1.1, h2.1, h3.1, h4.1, h5.1, h6.1, h7.1, h8.1, h9.1, h10.1⟩
theorem mrKi.go {gr : spGr} (h : mrKi d ro am gr H) (hro : ∀ q, ro q ≠ 0 → ro' q = ro q) (had : ∀ i, rp (i + 5001) = 22 → am' i = am i) (hq : ∀ q, q < H.size → rp (ro q) = 22 → H1[q]? = H[q]?) : mrKi d ro' am' gr H1 := by
  obtain ⟨h1, r1⟩ := h
  have h1 : nwI d (am 9) 0 (gr_n gr) (fun c => nI (gr_k gr c)) H := h1
  have e1 := had 9 (by decide +kernel)
  refine ⟨?_, ?_⟩
  · show nwI d (am' 9) 0 (gr_n gr) (fun c => nI (gr_k gr c)) H1
    rw [e1]; exact h1.kept (hq _ h1.lt (by rw [r1]; decide +kernel))
  · rw [e1]; exact nw_rt hro r1 (by decide)
theorem mrKe.go {ke : Nat → Option Nat} (h : mrKe d ro am ke H) (hro : ∀ q, ro q ≠ 0 → ro' q = ro q) (had : ∀ i, rp (i + 5001) = 30 → am' i = am i) (hq : ∀ q, q < H.size → rp (ro q) = 30 → H1[q]? = H[q]?) : mrKe d ro' am' ke H1 := by
  obtain ⟨h1, r1⟩ := h
  have h1 : nwI d (am 8) 0 6 (fun k => oI (ke k)) H := h1
  have e1 := had 8 (by decide +kernel)
  refine ⟨?_, ?_⟩
  · show nwI d (am' 8) 0 6 (fun k => oI (ke k)) H1
    rw [e1]; exact h1.kept (hq _ h1.lt (by rw [r1]; decide +kernel))
  · rw [e1]; exact nw_rt hro r1 (by decide)
theorem mrPo.go {po : spPo} (h : mrPo d ro am po H) (hro : ∀ q, ro q ≠ 0 → ro' q = ro q) (had : ∀ i, rp (i + 5001) = 26 → am' i = am i) (hq : ∀ q, q < H.size → rp (ro q) = 26 → H1[q]? = H[q]?) : mrPo d ro' am' po H1 := by
  obtain ⟨h1, r1⟩ := h
  have h1 : nwLi d (am 4) po.1 (fun k => nd_bx d (po.2 k)) (fun q => ro q = 7005) H := h1
  have e1 := had 4 (by decide +kernel)
  refine ⟨?_, ?_⟩
  · show nwLi d (am' 4) po.1 (fun k => nd_bx d (po.2 k)) (fun q => ro' q = 7005) H1
    rw [e1]; exact h1.go (fun q g e => nw_rt hro e (by decide)) (hq _ h1.lt (by rw [r1]; decide +kernel)) (fun q g e => hq q g (by rw [show ro q = 7005 from e]; decide +kernel)) (fun _ _ => rfl)
  · rw [e1]; exact nw_rt hro r1 (by decide)
theorem mrWo.go {w : spWo} (h : mrWo d ro am w H) (hro : ∀ q, ro q ≠ 0 → ro' q = ro q) (had : ∀ i, rp (i + 5001) = 29 → am' i = am i) (hq : ∀ q, q < H.size → rp (ro q) = 29 → H1[q]? = H[q]?) : mrWo d ro' am' w H1 := by
  obtain ⟨⟨h3, h4⟩, r11, r12⟩ := h
  have e11 := had 11 (by decide +kernel)
  have e12 := had 12 (by decide +kernel)
  refine ⟨⟨?_, ?_⟩, ?_⟩
  · rw [e11]; exact h3.kept (hq _ h3.lt (by rw [r11]; decide +kernel))
  · rw [e12]; exact h4.go (fun q g e => nw_rt hro e (by decide)) (hq _ h4.lt (by rw [r12]; decide +kernel)) (fun q g e => hq q g (by rw [show ro q = 7013 from e]; decide +kernel)) (fun _ _ => rfl)
  · rw [e11, e12]; exact ⟨nw_rt hro r11 (by decide), nw_rt hro r12 (by decide)⟩
theorem mrLa.go {la : spLa} (h : mrLa d ro am la H) (hro : ∀ q, ro q ≠ 0 → ro' q = ro q) (had : ∀ i, rp (i + 5001) = 23 → am' i = am i) (hq : ∀ q, q < H.size → rp (ro q) = 23 → H1[q]? = H[q]?) : mrLa d ro' am' la H1 := by
  obtain ⟨h1, hb, r1, r2⟩ := h
  have e1 := had 1 (by decide +kernel)
  have e2 : ∀ k, k < la.1 → am' (100 + k) = am (100 + k) := fun k hk => had _ (by rw [show 100 + k + 5001 = 5101 + k by omega]; exact rp_5101 k (by omega))
  refine ⟨⟨?_, fun k hk => ?_⟩, hb, ?_, fun k hk => ?_⟩
  · rw [e1]; exact h1.1.go (fun q g e => nw_rt hro e (by decide)) (hq _ h1.1.lt (by rw [r1]; decide +kernel)) (fun q g e => hq q g (by rw [show ro q = 7002 from e]; decide +kernel)) e2
  · rw [e2 k hk]; exact (h1.2 k hk).kept (hq _ (h1.2 k hk).lt (by rw [r2 k hk]; exact rp_5101 k (by omega)))
  · rw [e1]; exact nw_rt hro r1 (by decide)
  · rw [e2 k hk]; exact nw_rt hro (r2 k hk) (by omega)
theorem mrFo.go {fo : spFo} (h : mrFo d ro am fo H) (hro : ∀ q, ro q ≠ 0 → ro' q = ro q) (had : ∀ i, rp (i + 5001) = 24 → am' i = am i) (hq : ∀ q, q < H.size → rp (ro q) = 24 → H1[q]? = H[q]?) : mrFo d ro' am' fo H1 := by
  obtain ⟨h1, hb, r1, r2⟩ := h
  have e1 := had 2 (by decide +kernel)
  have e2 : ∀ k, k < fo.1 → am' (200 + k) = am (200 + k) := fun k hk => had _ (by rw [show 200 + k + 5001 = 5201 + k by omega]; exact rp_5201 k (by omega))
  refine ⟨⟨?_, fun k hk => ?_⟩, hb, ?_, fun k hk => ?_⟩
  · rw [e1]; exact h1.1.go (fun q g e => nw_rt hro e (by decide)) (hq _ h1.1.lt (by rw [r1]; decide +kernel)) (fun q g e => hq q g (by rw [show ro q = 7003 from e]; decide +kernel)) e2
  · rw [e2 k hk]; exact (h1.2 k hk).kept (hq _ (h1.2 k hk).lt (by rw [r2 k hk]; exact rp_5201 k (by omega)))
  · rw [e1]; exact nw_rt hro r1 (by decide)
  · rw [e2 k hk]; exact nw_rt hro (r2 k hk) (by omega)
theorem mrWi.go {wi : spWs} (h : mrWi d ro am wi H) (hro : ∀ q, ro q ≠ 0 → ro' q = ro q) (had : ∀ i, rp (i + 5001) = 28 → am' i = am i) (hq : ∀ q, q < H.size → rp (ro q) = 28 → H1[q]? = H[q]?) : mrWi d ro' am' wi H1 := by
  obtain ⟨h1, hb, r1, r2⟩ := h
  have e1 := had 6 (by decide +kernel)
  have e2 : ∀ k, k < wi.1 → am' (700 + k) = am (700 + k) := fun k hk => had _ (by rw [show 700 + k + 5001 = 5701 + k by omega]; exact rp_5701 k (by omega))
  refine ⟨⟨?_, fun k hk => ?_⟩, hb, ?_, fun k hk => ?_⟩
  · rw [e1]; exact h1.1.go (fun q g e => nw_rt hro e (by decide)) (hq _ h1.1.lt (by rw [r1]; decide +kernel)) (fun q g e => hq q g (by rw [show ro q = 7007 from e]; decide +kernel)) e2
  · rw [e2 k hk]; exact (h1.2 k hk).kept (hq _ (h1.2 k hk).lt (by rw [r2 k hk]; exact rp_5701 k (by omega)))
  · rw [e1]; exact nw_rt hro r1 (by decide)
  · rw [e2 k hk]; exact nw_rt hro (r2 k hk) (by omega)
theorem nwMGd.go {a cl k : Nat} {g : spGd} (hk : k < 50) (h : nwMGd d a cl (fun q => ro q = 7401 + k) g H) (hro : ∀ q, ro q ≠ 0 → ro' q = ro q) (ha : H1[a]? = H[a]?) (hc : H1[cl]? = H[cl]?) (hq : ∀ q, q < H.size → ro q = 7401 + k → H1[q]? = H[q]?) : nwMGd d a cl (fun q => ro' q = 7401 + k) g H1 :=
  ⟨h.1.kept ha, h.2.go (fun q g e => nw_rt hro e (by omega)) hc hq (fun _ _ => rfl)⟩
theorem nwMIn.kept {a wl : Nat} {i : spI1} (h : nwMIn d a wl i H) (ha : H1[a]? = H[a]?) (hw : H1[wl]? = H[wl]?) : nwMIn d a wl i H1 := ⟨h.1.kept ha, h.2.kept hw⟩
theorem mrGu.go {gu : spGu} (h : mrGu d ro am gu H) (hro : ∀ q, ro q ≠ 0 → ro' q = ro q) (had : ∀ i, rp (i + 5001) = 25 → am' i = am i) (hq : ∀ q, q < H.size → rp (ro q) = 25 → H1[q]? = H[q]?) : mrGu d ro' am' gu H1 := by
  obtain ⟨h1, hb, r1, r2⟩ := h
  have e1 := had 3 (by decide +kernel)
  have e2 : ∀ k, k < gu.1 → am' (300 + k) = am (300 + k) := fun k hk => had _ (by rw [show 300 + k + 5001 = 5301 + k by omega]; exact rp_5301 k (by omega))
  have e3 : ∀ k, k < gu.1 → am' (400 + k) = am (400 + k) := fun k hk => had _ (by rw [show 400 + k + 5001 = 5401 + k by omega]; exact rp_5401 k (by omega))
  refine ⟨⟨?_, fun k hk => ?_⟩, hb, ?_, fun k hk => ?_⟩
  · rw [e1]; exact h1.1.go (fun q g e => nw_rt hro e (by decide)) (hq _ h1.1.lt (by rw [r1]; decide +kernel)) (fun q g e => hq q g (by rw [show ro q = 7004 from e]; decide +kernel)) e2
  · rw [e2 k hk, e3 k hk]; exact (h1.2 k hk).go (by omega) hro (hq _ (h1.2 k hk).1.lt (by rw [(r2 k hk).1]; exact rp_5301 k (by omega))) (hq _ (h1.2 k hk).2.lt (by rw [(r2 k hk).2]; exact rp_5401 k (by omega))) (fun q g e => hq q g (by rw [e]; exact rp_7401 k (by omega)))
  · rw [e1]; exact nw_rt hro r1 (by decide)
  · rw [e2 k hk, e3 k hk]; exact ⟨nw_rt hro (r2 k hk).1 (by omega), nw_rt hro (r2 k hk).2 (by omega)⟩
theorem mrIn.go {is : spIs} (h : mrIn d ro am is H) (hro : ∀ q, ro q ≠ 0 → ro' q = ro q) (had : ∀ i, rp (i + 5001) = 27 → am' i = am i) (hq : ∀ q, q < H.size → rp (ro q) = 27 → H1[q]? = H[q]?) : mrIn d ro' am' is H1 := by
  obtain ⟨h1, hb, r1, r2⟩ := h
  have e1 := had 5 (by decide +kernel)
  have e2 : ∀ k, k < is.1 → am' (500 + k) = am (500 + k) := fun k hk => had _ (by rw [show 500 + k + 5001 = 5501 + k by omega]; exact rp_5501 k (by omega))
  have e3 : ∀ k, k < is.1 → am' (600 + k) = am (600 + k) := fun k hk => had _ (by rw [show 600 + k + 5001 = 5601 + k by omega]; exact rp_5601 k (by omega))
  refine ⟨⟨?_, fun k hk => ?_⟩, hb, ?_, fun k hk => ?_⟩
  · rw [e1]; exact h1.1.go (fun q g e => nw_rt hro e (by decide)) (hq _ h1.1.lt (by rw [r1]; decide +kernel)) (fun q g e => hq q g (by rw [show ro q = 7006 from e]; decide +kernel)) e2
  · rw [e2 k hk, e3 k hk]; exact (h1.2 k hk).kept (hq _ (h1.2 k hk).1.lt (by rw [(r2 k hk).1]; exact rp_5501 k (by omega))) (hq _ (h1.2 k hk).2.lt (by rw [(r2 k hk).2]; exact rp_5601 k (by omega)))
  · rw [e1]; exact nw_rt hro r1 (by decide)
  · rw [e2 k hk, e3 k hk]; exact ⟨nw_rt hro (r2 k hk).1 (by omega), nw_rt hro (r2 k hk).2 (by omega)⟩
def mSame (S : Nat → Bool) (s t : spSg) : Prop :=
  (S 22 = true ∨ sg_gr t = sg_gr s) ∧ (S 23 = true ∨ sg_la t = sg_la s) ∧ (S 24 = true ∨ sg_fo t = sg_fo s) ∧ (S 25 = true ∨ sg_gu t = sg_gu s) ∧ (S 26 = true ∨ sg_po t = sg_po s) ∧ (S 27 = true ∨ sg_in t = sg_in s) ∧ (S 28 = true ∨ sg_wi t = sg_wi s) ∧ (S 29 = true ∨ sg_wo t = sg_wo s) ∧ (S 30 = true ∨ sg_ke t = sg_ke s)
def mNew (S : Nat → Bool) (d : nwD) (ro am : Nat → Nat) (s : spSg) (H : Heap) : Prop :=
  (S 22 = true → mrKi d ro am (sg_gr s) H) ∧ (S 23 = true → mrLa d ro am (sg_la s) H) ∧ (S 24 = true → mrFo d ro am (sg_fo s) H) ∧ (S 25 = true → mrGu d ro am (sg_gu s) H) ∧ (S 26 = true → mrPo d ro am (sg_po s) H) ∧ (S 27 = true → mrIn d ro am (sg_in s) H) ∧ (S 28 = true → mrWi d ro am (sg_wi s) H) ∧ (S 29 = true → mrWo d ro am (sg_wo s) H) ∧ (S 30 = true → mrKe d ro am (sg_ke s) H)
/-- the reference's world behind a change of the parts of S; the object itself is told -/
theorem nwMW.upd {y : Nat} {s t : spSg} {th th' : Int32} (S : Nat → Bool) (h : nwMW d ro am y s th H) (hB : roOk d ro' H1) (hro : ∀ q, ro q ≠ 0 → ro' q = ro q) (had : ∀ i, S (rp (i + 5001)) = false → am' i = am i) (hq : ∀ q, q < H.size → S (rp (ro q)) = false → ro q ≠ 0 → ro q ≠ 8000 → H1[q]? = H[q]?) (hX : mcX d am' y t th' H1) (hs : mSame S s t) (hn : mNew S d ro' am' t H1) : nwMW d ro' am' y t th' H1 := by
  obtain ⟨h0, h1, h2, h3, h4, h5, h6, h7, h8, h9, h10⟩ := h
  obtain ⟨s2, s3, s4, s5, s6, s7, s8, s9, s10⟩ := hs
  obtain ⟨n2, n3, n4, n5, n6, n7, n8, n9, n10⟩ := hn
  have no : ∀ {p : Nat} {P : Prop}, S p = false → (S p = true ∨ P) → P := fun h h2 => h2.elim (fun e => by rw [h] at e; cases e) id
  have hq' : ∀ p, p ≠ 0 → p ≠ 21 → S p = false → ∀ q, q < H.size → rp (ro q) = p → H1[q]? = H[q]? := fun p hp hp2 hS q g e => hq q g (by rw [e]; exact hS) (fun e0 => hp (by rw [← e, e0]; decide +kernel)) (fun e0 => hp2 (by rw [← e, e0]; decide +kernel))
  have had' : ∀ p, S p = false → ∀ i, rp (i + 5001) = p → am' i = am i := fun p hS i e => had i (by rw [e]; exact hS)
  refine ⟨hB, ⟨hX, nw_rt hro h1.2 (by decide)⟩, nw_bor n2 fun e => ?_, nw_bor n3 fun e => ?_, nw_bor n4 fun e => ?_, nw_bor n5 fun e => ?_, nw_bor n6 fun e => ?_, nw_bor n7 fun e => ?_, nw_bor n8 fun e => ?_, nw_bor n9 fun e => ?_, nw_bor n10 fun e => ?_⟩
  · rw [no e s2]; exact h2.go hro (had' 22 e) (hq' 22 (by decide) (by decide) e)
  · rw [no e s3]; exact h3.go hro (had' 23 e) (hq' 23 (by decide) (by decide) e)
  · rw [no e s4]; exact h4.go hro (had' 24 e) (hq' 24 (by decide) (by decide) e)
  · rw [no e s5]; exact h5.go hro (had' 25 e) (hq' 25 (by decide) (by decide) e)
  · rw [no e s6]; exact h6.go hro (had' 26 e) (hq' 26 (by decide) (by decide) e)
  · rw [no e s7]; exact h7.go hro (had' 27 e) (hq' 27 (by decide) (by decide) e)
  · rw [no e s8]; exact h8.go hro (had' 28 e) (hq' 28 (by decide) (by decide) e)
  · rw [no e s9]; exact h9.go hro (had' 29 e) (hq' 29 (by decide) (by decide) e)
  · rw [no e s10]; exact h10.go hro (had' 30 e) (hq' 30 (by decide) (by decide) e)
theorem mcX.adr {y : Nat} {s : spSg} {th : Int32} (h : mcX d am y s th H) (e : ∀ i, i < 13 → am' i = am i) : mcX d am' y s th H := by
  unfold mcX
  rw [e 1 (by omega), e 2 (by omega), e 3 (by omega), e 4 (by omega), e 5 (by omega), e 6 (by omega), e 8 (by omega), e 9 (by omega), e 11 (by omega), e 12 (by omega)]
  exact h
/-- nothing of the world has changed but the object itself -/
theorem nwMW.obj {y : Nat} {s t : spSg} {th th' : Int32} (h : nwMW d ro am y s th H) (hz : H.size ≤ H1.size) (hq : ∀ q, q < H.size → q ≠ y → ro q ≠ 0 → H1[q]? = H[q]?) (hs : mSame (fun _ => false) s t) (hX : mcX d am y t th' H1) : nwMW d ro am y t th' H1 :=
  h.upd (fun _ => false) (fun q g => ⟨(h.1 q g).1, Nat.lt_of_lt_of_le (h.1 q g).2 hz⟩) (fun _ _ => rfl) (fun _ _ => rfl) (fun q g _ e e8 => hq q g (fun e2 => e8 (by rw [e2]; exact h.2.1.2)) e) hX hs (by simp [mNew])
theorem mSame.rfl {S : Nat → Bool} {s : spSg} : mSame S s s := ⟨Or.inr (Eq.refl _), Or.inr (Eq.refl _), Or.inr (Eq.refl _), Or.inr (Eq.refl _), Or.inr (Eq.refl _), Or.inr (Eq.refl _), Or.inr (Eq.refl _), Or.inr (Eq.refl _), Or.inr (Eq.refl _)⟩
theorem nwMW.kp {y : Nat} {s : spSg} {th : Int32} (h : nwMW d ro am y s th H) (hz : H.size ≤ H1.size) (hq : ∀ q, q < H.size → ro q ≠ 0 → H1[q]? = H[q]?) : nwMW d ro am y s th H1 :=
  h.obj hz (fun q g _ e => hq q g e) mSame.rfl (h.2.1.1.kept (hq y h.2.1.1.lt (by rw [h.2.1.2]; decide)))
theorem nwMW.ext {y : Nat} {s : spSg} {th : Int32} (h : nwMW d ro am y s th H) (he : nwExt H H1) : nwMW d ro am y s th H1 := h.kp he.1 (fun q g _ => he.2 q g)
theorem nwMW.ok0 {y : Nat} {s : spSg} {th : Int32} (h : nwMW d ro am y s th H) {q : Nat} (hr : ro q ≠ 0) : nd_B d ≤ q ∧ q < H.size := h.1 q hr
theorem nwMW.new0 {y : Nat} {s : spSg} {th : Int32} (h : nwMW d ro am y s th H) {q : Nat} (hq : H.size ≤ q) : ro q = 0 := Decidable.byContradiction fun e => absurd (h.ok0 e).2 (Nat.not_lt.mpr hq)
/-- thrown is put -/
theorem nwMW.th {y : Nat} {s : spSg} {th th' : Int32} (h : nwMW d ro am y s th H) (hz : H1.size = H.size) (hq : ∀ q : Nat, q ≠ y → H1[q]? = H[q]?) (hX : mcX d am y s th' H1) : nwMW d ro am y s th' H1 :=
  h.obj (Nat.le_of_eq hz.symm) (fun q _ e _ => hq q e) mSame.rfl hX
end MROLES
/-- cells of the reference, or new ones -/
def nwAM (ro : Nat → Nat) (H : Heap) : Nat → Prop := fun q => (21 ≤ rp (ro q) ∧ rp (ro q) ≤ 30) ∨ H.size ≤ q
theorem nwAM_B {d : nwD} {ro am : Nat → Nat} {y : Nat} {s : spSg} {th : Int32} {H : Heap} (h : nwMW d ro am y s th H) (hB : nd_B d ≤ H.size) : ∀ q, nwAM ro H q → nd_B d ≤ q := by
  intro q hq
  rcases hq with hq | hq
  · exact (h.ok0 (fun e => by rw [e] at hq; exact absurd hq (by decide +kernel))).1
  · exact Nat.le_trans hB hq
/-- an answer of the reference: which throw or 0, the number, the state behind it -/
def nwMv (d : nwD) (ro : Nat → Nat) (y : Nat) (o : spOp) (H : Heap) : Option Value → Heap → Prop := fun v H1 => v = some (.int o.2.1) ∧ spOk o.2.2 ∧ H.size ≤ H1.size ∧ ∃ ro' am' : Nat → Nat, nwMW d ro' am' y o.2.2 (nI o.1) H1 ∧ ∀ q, ro q ≠ 0 → ro' q = ro q
