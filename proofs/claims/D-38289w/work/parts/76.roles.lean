/-! ===== ROLES: every cell of a world has a role; roles fall into parts; what a change of one part leaves alone ===== -/
def rp0 (r : Nat) : Nat := if r = 3000 then 1 else if r = 1 ∨ r = 10 ∨ r = 11 then 2 else if r = 2 ∨ r = 2002 ∨ (101 ≤ r ∧ r < 201) then 3 else if r = 3 ∨ r = 2003 ∨ (201 ≤ r ∧ r < 301) then 4 else if r = 4 ∨ r = 2004 ∨ (301 ≤ r ∧ r < 501) ∨ (2401 ≤ r ∧ r < 2501) then 5 else if r = 5 ∨ r = 2005 then 6 else if r = 6 ∨ r = 2006 ∨ (501 ≤ r ∧ r < 701) ∨ (2601 ≤ r ∧ r < 2701) then 7 else if r = 7 ∨ r = 2007 ∨ (701 ≤ r ∧ r < 801) then 8 else if r = 8 ∨ r = 12 ∨ r = 13 ∨ r = 14 ∨ r = 2013 then 9 else if r = 9 then 10 else 0
def rp (r : Nat) : Nat := if r < 5000 then rp0 r else if r < 9000 then 20 + rp0 (r - 5000) else 40
theorem rp_101 : ∀ k, k < 50 → rp (101 + k) = 3 := by decide +kernel
theorem rp_201 : ∀ k, k < 50 → rp (201 + k) = 4 := by decide +kernel
theorem rp_301 : ∀ k, k < 50 → rp (301 + k) = 5 := by decide +kernel
theorem rp_401 : ∀ k, k < 50 → rp (401 + k) = 5 := by decide +kernel
theorem rp_2401 : ∀ k, k < 50 → rp (2401 + k) = 5 := by decide +kernel
theorem rp_501 : ∀ k, k < 50 → rp (501 + k) = 7 := by decide +kernel
theorem rp_601 : ∀ k, k < 50 → rp (601 + k) = 7 := by decide +kernel
theorem rp_2601 : ∀ k, k < 50 → rp (2601 + k) = 7 := by decide +kernel
theorem rp_701 : ∀ k, k < 50 → rp (701 + k) = 8 := by decide +kernel
section ROLES
variable {d : nwD} {ro ro' ad ad' : Nat → Nat} {H H1 : Heap}
theorem nwLi.go {a n : Nat} {es es' : Nat → Nat} {P P' : Nat → Prop} (h : nwLi d a n es P H) (hP : ∀ q, q < H.size → P q → P' q) (ha : H1[a]? = H[a]?) (hq : ∀ q, q < H.size → P q → H1[q]? = H[q]?) (he : ∀ k, k < n → es' k = es k) : nwLi d a n es' P' H1 := by
  obtain ⟨ar, cap, mo, f, ⟨h1, h2, h3, h4⟩, h5, h6⟩ := h
  have hlt : 0 < cap → ar < H.size := fun hc => by
    rcases h4 with ⟨h, -⟩ | ⟨-, h⟩
    · omega
    · exact h.lt
  exact ⟨ar, cap, mo, f, ⟨h1.kept ha, h2, h3, h4.imp id (fun h => ⟨h.1, h.2.kept (hq ar h.2.lt (h5 (by omega)))⟩)⟩, fun hc => hP ar (hlt hc) (h5 hc), fun k hk => by rw [he k hk]; exact h6 k hk⟩
theorem nw_rt (hro : ∀ q, ro q ≠ 0 → ro' q = ro q) {q r : Nat} (e : ro q = r) (h : r ≠ 0) : ro' q = r := (hro q (by rw [e]; exact h)).trans e
theorem nwLi.lt {a n : Nat} {es : Nat → Nat} {P : Nat → Prop} (h : nwLi d a n es P H) : a < H.size := by
  obtain ⟨ar, cap, mo, f, ⟨h1, -⟩, -⟩ := h
  exact h1.lt
/-- roles of the parts: 2 ground, 3 lamps, 4 reports, 5 guards, 6 posts, 7 intruders, 8 wires, 9 words, 10 keys, 1 the object itself -/
def wrGr (d : nwD) (ro ad : Nat → Nat) (gr : spGr) (H : Heap) : Prop := wcGr d ad gr H ∧ (spGrOk gr → ro (ad 0) = 1 ∧ ro (ad 9) = 10 ∧ ro (ad 10) = 11)
def wrLa (d : nwD) (ro ad : Nat → Nat) (la : spLa) (H : Heap) : Prop := wcLa d ro ad la H ∧ la.1 < 50 ∧ ro (ad 1) = 2 ∧ ∀ k, k < la.1 → ro (ad (100 + k)) = 101 + k
def wrFo (d : nwD) (ro ad : Nat → Nat) (fo : spFo) (H : Heap) : Prop := wcFo d ro ad fo H ∧ fo.1 < 50 ∧ ro (ad 2) = 3 ∧ ∀ k, k < fo.1 → ro (ad (200 + k)) = 201 + k
def wrGu (d : nwD) (ro ad : Nat → Nat) (gu : spGu) (H : Heap) : Prop := wcGu d ro ad gu H ∧ gu.1 < 50 ∧ ro (ad 3) = 4 ∧ ∀ k, k < gu.1 → ro (ad (300 + k)) = 301 + k ∧ ro (ad (400 + k)) = 401 + k
def wrPo (d : nwD) (ro ad : Nat → Nat) (po : spPo) (H : Heap) : Prop := wcPo d ro ad po H ∧ ro (ad 4) = 5
def wrIn (d : nwD) (ro ad : Nat → Nat) (is : spIs) (H : Heap) : Prop := wcIn d ro ad is H ∧ is.1 < 50 ∧ ro (ad 5) = 6 ∧ ∀ k, k < is.1 → ro (ad (500 + k)) = 501 + k ∧ ro (ad (600 + k)) = 601 + k
def wrWi (d : nwD) (ro ad : Nat → Nat) (wi : spWs) (H : Heap) : Prop := wcWi d ro ad wi H ∧ wi.1 < 50 ∧ ro (ad 6) = 7 ∧ ∀ k, k < wi.1 → ro (ad (700 + k)) = 701 + k
def wrWo (d : nwD) (ro ad : Nat → Nat) (w : spWo) (H : Heap) : Prop := wcWo d ro ad w H ∧ ro (ad 7) = 8 ∧ ro (ad 11) = 12 ∧ ro (ad 12) = 13 ∧ ro (ad 13) = 14
def wrKe (d : nwD) (ro ad : Nat → Nat) (ke : Nat → Option Nat) (H : Heap) : Prop := wcKe d ad ke H ∧ ro (ad 8) = 9
abbrev wcX (d : nwD) (ad : Nat → Nat) (x : Nat) (ga : Option (Nat × Nat)) (ri rf : Nat) (sm : Int64) (H : Heap) : Prop := nwO d x 0 [.ref (ad 0), .ref (ad 1), .ref (ad 2), .ref (ad 3), .ref (ad 4), .ref (ad 5), .ref (ad 6), .ref (ad 7), .ref (ad 8), .int (nI (ga_f ga)), .int (nI (ga_t ga)), .int (nI ri), .int (nI rf), .long sm] H
def wrX (d : nwD) (ro ad : Nat → Nat) (x : Nat) (ga : Option (Nat × Nat)) (ri rf : Nat) (sm : Int64) (H : Heap) : Prop := wcX d ad x ga ri rf sm H ∧ ro x = 3000
/-- all cells with a role are old enough, and there -/
def roOk (d : nwD) (ro : Nat → Nat) (H : Heap) : Prop := ∀ q, ro q ≠ 0 → nd_B d ≤ q ∧ q < H.size
def nwWR (d : nwD) (ro ad : Nat → Nat) (x : Nat) (s : spSg) (sm : Int64) (H : Heap) : Prop :=
  roOk d ro H ∧ wrX d ro ad x (sg_ga s) (sg_ri s) (sg_rf s) sm H ∧ wrGr d ro ad (sg_gr s) H ∧ wrLa d ro ad (sg_la s) H ∧ wrFo d ro ad (sg_fo s) H ∧ wrGu d ro ad (sg_gu s) H ∧ wrPo d ro ad (sg_po s) H ∧ wrIn d ro ad (sg_in s) H ∧ wrWi d ro ad (sg_wi s) H ∧ wrWo d ro ad (sg_wo s) H ∧ wrKe d ro ad (sg_ke s) H
theorem nwWR.wc {x : Nat} {s : spSg} {sm : Int64} (h : nwWR d ro ad x s sm H) : nwWC d ro ad x s sm H := by
  obtain ⟨h0, h1, h2, h3, h4, h5, h6, h7, h8, h9, h10⟩ := h
  exact ⟨h1.1, h2.1, h3.1, h4.1, h5.1, h6.1, h7.1, h8.1, h9.1, h10.1⟩
variable (hro : ∀ q, ro q ≠ 0 → ro' q = ro q)
theorem wrGr.go {gr : spGr} (h : wrGr d ro ad gr H) (hro : ∀ q, ro q ≠ 0 → ro' q = ro q) (had : ∀ i, rp (i + 1) = 2 → ad' i = ad i) (hq : ∀ q, q < H.size → rp (ro q) = 2 → H1[q]? = H[q]?) : wrGr d ro' ad' gr H1 := by
  obtain ⟨h1, h2⟩ := h
  have e0 := had 0 (by decide +kernel)
  have e9 := had 9 (by decide +kernel)
  have e10 := had 10 (by decide +kernel)
  rcases h1 with ⟨a, b, c⟩ | ⟨a, b, c⟩
  · refine ⟨Or.inl ⟨a, b, by rw [e0]; exact c⟩, fun h => absurd h.1.1 (by show ¬ 3 ≤ gr.1; omega)⟩
  · obtain ⟨r0, r9, r10⟩ := h2 a
    refine ⟨Or.inr ⟨a, ?_, ?_, ?_⟩, fun _ => ?_⟩
    · rw [e0, e9]; exact b.kept (hq _ b.lt (by rw [r0]; decide +kernel))
    · rw [e9, e10]; exact c.1.kept (hq _ c.1.lt (by rw [r9]; decide +kernel))
    · rw [e10]; exact c.2.kept (hq _ c.2.lt (by rw [r10]; decide +kernel))
    · rw [e0, e9, e10]; exact ⟨nw_rt hro r0 (by decide), nw_rt hro r9 (by decide), nw_rt hro r10 (by decide)⟩
theorem wrLa.go {la : spLa} (h : wrLa d ro ad la H) (hro : ∀ q, ro q ≠ 0 → ro' q = ro q) (had : ∀ i, rp (i + 1) = 3 → ad' i = ad i) (hq : ∀ q, q < H.size → rp (ro q) = 3 → H1[q]? = H[q]?) : wrLa d ro' ad' la H1 := by
  obtain ⟨h1, hb, r1, r2⟩ := h
  have e1 := had 1 (by decide +kernel)
  have e2 : ∀ k, k < la.1 → ad' (100 + k) = ad (100 + k) := fun k hk => had _ (by rw [show 100 + k + 1 = 101 + k by omega]; exact rp_101 k (by omega))
  refine ⟨⟨?_, fun k hk => ?_⟩, hb, ?_, fun k hk => ?_⟩
  · rw [e1]; exact h1.1.go (fun q g e => nw_rt hro e (by decide)) (hq _ h1.1.lt (by rw [r1]; decide +kernel)) (fun q g e => hq q g (by rw [show ro q = 2002 from e]; decide +kernel)) e2
  · rw [e2 k hk]; exact (h1.2 k hk).kept (hq _ (h1.2 k hk).lt (by rw [r2 k hk]; exact rp_101 k (by omega)))
  · rw [e1]; exact nw_rt hro r1 (by decide)
  · rw [e2 k hk]; exact nw_rt hro (r2 k hk) (by omega)
theorem wrFo.go {fo : spFo} (h : wrFo d ro ad fo H) (hro : ∀ q, ro q ≠ 0 → ro' q = ro q) (had : ∀ i, rp (i + 1) = 4 → ad' i = ad i) (hq : ∀ q, q < H.size → rp (ro q) = 4 → H1[q]? = H[q]?) : wrFo d ro' ad' fo H1 := by
  obtain ⟨h1, hb, r1, r2⟩ := h
  have e1 := had 2 (by decide +kernel)
  have e2 : ∀ k, k < fo.1 → ad' (200 + k) = ad (200 + k) := fun k hk => had _ (by rw [show 200 + k + 1 = 201 + k by omega]; exact rp_201 k (by omega))
  refine ⟨⟨?_, fun k hk => ?_⟩, hb, ?_, fun k hk => ?_⟩
  · rw [e1]; exact h1.1.go (fun q g e => nw_rt hro e (by decide)) (hq _ h1.1.lt (by rw [r1]; decide +kernel)) (fun q g e => hq q g (by rw [show ro q = 2003 from e]; decide +kernel)) e2
  · rw [e2 k hk]; exact (h1.2 k hk).kept (hq _ (h1.2 k hk).lt (by rw [r2 k hk]; exact rp_201 k (by omega)))
  · rw [e1]; exact nw_rt hro r1 (by decide)
  · rw [e2 k hk]; exact nw_rt hro (r2 k hk) (by omega)
theorem wrWi.go {wi : spWs} (h : wrWi d ro ad wi H) (hro : ∀ q, ro q ≠ 0 → ro' q = ro q) (had : ∀ i, rp (i + 1) = 8 → ad' i = ad i) (hq : ∀ q, q < H.size → rp (ro q) = 8 → H1[q]? = H[q]?) : wrWi d ro' ad' wi H1 := by
  obtain ⟨h1, hb, r1, r2⟩ := h
  have e1 := had 6 (by decide +kernel)
  have e2 : ∀ k, k < wi.1 → ad' (700 + k) = ad (700 + k) := fun k hk => had _ (by rw [show 700 + k + 1 = 701 + k by omega]; exact rp_701 k (by omega))
  refine ⟨⟨?_, fun k hk => ?_⟩, hb, ?_, fun k hk => ?_⟩
  · rw [e1]; exact h1.1.go (fun q g e => nw_rt hro e (by decide)) (hq _ h1.1.lt (by rw [r1]; decide +kernel)) (fun q g e => hq q g (by rw [show ro q = 2007 from e]; decide +kernel)) e2
  · rw [e2 k hk]; exact (h1.2 k hk).kept (hq _ (h1.2 k hk).lt (by rw [r2 k hk]; exact rp_701 k (by omega)))
  · rw [e1]; exact nw_rt hro r1 (by decide)
  · rw [e2 k hk]; exact nw_rt hro (r2 k hk) (by omega)
theorem wrPo.go {po : spPo} (h : wrPo d ro ad po H) (hro : ∀ q, ro q ≠ 0 → ro' q = ro q) (had : ∀ i, rp (i + 1) = 6 → ad' i = ad i) (hq : ∀ q, q < H.size → rp (ro q) = 6 → H1[q]? = H[q]?) : wrPo d ro' ad' po H1 := by
  obtain ⟨h1, r1⟩ := h
  have h1 : nwLi d (ad 4) po.1 (fun k => nd_bx d (po.2 k)) (fun q => ro q = 2005) H := h1
  have e1 := had 4 (by decide +kernel)
  refine ⟨?_, ?_⟩
  · show nwLi d (ad' 4) po.1 (fun k => nd_bx d (po.2 k)) (fun q => ro' q = 2005) H1
    rw [e1]; exact h1.go (fun q g e => nw_rt hro e (by decide)) (hq _ h1.lt (by rw [r1]; decide +kernel)) (fun q g e => hq q g (by rw [show ro q = 2005 from e]; decide +kernel)) (fun _ _ => rfl)
  · rw [e1]; exact nw_rt hro r1 (by decide)
theorem nwGd.go {a cl k : Nat} {g : spGd} (hk : k < 50) (h : nwGd d a cl (fun q => ro q = 2401 + k) g H) (hro : ∀ q, ro q ≠ 0 → ro' q = ro q) (ha : H1[a]? = H[a]?) (hc : H1[cl]? = H[cl]?) (hq : ∀ q, q < H.size → ro q = 2401 + k → H1[q]? = H[q]?) : nwGd d a cl (fun q => ro' q = 2401 + k) g H1 :=
  ⟨h.1.kept ha, h.2.go (fun q g e => nw_rt hro e (by omega)) hc hq (fun _ _ => rfl)⟩
theorem nwIn.go {a cl k : Nat} {g : spI1} (hk : k < 50) (h : nwIn d a cl (fun q => ro q = 2601 + k) g H) (hro : ∀ q, ro q ≠ 0 → ro' q = ro q) (ha : H1[a]? = H[a]?) (hc : H1[cl]? = H[cl]?) (hq : ∀ q, q < H.size → ro q = 2601 + k → H1[q]? = H[q]?) : nwIn d a cl (fun q => ro' q = 2601 + k) g H1 :=
  ⟨h.1.kept ha, h.2.go (fun q g e => nw_rt hro e (by omega)) hc hq (fun _ _ => rfl)⟩
theorem wrGu.go {gu : spGu} (h : wrGu d ro ad gu H) (hro : ∀ q, ro q ≠ 0 → ro' q = ro q) (had : ∀ i, rp (i + 1) = 5 → ad' i = ad i) (hq : ∀ q, q < H.size → rp (ro q) = 5 → H1[q]? = H[q]?) : wrGu d ro' ad' gu H1 := by
  obtain ⟨h1, hb, r1, r2⟩ := h
  have e1 := had 3 (by decide +kernel)
  have e2 : ∀ k, k < gu.1 → ad' (300 + k) = ad (300 + k) := fun k hk => had _ (by rw [show 300 + k + 1 = 301 + k by omega]; exact rp_301 k (by omega))
  have e3 : ∀ k, k < gu.1 → ad' (400 + k) = ad (400 + k) := fun k hk => had _ (by rw [show 400 + k + 1 = 401 + k by omega]; exact rp_401 k (by omega))
  refine ⟨⟨?_, fun k hk => ?_⟩, hb, ?_, fun k hk => ?_⟩
  · rw [e1]; exact h1.1.go (fun q g e => nw_rt hro e (by decide)) (hq _ h1.1.lt (by rw [r1]; decide +kernel)) (fun q g e => hq q g (by rw [show ro q = 2004 from e]; decide +kernel)) e2
  · rw [e2 k hk, e3 k hk]; exact (h1.2 k hk).go (by omega) hro (hq _ (h1.2 k hk).1.lt (by rw [(r2 k hk).1]; exact rp_301 k (by omega))) (hq _ (h1.2 k hk).2.lt (by rw [(r2 k hk).2]; exact rp_401 k (by omega))) (fun q g e => hq q g (by rw [e]; exact rp_2401 k (by omega)))
  · rw [e1]; exact nw_rt hro r1 (by decide)
  · rw [e2 k hk, e3 k hk]; exact ⟨nw_rt hro (r2 k hk).1 (by omega), nw_rt hro (r2 k hk).2 (by omega)⟩
theorem wrIn.go {is : spIs} (h : wrIn d ro ad is H) (hro : ∀ q, ro q ≠ 0 → ro' q = ro q) (had : ∀ i, rp (i + 1) = 7 → ad' i = ad i) (hq : ∀ q, q < H.size → rp (ro q) = 7 → H1[q]? = H[q]?) : wrIn d ro' ad' is H1 := by
  obtain ⟨h1, hb, r1, r2⟩ := h
  have e1 := had 5 (by decide +kernel)
  have e2 : ∀ k, k < is.1 → ad' (500 + k) = ad (500 + k) := fun k hk => had _ (by rw [show 500 + k + 1 = 501 + k by omega]; exact rp_501 k (by omega))
  have e3 : ∀ k, k < is.1 → ad' (600 + k) = ad (600 + k) := fun k hk => had _ (by rw [show 600 + k + 1 = 601 + k by omega]; exact rp_601 k (by omega))
  refine ⟨⟨?_, fun k hk => ?_⟩, hb, ?_, fun k hk => ?_⟩
  · rw [e1]; exact h1.1.go (fun q g e => nw_rt hro e (by decide)) (hq _ h1.1.lt (by rw [r1]; decide +kernel)) (fun q g e => hq q g (by rw [show ro q = 2006 from e]; decide +kernel)) e2
  · rw [e2 k hk, e3 k hk]; exact (h1.2 k hk).go (by omega) hro (hq _ (h1.2 k hk).1.lt (by rw [(r2 k hk).1]; exact rp_501 k (by omega))) (hq _ (h1.2 k hk).2.lt (by rw [(r2 k hk).2]; exact rp_601 k (by omega))) (fun q g e => hq q g (by rw [e]; exact rp_2601 k (by omega)))
  · rw [e1]; exact nw_rt hro r1 (by decide)
  · rw [e2 k hk, e3 k hk]; exact ⟨nw_rt hro (r2 k hk).1 (by omega), nw_rt hro (r2 k hk).2 (by omega)⟩
theorem wrWo.go {w : spWo} (h : wrWo d ro ad w H) (hro : ∀ q, ro q ≠ 0 → ro' q = ro q) (had : ∀ i, rp (i + 1) = 9 → ad' i = ad i) (hq : ∀ q, q < H.size → rp (ro q) = 9 → H1[q]? = H[q]?) : wrWo d ro' ad' w H1 := by
  obtain ⟨⟨h1, h2, h3, h4⟩, r7, r11, r12, r13⟩ := h
  have e7 := had 7 (by decide +kernel)
  have e11 := had 11 (by decide +kernel)
  have e12 := had 12 (by decide +kernel)
  have e13 := had 13 (by decide +kernel)
  refine ⟨⟨?_, ?_, ?_, ?_⟩, ?_⟩
  · rw [e7, e11, e12, e13]; exact h1.kept (hq _ h1.lt (by rw [r7]; decide +kernel))
  · rw [e13]; exact h2.kept (hq _ h2.lt (by rw [r13]; decide +kernel))
  · rw [e11]; exact h3.kept (hq _ h3.lt (by rw [r11]; decide +kernel))
  · rw [e12]; exact h4.go (fun q g e => nw_rt hro e (by decide)) (hq _ h4.lt (by rw [r12]; decide +kernel)) (fun q g e => hq q g (by rw [show ro q = 2013 from e]; decide +kernel)) (fun _ _ => rfl)
  · rw [e7, e11, e12, e13]; exact ⟨nw_rt hro r7 (by decide), nw_rt hro r11 (by decide), nw_rt hro r12 (by decide), nw_rt hro r13 (by decide)⟩
theorem wrKe.go {ke : Nat → Option Nat} (h : wrKe d ro ad ke H) (hro : ∀ q, ro q ≠ 0 → ro' q = ro q) (had : ∀ i, rp (i + 1) = 10 → ad' i = ad i) (hq : ∀ q, q < H.size → rp (ro q) = 10 → H1[q]? = H[q]?) : wrKe d ro' ad' ke H1 := by
  obtain ⟨h1, r1⟩ := h
  have h1 : nwI d (ad 8) 0 6 (fun k => oI (ke k)) H := h1
  have e1 := had 8 (by decide +kernel)
  refine ⟨?_, ?_⟩
  · show nwI d (ad' 8) 0 6 (fun k => oI (ke k)) H1
    rw [e1]; exact h1.kept (hq _ h1.lt (by rw [r1]; decide +kernel))
  · rw [e1]; exact nw_rt hro r1 (by decide)
theorem wrX.go {x : Nat} {ga : Option (Nat × Nat)} {ri rf : Nat} {sm : Int64} (h : wrX d ro ad x ga ri rf sm H) (hro : ∀ q, ro q ≠ 0 → ro' q = ro q) (had : ∀ i, i < 9 → ad' i = ad i) (hq : ∀ q, q < H.size → rp (ro q) = 1 → H1[q]? = H[q]?) : wrX d ro' ad' x ga ri rf sm H1 := by
  obtain ⟨h1, r1⟩ := h
  refine ⟨?_, ?_⟩
  · unfold wcX
    rw [had 0 (by omega), had 1 (by omega), had 2 (by omega), had 3 (by omega), had 4 (by omega), had 5 (by omega), had 6 (by omega), had 7 (by omega), had 8 (by omega)]
    exact h1.kept (hq _ h1.lt (by rw [r1]; decide +kernel))
  · exact nw_rt hro r1 (by decide)
/-- parts that have not changed are as they were -/
def sgSame (S : Nat → Bool) (s t : spSg) (sm sm' : Int64) : Prop :=
  (S 1 = true ∨ (sg_ga t = sg_ga s ∧ sg_ri t = sg_ri s ∧ sg_rf t = sg_rf s ∧ sm' = sm)) ∧ (S 2 = true ∨ sg_gr t = sg_gr s) ∧ (S 3 = true ∨ sg_la t = sg_la s) ∧ (S 4 = true ∨ sg_fo t = sg_fo s) ∧ (S 5 = true ∨ sg_gu t = sg_gu s) ∧ (S 6 = true ∨ sg_po t = sg_po s) ∧ (S 7 = true ∨ sg_in t = sg_in s) ∧ (S 8 = true ∨ sg_wi t = sg_wi s) ∧ (S 9 = true ∨ sg_wo t = sg_wo s) ∧ (S 10 = true ∨ sg_ke t = sg_ke s)
def sgNew (S : Nat → Bool) (d : nwD) (ro ad : Nat → Nat) (x : Nat) (s : spSg) (sm : Int64) (H : Heap) : Prop :=
  (S 1 = true → wrX d ro ad x (sg_ga s) (sg_ri s) (sg_rf s) sm H) ∧ (S 2 = true → wrGr d ro ad (sg_gr s) H) ∧ (S 3 = true → wrLa d ro ad (sg_la s) H) ∧ (S 4 = true → wrFo d ro ad (sg_fo s) H) ∧ (S 5 = true → wrGu d ro ad (sg_gu s) H) ∧ (S 6 = true → wrPo d ro ad (sg_po s) H) ∧ (S 7 = true → wrIn d ro ad (sg_in s) H) ∧ (S 8 = true → wrWi d ro ad (sg_wi s) H) ∧ (S 9 = true → wrWo d ro ad (sg_wo s) H) ∧ (S 10 = true → wrKe d ro ad (sg_ke s) H)
theorem nw_bor {a : Bool} {p : Prop} (h1 : a = true → p) (h2 : a = false → p) : p := by
  cases a
  · exact h2 rfl
  · exact h1 rfl
/-- the world behind a change of the parts of S -/
theorem nwWR.upd {x : Nat} {s t : spSg} {sm sm' : Int64} (S : Nat → Bool) (h : nwWR d ro ad x s sm H) (hB : roOk d ro' H1) (hro : ∀ q, ro q ≠ 0 → ro' q = ro q) (had : ∀ i, S (rp (i + 1)) = false → ad' i = ad i) (had1 : S 1 = false → ∀ i, i < 9 → ad' i = ad i) (hq : ∀ q, q < H.size → S (rp (ro q)) = false → ro q ≠ 0 → H1[q]? = H[q]?) (hs : sgSame S s t sm sm') (hn : sgNew S d ro' ad' x t sm' H1) : nwWR d ro' ad' x t sm' H1 := by
  obtain ⟨h0, h1, h2, h3, h4, h5, h6, h7, h8, h9, h10⟩ := h
  obtain ⟨s1, s2, s3, s4, s5, s6, s7, s8, s9, s10⟩ := hs
  obtain ⟨n1, n2, n3, n4, n5, n6, n7, n8, n9, n10⟩ := hn
  have no : ∀ {p : Nat} {P : Prop}, S p = false → (S p = true ∨ P) → P := fun h h2 => h2.elim (fun e => by rw [h] at e; cases e) id
  have hq' : ∀ p, p ≠ 0 → S p = false → ∀ q, q < H.size → rp (ro q) = p → H1[q]? = H[q]? := fun p hp hS q g e => hq q g (by rw [e]; exact hS) (fun e0 => hp (by rw [← e, e0]; decide +kernel))
  have had' : ∀ p, S p = false → ∀ i, rp (i + 1) = p → ad' i = ad i := fun p hS i e => had i (by rw [e]; exact hS)
  refine ⟨hB, nw_bor n1 fun e => ?_, nw_bor n2 fun e => ?_, nw_bor n3 fun e => ?_, nw_bor n4 fun e => ?_, nw_bor n5 fun e => ?_, nw_bor n6 fun e => ?_, nw_bor n7 fun e => ?_, nw_bor n8 fun e => ?_, nw_bor n9 fun e => ?_, nw_bor n10 fun e => ?_⟩
  · obtain ⟨a, b, c, f⟩ := no e s1
    rw [a, b, c, f]; exact h1.go hro (had1 e) (hq' 1 (by decide) e)
  · rw [no e s2]; exact h2.go hro (had' 2 e) (hq' 2 (by decide) e)
  · rw [no e s3]; exact h3.go hro (had' 3 e) (hq' 3 (by decide) e)
  · rw [no e s4]; exact h4.go hro (had' 4 e) (hq' 4 (by decide) e)
  · rw [no e s5]; exact h5.go hro (had' 5 e) (hq' 5 (by decide) e)
  · rw [no e s6]; exact h6.go hro (had' 6 e) (hq' 6 (by decide) e)
  · rw [no e s7]; exact h7.go hro (had' 7 e) (hq' 7 (by decide) e)
  · rw [no e s8]; exact h8.go hro (had' 8 e) (hq' 8 (by decide) e)
  · rw [no e s9]; exact h9.go hro (had' 9 e) (hq' 9 (by decide) e)
  · rw [no e s10]; exact h10.go hro (had' 10 e) (hq' 10 (by decide) e)
/-- nothing of the world has changed -/
theorem nwWR.kp {x : Nat} {s : spSg} {sm : Int64} (h : nwWR d ro ad x s sm H) (hz : H.size ≤ H1.size) (hq : ∀ q, q < H.size → ro q ≠ 0 → H1[q]? = H[q]?) : nwWR d ro ad x s sm H1 :=
  h.upd (fun _ => false) (fun q g => ⟨(h.1 q g).1, Nat.lt_of_lt_of_le (h.1 q g).2 hz⟩) (fun _ _ => rfl) (fun _ _ => rfl) (fun _ _ _ => rfl) (fun q g _ e => hq q g e) (by simp [sgSame]) (by simp [sgNew])
theorem nwWR.ext {x : Nat} {s : spSg} {sm : Int64} (h : nwWR d ro ad x s sm H) (he : nwExt H H1) : nwWR d ro ad x s sm H1 := h.kp he.1 (fun q g _ => he.2 q g)
theorem nwWR.ok0 {x : Nat} {s : spSg} {sm : Int64} (h : nwWR d ro ad x s sm H) {q : Nat} (hr : ro q ≠ 0) : nd_B d ≤ q ∧ q < H.size := h.1 q hr
end ROLES
/-- cells of the component, or new ones -/
def nwAC (ro : Nat → Nat) (H : Heap) : Nat → Prop := fun q => (1 ≤ rp (ro q) ∧ rp (ro q) ≤ 10) ∨ H.size ≤ q
/-- an answer of the component: which throw or 0, the number, the state behind it -/
def nwCv (d : nwD) (ro : Nat → Nat) (x : Nat) (sm : Int64) (o : spOp) (H : Heap) : Option Value → Heap → Prop := fun v H1 => (o.1 = 0 ∧ v = some (.int o.2.1)) ∧ spOk o.2.2 ∧ H.size ≤ H1.size ∧ ∃ ro' ad' : Nat → Nat, nwWR d ro' ad' x o.2.2 sm H1 ∧ ∀ q, ro q ≠ 0 → ro' q = ro q
