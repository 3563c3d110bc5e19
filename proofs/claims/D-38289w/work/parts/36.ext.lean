/-! ===== the world stays, as long as its cells do ===== -/
section EXT
variable {d : nwD} {ro ad : Nat → Nat} {H H1 : Heap}
theorem nwLi.ext {a n : Nat} {es : Nat → Nat} {P : Nat → Prop} (h : nwLi d a n es P H) (hq : ∀ q : Nat, q < H.size → H1[q]? = H[q]?) : nwLi d a n es P H1 := by
  obtain ⟨ar, cap, mo, f, ⟨h1, h2, h3, h4⟩, h5, h6⟩ := h
  exact ⟨ar, cap, mo, f, ⟨h1.ext hq, h2, h3, h4.imp id (fun h => ⟨h.1, h.2.ext hq⟩)⟩, h5, h6⟩
theorem nwGr.ext {g ka : Nat} {gr : spGr} (h : nwGr d g ka gr H) (hq : ∀ q : Nat, q < H.size → H1[q]? = H[q]?) : nwGr d g ka gr H1 := ⟨h.1.ext hq, h.2.ext hq⟩
theorem nwGd.ext {a cl : Nat} {P : Nat → Prop} {g : spGd} (h : nwGd d a cl P g H) (hq : ∀ q : Nat, q < H.size → H1[q]? = H[q]?) : nwGd d a cl P g H1 := ⟨h.1.ext hq, h.2.ext hq⟩
theorem nwIn.ext {a wl : Nat} {P : Nat → Prop} {i : spI1} (h : nwIn d a wl P i H) (hq : ∀ q : Nat, q < H.size → H1[q]? = H[q]?) : nwIn d a wl P i H1 := ⟨h.1.ext hq, h.2.ext hq⟩
theorem wcGr.ext {gr : spGr} (h : wcGr d ad gr H) (hq : ∀ q : Nat, q < H.size → H1[q]? = H[q]?) : wcGr d ad gr H1 := h.imp id (fun h => ⟨h.1, h.2.1.ext hq, h.2.2.ext hq⟩)
theorem wcLa.ext {la : spLa} (h : wcLa d ro ad la H) (hq : ∀ q : Nat, q < H.size → H1[q]? = H[q]?) : wcLa d ro ad la H1 := ⟨h.1.ext hq, fun k hk => (h.2 k hk).ext hq⟩
theorem wcFo.ext {fo : spFo} (h : wcFo d ro ad fo H) (hq : ∀ q : Nat, q < H.size → H1[q]? = H[q]?) : wcFo d ro ad fo H1 := ⟨h.1.ext hq, fun k hk => (h.2 k hk).ext hq⟩
theorem wcGu.ext {gu : spGu} (h : wcGu d ro ad gu H) (hq : ∀ q : Nat, q < H.size → H1[q]? = H[q]?) : wcGu d ro ad gu H1 := ⟨h.1.ext hq, fun k hk => (h.2 k hk).ext hq⟩
theorem wcIn.ext {is : spIs} (h : wcIn d ro ad is H) (hq : ∀ q : Nat, q < H.size → H1[q]? = H[q]?) : wcIn d ro ad is H1 := ⟨h.1.ext hq, fun k hk => (h.2 k hk).ext hq⟩
theorem wcWi.ext {wi : spWs} (h : wcWi d ro ad wi H) (hq : ∀ q : Nat, q < H.size → H1[q]? = H[q]?) : wcWi d ro ad wi H1 := ⟨h.1.ext hq, fun k hk => (h.2 k hk).ext hq⟩
theorem wcWo.ext {w : spWo} (h : wcWo d ro ad w H) (hq : ∀ q : Nat, q < H.size → H1[q]? = H[q]?) : wcWo d ro ad w H1 := ⟨h.1.ext hq, h.2.1.ext hq, h.2.2.1.ext hq, h.2.2.2.ext hq⟩
theorem nwWC.ext {x : Nat} {s : spSg} {sm : Int64} (h : nwWC d ro ad x s sm H) (hq : ∀ q : Nat, q < H.size → H1[q]? = H[q]?) : nwWC d ro ad x s sm H1 := by
  obtain ⟨h0, h1, h2, h3, h4, h5, h6, h7, h8, h9⟩ := h
  exact ⟨h0.ext hq, h1.ext hq, h2.ext hq, h3.ext hq, h4.ext hq, nwLi.ext h5 hq, h6.ext hq, h7.ext hq, h8.ext hq, nwI.ext h9 hq⟩
end EXT
