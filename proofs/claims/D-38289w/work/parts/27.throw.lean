/-! ===== throws: 'throw new E()' that nobody in the method catches ===== -/
theorem nw_noTrace {l : Launch} (h : l.flags = flags0) : l.stackTraces = false := by
  unfold Launch.stackTraces
  rw [h]
  decide +kernel
section NWTH
variable {d : nwD} {X : nwX} {A : Nat → Prop} {nL : Nat} {H H0 : Heap} {k n pc : Nat} {lv : List (Nat × Value)} {rest : List Value} {own mn : String} {cc : ByteArray} {ret : Option FieldType} {rm : Room} {R : Option Value → Heap → Prop} {RX : String → Heap → Prop} {mc ms : Nat}
theorem nw_throw0 (C : nwC d X A H0 own mn cc nL ret rm []) {cls : String} {names : List String} {ik ic : Nat} (hcls : Bundle.fit cls = true) (hnames : ∀ n ∈ names, Bundle.fit n = true) (hk : Cond.classLink own ik cls ∈ lw_all) (hini : Cond.initialized cls ∈ lw_all) (hat : ∀ w ∈ vx_at0 own ic cls names, w ∈ lw_all ∨ (w ∈ lw_tbl ∧ nw_tk w = true)) (hgood : ∀ w ∈ Cond.classLink own ik cls :: Cond.initialized cls :: vx_at0 own ic cls names, vx_ot w = true)
    (d0 : decode cc pc = .ok (.new ik, 3)) (d3 : decode cc (pc + 3) = .ok (.dup, 1)) (d4 : decode cc (pc + 4) = .ok (.invokespecial ic, 3)) (d7 : decode cc (pc + 7) = .ok (.athrow, 1))
    (hrm : names.length + 3 < rm.frames ∧ 8 + (13 * (names.length + 1) + 42) ≤ rm.locals ∧ k + 1 ≤ rm.cells ∧ n + 6 ≤ rm.slots) (hw : (rest.map fun v => v.category).sum ≤ 8) (hc : k + 1 ≤ mc) (hs : n + 6 ≤ ms)
    (hR : ∀ H1 : Heap, H.size ≤ H1.size → (∀ q : Nat, q < H.size → H1[q]? = H[q]?) → RX cls H1) : nwV X A (nwQE X R RX A mc ms) nL H k n pc lv rest := by
  intro ls locs hl hS
  have hRm := C.hR
  refine vx_throw0 (cls := cls) (names := names) (ik := ik) (ic := ic) C.hx C.hb (nw_noTrace C.hfl) C.ho hcls hnames (C.ht _ hk) (C.ht _ hini) (fun w h => ?_) hgood (C.hE.2.2.2.2.2.2.2.1.1.narrow (fun q h => C.hB q h)) (C.hE.2.2.2.2.2.2.2.1.2.narrow (fun q h => C.hB q h)) hS (hl.1.trans C.hml.symm) d0 d3 d4 d7 (fun x hx => by rw [C.htb] at hx; cases hx) (by rw [hRm]; exact hrm.1) (by rw [hRm]; omega) (by rw [hRm]; exact hrm.2.2.1) (by rw [hRm]; exact hrm.2.2.2) C.hk (fun t h1 h2 h3 => ⟨hR t.heap h2 h3, Nat.le_trans hS.1 h2, fun q g1 g2 => (h3 q (Nat.lt_of_lt_of_le g1 hS.1)).trans (hS.2.1 q g1 g2)⟩) hS.2.2 hc hs
  rcases hat w h with h1 | ⟨h1, h2⟩
  · exact C.ht _ h1
  · exact (C.hw (nw_tw h1 h2)).use (nw_ton h2)
end NWTH
theorem nw_atIOOBE : ∀ w ∈ vx_at0 "NightwatchWall" 12 "java/lang/IndexOutOfBoundsException" ["java/lang/RuntimeException", "java/lang/Exception"], w ∈ lw_all ∨ (w ∈ lw_tbl ∧ nw_tk w = true) := by decide +kernel
theorem nw_otIOOBE : ∀ w ∈ Cond.classLink "NightwatchWall" 10 "java/lang/IndexOutOfBoundsException" :: Cond.initialized "java/lang/IndexOutOfBoundsException" :: vx_at0 "NightwatchWall" 12 "java/lang/IndexOutOfBoundsException" ["java/lang/RuntimeException", "java/lang/Exception"], vx_ot w = true := by decide +kernel
theorem nw_atIAE : ∀ w ∈ vx_at0 "NightwatchWall" 3 "java/lang/IllegalArgumentException" ["java/lang/RuntimeException", "java/lang/Exception"], w ∈ lw_all ∨ (w ∈ lw_tbl ∧ nw_tk w = true) := by decide +kernel
theorem nw_otIAE : ∀ w ∈ Cond.classLink "NightwatchWall" 1 "java/lang/IllegalArgumentException" :: Cond.initialized "java/lang/IllegalArgumentException" :: vx_at0 "NightwatchWall" 3 "java/lang/IllegalArgumentException" ["java/lang/RuntimeException", "java/lang/Exception"], vx_ot w = true := by decide +kernel
theorem nw_atISE : ∀ w ∈ vx_at0 "NightwatchWall" 9 "java/lang/IllegalStateException" ["java/lang/RuntimeException", "java/lang/Exception"], w ∈ lw_all ∨ (w ∈ lw_tbl ∧ nw_tk w = true) := by decide +kernel
theorem nw_otISE : ∀ w ∈ Cond.classLink "NightwatchWall" 7 "java/lang/IllegalStateException" :: Cond.initialized "java/lang/IllegalStateException" :: vx_at0 "NightwatchWall" 9 "java/lang/IllegalStateException" ["java/lang/RuntimeException", "java/lang/Exception"], vx_ot w = true := by decide +kernel
def nwExt (H H1 : Heap) : Prop := H.size ≤ H1.size ∧ ∀ q : Nat, q < H.size → H1[q]? = H[q]?
theorem nwExt.rfl {H : Heap} : nwExt H H := ⟨Nat.le_refl _, fun _ _ => Eq.refl _⟩
theorem nwExt.trans {H H1 H2 : Heap} (h : nwExt H H1) (h2 : nwExt H1 H2) : nwExt H H2 := ⟨Nat.le_trans h.1 h2.1, fun q hq => (h2.2 q (Nat.lt_of_lt_of_le hq h.1)).trans (h.2 q hq)⟩
/-- cells that are new to H may change -/
theorem nwExt.step {H H1 H2 : Heap} {S : Nat → Prop} (h : nwExt H H1) (hz : H1.size ≤ H2.size) (hq : ∀ q, q < H1.size → ¬ S q → H2[q]? = H1[q]?) (hS : ∀ q, S q → H.size ≤ q) : nwExt H H2 :=
  ⟨Nat.le_trans h.1 hz, fun q g => (hq q (Nat.lt_of_lt_of_le g h.1) (fun e => absurd (hS q e) (Nat.not_le.mpr g))).trans (h.2 q g)⟩
theorem nwExt.put {H H1 H2 : Heap} {a : Nat} (h : nwExt H H1) (hz : H2.size = H1.size) (hq : ∀ q, q ≠ a → H2[q]? = H1[q]?) (ha : H.size ≤ a) : nwExt H H2 :=
  h.step (S := fun q => q = a) (Nat.le_of_eq hz.symm) (fun q _ e => hq q e) (fun q e => by rw [e]; exact ha)
theorem nwExt.made {H H1 H2 : Heap} (h : nwExt H H1) (hz : H2.size = H1.size + 1) (hq : ∀ q, q < H1.size → H2[q]? = H1[q]?) : nwExt H H2 := h.trans ⟨by omega, hq⟩
theorem nwExt.call {H H1 H2 : Heap} (h : nwExt H H1) (hz : H1.size ≤ H2.size) (hq : ∀ q, q < H1.size → ¬ nwNew H1 q → H2[q]? = H1[q]?) : nwExt H H2 := h.trans ⟨hz, fun q g => hq q g (Nat.not_le.mpr g)⟩
theorem nwO.ext {d : nwD} {a ci : Nat} {fs : List Value} {H H1 : Heap} (h : nwO d a ci fs H) (hq : ∀ q : Nat, q < H.size → H1[q]? = H[q]?) : nwO d a ci fs H1 := h.kept (hq _ h.lt)
theorem nwI.ext {d : nwD} {a ty n : Nat} {f : Nat → Int32} {H H1 : Heap} (h : nwI d a ty n f H) (hq : ∀ q : Nat, q < H.size → H1[q]? = H[q]?) : nwI d a ty n f H1 := h.kept (hq _ h.lt)
theorem nwR.ext {d : nwD} {a ty n : Nat} {f : Nat → Option Nat} {H H1 : Heap} (h : nwR d a ty n f H) (hq : ∀ q : Nat, q < H.size → H1[q]? = H[q]?) : nwR d a ty n f H1 := h.kept (hq _ h.lt)
theorem nwE.ext {d : nwD} {U : State} {H H1 : Heap} (h : nwE d U H) (hq : ∀ q : Nat, q < H.size → H1[q]? = H[q]?) : nwE d U H1 := h.kept (fun a g _ => hq a g)
