/-! ===== lists, boxes, options: what the JDK's methods stand on ===== -/
theorem vb_c128 (v : Nat) : vb_c (128 + v) = nI v := by
  unfold vb_c
  rw [show Int32.ofNat (128 + v) = nI 128 + nI v from (nI_add 128 v).symm]
  show nI 128 + nI v - nI 128 = nI v
  grind
section NWJ
variable {d : nwD} {X : nwX} {A : Nat → Prop} {Q : State → Prop} {nL : Nat} {H H0 : Heap} {k n pc : Nat} {lv : List (Nat × Value)} {rest : List Value} {own mn : String} {cc : ByteArray} {ret : Option FieldType} {rm : Room} {tb : List ExceptionTableEntry}
theorem nwC.E0 (C : nwC d X A H0 own mn cc nL ret rm tb) : nwE d (nx_s X) H0 := by have h := C.hE; rw [C.hH] at h; exact h
/-- a box's number -/
theorem nwE.box {U : State} (h : nwE d U H) {v : Nat} (hv : v < 128) : va_OF "java/lang/Integer" "value" "I" (.int (nI v)) (nd_bx d v) (fun q => nd_B d ≤ q) U H := by
  have h1 := h.2.1.2.2.2.2 (128 + v) (by omega)
  dsimp only at h1
  rw [vb_c128, show nd_st d (1000 + (128 + v)) = nd_bx d v by show nd_st d _ = nd_st d _; congr 1; omega] at h1
  exact h1
theorem nwE.boxIs {U : State} (h : nwE d U H) {v : Nat} (hv : v < 128) : nwIs U "java/lang/Integer" (nd_bx d v) H := by
  have h1 := h.2.1.2.2.2.1 (128 + v) (by omega)
  dsimp only at h1
  rw [show nd_st d (1000 + (128 + v)) = nd_bx d v by show nd_st d _ = nd_st d _; congr 1; omega] at h1
  exact h1.is
/-- a reference out of a static array -/
theorem nw_aaldT (C : nwC d X A H0 own mn cc nL ret rm tb) {t N : Nat} {f : Nat → Value} {Cn : String} {i : Nat} (v : Nat) (hT : ∀ (U : State) (H9 : Heap), nwE d U H9 → va_T (.object Cn) t N f (fun q => nd_B d ≤ q) U H9) (hi : i < N ∧ N < 2 ^ 31) (hv : f i = .ref v) (dd : decode cc pc = .ok (.aaload, 1)) (q : Nat) (hq : pc + 1 = q) (K : nwV X A Q nL H k n q lv (.ref v :: rest)) : nwV X A Q nL H k n pc lv (.int (nI i) :: .ref t :: rest) := by
  subst hq
  exact fun ls locs hl hS => vb_tq C.hx C.hb ((hT _ _ C.hE).narrow (fun q h => C.hB q h)) hS (vp_in_nI hi.1 hi.2) (by rw [nI_clamp (Nat.lt_trans hi.1 hi.2)]; exact hv) dd (K ls locs hl hS)
/-- the length of a static array of references -/
theorem nw_alenT (C : nwC d X A H0 own mn cc nL ret rm tb) {t N : Nat} {f : Nat → Value} {ty : FieldType} (hT : ∀ (U : State) (H9 : Heap), nwE d U H9 → va_T ty t N f (fun q => nd_B d ≤ q) U H9) (dd : decode cc pc = .ok (.arraylength, 1)) (q : Nat) (hq : pc + 1 = q) (K : nwV X A Q nL H k n q lv (.int (nI N) :: rest)) : nwV X A Q nL H k n pc lv (.ref t :: rest) := by
  subst hq
  intro ls locs hl hS
  obtain ⟨cell, h1, h2, h3, h4, h5, h6, h7⟩ := hT _ _ (C.Z hS)
  exact W.alen (n := nI N) C.hx C.hb h1 h2 h5 rfl rfl dd (K ls locs hl hS)
theorem nw_m128 {v : Nat} (h : v < 2 ^ 31) : ¬ nI v < -128 := by
  intro h1
  have h2 := Int32.lt_iff_toInt_lt.mp h1
  rw [nI_toInt h] at h2
  have h3 : (-128 : Int32).toInt = -128 := by decide
  omega
end NWJ
