/-! ===== WHERE IT LIES IN THE HEAP: predicates over cells ===== -/
/-- the ground is laid: 3 to 8 wide and high, kinds 0 to 3 -/
def spGrOk (g : spGr) : Prop := (3 ≤ gr_w g ∧ gr_w g ≤ 8 ∧ 3 ≤ gr_h g ∧ gr_h g ≤ 8) ∧ ∀ c, c < gr_n g → gr_k g c < 4
theorem spGrOk.n {g : spGr} (h : spGrOk g) : gr_n g ≤ 64 := Nat.mul_le_mul h.1.2.1 h.1.2.2.2
theorem spGrOk.n9 {g : spGr} (h : spGrOk g) : 9 ≤ gr_n g := Nat.mul_le_mul h.1.1 h.1.2.2.1
theorem spGrOk.row {g : spGr} (h : spGrOk g) {c : Nat} (hc : c < gr_n g) : c / gr_w g < gr_h g := Nat.div_lt_of_lt_mul hc
theorem spGrOk.col {g : spGr} (h : spGrOk g) (c : Nat) : c % gr_w g < gr_w g := Nat.mod_lt _ (by have := h.1.1; omega)
def nwGr (d : nwD) (g ka : Nat) (gr : spGr) (H : Heap) : Prop := nwO d g 1 [.int (nI (gr_w gr)), .int (nI (gr_h gr)), .ref ka] H ∧ nwR d ka 4 (gr_n gr) (fun c => some (nd_st d (gr_k gr c))) H
/-- the box of a small number -/
abbrev nd_bx (d : nwD) (v : Nat) : Nat := nd_st d (1128 + v)
/-- a list: its array ar of cap places, n of them taken, by f; behind its making the shared empty array -/
def nwL (d : nwD) (a ar cap n : Nat) (mo : Int32) (f : Nat → Option Nat) (H : Heap) : Prop := nwO d a 13 [.int mo, .ref ar, .int (nI n)] H ∧ n ≤ cap ∧ cap < 2 ^ 20 ∧ ((cap = 0 ∧ ar = nd_st d 5) ∨ (10 ≤ cap ∧ nwR d ar 3 cap f H))
/-- a list holds the references es 0 .. es (n - 1); its array is of P -/
def nwLi (d : nwD) (a n : Nat) (es : Nat → Nat) (P : Nat → Prop) (H : Heap) : Prop := ∃ (ar cap : Nat) (mo : Int32) (f : Nat → Option Nat), nwL d a ar cap n mo f H ∧ (0 < cap → P ar) ∧ ∀ k, k < n → f k = some (es k)
/-! the arithmetic of the ground -/
theorem nw_dist1 {a b : Nat} (ha : a < 2 ^ 31) (hb : b < 2 ^ 31) : (0 ≤ nI a - nI b → nI a - nI b = nI (sp_dist a b)) ∧ (¬ 0 ≤ nI a - nI b → -(nI a - nI b) = nI (sp_dist a b)) := by
  rcases Nat.lt_or_ge a b with h | h
  · have e : sp_dist a b = b - a := by unfold sp_dist; omega
    have e2 : -(nI a - nI b) = nI b - nI a := by grind
    refine ⟨fun h0 => ?_, fun _ => by rw [e, e2, pk_sub (Nat.le_of_lt h)]⟩
    exfalso
    have h1 : (0 : Int32).toInt ≤ (nI a - nI b).toInt := Int32.le_iff_toInt_le.mp h0
    have h2 : (nI a - nI b).toInt = (a : Int) - (b : Int) := by
      rw [Int32.toInt_sub, nI_toInt ha, nI_toInt hb]
      rw [Int.bmod_eq_of_le] <;> omega
    rw [h2] at h1
    have h3 : (0 : Int32).toInt = 0 := by decide
    omega
  · have e : sp_dist a b = a - b := by unfold sp_dist; omega
    refine ⟨fun _ => by rw [e, pk_sub h], fun h0 => ?_⟩
    exact absurd (by rw [pk_sub h]; exact nI_pos' (by omega)) h0
theorem nw_dist2 {a b : Nat} (ha : a < 2 ^ 31) (hb : b < 2 ^ 31) : (if 0 ≤ nI a - nI b then nI a - nI b else 0 - (nI a - nI b)) = nI (sp_dist a b) := by
  obtain ⟨h1, h2⟩ := nw_dist1 ha hb
  split
  · rename_i h; exact h1 h
  · rename_i h; rw [show (0 : Int32) - (nI a - nI b) = -(nI a - nI b) by grind]; exact h2 h
def nw_sgn (a b : Nat) : Int32 := if a < b then 1 else if b < a then -1 else 0
/-- Integer.signum(x): (x >> 31) | (-x >>> 31) -/
def nw_sig (x : Int32) : Int32 := (x >>> (31 &&& 31)) ||| ((-x).toUInt32 >>> ((31 : Int32).toUInt32 &&& Int32.toUInt32 31)).toInt32
theorem nw_sig8 : ∀ a, a < 8 → ∀ b, b < 8 → nw_sig (nI b - nI a) = nw_sgn a b := by decide +kernel
section NWK
variable {d : nwD} {X : nwX} {A : Nat → Prop} {nL : Nat} {H H0 : Heap} {own mn : String} {cc : ByteArray} {ret : Option FieldType} {rm : Room} {tb : List ExceptionTableEntry}
theorem nwE.stj {U : State} (h : nwE d U H) {i j : Nat} (hi : i < 4) (hj : j < 4) (e : nd_st d i = nd_st d j) : i = j := h.2.2.2.2.2.2.2.2 i j hi hj e
theorem nwC.stj (C : nwC d X A H0 own mn cc nL ret rm tb) {i j : Nat} (hi : i < 4) (hj : j < 4) (e : nd_st d i = nd_st d j) : i = j := C.hE.stj hi hj e
theorem nw_kT (C : nwC d X A H0 own mn cc nL ret rm tb) {i j : Nat} (hi : i < 4) (hj : j < 4) (e : nd_st d i = nd_st d j) : true = (i == j) := by rw [C.stj hi hj e]; simp
theorem nw_kF {i j : Nat} (e : ¬ nd_st d i = nd_st d j) : false = (i == j) := by
  cases hb : i == j with
  | false => rfl
  | true => exact absurd (congrArg (nd_st d) (eq_of_beq hb)) e
end NWK
