/-! ===== arguments: what is in range, as a number ===== -/
def nw_ix (i : Int32) (n : Nat) : Bool := decide (0 ≤ i) && decide (i < nI n)
def nw_rg (a b : Nat) (v : Int32) : Bool := decide (nI a ≤ v) && decide (v ≤ nI b)
def nw_nn (v : Int32) : Nat := v.toInt.toNat
theorem nw_nn_nI {k : Nat} (h : k < 2 ^ 31) : nw_nn (nI k) = k := by unfold nw_nn; rw [nI_toInt h]; rfl
theorem nI_nn {v : Int32} (h : 0 ≤ v.toInt) : nI (nw_nn v) = v := by
  unfold nw_nn
  show Int32.ofNat v.toInt.toNat = v
  apply Int32.toInt_inj.mp
  have h2 := Int32.toInt_lt v
  have h3 : (nI v.toInt.toNat).toInt = v.toInt.toNat := nI_toInt (by omega)
  exact h3.trans (by omega)
theorem nn_lt (v : Int32) : nw_nn v < 2 ^ 31 := by
  unfold nw_nn
  have h2 := Int32.toInt_lt v
  omega
theorem nw_nat {v : Int32} (h : 0 ≤ v) : ∃ k, k < 2 ^ 31 ∧ nI k = v := by
  have h1 := Int32.le_iff_toInt_le.mp h
  rw [show (0 : Int32).toInt = 0 by decide] at h1
  exact ⟨nw_nn v, nn_lt v, nI_nn h1⟩
theorem nI_leI' {a b : Nat} (ha : a < 2 ^ 31) (hb : b < 2 ^ 31) : nI a ≤ nI b ↔ a ≤ b := by
  rw [Int32.le_iff_toInt_le, nI_toInt ha, nI_toInt hb]; omega
theorem nw_ix_nat {i : Int32} {n : Nat} (hn : n < 2 ^ 31) (h : nw_ix i n = true) : ∃ k, k < n ∧ nI k = i := by
  unfold nw_ix at h
  simp only [Bool.and_eq_true, decide_eq_true_eq] at h
  obtain ⟨k, hk, rfl⟩ := nw_nat h.1
  exact ⟨k, (nI_ltI hk hn).mp h.2, rfl⟩
theorem nw_ix_nI {k n : Nat} (hk : k < 2 ^ 31) (hn : n < 2 ^ 31) : nw_ix (nI k) n = decide (k < n) := by
  unfold nw_ix
  have h1 : (0 : Int32) ≤ nI k := nI_pos' hk
  have h2 : nI k < nI n ↔ k < n := nI_ltI hk hn
  simp [h1, h2]
theorem nw_rg_nat {a b : Nat} {v : Int32} (ha : a < 2 ^ 31) (hb : b < 2 ^ 31) (h : nw_rg a b v = true) : ∃ k, (a ≤ k ∧ k ≤ b) ∧ nI k = v := by
  unfold nw_rg at h
  simp only [Bool.and_eq_true, decide_eq_true_eq] at h
  have h0 : (0 : Int32) ≤ nI a := nI_pos' ha
  obtain ⟨k, hk, rfl⟩ := nw_nat (Int32.le_trans h0 h.1)
  exact ⟨k, ⟨(nI_leI' ha hk).mp h.1, (nI_leI' hk hb).mp h.2⟩, rfl⟩
theorem nw_rg_nI {a b k : Nat} (ha : a < 2 ^ 31) (hb : b < 2 ^ 31) (hk : k < 2 ^ 31) : nw_rg a b (nI k) = (decide (a ≤ k) && decide (k ≤ b)) := by
  unfold nw_rg
  simp [nI_leI' ha hk, nI_leI' hk hb]
theorem nw_ix0 {i : Int32} {n : Nat} (h : i < 0) : nw_ix i n = false := by
  unfold nw_ix
  have h1 : ¬ (0 : Int32) ≤ i := Int32.not_le.mpr h
  simp [h1]
theorem nw_ix1 {i : Int32} {n : Nat} (h0 : ¬ i < 0) (h : i < nI n) : nw_ix i n = true := by
  unfold nw_ix
  have h1 : (0 : Int32) ≤ i := Int32.not_lt.mp h0
  simp [h1, h]
theorem nw_ix2 {i : Int32} {n : Nat} (h : ¬ i < nI n) : nw_ix i n = false := by
  unfold nw_ix
  simp [h]
/-- 'guard + 1' in 0 .. n: none, or a guard -/
def nw_ixO (g : Int32) (n : Nat) : Bool := nw_ix (g + nI 1) (n + 1)
theorem nw_ixO_nat {g : Int32} {n : Nat} (hn : n < 2 ^ 30) (h : nw_ixO g n = true) : ∃ o : Option Nat, (∀ k, o = some k → k < n) ∧ oI o = g := by
  obtain ⟨k, hk, e⟩ := nw_ix_nat (by omega) h
  cases k with
  | zero =>
    refine ⟨none, (fun _ h => by cases h), ?_⟩
    have e2 : g = nI 0 - nI 1 := by rw [e]; grind
    rw [e2]; rfl
  | succ j =>
    refine ⟨some j, (fun k h => by cases h; omega), ?_⟩
    have e2 : g = nI (j + 1) - nI 1 := by rw [e]; grind
    rw [e2, pk_sub (by omega)]; rfl
/-! ===== what the public methods answer: (which throw, or 0; the number) ===== -/
abbrev cIO : String := "java/lang/IndexOutOfBoundsException"
abbrev cIA : String := "java/lang/IllegalArgumentException"
abbrev cIS : String := "java/lang/IllegalStateException"
def op_place (s : spSg) (g t : Int32) : Nat × Int32 := if nw_ix g (sg_gu s).1 = false then (1, 0) else if nw_rg 0 239 t = false then (2, 0) else (0, oI (sp_place ((sg_gu s).2 (nw_nn g)) (nw_nn t)))
def op_sees (s : spSg) (g c t : Int32) : Nat × Int32 := if nw_ixO g (sg_gu s).1 = false then (1, 0) else if nw_ix c (gr_n (sg_gr s)) = false then (1, 0) else if nw_rg 0 239 t = false then (2, 0) else (0, b2i (if g = oI none then sp_watched (sg_gr s) (sg_la s) (sg_fo s) (sg_gu s) (nw_nn c) (nw_nn t) else sp_eye (sg_gr s) (sg_la s) (sg_fo s) (sg_gu s) (nw_nn c) (nw_nn t) (nw_nn g)))
def op_ofCell (s : spSg) (c t q : Int32) : Nat × Int32 := if nw_ix c (gr_n (sg_gr s)) = false then (1, 0) else if nw_rg 0 239 t = false then (2, 0) else if nw_rg 0 4 q = false then (2, 0) else (0, sp_cellNow s (nw_nn c) (nw_nn t) (nw_nn q))
def op_ofMinute (s : spSg) (t q : Int32) : Nat × Int32 := if nw_rg 0 239 t = false then (1, 0) else if nw_rg 0 6 q = false then (1, 0) else (0, nI (sp_minuteNow s (nw_nn t) (nw_nn q)))
def op_empty (s : spSg) (p : Int32) (b : Bool) : Nat × Int32 := if nw_ix p (sg_po s).1 = false then (1, 0) else (0, sp_emptyNow (sg_gu s) ((sg_po s).2 (nw_nn p)) b)
def op_lapse (s : spSg) (c a b : Int32) : Nat × Int32 := if nw_ix c (gr_n (sg_gr s)) = false then (1, 0) else if nw_rg 0 239 a = false then (2, 0) else if nw_rg 0 239 b = false then (2, 0) else if b < a then (2, 0) else (0, oI (sp_fst (fun t => !sp_watched (sg_gr s) (sg_la s) (sg_fo s) (sg_gu s) (nw_nn c) t) (nw_nn a) (nw_nn b + 1 - nw_nn a)))
def op_ofGuard (s : spSg) (g q : Int32) : Nat × Int32 := if nw_ix g (sg_gu s).1 = false then (1, 0) else if nw_rg 0 8 q = false then (2, 0) else (0, sp_guardNow s (nw_nn g) (nw_nn q))
def op_where (s : spSg) (i t : Int32) : Nat × Int32 := if nw_ix i (sg_in s).1 = false then (1, 0) else if nw_rg 0 239 t = false then (2, 0) else (0, oI (sp_where ((sg_in s).2 (nw_nn i)) (nw_nn t)))
def op_ofWire (s : spSg) (k q : Int32) : Nat × Int32 := if nw_ix k (sg_wi s).1 = false then (1, 0) else if nw_rg 0 4 q = false then (2, 0) else (0, sp_wireNow (sg_in s) ((sg_wi s).2 (nw_nn k)) (nw_nn q))
theorem sp_bits_at (p : Nat → Bool) : ∀ n, n ≤ 6 → ∀ k, k < n → (((sp_bits p n >>> (nI k &&& 31)) &&& nI 1) == nI 1) = p k
  | 0, _ => fun k hk => absurd hk (Nat.not_lt_zero k)
  | 1, _ => by
    intro k hk
    rcases (show k = 0 by omega) with rfl <;> (simp only [sp_bits]; generalize p 0 = a; revert a; decide +kernel)
  | 2, _ => by
    intro k hk
    rcases (show k = 0 ∨ k = 1 by omega) with rfl | rfl <;> (simp only [sp_bits]; generalize p 0 = a; generalize p 1 = b; revert a b; decide +kernel)
  | 3, _ => by
    intro k hk
    rcases (show k = 0 ∨ k = 1 ∨ k = 2 by omega) with rfl | rfl | rfl <;> (simp only [sp_bits]; generalize p 0 = a; generalize p 1 = b; generalize p 2 = c; revert a b c; decide +kernel)
  | 4, _ => by
    intro k hk
    rcases (show k = 0 ∨ k = 1 ∨ k = 2 ∨ k = 3 by omega) with rfl | rfl | rfl | rfl <;> (simp only [sp_bits]; generalize p 0 = a; generalize p 1 = b; generalize p 2 = c; generalize p 3 = d; revert a b c d; decide +kernel)
  | 5, _ => by
    intro k hk
    rcases (show k = 0 ∨ k = 1 ∨ k = 2 ∨ k = 3 ∨ k = 4 by omega) with rfl | rfl | rfl | rfl | rfl <;> (simp only [sp_bits]; generalize p 0 = a; generalize p 1 = b; generalize p 2 = c; generalize p 3 = d; generalize p 4 = e; revert a b c d e; decide +kernel)
  | 6, _ => by
    intro k hk
    rcases (show k = 0 ∨ k = 1 ∨ k = 2 ∨ k = 3 ∨ k = 4 ∨ k = 5 by omega) with rfl | rfl | rfl | rfl | rfl | rfl <;> (simp only [sp_bits]; generalize p 0 = a; generalize p 1 = b; generalize p 2 = c; generalize p 3 = d; generalize p 4 = e; generalize p 5 = f; revert a b c d e f; decide +kernel)
/-- an answer o (which throw, or 0; the number), and one that throws one of cs; old cells stay -/
def nwRv (o : Nat × Int32) (H : Heap) : Option Value → Heap → Prop := fun v H1 => (o.1 = 0 ∧ v = some (.int o.2)) ∧ nwExt H H1
def nwRx (o : Nat × Int32) (cs : List String) (H : Heap) : String → Heap → Prop := fun E H1 => (∃ k, o.1 = k + 1 ∧ cs[k]? = some E) ∧ nwExt H H1
