/-! ===== MORE ROWS: Math by the library's contracts, switches ===== -/
section NWM
variable {d : nwD} {X : nwX} {A : Nat → Prop} {Q : State → Prop} {nL : Nat} {H H0 : Heap} {k n pc : Nat} {lv : List (Nat × Value)} {rest : List Value} {own mn : String} {cc : ByteArray} {ret : Option FieldType} {rm : Room} {tb : List ExceptionTableEntry}
theorem nw_mmax (C : nwC d X A H0 own mn cc nL ret rm tb) {x y : Int32} (v : Int32) {i : Nat} (hl : Cond.methodLink own i Lib.Math.max.name ∈ lw_all) (h2 : Cond.static Lib.Math.max.name ∈ lw_all) (h3 : Cond.initialized "java/lang/Math" ∈ lw_all) (h4 : Cond.code Lib.Math.max.name Lib.Math.max.code 2 (some .int) ∈ lw_all) (hv : (if x < y then y else x) = v) (hrm : 1 ≤ rm.frames ∧ 21 ≤ rm.locals ∧ k ≤ rm.cells ∧ n ≤ rm.slots) (hw : (rest.map fun v => v.category).sum ≤ 8) (dd : decode cc pc = .ok (.invokestatic i, 3)) (q : Nat) (hq : pc + 3 = q) (K : nwV X A Q nL H k n q lv (.int v :: rest)) : nwV X A Q nL H k n pc lv (.int y :: .int x :: rest) := by
  subst hq; subst hv
  intro ls locs hll hS
  have hR := C.hR
  exact va_mmax C.hx C.hb (C.hml.trans hll.1.symm) C.ho (C.ht _ hl) (C.ht _ h2) (C.ht _ h3) (C.ht _ h4) (by rw [hR]; exact hrm.1) (by rw [hR]; omega) (by rw [hR]; exact hrm.2.2.1) (by rw [hR]; exact hrm.2.2.2) dd (K ls locs hll hS)
theorem nw_mmin (C : nwC d X A H0 own mn cc nL ret rm tb) {x y : Int32} (v : Int32) {i : Nat} (hl : Cond.methodLink own i Lib.Math.min.name ∈ lw_all) (h2 : Cond.static Lib.Math.min.name ∈ lw_all) (h3 : Cond.initialized "java/lang/Math" ∈ lw_all) (h4 : Cond.code Lib.Math.min.name Lib.Math.min.code 2 (some .int) ∈ lw_all) (hv : (if y < x then y else x) = v) (hrm : 1 ≤ rm.frames ∧ 21 ≤ rm.locals ∧ k ≤ rm.cells ∧ n ≤ rm.slots) (hw : (rest.map fun v => v.category).sum ≤ 8) (dd : decode cc pc = .ok (.invokestatic i, 3)) (q : Nat) (hq : pc + 3 = q) (K : nwV X A Q nL H k n q lv (.int v :: rest)) : nwV X A Q nL H k n pc lv (.int y :: .int x :: rest) := by
  subst hq; subst hv
  intro ls locs hll hS
  have hR := C.hR
  exact va_mmin C.hx C.hb (C.hml.trans hll.1.symm) C.ho (C.ht _ hl) (C.ht _ h2) (C.ht _ h3) (C.ht _ h4) (by rw [hR]; exact hrm.1) (by rw [hR]; omega) (by rw [hR]; exact hrm.2.2.1) (by rw [hR]; exact hrm.2.2.2) dd (K ls locs hll hS)
theorem nw_mabs (C : nwC d X A H0 own mn cc nL ret rm tb) {x : Int32} (v : Int32) {i : Nat} (hl : Cond.methodLink own i Lib.Math.abs.name ∈ lw_all) (h2 : Cond.static Lib.Math.abs.name ∈ lw_all) (h3 : Cond.initialized "java/lang/Math" ∈ lw_all) (h4 : Cond.code Lib.Math.abs.name Lib.Math.abs.code 1 (some .int) ∈ lw_all) (hv : (if 0 ≤ x then x else 0 - x) = v) (hrm : 1 ≤ rm.frames ∧ 21 ≤ rm.locals ∧ k ≤ rm.cells ∧ n ≤ rm.slots) (hw : (rest.map fun v => v.category).sum ≤ 8) (dd : decode cc pc = .ok (.invokestatic i, 3)) (q : Nat) (hq : pc + 3 = q) (K : nwV X A Q nL H k n q lv (.int v :: rest)) : nwV X A Q nL H k n pc lv (.int x :: rest) := by
  subst hq; subst hv
  intro ls locs hll hS
  have hR := C.hR
  exact va_mabs C.hx C.hb (C.hml.trans hll.1.symm) C.ho (C.ht _ hl) (C.ht _ h2) (C.ht _ h3) (C.ht _ h4) (by rw [hR]; exact hrm.1) (by rw [hR]; omega) (by rw [hR]; exact hrm.2.2.1) (by rw [hR]; exact hrm.2.2.2) dd (K ls locs hll hS)
theorem nw_ixor (C : nwC d X A H0 own mn cc nL ret rm tb) {x y : Int32} (v : Int32) (dd : decode cc pc = .ok (.ixor, 1)) (hv : x ^^^ y = v) (q : Nat) (hq : pc + 1 = q) (K : nwV X A Q nL H k n q lv (.int v :: rest)) : nwV X A Q nL H k n pc lv (.int y :: .int x :: rest) := by
  subst hq; subst hv; exact fun ls locs hl hS => lv_ixor C.hx C.hb dd (K ls locs hl hS)
theorem nw_ldcw (C : nwC d X A H0 own mn cc nL ret rm tb) {i : Nat} {v : Int32} (hc : Cond.constant own i v ∈ lw_all) (dd : decode cc pc = .ok (.ldc_w i, 3)) (q : Nat) (hq : pc + 3 = q) (K : nwV X A Q nL H k n q lv (.int v :: rest)) : nwV X A Q nL H k n pc lv rest := by
  subst hq; exact fun ls locs hl hS => lv_ldcw C.hx C.hb C.ho (C.ht _ hc) dd (K ls locs hl hS)
theorem nw_maxN {a b : Nat} (h : a < 2 ^ 31 ∧ b < 2 ^ 31) : (if nI a < nI b then nI b else nI a) = nI (max a b) := by
  split
  · rename_i h1; rw [nI_ltI h.1 h.2] at h1; congr 1; omega
  · rename_i h1; rw [nI_ltI h.1 h.2] at h1; congr 1; omega
theorem nw_minN {a b : Nat} (h : a < 2 ^ 31 ∧ b < 2 ^ 31) : (if nI b < nI a then nI b else nI a) = nI (min a b) := by
  split
  · rename_i h1; rw [nI_ltI h.2 h.1] at h1; congr 1; omega
  · rename_i h1; rw [nI_ltI h.2 h.1] at h1; congr 1; omega
theorem nw_tabIn (C : nwC d X A H0 own mn cc nL ret rm tb) {dflt lo hi : Int} {offs : Array Int} {len : Nat} {x : Int32} {off : Int} (t : Nat) (dd : decode cc pc = .ok (.tableswitch dflt lo hi offs, len)) (h1 : ¬ x.toInt < lo) (h2 : ¬ hi < x.toInt) (ho : offs[(x.toInt - lo).toNat]? = some off) (ht : (pc : Int) + off = (t : Int)) (K : nwV X A Q nL H k n t lv rest) : nwV X A Q nL H k n pc lv (.int x :: rest) :=
  fun ls locs hl hS => lv_tableIn C.hx C.hb dd h1 h2 ho ht (K ls locs hl hS)
theorem nw_tabOut (C : nwC d X A H0 own mn cc nL ret rm tb) {dflt lo hi : Int} {offs : Array Int} {len : Nat} {x : Int32} (t : Nat) (dd : decode cc pc = .ok (.tableswitch dflt lo hi offs, len)) (h : x.toInt < lo ∨ hi < x.toInt) (ht : (pc : Int) + dflt = (t : Int)) (K : nwV X A Q nL H k n t lv rest) : nwV X A Q nL H k n pc lv (.int x :: rest) :=
  fun ls locs hl hS => lv_tableOut C.hx C.hb dd h ht (K ls locs hl hS)
theorem nw_tabInN (C : nwC d X A H0 own mn cc nL ret rm tb) {dflt lo hi : Int} {offs : Array Int} {len : Nat} {a v : Nat} {off : Int} (h : a = v) (hv : v < 2 ^ 31) (t : Nat) (dd : decode cc pc = .ok (.tableswitch dflt lo hi offs, len)) (h1 : ¬ (v : Int) < lo) (h2 : ¬ hi < (v : Int)) (ho : offs[((v : Int) - lo).toNat]? = some off) (ht : (pc : Int) + off = (t : Int)) (K : nwV X A Q nL H k n t lv rest) : nwV X A Q nL H k n pc lv (.int (nI a) :: rest) := by
  subst h
  exact nw_tabIn C t dd (by rw [nI_toInt hv]; exact h1) (by rw [nI_toInt hv]; exact h2) (by rw [nI_toInt hv]; exact ho) ht K
theorem nw_tabOutN (C : nwC d X A H0 own mn cc nL ret rm tb) {dflt lo hi : Int} {offs : Array Int} {len : Nat} {a : Nat} (ha : a < 2 ^ 31) (h : (a : Int) < lo ∨ hi < (a : Int)) (t : Nat) (dd : decode cc pc = .ok (.tableswitch dflt lo hi offs, len)) (ht : (pc : Int) + dflt = (t : Int)) (K : nwV X A Q nL H k n t lv rest) : nwV X A Q nL H k n pc lv (.int (nI a) :: rest) :=
  nw_tabOut C t dd (by rw [nI_toInt ha]; exact h) ht K
end NWM
