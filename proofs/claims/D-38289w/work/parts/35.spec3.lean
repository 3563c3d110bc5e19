/-! ===== intruders, bits, signs ===== -/
def sp_walks (i : spI1) (c : Nat) : Bool := sp_any (fun t => decide (in_a i ≤ t) && (sp_at i t == c)) 240
theorem sp_where_at {i : spI1} {t : Nat} (h : in_a i ≤ t) : sp_where i t = some (sp_at i t) := by
  unfold sp_where
  rw [if_neg (by omega)]
  rfl
theorem okI1.at {g : spGr} {i : spI1} (h : okI1 g i) (t : Nat) : sp_at i t < gr_n g := h.2 _ (by have := h.1.2.1; omega)
theorem okI1.wh {g : spGr} {i : spI1} (h : okI1 g i) {t v : Nat} (hv : sp_where i t = some v) : v < gr_n g := by
  unfold sp_where at hv
  split at hv
  · cases hv
  · cases hv; exact h.at t
def sp_emptyMinutes (gu : spGu) (po : spPo) : Nat := sp_cnt (fun t => decide (0 < sp_emptyPosts gu po t)) 240
/-- the sign that is drawn for a cell -/
def sp_signC (s : spSg) (c t : Nat) : Nat := match sp_fst (sp_onc (sg_gu s) c t) 0 (sg_gu s).1 with
  | some k => 48 + k
  | none => if gr_k (sg_gr s) c == 0 && sp_watched (sg_gr s) (sg_la s) (sg_fo s) (sg_gu s) c t then 58 else (if gr_k (sg_gr s) c = 0 then 46 else if gr_k (sg_gr s) c = 1 then 35 else if gr_k (sg_gr s) c = 2 then 37 else 43)
def nw_ntzB (o : Option Nat) (b : Int32) : Bool := match o with
  | none => b == 0
  | some j => !(b == 0) && ((b ^^^ oI none) &&& (b - nI 1)) == nI (2 ^ j - 1)
theorem nw_ntz_ok (p : Nat → Bool) : ∀ n, n ≤ 6 → nw_ntzB (sp_fst p 0 n) (sp_bits p n) = true
  | 0, _ => by simp only [sp_bits, sp_fst, Nat.zero_add, Nat.reduceAdd]; decide +kernel
  | 1, _ => by simp only [sp_bits, sp_fst, Nat.zero_add, Nat.reduceAdd]; generalize p 0 = a; revert a; decide +kernel
  | 2, _ => by simp only [sp_bits, sp_fst, Nat.zero_add, Nat.reduceAdd]; generalize p 0 = a; generalize p 1 = b; revert a b; decide +kernel
  | 3, _ => by simp only [sp_bits, sp_fst, Nat.zero_add, Nat.reduceAdd]; generalize p 0 = a; generalize p 1 = b; generalize p 2 = c; revert a b c; decide +kernel
  | 4, _ => by simp only [sp_bits, sp_fst, Nat.zero_add, Nat.reduceAdd]; generalize p 0 = a; generalize p 1 = b; generalize p 2 = c; generalize p 3 = d; revert a b c d; decide +kernel
  | 5, _ => by simp only [sp_bits, sp_fst, Nat.zero_add, Nat.reduceAdd]; generalize p 0 = a; generalize p 1 = b; generalize p 2 = c; generalize p 3 = d; generalize p 4 = e; revert a b c d e; decide +kernel
  | 6, _ => by simp only [sp_bits, sp_fst, Nat.zero_add, Nat.reduceAdd]; generalize p 0 = a; generalize p 1 = b; generalize p 2 = c; generalize p 3 = d; generalize p 4 = e; generalize p 5 = f; revert a b c d e f; decide +kernel
theorem nw_ntz_none {p : Nat → Bool} {n : Nat} (hn : n ≤ 6) (h : sp_fst p 0 n = none) : sp_bits p n = 0 := by
  have h1 := nw_ntz_ok p n hn
  rw [h] at h1
  simpa [nw_ntzB] using h1
theorem nw_ntz_some {p : Nat → Bool} {n j : Nat} (hn : n ≤ 6) (h : sp_fst p 0 n = some j) : ¬ sp_bits p n = 0 ∧ (sp_bits p n ^^^ oI none) &&& (sp_bits p n - nI 1) = nI (2 ^ j - 1) := by
  have h1 := nw_ntz_ok p n hn
  rw [h] at h1
  simpa [nw_ntzB] using h1
def nw_bitc (x : Int32) : Int32 :=
  let u (a b : Int32) : Int32 := (a.toUInt32 >>> (b.toUInt32 &&& Int32.toUInt32 31)).toInt32
  let a := x - (u x (nI 1) &&& nI 1431655765)
  let b := (a &&& nI 858993459) + (u a (nI 2) &&& nI 858993459)
  let c := (b + u b (nI 4)) &&& nI 252645135
  let e := c + u c (nI 8)
  let f := e + u e (nI 16)
  f &&& nI 63
theorem nw_bitc6 (p : Nat → Bool) : nw_bitc (sp_bits p 6) = nI (sp_cnt p 6) := by
  simp only [sp_bits, sp_cnt]
  generalize p 0 = a; generalize p 1 = b; generalize p 2 = c; generalize p 3 = d; generalize p 4 = e; generalize p 5 = f
  revert a b c d e f
  decide +kernel
