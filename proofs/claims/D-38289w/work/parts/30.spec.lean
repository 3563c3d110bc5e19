/-! ===== WHAT THE SYSTEM COMPUTES, in plain numbers (no program in sight); both sides are held against it ===== -/
/-- how many k < n have p; the first k of i, i+1, .. (m of them) with p; whether one has it -/
def sp_cnt (p : Nat → Bool) : Nat → Nat
  | 0 => 0
  | n + 1 => sp_cnt p n + (if p n then 1 else 0)
def sp_fst (p : Nat → Bool) (i : Nat) : Nat → Option Nat
  | 0 => none
  | m + 1 => if p i then some i else sp_fst p (i + 1) m
def sp_any (p : Nat → Bool) : Nat → Bool
  | 0 => false
  | n + 1 => sp_any p n || p n
/-- the set of the k < n with p, as bits -/
def sp_bits (p : Nat → Bool) : Nat → Int32
  | 0 => nI 0
  | n + 1 => if p n then sp_bits p n ||| (nI 1 <<< (nI n &&& 31)) else sp_bits p n
theorem sp_bits_t {p : Nat → Bool} {n : Nat} (h : p n = true) : sp_bits p (n + 1) = sp_bits p n ||| (nI 1 <<< (nI n &&& 31)) := by simp [sp_bits, h]
theorem sp_bits_f {p : Nat → Bool} {n : Nat} (h : p n = false) : sp_bits p (n + 1) = sp_bits p n := by simp [sp_bits, h]
theorem sp_bits_f0 {p : Nat → Bool} {n : Nat} (h : p n = false) : sp_bits p (n + 1) = sp_bits p n ||| nI 0 := by
  rw [sp_bits_f h, show nI 0 = (0 : Int32) from rfl, Int32.or_zero]
theorem sp_bits_0 (p : Nat → Bool) : ∀ n, n ≤ 6 → (sp_bits p n = nI 0 ↔ sp_any p n = false)
  | 0, _ => by simp [sp_bits, sp_any]
  | 1, _ => by simp only [sp_bits, sp_any]; generalize p 0 = a; revert a; decide
  | 2, _ => by simp only [sp_bits, sp_any]; generalize p 0 = a; generalize p 1 = b; revert a b; decide
  | 3, _ => by simp only [sp_bits, sp_any]; generalize p 0 = a; generalize p 1 = b; generalize p 2 = c; revert a b c; decide
  | 4, _ => by simp only [sp_bits, sp_any]; generalize p 0 = a; generalize p 1 = b; generalize p 2 = c; generalize p 3 = d; revert a b c d; decide
  | 5, _ => by simp only [sp_bits, sp_any]; generalize p 0 = a; generalize p 1 = b; generalize p 2 = c; generalize p 3 = d; generalize p 4 = e; revert a b c d e; decide
  | 6, _ => by simp only [sp_bits, sp_any]; generalize p 0 = a; generalize p 1 = b; generalize p 2 = c; generalize p 3 = d; generalize p 4 = e; generalize p 5 = f; revert a b c d e f; decide
theorem sp_cnt_le (p : Nat → Bool) (n : Nat) : sp_cnt p n ≤ n := by
  induction n with
  | zero => exact Nat.le_refl 0
  | succ n ih => unfold sp_cnt; split <;> omega
theorem sp_cnt_t {p : Nat → Bool} {n : Nat} (h : p n = true) : sp_cnt p (n + 1) = sp_cnt p n + 1 := by simp [sp_cnt, h]
theorem sp_cnt_f {p : Nat → Bool} {n : Nat} (h : p n = false) : sp_cnt p (n + 1) = sp_cnt p n := by simp [sp_cnt, h]
theorem sp_any_iff {p : Nat → Bool} {n : Nat} : sp_any p n = true ↔ ∃ k, k < n ∧ p k = true := by
  induction n with
  | zero => simp [sp_any]
  | succ n ih =>
    simp only [sp_any, Bool.or_eq_true, ih]
    constructor
    · rintro (⟨k, h1, h2⟩ | h)
      · exact ⟨k, by omega, h2⟩
      · exact ⟨n, by omega, h⟩
    · rintro ⟨k, h1, h2⟩
      rcases Nat.lt_or_ge k n with h | h
      · exact Or.inl ⟨k, h, h2⟩
      · rw [show k = n by omega] at h2; exact Or.inr h2
theorem sp_any_false {p : Nat → Bool} {n : Nat} : sp_any p n = false ↔ ∀ k, k < n → p k = false := by
  constructor
  · intro h k hk
    cases hp : p k with
    | false => rfl
    | true => rw [sp_any_iff.mpr ⟨k, hk, hp⟩] at h; cases h
  · intro h
    cases ha : sp_any p n with
    | false => rfl
    | true => obtain ⟨k, h1, h2⟩ := sp_any_iff.mp ha; rw [h k h1] at h2; cases h2
theorem sp_fst_some {p : Nat → Bool} : ∀ {m i v : Nat}, sp_fst p i m = some v → i ≤ v ∧ v < i + m ∧ p v = true := by
  intro m
  induction m with
  | zero => intro i v h; cases h
  | succ m ih =>
    intro i v h
    unfold sp_fst at h
    split at h
    · cases h; exact ⟨Nat.le_refl _, by omega, by assumption⟩
    · obtain ⟨a, b, c⟩ := ih h; exact ⟨by omega, by omega, c⟩
/-! the ground: wide, high, kinds (0 ground, 1 wall, 2 hedge, 3 gate) -/
abbrev spGr : Type := Nat × Nat × (Nat → Nat)
abbrev gr_w (g : spGr) : Nat := g.1
abbrev gr_h (g : spGr) : Nat := g.2.1
abbrev gr_k (g : spGr) : Nat → Nat := g.2.2
abbrev gr_n (g : spGr) : Nat := gr_w g * gr_h g
def sp_dist (a b : Nat) : Nat := (a - b) + (b - a)
theorem sp_dist_lt {a b n : Nat} (ha : a < n) (hb : b < n) : sp_dist a b < n := by unfold sp_dist; omega
def sp_apart (w a b : Nat) : Nat := max (sp_dist (a / w) (b / w)) (sp_dist (a % w) (b % w))
def sp_line (w a b : Nat) : Bool := decide (sp_dist (a / w) (b / w) = 0) || decide (sp_dist (a % w) (b % w) = 0) || decide (sp_dist (a / w) (b / w) = sp_dist (a % w) (b % w))
def sp_opq (k : Nat) : Bool := k == 1 || k == 2
/-- one coordinate on the way from a to b, j steps on -/
def sp_toward (a b j : Nat) : Nat := if a < b then a + j else if b < a then a - j else a
def sp_onway (w a b j : Nat) : Nat := sp_toward (a / w) (b / w) j * w + sp_toward (a % w) (b % w) j
def sp_clear (g : spGr) (a b : Nat) : Bool := sp_line (gr_w g) a b && !sp_any (fun j => decide (0 < j) && sp_opq (gr_k g (sp_onway (gr_w g) a b j))) (sp_apart (gr_w g) a b)
/-- a move: 0 stays, then up, right, down, left -/
def sp_moved (g : spGr) (c : Nat) (m : Nat) : Option Nat :=
  if m = 0 then some c else if m = 1 then (if 0 < c / gr_w g then some (c - gr_w g) else none) else if m = 2 then (if c % gr_w g < gr_w g - 1 then some (c + 1) else none) else if m = 3 then (if c / gr_w g < gr_h g - 1 then some (c + gr_w g) else none) else (if 0 < c % gr_w g then some (c - 1) else none)
/-! lamps: cell, reach, lit -/
abbrev spLa : Type := Nat × (Nat → Nat × Nat × Bool)
def sp_lights (g : spGr) (l : Nat × Nat × Bool) (c : Nat) : Bool := l.2.2 && (sp_clear g l.1 c && decide (sp_apart (gr_w g) l.1 c ≤ l.2.1))
def sp_bright (g : spGr) (la : spLa) (c : Nat) : Bool := sp_any (fun k => sp_lights g (la.2 k) c) la.1
def sp_brights (g : spGr) (la : spLa) : Nat := sp_cnt (fun c => sp_bright g la c) (gr_n g)
/-! reports of fog: minute, fog -/
abbrev spFo : Type := Nat × (Nat → Nat × Nat)
/-- the place of the report that is latest in the night among those up to t, of the first k reports; the last one of equals -/
def sp_fogI (fo : spFo) (t : Nat) : Nat → Option Nat
  | 0 => none
  | k + 1 => if (fo.2 k).1 ≤ t then (match sp_fogI fo t k with
      | none => some k
      | some b => if (fo.2 b).1 ≤ (fo.2 k).1 then some k else some b) else sp_fogI fo t k
def sp_fog (fo : spFo) (t : Nat) : Nat := match sp_fogI fo t fo.1 with
  | none => 0
  | some b => (fo.2 b).2
theorem sp_fogI_lt {fo : spFo} {t : Nat} : ∀ {k v : Nat}, sp_fogI fo t k = some v → v < k := by
  intro k
  induction k with
  | zero => intro v h; cases h
  | succ k ih =>
    intro v h
    unfold sp_fogI at h
    split at h
    · cases hb : sp_fogI fo t k with
      | none => rw [hb] at h; cases h; omega
      | some b =>
        rw [hb] at h
        have hb2 := ih hb
        dsimp only at h
        split at h
        · cases h; omega
        · cases h; omega
    · have := ih h; omega
/-! guards: (from, to, stay), (how many cells, which), strikes, hours answered -/
abbrev spGd : Type := (Nat × Nat × Nat) × (Nat × (Nat → Nat)) × Nat × Int32
abbrev gd_a (g : spGd) : Nat := g.1.1
abbrev gd_b (g : spGd) : Nat := g.1.2.1
abbrev gd_s (g : spGd) : Nat := g.1.2.2
abbrev gd_m (g : spGd) : Nat := g.2.1.1
abbrev gd_c (g : spGd) : Nat → Nat := g.2.1.2
abbrev gd_k (g : spGd) : Nat := g.2.2.1
abbrev gd_h (g : spGd) : Int32 := g.2.2.2
abbrev spGu : Type := Nat × (Nat → spGd)
def sp_on (g : spGd) (t : Nat) : Bool := decide (gd_a g ≤ t) && decide (t ≤ gd_b g)
def sp_place (g : spGd) (t : Nat) : Option Nat := if sp_on g t then some (gd_c g ((t - gd_a g) / gd_s g % gd_m g)) else none
def sp_tired (g : spGd) (t : Nat) : Bool := sp_on g t && decide (90 ≤ t - gd_a g)
def sp_range (br ti : Bool) (fog : Nat) : Nat := (if br then 7 - fog else 2 - fog / 2) - (if ti then 1 else 0)
def sp_view (gr : spGr) (g : spGd) (c t : Nat) : Option Nat := match sp_place g t with
  | none => none
  | some p => if sp_clear gr p c then some (sp_apart (gr_w gr) p c) else none
/-- far or none: near enough -/
def sp_near (far : Option Nat) (g : spGd) (t : Nat) (br : Bool) (fog : Nat) : Bool := match far with
  | none => false
  | some f => decide (f ≤ sp_range br (sp_tired g t) fog)
def sp_sees (gr : spGr) (g : spGd) (c t : Nat) (br : Bool) (fog : Nat) : Bool := sp_near (sp_view gr g c t) g t br fog
theorem sp_near_br {far : Option Nat} {g : spGd} {t fog : Nat} (h : fog ≤ 5) (br : Bool) : (sp_near far g t false fog || (sp_near far g t true fog && br)) = sp_near far g t br fog := by
  unfold sp_near
  split
  · simp
  · rename_i f
    have hr : sp_range false (sp_tired g t) fog ≤ sp_range true (sp_tired g t) fog := by
      unfold sp_range
      simp only [Bool.false_eq_true, if_false, if_true]
      omega
    cases br with
    | false => simp
    | true =>
      simp only [Bool.and_true]
      by_cases h1 : f ≤ sp_range false (sp_tired g t) fog
      · simp [h1, Nat.le_trans h1 hr]
      · simp [h1]
/-- guard k sees cell c at t -/
def sp_eye (gr : spGr) (la : spLa) (fo : spFo) (gu : spGu) (c t k : Nat) : Bool := sp_sees gr (gu.2 k) c t (sp_bright gr la c) (sp_fog fo t)
def sp_watchers (gr : spGr) (la : spLa) (fo : spFo) (gu : spGu) (c t : Nat) : Int32 := sp_bits (sp_eye gr la fo gu c t) gu.1
def sp_watched (gr : spGr) (la : spLa) (fo : spFo) (gu : spGu) (c t : Nat) : Bool := sp_any (sp_eye gr la fo gu c t) gu.1
