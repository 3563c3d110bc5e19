/-! ===== what is computed, third part: runs, answers to intruders, hidden ways, lamps to come ===== -/
abbrev spBf : Type := (Nat → Option Nat) × (Nat → Nat) × Nat
abbrev bf_r (b : spBf) : Nat → Option Nat := b.1
abbrev bf_q (b : spBf) : Nat → Nat := b.2.1
abbrev bf_l (b : spBf) : Nat := b.2.2
def bf1 (g : spGr) (c m : Nat) (b : spBf) : spBf := match sp_moved g c m with
  | none => b
  | some x => if bf_r b x = none ∧ ¬ gr_k g x = 1 then ((fun k => if k = x then some (match bf_r b c with | none => 0 | some v => v + 1) else bf_r b k), (fun k => if k = bf_l b then x else bf_q b k), bf_l b + 1) else b
def bfc (g : spGr) (c : Nat) : Nat → Nat → spBf → spBf
  | 0, _, b => b
  | f + 1, m, b => bfc g c f (m + 1) (bf1 g c m b)
def bfl (g : spGr) : Nat → Nat → spBf → spBf
  | 0, _, b => b
  | f + 1, i, b => if i < bf_l b then bfl g f (i + 1) (bfc g (bf_q b i) 4 1 b) else b
def bf0 (p : Nat) : spBf := ((fun k => if k = p then some 0 else none), (fun k => if k = 0 then p else 0), 1)
def sp_runs (g : spGr) (p : Nat) : Nat → Option Nat := bf_r (bfl g (gr_n g) 0 (bf0 p))
/-- what holds of the search: as many cells reached as wait, all inside, none farther than that -/
def bfOk (g : spGr) (b : spBf) : Prop := sp_cnt (fun k => (bf_r b k).isSome) (gr_n g) = bf_l b ∧ (∀ k, k < bf_l b → bf_q b k < gr_n g) ∧ (∀ k v, bf_r b k = some v → v < bf_l b) ∧ 1 ≤ bf_l b
theorem sp_cnt_congr {p q : Nat → Bool} {n : Nat} (h : ∀ k, k < n → p k = q k) : sp_cnt p n = sp_cnt q n := by
  induction n with
  | zero => rfl
  | succ n ih => unfold sp_cnt; rw [ih (fun k hk => h k (by omega)), h n (by omega)]
theorem sp_cnt_up {p : Nat → Bool} {n x : Nat} (hx : x < n) (hp : p x = false) : sp_cnt (fun k => if k = x then true else p k) n = sp_cnt p n + 1 := by
  induction n with
  | zero => omega
  | succ n ih =>
    rcases Nat.lt_or_ge x n with h | h
    · unfold sp_cnt
      rw [ih h, if_neg (show ¬ n = x by omega)]
      omega
    · have e : x = n := by omega
      subst e
      unfold sp_cnt
      rw [sp_cnt_congr (q := p) (fun k hk => by rw [if_neg (by omega)]), if_pos rfl, hp]
      simp
theorem sp_cnt_lt {p : Nat → Bool} {n x : Nat} (hx : x < n) (hp : p x = false) : sp_cnt p n < n := by
  have h := sp_cnt_up hx hp
  have h2 := sp_cnt_le (fun k => if k = x then true else p k) n
  omega
theorem bfOk.le {g : spGr} {b : spBf} (h : bfOk g b) : bf_l b ≤ gr_n g := by rw [← h.1]; exact sp_cnt_le _ _
theorem bfOk.free {g : spGr} {b : spBf} (h : bfOk g b) {x : Nat} (hx : x < gr_n g) (hn : bf_r b x = none) : bf_l b < gr_n g := by
  rw [← h.1]
  exact sp_cnt_lt hx (by rw [hn]; rfl)
theorem sp_moved_lt {g : spGr} (ho : spGrOk g) {c m x : Nat} (hc : c < gr_n g) (h : sp_moved g c m = some x) : x < gr_n g := by
  obtain ⟨w, hh, kk⟩ := g
  have h0 : 3 ≤ w := ho.1.1
  have hc' : c < w * hh := hc
  have hm : c % w < w := Nat.mod_lt _ (by omega)
  have hd := Nat.div_add_mod c w
  have hr : c / w < hh := Nat.div_lt_of_lt_mul hc'
  have hmul : w * (c / w + 1) ≤ w * hh := Nat.mul_le_mul_left w hr
  unfold sp_moved at h
  show x < w * hh
  have hexp : w * (c / w + 1) = w * (c / w) + w := Nat.mul_succ _ _
  split at h
  · cases h; exact hc'
  · split at h
    · split at h
      · cases h; dsimp only [gr_w]; omega
      · cases h
    · split at h
      · split at h
        · rename_i h1; cases h; dsimp only [gr_w] at h1; omega
        · cases h
      · split at h
        · split at h
          · rename_i h1; cases h
            have h1' : c / w < hh - 1 := h1
            have h1'' : c / w + 2 ≤ hh := Nat.add_lt_of_lt_sub h1'
            dsimp only [gr_w]
            have h2 : w * (c / w + 2) ≤ w * hh := Nat.mul_le_mul_left w h1''
            have h3 : w * (c / w + 2) = w * (c / w) + w + w := by rw [Nat.mul_add]; omega
            omega
          · cases h
        · split at h
          · cases h; omega
          · cases h
theorem bf1.ok {g : spGr} (ho : spGrOk g) {b : spBf} (h : bfOk g b) {c m : Nat} (hc : c < gr_n g) : bfOk g (bf1 g c m b) := by
  unfold bf1
  split
  · exact h
  · rename_i x hx
    have hxn := sp_moved_lt ho hc hx
    split
    · rename_i hif
      refine ⟨?_, fun k hk => ?_, fun k v hv => ?_, by show 1 ≤ bf_l b + 1; omega⟩
      · show sp_cnt (fun k => (if k = x then some _ else bf_r b k).isSome) (gr_n g) = bf_l b + 1
        rw [← h.1, ← sp_cnt_up (p := fun k => (bf_r b k).isSome) hxn (by rw [hif.1]; rfl)]
        exact sp_cnt_congr (fun k _ => by by_cases e : k = x <;> simp [e])
      · show (if k = bf_l b then x else bf_q b k) < gr_n g
        split
        · exact hxn
        · have hk2 : k < bf_l b + 1 := hk
          exact h.2.1 k (by omega)
      · show v < bf_l b + 1
        have hv2 : (if k = x then some (match bf_r b c with | none => 0 | some v => v + 1) else bf_r b k) = some v := hv
        split at hv2
        · cases hv2
          split
          · omega
          · rename_i v9 h9; exact Nat.succ_lt_succ (h.2.2.1 c v9 h9)
        · have := h.2.2.1 k v hv2; omega
    · exact h
theorem bf0.ok {g : spGr} {p : Nat} (hp : p < gr_n g) : bfOk g (bf0 p) := by
  refine ⟨?_, fun k hk => ?_, fun k v hv => ?_, Nat.le_refl 1⟩
  · show sp_cnt (fun k => (if k = p then some 0 else none : Option Nat).isSome) (gr_n g) = 1
    have h1 : sp_cnt (fun _ => false) (gr_n g) = 0 := by
      generalize gr_n g = n
      induction n with
      | zero => rfl
      | succ n ih => unfold sp_cnt; rw [ih]; rfl
    have h2 := sp_cnt_up (p := fun _ => false) hp rfl
    rw [h1] at h2
    exact (sp_cnt_congr (fun k _ => by by_cases e : k = p <;> simp [e])).trans h2
  · show (if k = 0 then p else 0) < gr_n g
    split
    · exact hp
    · omega
  · show v < 1
    have hv2 : (if k = p then some 0 else none) = some v := hv
    split at hv2
    · cases hv2; omega
    · cases hv2
theorem bfc.ok {g : spGr} (ho : spGrOk g) {c : Nat} (hc : c < gr_n g) : ∀ (f m : Nat) {b : spBf}, bfOk g b → bfOk g (bfc g c f m b)
  | 0, _, _, h => h
  | f + 1, m, _, h => bfc.ok ho hc f (m + 1) (bf1.ok ho h hc)
theorem bfl.ok {g : spGr} (ho : spGrOk g) : ∀ (f i : Nat) {b : spBf}, bfOk g b → bfOk g (bfl g f i b)
  | 0, _, _, h => h
  | f + 1, i, b, h => by
    unfold bfl
    split
    · rename_i hi; exact bfl.ok ho f (i + 1) (bfc.ok ho (h.2.1 i hi) 4 1 h)
    · exact h
theorem sp_runs_lt {g : spGr} (ho : spGrOk g) {p k v : Nat} (hp : p < gr_n g) (h : sp_runs g p k = some v) : v < 64 := by
  have h1 := bfl.ok ho (gr_n g) 0 (bf0.ok (g := g) hp)
  have h2 := h1.2.2.1 k v h
  have h3 := h1.le
  have h4 := ho.n
  omega
/-- when guard u can be with intruder i, found at f -/
def sp_near1 (s : spSg) (p : Nat) (i : spI1) (f m : Nat) : Bool := match sp_runs (sg_gr s) p (sp_at i m) with
  | none => false
  | some v => decide (v ≤ m - f)
def sp_resp (s : spSg) (u : spGd) (i : spI1) (f : Nat) : Option Nat := match sp_place u f with
  | none => none
  | some p => sp_fst (sp_near1 s p i f) f (240 - f)
def sp_first (s : spSg) (i : spI1) (f : Nat) : Nat → Option Nat × Option Nat
  | 0 => (none, none)
  | k + 1 => match sp_resp s ((sg_gu s).2 k) i f with
    | none => sp_first s i f k
    | some m => match (sp_first s i f k).1 with
      | none => (some m, some k)
      | some b => if m < b then (some m, some k) else sp_first s i f k
def sp_firstR (s : spSg) (i : spI1) (w : Bool) : Option Nat := match sp_foundS s i with
  | none => none
  | some f => if w then (sp_first s i f (sg_gu s).1).2 else (sp_first s i f (sg_gu s).1).1
def sp_intrNow (s : spSg) (i : spI1) (q : Nat) : Int32 := if q = 0 then nI (in_a i) else if q = 1 then nI (in_v i) else if q = 2 then nI (sp_at i 239) else if q = 3 then oI (sp_foundS s i) else if q = 4 then (match sp_foundS s i with
  | none => nI 0
  | some f => sp_watchers (sg_gr s) (sg_la s) (sg_fo s) (sg_gu s) (sp_at i f) f) else if q = 5 then oI (sp_firstR s i false) else if q = 6 then oI (sp_firstR s i true) else if q = 7 then nI (in_s i) else oI (in_l i)
def op_ofIntr (s : spSg) (i q : Int32) : Nat × Int32 := if nw_ix i (sg_in s).1 = false then (1, 0) else if nw_rg 0 8 q = false then (2, 0) else (0, sp_intrNow s ((sg_in s).2 (nw_nn i)) (nw_nn q))
/-! hidden ways -/
def sp_start (s : spSg) (c t : Nat) : Nat → Bool := fun k => if k = c then sp_hidden s c t else false
def sp_from (g : spGr) (f : Nat → Bool) (c m : Nat) : Bool := match sp_moved g c m with
  | none => false
  | some x => f x
def sp_spread (s : spSg) (f : Nat → Bool) (t : Nat) : Nat → Bool := fun c => sp_any (sp_from (sg_gr s) f c) 5 && sp_hidden s c t
def sp_seq (s : spSg) (c t : Nat) : Nat → Nat → Bool
  | 0 => sp_start s c t
  | j + 1 => sp_spread s (sp_seq s c t j) (t + (j + 1))
theorem sp_any_mono {p : Nat → Bool} {m n : Nat} (h : m ≤ n) (ha : sp_any p m = true) : sp_any p n = true := by
  obtain ⟨k, h1, h2⟩ := sp_any_iff.mp ha
  exact sp_any_iff.mpr ⟨k, by omega, h2⟩
def op_sneak (s : spSg) (a b t q : Int32) : Nat × Int32 := if nw_ix a (gr_n (sg_gr s)) = false then (1, 0) else if nw_ix b (gr_n (sg_gr s)) = false then (1, 0) else if nw_rg 0 239 t = false then (2, 0) else if nw_rg 0 60 q = false then (2, 0) else (0, oI (sp_fst (fun j => sp_seq s (nw_nn a) (nw_nn t) j (nw_nn b)) 0 (min (nw_nn q + 1) (240 - nw_nn t))))
def op_reach (s : spSg) (a t q : Int32) : Nat × Int32 := if nw_ix a (gr_n (sg_gr s)) = false then (1, 0) else if nw_rg 0 239 t = false then (2, 0) else if nw_rg 0 60 q = false then (2, 0) else if 240 ≤ nw_nn t + nw_nn q then (2, 0) else (0, nI (sp_cnt (sp_seq s (nw_nn a) (nw_nn t) (nw_nn q)) (gr_n (sg_gr s))))
/-! lamps to come -/
def sp_hope (s : spSg) (t c : Nat) : Bool := !(gr_k (sg_gr s) c == 1) && !sp_watched (sg_gr s) (sg_la s) (sg_fo s) (sg_gu s) c t && sp_any (fun k => sp_sees (sg_gr s) ((sg_gu s).2 k) c t true (sp_fog (sg_fo s) t)) (sg_gu s).1
def sp_gain (s : spSg) (t r c : Nat) : Nat := sp_cnt (fun k => sp_hope s t k && sp_lights (sg_gr s) (c, r, true) k) (gr_n (sg_gr s))
def sp_lamps (s : spSg) (t r : Nat) : Nat → Option Nat × Option Nat
  | 0 => (none, none)
  | c + 1 => if gr_k (sg_gr s) c = 1 then sp_lamps s t r c else match (sp_lamps s t r c).2 with
    | none => (some c, some (sp_gain s t r c))
    | some b => if b < sp_gain s t r c then (some c, some (sp_gain s t r c)) else sp_lamps s t r c
def op_nextLamp (s : spSg) (t r : Int32) (b : Bool) : Nat × Int32 := if nw_rg 0 239 t = false then (1, 0) else if nw_rg 1 4 r = false then (1, 0) else (0, oI (if b then (sp_lamps s (nw_nn t) (nw_nn r) (gr_n (sg_gr s))).1 else (sp_lamps s (nw_nn t) (nw_nn r) (gr_n (sg_gr s))).2))
/-! taken cells, how many there are -/
def sp_taken (s : spSg) (c : Nat) : Bool := sp_any (fun k => ((sg_la s).2 k).1 == c) (sg_la s).1 || sp_any (fun k => (sg_po s).2 k == c) (sg_po s).1 || sp_any (fun k => sp_any (fun j => gd_c ((sg_gu s).2 k) j == c) (gd_m ((sg_gu s).2 k))) (sg_gu s).1 || sp_any (fun k => sp_walks ((sg_in s).2 k) c) (sg_in s).1
def sp_sound (s : spSg) : Bool := !sp_any (fun c => gr_k (sg_gr s) c == 1 && sp_taken s c) (gr_n (sg_gr s))
def sp_lit (la : spLa) : Nat := sp_cnt (fun k => (la.2 k).2.2) la.1
def sp_found2 (s : spSg) : Nat := sp_cnt (fun k => (sp_foundS s ((sg_in s).2 k)).isSome) (sg_in s).1
def sp_keysIn (ke : Nat → Option Nat) : Nat := sp_cnt (fun k => (ke k).isSome) 6
def sp_manyNow (s : spSg) (q : Nat) : Nat := if q = 0 then gr_n (sg_gr s) else if q = 1 then (sg_la s).1 else if q = 2 then sp_lit (sg_la s) else if q = 3 then (sg_gu s).1 else if q = 4 then (sg_po s).1 else if q = 5 then (sg_in s).1 else if q = 6 then sp_found2 s else if q = 7 then (sg_wi s).1 else if q = 8 then sp_keysIn (sg_ke s) else if q = 9 then wo_m (sg_wo s) else if q = 10 then sg_ri s else if q = 11 then sp_emptyMinutes (sg_gu s) (sg_po s) else sg_rf s
def op_many (s : spSg) (q : Int32) : Nat × Int32 := if nw_rg 0 12 q = false then (1, 0) else (0, nI (sp_manyNow s (nw_nn q)))
