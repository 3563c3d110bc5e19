/-! ===== what is computed, second part ===== -/
theorem sp_fst_at {p : Nat → Bool} : ∀ {m a i : Nat}, (∀ k, a ≤ k → k < i → p k = false) → a ≤ i → i < a + m → p i = true → sp_fst p a m = some i := by
  intro m
  induction m with
  | zero => intro a i _ h1 h2 _; omega
  | succ m ih =>
    intro a i h h1 h2 hp
    unfold sp_fst
    by_cases e : p a = true
    · rw [if_pos e]
      rcases Nat.eq_or_lt_of_le h1 with h3 | h3
      · rw [h3]
      · rw [h a (Nat.le_refl _) h3] at e; cases e
    · rw [if_neg e]
      have h3 : a ≠ i := fun z => e (by rw [z]; exact hp)
      exact ih (fun k hk1 hk2 => h k (by omega) hk2) (by omega) (by omega) hp
theorem sp_fst_no {p : Nat → Bool} : ∀ {m a : Nat}, (∀ k, a ≤ k → k < a + m → p k = false) → sp_fst p a m = none := by
  intro m
  induction m with
  | zero => intro a _; rfl
  | succ m ih =>
    intro a h
    unfold sp_fst
    rw [h a (Nat.le_refl _) (by omega)]
    exact ih (fun k hk1 hk2 => h k (by omega) (by omega))
theorem sp_fst_none {p : Nat → Bool} : ∀ {m a : Nat}, sp_fst p a m = none → ∀ k, a ≤ k → k < a + m → p k = false := by
  intro m
  induction m with
  | zero => intro a _ k h1 h2; omega
  | succ m ih =>
    intro a h k h1 h2
    unfold sp_fst at h
    split at h
    · cases h
    · rename_i hp
      rcases Nat.eq_or_lt_of_le h1 with h3 | h3
      · rw [← h3]; simpa using hp
      · exact ih h k h3 (by omega)
theorem sp_fst_succ {p : Nat → Bool} (a m : Nat) : sp_fst p a (m + 1) = match sp_fst p a m with
    | none => if p (a + m) then some (a + m) else none
    | some v => some v := by
  split
  · rename_i h
    have h1 := sp_fst_none h
    by_cases e : p (a + m) = true
    · rw [if_pos e]
      exact sp_fst_at h1 (by omega) (by omega) e
    · rw [if_neg e]
      refine sp_fst_no (fun k h2 h3 => ?_)
      rcases Nat.lt_or_ge k (a + m) with h4 | h4
      · exact h1 k h2 h4
      · rw [show k = a + m by omega]; simpa using e
  · rename_i v h
    obtain ⟨h1, h2, h3⟩ := sp_fst_some h
    have h4 : ∀ k, a ≤ k → k < v → p k = false := by
      intro k h5 h6
      cases hp : p k with
      | false => rfl
      | true =>
        exfalso
        have h7 := sp_fst_at (p := p) (m := m) (a := a) (i := v) 
        -- the least one is unique
        have h8 : ∀ {m a : Nat}, sp_fst p a m = some v → a ≤ k → k < v → p k = true → False := by
          intro m
          induction m with
          | zero => intro a h _ _ _; cases h
          | succ m ih =>
            intro a h g1 g2 g3
            unfold sp_fst at h
            split at h
            · cases h; omega
            · rename_i hn
              rcases Nat.eq_or_lt_of_le g1 with g4 | g4
              · rw [g4, g3] at hn; exact hn rfl
              · exact ih h g4 g2 g3
        exact h8 h h5 h6 hp
    exact sp_fst_at h4 h1 (by omega) h3
def sp_empty (gu : spGu) (c t : Nat) : Bool := !sp_any (sp_onc gu c t) gu.1
def sp_blind (s : spSg) (t : Nat) : Nat := sp_cnt (fun c => !(gr_k (sg_gr s) c == 1) && !sp_watched (sg_gr s) (sg_la s) (sg_fo s) (sg_gu s) c t) (gr_n (sg_gr s))
def sp_duty (gu : spGu) (t : Nat) (ti : Bool) : Nat := sp_cnt (fun k => if ti then sp_tired (gu.2 k) t else sp_on (gu.2 k) t) gu.1
def sp_emptyPosts (gu : spGu) (po : spPo) (t : Nat) : Nat := sp_cnt (fun k => sp_empty gu (po.2 k) t) po.1
def sp_keyAway (gu : spGu) (ke : Nat → Option Nat) (t k : Nat) : Bool := match ke k with
  | none => false
  | some g => !sp_on (gu.2 g) t
def sp_keysAway (gu : spGu) (ke : Nat → Option Nat) (t : Nat) : Nat := sp_cnt (sp_keyAway gu ke t) 6
def sp_minuteNow (s : spSg) (t w : Nat) : Nat := if w = 0 then sp_fog (sg_fo s) t else if w = 1 then sp_blind s t else if w = 2 then sp_duty (sg_gu s) t false else if w = 3 then sp_duty (sg_gu s) t true else if w = 4 then sp_emptyPosts (sg_gu s) (sg_po s) t else if w = 5 then sp_brights (sg_gr s) (sg_la s) else sp_keysAway (sg_gu s) (sg_ke s) t
def sp_cellNow (s : spSg) (c t w : Nat) : Int32 := if w = 0 then nI (gr_k (sg_gr s) c) else if w = 1 then b2i (sp_bright (sg_gr s) (sg_la s) c) else if w = 2 then sp_watchers (sg_gr s) (sg_la s) (sg_fo s) (sg_gu s) c t else if w = 3 then sp_guardsOn (sg_gu s) c t else b2i (sp_walk (sg_gr s) (sg_ga s) c t)
def sp_emptyNow (gu : spGu) (c : Nat) (b : Bool) : Int32 := if b then oI (sp_fst (fun t => sp_empty gu c t) 0 240) else nI (sp_cnt (fun t => sp_empty gu c t) 240)
def sp_keysOf (ke : Nat → Option Nat) (o : Option Nat) : Int32 := sp_bits (fun k => ke k == o) 6
def sp_guardNow (s : spSg) (g w : Nat) : Int32 :=
  let u := (sg_gu s).2 g
  if w = 0 then nI (gd_a u) else if w = 1 then nI (gd_b u) else if w = 2 then nI (gd_s u) else if w = 3 then nI (gd_m u) else if w = 4 then nI (gd_k u) else if w = 5 then b2i (decide (gd_k u = 3)) else if w = 6 then sp_keysOf (sg_ke s) (some g) else if w = 7 then gd_h u else nI (gd_b u - gd_a u - 89)
def sp_there (is : spIs) (c t : Nat) : Nat := sp_cnt (fun k => sp_where (is.2 k) t == some c) is.1
def sp_noise (c t th : Nat) : Nat := (29 * t + 7 * c) % 11 + 5 * th
def sp_ring (is : spIs) (w : Nat × Nat) (t : Nat) : Bool := decide (w.2 ≤ sp_noise w.1 t (sp_there is w.1 t))
def sp_wireNow (is : spIs) (w : Nat × Nat) (q : Nat) : Int32 := if q = 0 then nI w.1 else if q = 1 then nI w.2 else if q = 2 then nI (sp_cnt (sp_ring is w) 240) else if q = 3 then nI (sp_cnt (fun t => sp_ring is w t && decide (sp_there is w.1 t = 0)) 240) else oI (sp_fst (fun t => sp_ring is w t && decide (0 < sp_there is w.1 t)) 0 240)
def sp_hidden (s : spSg) (c t : Nat) : Bool := sp_walk (sg_gr s) (sg_ga s) c t && !sp_watched (sg_gr s) (sg_la s) (sg_fo s) (sg_gu s) c t
def sp_foundS (s : spSg) (i : spI1) : Option Nat := sp_found (sg_gr s) (sg_la s) (sg_fo s) (sg_gu s) i
theorem ga_lt {ga : Option (Nat × Nat)} (h : okGa ga) : ga_f ga < 240 ∧ ga_t ga < 240 := by
  unfold ga_f ga_t
  cases ga with
  | none => simp
  | some p => obtain ⟨a, b⟩ := p; exact h a b rfl
theorem sp_any_emp {gu : spGu} {c t : Nat} : sp_empty gu c t = false ↔ sp_any (sp_onc gu c t) gu.1 = true := by unfold sp_empty; simp
theorem sp_emp0 {gu : spGu} (h : gu.1 ≤ 6) {c t : Nat} (h2 : sp_guardsOn gu c t = 0) : sp_empty gu c t = true := by
  unfold sp_empty
  rw [(sp_bits_0 (sp_onc gu c t) gu.1 h).mp h2]
  rfl
theorem sp_emp1 {gu : spGu} (h : gu.1 ≤ 6) {c t : Nat} (h2 : ¬ sp_guardsOn gu c t = 0) : sp_empty gu c t = false := by
  rw [sp_any_emp]
  cases e : sp_any (sp_onc gu c t) gu.1 with
  | true => rfl
  | false => exact absurd ((sp_bits_0 (sp_onc gu c t) gu.1 h).mpr e) h2
section NWO2
variable {d : nwD} {X : nwX} {A : Nat → Prop} {Q : State → Prop} {nL : Nat} {H H0 : Heap} {k n pc : Nat} {lv : List (Nat × Value)} {rest : List Value} {own mn : String} {cc : ByteArray} {ret : Option FieldType} {rm : Room} {tb : List ExceptionTableEntry}
theorem nw_icmpneO (C : nwC d X A H0 own mn cc nL ret rm tb) (a b : Option Nat) (ha : ∀ v, a = some v → v < 2 ^ 31) (hb : ∀ v, b = some v → v < 2 ^ 31) {off : Int} (t : Nat) (dd : decode cc pc = .ok (.if_icmp .ne off, 3)) (ht : (pc : Int) + off = (t : Int)) (q : Nat) (hq : pc + 3 = q) (Kt : ¬ a = b → nwV X A Q nL H k n t lv rest) (Kf : a = b → nwV X A Q nL H k n q lv rest) : nwV X A Q nL H k n pc lv (.int (oI b) :: .int (oI a) :: rest) :=
  nw_icmpne C t dd ht q hq (fun h => Kt (fun e => h (congrArg oI e))) (fun h => Kf ((oI_eq ha hb).mp h))
theorem nw_icmpeqO (C : nwC d X A H0 own mn cc nL ret rm tb) (a b : Option Nat) (ha : ∀ v, a = some v → v < 2 ^ 31) (hb : ∀ v, b = some v → v < 2 ^ 31) {off : Int} (t : Nat) (dd : decode cc pc = .ok (.if_icmp .eq off, 3)) (ht : (pc : Int) + off = (t : Int)) (q : Nat) (hq : pc + 3 = q) (Kt : a = b → nwV X A Q nL H k n t lv rest) (Kf : ¬ a = b → nwV X A Q nL H k n q lv rest) : nwV X A Q nL H k n pc lv (.int (oI b) :: .int (oI a) :: rest) :=
  nw_icmpeq C t dd ht q hq (fun h => Kt ((oI_eq ha hb).mp h)) (fun h => Kf (fun e => h (congrArg oI e)))
end NWO2
