/-! ===== the rest of the state, and its bounds ===== -/
abbrev spPo : Type := Nat × (Nat → Nat)
/-- an intruder: his first minute, his way (how many cells, which), how many moves, steps forced, the last one -/
abbrev spI1 : Type := Nat × (Nat × (Nat → Nat)) × Nat × Nat × Option Nat
abbrev in_a (i : spI1) : Nat := i.1
abbrev in_m (i : spI1) : Nat := i.2.1.1
abbrev in_w (i : spI1) : Nat → Nat := i.2.1.2
abbrev in_v (i : spI1) : Nat := i.2.2.1
abbrev in_s (i : spI1) : Nat := i.2.2.2.1
abbrev in_l (i : spI1) : Option Nat := i.2.2.2.2
abbrev spIs : Type := Nat × (Nat → spI1)
abbrev spWs : Type := Nat × (Nat → Nat × Nat)
/-- words: seed, the row's last number, now; the old ones -/
abbrev spWo : Type := (Nat × Nat × (Nat → Nat)) × (Nat × (Nat → Nat))
abbrev wo_s (w : spWo) : Nat := w.1.1
abbrev wo_x (w : spWo) : Nat := w.1.2.1
abbrev wo_n (w : spWo) : Nat → Nat := w.1.2.2
abbrev wo_m (w : spWo) : Nat := w.2.1
abbrev wo_o (w : spWo) : Nat → Nat := w.2.2
abbrev spSg : Type := spGr × spLa × spFo × spGu × spPo × spIs × spWs × spWo × (Nat → Option Nat) × Option (Nat × Nat) × Nat × Nat
abbrev sg_gr (s : spSg) : spGr := s.1
abbrev sg_la (s : spSg) : spLa := s.2.1
abbrev sg_fo (s : spSg) : spFo := s.2.2.1
abbrev sg_gu (s : spSg) : spGu := s.2.2.2.1
abbrev sg_po (s : spSg) : spPo := s.2.2.2.2.1
abbrev sg_in (s : spSg) : spIs := s.2.2.2.2.2.1
abbrev sg_wi (s : spSg) : spWs := s.2.2.2.2.2.2.1
abbrev sg_wo (s : spSg) : spWo := s.2.2.2.2.2.2.2.1
abbrev sg_ke (s : spSg) : Nat → Option Nat := s.2.2.2.2.2.2.2.2.1
abbrev sg_ga (s : spSg) : Option (Nat × Nat) := s.2.2.2.2.2.2.2.2.2.1
abbrev sg_ri (s : spSg) : Nat := s.2.2.2.2.2.2.2.2.2.2.1
abbrev sg_rf (s : spSg) : Nat := s.2.2.2.2.2.2.2.2.2.2.2
def okGr (g : spGr) : Prop := g.1 = 0 ∧ g.2.1 = 0 ∨ spGrOk g
def okLa (g : spGr) (la : spLa) : Prop := la.1 ≤ 6 ∧ ∀ k, k < la.1 → (la.2 k).1 < gr_n g ∧ (la.2 k).2.1 ≤ 4
def okFo (fo : spFo) : Prop := fo.1 ≤ 8 ∧ ∀ k, k < fo.1 → (fo.2 k).1 < 240 ∧ (fo.2 k).2 ≤ 5
def okGd (g : spGr) (u : spGd) : Prop := (gd_a u ≤ gd_b u ∧ gd_b u < 240 ∧ 1 ≤ gd_s u ∧ gd_s u ≤ 20 ∧ 1 ≤ gd_m u ∧ gd_m u ≤ 6 ∧ gd_k u ≤ 3) ∧ ∀ j, j < gd_m u → gd_c u j < gr_n g
def okGu (g : spGr) (gu : spGu) : Prop := gu.1 ≤ 6 ∧ ∀ k, k < gu.1 → okGd g (gu.2 k)
def okPo (g : spGr) (po : spPo) : Prop := po.1 ≤ 4 ∧ ∀ k, k < po.1 → po.2 k < gr_n g
def okI1 (g : spGr) (i : spI1) : Prop := (in_a i < 240 ∧ 1 ≤ in_m i ∧ in_m i ≤ 15 ∧ in_v i ≤ 14 ∧ in_s i ≤ 4 ∧ ∀ v, in_l i = some v → v < 240) ∧ ∀ j, j < in_m i → in_w i j < gr_n g
def okIn (g : spGr) (is : spIs) : Prop := is.1 ≤ 4 ∧ ∀ k, k < is.1 → okI1 g (is.2 k)
def okWi (g : spGr) (wi : spWs) : Prop := wi.1 ≤ 5 ∧ ∀ k, k < wi.1 → (wi.2 k).1 < gr_n g ∧ (wi.2 k).2 ≤ 12
def okWo (w : spWo) : Prop := (wo_s w < 100 ∧ wo_x w < 97 ∧ wo_m w ≤ 8) ∧ (∀ h, h < 4 → wo_n w h < 97) ∧ ∀ k, k < wo_m w → wo_o w k < 97
def okKe (gu : spGu) (ke : Nat → Option Nat) : Prop := ∀ k, k < 6 → ∀ g, ke k = some g → g < gu.1
def okGa (ga : Option (Nat × Nat)) : Prop := ∀ a b, ga = some (a, b) → a < 240 ∧ b < 240
def spOk (s : spSg) : Prop := okGr (sg_gr s) ∧ okLa (sg_gr s) (sg_la s) ∧ okFo (sg_fo s) ∧ okGu (sg_gr s) (sg_gu s) ∧ okPo (sg_gr s) (sg_po s) ∧ okIn (sg_gr s) (sg_in s) ∧ okWi (sg_gr s) (sg_wi s) ∧ okWo (sg_wo s) ∧ okKe (sg_gu s) (sg_ke s) ∧ okGa (sg_ga s)
theorem okGr.n {g : spGr} (h : okGr g) : gr_n g ≤ 64 := by
  rcases h with ⟨h, -⟩ | h
  · show g.1 * g.2.1 ≤ 64
    rw [h]; omega
  · exact h.n
theorem okGr.here {g : spGr} (h : okGr g) {c : Nat} (hc : c < gr_n g) : spGrOk g := by
  rcases h with ⟨h, -⟩ | h
  · have h2 : c < g.1 * g.2.1 := hc
    rw [h] at h2; omega
  · exact h
/-! what is computed of it -/
def sp_gate (ga : Option (Nat × Nat)) (t : Nat) : Bool := match ga with
  | none => false
  | some (a, b) => decide (a ≤ t) && decide (t ≤ b)
def ga_f (ga : Option (Nat × Nat)) : Nat := match ga with | none => 1 | some (a, _) => a
def ga_t (ga : Option (Nat × Nat)) : Nat := match ga with | none => 0 | some (_, b) => b
theorem ga_is (ga : Option (Nat × Nat)) (t : Nat) : (decide (ga_f ga ≤ t) && decide (t ≤ ga_t ga)) = sp_gate ga t := by
  unfold ga_f ga_t sp_gate
  split
  · cases t <;> simp
  · rfl
def sp_walk (g : spGr) (ga : Option (Nat × Nat)) (c t : Nat) : Bool := !(gr_k g c == 1) && (!(gr_k g c == 3) || sp_gate ga t)
def sp_onc (gu : spGu) (c t k : Nat) : Bool := sp_place (gu.2 k) t == some c
def sp_guardsOn (gu : spGu) (c t : Nat) : Int32 := sp_bits (sp_onc gu c t) gu.1
/-- an intruder's cell at t -/
def sp_where (i : spI1) (t : Nat) : Option Nat := if t < in_a i then none else some (in_w i (min (t - in_a i) (in_m i - 1)))
def sp_at (i : spI1) (t : Nat) : Nat := in_w i (min (t - in_a i) (in_m i - 1))
def sp_found (gr : spGr) (la : spLa) (fo : spFo) (gu : spGu) (i : spI1) : Option Nat := sp_fst (fun t => sp_watched gr la fo gu (sp_at i t) t) (in_a i) (240 - in_a i)
theorem sp_fog_le {fo : spFo} (h : okFo fo) (t : Nat) : sp_fog fo t ≤ 5 := by
  unfold sp_fog
  split
  · omega
  · rename_i b hb; exact (h.2 b (sp_fogI_lt hb)).2
theorem okGd.cell {g : spGr} {u : spGd} (h : okGd g u) {t c : Nat} (hp : sp_place u t = some c) : c < gr_n g := by
  unfold sp_place at hp
  split at hp
  · cases hp
    exact h.2 _ (Nat.mod_lt _ h.1.2.2.2.2.1)
  · cases hp
