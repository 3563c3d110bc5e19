/-! ===== what the public methods that change the state do: (which throw or 0, the number, the state behind it) ===== -/
def sp_after (r : Nat) : Nat := (23 * r + 15) % 97
theorem sp_after_lt (r : Nat) : sp_after r < 97 := Nat.mod_lt _ (by decide)
/-- the row's numbers from r on -/
def sp_row (r : Nat) : Nat → Nat
  | 0 => r
  | k + 1 => sp_after (sp_row r k)
theorem sp_row_lt (r k : Nat) : sp_row r (k + 1) < 97 := sp_after_lt _
abbrev spOp : Type := Nat × Int32 × spSg
def st_gr (s : spSg) (g : spGr) : spSg := (g, s.2)
def st_la (s : spSg) (l : spLa) : spSg := (s.1, l, s.2.2)
def st_fo (s : spSg) (l : spFo) : spSg := (s.1, s.2.1, l, s.2.2.2)
def st_gu (s : spSg) (l : spGu) : spSg := (s.1, s.2.1, s.2.2.1, l, s.2.2.2.2)
def st_po (s : spSg) (l : spPo) : spSg := (s.1, s.2.1, s.2.2.1, s.2.2.2.1, l, s.2.2.2.2.2)
def st_in (s : spSg) (l : spIs) : spSg := (s.1, s.2.1, s.2.2.1, s.2.2.2.1, s.2.2.2.2.1, l, s.2.2.2.2.2.2)
def st_wi (s : spSg) (l : spWs) : spSg := (s.1, s.2.1, s.2.2.1, s.2.2.2.1, s.2.2.2.2.1, s.2.2.2.2.2.1, l, s.2.2.2.2.2.2.2)
def st_wo (s : spSg) (l : spWo) : spSg := (s.1, s.2.1, s.2.2.1, s.2.2.2.1, s.2.2.2.2.1, s.2.2.2.2.2.1, s.2.2.2.2.2.2.1, l, s.2.2.2.2.2.2.2.2)
def st_ke (s : spSg) (l : Nat → Option Nat) : spSg := (s.1, s.2.1, s.2.2.1, s.2.2.2.1, s.2.2.2.2.1, s.2.2.2.2.2.1, s.2.2.2.2.2.2.1, s.2.2.2.2.2.2.2.1, l, s.2.2.2.2.2.2.2.2.2)
def st_ga (s : spSg) (l : Option (Nat × Nat)) : spSg := (s.1, s.2.1, s.2.2.1, s.2.2.2.1, s.2.2.2.2.1, s.2.2.2.2.2.1, s.2.2.2.2.2.2.1, s.2.2.2.2.2.2.2.1, s.2.2.2.2.2.2.2.2.1, l, s.2.2.2.2.2.2.2.2.2.2)
def st_ri (s : spSg) (n : Nat) : spSg := (s.1, s.2.1, s.2.2.1, s.2.2.2.1, s.2.2.2.2.1, s.2.2.2.2.2.1, s.2.2.2.2.2.2.1, s.2.2.2.2.2.2.2.1, s.2.2.2.2.2.2.2.2.1, s.2.2.2.2.2.2.2.2.2.1, n, s.2.2.2.2.2.2.2.2.2.2.2)
def st_rf (s : spSg) (n : Nat) : spSg := (s.1, s.2.1, s.2.2.1, s.2.2.2.1, s.2.2.2.2.1, s.2.2.2.2.2.1, s.2.2.2.2.2.2.1, s.2.2.2.2.2.2.2.1, s.2.2.2.2.2.2.2.2.1, s.2.2.2.2.2.2.2.2.2.1, s.2.2.2.2.2.2.2.2.2.2.1, n)
/-- f with v at n -/
def sp_up {α : Type} (f : Nat → α) (n : Nat) (v : α) : Nat → α := fun k => if k = n then v else f k
theorem sp_up_at {α : Type} (f : Nat → α) (n : Nat) (v : α) : sp_up f n v n = v := if_pos rfl
theorem sp_up_ne {α : Type} (f : Nat → α) {n k : Nat} (v : α) (h : k ≠ n) : sp_up f n v k = f k := if_neg h
/-- the words from a seed on; nothing leaked -/
def sp_words (s : Nat) (o : Nat → Nat) : spWo := ((s, sp_row s 4, fun h => sp_row s (h + 1)), (0, o))
def sp_kind (seed r : Nat) : Nat := if seed = 100 then 0 else if r < 2 then 1 else if r = 2 then 2 else if r = 3 then 3 else 0
def sp_laid (w h seed : Nat) : spGr := (w, h, fun c => sp_kind seed (sp_row seed (c + 1) % 10))
/-- all things of the old base are gone -/
def st_clear (s : spSg) : spSg := (s.1, (0, (sg_la s).2), (0, (sg_fo s).2), (0, (sg_gu s).2), (0, (sg_po s).2), (0, (sg_in s).2), (0, (sg_wi s).2), sg_wo s, (fun _ => none), none, 0, sg_rf s)
def st_base (s : spSg) (w h seed : Nat) : spSg := st_gr (st_wo (st_clear s) (sp_words (wo_s (sg_wo s)) (wo_o (sg_wo s)))) (sp_laid w h seed)
def op_base (s : spSg) (w h sd : Int32) : spOp := if nw_rg 3 8 w = false then (1, 0, s) else if nw_rg 3 8 h = false then (1, 0, s) else if nw_rg 0 100 sd = false then (1, 0, s) else (0, nI (sp_cnt (fun c => !(gr_k (sp_laid (nw_nn w) (nw_nn h) (nw_nn sd)) c == 1)) (nw_nn w * nw_nn h)), st_base s (nw_nn w) (nw_nn h) (nw_nn sd))
def op_lay (s : spSg) (c k : Int32) : spOp := if nw_ix c (gr_n (sg_gr s)) = false then (1, 0, s) else if nw_rg 0 3 k = false then (2, 0, s) else if (nw_nn k == 1 && sp_taken s (nw_nn c)) = true then (3, 0, s) else (0, nI (gr_k (sg_gr s) (nw_nn c)), st_gr s (gr_w (sg_gr s), gr_h (sg_gr s), sp_up (gr_k (sg_gr s)) (nw_nn c) (nw_nn k)))
def op_gates (s : spSg) (a b : Int32) : spOp := if nw_rg 0 239 a = false then (1, 0, s) else if nw_rg 0 239 b = false then (1, 0, s) else (0, nI (sp_cnt (fun c => gr_k (sg_gr s) c == 3) (gr_n (sg_gr s))), st_ga s (some (nw_nn a, nw_nn b)))
def sp_wall (s : spSg) (c : Nat) : Bool := gr_k (sg_gr s) c == 1
def op_lamp (s : spSg) (c r : Int32) : spOp := if nw_ix c (gr_n (sg_gr s)) = false then (1, 0, s) else if nw_rg 1 4 r = false then (2, 0, s) else if (decide (6 ≤ (sg_la s).1) || sp_wall s (nw_nn c)) = true then (3, 0, s) else (0, nI (sg_la s).1, st_la s ((sg_la s).1 + 1, sp_up (sg_la s).2 (sg_la s).1 (nw_nn c, nw_nn r, true)))
def st_light (s : spSg) (l : Nat) (b : Bool) : spSg := st_la s ((sg_la s).1, sp_up (sg_la s).2 l (((sg_la s).2 l).1, ((sg_la s).2 l).2.1, b))
def op_light (s : spSg) (l : Int32) (b : Bool) : spOp := if nw_ix l (sg_la s).1 = false then (1, 0, s) else (0, nI (sp_brights (sg_gr s) (sg_la (st_light s (nw_nn l) b))), st_light s (nw_nn l) b)
def op_fog (s : spSg) (t f : Int32) : spOp := if nw_rg 0 239 t = false then (1, 0, s) else if nw_rg 0 5 f = false then (1, 0, s) else if decide (8 ≤ (sg_fo s).1) = true then (2, 0, s) else (0, nI ((sg_fo s).1 + 1), st_fo s ((sg_fo s).1 + 1, sp_up (sg_fo s).2 (sg_fo s).1 (nw_nn t, nw_nn f)))
def sp_gd (c a b s : Nat) : spGd := ((a, b, s), (1, fun _ => c), 0, nI 0)
def op_guard (s : spSg) (c a b st : Int32) : spOp := if nw_ix c (gr_n (sg_gr s)) = false then (1, 0, s) else if nw_rg 0 239 a = false then (2, 0, s) else if nw_rg 0 239 b = false then (2, 0, s) else if b < a then (2, 0, s) else if nw_rg 1 20 st = false then (2, 0, s) else if (decide (6 ≤ (sg_gu s).1) || sp_wall s (nw_nn c)) = true then (3, 0, s) else (0, nI (sg_gu s).1, st_gu s ((sg_gu s).1 + 1, sp_up (sg_gu s).2 (sg_gu s).1 (sp_gd (nw_nn c) (nw_nn a) (nw_nn b) (nw_nn st))))
def gd_add (g : spGd) (c : Nat) : spGd := (g.1, (gd_m g + 1, sp_up (gd_c g) (gd_m g) c), g.2.2)
def op_round (s : spSg) (g c : Int32) : spOp := if nw_ix g (sg_gu s).1 = false then (1, 0, s) else if nw_ix c (gr_n (sg_gr s)) = false then (1, 0, s) else if (decide (6 ≤ gd_m ((sg_gu s).2 (nw_nn g))) || sp_wall s (nw_nn c)) = true then (2, 0, s) else (0, nI (gd_m ((sg_gu s).2 (nw_nn g)) + 1), st_gu s ((sg_gu s).1, sp_up (sg_gu s).2 (nw_nn g) (gd_add ((sg_gu s).2 (nw_nn g)) (nw_nn c))))
def op_post (s : spSg) (c : Int32) : spOp := if nw_ix c (gr_n (sg_gr s)) = false then (1, 0, s) else if (decide (4 ≤ (sg_po s).1) || sp_wall s (nw_nn c)) = true then (2, 0, s) else (0, nI (sg_po s).1, st_po s ((sg_po s).1 + 1, sp_up (sg_po s).2 (sg_po s).1 (nw_nn c)))
def gd_fresh (g : spGd) : spGd := (g.1, g.2.1, 0, nI 0)
def sp_fresh (f : Nat → spGd) (j : Nat) : Nat → spGd := fun k => if k < j then gd_fresh (f k) else f k
theorem sp_fresh_up (f : Nat → spGd) (j : Nat) : sp_fresh f (j + 1) = sp_up (sp_fresh f j) j (gd_fresh (f j)) := by
  funext k
  unfold sp_fresh sp_up
  by_cases e : k = j
  · subst e; rw [if_pos (Nat.lt_succ_self _), if_pos rfl]
  · rw [if_neg e]
    show (if k < j + 1 then gd_fresh (f k) else f k) = if k < j then gd_fresh (f k) else f k
    by_cases h : k < j
    · rw [if_pos h, if_pos (by omega)]
    · rw [if_neg h, if_neg (by omega)]
def st_forget (s : spSg) : spSg := st_ri (st_gu s ((sg_gu s).1, sp_fresh (sg_gu s).2 (sg_gu s).1)) 0
def op_words (s : spSg) (sd : Int32) : spOp := if nw_rg 0 99 sd = false then (1, 0, s) else (0, nI (sp_row (nw_nn sd) 1), st_forget (st_wo s (sp_words (nw_nn sd) (wo_o (sg_wo s)))))
def wo_leak (w : spWo) (h : Nat) : spWo := ((wo_s w, sp_after (wo_x w), sp_up (wo_n w) h (sp_after (wo_x w))), (wo_m w + 1, sp_up (wo_o w) (wo_m w) (wo_n w h)))
def op_leak (s : spSg) (h : Int32) : spOp := if nw_rg 0 3 h = false then (1, 0, s) else if decide (wo_m (sg_wo s) = 8) = true then (2, 0, s) else (0, nI (sp_after (wo_x (sg_wo s))), st_wo s (wo_leak (sg_wo s) (nw_nn h)))
/-- the word w is one of an hour, or was one -/
def sp_known (w : spWo) (v : Int32) : Bool := sp_any (fun h => nI (wo_n w h) == v) 4 || sp_any (fun k => nI (wo_o w k) == v) (wo_m w)
/-- why a guard's answer is wrong; 0 if it isn't -/
def sp_judge (w : spWo) (g : spGd) (h : Nat) (v : Int32) : Nat := if nI (wo_n w h) = v then (if ((gd_h g >>> (nI h &&& 31)) &&& nI 1) = nI 1 then 1 else 0) else if sp_known w v then 2 else 3
def gd_strike (g : spGd) : spGd := (g.1, g.2.1, gd_k g + 1, gd_h g)
def gd_told (g : spGd) (h : Nat) : spGd := (g.1, g.2.1, gd_k g, gd_h g ||| (nI 1 <<< (nI h &&& 31)))
def wo_answer (w : spWo) (u : spGd) (h : Nat) (v : Int32) : Nat × spGd := if gd_k u = 3 then (4, u) else if sp_judge w u h v = 0 then (0, gd_told u h) else (sp_judge w u h v, gd_strike u)
def st_answer (s : spSg) (g : Nat) (r : Nat × spGd) : spSg := st_ri (st_gu s ((sg_gu s).1, sp_up (sg_gu s).2 g r.2)) (sg_ri s + if r.1 = 0 then 1 else 0)
def sp_told (s : spSg) (g t : Nat) (v : Int32) : Nat × spGd := wo_answer (sg_wo s) ((sg_gu s).2 g) (t / 60) v
def op_answer (s : spSg) (g t v : Int32) : spOp := if nw_ix g (sg_gu s).1 = false then (1, 0, s) else if nw_rg 0 239 t = false then (2, 0, s) else (0, nI (sp_told s (nw_nn g) (nw_nn t) v).1, st_answer s (nw_nn g) (sp_told s (nw_nn g) (nw_nn t) v))
def sp_oi (v : Int32) : Option Nat := if v = oI none then none else some (nw_nn v)
theorem sp_oi_oI {o : Option Nat} (h : ∀ v, o = some v → v < 2 ^ 31) : sp_oi (oI o) = o := by
  unfold sp_oi
  cases o with
  | none => rw [if_pos rfl]
  | some v =>
    show (if nI v = -1 then none else some (nw_nn (nI v))) = some v
    rw [if_neg (nI_m1 (h v rfl)), nw_nn_nI (h v rfl)]
def op_key (s : spSg) (k g : Int32) : spOp := if nw_ix k 6 = false then (1, 0, s) else if nw_ixO g (sg_gu s).1 = false then (1, 0, s) else (0, oI (sg_ke s (nw_nn k)), st_ke s (sp_up (sg_ke s) (nw_nn k) (sp_oi g)))
/-- how many digits of base 5 has a number; the k-th of them, from the first on -/
def sp_digs : Nat → Nat → Nat
  | 0, _ => 0
  | f + 1, n => if n = 0 then 0 else sp_digs f (n / 5) + 1
def sp_dig (n k : Nat) : Nat := n / 5 ^ k % 5
/-- the way: its cells (how many, which); none where it leads into a wall or out. k digits are left; 'm' the most cells that matter -/
def sp_way (g : spGr) (mv m : Nat) : Nat → Nat × (Nat → Nat) → Option (Nat × (Nat → Nat))
  | 0, w => some w
  | k + 1, w => if w.1 < m then (match sp_moved g (w.2 (w.1 - 1)) (sp_dig mv k) with
      | none => none
      | some c => if gr_k g c = 1 then none else sp_way g mv m k (w.1 + 1, sp_up w.2 w.1 c)) else some w
def sp_wayOf (g : spGr) (c t mv : Nat) : Option (Nat × (Nat → Nat)) := if gr_k g c = 1 then none else sp_way g mv (240 - t) (sp_digs 32 mv) (1, fun _ => c)
def op_intr (s : spSg) (c t mv : Int32) : spOp := if nw_ix c (gr_n (sg_gr s)) = false then (1, 0, s) else if nw_rg 0 239 t = false then (2, 0, s) else if mv < 0 then (2, 0, s) else if 4 ≤ (sg_in s).1 then (3, 0, s) else match sp_wayOf (sg_gr s) (nw_nn c) (nw_nn t) (nw_nn mv) with
  | none => (3, 0, s)
  | some w => (0, nI (sg_in s).1, st_in s ((sg_in s).1 + 1, sp_up (sg_in s).2 (sg_in s).1 (nw_nn t, w, sp_digs 32 (nw_nn mv), 0, none)))
def op_wire (s : spSg) (c b : Int32) : spOp := if nw_ix c (gr_n (sg_gr s)) = false then (1, 0, s) else if nw_rg 1 12 b = false then (2, 0, s) else if decide (5 ≤ (sg_wi s).1) = true then (3, 0, s) else (0, nI (sg_wi s).1, st_wi s ((sg_wi s).1 + 1, sp_up (sg_wi s).2 (sg_wi s).1 (nw_nn c, nw_nn b)))
def in_force (i : spI1) (t : Nat) : spI1 := (in_a i, i.2.1, in_v i, in_s i + 1, some t)
def sp_forced (s : spSg) (i : spI1) (k t : Nat) : Bool := decide (k = in_s i) && (match sp_foundS s i with
  | none => false
  | some f => decide (f ≤ t)) && (match in_l i with
  | none => true
  | some l => decide (l ≤ t))
def op_force (s : spSg) (i k t : Int32) : spOp := if nw_ix i (sg_in s).1 = false then (1, 0, s) else if nw_rg 0 3 k = false then (2, 0, s) else if nw_rg 0 239 t = false then (2, 0, s) else if sp_forced s ((sg_in s).2 (nw_nn i)) (nw_nn k) (nw_nn t) = false then (3, 0, s) else (0, nI (in_s ((sg_in s).2 (nw_nn i)) + 1), st_in s ((sg_in s).1, sp_up (sg_in s).2 (nw_nn i) (in_force ((sg_in s).2 (nw_nn i)) (nw_nn t))))
def op_knock (s : spSg) : spOp := (0, nI (sg_rf s + 1), st_rf s (sg_rf s + 1))
