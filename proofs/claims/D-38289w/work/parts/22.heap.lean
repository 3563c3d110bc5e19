/-! ===== HEAP ROWS over nwV ===== -/
section NWH
variable {d : nwD} {X : nwX} {A : Nat → Prop} {Q : State → Prop} {nL : Nat} {H H0 : Heap} {k n pc : Nat} {lv : List (Nat × Value)} {rest : List Value} {own mn : String} {cc : ByteArray} {ret : Option FieldType} {rm : Room} {tb : List ExceptionTableEntry}
theorem nw_get (C : nwC d X A H0 own mn cc nL ret rm tb) {a ci i : Nat} {fs : List Value} {ref Cn : String} {T : u_T} {N : Nat} {v : Value} (ho : nwO d a ci fs H) (hc : nwCl[ci]? = some (Cn, T, N)) (hin : ∀ w ∈ u_ws Cn T N, w ∈ lw_all) (kf : Nat) (hk : kf < N) (hlink : Cond.fieldLink own i ref (T kf).2.1 (T kf).2.2.1 ∈ lw_all) (hsame : ref = (T kf).1 ∨ Cond.sameField ref (T kf).1 (T kf).2.1 (T kf).2.2.1 ∈ lw_all) (hv : fs[kf]? = some v) (dd : decode cc pc = .ok (.getfield i, 3)) (q : Nat) (hq : pc + 3 = q) (K : nwV X A Q nL H k n q lv (v :: rest)) : nwV X A Q nL H k n pc lv (.ref a :: rest) := by
  subst hq
  intro ls locs hl hS
  refine va_get C.hx C.hb C.ht hin C.ho C.hK ho.P 0 rfl hc kf hk (C.ht _ hlink) ?_ hv dd (K ls locs hl hS)
  rcases hsame with h | h
  · subst h; exact fun x h => h
  · exact fun x hx => u_same (C.ht _ h) x hx
theorem nw_getN (C : nwC d X A H0 own mn cc nL ret rm tb) {a ci i : Nat} {fs : List Value} {ref Cn host : String} {T : u_T} {N : Nat} {v : Value} (ho : nwO d a ci fs H) (hc : nwCl[ci]? = some (Cn, T, N)) (hin : ∀ w ∈ u_ws Cn T N, w ∈ lw_all) (kf : Nat) (hk : kf < N) (hlink : Cond.fieldLinkNest own i ref (T kf).2.1 (T kf).2.2.1 host ∈ lw_tbl) (hsame : ref = (T kf).1) (hv : fs[kf]? = some v) (dd : decode cc pc = .ok (.getfield i, 3)) (q : Nat) (hq : pc + 3 = q) (K : nwV X A Q nL H k n q lv (v :: rest)) : nwV X A Q nL H k n pc lv (.ref a :: rest) := by
  subst hq
  intro ls locs hl hS
  exact va_getN C.hx C.hb C.ht hin C.ho C.hK ho.P 0 rfl hc kf hk (va_Nw.use rfl (C.hw (nw_tw hlink rfl))) (by subst hsame; exact fun x h => h) hv dd (K ls locs hl hS)
/-- a field of a constant object -/
theorem nw_getF (C : nwC d X A H0 own mn cc nL ret rm tb) {a i : Nat} {o nm ds : String} {v : Value} (hF : va_OF o nm ds v a (fun q => nd_B d ≤ q) (nx_s X) H) (hlink : Cond.fieldLink own i o nm ds ∈ lw_all) (dd : decode cc pc = .ok (.getfield i, 3)) (q : Nat) (hq : pc + 3 = q) (K : nwV X A Q nL H k n q lv (v :: rest)) : nwV X A Q nL H k n pc lv (.ref a :: rest) := by
  subst hq
  intro ls locs hl hS
  obtain ⟨cf, kc, fi, f, cell, h1, h2, h3, h4, h5, -⟩ := hF
  exact W.getf C.hx C.hb C.ho (C.ht _ hlink) h1 h2 h3 h4 h5 rfl rfl dd (K ls locs hl hS)
theorem nw_put (C : nwC d X A H0 own mn cc nL ret rm tb) {a ci i : Nat} {fs : List Value} {ref Cn : String} {T : u_T} {N : Nat} {v : Value} {ty0 : Nat → FieldType} (ho : nwO d a ci fs H) (hAa : A a) (hc : nwCl[ci]? = some (Cn, T, N)) (hin : ∀ w ∈ u_ws Cn T N, w ∈ lw_all) (hty : ∀ k, k < N → parseFieldDescriptor (T k).2.2.1 = some (ty0 k)) (hnm : ∀ a, a < N → ∀ b, b < N → a ≠ b → (T a).2.1 ≠ (T b).2.1) (kf : Nat) (hk : kf < N) (hlink : Cond.fieldLink own i ref (T kf).2.1 (T kf).2.2.1 ∈ lw_all) (hsame : ref = (T kf).1 ∨ Cond.sameField ref (T kf).1 (T kf).2.1 (T kf).2.2.1 ∈ lw_all) (hfin : (T kf).2.2.2 = false) (hn : narrow (ty0 kf) v = v) (hfit : fits (ty0 kf) v = true) (hlen : kf < fs.length) (dd : decode cc pc = .ok (.putfield i, 3)) (q : Nat) (hq : pc + 3 = q)
    (K : ∀ H1 : Heap, nwO d a ci (fs.set kf v) H1 → H1.size = H.size → (∀ q, q ≠ a → H1[q]? = H[q]?) → nwV X A Q nL H1 k n q lv rest) : nwV X A Q nL H k n pc lv (v :: .ref a :: rest) := by
  subst hq
  intro ls locs hl hS0
  have hap := va_apart (own := own) C.ht hin ty0 hty hnm C.hK hc
  obtain ⟨r, h1, cell, q1, q2, q3, q4⟩ := ho
  have hr : r = (Cn, T, N) := Option.some.inj (h1.symm.trans hc)
  subst hr
  obtain ⟨hS, hfc, kC, hkC, hkind⟩ := C.hK.1 ci _ hc
  obtain ⟨cf, kfc, fi, f, hi, hsl⟩ := hS kf hk
  have hlay := C.ht _ (hin _ (u_in_lay hk))
  unfold u_lay at hlay
  rw [if_neg (by rw [hfin]; decide)] at hlay
  have hst := (u_facts hfc hkC (u_lays C.ht hin hk) hi).1
  have h6 := u_store hfc hkC hkind hlay hi (hty kf hk) hn hfit
  have hi2 : (nx_s X).fieldFound? ref (T kf).2.1 (T kf).2.2.1 = some (cf, kfc, fi, f) := by
    rcases hsame with h | h
    · subst h; exact hi
    · exact u_same (C.ht _ h) _ hi
  refine W.putK C.hx C.hb (f := f) ⟨C.ho, C.ht _ hlink, ⟨_, _, _, hi2⟩, hst⟩ (by rw [q2]; exact h6) q1 q3 (by rw [hsl]; exact k2_hasslot (q4 kf hk)) rfl rfl dd fun H' e1 e2 e3 => ?_
  rw [hsl] at e1 ⊢
  exact K H' ⟨_, hc, t_OB.to (V := updV (vp_V fs) kf v) ⟨_, e1, q2, q3, t_set q4 hap hk v⟩ (fun j _ => vp_updV_set hlen v j)⟩ e2 e3 ls _ hl (hS0.put e2 e3 hAa)
/-- a nest mate's field -/
theorem nw_putN (C : nwC d X A H0 own mn cc nL ret rm tb) {a ci i : Nat} {fs : List Value} {ref Cn host : String} {T : u_T} {N : Nat} {v : Value} {ty0 : Nat → FieldType} (ho : nwO d a ci fs H) (hAa : A a) (hc : nwCl[ci]? = some (Cn, T, N)) (hin : ∀ w ∈ u_ws Cn T N, w ∈ lw_all) (hty : ∀ k, k < N → parseFieldDescriptor (T k).2.2.1 = some (ty0 k)) (hnm : ∀ a, a < N → ∀ b, b < N → a ≠ b → (T a).2.1 ≠ (T b).2.1) (kf : Nat) (hk : kf < N) (hlink : Cond.fieldLinkNest own i ref (T kf).2.1 (T kf).2.2.1 host ∈ lw_tbl) (hsame : ref = (T kf).1) (hfin : (T kf).2.2.2 = false) (hn : narrow (ty0 kf) v = v) (hfit : fits (ty0 kf) v = true) (hlen : kf < fs.length) (dd : decode cc pc = .ok (.putfield i, 3)) (q : Nat) (hq : pc + 3 = q)
    (K : ∀ H1 : Heap, nwO d a ci (fs.set kf v) H1 → H1.size = H.size → (∀ q, q ≠ a → H1[q]? = H[q]?) → nwV X A Q nL H1 k n q lv rest) : nwV X A Q nL H k n pc lv (v :: .ref a :: rest) := by
  subst hq; subst hsame
  intro ls locs hl hS0
  have hap := va_apart (own := own) C.ht hin ty0 hty hnm C.hK hc
  obtain ⟨r, h1, cell, q1, q2, q3, q4⟩ := ho
  have hr : r = (Cn, T, N) := Option.some.inj (h1.symm.trans hc)
  subst hr
  obtain ⟨hS, hfc, kC, hkC, hkind⟩ := C.hK.1 ci _ hc
  obtain ⟨cf, kfc, fi, f, hi, hsl⟩ := hS kf hk
  have hlay := C.ht _ (hin _ (u_in_lay hk))
  unfold u_lay at hlay
  rw [if_neg (by rw [hfin]; decide)] at hlay
  have hst := (u_facts hfc hkC (u_lays C.ht hin hk) hi).1
  have h6 := u_store hfc hkC hkind hlay hi (hty kf hk) hn hfit
  refine va_WputK C.hx C.hb (f := f) C.ho (va_Nw.use rfl (C.hw (nw_tw hlink rfl))) hi hst (by rw [q2]; exact h6) q1 q3 (by rw [hsl]; exact k2_hasslot (q4 kf hk)) rfl rfl dd fun H' e1 e2 e3 => ?_
  rw [hsl] at e1 ⊢
  exact K H' ⟨_, hc, t_OB.to (V := updV (vp_V fs) kf v) ⟨_, e1, q2, q3, t_set q4 hap hk v⟩ (fun j _ => vp_updV_set hlen v j)⟩ e2 e3 ls _ hl (hS0.put e2 e3 hAa)
/-- a final field, in its class's constructor -/
theorem nw_putF (C : nwC d X A H0 own "<init>" cc nL ret rm tb) {a ci i : Nat} {fs : List Value} {Cn : String} {T : u_T} {N : Nat} {v : Value} {ty0 : Nat → FieldType} (ho : nwO d a ci fs H) (hAa : A a) (hc : nwCl[ci]? = some (Cn, T, N)) (hin : ∀ w ∈ u_ws Cn T N, w ∈ lw_all) (hty : ∀ k, k < N → parseFieldDescriptor (T k).2.2.1 = some (ty0 k)) (hnm : ∀ a, a < N → ∀ b, b < N → a ≠ b → (T a).2.1 ≠ (T b).2.1) (kf : Nat) (hk : kf < N) (hlink : Cond.fieldLink own i (T kf).1 (T kf).2.1 (T kf).2.2.1 ∈ lw_all) (hfin : (T kf).2.2.2 = true) (hdecl : (T kf).1 = own) (hn : narrow (ty0 kf) v = v) (hfit : fits (ty0 kf) v = true) (hlen : kf < fs.length) (dd : decode cc pc = .ok (.putfield i, 3)) (q : Nat) (hq : pc + 3 = q)
    (K : ∀ H1 : Heap, nwO d a ci (fs.set kf v) H1 → H1.size = H.size → (∀ q, q ≠ a → H1[q]? = H[q]?) → nwV X A Q nL H1 k n q lv rest) : nwV X A Q nL H k n pc lv (v :: .ref a :: rest) := by
  subst hq
  intro ls locs hl hS0
  have hap := va_apart (own := own) C.ht hin ty0 hty hnm C.hK hc
  obtain ⟨r, h1, cell, q1, q2, q3, q4⟩ := ho
  have hr : r = (Cn, T, N) := Option.some.inj (h1.symm.trans hc)
  subst hr
  obtain ⟨hS, hfc, kC, hkC, hkind⟩ := C.hK.1 ci _ hc
  obtain ⟨cf, kfc, fi, f, hi, hsl⟩ := hS kf hk
  have hlay := C.ht _ (hin _ (u_in_lay hk))
  unfold u_lay at hlay
  rw [if_pos hfin] at hlay
  have hst := (u_facts hfc hkC (u_lays C.ht hin hk) hi).1
  have hcf : (nx_m X).cls = cf := by
    obtain ⟨_, _, c', _, _, _, -, -, hf', -, -, -, hown2, -⟩ := Cond.laysFinal_spec hlay
    have e1 : c' = cf := by have := hi.symm.trans hf'; simp at this; exact this.1.symm
    rw [hdecl] at hown2
    rw [← e1]; exact Option.some.inj (C.ho.symm.trans hown2)
  have h6 := u_fits hfc hkC hkind (Or.inr hlay) hi (hty kf hk) hn hfit
  refine W.putFinK C.hx C.hb C.ho (C.ht _ hlink) hi hst hcf C.hn (by rw [q2]; exact h6) q1 q3 (by rw [hsl]; exact k2_hasslot (q4 kf hk)) rfl rfl dd fun H' e1 e2 e3 => ?_
  rw [hsl] at e1 ⊢
  exact K H' ⟨_, hc, t_OB.to (V := updV (vp_V fs) kf v) ⟨_, e1, q2, q3, t_set q4 hap hk v⟩ (fun j _ => vp_updV_set hlen v j)⟩ e2 e3 ls _ hl (hS0.put e2 e3 hAa)
/-! statics -/
theorem nw_gets (C : nwC d X A H0 own mn cc nL ret rm tb) {i : Nat} {Cn nm ds : String} {v : Value} (hZ : ∀ (U : State) (H9 : Heap), nwE d U H9 → va_Z Cn nm ds v (fun q => nd_B d ≤ q) U H9) (hlink : Cond.fieldLink own i Cn nm ds ∈ lw_all) (dd : decode cc pc = .ok (.getstatic i, 3)) (q : Nat) (hq : pc + 3 = q) (K : nwV X A Q nL H k n q lv (v :: rest)) : nwV X A Q nL H k n pc lv rest := by
  subst hq
  exact fun ls locs hl hS => va_gets C.hx C.hb ((hZ _ _ C.hE).narrow (fun q h => C.hB q h)) hS C.ho (C.ht _ hlink) (fun x h => h) dd (K ls locs hl hS)
/-! arrays -/
theorem nw_iald (C : nwC d X A H0 own mn cc nL ret rm tb) {a m : Nat} {f : Nat → Int32} {i : Int32} (v : Int32) (hI : nwI d a 0 m f H) (hin : vp_in i m) (hv : f i.toNatClampNeg = v) (dd : decode cc pc = .ok (.iaload, 1)) (q : Nat) (hq : pc + 1 = q) (K : nwV X A Q nL H k n q lv (.int v :: rest)) : nwV X A Q nL H k n pc lv (.int i :: .ref a :: rest) := by
  subst hq; subst hv
  exact fun ls locs hl hS => va_iald C.hx C.hb C.hK hI.P 0 0 rfl rfl hin dd (K ls locs hl hS)
theorem nw_zald (C : nwC d X A H0 own mn cc nL ret rm tb) {a m : Nat} {f : Nat → Int32} {i : Int32} (v : Int32) (hI : nwI d a 1 m f H) (hin : vp_in i m) (hv : f i.toNatClampNeg = v) (dd : decode cc pc = .ok (.baload, 1)) (q : Nat) (hq : pc + 1 = q) (K : nwV X A Q nL H k n q lv (.int v :: rest)) : nwV X A Q nL H k n pc lv (.int i :: .ref a :: rest) := by
  subst hq; subst hv
  exact fun ls locs hl hS => va_zald C.hx C.hb C.hK hI.P 0 1 rfl rfl hin dd (K ls locs hl hS)
theorem nw_bald (C : nwC d X A H0 own mn cc nL ret rm tb) {a m : Nat} {f : Nat → Int32} {i : Int32} (v : Int32) (hI : nwI d a 2 m f H) (hin : vp_in i m) (hv : f i.toNatClampNeg = v) (dd : decode cc pc = .ok (.baload, 1)) (q : Nat) (hq : pc + 1 = q) (K : nwV X A Q nL H k n q lv (.int v :: rest)) : nwV X A Q nL H k n pc lv (.int i :: .ref a :: rest) := by
  subst hq; subst hv
  exact fun ls locs hl hS => va_bald C.hx C.hb C.hK hI.P 0 2 rfl rfl hin dd (K ls locs hl hS)
theorem nw_alenI (C : nwC d X A H0 own mn cc nL ret rm tb) {a ty m : Nat} {f : Nat → Int32} (hI : nwI d a ty m f H) (hty : ty < 5) (dd : decode cc pc = .ok (.arraylength, 1)) (q : Nat) (hq : pc + 1 = q) (K : nwV X A Q nL H k n q lv (.int (nI m) :: rest)) : nwV X A Q nL H k n pc lv (.ref a :: rest) := by
  subst hq
  intro ls locs hl hS
  match ty, hty, hI with
  | 0, _, hI => exact va_alen C.hx C.hb C.hK hI.P 0 0 rfl rfl rfl dd (K ls locs hl hS)
  | 1, _, hI => exact va_alen C.hx C.hb C.hK hI.P 0 1 rfl rfl rfl dd (K ls locs hl hS)
  | 2, _, hI => exact va_alen C.hx C.hb C.hK hI.P 0 2 rfl rfl rfl dd (K ls locs hl hS)
  | 3, _, hI => exact va_alen C.hx C.hb C.hK hI.P 0 3 rfl rfl rfl dd (K ls locs hl hS)
  | 4, _, hI => exact va_alen C.hx C.hb C.hK hI.P 0 4 rfl rfl rfl dd (K ls locs hl hS)
theorem nw_alenR (C : nwC d X A H0 own mn cc nL ret rm tb) {a ty m : Nat} {f : Nat → Option Nat} (hI : nwR d a ty m f H) (hty : ty < 5) (dd : decode cc pc = .ok (.arraylength, 1)) (q : Nat) (hq : pc + 1 = q) (K : nwV X A Q nL H k n q lv (.int (nI m) :: rest)) : nwV X A Q nL H k n pc lv (.ref a :: rest) := by
  subst hq
  intro ls locs hl hS
  match ty, hty, hI with
  | 0, _, hI => exact va_alen C.hx C.hb C.hK hI.P 0 0 rfl rfl rfl dd (K ls locs hl hS)
  | 1, _, hI => exact va_alen C.hx C.hb C.hK hI.P 0 1 rfl rfl rfl dd (K ls locs hl hS)
  | 2, _, hI => exact va_alen C.hx C.hb C.hK hI.P 0 2 rfl rfl rfl dd (K ls locs hl hS)
  | 3, _, hI => exact va_alen C.hx C.hb C.hK hI.P 0 3 rfl rfl rfl dd (K ls locs hl hS)
  | 4, _, hI => exact va_alen C.hx C.hb C.hK hI.P 0 4 rfl rfl rfl dd (K ls locs hl hS)
/-- a reference out of an array: list arrays, the ground's kinds -/
theorem nw_aald (C : nwC d X A H0 own mn cc nL ret rm tb) {a m : Nat} {f : Nat → Option Nat} {i : Int32} (v : Value) (hI : nwR d a 3 m f H) (hin : vp_in i m) (hv : va_rf (f i.toNatClampNeg) = v) (dd : decode cc pc = .ok (.aaload, 1)) (q : Nat) (hq : pc + 1 = q) (K : nwV X A Q nL H k n q lv (v :: rest)) : nwV X A Q nL H k n pc lv (.int i :: .ref a :: rest) := by
  subst hq; subst hv
  exact fun ls locs hl hS => va_aldq C.hx C.hb C.hK hI.P 0 3 rfl rfl hin dd (K ls locs hl hS)
theorem nw_aaldK (C : nwC d X A H0 own mn cc nL ret rm tb) {a m : Nat} {f : Nat → Option Nat} {i : Int32} (v : Value) (hI : nwR d a 4 m f H) (hin : vp_in i m) (hv : va_rf (f i.toNatClampNeg) = v) (dd : decode cc pc = .ok (.aaload, 1)) (q : Nat) (hq : pc + 1 = q) (K : nwV X A Q nL H k n q lv (v :: rest)) : nwV X A Q nL H k n pc lv (.int i :: .ref a :: rest) := by
  subst hq; subst hv
  exact fun ls locs hl hS => va_aldq C.hx C.hb C.hK hI.P 0 4 rfl rfl hin dd (K ls locs hl hS)
theorem nw_updE (f : Nat → Int32) (i : Nat) (x : Int32) (cA : ClassId) (m : Nat) : arrV cA m (updV (fun j => .int (f j)) i (.int x)) = vp_cell cA (m, .inl (upd f i x)) := by
  rw [vp_cell_i]
  congr 1
  funext q
  by_cases hq : q = i
  · subst hq; simp [updV, upd]
  · simp [updV, upd, hq]
theorem nw_iast (C : nwC d X A H0 own mn cc nL ret rm tb) {a m : Nat} {f : Nat → Int32} {i x : Int32} (hI : nwI d a 0 m f H) (hAa : A a) (hin : vp_in i m) (dd : decode cc pc = .ok (.iastore, 1)) (q : Nat) (hq : pc + 1 = q)
    (K : ∀ H1 : Heap, nwI d a 0 m (upd f i.toNatClampNeg x) H1 → H1.size = H.size → (∀ q, q ≠ a → H1[q]? = H[q]?) → nwV X A Q nL H1 k n q lv rest) : nwV X A Q nL H k n pc lv (.int x :: .int i :: .ref a :: rest) := by
  subst hq
  intro ls locs hl hS
  refine W.iast C.hx C.hb hI ((C.hK.2 0 _ rfl).1 m (fun j => .int (f j))) (fun q => by cases q) (by show ¬ (i < 0 ∨ (arrV _ _ _).slots.size ≤ _); rw [arrV_size]; exact hin) rfl rfl dd fun H1 e z oq => ?_
  refine K H1 ?_ z oq ls _ hl (hS.put z oq hAa)
  show H1[a]? = some (vp_cell _ _)
  rw [e, vp_cell_i, arrV_store, nw_updE]

theorem nw_updZ (f : Nat → Int32) (i : Nat) (x : Int32) (ty : FieldType) (cA : ClassId) (m : Nat) (h : narrow ty (.int x) = .int x) : arrV cA m (updV (fun j => .int (f j)) i (narrow ty (.int x))) = vp_cell cA (m, .inl (upd f i x)) := by
  rw [h]; exact nw_updE f i x cA m
theorem nw_zast (C : nwC d X A H0 own mn cc nL ret rm tb) {a m : Nat} {f : Nat → Int32} {i x : Int32} (hI : nwI d a 1 m f H) (hAa : A a) (hin : vp_in i m) (hx01 : narrow .boolean (.int x) = .int x) (dd : decode cc pc = .ok (.bastore, 1)) (q : Nat) (hq : pc + 1 = q)
    (K : ∀ H1 : Heap, nwI d a 1 m (upd f i.toNatClampNeg x) H1 → H1.size = H.size → (∀ q, q ≠ a → H1[q]? = H[q]?) → nwV X A Q nL H1 k n q lv rest) : nwV X A Q nL H k n pc lv (.int x :: .int i :: .ref a :: rest) := by
  subst hq
  intro ls locs hl hS
  refine W.zast C.hx C.hb hI ((C.hK.2 1 _ rfl).1 m (fun j => .int (f j))) (fun q => by cases q) (by show ¬ (i < 0 ∨ (arrV _ _ _).slots.size ≤ _); rw [arrV_size]; exact hin) rfl rfl dd fun H1 e z oq => ?_
  refine K H1 ?_ z oq ls _ hl (hS.put z oq hAa)
  show H1[a]? = some (vp_cell _ _)
  rw [e, vp_cell_i, arrV_store, nw_updZ f _ x _ _ _ hx01]
theorem nw_bast (C : nwC d X A H0 own mn cc nL ret rm tb) {a m : Nat} {f : Nat → Int32} {i x : Int32} (hI : nwI d a 2 m f H) (hAa : A a) (hin : vp_in i m) (hx01 : narrow .byte (.int x) = .int x) (dd : decode cc pc = .ok (.bastore, 1)) (q : Nat) (hq : pc + 1 = q)
    (K : ∀ H1 : Heap, nwI d a 2 m (upd f i.toNatClampNeg x) H1 → H1.size = H.size → (∀ q, q ≠ a → H1[q]? = H[q]?) → nwV X A Q nL H1 k n q lv rest) : nwV X A Q nL H k n pc lv (.int x :: .int i :: .ref a :: rest) := by
  subst hq
  intro ls locs hl hS
  refine W.bast C.hx C.hb hI ((C.hK.2 2 _ rfl).1 m (fun j => .int (f j))) (fun q => by cases q) (by show ¬ (i < 0 ∨ (arrV _ _ _).slots.size ≤ _); rw [arrV_size]; exact hin) rfl rfl dd fun H1 e z oq => ?_
  refine K H1 ?_ z oq ls _ hl (hS.put z oq hAa)
  show H1[a]? = some (vp_cell _ _)
  rw [e, vp_cell_i, arrV_store, nw_updZ f _ x _ _ _ hx01]
theorem nw_updR (f : Nat → Option Nat) (i : Nat) (x : Option Nat) (cA : ClassId) (m : Nat) : arrV cA m (updV (fun j => va_rf (f j)) i (va_rf x)) = vp_cell cA (m, .inr (.inr (.inr (.inr (va_up f i x))))) := by
  rw [vp_cell_q]
  congr 1
  funext q
  by_cases hq : q = i
  · subst hq; simp [updV, va_up]
  · simp [updV, va_up, hq]
/-- a cell whose class is C -/
def nwIs (s : State) (C : String) (a : Nat) (H : Heap) : Prop := ∃ cell : Cell, H[a]? = some cell ∧ cell.vm.isStatics = false ∧ s.vm.findClass C = some cell.cls
theorem nwO.is (C : nwC d X A H0 own mn cc nL ret rm tb) {a ci : Nat} {fs : List Value} (h : nwO d a ci fs H) {Cn : String} {T : u_T} {N : Nat} (hc : nwCl[ci]? = some (Cn, T, N)) : nwIs (nx_s X) Cn a H := va_recv (q := (Cn, T, N)) C.hK h.P hc (q0 := 0) rfl
theorem nwO.isE {U : State} (h0 : nwK d U) {a ci : Nat} {fs : List Value} (h : nwO d a ci fs H) {Cn : String} {T : u_T} {N : Nat} (hc : nwCl[ci]? = some (Cn, T, N)) : nwIs U Cn a H := va_recv (q := (Cn, T, N)) h0.1 h.P hc (q0 := 0) rfl
theorem va_O.is {E : String} {a : Nat} {B : Nat → Prop} {s : State} (h : va_O E a B s H) : nwIs s E a H := by
  obtain ⟨cell, h1, h2, h3, -⟩ := h
  exact ⟨cell, h1, h2, h3⟩
/-- an array's class by its name -/
theorem nwC.arr (C : nwC d X A H0 own mn cc nL ret rm tb) (i : Nat) {ty : FieldType} (h : (nwTys d)[i]? = some (nd_ar d i, ty)) : va_RA (nx_s X) (nd_ar d i) ty := (C.hK.2 i _ h).2
theorem nw_aast (C : nwC d X A H0 own mn cc nL ret rm tb) {a m v : Nat} {f : Nat → Option Nat} {i : Int32} {Cn : String} (hI : nwR d a 3 m f H) (hAa : A a) (hin : vp_in i m) (hv : nwIs (nx_s X) Cn v H) (hca : Cond.castable Cn "java/lang/Object" ∈ lw_tbl) (dd : decode cc pc = .ok (.aastore, 1)) (q : Nat) (hq : pc + 1 = q)
    (K : ∀ H1 : Heap, nwR d a 3 m (va_up f i.toNatClampNeg (some v)) H1 → H1.size = H.size → (∀ q, q ≠ a → H1[q]? = H[q]?) → nwV X A Q nL H1 k n q lv rest) : nwV X A Q nL H k n pc lv (.ref v :: .int i :: .ref a :: rest) := by
  subst hq
  intro ls locs hl hS
  have hlt : i.toNatClampNeg < m := Nat.not_le.mp fun q => hin (Or.inr q)
  have h0 : ¬ i < 0 := fun q => hin (Or.inl q)
  obtain ⟨cellV, g1, g2, g3⟩ := hv
  obtain ⟨kA, comp, k1, k2, k3, -⟩ := (C.hK.2 3 (nd_ar d 3, .object "java/lang/Object") rfl).2
  obtain ⟨kE, hkE, -⟩ := Vm.findClass_spec k3
  obtain ⟨c0, t1, f1, f2, f3⟩ := Cond.castable_spec (va_Nw.use (A := nx_args X) rfl (C.hw (nw_tw hca rfl)))
  cases g3.symm.trans f1
  cases k3.symm.trans f2
  obtain ⟨kC, hkC, -⟩ := Vm.findClass_spec g3
  refine W.aast C.hx C.hb hI (fun q h => by cases h) (fun h => by cases h) k1 k2 rfl hkE ⟨h0, by show _ < (arrV _ _ _).slots.size; rw [arrV_size]; exact hlt⟩ g1 (fun q h => by rw [h] at g2; cases g2) hkC f3 rfl rfl dd fun H1 e z oq => ?_
  refine K H1 ?_ z oq ls _ hl (hS.put z oq hAa)
  show H1[a]? = some (vp_cell _ _)
  rw [e, vp_cell_q, arrV_store]
  exact congrArg some (nw_updR f _ (some v) _ _)
theorem nw_aastK (C : nwC d X A H0 own mn cc nL ret rm tb) {a m v : Nat} {f : Nat → Option Nat} {i : Int32} {Cn : String} (hI : nwR d a 4 m f H) (hAa : A a) (hin : vp_in i m) (hv : nwIs (nx_s X) Cn v H) (hca : Cond.castable Cn "NightwatchWall$Kind" ∈ lw_tbl) (dd : decode cc pc = .ok (.aastore, 1)) (q : Nat) (hq : pc + 1 = q)
    (K : ∀ H1 : Heap, nwR d a 4 m (va_up f i.toNatClampNeg (some v)) H1 → H1.size = H.size → (∀ q, q ≠ a → H1[q]? = H[q]?) → nwV X A Q nL H1 k n q lv rest) : nwV X A Q nL H k n pc lv (.ref v :: .int i :: .ref a :: rest) := by
  subst hq
  intro ls locs hl hS
  have hlt : i.toNatClampNeg < m := Nat.not_le.mp fun q => hin (Or.inr q)
  have h0 : ¬ i < 0 := fun q => hin (Or.inl q)
  obtain ⟨cellV, g1, g2, g3⟩ := hv
  obtain ⟨kA, comp, k1, k2, k3, -⟩ := (C.hK.2 4 (nd_ar d 4, .object "NightwatchWall$Kind") rfl).2
  obtain ⟨kE, hkE, -⟩ := Vm.findClass_spec k3
  obtain ⟨c0, t1, f1, f2, f3⟩ := Cond.castable_spec (va_Nw.use (A := nx_args X) rfl (C.hw (nw_tw hca rfl)))
  cases g3.symm.trans f1
  cases k3.symm.trans f2
  obtain ⟨kC, hkC, -⟩ := Vm.findClass_spec g3
  refine W.aast C.hx C.hb hI (fun q h => by cases h) (fun h => by cases h) k1 k2 rfl hkE ⟨h0, by show _ < (arrV _ _ _).slots.size; rw [arrV_size]; exact hlt⟩ g1 (fun q h => by rw [h] at g2; cases g2) hkC f3 rfl rfl dd fun H1 e z oq => ?_
  refine K H1 ?_ z oq ls _ hl (hS.put z oq hAa)
  show H1[a]? = some (vp_cell _ _)
  rw [e, vp_cell_q, arrV_store]
  exact congrArg some (nw_updR f _ (some v) _ _)
theorem nw_aastN (C : nwC d X A H0 own mn cc nL ret rm tb) {a m : Nat} {f : Nat → Option Nat} {i : Int32} (hI : nwR d a 3 m f H) (hAa : A a) (hin : vp_in i m) (dd : decode cc pc = .ok (.aastore, 1)) (q : Nat) (hq : pc + 1 = q)
    (K : ∀ H1 : Heap, nwR d a 3 m (va_up f i.toNatClampNeg none) H1 → H1.size = H.size → (∀ q, q ≠ a → H1[q]? = H[q]?) → nwV X A Q nL H1 k n q lv rest) : nwV X A Q nL H k n pc lv (.null :: .int i :: .ref a :: rest) := by
  subst hq
  intro ls locs hl hS
  refine va_WaastN (C := "java/lang/Object") C.hx C.hb hI ((C.hK.2 3 (nd_ar d 3, .object "java/lang/Object") rfl).1 m (fun j => va_rf (f j))) (fun h => by cases h) (by show ¬ (i < 0 ∨ (arrV _ _ _).slots.size ≤ _); rw [arrV_size]; exact hin) rfl rfl dd fun H1 e z oq => ?_
  refine K H1 ?_ z oq ls _ hl (hS.put z oq hAa)
  show H1[a]? = some (vp_cell _ _)
  rw [e, vp_cell_q, arrV_store]
  exact congrArg some (nw_updR f _ none _ _)
/-! making cells -/
theorem nw_pushS {locs : List Loc} {H1 : Heap} (hS : va_S A (nx_s X).heap H locs) (z1 : H1.size = H.size + 1) (o1 : ∀ q, q < H.size → H1[q]? = H[q]?) : va_S A (nx_s X).heap H1 locs :=
  ⟨Nat.le_trans hS.1 (by omega), fun x h1 h2 => (o1 x (Nat.lt_of_lt_of_le h1 hS.1)).trans (hS.2.1 x h1 h2), hS.2.2⟩
theorem nw_new (C : nwC d X A H0 own mn cc nL ret rm tb) {ci i : Nat} {Cn : String} {T : u_T} {N : Nat} {ty0 : Nat → FieldType} (fs : List Value) (hc : nwCl[ci]? = some (Cn, T, N)) (hin : ∀ w ∈ u_ws Cn T N, w ∈ lw_all) (hty : ∀ k, k < N → parseFieldDescriptor (T k).2.2.1 = some (ty0 k)) (hl1 : Cond.classLink own i Cn ∈ lw_all) (hi1 : Cond.instantiable Cn N ∈ lw_all) (hi2 : Cond.initialized Cn ∈ lw_all) (hfs : ∀ j, j < N → defaultValue (ty0 j) = vp_V fs j) (k' n' : Nat) (hk' : k + 1 ≤ k') (hn' : n + N ≤ n') (hcr : k' ≤ rm.cells ∧ n' ≤ rm.slots) (dd : decode cc pc = .ok (.new i, 3)) (q : Nat) (hq : pc + 3 = q)
    (K : ∀ (a : Nat) (H1 : Heap), a = H.size → nwO d a ci fs H1 → H1.size = H.size + 1 → (∀ q, q < H.size → H1[q]? = H[q]?) → nwV X A Q nL H1 k' n' q lv (.ref a :: rest)) : nwV X A Q nL H k n pc lv rest := by
  subst hq
  intro ls locs hl hS
  have hKn := C.hK.1 ci _ hc
  have hR := C.hR
  refine W.newcK C.hx C.hb C.ho (C.ht _ hl1) (C.ht _ hi1) (C.ht _ hi2) rfl dd (by rw [hR]; omega) (by rw [hR]; omega) hKn.2.1 rfl fun H1 kC hkC e1 z1 o1 => ?_
  exact W.widen hk' hn' (K H.size H1 rfl ⟨_, hc, (u_born ty0 C.ht hin hKn hkC e1 hty).to hfs⟩ z1 o1 ls locs hl (nw_pushS hS z1 o1))
/-- new int[m] -/
theorem nw_newi (C : nwC d X A H0 own mn cc nL ret rm tb) {m : Nat} (hm : m < 2 ^ 20) (k' n' : Nat) (hk' : k + 1 ≤ k') (hn' : n + m ≤ n') (hcr : k' ≤ rm.cells ∧ n' ≤ rm.slots) (dd : decode cc pc = .ok (.newarray .int, 2)) (q : Nat) (hq : pc + 2 = q)
    (K : ∀ (a : Nat) (H1 : Heap), a = H.size → nwI d a 0 m (fun _ => 0) H1 → H1.size = H.size + 1 → (∀ q, q < H.size → H1[q]? = H[q]?) → nwV X A Q nL H1 k' n' q lv (.ref a :: rest)) : nwV X A Q nL H k n pc lv (.int (nI m) :: rest) := by
  subst hq
  intro ls locs hl hS
  have hR := C.hR
  refine va_newaK (atype := .int) C.hx C.hb (C.ht _ q191) rfl dd rfl (nI_pos (by omega)) (nI_clamp (by omega)) (by show m * 4 ≤ _; omega) (by rw [hR]; omega) (by rw [hR]; omega) rfl fun H1 cA e1 z1 o1 hAr hNm => ?_
  have hcA : cA = nd_ar d 0 := Option.some.inj (hNm.symm.trans (C.hK.2 0 _ rfl).2)
  subst hcA
  exact W.widen hk' hn' (K H.size H1 rfl e1 z1 o1 ls locs hl (nw_pushS hS z1 o1))
theorem nw_newz (C : nwC d X A H0 own mn cc nL ret rm tb) {m : Nat} (hm : m < 2 ^ 20) (k' n' : Nat) (hk' : k + 1 ≤ k') (hn' : n + m ≤ n') (hcr : k' ≤ rm.cells ∧ n' ≤ rm.slots) (dd : decode cc pc = .ok (.newarray .boolean, 2)) (q : Nat) (hq : pc + 2 = q)
    (K : ∀ (a : Nat) (H1 : Heap), a = H.size → nwI d a 1 m (fun _ => 0) H1 → H1.size = H.size + 1 → (∀ q, q < H.size → H1[q]? = H[q]?) → nwV X A Q nL H1 k' n' q lv (.ref a :: rest)) : nwV X A Q nL H k n pc lv (.int (nI m) :: rest) := by
  subst hq
  intro ls locs hl hS
  have hR := C.hR
  refine va_newaK (atype := .boolean) C.hx C.hb (C.ht _ q1286) rfl dd rfl (nI_pos (by omega)) (nI_clamp (by omega)) (by show m * 1 ≤ _; omega) (by rw [hR]; omega) (by rw [hR]; omega) rfl fun H1 cA e1 z1 o1 hAr hNm => ?_
  have hcA : cA = nd_ar d 1 := Option.some.inj (hNm.symm.trans (C.hK.2 1 _ rfl).2)
  subst hcA
  exact W.widen hk' hn' (K H.size H1 rfl e1 z1 o1 ls locs hl (nw_pushS hS z1 o1))
theorem nw_newb (C : nwC d X A H0 own mn cc nL ret rm tb) {m : Nat} (hm : m < 2 ^ 20) (k' n' : Nat) (hk' : k + 1 ≤ k') (hn' : n + m ≤ n') (hcr : k' ≤ rm.cells ∧ n' ≤ rm.slots) (dd : decode cc pc = .ok (.newarray .byte, 2)) (q : Nat) (hq : pc + 2 = q)
    (K : ∀ (a : Nat) (H1 : Heap), a = H.size → nwI d a 2 m (fun _ => 0) H1 → H1.size = H.size + 1 → (∀ q, q < H.size → H1[q]? = H[q]?) → nwV X A Q nL H1 k' n' q lv (.ref a :: rest)) : nwV X A Q nL H k n pc lv (.int (nI m) :: rest) := by
  subst hq
  intro ls locs hl hS
  have hR := C.hR
  refine va_newaK (atype := .byte) C.hx C.hb (C.ht _ q800) rfl dd rfl (nI_pos (by omega)) (nI_clamp (by omega)) (by show m * 1 ≤ _; omega) (by rw [hR]; omega) (by rw [hR]; omega) rfl fun H1 cA e1 z1 o1 hAr hNm => ?_
  have hcA : cA = nd_ar d 2 := Option.some.inj (hNm.symm.trans (C.hK.2 2 _ rfl).2)
  subst hcA
  exact W.widen hk' hn' (K H.size H1 rfl e1 z1 o1 ls locs hl (nw_pushS hS z1 o1))
theorem nw_newq (C : nwC d X A H0 own mn cc nL ret rm tb) {m i : Nat} (hm : m < 2 ^ 20) (hl1 : Cond.classLink own i "java/lang/Object" ∈ lw_all) (k' n' : Nat) (hk' : k + 1 ≤ k') (hn' : n + m ≤ n') (hcr : k' ≤ rm.cells ∧ n' ≤ rm.slots) (dd : decode cc pc = .ok (.anewarray i, 3)) (q : Nat) (hq : pc + 3 = q)
    (K : ∀ (a : Nat) (H1 : Heap), a = H.size → nwR d a 3 m (fun _ => none) H1 → H1.size = H.size + 1 → (∀ q, q < H.size → H1[q]? = H[q]?) → nwV X A Q nL H1 k' n' q lv (.ref a :: rest)) : nwV X A Q nL H k n pc lv (.int (nI m) :: rest) := by
  subst hq
  intro ls locs hl hS
  have hR := C.hR
  have hcl : (nI m).toNatClampNeg = m := nI_clamp (by omega)
  refine W.anew C.hx C.hb C.ho (C.ht _ hl1) (va_AO.use C.hE.1.2.2.2.1) rfl dd rfl (nI_pos (by omega)) (by rw [hcl]; omega) (by rw [hR]; omega) (by rw [hR, hcl]; omega) fun cA kA comp f1 f2 f3 f4 => ?_
  have hcA : cA = nd_ar d 3 := Option.some.inj (f1.symm.trans (va_nmO (C.hK.2 3 (nd_ar d 3, .object "java/lang/Object") rfl).2 rfl))
  subst hcA
  rw [hcl]
  generalize hH1 : H.push ({ cls := nd_ar d 3, slots := Array.replicate m .null, vm := .none } : Cell) = H1
  have z1 : H1.size = H.size + 1 := by rw [← hH1, Array.size_push]
  have e1 : H1[H.size]? = some (arrV (nd_ar d 3) m (fun _ => .null)) := by rw [← hH1, Array.getElem?_push_size, ← arrV_new]
  have o1 : ∀ q : Nat, q < H.size → H1[q]? = H[q]? := fun q hq => by rw [← hH1, Array.getElem?_push, if_neg (Nat.ne_of_lt hq)]
  exact W.widen hk' hn' (K H.size H1 rfl e1 z1 o1 ls locs hl (nw_pushS hS z1 o1))
theorem nw_newk (C : nwC d X A H0 own mn cc nL ret rm tb) {m i : Nat} (hm : m < 2 ^ 20) (hl1 : Cond.classLink own i "NightwatchWall$Kind" ∈ lw_all) (k' n' : Nat) (hk' : k + 1 ≤ k') (hn' : n + m ≤ n') (hcr : k' ≤ rm.cells ∧ n' ≤ rm.slots) (dd : decode cc pc = .ok (.anewarray i, 3)) (q : Nat) (hq : pc + 3 = q)
    (K : ∀ (a : Nat) (H1 : Heap), a = H.size → nwR d a 4 m (fun _ => none) H1 → H1.size = H.size + 1 → (∀ q, q < H.size → H1[q]? = H[q]?) → nwV X A Q nL H1 k' n' q lv (.ref a :: rest)) : nwV X A Q nL H k n pc lv (.int (nI m) :: rest) := by
  subst hq
  intro ls locs hl hS
  have hR := C.hR
  have hcl : (nI m).toNatClampNeg = m := nI_clamp (by omega)
  refine W.anew C.hx C.hb C.ho (C.ht _ hl1) (va_AO.use C.hE.1.2.2.2.2.1) rfl dd rfl (nI_pos (by omega)) (by rw [hcl]; omega) (by rw [hR]; omega) (by rw [hR, hcl]; omega) fun cA kA comp f1 f2 f3 f4 => ?_
  have hcA : cA = nd_ar d 4 := Option.some.inj (f1.symm.trans (va_nmO (C.hK.2 4 (nd_ar d 4, .object "NightwatchWall$Kind") rfl).2 rfl))
  subst hcA
  rw [hcl]
  generalize hH1 : H.push ({ cls := nd_ar d 4, slots := Array.replicate m .null, vm := .none } : Cell) = H1
  have z1 : H1.size = H.size + 1 := by rw [← hH1, Array.size_push]
  have e1 : H1[H.size]? = some (arrV (nd_ar d 4) m (fun _ => .null)) := by rw [← hH1, Array.getElem?_push_size, ← arrV_new]
  have o1 : ∀ q : Nat, q < H.size → H1[q]? = H[q]? := fun q hq => by rw [← hH1, Array.getElem?_push, if_neg (Nat.ne_of_lt hq)]
  exact W.widen hk' hn' (K H.size H1 rfl e1 z1 o1 ls locs hl (nw_pushS hS z1 o1))
/-! casts, text -/
theorem nw_cast (C : nwC d X A H0 own mn cc nL ret rm tb) {a ci i : Nat} {Cn : String} {T : u_T} {N : Nat} (hc : nwCl[ci]? = some (Cn, T, N)) (hr : nwIs (nx_s X) Cn a H) (hl1 : Cond.classLink own i Cn ∈ lw_all) (dd : decode cc pc = .ok (.checkcast i, 3)) (q : Nat) (hq : pc + 3 = q) (K : nwV X A Q nL H k n q lv (.ref a :: rest)) : nwV X A Q nL H k n pc lv (.ref a :: rest) := by
  subst hq
  exact fun ls locs hl hS => va_castS C.hx C.hb C.ho (C.ht _ hl1) (C.hK.1 ci _ hc).2 hr dd (K ls locs hl hS)
theorem nw_castI (C : nwC d X A H0 own mn cc nL ret rm tb) {a i m : Nat} {f : Nat → Int32} (hI : nwI d a 0 m f H) (hl1 : Cond.classLink own i "[I" ∈ lw_all) (dd : decode cc pc = .ok (.checkcast i, 3)) (q : Nat) (hq : pc + 3 = q) (K : nwV X A Q nL H k n q lv (.ref a :: rest)) : nwV X A Q nL H k n pc lv (.ref a :: rest) := by
  subst hq
  exact fun ls locs hl hS => va_castA C.hx C.hb C.ho (C.ht _ hl1) hI.P 0 rfl (C.hK.2 0 (nd_ar d 0, .int) rfl).2 dd (K ls locs hl hS)
end NWH
