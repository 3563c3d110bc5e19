/-! ===== STARTS, ENDS, CALLS over nwV ===== -/
def nwPV (Cn : String) (y : MethodName) (b : ByteArray) (L : Nat) (r : Option FieldType) (np : Nat) : Prop :=
  (Cond.instanceMethod y ∈ lw_all ∧ Cond.selects Cn y y ∈ lw_all ∧ Cond.initialized Cn ∈ lw_all ∧ Cond.code y b L r ∈ lw_all) ∧ y.cls = Cn ∧ y.cls ≠ "java/lang/invoke/MethodHandle" ∧ y.cls ≠ "java/lang/invoke/VarHandle" ∧ (parseMethodDescriptor y.desc).map (fun d => d.parameters.length) = some np
def nwPS (y : MethodName) (b : ByteArray) (L : Nat) (r : Option FieldType) (np : Nat) : Prop :=
  (Cond.static y ∈ lw_all ∧ Cond.initialized y.cls ∈ lw_all ∧ Cond.code y b L r ∈ lw_all) ∧ y.cls ≠ "java/lang/invoke/MethodHandle" ∧ y.cls ≠ "java/lang/invoke/VarHandle" ∧ (parseMethodDescriptor y.desc).map (fun d => d.parameters.length) = some np
def nwPI (y : MethodName) (b : ByteArray) (L : Nat) (np : Nat) : Prop :=
  (Cond.initialized y.cls ∈ lw_all ∧ Cond.instanceMethod y ∈ lw_all ∧ Cond.code y b L none ∈ lw_all) ∧ y.name = "<init>" ∧ y.cls ≠ "java/lang/invoke/MethodHandle" ∧ y.cls ≠ "java/lang/invoke/VarHandle" ∧ (parseMethodDescriptor y.desc).map (fun d => d.parameters.length) = some np
section NWS
theorem nw_start {l : Launch} {d : nwD} {y : MethodName} {cc : ByteArray} {nL fr lo mc ms : Nat} {ret : Option FieldType} {av : List Value} {H : Heap} {R : Option Value → Heap → Prop} {RX : String → Heap → Prop} {A : Nat → Prop} (own mn : String) (hfl : l.flags = flags0) (hy : plainName y.cls = true) (hown : y.cls = own) (hmn : y.name = mn) (hA : ∀ q, H.size ≤ q → A q) (hB : ∀ q, A q → nd_B d ≤ q) (hlen : (lg_sl av).length ≤ nL)
    (body : ∀ X : nwX, nwC d X A H own mn cc nL ret { frames := fr, cells := mc, slots := ms, locals := lo } [] → nwV X A (nwQE X R RX A mc ms) nL H 0 0 0 (lv_args 0 av) []) : nwMt l d y cc nL ret fr lo mc ms av H R RX A := by
  refine vx_ofW (cc := cc) (maxL := nL) (ret := ret) hy rfl ?_
  intro p e s m args below meth c s₁ B hml htab hv
  obtain ⟨hargs, hE, hH⟩ := hv
  have hts := atoms_spec (ws := ws_ y cc nL ret) B.pre
  have htb : c.exceptionTable.toList = [] := by
    cases h : c.exceptionTable.toList with
    | nil => rfl
    | cons a t => exact (htab a (by rw [h]; exact List.mem_cons_self)).elim
  have C : nwC d (p, l, e, { frames := fr, cells := mc, slots := ms, locals := lo }, s, m, args, below, meth, c) A H own mn cc nL ret { frames := fr, cells := mc, slots := ms, locals := lo } [] :=
    ⟨⟨B.exec, B.bytes, hml, by rw [← hown]; exact findClass_of_methodNamed B.named, B.returns, B.notSynchronized, by rw [← hmn]; exact (name_of_methodNamed B.named B.method).1⟩, ⟨fun w h => hts w (List.mem_cons_of_mem _ h), hE, hfl, rfl, hH, htb⟩, hA, hB⟩
  have K := body _ C
  subst hargs
  have hl := lv_entry av hlen
  rw [lg_entry_eq]
  generalize (lg_sl av ++ List.replicate (nL - (lg_sl av).length) Slot.unset).toArray = ls at hl ⊢
  have K2 := K ls [] hl (by show va_S A s.heap H []; rw [hH]; exact va_S.rf)
  rw [hH]
  exact K2
/-- a reader that is its own heap's -/
theorem nw_rd {l : Launch} {d : nwD} {y : MethodName} {cc : ByteArray} {nL fr lo : Nat} {ret : Option FieldType} {av : List Value} {H : Heap} {r : Option Value} (own mn : String) (hfl : l.flags = flags0) (hy : plainName y.cls = true) (hown : y.cls = own) (hmn : y.name = mn) (hB : nd_B d ≤ H.size) (hlen : (lg_sl av).length ≤ nL)
    (body : ∀ X : nwX, nwC d X (nwNew H) H own mn cc nL ret { frames := fr, cells := 0, slots := 0, locals := lo } [] → nwV X (nwNew H) (nwQE X (fun v H1 => v = r ∧ H1 = H) nwNo (nwNew H) 0 0) nL H 0 0 0 (lv_args 0 av) []) : nwRd l d y cc nL ret fr lo av H r :=
  nw_start own mn hfl hy hown hmn (fun _ h => h) (fun q h => Nat.le_trans hB h) hlen body
variable {d : nwD} {X : nwX} {A : Nat → Prop} {Q : State → Prop} {nL : Nat} {H H0 : Heap} {k n pc : Nat} {lv : List (Nat × Value)} {rest st : List Value} {own mn : String} {cc : ByteArray} {ret : Option FieldType} {rm : Room} {tb : List ExceptionTableEntry} {R : Option Value → Heap → Prop} {RX : String → Heap → Prop} {mc ms : Nat}
theorem nw_iret (C : nwC d X A H0 own mn cc nL (some .int) rm tb) {v : Int32} (dd : decode cc pc = .ok (.ireturn, 1)) (hk : k ≤ mc) (hn : n ≤ ms) (hR : R (some (.int v)) H) : nwV X A (nwQE X R RX A mc ms) nL H k n pc lv [.int v] := by
  intro ls locs hl hS
  refine W.widen hk hn (vx_ret ?_)
  exact W.iret C.hx C.hb C.hr (fun t ht hW => ⟨⟨_, rfl, by rw [ht]; exact hR⟩, hS.F ht⟩) hS.2.2 dd (hlocks := C.hk)
theorem nw_nret {ty : FieldType} (C : nwC d X A H0 own mn cc nL (some ty) rm tb) {v : Int32} (dd : decode cc pc = .ok (.ireturn, 1)) (hv : narrow ty (.int v) = .int v) (hk : k ≤ mc) (hn : n ≤ ms) (hR : R (some (.int v)) H) : nwV X A (nwQE X R RX A mc ms) nL H k n pc lv [.int v] := by
  intro ls locs hl hS
  refine W.widen hk hn (vx_ret ?_)
  exact W.zret C.hx C.hb C.hr hv (fun t ht hW => ⟨⟨_, rfl, by rw [ht]; exact hR⟩, hS.F ht⟩) hS.2.2 dd (hlocks := C.hk)
theorem nw_lret (C : nwC d X A H0 own mn cc nL (some .long) rm tb) {v : Int64} (dd : decode cc pc = .ok (.lreturn, 1)) (hk : k ≤ mc) (hn : n ≤ ms) (hR : R (some (.long v)) H) : nwV X A (nwQE X R RX A mc ms) nL H k n pc lv [.long v] := by
  intro ls locs hl hS
  refine W.widen hk hn (vx_ret ?_)
  exact W.lret C.hx C.hb C.hr (fun t ht hW => ⟨⟨_, rfl, by rw [ht]; exact hR⟩, hS.F ht⟩) hS.2.2 dd (hlocks := C.hk)
theorem nw_aret {rt : FieldType} (C : nwC d X A H0 own mn cc nL (some rt) rm tb) {v : Nat} (hrt : (∃ n, rt = .object n) ∨ ∃ t, rt = .array t) (dd : decode cc pc = .ok (.areturn, 1)) (hk : k ≤ mc) (hn : n ≤ ms) (hR : R (some (.ref v)) H) : nwV X A (nwQE X R RX A mc ms) nL H k n pc lv [.ref v] := by
  intro ls locs hl hS
  refine W.widen hk hn (vx_ret ?_)
  exact W.aret C.hx C.hb C.hr hrt (Or.inr ⟨v, rfl⟩) (fun t ht hW => ⟨⟨_, rfl, by rw [ht]; exact hR⟩, hS.F ht⟩) hS.2.2 dd (hlocks := C.hk)
theorem nw_vret (C : nwC d X A H0 own mn cc nL none rm tb) (dd : decode cc pc = .ok (.return_, 1)) (hk : k ≤ mc) (hn : n ≤ ms) (hR : R none H) : nwV X A (nwQE X R RX A mc ms) nL H k n pc lv [] := by
  intro ls locs hl hS
  refine W.widen hk hn (vx_ret ?_)
  exact W.vret C.hx C.hb C.hr (fun t ht hW => ⟨⟨_, rfl, by rw [ht]; exact hR⟩, hS.F ht⟩) hS.2.2 dd (hlocks := C.hk)
/-- not caught: it leaves -/
theorem nw_out (C : nwC d X A H0 own mn cc nL ret rm []) {E : String} {q : Addr} (hk : k ≤ mc) (hn : n ≤ ms) (hR : RX E H) : nwT X A (nwQE X R RX A mc ms) nL H k n pc lv E q := by
  intro ls locs r ce hl hS h3 h4 h5
  exact vx_out (fun x hx => by rw [C.htb] at hx; cases hx) C.hk h3 h4 h5 (fun t ht hW => ⟨by rw [ht]; exact hR, hS.F ht⟩) hS.2.2 hk hn
/-! calls -/
/-- behind a call: what the callee answers, or throws -/
theorem nw_fin (C : nwC d X A H0 own mn cc nL ret rm tb) {A1 : Nat → Prop} {a : Array Value} (hA1 : ∀ q, q < H.size → A1 q → A q)
    (hr : ∀ (ls : Array Slot) (locs : List Loc), ls.size = nL → va_S A (nx_s X).heap H locs → vx_Run (nx_p X) (nx_l X) (nx_e X) (nx_R X) (nx_s X) (nx_m X) (nx_args X) (nx_below X) (nx_meth X) (nx_c X) H locs k n mc ms (F0 (nx_m X) pc ls st) rest (nwQ R A1 a) (nwXc RX A1) A1) (q : Nat) (hq : pc + 3 = q)
    (K : ∀ (v : Option Value) (H1 : Heap), R v H1 → H.size ≤ H1.size → (∀ q, q < H.size → ¬ A1 q → H1[q]? = H[q]?) → nwV X A Q nL H1 (k + mc) (n + ms) q lv (v.toList ++ rest))
    (KX : ∀ (E : String) (w : Addr) (H1 : Heap), RX E H1 → H.size ≤ H1.size → (∀ q, q < H.size → ¬ A1 q → H1[q]? = H[q]?) → nwT X A Q nL H1 (k + mc) (n + ms) pc lv E w) : nwV X A Q nL H k n pc lv st := by
  subst hq
  intro ls locs hl hS T hT XS
  have hf : ∀ q, A1 q → A q := fun q h => by
    rcases Nat.lt_or_ge q H.size with hq | hq
    · exact hA1 q hq h
    · exact C.hsz hS q hq
  rcases hr ls locs hl.1 hS T hT XS with ⟨v, st₀, t, T', L, h0, X', hL, e1, e2, ⟨⟨v', hv, hRv⟩, hF⟩, sp⟩ | ⟨w, st₀, t, T', L, E, ce, h0, X', hL, e1, e2, ⟨hRx, hF⟩, hce, hcv, hcl, sp⟩
  · cases hv
    obtain ⟨k1, k2, k3⟩ := vx_keep h0 e1 hS hA1 hf hL hF
    obtain ⟨t2, a1, b1⟩ := K v T'.heap (by rw [e1]; exact hRv) k1 k2 ls (locs ++ L) hl k3 T' rfl X'
    exact ⟨t2, sp t2 a1, b1⟩
  · obtain ⟨k1, k2, k3⟩ := vx_keep h0 e1 hS hA1 hf hL hF
    obtain ⟨t2, a1, b1⟩ := KX E w T'.heap (by rw [e1]; exact hRx) k1 k2 ls (locs ++ L) rest ce hl k3 (by rw [e1]; exact hce) hcv hcl T' rfl X'
    exact ⟨t2, sp.trans a1, b1⟩
theorem nw_fin5 (C : nwC d X A H0 own mn cc nL ret rm tb) {A1 : Nat → Prop} {a : Array Value} (hA1 : ∀ q, q < H.size → A1 q → A q)
    (hr : ∀ (ls : Array Slot) (locs : List Loc), ls.size = nL → va_S A (nx_s X).heap H locs → vx_Run5 (nx_p X) (nx_l X) (nx_e X) (nx_R X) (nx_s X) (nx_m X) (nx_args X) (nx_below X) (nx_meth X) (nx_c X) H locs k n mc ms (F0 (nx_m X) pc ls st) rest (nwQ R A1 a) (nwXc RX A1) A1) (q : Nat) (hq : pc + 5 = q)
    (K : ∀ (v : Option Value) (H1 : Heap), R v H1 → H.size ≤ H1.size → (∀ q, q < H.size → ¬ A1 q → H1[q]? = H[q]?) → nwV X A Q nL H1 (k + mc) (n + ms) q lv (v.toList ++ rest))
    (KX : ∀ (E : String) (w : Addr) (H1 : Heap), RX E H1 → H.size ≤ H1.size → (∀ q, q < H.size → ¬ A1 q → H1[q]? = H[q]?) → nwT X A Q nL H1 (k + mc) (n + ms) pc lv E w) : nwV X A Q nL H k n pc lv st := by
  subst hq
  intro ls locs hl hS T hT XS
  have hf : ∀ q, A1 q → A q := fun q h => by
    rcases Nat.lt_or_ge q H.size with hq | hq
    · exact hA1 q hq h
    · exact C.hsz hS q hq
  rcases hr ls locs hl.1 hS T hT XS with ⟨v, st₀, t, T', L, h0, X', hL, e1, e2, ⟨⟨v', hv, hRv⟩, hF⟩, sp⟩ | ⟨w, st₀, t, T', L, E, ce, h0, X', hL, e1, e2, ⟨hRx, hF⟩, hce, hcv, hcl, sp⟩
  · cases hv
    obtain ⟨k1, k2, k3⟩ := vx_keep h0 e1 hS hA1 hf hL hF
    obtain ⟨t2, a1, b1⟩ := K v T'.heap (by rw [e1]; exact hRv) k1 k2 ls (locs ++ L) hl k3 T' rfl X'
    exact ⟨t2, sp t2 a1, b1⟩
  · obtain ⟨k1, k2, k3⟩ := vx_keep h0 e1 hS hA1 hf hL hF
    obtain ⟨t2, a1, b1⟩ := KX E w T'.heap (by rw [e1]; exact hRx) k1 k2 ls (locs ++ L) rest ce hl k3 (by rw [e1]; exact hce) hcv hcl T' rfl X'
    exact ⟨t2, sp.trans a1, b1⟩
/-- the callee's start is met -/
theorem nw_pre (C : nwC d X A H0 own mn cc nL ret rm tb) (av : List Value) {locs : List Loc} (hS : va_S A (nx_s X).heap H locs) : ∀ U : State, U.heap = H → (nx_s X).WarmedH U.vm → nwPc d av H av.toArray U :=
  fun U hU hW => ⟨rfl, by rw [hU]; exact (C.Z hS).moved hW, hU⟩
theorem nw_callV (C : nwC d X A H0 own mn cc nL ret rm tb) {y : MethodName} {b : ByteArray} {L fr lo np i a : Nat} {r : Option FieldType} {Cn : String} {A1 : Nat → Prop} {As : List Value} (hM : nwMt (nx_l X) d y b L r fr lo mc ms (.ref a :: As) H R RX A1) (kp : nwPV Cn y b L r np) (hlink : Cond.methodLink own i y ∈ lw_all) (hrc : nwIs (nx_s X) Cn a H) (hst : st = As.reverse ++ .ref a :: rest) (hnp : As.length = np) (hrm : (fr + 1 ≤ rm.frames ∧ 8 + (L + 11) + lo ≤ rm.locals) ∧ k + mc ≤ rm.cells ∧ n + ms ≤ rm.slots) (hw : (rest.map fun v => v.category).sum ≤ 8) (hA1 : ∀ q, q < H.size → A1 q → A q) (dd : decode cc pc = .ok (.invokevirtual i, 3)) (q : Nat) (hq : pc + 3 = q)
    (K : ∀ (v : Option Value) (H1 : Heap), R v H1 → H.size ≤ H1.size → (∀ q, q < H.size → ¬ A1 q → H1[q]? = H[q]?) → nwV X A Q nL H1 (k + mc) (n + ms) q lv (v.toList ++ rest))
    (KX : ∀ (E : String) (w : Addr) (H1 : Heap), RX E H1 → H.size ≤ H1.size → (∀ q, q < H.size → ¬ A1 q → H1[q]? = H[q]?) → nwT X A Q nL H1 (k + mc) (n + ms) pc lv E w) : nwV X A Q nL H k n pc lv st := by
  obtain ⟨⟨k1, k2, k3, k4⟩, k5⟩ := kp
  have hR := C.hR
  exact nw_fin C hA1 (fun ls locs hls hS => vx_runV ⟨C.hx, C.hb, C.hml, C.ho, C.ht⟩ hM (cwV np C.ht (lw_V hlink k1 k2 k3 k4) rfl rfl rfl k5 ⟨by rw [hR]; exact hrm.1.1, by rw [hR]; exact hrm.1.2⟩) ⟨nwPc_blind d _ H, hrc, nw_pre C _ hS⟩ rfl hnp hls hst (lv_room hw) dd ⟨by rw [hR]; exact hrm.2.1, by rw [hR]; exact hrm.2.2⟩) q hq K KX
theorem nw_callS (C : nwC d X A H0 own mn cc nL ret rm tb) {y : MethodName} {b : ByteArray} {L fr lo np i : Nat} {r : Option FieldType} {A1 : Nat → Prop} {As : List Value} (hM : nwMt (nx_l X) d y b L r fr lo mc ms As H R RX A1) (kp : nwPS y b L r np) (hlink : Cond.methodLink own i y ∈ lw_all) (hst : st = As.reverse ++ rest) (hnp : As.length = np) (hrm : (fr + 1 ≤ rm.frames ∧ 8 + (L + 11) + lo ≤ rm.locals) ∧ k + mc ≤ rm.cells ∧ n + ms ≤ rm.slots) (hw : (rest.map fun v => v.category).sum ≤ 8) (hA1 : ∀ q, q < H.size → A1 q → A q) (dd : decode cc pc = .ok (.invokestatic i, 3)) (q : Nat) (hq : pc + 3 = q)
    (K : ∀ (v : Option Value) (H1 : Heap), R v H1 → H.size ≤ H1.size → (∀ q, q < H.size → ¬ A1 q → H1[q]? = H[q]?) → nwV X A Q nL H1 (k + mc) (n + ms) q lv (v.toList ++ rest))
    (KX : ∀ (E : String) (w : Addr) (H1 : Heap), RX E H1 → H.size ≤ H1.size → (∀ q, q < H.size → ¬ A1 q → H1[q]? = H[q]?) → nwT X A Q nL H1 (k + mc) (n + ms) pc lv E w) : nwV X A Q nL H k n pc lv st := by
  obtain ⟨⟨k1, k2, k3⟩, k5⟩ := kp
  have hR := C.hR
  exact nw_fin C hA1 (fun ls locs hls hS => vx_runS ⟨C.hx, C.hb, C.hml, C.ho, C.ht⟩ hM (va_cwS np C.ht (lw_S hlink k1 k2 k3) rfl rfl rfl k5 ⟨by rw [hR]; exact hrm.1.1, by rw [hR]; exact hrm.1.2⟩) ⟨nwPc_blind d _ H, nw_pre C _ hS⟩ rfl hnp hls hst (lv_room hw) dd ⟨by rw [hR]; exact hrm.2.1, by rw [hR]; exact hrm.2.2⟩) q hq K KX
theorem nw_callSN (C : nwC d X A H0 own mn cc nL ret rm tb) {y : MethodName} {b : ByteArray} {L fr lo np i : Nat} {r : Option FieldType} {host : String} {A1 : Nat → Prop} {As : List Value} (hM : nwMt (nx_l X) d y b L r fr lo mc ms As H R RX A1) (kp : nwPS y b L r np) (hlink : Cond.methodLinkNest own i y host ∈ lw_tbl) (hst : st = As.reverse ++ rest) (hnp : As.length = np) (hrm : (fr + 1 ≤ rm.frames ∧ 8 + (L + 11) + lo ≤ rm.locals) ∧ k + mc ≤ rm.cells ∧ n + ms ≤ rm.slots) (hw : (rest.map fun v => v.category).sum ≤ 8) (hA1 : ∀ q, q < H.size → A1 q → A q) (dd : decode cc pc = .ok (.invokestatic i, 3)) (q : Nat) (hq : pc + 3 = q)
    (K : ∀ (v : Option Value) (H1 : Heap), R v H1 → H.size ≤ H1.size → (∀ q, q < H.size → ¬ A1 q → H1[q]? = H[q]?) → nwV X A Q nL H1 (k + mc) (n + ms) q lv (v.toList ++ rest))
    (KX : ∀ (E : String) (w : Addr) (H1 : Heap), RX E H1 → H.size ≤ H1.size → (∀ q, q < H.size → ¬ A1 q → H1[q]? = H[q]?) → nwT X A Q nL H1 (k + mc) (n + ms) pc lv E w) : nwV X A Q nL H k n pc lv st := by
  obtain ⟨⟨k1, k2, k3⟩, k5⟩ := kp
  have hR := C.hR
  exact nw_fin C hA1 (fun ls locs hls hS => vx_runSN ⟨C.hx, C.hb, C.hml, C.ho, C.ht⟩ hM ⟨va_cnB np C.ht (lw_meth k3) rfl rfl rfl (C.hw (nw_tw hlink rfl)) (C.ht _ k2) k5 ⟨by rw [hR]; exact hrm.1.1, by rw [hR]; exact hrm.1.2⟩, C.ht _ k1, trivial⟩ ⟨nwPc_blind d _ H, nw_pre C _ hS⟩ rfl hnp hls hst (lv_room hw) dd ⟨by rw [hR]; exact hrm.2.1, by rw [hR]; exact hrm.2.2⟩) q hq K KX
theorem nw_callI (C : nwC d X A H0 own mn cc nL ret rm tb) {y : MethodName} {b : ByteArray} {L fr lo np i a : Nat} {A1 : Nat → Prop} {As : List Value} (hM : nwMt (nx_l X) d y b L none fr lo mc ms (.ref a :: As) H R RX A1) (kp : nwPI y b L np) (hlink : Cond.methodLink own i y ∈ lw_all) (hst : st = As.reverse ++ .ref a :: rest) (hnp : As.length = np) (hrm : (fr + 1 ≤ rm.frames ∧ 8 + (L + 11) + lo ≤ rm.locals) ∧ k + mc ≤ rm.cells ∧ n + ms ≤ rm.slots) (hw : (rest.map fun v => v.category).sum ≤ 8) (hA1 : ∀ q, q < H.size → A1 q → A q) (dd : decode cc pc = .ok (.invokespecial i, 3)) (q : Nat) (hq : pc + 3 = q)
    (K : ∀ (v : Option Value) (H1 : Heap), R v H1 → H.size ≤ H1.size → (∀ q, q < H.size → ¬ A1 q → H1[q]? = H[q]?) → nwV X A Q nL H1 (k + mc) (n + ms) q lv (v.toList ++ rest))
    (KX : ∀ (E : String) (w : Addr) (H1 : Heap), RX E H1 → H.size ≤ H1.size → (∀ q, q < H.size → ¬ A1 q → H1[q]? = H[q]?) → nwT X A Q nL H1 (k + mc) (n + ms) pc lv E w) : nwV X A Q nL H k n pc lv st := by
  obtain ⟨⟨k1, k2, k3⟩, k4, k5⟩ := kp
  have hR := C.hR
  exact nw_fin C hA1 (fun ls locs hls hS => vx_runI ⟨C.hx, C.hb, C.hml, C.ho, C.ht⟩ hM (cwI np C.ht (lw_meth k3) rfl rfl rfl (C.ht _ k1) (C.ht _ hlink) (C.ht _ k2) k4 k5 ⟨by rw [hR]; exact hrm.1.1, by rw [hR]; exact hrm.1.2⟩) ⟨nwPc_blind d _ H, nw_pre C _ hS⟩ rfl hnp hls hst (lv_room hw) dd ⟨by rw [hR]; exact hrm.2.1, by rw [hR]; exact hrm.2.2⟩) q hq K KX
theorem nw_callIN (C : nwC d X A H0 own mn cc nL ret rm tb) {y : MethodName} {b : ByteArray} {L fr lo np i a : Nat} {host : String} {A1 : Nat → Prop} {As : List Value} (hM : nwMt (nx_l X) d y b L none fr lo mc ms (.ref a :: As) H R RX A1) (kp : nwPI y b L np) (hlink : Cond.methodLinkNest own i y host ∈ lw_tbl) (hst : st = As.reverse ++ .ref a :: rest) (hnp : As.length = np) (hrm : (fr + 1 ≤ rm.frames ∧ 8 + (L + 11) + lo ≤ rm.locals) ∧ k + mc ≤ rm.cells ∧ n + ms ≤ rm.slots) (hw : (rest.map fun v => v.category).sum ≤ 8) (hA1 : ∀ q, q < H.size → A1 q → A q) (dd : decode cc pc = .ok (.invokespecial i, 3)) (q : Nat) (hq : pc + 3 = q)
    (K : ∀ (v : Option Value) (H1 : Heap), R v H1 → H.size ≤ H1.size → (∀ q, q < H.size → ¬ A1 q → H1[q]? = H[q]?) → nwV X A Q nL H1 (k + mc) (n + ms) q lv (v.toList ++ rest))
    (KX : ∀ (E : String) (w : Addr) (H1 : Heap), RX E H1 → H.size ≤ H1.size → (∀ q, q < H.size → ¬ A1 q → H1[q]? = H[q]?) → nwT X A Q nL H1 (k + mc) (n + ms) pc lv E w) : nwV X A Q nL H k n pc lv st := by
  obtain ⟨⟨k1, k2, k3⟩, k4, k5⟩ := kp
  have hR := C.hR
  exact nw_fin C hA1 (fun ls locs hls hS => vx_runIN ⟨C.hx, C.hb, C.hml, C.ho, C.ht⟩ hM ⟨va_cnB np C.ht (lw_meth k3) rfl rfl rfl (C.hw (nw_tw hlink rfl)) (C.ht _ k1) k5 ⟨by rw [hR]; exact hrm.1.1, by rw [hR]; exact hrm.1.2⟩, k4, C.ht _ k2⟩ ⟨nwPc_blind d _ H, nw_pre C _ hS⟩ rfl hnp hls hst (lv_room hw) dd ⟨by rw [hR]; exact hrm.2.1, by rw [hR]; exact hrm.2.2⟩) q hq K KX
/-- a call through an interface: of a list, or of its iterator -/
theorem nw_callF (C : nwC d X A H0 own mn cc nL ret rm tb) {y : MethodName} {b : ByteArray} {L fr lo np i a ct ci N : Nat} {r : Option FieldType} {Cn : String} {T : u_T} {x : MethodName} {A1 : Nat → Prop} {As : List Value} (hM : nwMt (nx_l X) d y b L r fr lo mc ms (.ref a :: As) H R RX A1) (kp : nwPV Cn y b L r np) (hcl : nwCl[ci]? = some (Cn, T, N)) (hlink : Cond.methodLink own i x ∈ lw_all) (hsel : Cond.selects Cn x y ∈ lw_all) (hF : (Cn, x, y) ∈ nwFaces) (hxd : x.cls ≠ "java/lang/invoke/MethodHandle" ∧ x.cls ≠ "java/lang/invoke/VarHandle" ∧ (parseMethodDescriptor x.desc).map (fun d => d.parameters.length) = some np) (hrc : nwIs (nx_s X) Cn a H) (hst : st = As.reverse ++ .ref a :: rest) (hnp : As.length = np) (hrm : (fr + 1 ≤ rm.frames ∧ 8 + (L + 11) + lo ≤ rm.locals) ∧ k + mc ≤ rm.cells ∧ n + ms ≤ rm.slots) (hw : (rest.map fun v => v.category).sum ≤ 8) (hA1 : ∀ q, q < H.size → A1 q → A q) (dd : decode cc pc = .ok (.invokeinterface i ct, 5)) (q : Nat) (hq : pc + 5 = q)
    (K : ∀ (v : Option Value) (H1 : Heap), R v H1 → H.size ≤ H1.size → (∀ q, q < H.size → ¬ A1 q → H1[q]? = H[q]?) → nwV X A Q nL H1 (k + mc) (n + ms) q lv (v.toList ++ rest))
    (KX : ∀ (E : String) (w : Addr) (H1 : Heap), RX E H1 → H.size ≤ H1.size → (∀ q, q < H.size → ¬ A1 q → H1[q]? = H[q]?) → nwT X A Q nL H1 (k + mc) (n + ms) pc lv E w) : nwV X A Q nL H k n pc lv st := by
  obtain ⟨⟨k1, k2, k3, k4⟩, k5⟩ := kp
  have hR := C.hR
  have hini : Cond.initialized y.cls ∈ lw_all := by rw [k5.1]; exact k3
  have hgood : GoodIn lw_all (va_wsF own i Cn x y (ws_ y b L r)) := lw_app (by
    intro w hw
    simp only [List.mem_cons, List.not_mem_nil, or_false] at hw
    rcases hw with e | e | e | e
    · rw [e]; exact hlink
    · rw [e]; exact hsel
    · rw [e]; exact k1
    · rw [e]; exact hini) (lw_meth k4)
  exact nw_fin5 C hA1 (fun ls locs hls hS => vx_runF (C.hK.1 ci _ hcl).2 ⟨C.hx, C.hb, C.hml, C.ho, C.ht⟩ hM (va_cwF np C.ht hgood rfl rfl rfl (C.hE.1.2.2.1 _ hF) hxd ⟨by rw [hR]; exact hrm.1.1, by rw [hR]; exact hrm.1.2⟩) ⟨nwPc_blind d _ H, hrc, nw_pre C _ hS⟩ rfl hnp hls hst (lv_room hw) dd ⟨by rw [hR]; exact hrm.2.1, by rw [hR]; exact hrm.2.2⟩) q hq K KX
/-- a call of an abstract method: the receiver's class selects y -/
theorem nw_callA (C : nwC d X A H0 own mn cc nL ret rm tb) {y : MethodName} {b : ByteArray} {L fr lo np i a : Nat} {r : Option FieldType} {Cn owner : String} {x : MethodName} {A1 : Nat → Prop} {As : List Value} (hM : nwMt (nx_l X) d y b L r fr lo mc ms (.ref a :: As) H R RX A1) (kp : nwPV y.cls y b L r np) (hlink : Cond.methodLink own i x ∈ lw_all) (hsm : Cond.sameMethod x.cls owner x.name x.desc ∈ lw_all) (hsel : Cond.selects Cn x y ∈ lw_all) (hdec : Cond.declares ⟨owner, x.name, x.desc⟩ ∈ lw_tbl) (hxd : owner ≠ "java/lang/invoke/MethodHandle" ∧ owner ≠ "java/lang/invoke/VarHandle" ∧ (parseMethodDescriptor x.desc).map (fun d => d.parameters.length) = some np) (hrc : nwIs (nx_s X) Cn a H) (hst : st = As.reverse ++ .ref a :: rest) (hnp : As.length = np) (hrm : (fr + 1 ≤ rm.frames ∧ 8 + (L + 11) + lo ≤ rm.locals) ∧ k + mc ≤ rm.cells ∧ n + ms ≤ rm.slots) (hw : (rest.map fun v => v.category).sum ≤ 8) (hA1 : ∀ q, q < H.size → A1 q → A q) (dd : decode cc pc = .ok (.invokevirtual i, 3)) (q : Nat) (hq : pc + 3 = q)
    (K : ∀ (v : Option Value) (H1 : Heap), R v H1 → H.size ≤ H1.size → (∀ q, q < H.size → ¬ A1 q → H1[q]? = H[q]?) → nwV X A Q nL H1 (k + mc) (n + ms) q lv (v.toList ++ rest))
    (KX : ∀ (E : String) (w : Addr) (H1 : Heap), RX E H1 → H.size ≤ H1.size → (∀ q, q < H.size → ¬ A1 q → H1[q]? = H[q]?) → nwT X A Q nL H1 (k + mc) (n + ms) pc lv E w) : nwV X A Q nL H k n pc lv st := by
  obtain ⟨⟨k1, k2, k3, k4⟩, k5⟩ := kp
  have hR := C.hR
  have hgood : GoodIn lw_all (va_wsU own i Cn owner x y (ws_ y b L r)) := lw_app (by
    intro w hw
    simp only [List.mem_cons, List.not_mem_nil, or_false] at hw
    rcases hw with e | e | e | e | e
    · rw [e]; exact hlink
    · rw [e]; exact hsm
    · rw [e]; exact hsel
    · rw [e]; exact k1
    · rw [e]; exact k3) (lw_meth k4)
  exact nw_fin C hA1 (fun ls locs hls hS => vx_runU ⟨C.hx, C.hb, C.hml, C.ho, C.ht⟩ hM (va_cwA np C.ht hgood rfl rfl rfl (C.hw (nw_tw hdec rfl)) hxd ⟨by rw [hR]; exact hrm.1.1, by rw [hR]; exact hrm.1.2⟩) ⟨nwPc_blind d _ H, hrc, nw_pre C _ hS⟩ rfl hnp hls hst (lv_room hw) dd ⟨by rw [hR]; exact hrm.2.1, by rw [hR]; exact hrm.2.2⟩) q hq K KX
/-- nothing is thrown -/
theorem nw_noX {A1 : Nat → Prop} {P9 : Heap → Addr → String → Prop} : ∀ (E : String) (w : Addr) (H1 : Heap), nwNo E H1 → H.size ≤ H1.size → (∀ q, q < H.size → ¬ A1 q → H1[q]? = H[q]?) → P9 H1 w E := fun _ _ _ h => h.elim
/-- behind a reader: its answer, the same heap -/
theorem nw_rdK {A1 : Nat → Prop} {r : Option Value} {q : Nat} (K : nwV X A Q nL H k n q lv (r.toList ++ rest)) : ∀ (v : Option Value) (H1 : Heap), (v = r ∧ H1 = H) → H.size ≤ H1.size → (∀ q, q < H.size → ¬ A1 q → H1[q]? = H[q]?) → nwV X A Q nL H1 (k + 0) (n + 0) q lv (v.toList ++ rest) := by
  rintro v H1 ⟨rfl, rfl⟩ _ _
  exact K
theorem nw_rdA {q : Nat} (h : q < H.size) (h2 : nwNew H q) : A q := absurd h (Nat.not_lt.mpr h2)
/-- Object's constructor -/
theorem nw_objInit (C : nwC d X A H0 own mn cc nL ret rm tb) {i a : Nat} (hlink : Cond.methodLink own i objectInit ∈ lw_all) (h2 : Cond.instanceMethod objectInit ∈ lw_all) (h3 : Cond.code objectInit ⟨#[0xb1]⟩ 1 none ∈ lw_all) (dd : decode cc pc = .ok (.invokespecial i, 3)) (hrm : 1 ≤ rm.frames ∧ 20 ≤ rm.locals) (hw : (rest.map fun v => v.category).sum ≤ 8) (q : Nat) (hq : pc + 3 = q) (K : nwV X A Q nL H k n q lv rest) : nwV X A Q nL H k n pc lv (.ref a :: rest) := by
  subst hq
  intro ls locs hl hS
  have hR := C.hR
  have h9 := lv_room (pc := pc) (ls := ls) (rest := (.ref a :: rest)) (m := nx_m X) (st := rest) hw
  exact W.objInit C.hx C.hb C.ho (C.ht _ hlink) (C.ht _ h2) (C.ht _ h3) rfl (hl.1.trans C.hml.symm) rfl dd (by rw [hR]; exact hrm.1) (by rw [hR]; omega) (K ls locs hl hS)
end NWS
