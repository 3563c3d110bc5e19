/-! ===== rows for the law: methods with handlers, catching, the script ===== -/
def nwMtH (l : Launch) (d : nwD) (y : MethodName) (cc : ByteArray) (nL : Nat) (ret : Option FieldType) (hh : List (Nat × Nat × Nat × Nat)) (fr lo mc ms : Nat) (av : List Value) (H : Heap) (R : Option Value → Heap → Prop) (RX : String → Heap → Prop) (A : Nat → Prop) : Prop :=
  vx_Met l y (wsW_ y cc nL ret hh) { frames := fr, cells := mc, slots := ms, locals := lo } (nwPc d av H) (nwQ R A) (nwXc RX A) mc ms A
def nwPH (y : MethodName) (b : ByteArray) (L : Nat) (r : Option FieldType) (hh : List (Nat × Nat × Nat × Nat)) (np : Nat) : Prop :=
  (Cond.static y ∈ lw_all ∧ Cond.initialized y.cls ∈ lw_all ∧ Cond.codeWith y b L r hh ∈ lw_all) ∧ y.cls ≠ "java/lang/invoke/MethodHandle" ∧ y.cls ≠ "java/lang/invoke/VarHandle" ∧ (parseMethodDescriptor y.desc).map (fun d => d.parameters.length) = some np
theorem nw_startH {l : Launch} {d : nwD} {y : MethodName} {cc : ByteArray} {nL fr lo mc ms : Nat} {ret : Option FieldType} {hh : List (Nat × Nat × Nat × Nat)} {av : List Value} {H : Heap} {R : Option Value → Heap → Prop} {RX : String → Heap → Prop} {A : Nat → Prop} (own mn : String) (hfl : l.flags = flags0) (hy : plainName y.cls = true) (hown : y.cls = own) (hmn : y.name = mn) (hA : ∀ q, H.size ≤ q → A q) (hB : ∀ q, A q → nd_B d ≤ q) (hlen : (lg_sl av).length ≤ nL)
    (body : ∀ X : nwX, nwC d X A H own mn cc nL ret { frames := fr, cells := mc, slots := ms, locals := lo } (tableOf hh) → nwV X A (nwQE X R RX A mc ms) nL H 0 0 0 (lv_args 0 av) []) : nwMtH l d y cc nL ret hh fr lo mc ms av H R RX A := by
  refine vx_ofWH (cc := cc) (maxL := nL) (ret := ret) (hh := hh) hy rfl ?_
  intro p e s m args below meth c s₁ B hml hv
  obtain ⟨hargs, hE, hH⟩ := hv
  have hts := atoms_spec (ws := wsW_ y cc nL ret hh) B.pre
  have htb : c.exceptionTable.toList = tableOf hh := vx_table B (hts _ List.mem_cons_self)
  have C : nwC d (p, l, e, { frames := fr, cells := mc, slots := ms, locals := lo }, s, m, args, below, meth, c) A H own mn cc nL ret { frames := fr, cells := mc, slots := ms, locals := lo } (tableOf hh) :=
    ⟨⟨B.exec, B.bytes, hml, by rw [← hown]; exact findClass_of_methodNamed B.named, B.returns, B.notSynchronized, by rw [← hmn]; exact (name_of_methodNamed B.named B.method).1⟩, ⟨fun w h => hts w (List.mem_cons_of_mem _ h), hE, hfl, rfl, hH, htb⟩, hA, hB⟩
  have K := body _ C
  subst hargs
  have hl := lv_entry av hlen
  rw [lg_entry_eq]
  generalize (lg_sl av ++ List.replicate (nL - (lg_sl av).length) Slot.unset).toArray = ls at hl ⊢
  have K2 := K ls [] hl (by show va_S A s.heap H []; rw [hH]; exact va_S.rf)
  rw [hH]
  exact K2
section NWLW
variable {d : nwD} {X : nwX} {A : Nat → Prop} {Q : State → Prop} {nL : Nat} {H H0 : Heap} {k n pc : Nat} {lv : List (Nat × Value)} {rest st : List Value} {own mn : String} {cc : ByteArray} {ret : Option FieldType} {rm : Room} {tb : List ExceptionTableEntry} {R : Option Value → Heap → Prop} {RX : String → Heap → Prop} {mc ms : Nat}
theorem nw_callSH (C : nwC d X A H0 own mn cc nL ret rm tb) {y : MethodName} {b : ByteArray} {L fr lo np i : Nat} {r : Option FieldType} {hh : List (Nat × Nat × Nat × Nat)} {A1 : Nat → Prop} {As : List Value} (hM : nwMtH (nx_l X) d y b L r hh fr lo mc ms As H R RX A1) (kp : nwPH y b L r hh np) (hlink : Cond.methodLink own i y ∈ lw_all) (hst : st = As.reverse ++ rest) (hnp : As.length = np) (hrm : (fr + 1 ≤ rm.frames ∧ 8 + (L + 11) + lo ≤ rm.locals) ∧ k + mc ≤ rm.cells ∧ n + ms ≤ rm.slots) (hw : (rest.map fun v => v.category).sum ≤ 8) (hA1 : ∀ q, q < H.size → A1 q → A q) (dd : decode cc pc = .ok (.invokestatic i, 3)) (q : Nat) (hq : pc + 3 = q)
    (K : ∀ (v : Option Value) (H1 : Heap), R v H1 → H.size ≤ H1.size → (∀ q, q < H.size → ¬ A1 q → H1[q]? = H[q]?) → nwV X A Q nL H1 (k + mc) (n + ms) q lv (v.toList ++ rest))
    (KX : ∀ (E : String) (w : Addr) (H1 : Heap), RX E H1 → H.size ≤ H1.size → (∀ q, q < H.size → ¬ A1 q → H1[q]? = H[q]?) → nwT X A Q nL H1 (k + mc) (n + ms) pc lv E w) : nwV X A Q nL H k n pc lv st := by
  obtain ⟨⟨k1, k2, k3⟩, k5⟩ := kp
  have hR := C.hR
  exact nw_fin C hA1 (fun ls locs hls hS => vx_runSX ⟨C.hx, C.hb, C.hml, C.ho, C.ht⟩ hM (vx_cwSW np C.ht (lw_SW hlink k1 k2 k3) rfl rfl rfl k5 ⟨by rw [hR]; exact hrm.1.1, by rw [hR]; exact hrm.1.2⟩) ⟨nwPc_blind d _ H, nw_pre C _ hS⟩ rfl hnp hls hst (lv_room hw) dd ⟨by rw [hR]; exact hrm.2.1, by rw [hR]; exact hrm.2.2⟩) q hq K KX
/-- what is thrown is caught -/
theorem nw_catch (C : nwC d X A H0 own mn cc nL ret rm tb) {name E : String} {q : Addr} (pre suf : List ExceptionTableEntry) (x : ExceptionTableEntry) (hsplit : tb = pre ++ x :: suf) (hpass : ∀ z ∈ pre, covers z pc = false ∨ (z.catchType ≠ 0 ∧ ∃ nm : String, Cond.classLink own z.catchType nm ∈ lw_all ∧ va_Nc E nm (nx_s X))) (hx : covers x pc = true) (h0 : x.catchType ≠ 0) (hlink : Cond.classLink own x.catchType name ∈ lw_all) (hcast : Cond.castable E name ∈ lw_tbl) (t : Nat) (ht : x.handlerPc = t) (K : nwV X A Q nL H k n t lv [.ref q]) : nwT X A Q nL H k n pc lv E q := by
  subst ht
  intro ls locs rest ce hl hS hcell hv hcl
  exact vx_catch C.ho pre x suf (C.htb.trans hsplit) (fun z hz => (hpass z hz).imp id (fun ⟨h1, nm, h2, h3⟩ => ⟨h1, nm, C.ht _ h2, h3⟩)) hx h0 (C.ht _ hlink) ((C.hw (nw_tw hcast rfl)).use rfl) hcell hv hcl (K ls locs hl hS)
/-- the law's own script -/
theorem nw_sld (C : nwC d X A H0 own mn cc nL ret rm tb) {b L : Nat} {xs : Nat → Int32} {i : Nat} (hX : va_X b L xs (nx_s X) (nx_s X).heap) (hbl : b < (nx_s X).heap.size) (hbA : ¬ A b) (hi : i < L ∧ L < 2 ^ 31) (dd : decode cc pc = .ok (.iaload, 1)) (q : Nat) (hq : pc + 1 = q) (K : nwV X A Q nL H k n q lv (.int (xs i) :: rest)) : nwV X A Q nL H k n pc lv (.int (nI i) :: .ref b :: rest) := by
  subst hq
  intro ls locs hl hS
  refine va_sld C.hx C.hb hX hbl hbA hS (vp_in_nI hi.1 hi.2) dd ?_
  rw [nI_clamp (Nat.lt_trans hi.1 hi.2)]
  exact K ls locs hl hS
theorem nw_slen (C : nwC d X A H0 own mn cc nL ret rm tb) {b L : Nat} {xs : Nat → Int32} (hX : va_X b L xs (nx_s X) (nx_s X).heap) (hbl : b < (nx_s X).heap.size) (hbA : ¬ A b) (dd : decode cc pc = .ok (.arraylength, 1)) (q : Nat) (hq : pc + 1 = q) (K : nwV X A Q nL H k n q lv (.int (nI L) :: rest)) : nwV X A Q nL H k n pc lv (.ref b :: rest) := by
  subst hq
  exact fun ls locs hl hS => va_slen C.hx C.hb hX hbl hbA hS dd (K ls locs hl hS)
end NWLW
/-! ===== both worlds side by side: one 'ro' for all ===== -/
section NWMV
variable {d : nwD} {ro ro' ad am : Nat → Nat} {H H1 : Heap}
theorem nwWR.mv {x : Nat} {s : spSg} {sm : Int64} (h : nwWR d ro ad x s sm H) (hok : roOk d ro' H1) (hro : ∀ q, ro q ≠ 0 → ro' q = ro q) (hq : ∀ q, q < H.size → (1 ≤ rp (ro q) ∧ rp (ro q) ≤ 10) → H1[q]? = H[q]?) : nwWR d ro' ad x s sm H1 := by
  obtain ⟨h0, h1, h2, h3, h4, h5, h6, h7, h8, h9, h10⟩ := h
  have go : ∀ p, 1 ≤ p → p ≤ 10 → ∀ q, q < H.size → rp (ro q) = p → H1[q]? = H[q]? := fun p hp hp2 q g e => hq q g (by omega)
  refine ⟨hok, ⟨h1.1.kept (hq x h1.1.lt (by rw [h1.2]; decide +kernel)), nw_rt hro h1.2 (by decide)⟩, h2.go hro (fun _ _ => rfl) (go 2 (by decide) (by decide)), h3.go hro (fun _ _ => rfl) (go 3 (by decide) (by decide)), h4.go hro (fun _ _ => rfl) (go 4 (by decide) (by decide)), h5.go hro (fun _ _ => rfl) (go 5 (by decide) (by decide)), h6.go hro (fun _ _ => rfl) (go 6 (by decide) (by decide)), h7.go hro (fun _ _ => rfl) (go 7 (by decide) (by decide)), h8.go hro (fun _ _ => rfl) (go 8 (by decide) (by decide)), h9.go hro (fun _ _ => rfl) (go 9 (by decide) (by decide)), h10.go hro (fun _ _ => rfl) (go 10 (by decide) (by decide))⟩
theorem nwMW.mv {y : Nat} {s : spSg} {th : Int32} (h : nwMW d ro am y s th H) (hok : roOk d ro' H1) (hro : ∀ q, ro q ≠ 0 → ro' q = ro q) (hq : ∀ q, q < H.size → (21 ≤ rp (ro q) ∧ rp (ro q) ≤ 30) → H1[q]? = H[q]?) : nwMW d ro' am y s th H1 := by
  obtain ⟨h0, h1, h2, h3, h4, h5, h6, h7, h8, h9, h10⟩ := h
  have go : ∀ p, 21 ≤ p → p ≤ 30 → ∀ q, q < H.size → rp (ro q) = p → H1[q]? = H[q]? := fun p hp hp2 q g e => hq q g (by omega)
  refine ⟨hok, ⟨h1.1.kept (hq y h1.1.lt (by rw [h1.2]; decide +kernel)), nw_rt hro h1.2 (by decide)⟩, h2.go hro (fun _ _ => rfl) (go 22 (by decide) (by decide)), h3.go hro (fun _ _ => rfl) (go 23 (by decide) (by decide)), h4.go hro (fun _ _ => rfl) (go 24 (by decide) (by decide)), h5.go hro (fun _ _ => rfl) (go 25 (by decide) (by decide)), h6.go hro (fun _ _ => rfl) (go 26 (by decide) (by decide)), h7.go hro (fun _ _ => rfl) (go 27 (by decide) (by decide)), h8.go hro (fun _ _ => rfl) (go 28 (by decide) (by decide)), h9.go hro (fun _ _ => rfl) (go 29 (by decide) (by decide)), h10.go hro (fun _ _ => rfl) (go 30 (by decide) (by decide))⟩
end NWMV
