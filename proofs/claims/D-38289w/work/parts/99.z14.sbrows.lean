/-! ===== rows for StringBuilder and String: calls of inherited, overridden and super methods; bytes ===== -/
def nwPU (Cn : String) (y : MethodName) (b : ByteArray) (L : Nat) (r : Option FieldType) (np : Nat) : Prop :=
  (Cond.sameMethod y.cls y.cls y.name y.desc ∈ lw_all ∧ Cond.selects Cn y y ∈ lw_all ∧ Cond.instanceMethod y ∈ lw_all ∧ Cond.initialized y.cls ∈ lw_all ∧ Cond.code y b L r ∈ lw_all) ∧ y.cls ≠ "java/lang/invoke/MethodHandle" ∧ y.cls ≠ "java/lang/invoke/VarHandle" ∧ (parseMethodDescriptor y.desc).map (fun d => d.parameters.length) = some np
def nwPZ (own : String) (y : MethodName) (b : ByteArray) (L : Nat) (r : Option FieldType) (np : Nat) : Prop :=
  (Cond.sameMethod y.cls y.cls y.name y.desc ∈ lw_all ∧ Cond.superclass own y.cls ∈ lw_all ∧ Cond.instanceMethod y ∈ lw_all ∧ Cond.initialized y.cls ∈ lw_all ∧ Cond.code y b L r ∈ lw_all) ∧ y.name ≠ "<init>" ∧ (parseMethodDescriptor y.desc).map (fun d => d.parameters.length) = some np
def nwPO (Cn : String) (x y : MethodName) (b : ByteArray) (L : Nat) (r : Option FieldType) (np : Nat) : Prop :=
  (Cond.sameMethod x.cls x.cls x.name x.desc ∈ lw_all ∧ Cond.selects Cn x y ∈ lw_all ∧ Cond.instanceMethod x ∈ lw_all ∧ Cond.instanceMethod y ∈ lw_all ∧ Cond.initialized y.cls ∈ lw_all ∧ Cond.code y b L r ∈ lw_all ∧ ∃ b0 m0 r0, Cond.code x b0 m0 r0 ∈ lw_all) ∧ x.cls ≠ "java/lang/invoke/MethodHandle" ∧ x.cls ≠ "java/lang/invoke/VarHandle" ∧ (parseMethodDescriptor x.desc).map (fun d => d.parameters.length) = some np
section NWSB
variable {d : nwD} {X : nwX} {A : Nat → Prop} {Q : State → Prop} {nL : Nat} {H H0 : Heap} {k n pc : Nat} {lv : List (Nat × Value)} {rest st : List Value} {own mn : String} {cc : ByteArray} {ret : Option FieldType} {rm : Room} {tb : List ExceptionTableEntry} {R : Option Value → Heap → Prop} {RX : String → Heap → Prop} {mc ms : Nat}
/-- an inherited method, the class's own or private there -/
theorem nw_callU (C : nwC d X A H0 own mn cc nL ret rm tb) {y : MethodName} {b : ByteArray} {L fr lo np i a : Nat} {r : Option FieldType} {Cn : String} {A1 : Nat → Prop} {As : List Value} (hM : nwMt (nx_l X) d y b L r fr lo mc ms (.ref a :: As) H R RX A1) (kp : nwPU Cn y b L r np) (hlink : Cond.methodLink own i y ∈ lw_all) (hrc : nwIs (nx_s X) Cn a H) (hst : st = As.reverse ++ .ref a :: rest) (hnp : As.length = np) (hrm : (fr + 1 ≤ rm.frames ∧ 8 + (L + 11) + lo ≤ rm.locals) ∧ k + mc ≤ rm.cells ∧ n + ms ≤ rm.slots) (hw : (rest.map fun v => v.category).sum ≤ 8) (hA1 : ∀ q, q < H.size → A1 q → A q) (dd : decode cc pc = .ok (.invokevirtual i, 3)) (q : Nat) (hq : pc + 3 = q)
    (K : ∀ (v : Option Value) (H1 : Heap), R v H1 → H.size ≤ H1.size → (∀ q, q < H.size → ¬ A1 q → H1[q]? = H[q]?) → nwV X A Q nL H1 (k + mc) (n + ms) q lv (v.toList ++ rest))
    (KX : ∀ (E : String) (w : Addr) (H1 : Heap), RX E H1 → H.size ≤ H1.size → (∀ q, q < H.size → ¬ A1 q → H1[q]? = H[q]?) → nwT X A Q nL H1 (k + mc) (n + ms) pc lv E w) : nwV X A Q nL H k n pc lv st := by
  obtain ⟨⟨k1, k2, k3, k4, k5⟩, k6⟩ := kp
  have hR := C.hR
  have hgood : GoodIn lw_all (va_wsU own i Cn y.cls y y (ws_ y b L r)) := lw_app (by
    intro w hw
    simp only [List.mem_cons, List.not_mem_nil, or_false] at hw
    rcases hw with e | e | e | e | e
    · rw [e]; exact hlink
    · rw [e]; exact k1
    · rw [e]; exact k2
    · rw [e]; exact k3
    · rw [e]; exact k4) (lw_meth k5)
  exact nw_fin C hA1 (fun ls locs hls hS => vx_runU ⟨C.hx, C.hb, C.hml, C.ho, C.ht⟩ hM (va_cwU np C.ht hgood rfl rfl rfl rfl k6 ⟨by rw [hR]; exact hrm.1.1, by rw [hR]; exact hrm.1.2⟩) ⟨nwPc_blind d _ H, hrc, nw_pre C _ hS⟩ rfl hnp hls hst (lv_room hw) dd ⟨by rw [hR]; exact hrm.2.1, by rw [hR]; exact hrm.2.2⟩) q hq K KX
/-- an overridden method -/
theorem nw_callO (C : nwC d X A H0 own mn cc nL ret rm tb) {x y : MethodName} {b : ByteArray} {L fr lo np i a : Nat} {r : Option FieldType} {Cn : String} {A1 : Nat → Prop} {As : List Value} (hM : nwMt (nx_l X) d y b L r fr lo mc ms (.ref a :: As) H R RX A1) (kp : nwPO Cn x y b L r np) (hlink : Cond.methodLink own i x ∈ lw_all) (hrc : nwIs (nx_s X) Cn a H) (hst : st = As.reverse ++ .ref a :: rest) (hnp : As.length = np) (hrm : (fr + 1 ≤ rm.frames ∧ 8 + (L + 11) + lo ≤ rm.locals) ∧ k + mc ≤ rm.cells ∧ n + ms ≤ rm.slots) (hw : (rest.map fun v => v.category).sum ≤ 8) (hA1 : ∀ q, q < H.size → A1 q → A q) (dd : decode cc pc = .ok (.invokevirtual i, 3)) (q : Nat) (hq : pc + 3 = q)
    (K : ∀ (v : Option Value) (H1 : Heap), R v H1 → H.size ≤ H1.size → (∀ q, q < H.size → ¬ A1 q → H1[q]? = H[q]?) → nwV X A Q nL H1 (k + mc) (n + ms) q lv (v.toList ++ rest))
    (KX : ∀ (E : String) (w : Addr) (H1 : Heap), RX E H1 → H.size ≤ H1.size → (∀ q, q < H.size → ¬ A1 q → H1[q]? = H[q]?) → nwT X A Q nL H1 (k + mc) (n + ms) pc lv E w) : nwV X A Q nL H k n pc lv st := by
  obtain ⟨⟨k1, k2, k3, k4, k5, k6, b0, m0, r0, k7⟩, k8⟩ := kp
  have hR := C.hR
  have hgood : GoodIn lw_all (va_wsO own i Cn x.cls x y (ws_ y b L r)) := lw_app (by
    intro w hw
    simp only [List.mem_cons, List.not_mem_nil, or_false] at hw
    rcases hw with e | e | e | e | e | e
    · rw [e]; exact hlink
    · rw [e]; exact k1
    · rw [e]; exact k3
    · rw [e]; exact k2
    · rw [e]; exact k4
    · rw [e]; exact k5) (lw_meth k6)
  exact nw_fin C hA1 (fun ls locs hls hS => vx_runU ⟨C.hx, C.hb, C.hml, C.ho, C.ht⟩ hM (va_cwO np C.ht hgood rfl rfl rfl (b0 := b0) (m0 := m0) (r0 := r0) k7 k8 ⟨by rw [hR]; exact hrm.1.1, by rw [hR]; exact hrm.1.2⟩) ⟨nwPc_blind d _ H, hrc, nw_pre C _ hS⟩ rfl hnp hls hst (lv_room hw) dd ⟨by rw [hR]; exact hrm.2.1, by rw [hR]; exact hrm.2.2⟩) q hq K KX
/-- super.m(..) -/
theorem nw_callZ (C : nwC d X A H0 own mn cc nL ret rm tb) {y : MethodName} {b : ByteArray} {L fr lo np i a ci : Nat} {r : Option FieldType} {Cn : String} {T : u_T} {N : Nat} {A1 : Nat → Prop} {As : List Value} (hM : nwMt (nx_l X) d y b L r fr lo mc ms (.ref a :: As) H R RX A1) (kp : nwPZ own y b L r np) (hcl : nwCl[ci]? = some (Cn, T, N)) (hlink : Cond.methodLink own i y ∈ lw_all) (hrc : nwIs (nx_s X) Cn a H) (hst : st = As.reverse ++ .ref a :: rest) (hnp : As.length = np) (hrm : (fr + 1 ≤ rm.frames ∧ 8 + (L + 11) + lo ≤ rm.locals) ∧ k + mc ≤ rm.cells ∧ n + ms ≤ rm.slots) (hw : (rest.map fun v => v.category).sum ≤ 8) (hA1 : ∀ q, q < H.size → A1 q → A q) (dd : decode cc pc = .ok (.invokespecial i, 3)) (q : Nat) (hq : pc + 3 = q)
    (K : ∀ (v : Option Value) (H1 : Heap), R v H1 → H.size ≤ H1.size → (∀ q, q < H.size → ¬ A1 q → H1[q]? = H[q]?) → nwV X A Q nL H1 (k + mc) (n + ms) q lv (v.toList ++ rest))
    (KX : ∀ (E : String) (w : Addr) (H1 : Heap), RX E H1 → H.size ≤ H1.size → (∀ q, q < H.size → ¬ A1 q → H1[q]? = H[q]?) → nwT X A Q nL H1 (k + mc) (n + ms) pc lv E w) : nwV X A Q nL H k n pc lv st := by
  obtain ⟨⟨k1, k2, k3, k4, k5⟩, k6, k7⟩ := kp
  have hR := C.hR
  have hgood : GoodIn lw_all (va_wsSU own i y (ws_ y b L r)) := lw_app (by
    intro w hw
    simp only [List.mem_cons, List.not_mem_nil, or_false] at hw
    rcases hw with e | e | e | e | e
    · rw [e]; exact hlink
    · rw [e]; exact k1
    · rw [e]; exact k2
    · rw [e]; exact k3
    · rw [e]; exact k4) (lw_meth k5)
  exact nw_fin C hA1 (fun ls locs hls hS => vx_runSU (C.hK.1 ci _ hcl).2 ⟨C.hx, C.hb, C.hml, C.ho, C.ht⟩ hM (va_cwSU np C.ht hgood rfl rfl rfl ⟨k6, k7⟩ ⟨by rw [hR]; exact hrm.1.1, by rw [hR]; exact hrm.1.2⟩) ⟨nwPc_blind d _ H, hrc, nw_pre C _ hS⟩ rfl hnp hls hst (lv_room hw) dd ⟨by rw [hR]; exact hrm.2.1, by rw [hR]; exact hrm.2.2⟩) q hq K KX
theorem nw_bastN (C : nwC d X A H0 own mn cc nL ret rm tb) {a m : Nat} {f : Nat → Int32} {i : Nat} {x : Int32} (hI : nwI d a 2 m f H) (hAa : A a) (hi : i < m ∧ m < 2 ^ 31) (hx : narrow .byte (.int x) = .int x) (dd : decode cc pc = .ok (.bastore, 1)) (q : Nat) (hq : pc + 1 = q)
    (K : ∀ H1 : Heap, nwI d a 2 m (upd f i x) H1 → H1.size = H.size → (∀ q, q ≠ a → H1[q]? = H[q]?) → nwV X A Q nL H1 k n q lv rest) : nwV X A Q nL H k n pc lv (.int x :: .int (nI i) :: .ref a :: rest) :=
  nw_bast C hI hAa (vp_in_nI hi.1 hi.2) hx dd q hq (fun H1 h1 => K H1 (by rw [nI_clamp (Nat.lt_trans hi.1 hi.2)] at h1; exact h1))
theorem nw_narB : ∀ c, c < 128 → narrow .byte (.int (nI c)) = .int (nI c) := by decide +kernel
theorem nw_fitB : ∀ c, c < 128 → fits .byte (.int (nI c)) = true := by decide +kernel
theorem nw_i2bB : ∀ c, c < 128 → (nI c).toInt8.toInt32 = nI c := by decide +kernel
/-- letters -/
def nwBy (n : Nat) (f : Nat → Int32) : Prop := ∀ j, j < n → ∃ c, c < 128 ∧ f j = nI c
theorem nwBy.fit {n : Nat} {f : Nat → Int32} (h : nwBy n f) : ∀ j, j < n → fits .byte (.int (f j)) = true := fun j hj => by
  obtain ⟨c, hc, e⟩ := h j hj
  rw [e]
  exact nw_fitB c hc
/-- bytes to copy from -/
def nwSrcB (s : State) (a0 n0 : Nat) (f : Nat → Int32) (H : Heap) : Prop := ∃ scr : Cell, H[a0]? = some scr ∧ s.isArrayOf scr .byte ∧ scr.vm ≠ .unknown ∧ n0 ≤ scr.slots.size ∧ ∀ j, j < n0 → scr.slots[j]? = some (.int (f j))
theorem nwSrcB.ofI (C : nwC d X A H0 own mn cc nL ret rm tb) {a n0 : Nat} {f : Nat → Int32} (h : nwI d a 2 n0 f H) : nwSrcB (nx_s X) a n0 f H :=
  ⟨_, h, (C.hK.2 2 _ rfl).1 n0 (fun j => .int (f j)), (fun e => by cases e), (by show n0 ≤ (arrV (nd_ar d 2) n0 (fun j => Value.int (f j))).slots.size; rw [arrV_size]; exact Nat.le_refl _), fun j hj => arrV_read _ _ hj⟩
theorem nwSrcB.ofT {s : State} {t N : Nat} {f : Nat → Int32} {B : Nat → Prop} (h : va_T .byte t N (fun j => .int (f j)) B s H) : nwSrcB s t N f H := by
  obtain ⟨cell, h1, h2, h3, h4, h5, h6, h7⟩ := h
  exact ⟨cell, h1, h2, h3, h4, h6⟩
theorem nw_copyG (C : nwC d X A H0 own mn cc nL ret rm tb) {a0 a n0 n1 m dp i : Nat} {f g : Nat → Int32} (hlink : Cond.methodLink own i arraycopyName ∈ lw_all) (hw2 : Cond.native arraycopyName ∈ lw_all) (hw3 : Cond.static arraycopyName ∈ lw_all) (hw4 : Cond.initialized "java/lang/System" ∈ lw_all) (h0 : nwSrcB (nx_s X) a0 n0 f H) (h1 : nwI d a 2 n1 g H) (hAa : A a) (hn : m ≤ n0 ∧ dp + m ≤ n1 ∧ n1 < 2 ^ 20) (hby : ∀ j, j < m → fits .byte (.int (f j)) = true)
    (dd : decode cc pc = .ok (.invokestatic i, 3)) (hrm : 1 ≤ rm.frames ∧ 8 + (nativeFrameWords "java/lang/System" "arraycopy" 5 + 11) ≤ rm.locals) (hw : (rest.map fun v => v.category).sum ≤ 8) (q : Nat) (hq : pc + 3 = q)
    (K : ∀ H1 : Heap, nwI d a 2 n1 (va_cpy f g 0 dp m) H1 → H1.size = H.size → (∀ q, q ≠ a → H1[q]? = H[q]?) → nwV X A Q nL H1 k n q lv rest) : nwV X A Q nL H k n pc lv (.int (nI m) :: .int (nI dp) :: .ref a :: .int (nI 0) :: .ref a0 :: rest) := by
  subst hq
  intro ls locs hl hS T hT XS
  have hR := C.hR
  obtain ⟨scr, c0, ⟨hs6, k0, hk0, cm0, hkk0⟩, hs3, hs4, hs5⟩ := h0
  have c1 : H[a]? = some (vp_cell (nd_ar d 2) (n1, .inl g)) := h1
  obtain ⟨-, k1, hk1, cm1, hkk1⟩ := (C.hK.2 2 _ rfl).1 n1 (fun j => .int (g j))
  have hcn : (nI m).toNatClampNeg = m := nI_clamp (by omega)
  have hc0 : (nI 0).toNatClampNeg = 0 := nI_clamp (by decide)
  have hcd : (nI dp).toNatClampNeg = dp := nI_clamp (by omega)
  obtain ⟨vm', X', step⟩ := XS.arraycopy C.hx C.ho (C.ht _ hlink) (C.ht _ hw2) (C.ht _ hw3) (C.ht _ hw4) (src := a0) (dst := a) (cs := scr) (cd := vp_cell (nd_ar d 2) (n1, .inl g)) (srcPos := nI 0) (destPos := nI dp) (n := nI m) (by rw [hT]; exact c0) (by rw [hT]; exact c1)
    hs6 (fun _ h => by cases h) hs3 (fun h => by cases h) hk0 hk1 hkk0 hkk1 (by simp [refKind]) (by decide) (fun h => absurd h (Int32.not_lt.mpr (nI_pos' (by omega)))) (fun h => absurd h (Int32.not_lt.mpr (nI_pos' (by omega))))
    (by rw [nI_toInt (by decide), nI_toInt (by omega)]; omega)
    (by rw [nI_toInt (by omega), nI_toInt (by omega)]; show ¬ _ > ((arrV (nd_ar d 2) n1 (fun j => Value.int (g j))).slots.size : Int); rw [arrV_size]; omega)
    (fun vm₁ _ j hj => by
      rw [hcn] at hj
      rw [hc0, Nat.zero_add]
      have e : scr.slots.getD j .null = .int (f j) := by
        rw [Array.getD_eq_getD_getElem?, hs5 _ (by omega)]
        rfl
      refine ⟨?_, ?_⟩
      · rw [e]; exact hby j hj
      · rw [e]; exact trivial)
    (g := F0 (nx_m X) pc ls (.int (nI m) :: .int (nI dp) :: .ref a :: .int (nI 0) :: .ref a0 :: rest)) rfl (hl.1.trans C.hml.symm) (rest := rest) rfl (by rw [C.hb]; exact dd) (by rw [hR]; exact hrm.1) (by rw [hR]; show 2 * 0 + _ + _ ≤ _; omega)
  have e1 : copied scr (vp_cell (nd_ar d 2) (n1, .inl g)) (nI 0) (nI dp) (nI m) = vp_cell (nd_ar d 2) (n1, .inl (va_cpy f g 0 dp m)) := by
    have h9 := va_copiedX (fun z => Value.int z) scr (nd_ar d 2) (n0 := n0) (n1 := n1) (sp := 0) (dp := dp) (n := m) f g hs5 (by omega)
    unfold copied
    rw [hc0, hcd, hcn]
    exact h9
  rw [e1] at X' step
  have hlt : a < H.size := h1.lt
  generalize hH1 : H.setIfInBounds a (vp_cell (nd_ar d 2) (n1, .inl (va_cpy f g 0 dp m))) = H1
  have hheap : ((T.setVm vm').setCell a (vp_cell (nd_ar d 2) (n1, .inl (va_cpy f g 0 dp m)))).heap = H1 := by rw [← hH1, ← hT]; rfl
  have oq : ∀ q : Nat, q ≠ a → H1[q]? = H[q]? := fun q hq => by rw [← hH1]; simp [Array.getElem?_setIfInBounds, Ne.symm hq]
  have hz : H1.size = H.size := by rw [← hH1]; simp
  have hat : nwI d a 2 n1 (va_cpy f g 0 dp m) H1 := by show H1[a]? = _; rw [← hH1]; simp [Array.getElem?_setIfInBounds, hlt]
  have hS1 : va_S A (nx_s X).heap H1 (locs ++ (scr.stretch (nI 0).toNatClampNeg (nI m).toNatClampNeg).zipIdx.map fun q => ⟨a, (nI dp).toNatClampNeg + q.2⟩) := ⟨by rw [hz]; exact hS.1, fun q g1 g2 => by
      rw [oq q (fun e => g2 (by rw [e]; exact hAa))]
      exact hS.2.1 q g1 g2, fun q hq => by
      rcases List.mem_append.mp hq with h | h
      · exact hS.2.2 q h
      · obtain ⟨z, -, hz⟩ := List.mem_map.mp h
        rw [← hz]
        exact hAa⟩
  obtain ⟨t, a1, b1⟩ := K H1 hat hz oq ls _ hl hS1 _ hheap X'
  exact ⟨t, step t a1, b1⟩
/-- the length of a constant array; a place of it; a String constant of the reference -/
theorem nw_baldT (C : nwC d X A H0 own mn cc nL ret rm tb) {t N : Nat} {f : Nat → Int32} {i : Nat} (v : Int32) (hT : ∀ (U : State) (H9 : Heap), nwE d U H9 → va_T .byte t N (fun j => .int (f j)) (fun q => nd_B d ≤ q) U H9) (hi : i < N ∧ N < 2 ^ 31) (hv : f i = v) (dd : decode cc pc = .ok (.baload, 1)) (q : Nat) (hq : pc + 1 = q) (K : nwV X A Q nL H k n q lv (.int v :: rest)) : nwV X A Q nL H k n pc lv (.int (nI i) :: .ref t :: rest) := by
  subst hq
  exact fun ls locs hl hS => va_tb C.hx C.hb ((hT _ _ C.hE).narrow (fun q h => C.hB q h)) hS (vp_in_nI hi.1 hi.2) (by rw [nI_clamp (Nat.lt_trans hi.1 hi.2)]; exact congrArg Value.int hv) dd (K ls locs hl hS)
end NWSB
section NWSC
variable {d : nwD} {X : nwX} {A : Nat → Prop} {Q : State → Prop} {nL : Nat} {H H0 : Heap} {k n pc : Nat} {lv : List (Nat × Value)} {rest : List Value} {own mn : String} {cc : ByteArray} {ret : Option FieldType} {rm : Room} {tb : List ExceptionTableEntry}
theorem nw_ldcSW (C : nwC d X A H0 own mn cc nL ret rm tb) {i q0 : Nat} {tx : String} (hZ : vk_R own i tx q0 (nx_s X)) (dd : decode cc pc = .ok (.ldc_w i, 3)) (q : Nat) (hq : pc + 3 = q) (K : nwV X A Q nL H k n q lv (.ref q0 :: rest)) : nwV X A Q nL H k n pc lv rest := by
  subst hq
  intro ls locs hl hS T hT XS
  obtain ⟨t, a1, b1⟩ := K ls locs hl hS T hT XS
  exact ⟨t, XS.ldcStringW C.hx C.ho (text := tx) (a := q0) hZ.1 hZ.2 (g := F0 (nx_m X) pc ls rest) rfl (by rw [C.hb]; exact dd) t a1, b1⟩
theorem nw_alenC (C : nwC d X A H0 own mn cc nL ret rm tb) {t N : Nat} {f : Nat → Value} {ty : FieldType} {B : Nat → Prop} (hT : va_T ty t N f B (nx_s X) H) (dd : decode cc pc = .ok (.arraylength, 1)) (q : Nat) (hq : pc + 1 = q) (K : nwV X A Q nL H k n q lv (.int (nI N) :: rest)) : nwV X A Q nL H k n pc lv (.ref t :: rest) := by
  subst hq
  intro ls locs hl hS
  obtain ⟨cell, h1, h2, h3, h4, h5, h6, h7⟩ := hT
  exact W.alen (n := nI N) C.hx C.hb h1 h2 h5 rfl rfl dd (K ls locs hl hS)
end NWSC
/-! ===== Strings and StringBuilders in the heap ===== -/
/-- the reference's String constants, by their place -/
abbrev nwKs (d : nwD) (i : Nat) : Nat := nd_st d ([300, 316, 318, 320, 322, 324].getD i 0)
abbrev nwKn (i : Nat) : Nat := [0, 1, 1, 1, 1, 1].getD i 0
abbrev nwKb (i : Nat) : Nat → Int32 := fun j => (([[], [35], [37], [43], [58], [46]] : List (List Int32)).getD i []).getD j 0
/-- a String of n letters f, its bytes at v -/
def nwSo (d : nwD) (s v n : Nat) (f : Nat → Int32) (H : Heap) : Prop := nwO d s 18 [.ref v, .int (nI 0), .int (nI 0), .int (b2i false)] H ∧ nwI d v 2 n f H ∧ nwBy n f
def nwSs (d : nwD) (s v n : Nat) (f : Nat → Int32) (H : Heap) : Prop := (∃ i, i < 6 ∧ s = nwKs d i ∧ v = nd_st d (400 + i) ∧ n = nwKn i ∧ f = nwKb i) ∨ nwSo d s v n f H
/-- a StringBuilder of capacity 16: n letters f -/
def nwBd (d : nwD) (g ar n : Nat) (f : Nat → Int32) (H : Heap) : Prop := nwO d g 17 [.ref ar, .int (nI 0), .int (b2i false), .int (nI n)] H ∧ nwI d ar 2 16 f H ∧ nwBy n f
def nwSc (d : nwD) (U : State) (s v n : Nat) (f : Nat → Int32) (H : Heap) : Prop := va_O "java/lang/String" s (fun q => nd_B d ≤ q) U H ∧ va_OF "java/lang/String" "coder" "B" (.int (nI 0)) s (fun q => nd_B d ≤ q) U H ∧ va_OF "java/lang/String" "value" "[B" (.ref v) s (fun q => nd_B d ≤ q) U H ∧ va_T .byte v n (fun j => .int (f j)) (fun q => nd_B d ≤ q) U H
theorem nwKb_by : ∀ i, i < 6 → nwBy (nwKn i) (nwKb i) := by
  intro i hi j hj
  have key : ∀ i, i < 6 → ∀ j, j < nwKn i → nwKb i j = nI ((nwKb i j).toNatClampNeg) ∧ (nwKb i j).toNatClampNeg < 128 := by decide +kernel
  exact ⟨_, (key i hi j hj).2, (key i hi j hj).1⟩
theorem nwSs.by {d : nwD} {s v n : Nat} {f : Nat → Int32} {H : Heap} (h : nwSs d s v n f H) : nwBy n f := by
  rcases h with ⟨i, hi, -, -, rfl, rfl⟩ | h
  · exact nwKb_by i hi
  · exact h.2.2
theorem nwSs.cs {d : nwD} {U : State} {s v n : Nat} {f : Nat → Int32} {H : Heap} (hE : nwE d U H) (h : nwSs d s v n f H) : nwSc d U s v n f H ∨ nwSo d s v n f H := by
  rcases h with ⟨i, hi, rfl, rfl, rfl, rfl⟩ | h
  · obtain ⟨h1, h2, h3, h4⟩ := hE.2.2.2.2.2.2.1.2.1.1 i hi
    exact Or.inl ⟨h1, h2, h3, h4⟩
  · exact Or.inr h
theorem nwSs.n1 {d : nwD} {s v n : Nat} {f : Nat → Int32} {H : Heap} (h : nwSs d s v n f H) (hn : n < 2 ^ 20) : n < 2 ^ 31 := by omega
theorem nwSo.kp {d : nwD} {s v n : Nat} {f : Nat → Int32} {H H1 : Heap} (h : nwSo d s v n f H) (h1 : H1[s]? = H[s]?) (h2 : H1[v]? = H[v]?) : nwSo d s v n f H1 := ⟨h.1.kept h1, h.2.1.kept h2, h.2.2⟩
theorem nwBd.kp {d : nwD} {g ar n : Nat} {f : Nat → Int32} {H H1 : Heap} (h : nwBd d g ar n f H) (h1 : H1[g]? = H[g]?) (h2 : H1[ar]? = H[ar]?) : nwBd d g ar n f H1 := ⟨h.1.kept h1, h.2.1.kept h2, h.2.2⟩
theorem nw_shr0 (x : Int32) : x >>> (nI 0 &&& 31) = x := by
  rw [show (nI 0 &&& 31 : Int32) = 0 by decide, Int32.shiftRight_zero]
theorem nw_shl0 (x : Int32) : x <<< (nI 0 &&& 31) = x := by
  rw [show (nI 0 &&& 31 : Int32) = 0 by decide, Int32.shiftLeft_zero]
theorem nw_subLe {a b : Nat} (h : a ≤ b ∧ b < 2 ^ 31) : nI a - nI b ≤ 0 := by
  rw [Int32.le_iff_toInt_le, pk_sub_toInt (by omega) (by omega), Int32.toInt_zero]
  omega
theorem nwBy.push {n : Nat} {f f2 : Nat → Int32} (h : nwBy n f) (h1 : ∀ j, j < n → f2 j = f j) (h2 : ∃ c, c < 128 ∧ f2 n = nI c) : nwBy (n + 1) f2 := by
  intro j hj
  by_cases e : j = n
  · rw [e]; exact h2
  · rw [h1 j (by omega)]; exact h j (by omega)
theorem nwBy.cat {n m : Nat} {f g f2 : Nat → Int32} (h : nwBy n f) (hg : nwBy m g) (h1 : ∀ j, j < n → f2 j = f j) (h2 : ∀ j, j < m → f2 (n + j) = g j) : nwBy (n + m) f2 := by
  intro j hj
  rcases Nat.lt_or_ge j n with e | e
  · rw [h1 j e]; exact h j e
  · obtain ⟨c, hc, e2⟩ := hg (j - n) (by omega)
    refine ⟨c, hc, ?_⟩
    have e3 := h2 (j - n) (by omega)
    rw [show n + (j - n) = j by omega] at e3
    exact e3.trans e2
