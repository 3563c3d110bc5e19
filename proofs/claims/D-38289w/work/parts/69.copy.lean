/-! ===== arraycopy of boxes from the front of one array to the front of another; all other cells stay ===== -/
section NWCP
variable {d : nwD} {X : nwX} {A : Nat → Prop} {Q : State → Prop} {nL : Nat} {H H0 : Heap} {k s9 pc : Nat} {lv : List (Nat × Value)} {rest : List Value} {own mn : String} {cc : ByteArray} {ret : Option FieldType} {rm : Room} {tb : List ExceptionTableEntry}
theorem nw_copyB (C : nwC d X A H0 own mn cc nL ret rm tb) {a0 a n0 n1 n i : Nat} {f g : Nat → Option Nat} (hlink : Cond.methodLink own i arraycopyName ∈ lw_all) (hw2 : Cond.native arraycopyName ∈ lw_all) (hw3 : Cond.static arraycopyName ∈ lw_all) (hw4 : Cond.initialized "java/lang/System" ∈ lw_all) (hca : Cond.castable "java/lang/Integer" "java/lang/Object" ∈ lw_tbl) (h0 : nwR d a0 3 n0 f H) (h1 : nwR d a 3 n1 g H) (hAa : A a) (hn : n ≤ n0 ∧ n ≤ n1 ∧ n < 2 ^ 20) (hel : ∀ j, j < n → ∃ v, v < 128 ∧ f j = some (nd_bx d v))
    (dd : decode cc pc = .ok (.invokestatic i, 3)) (hrm : 1 ≤ rm.frames ∧ 8 + (nativeFrameWords "java/lang/System" "arraycopy" 5 + 11) ≤ rm.locals) (hw : (rest.map fun v => v.category).sum ≤ 8) (q : Nat) (hq : pc + 3 = q)
    (K : ∀ H1 : Heap, nwR d a 3 n1 (va_cpy f g 0 0 n) H1 → H1.size = H.size → (∀ q, q ≠ a → H1[q]? = H[q]?) → nwV X A Q nL H1 k s9 q lv rest) : nwV X A Q nL H k s9 pc lv (.int (nI n) :: .int (nI 0) :: .ref a :: .int (nI 0) :: .ref a0 :: rest) := by
  subst hq
  intro ls locs hl hS T hT XS
  have hR := C.hR
  have hE := C.Z hS
  have c0 : H[a0]? = some (vp_cell (nd_ar d 3) (n0, .inr (.inr (.inr (.inr f))))) := h0
  have c1 : H[a]? = some (vp_cell (nd_ar d 3) (n1, .inr (.inr (.inr (.inr g))))) := h1
  obtain ⟨-, k0, hk0, cm0, hkk0⟩ := (C.hK.2 3 _ rfl).1 n0 (fun j => va_rf (f j))
  obtain ⟨-, k1, hk1, cm1, hkk1⟩ := (C.hK.2 3 _ rfl).1 n1 (fun j => va_rf (g j))
  have hcn : (nI n).toNatClampNeg = n := nI_clamp (by omega)
  have hc0 : (nI 0).toNatClampNeg = 0 := nI_clamp (by decide)
  obtain ⟨vm', X', step⟩ := XS.arraycopy C.hx C.ho (C.ht _ hlink) (C.ht _ hw2) (C.ht _ hw3) (C.ht _ hw4) (src := a0) (dst := a) (cs := vp_cell (nd_ar d 3) (n0, .inr (.inr (.inr (.inr f))))) (cd := vp_cell (nd_ar d 3) (n1, .inr (.inr (.inr (.inr g))))) (srcPos := nI 0) (destPos := nI 0) (n := nI n) (by rw [hT]; exact c0) (by rw [hT]; exact c1)
    (fun _ h => by cases h) (fun _ h => by cases h) (fun h => by cases h) (fun h => by cases h) hk0 hk1 hkk0 hkk1 rfl (by decide) (by decide) (fun h => absurd h (Int32.not_lt.mpr (nI_pos' (by omega))))
    (by rw [nI_toInt (by decide), nI_toInt (by omega)]; show ¬ _ > ((arrV (nd_ar d 3) n0 (fun j => va_rf (f j))).slots.size : Int); rw [arrV_size]; omega)
    (by rw [nI_toInt (by decide), nI_toInt (by omega)]; show ¬ _ > ((arrV (nd_ar d 3) n1 (fun j => va_rf (g j))).slots.size : Int); rw [arrV_size]; omega)
    (fun vm₁ hal j hj => by
      rw [hcn] at hj
      rw [hc0, Nat.zero_add]
      obtain ⟨v, hv, hf⟩ := hel j hj
      have e : (vp_cell (nd_ar d 3) (n0, .inr (.inr (.inr (.inr f))))).slots.getD j .null = .ref (nd_bx d v) := by
        show (arrV (nd_ar d 3) n0 (fun j => va_rf (f j))).slots.getD _ _ = _
        rw [Array.getD_eq_getD_getElem?, arrV_read _ _ (by omega)]
        show va_rf (f j) = _
        rw [hf]
        rfl
      rw [e]
      obtain ⟨cellV, g1, g2, g3⟩ := hE.boxIs hv
      obtain ⟨kA, comp, r1, r2, r3, -⟩ := (C.hK.2 3 _ rfl).2
      cases hk1.symm.trans r1
      cases hkk1.symm.trans r2
      obtain ⟨kC, hkC, -⟩ := Vm.findClass_spec g3
      obtain ⟨kE, hkE, -⟩ := Vm.findClass_spec r3
      obtain ⟨kC', hkC', -⟩ := hal.2.2 _ _ hkC
      obtain ⟨kE', hkE', -⟩ := hal.2.2 _ _ hkE
      refine ⟨rfl, cellV, (show T.heap[nd_bx d v]? = some cellV by rw [hT]; exact g1), (fun q h => by rw [h] at g2; cases g2), ⟨kC', hkC'⟩, ?_, ?_⟩
      · exact ⟨kE', hkE'⟩
      · show vm₁.assignable _ _ = true
        rw [hal.assignable]
        obtain ⟨c3, c4, g4, g5, g6⟩ := Cond.castable_spec ((C.hw (nw_tw hca rfl)).use (A := nx_args X) rfl)
        cases Option.some.inj (g4.symm.trans g3)
        cases Option.some.inj (g5.symm.trans r3)
        exact g6)
    (g := F0 (nx_m X) pc ls (.int (nI n) :: .int (nI 0) :: .ref a :: .int (nI 0) :: .ref a0 :: rest)) rfl (hl.1.trans C.hml.symm) (rest := rest) rfl (by rw [C.hb]; exact dd) (by rw [hR]; exact hrm.1) (by rw [hR]; show 2 * 0 + _ + _ ≤ _; omega)
  have e1 : copied (vp_cell (nd_ar d 3) (n0, .inr (.inr (.inr (.inr f))))) (vp_cell (nd_ar d 3) (n1, .inr (.inr (.inr (.inr g))))) (nI 0) (nI 0) (nI n) = vp_cell (nd_ar d 3) (n1, .inr (.inr (.inr (.inr (va_cpy f g 0 0 n))))) := by
    rw [vp_cell_q, vp_cell_q, vp_cell_q]
    have h9 := va_copied (fun z => va_rf z) (nd_ar d 3) (nd_ar d 3) (n0 := n0) (n1 := n1) (sp := 0) (dp := 0) (n := n) f g (by omega)
    rw [← h9]
    unfold copied
    rw [hcn, hc0]
  rw [e1] at X' step
  have hlt : a < H.size := h1.lt
  generalize hH1 : H.setIfInBounds a (vp_cell (nd_ar d 3) (n1, .inr (.inr (.inr (.inr (va_cpy f g 0 0 n)))))) = H1
  have hheap : ((T.setVm vm').setCell a (vp_cell (nd_ar d 3) (n1, .inr (.inr (.inr (.inr (va_cpy f g 0 0 n))))))).heap = H1 := by rw [← hH1, ← hT]; rfl
  have oq : ∀ q : Nat, q ≠ a → H1[q]? = H[q]? := fun q hq => by rw [← hH1]; simp [Array.getElem?_setIfInBounds, Ne.symm hq]
  have hz : H1.size = H.size := by rw [← hH1]; simp
  have hat : nwR d a 3 n1 (va_cpy f g 0 0 n) H1 := by show H1[a]? = _; rw [← hH1]; simp [Array.getElem?_setIfInBounds, hlt]
  have hS1 : va_S A (nx_s X).heap H1 (locs ++ ((vp_cell (nd_ar d 3) (n0, .inr (.inr (.inr (.inr f))))).stretch (nI 0).toNatClampNeg (nI n).toNatClampNeg).zipIdx.map fun q => ⟨a, (nI 0).toNatClampNeg + q.2⟩) := ⟨by rw [hz]; exact hS.1, fun q g1 g2 => by
      rw [oq q (fun e => g2 (by rw [e]; exact hAa))]
      exact hS.2.1 q g1 g2, fun q hq => by
      rcases List.mem_append.mp hq with h | h
      · exact hS.2.2 q h
      · obtain ⟨z, -, hz⟩ := List.mem_map.mp h
        rw [← hz]
        exact hAa⟩
  obtain ⟨t, a1, b1⟩ := K H1 hat hz oq ls _ hl hS1 _ hheap X'
  exact ⟨t, step t a1, b1⟩
theorem nw_ldcM (C : nwC d X A H0 own mn cc nL ret rm tb) {i : Nat} (hlink : Cond.classLink own i "[Ljava/lang/Object;" ∈ lw_all) (dd : decode cc pc = .ok (.ldc i, 2)) (q : Nat) (hq : pc + 2 = q) (K : nwV X A Q nL H k s9 q lv (.ref (nd_st d 7) :: rest)) : nwV X A Q nL H k s9 pc lv rest := by
  subst hq
  intro ls locs hl hS
  exact va_ldcM C.hx C.hb C.ho (C.ht _ hlink) C.hE.1.2.2.2.2.2.1 dd (K ls locs hl hS)
theorem nw_getC (C : nwC d X A H0 own mn cc nL ret rm tb) {i a n : Nat} {f : Nat → Option Nat} (hlink : Cond.methodLink own i ⟨"java/lang/Object", "getClass", "()Ljava/lang/Class;"⟩ ∈ lw_all) (hI : nwR d a 3 n f H) (dd : decode cc pc = .ok (.invokevirtual i, 3)) (hrm : 1 ≤ rm.frames ∧ 22 ≤ rm.locals) (hw : (rest.map fun v => v.category).sum ≤ 8) (q : Nat) (hq : pc + 3 = q) (K : nwV X A Q nL H k s9 q lv (.ref (nd_st d 7) :: rest)) : nwV X A Q nL H k s9 pc lv (.ref a :: rest) := by
  subst hq
  intro ls locs hl hS
  have hR := C.hR
  have hc : H[a]? = some (vp_cell (nd_ar d 3) (n, .inr (.inr (.inr (.inr f))))) := hI
  exact va_getC C.hx C.hb (hl.1.trans C.hml.symm).symm C.ho (C.ht _ hlink) ((C.hw (nw_tw q2154 rfl)).use rfl) (C.ht _ q2153) (C.ht _ q916) (C.ht _ q945) C.hE.1.2.2.2.2.2.1 ⟨_, hc, rfl, va_nmO (C := "java/lang/Object") (C.hK.2 3 _ rfl).2 (by decide +kernel)⟩ (by rw [hR]; exact hrm.1) (by rw [hR]; omega) dd (K ls locs hl hS)
end NWCP
