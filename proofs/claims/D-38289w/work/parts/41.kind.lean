/-! ===== the kinds of ground ===== -/
def sp_sign (k : Nat) : Nat := if k = 0 then 46 else if k = 1 then 35 else if k = 2 then 37 else 43
def nwPI2 (y : MethodName) (b : ByteArray) (L : Nat) (r : Option FieldType) (_ : Nat) : Prop := Cond.instanceMethod y ∈ lw_all ∧ Cond.initialized y.cls ∈ lw_all ∧ Cond.code y b L r ∈ lw_all
section NWCU
variable {d : nwD} {X : nwX} {A : Nat → Prop} {Q : State → Prop} {nL : Nat} {H H0 : Heap} {k n pc : Nat} {lv : List (Nat × Value)} {rest st : List Value} {own mn : String} {cc : ByteArray} {ret : Option FieldType} {rm : Room} {tb : List ExceptionTableEntry} {R : Option Value → Heap → Prop} {RX : String → Heap → Prop} {mc ms : Nat}
/-- a call of an inherited method -/
theorem nw_callU (C : nwC d X A H0 own mn cc nL ret rm tb) {y : MethodName} {b : ByteArray} {L fr lo np i a : Nat} {r : Option FieldType} {Cn owner : String} {x : MethodName} {A1 : Nat → Prop} {As : List Value} (hM : nwMt (nx_l X) d y b L r fr lo mc ms (.ref a :: As) H R RX A1) (kp : nwPI2 y b L r np) (hlink : Cond.methodLink own i x ∈ lw_all) (hsm : Cond.sameMethod x.cls owner x.name x.desc ∈ lw_all) (hsel : Cond.selects Cn x y ∈ lw_all) (hyx : y = ⟨owner, x.name, x.desc⟩) (hxd : owner ≠ "java/lang/invoke/MethodHandle" ∧ owner ≠ "java/lang/invoke/VarHandle" ∧ (parseMethodDescriptor x.desc).map (fun d => d.parameters.length) = some np) (hrc : nwIs (nx_s X) Cn a H) (hst : st = As.reverse ++ .ref a :: rest) (hnp : As.length = np) (hrm : (fr + 1 ≤ rm.frames ∧ 8 + (L + 11) + lo ≤ rm.locals) ∧ k + mc ≤ rm.cells ∧ n + ms ≤ rm.slots) (hw : (rest.map fun v => v.category).sum ≤ 8) (hA1 : ∀ q, q < H.size → A1 q → A q) (dd : decode cc pc = .ok (.invokevirtual i, 3)) (q : Nat) (hq : pc + 3 = q)
    (K : ∀ (v : Option Value) (H1 : Heap), R v H1 → H.size ≤ H1.size → (∀ q, q < H.size → ¬ A1 q → H1[q]? = H[q]?) → nwV X A Q nL H1 (k + mc) (n + ms) q lv (v.toList ++ rest))
    (KX : ∀ (E : String) (w : Addr) (H1 : Heap), RX E H1 → H.size ≤ H1.size → (∀ q, q < H.size → ¬ A1 q → H1[q]? = H[q]?) → nwT X A Q nL H1 (k + mc) (n + ms) pc lv E w) : nwV X A Q nL H k n pc lv st := by
  obtain ⟨k1, k3, k4⟩ := kp
  have hR := C.hR
  have hgood : GoodIn lw_all (va_wsU own i Cn owner x y (ws_ y b L r)) := lw_app (by
    intro w hw
    simp only [List.mem_cons, List.not_mem_nil, or_false] at hw
    rcases hw with e | e | e | e | e
    · rw [e]; exact hlink
    · rw [e]; exact hsm
    · rw [e]; exact hsel
    · rw [e]; exact k1
    · rw [e]; exact k3) (lw_meth k4)
  exact nw_fin C hA1 (fun ls locs hls hS => vx_runU ⟨C.hx, C.hb, C.hml, C.ho, C.ht⟩ hM (va_cwU np C.ht hgood rfl rfl rfl hyx hxd ⟨by rw [hR]; exact hrm.1.1, by rw [hR]; exact hrm.1.2⟩) ⟨nwPc_blind d _ H, hrc, nw_pre C _ hS⟩ rfl hnp hls hst (lv_room hw) dd ⟨by rw [hR]; exact hrm.2.1, by rw [hR]; exact hrm.2.2⟩) q hq K KX
/-- a call of an abstract method without arguments, whose body hands back a number: the receiver's class selects y, whose class the tables don't call initialised -/
theorem nw_callA0 (C : nwC d X A H0 own mn cc nL ret rm tb) {y : MethodName} {b : ByteArray} {L fr lo i a : Nat} {r : Option FieldType} {Cn owner : String} {x : MethodName} {v0 : Int32} (hy : plainName y.cls = true) (hM : niBody (nx_l X) y b L r { frames := fr, cells := 0, slots := 0, locals := lo } (nwPc d [.ref a] H) (nwQ (fun v H1 => v = some (.int v0) ∧ H1 = H) (nwNew H)) (nwNew H)) (kc : Cond.code y b L r ∈ lw_all) (ki : Cond.instanceMethod y ∈ lw_all) (hlink : Cond.methodLink own i x ∈ lw_all) (hsm : Cond.sameMethod x.cls owner x.name x.desc ∈ lw_all) (hsel : Cond.selects Cn x y ∈ lw_all) (hdec : Cond.declares ⟨owner, x.name, x.desc⟩ ∈ lw_tbl) (hxd : owner ≠ "java/lang/invoke/MethodHandle" ∧ owner ≠ "java/lang/invoke/VarHandle" ∧ (parseMethodDescriptor x.desc).map (fun d => d.parameters.length) = some 0) (hrc : nwIs (nx_s X) Cn a H) (hrm : (fr + 1 ≤ rm.frames ∧ 8 + (L + 11) + lo ≤ rm.locals) ∧ k ≤ rm.cells ∧ n ≤ rm.slots) (hw : (rest.map fun v => v.category).sum ≤ 8) (dd : decode cc pc = .ok (.invokevirtual i, 3)) (q : Nat) (hq : pc + 3 = q)
    (K : nwV X A Q nL H k n q lv (.int v0 :: rest)) : nwV X A Q nL H k n pc lv (.ref a :: rest) := by
  have hR := C.hR
  refine nw_fin (R := fun v H1 => v = some (.int v0) ∧ H1 = H) (RX := nwNo) (mc := 0) (ms := 0) (rest := rest) (A1 := nwNew H) (a := #[.ref a]) C (fun _ h8 h9 => nw_rdA h8 h9) (fun ls locs hls hS => ?_) q hq (nw_rdK K) nw_noX
  have hK : vx_Back (nx_l X) (nx_R X) (nx_p X) (nx_e X) (nx_below X) (nx_s X) (nx_args X) y 3 8 (PreOf (nx_R X) 0 0 (nwPc d [.ref a] H)) (PostOf (nwQ (fun v H1 => v = some (.int v0) ∧ H1 = H) (nwNew H)) 0 0 (nwNew H)) (vx_Post (nwXc nwNo (nwNew H)) 0 0 (nwNew H)) :=
    ni_back hy hM (nwPc_blind d _ H) rfl rfl (by rw [hR]; exact hrm.1.1) (by rw [hR]; exact hrm.1.2) (fun a' U hW => word_at hW (good_of_word (List.mem_filter.mp kc).2) (C.ht _ kc))
  obtain ⟨cellB, hcB, hoB, hclB⟩ := hrc
  intro T hT XS
  rcases vx_callVU XS C.hx (C := Cn) (owner := owner) (bytes := b) (maxL := L) (ret := r) C.ho (C.ht _ hlink) (C.ht _ hsm) (va_Decl.abs (C.hw (nw_tw hdec rfl))) ⟨hxd.1, hxd.2.1⟩ (C.ht _ hsel) (C.ht _ ki) (C.ht _ kc) hK (by rw [hT]; exact hcB) hoB hclB (g := F0 (nx_m X) pc ls (.ref a :: rest)) rfl (hls.trans C.hml.symm) (argsL := []) (rest := rest) (fun sig h => by have h2 := hxd.2.2; rw [h] at h2; exact (Option.some.inj h2).symm) rfl (lv_room hw) (by rw [C.hb]; exact dd)
    (fun vm₁ hW₁ => ⟨by rw [hR]; exact hrm.2.1, by rw [hR]; exact hrm.2.2, nw_pre C _ hS (T.setVm vm₁) hT hW₁⟩) with ⟨v, vm₁, ⟨U', l2, c2, s2⟩, hW₁, X', ⟨g', mk, t, L, e1, e2, hq, h1, hL, h2, h3⟩, st⟩ | ⟨q, vm₁, ⟨U', l2, c2, s2⟩, hW₁, X', ⟨g', mk, t, L, E, ce, e1, e2, hq, hce, hcv, hcl, h1, hL, h2, h3⟩, st⟩
  · dsimp only [Pt.U, Pt.locs, Pt.cells, Pt.slots] at X' e1 e2 h1 h2 h3 st
    subst h1; subst h2; subst h3
    exact Or.inl ⟨v, (T.setVm vm₁).calling g' mk (#[.ref a]), t, U', L, hT, X', hL, e1, e2, hq, st⟩
  · exact hq.1.elim
end NWCU
theorem kX7_number : nwPI2 yX7_number cX7_number 1 (some .int) 0 := ⟨q560, q103, q566⟩
theorem kX7_of : nwPS yX7_of cX7_of 1 (some (.object "NightwatchWall$Kind")) 1 := ⟨⟨q851, q103, q852⟩, by decide +kernel, by decide +kernel, by decide +kernel⟩
theorem mX15_isOpaque (l : Launch) (d : nwD) (g : Nat) (H : Heap) : niBody l yX15_isOpaque cX15_isOpaque 1 (some .boolean) { frames := 1, cells := 0, slots := 0, locals := 20 } (nwPc d [.ref g] H) (nwQ (fun v H1 => v = some (.int (b2i false)) ∧ H1 = H) (nwNew H)) (nwNew H) := by
  intro p e s m args below meth c X hx hb hml hr hlocks hv
  obtain ⟨rfl, hE, hH⟩ := hv
  rw [lg_entry_eq]
  refine lv_iconst (v := b2i false) hx hb dX15_isOpaque_0 (by decide) ?_
  exact W.zret (ty := .boolean) hx hb hr (by first | exact b2i_narrow _ | decide) (fun t ht hW => ⟨⟨_, rfl, rfl, ht.trans hH⟩, by rw [ht]; exact Nat.le_refl _, fun q _ _ => by rw [ht]⟩) (fun q hq => by cases hq) dX15_isOpaque_1
theorem mX15_sign (l : Launch) (d : nwD) (g : Nat) (H : Heap) : niBody l yX15_sign cX15_sign 1 (some .char) { frames := 1, cells := 0, slots := 0, locals := 20 } (nwPc d [.ref g] H) (nwQ (fun v H1 => v = some (.int (nI 46)) ∧ H1 = H) (nwNew H)) (nwNew H) := by
  intro p e s m args below meth c X hx hb hml hr hlocks hv
  obtain ⟨rfl, hE, hH⟩ := hv
  rw [lg_entry_eq]
  refine lv_bipush (v := nI 46) hx hb dX15_sign_0 (by decide) ?_
  exact W.zret (ty := .char) hx hb hr (by first | exact b2i_narrow _ | decide) (fun t ht hW => ⟨⟨_, rfl, rfl, ht.trans hH⟩, by rw [ht]; exact Nat.le_refl _, fun q _ _ => by rw [ht]⟩) (fun q hq => by cases hq) dX15_sign_2
theorem mX16_isOpaque (l : Launch) (d : nwD) (g : Nat) (H : Heap) : niBody l yX16_isOpaque cX16_isOpaque 1 (some .boolean) { frames := 1, cells := 0, slots := 0, locals := 20 } (nwPc d [.ref g] H) (nwQ (fun v H1 => v = some (.int (b2i true)) ∧ H1 = H) (nwNew H)) (nwNew H) := by
  intro p e s m args below meth c X hx hb hml hr hlocks hv
  obtain ⟨rfl, hE, hH⟩ := hv
  rw [lg_entry_eq]
  refine lv_iconst (v := b2i true) hx hb dX16_isOpaque_0 (by decide) ?_
  exact W.zret (ty := .boolean) hx hb hr (by first | exact b2i_narrow _ | decide) (fun t ht hW => ⟨⟨_, rfl, rfl, ht.trans hH⟩, by rw [ht]; exact Nat.le_refl _, fun q _ _ => by rw [ht]⟩) (fun q hq => by cases hq) dX16_isOpaque_1
theorem mX16_sign (l : Launch) (d : nwD) (g : Nat) (H : Heap) : niBody l yX16_sign cX16_sign 1 (some .char) { frames := 1, cells := 0, slots := 0, locals := 20 } (nwPc d [.ref g] H) (nwQ (fun v H1 => v = some (.int (nI 35)) ∧ H1 = H) (nwNew H)) (nwNew H) := by
  intro p e s m args below meth c X hx hb hml hr hlocks hv
  obtain ⟨rfl, hE, hH⟩ := hv
  rw [lg_entry_eq]
  refine lv_bipush (v := nI 35) hx hb dX16_sign_0 (by decide) ?_
  exact W.zret (ty := .char) hx hb hr (by first | exact b2i_narrow _ | decide) (fun t ht hW => ⟨⟨_, rfl, rfl, ht.trans hH⟩, by rw [ht]; exact Nat.le_refl _, fun q _ _ => by rw [ht]⟩) (fun q hq => by cases hq) dX16_sign_2
theorem mX17_isOpaque (l : Launch) (d : nwD) (g : Nat) (H : Heap) : niBody l yX17_isOpaque cX17_isOpaque 1 (some .boolean) { frames := 1, cells := 0, slots := 0, locals := 20 } (nwPc d [.ref g] H) (nwQ (fun v H1 => v = some (.int (b2i true)) ∧ H1 = H) (nwNew H)) (nwNew H) := by
  intro p e s m args below meth c X hx hb hml hr hlocks hv
  obtain ⟨rfl, hE, hH⟩ := hv
  rw [lg_entry_eq]
  refine lv_iconst (v := b2i true) hx hb dX17_isOpaque_0 (by decide) ?_
  exact W.zret (ty := .boolean) hx hb hr (by first | exact b2i_narrow _ | decide) (fun t ht hW => ⟨⟨_, rfl, rfl, ht.trans hH⟩, by rw [ht]; exact Nat.le_refl _, fun q _ _ => by rw [ht]⟩) (fun q hq => by cases hq) dX17_isOpaque_1
theorem mX17_sign (l : Launch) (d : nwD) (g : Nat) (H : Heap) : niBody l yX17_sign cX17_sign 1 (some .char) { frames := 1, cells := 0, slots := 0, locals := 20 } (nwPc d [.ref g] H) (nwQ (fun v H1 => v = some (.int (nI 37)) ∧ H1 = H) (nwNew H)) (nwNew H) := by
  intro p e s m args below meth c X hx hb hml hr hlocks hv
  obtain ⟨rfl, hE, hH⟩ := hv
  rw [lg_entry_eq]
  refine lv_bipush (v := nI 37) hx hb dX17_sign_0 (by decide) ?_
  exact W.zret (ty := .char) hx hb hr (by first | exact b2i_narrow _ | decide) (fun t ht hW => ⟨⟨_, rfl, rfl, ht.trans hH⟩, by rw [ht]; exact Nat.le_refl _, fun q _ _ => by rw [ht]⟩) (fun q hq => by cases hq) dX17_sign_2
theorem mX18_isOpaque (l : Launch) (d : nwD) (g : Nat) (H : Heap) : niBody l yX18_isOpaque cX18_isOpaque 1 (some .boolean) { frames := 1, cells := 0, slots := 0, locals := 20 } (nwPc d [.ref g] H) (nwQ (fun v H1 => v = some (.int (b2i false)) ∧ H1 = H) (nwNew H)) (nwNew H) := by
  intro p e s m args below meth c X hx hb hml hr hlocks hv
  obtain ⟨rfl, hE, hH⟩ := hv
  rw [lg_entry_eq]
  refine lv_iconst (v := b2i false) hx hb dX18_isOpaque_0 (by decide) ?_
  exact W.zret (ty := .boolean) hx hb hr (by first | exact b2i_narrow _ | decide) (fun t ht hW => ⟨⟨_, rfl, rfl, ht.trans hH⟩, by rw [ht]; exact Nat.le_refl _, fun q _ _ => by rw [ht]⟩) (fun q hq => by cases hq) dX18_isOpaque_1
theorem mX18_sign (l : Launch) (d : nwD) (g : Nat) (H : Heap) : niBody l yX18_sign cX18_sign 1 (some .char) { frames := 1, cells := 0, slots := 0, locals := 20 } (nwPc d [.ref g] H) (nwQ (fun v H1 => v = some (.int (nI 43)) ∧ H1 = H) (nwNew H)) (nwNew H) := by
  intro p e s m args below meth c X hx hb hml hr hlocks hv
  obtain ⟨rfl, hE, hH⟩ := hv
  rw [lg_entry_eq]
  refine lv_bipush (v := nI 43) hx hb dX18_sign_0 (by decide) ?_
  exact W.zret (ty := .char) hx hb hr (by first | exact b2i_narrow _ | decide) (fun t ht hW => ⟨⟨_, rfl, rfl, ht.trans hH⟩, by rw [ht]; exact Nat.le_refl _, fun q _ _ => by rw [ht]⟩) (fun q hq => by cases hq) dX18_sign_2
set_option maxHeartbeats 4000000 in
theorem mX7_number (l : Launch) (hf : l.flags = flags0) (d : nwD) (kk : Nat) (H : Heap) (hB : nd_B d ≤ H.size) (hk : kk < 4) : nwRd l d yX7_number cX7_number 1 (some .int) 1 20 [.ref (nd_st d kk)] H (some (.int (nI kk))) := by
  refine nw_rd "NightwatchWall$Kind" "number" hf (by decide +kernel) rfl rfl hB (Nat.le_of_ble_eq_true rfl) ?_
  intro X C
  show nwV X _ _ 1 H 0 0 0 [(0, .ref (nd_st d kk))] []
  refine nw_aload_n C 0 dX7_number_0 rfl 1 rfl ?_
  refine nw_gets C (v := .ref (nd_st d 0)) (fun _ _ h9 => h9.2.2.1.1) q567 dX7_number_1 4 rfl ?_
  refine nw_acmpne C 11 dX7_number_4 (by decide) 7 rfl (fun h1 => ?_) (fun h1 => ?_)
  · refine nw_aload_n C 0 dX7_number_11 rfl 12 rfl ?_
    refine nw_gets C (v := .ref (nd_st d 1)) (fun _ _ h9 => h9.2.2.1.2.1) q569 dX7_number_12 15 rfl ?_
    refine nw_acmpne C 22 dX7_number_15 (by decide) 18 rfl (fun h2 => ?_) (fun h2 => ?_)
    · refine nw_aload_n C 0 dX7_number_22 rfl 23 rfl ?_
      refine nw_gets C (v := .ref (nd_st d 2)) (fun _ _ h9 => h9.2.2.1.2.2.1) q570 dX7_number_23 26 rfl ?_
      refine nw_acmpne C 33 dX7_number_26 (by decide) 29 rfl (fun h3 => ?_) (fun h3 => ?_)
      · refine nw_iconst C (nI 3) dX7_number_33 (by decide) 34 rfl ?_
        exact nw_iret C dX7_number_34 (Nat.le_refl _) (Nat.le_refl _) ⟨congrArg (fun z => some (Value.int (nI z))) (show (3) = (kk) from (by
              have n0 : ¬ kk = 0 := fun e => h1 (by rw [e])
              have n1 : ¬ kk = 1 := fun e => h2 (by rw [e])
              have n2 : ¬ kk = 2 := fun e => h3 (by rw [e])
              omega)), rfl⟩
      · refine nw_iconst C (nI 2) dX7_number_29 (by decide) 30 rfl ?_
        refine nw_goto C 34 dX7_number_30 (by decide) ?_
        exact nw_iret C dX7_number_34 (Nat.le_refl _) (Nat.le_refl _) ⟨congrArg (fun z => some (Value.int (nI z))) (show (2) = (kk) from (C.stj hk (by decide) h3).symm), rfl⟩
    · refine nw_iconst C (nI 1) dX7_number_18 (by decide) 19 rfl ?_
      refine nw_goto C 34 dX7_number_19 (by decide) ?_
      exact nw_iret C dX7_number_34 (Nat.le_refl _) (Nat.le_refl _) ⟨congrArg (fun z => some (Value.int (nI z))) (show (1) = (kk) from (C.stj hk (by decide) h2).symm), rfl⟩
  · refine nw_iconst C (nI 0) dX7_number_7 (by decide) 8 rfl ?_
    refine nw_goto C 34 dX7_number_8 (by decide) ?_
    exact nw_iret C dX7_number_34 (Nat.le_refl _) (Nat.le_refl _) ⟨congrArg (fun z => some (Value.int (nI z))) (show (0) = (kk) from (C.stj hk (by decide) h1).symm), rfl⟩
set_option maxHeartbeats 4000000 in
theorem mX7_of (l : Launch) (hf : l.flags = flags0) (d : nwD) (kk : Nat) (H : Heap) (hB : nd_B d ≤ H.size) (hk : kk < 4) : nwRd l d yX7_of cX7_of 1 (some (.object "NightwatchWall$Kind")) 1 20 [.int (nI kk)] H (some (.ref (nd_st d kk))) := by
  refine nw_rd "NightwatchWall$Kind" "of" hf (by decide +kernel) rfl rfl hB (Nat.le_of_ble_eq_true rfl) ?_
  intro X C
  show nwV X _ _ 1 H 0 0 0 [(0, .int (nI kk))] []
  refine nw_iload_n C 0 dX7_of_0 rfl 1 rfl ?_
  refine nw_ifneN C (by omega) 10 dX7_of_1 (by decide) 4 rfl (fun h1 => ?_) (fun h1 => ?_)
  · refine nw_iload_n C 0 dX7_of_10 rfl 11 rfl ?_
    refine nw_iconst C (nI 1) dX7_of_11 (by decide) 12 rfl ?_
    refine nw_icmpneN C (by omega) 21 dX7_of_12 (by decide) 15 rfl (fun h2 => ?_) (fun h2 => ?_)
    · refine nw_iload_n C 0 dX7_of_21 rfl 22 rfl ?_
      refine nw_iconst C (nI 2) dX7_of_22 (by decide) 23 rfl ?_
      refine nw_icmpneN C (by omega) 32 dX7_of_23 (by decide) 26 rfl (fun h3 => ?_) (fun h3 => ?_)
      · refine nw_gets C (v := .ref (nd_st d 3)) (fun _ _ h9 => h9.2.2.1.2.2.2) q853 dX7_of_32 35 rfl ?_
        exact nw_aret C (Or.inl ⟨_, rfl⟩) dX7_of_35 (Nat.le_refl _) (Nat.le_refl _) ⟨congrArg (fun z => some (Value.ref z)) (show (nd_st d 3) = (nd_st d kk) from by rw [show kk = 3 by omega]), rfl⟩
      · refine nw_gets C (v := .ref (nd_st d 2)) (fun _ _ h9 => h9.2.2.1.2.2.1) q570 dX7_of_26 29 rfl ?_
        refine nw_goto C 35 dX7_of_29 (by decide) ?_
        exact nw_aret C (Or.inl ⟨_, rfl⟩) dX7_of_35 (Nat.le_refl _) (Nat.le_refl _) ⟨congrArg (fun z => some (Value.ref z)) (show (nd_st d 2) = (nd_st d kk) from by rw [show kk = 2 by omega]), rfl⟩
    · refine nw_gets C (v := .ref (nd_st d 1)) (fun _ _ h9 => h9.2.2.1.2.1) q569 dX7_of_15 18 rfl ?_
      refine nw_goto C 35 dX7_of_18 (by decide) ?_
      exact nw_aret C (Or.inl ⟨_, rfl⟩) dX7_of_35 (Nat.le_refl _) (Nat.le_refl _) ⟨congrArg (fun z => some (Value.ref z)) (show (nd_st d 1) = (nd_st d kk) from by rw [show kk = 1 by omega]), rfl⟩
  · refine nw_gets C (v := .ref (nd_st d 0)) (fun _ _ h9 => h9.2.2.1.1) q567 dX7_of_4 7 rfl ?_
    refine nw_goto C 35 dX7_of_7 (by decide) ?_
    exact nw_aret C (Or.inl ⟨_, rfl⟩) dX7_of_35 (Nat.le_refl _) (Nat.le_refl _) ⟨congrArg (fun z => some (Value.ref z)) (show (nd_st d 0) = (nd_st d kk) from by rw [show kk = 0 by omega]), rfl⟩
section NWKD
variable {d : nwD} {X : nwX} {A : Nat → Prop} {Q : State → Prop} {nL : Nat} {H H0 : Heap} {k n pc : Nat} {lv : List (Nat × Value)} {rest : List Value} {own mn : String} {cc : ByteArray} {ret : Option FieldType} {rm : Room} {tb : List ExceptionTableEntry}
theorem nwC.le (C : nwC d X A H0 own mn cc nL ret rm tb) {locs : List Loc} (hS : va_S A (nx_s X).heap H locs) (h0 : nd_B d ≤ H0.size) : nd_B d ≤ H.size := Nat.le_trans h0 (by rw [← C.hH]; exact hS.1)
theorem nw_isOpaque (C : nwC d X A H0 own mn cc nL ret rm tb) (h0 : nd_B d ≤ H0.size) {kk i : Nat} (hk : kk < 4) (hlink : Cond.methodLink own i ⟨"NightwatchWall$Kind", "isOpaque", "()Z"⟩ ∈ lw_all) (hrm : (2 ≤ rm.frames ∧ 40 ≤ rm.locals) ∧ k ≤ rm.cells ∧ n ≤ rm.slots) (hw : (rest.map fun v => v.category).sum ≤ 8) (dd : decode cc pc = .ok (.invokevirtual i, 3)) (q : Nat) (hq : pc + 3 = q) (K : nwV X A Q nL H k n q lv (.int (b2i (sp_opq kk)) :: rest)) : nwV X A Q nL H k n pc lv (.ref (nd_st d kk) :: rest) := by
  intro ls locs hl hS
  have hE := C.Z hS
  have hB := C.le hS h0
  match kk, hk, K with
  | 0, _, K => exact nw_callA0 C (by decide +kernel) (mX15_isOpaque _ d (nd_st d 0) H) q468 q467 hlink q465 q466 q464 (by decide +kernel) (va_O.is hE.2.2.2.1.1) ⟨⟨by omega, by have := hrm.1.2; omega⟩, hrm.2⟩ hw dd q hq K ls locs hl hS
  | 1, _, K => exact nw_callA0 C (by decide +kernel) (mX16_isOpaque _ d (nd_st d 1) H) q471 q470 hlink q465 q469 q464 (by decide +kernel) (va_O.is hE.2.2.2.1.2.1) ⟨⟨by omega, by have := hrm.1.2; omega⟩, hrm.2⟩ hw dd q hq K ls locs hl hS
  | 2, _, K => exact nw_callA0 C (by decide +kernel) (mX17_isOpaque _ d (nd_st d 2) H) q474 q473 hlink q465 q472 q464 (by decide +kernel) (va_O.is hE.2.2.2.1.2.2.1) ⟨⟨by omega, by have := hrm.1.2; omega⟩, hrm.2⟩ hw dd q hq K ls locs hl hS
  | 3, _, K => exact nw_callA0 C (by decide +kernel) (mX18_isOpaque _ d (nd_st d 3) H) q477 q476 hlink q465 q475 q464 (by decide +kernel) (va_O.is hE.2.2.2.1.2.2.2) ⟨⟨by omega, by have := hrm.1.2; omega⟩, hrm.2⟩ hw dd q hq K ls locs hl hS
theorem nw_sign (C : nwC d X A H0 own mn cc nL ret rm tb) (h0 : nd_B d ≤ H0.size) {kk i : Nat} (hk : kk < 4) (hlink : Cond.methodLink own i ⟨"NightwatchWall$Kind", "sign", "()C"⟩ ∈ lw_all) (hrm : (2 ≤ rm.frames ∧ 40 ≤ rm.locals) ∧ k ≤ rm.cells ∧ n ≤ rm.slots) (hw : (rest.map fun v => v.category).sum ≤ 8) (dd : decode cc pc = .ok (.invokevirtual i, 3)) (q : Nat) (hq : pc + 3 = q) (K : nwV X A Q nL H k n q lv (.int (nI (sp_sign kk)) :: rest)) : nwV X A Q nL H k n pc lv (.ref (nd_st d kk) :: rest) := by
  intro ls locs hl hS
  have hE := C.Z hS
  have hB := C.le hS h0
  match kk, hk, K with
  | 0, _, K => exact nw_callA0 C (by decide +kernel) (mX15_sign _ d (nd_st d 0) H) q1367 q1366 hlink q1364 q1365 q1363 (by decide +kernel) (va_O.is hE.2.2.2.1.1) ⟨⟨by omega, by have := hrm.1.2; omega⟩, hrm.2⟩ hw dd q hq K ls locs hl hS
  | 1, _, K => exact nw_callA0 C (by decide +kernel) (mX16_sign _ d (nd_st d 1) H) q1370 q1369 hlink q1364 q1368 q1363 (by decide +kernel) (va_O.is hE.2.2.2.1.2.1) ⟨⟨by omega, by have := hrm.1.2; omega⟩, hrm.2⟩ hw dd q hq K ls locs hl hS
  | 2, _, K => exact nw_callA0 C (by decide +kernel) (mX17_sign _ d (nd_st d 2) H) q1373 q1372 hlink q1364 q1371 q1363 (by decide +kernel) (va_O.is hE.2.2.2.1.2.2.1) ⟨⟨by omega, by have := hrm.1.2; omega⟩, hrm.2⟩ hw dd q hq K ls locs hl hS
  | 3, _, K => exact nw_callA0 C (by decide +kernel) (mX18_sign _ d (nd_st d 3) H) q1376 q1375 hlink q1364 q1374 q1363 (by decide +kernel) (va_O.is hE.2.2.2.1.2.2.2) ⟨⟨by omega, by have := hrm.1.2; omega⟩, hrm.2⟩ hw dd q hq K ls locs hl hS
theorem nw_number (C : nwC d X A H0 own mn cc nL ret rm tb) (h0 : nd_B d ≤ H0.size) {kk i : Nat} (hk : kk < 4) (hlink : Cond.methodLink own i ⟨"NightwatchWall$Kind", "number", "()I"⟩ ∈ lw_all) (hrm : (2 ≤ rm.frames ∧ 40 ≤ rm.locals) ∧ k ≤ rm.cells ∧ n ≤ rm.slots) (hw : (rest.map fun v => v.category).sum ≤ 8) (dd : decode cc pc = .ok (.invokevirtual i, 3)) (q : Nat) (hq : pc + 3 = q) (K : nwV X A Q nL H k n q lv (.int (nI kk) :: rest)) : nwV X A Q nL H k n pc lv (.ref (nd_st d kk) :: rest) := by
  intro ls locs hl hS
  have hE := C.Z hS
  have hB := C.le hS h0
  match kk, hk, K with
  | 0, _, K => exact nw_callU C (mX7_number _ C.hfl d 0 H hB (by decide)) kX7_number hlink q561 q562 rfl (by decide +kernel) (va_O.is hE.2.2.2.1.1) (As := []) (rest := rest) rfl rfl ⟨⟨by omega, by have := hrm.1.2; omega⟩, hrm.2⟩ hw (fun _ h8 h9 => nw_rdA h8 h9) dd q hq (nw_rdK K) nw_noX ls locs hl hS
  | 1, _, K => exact nw_callU C (mX7_number _ C.hfl d 1 H hB (by decide)) kX7_number hlink q561 q563 rfl (by decide +kernel) (va_O.is hE.2.2.2.1.2.1) (As := []) (rest := rest) rfl rfl ⟨⟨by omega, by have := hrm.1.2; omega⟩, hrm.2⟩ hw (fun _ h8 h9 => nw_rdA h8 h9) dd q hq (nw_rdK K) nw_noX ls locs hl hS
  | 2, _, K => exact nw_callU C (mX7_number _ C.hfl d 2 H hB (by decide)) kX7_number hlink q561 q564 rfl (by decide +kernel) (va_O.is hE.2.2.2.1.2.2.1) (As := []) (rest := rest) rfl rfl ⟨⟨by omega, by have := hrm.1.2; omega⟩, hrm.2⟩ hw (fun _ h8 h9 => nw_rdA h8 h9) dd q hq (nw_rdK K) nw_noX ls locs hl hS
  | 3, _, K => exact nw_callU C (mX7_number _ C.hfl d 3 H hB (by decide)) kX7_number hlink q561 q565 rfl (by decide +kernel) (va_O.is hE.2.2.2.1.2.2.2) (As := []) (rest := rest) rfl rfl ⟨⟨by omega, by have := hrm.1.2; omega⟩, hrm.2⟩ hw (fun _ h8 h9 => nw_rdA h8 h9) dd q hq (nw_rdK K) nw_noX ls locs hl hS
end NWKD
