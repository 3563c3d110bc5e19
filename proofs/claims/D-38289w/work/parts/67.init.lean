/-! ===== constructors, iterators ===== -/
def nwLm (d : nwD) (a n : Nat) (es : Nat → Nat) (P : Nat → Prop) (mo : Int32) (ar cap : Nat) (f : Nat → Option Nat) (H : Heap) : Prop := nwL d a ar cap n mo f H ∧ (0 < cap → P ar) ∧ ∀ k, k < n → f k = some (es k)
section LM
variable {d : nwD} {a n ar cap : Nat} {es : Nat → Nat} {P : Nat → Prop} {mo : Int32} {f : Nat → Option Nat} {H H1 : Heap}
theorem nwLi_m (h : nwLi d a n es P H) : ∃ (mo : Int32) (ar cap : Nat) (f : Nat → Option Nat), nwLm d a n es P mo ar cap f H := by
  obtain ⟨ar, cap, mo, f, h⟩ := h
  exact ⟨mo, ar, cap, f, h⟩
theorem nwLm.li (h : nwLm d a n es P mo ar cap f H) : nwLi d a n es P H := ⟨ar, cap, mo, f, h⟩
theorem nwLm.ext (h : nwLm d a n es P mo ar cap f H) (hq : ∀ q : Nat, q < H.size → H1[q]? = H[q]?) : nwLm d a n es P mo ar cap f H1 := by
  obtain ⟨⟨h1, h2, h3, h4⟩, h5, h6⟩ := h
  exact ⟨⟨h1.ext hq, h2, h3, h4.imp id (fun h => ⟨h.1, h.2.ext hq⟩)⟩, h5, h6⟩
theorem nwLm.n20 (h : nwLm d a n es P mo ar cap f H) : n < 2 ^ 20 := by
  obtain ⟨⟨h1, h2, h3, h4⟩, h5, h6⟩ := h
  omega
theorem nwLm.lt (h : nwLm d a n es P mo ar cap f H) : a < H.size := h.1.1.lt
theorem nwLm.art (h : nwLm d a n es P mo ar cap f H) (hc : 0 < cap) : ar < H.size := by
  obtain ⟨⟨h1, h2, h3, h4⟩, h5, h6⟩ := h
  rcases h4 with ⟨h, -⟩ | ⟨-, h⟩
  · omega
  · exact h.lt
end LM
def nwPF (Cn : String) (y : MethodName) (b : ByteArray) (L : Nat) (r : Option FieldType) (_ : Nat) : Prop := (Cond.instanceMethod y ∈ lw_all ∧ Cond.initialized Cn ∈ lw_all ∧ Cond.code y b L r ∈ lw_all) ∧ y.cls = Cn
section NWCG
variable {d : nwD} {X : nwX} {A : Nat → Prop} {Q : State → Prop} {nL : Nat} {H H0 : Heap} {k n pc : Nat} {lv : List (Nat × Value)} {rest st : List Value} {own mn : String} {cc : ByteArray} {ret : Option FieldType} {rm : Room} {tb : List ExceptionTableEntry} {R : Option Value → Heap → Prop} {RX : String → Heap → Prop} {mc ms : Nat}
/-- a call through an interface of a method that only the interface selects -/
theorem nw_callG (C : nwC d X A H0 own mn cc nL ret rm tb) {y : MethodName} {b : ByteArray} {L fr lo np i a ct ci N : Nat} {r : Option FieldType} {Cn : String} {T : u_T} {x : MethodName} {A1 : Nat → Prop} {As : List Value} (hM : nwMt (nx_l X) d y b L r fr lo mc ms (.ref a :: As) H R RX A1) (kp : nwPF Cn y b L r np) (hcl : nwCl[ci]? = some (Cn, T, N)) (hlink : Cond.methodLink own i x ∈ lw_all) (hsel : Cond.selects Cn x y ∈ lw_all) (hF : (Cn, x, y) ∈ nwFaces) (hxd : x.cls ≠ "java/lang/invoke/MethodHandle" ∧ x.cls ≠ "java/lang/invoke/VarHandle" ∧ (parseMethodDescriptor x.desc).map (fun d => d.parameters.length) = some np) (hrc : nwIs (nx_s X) Cn a H) (hst : st = As.reverse ++ .ref a :: rest) (hnp : As.length = np) (hrm : (fr + 1 ≤ rm.frames ∧ 8 + (L + 11) + lo ≤ rm.locals) ∧ k + mc ≤ rm.cells ∧ n + ms ≤ rm.slots) (hw : (rest.map fun v => v.category).sum ≤ 8) (hA1 : ∀ q, q < H.size → A1 q → A q) (dd : decode cc pc = .ok (.invokeinterface i ct, 5)) (q : Nat) (hq : pc + 5 = q)
    (K : ∀ (v : Option Value) (H1 : Heap), R v H1 → H.size ≤ H1.size → (∀ q, q < H.size → ¬ A1 q → H1[q]? = H[q]?) → nwV X A Q nL H1 (k + mc) (n + ms) q lv (v.toList ++ rest))
    (KX : ∀ (E : String) (w : Addr) (H1 : Heap), RX E H1 → H.size ≤ H1.size → (∀ q, q < H.size → ¬ A1 q → H1[q]? = H[q]?) → nwT X A Q nL H1 (k + mc) (n + ms) pc lv E w) : nwV X A Q nL H k n pc lv st := by
  obtain ⟨⟨k1, k3, k4⟩, k5⟩ := kp
  have hR := C.hR
  have hini : Cond.initialized y.cls ∈ lw_all := by rw [k5]; exact k3
  have hgood : GoodIn lw_all (va_wsF own i Cn x y (ws_ y b L r)) := lw_app (by
    intro w hw
    simp only [List.mem_cons, List.not_mem_nil, or_false] at hw
    rcases hw with e | e | e | e
    · rw [e]; exact hlink
    · rw [e]; exact hsel
    · rw [e]; exact k1
    · rw [e]; exact hini) (lw_meth k4)
  exact nw_fin5 C hA1 (fun ls locs hls hS => vx_runF (C.hK.1 ci _ hcl).2 ⟨C.hx, C.hb, C.hml, C.ho, C.ht⟩ hM (va_cwF np C.ht hgood rfl rfl rfl (C.hE.1.2.2.1 _ hF) hxd ⟨by rw [hR]; exact hrm.1.1, by rw [hR]; exact hrm.1.2⟩) ⟨nwPc_blind d _ H, hrc, nw_pre C _ hS⟩ rfl hnp hls hst (lv_room hw) dd ⟨by rw [hR]; exact hrm.2.1, by rw [hR]; exact hrm.2.2⟩) q hq K KX
end NWCG
theorem kJ1_init : nwPI yJ1_init cJ1_init 1 0 := ⟨⟨q88, q149, q150⟩, rfl, by decide +kernel, by decide +kernel, by decide +kernel⟩
theorem kJ2_init : nwPI yJ2_init cJ2_init 1 0 := ⟨⟨q89, q146, q147⟩, rfl, by decide +kernel, by decide +kernel, by decide +kernel⟩
theorem kJ13_init : nwPI yJ13_init cJ13_init 2 1 := ⟨⟨q107, q306, q307⟩, rfl, by decide +kernel, by decide +kernel, by decide +kernel⟩
theorem kJ13_checkForComodification : nwPV "java/util/ArrayList$Itr" yJ13_checkForComodification cJ13_checkForComodification 1 none 0 := ⟨⟨q342, q343, q107, q344⟩, rfl, by decide +kernel, by decide +kernel, by decide +kernel⟩
theorem kJ13_hasNext : nwPF "java/util/ArrayList$Itr" yJ13_hasNext cJ13_hasNext 1 (some .boolean) 0 := ⟨⟨q329, q107, q331⟩, rfl⟩
theorem kJ13_next : nwPF "java/util/ArrayList$Itr" yJ13_next cJ13_next 3 (some (.object "java/lang/Object")) 0 := ⟨⟨q338, q107, q340⟩, rfl⟩
theorem fc_Iterator_hasNext : (⟨"java/util/Iterator", "hasNext", "()Z"⟩ : MethodName).cls ≠ "java/lang/invoke/MethodHandle" ∧ (⟨"java/util/Iterator", "hasNext", "()Z"⟩ : MethodName).cls ≠ "java/lang/invoke/VarHandle" ∧ (parseMethodDescriptor (⟨"java/util/Iterator", "hasNext", "()Z"⟩ : MethodName).desc).map (fun d => d.parameters.length) = some 0 := by decide +kernel
theorem fc_Iterator_next : (⟨"java/util/Iterator", "next", "()Ljava/lang/Object;"⟩ : MethodName).cls ≠ "java/lang/invoke/MethodHandle" ∧ (⟨"java/util/Iterator", "next", "()Ljava/lang/Object;"⟩ : MethodName).cls ≠ "java/lang/invoke/VarHandle" ∧ (parseMethodDescriptor (⟨"java/util/Iterator", "next", "()Ljava/lang/Object;"⟩ : MethodName).desc).map (fun d => d.parameters.length) = some 0 := by decide +kernel
set_option maxHeartbeats 4000000 in
theorem mJ1_init (l : Launch) (hf : l.flags = flags0) (d : nwD) (g : Nat) (H : Heap) (hB : nd_B d ≤ H.size)  : nwRd l d yJ1_init cJ1_init 1 none 1 20 [.ref g] H (none) := by
  refine nw_rd "java/util/AbstractCollection" "<init>" hf (by decide +kernel) rfl rfl hB (Nat.le_of_ble_eq_true rfl) ?_
  intro X C
  show nwV X _ _ 1 H 0 0 0 [(0, .ref g)] []
  refine nw_aload_n C 0 dJ1_init_0 rfl 1 rfl ?_
  refine nw_objInit C q151 q133 q134 dJ1_init_1 ⟨Nat.le_of_ble_eq_true rfl, Nat.le_of_ble_eq_true rfl⟩ (Nat.le_of_ble_eq_true rfl) 4 rfl ?_
  exact nw_vret C dJ1_init_4 (Nat.le_refl _) (Nat.le_refl _) ⟨rfl, rfl⟩
set_option maxHeartbeats 4000000 in
theorem mJ2_init (l : Launch) (hf : l.flags = flags0) (d : nwD) (g : Nat) (v1 v2 : Value) (m0 : Int32) (H : Heap) (hB : nd_B d ≤ H.size) (hgB : nd_B d ≤ g) (hg : nwO d g 13 [.int m0, v1, v2] H)  : nwMt l d yJ2_init cJ2_init 1 none 2 40 0 0 [.ref g] H (fun v H1 => v = none ∧ nwO d g 13 [.int (nI 0), v1, v2] H1) nwNo (fun q => q = g ∨ H.size ≤ q) := by
  refine nw_start "java/util/AbstractList" "<init>" hf (by decide +kernel) rfl rfl (fun _ h => Or.inr h) (fun q h => h.elim (fun e => by rw [e]; exact hgB) (fun h => Nat.le_trans hB h)) (Nat.le_of_ble_eq_true rfl) ?_
  intro X C
  have hE := C.E0
  have hB0 := hB
  have hsz : H.size ≤ H.size := Nat.le_refl _
  show nwV X _ _ 1 H 0 0 0 [(0, .ref g)] []
  refine nw_aload_n C 0 dJ2_init_0 rfl 1 rfl ?_
  refine nw_callI C (mJ1_init _ C.hfl d g H hB) kJ1_init q148 (As := []) (rest := []) rfl rfl ⟨⟨Nat.le_of_ble_eq_true rfl, Nat.le_of_ble_eq_true rfl⟩, Nat.le_of_ble_eq_true rfl, Nat.le_of_ble_eq_true rfl⟩ (Nat.le_of_ble_eq_true rfl) (fun _ h8 h9 => absurd h9 (Nat.not_le.mpr h8)) dJ2_init_1 4 rfl (nw_rdK ?_) nw_noX
  refine nw_aload_n C 0 dJ2_init_4 rfl 5 rfl ?_
  refine nw_iconst C (nI 0) dJ2_init_5 (by decide) 6 rfl ?_
  refine nw_put C hg (Or.inl rfl) (T := TJ3) (ty0 := tyJ3) rfl in_J3 tyJ3_ok nmJ3 0 (by decide) q158 (Or.inl rfl) rfl rfl rfl (Nat.le_of_ble_eq_true rfl) dJ2_init_6 9 rfl (fun H1 ho2 hz3 hq4 => ?_)
  have ho2 : nwO d g 13 [.int (nI 0), v1, v2] H1 := ho2
  have hsz := Nat.le_trans hsz (Nat.le_of_eq hz3.symm)
  have hB := Nat.le_trans hB0 hsz
  exact nw_vret C dJ2_init_9 (Nat.le_refl _) (Nat.le_refl _) ⟨rfl, ho2⟩
set_option maxHeartbeats 4000000 in
theorem mJ3_init (l : Launch) (hf : l.flags = flags0) (d : nwD) (g : Nat)  (H : Heap) (hB : nd_B d ≤ H.size) (hgB : nd_B d ≤ g) (hg : nwO d g 13 [.int (nI 0), .null, .int (nI 0)] H)  : nwMt l d yJ3_init cJ3_init 1 none 3 60 0 0 [.ref g] H (fun v H1 => v = none ∧ nwO d g 13 [.int (nI 0), .ref (nd_st d 5), .int (nI 0)] H1) nwNo (fun q => q = g ∨ H.size ≤ q) := by
  refine nw_start "java/util/ArrayList" "<init>" hf (by decide +kernel) rfl rfl (fun _ h => Or.inr h) (fun q h => h.elim (fun e => by rw [e]; exact hgB) (fun h => Nat.le_trans hB h)) (Nat.le_of_ble_eq_true rfl) ?_
  intro X C
  have hE := C.E0
  have hB0 := hB
  have hsz : H.size ≤ H.size := Nat.le_refl _
  show nwV X _ _ 1 H 0 0 0 [(0, .ref g)] []
  refine nw_aload_n C 0 dJ3_init_0 rfl 1 rfl ?_
  refine nw_callI C (mJ2_init _ C.hfl d g .null (.int (nI 0)) (nI 0) H hB hgB hg ) kJ2_init q145 (As := []) (rest := []) rfl rfl ⟨⟨Nat.le_of_ble_eq_true rfl, Nat.le_of_ble_eq_true rfl⟩, (show 0 + 0 ≤ 0 by omega), (show 0 + 0 ≤ 0 by omega)⟩ (Nat.le_of_ble_eq_true rfl) (fun q8 h8 h9 => h9.elim (fun e9 => by rw [e9]; exact (Or.inl rfl)) (fun e9 => absurd h8 (Nat.not_lt.mpr e9))) dJ3_init_1 4 rfl (fun v9 H1 hR2 hz3 hq4 => ?_) nw_noX
  obtain ⟨rfl, ho5⟩ := hR2
  have hsz := Nat.le_trans hsz hz3
  have hB := Nat.le_trans hB0 hsz
  show nwV X _ _ 1 H1 (0 + 0) (0 + 0) 4 [(0, .ref g)] []
  refine nw_wide (k' := 0) (n' := 0) (by omega) (by omega) ?_
  refine nw_aload_n C 0 dJ3_init_4 rfl 5 rfl ?_
  refine nw_gets C (v := .ref (nd_st d 5)) (fun _ _ h9 => h9.2.2.2.2.2.1.1) q152 dJ3_init_5 8 rfl ?_
  refine nw_put C ho5 (Or.inl rfl) (T := TJ3) (ty0 := tyJ3) rfl in_J3 tyJ3_ok nmJ3 1 (by decide) q154 (Or.inl rfl) rfl rfl rfl (Nat.le_of_ble_eq_true rfl) dJ3_init_8 11 rfl (fun H6 ho7 hz8 hq9 => ?_)
  have ho7 : nwO d g 13 [.int (nI 0), .ref (nd_st d 5), .int (nI 0)] H6 := ho7
  have hsz := Nat.le_trans hsz (Nat.le_of_eq hz8.symm)
  have hB := Nat.le_trans hB0 hsz
  exact nw_vret C dJ3_init_11 (Nat.le_refl _) (Nat.le_refl _) ⟨rfl, ho7⟩
set_option maxHeartbeats 4000000 in
theorem mX8_init (l : Launch) (hf : l.flags = flags0) (d : nwD) (g : Nat) (p1 p2 : Nat) (H : Heap) (hB : nd_B d ≤ H.size) (hgB : nd_B d ≤ g) (hg : nwO d g 2 [.int (nI 0), .int (nI 0), .int (b2i false)] H)  : nwMt l d yX8_init cX8_init 3 none 1 20 0 0 [.ref g, .int (nI p1), .int (nI p2)] H (fun v H1 => v = none ∧ nwO d g 2 [.int (nI p1), .int (nI p2), .int (b2i true)] H1) nwNo (fun q => q = g ∨ H.size ≤ q) := by
  refine nw_start "NightwatchWall$Lamp" "<init>" hf (by decide +kernel) rfl rfl (fun _ h => Or.inr h) (fun q h => h.elim (fun e => by rw [e]; exact hgB) (fun h => Nat.le_trans hB h)) (Nat.le_of_ble_eq_true rfl) ?_
  intro X C
  have hE := C.E0
  have hB0 := hB
  have hsz : H.size ≤ H.size := Nat.le_refl _
  show nwV X _ _ 3 H 0 0 0 [(0, .ref g), (1, .int (nI p1)), (2, .int (nI p2))] []
  refine nw_aload_n C 0 dX8_init_0 rfl 1 rfl ?_
  refine nw_objInit C q875 q133 q134 dX8_init_1 ⟨Nat.le_of_ble_eq_true rfl, Nat.le_of_ble_eq_true rfl⟩ (Nat.le_of_ble_eq_true rfl) 4 rfl ?_
  refine nw_aload_n C 0 dX8_init_4 rfl 5 rfl ?_
  refine nw_iconst C (nI 1) dX8_init_5 (by decide) 6 rfl ?_
  refine nw_put C hg (Or.inl rfl) (T := TX8) (ty0 := tyX8) rfl in_X8 tyX8_ok nmX8 2 (by decide) q879 (Or.inl rfl) rfl (by decide) rfl (Nat.le_of_ble_eq_true rfl) dX8_init_6 9 rfl (fun H1 ho2 hz3 hq4 => ?_)
  have ho2 : nwO d g 2 [.int (nI 0), .int (nI 0), .int (b2i true)] H1 := ho2
  have hsz := Nat.le_trans hsz (Nat.le_of_eq hz3.symm)
  have hB := Nat.le_trans hB0 hsz
  refine nw_aload_n C 0 dX8_init_9 rfl 10 rfl ?_
  refine nw_iload_n C 1 dX8_init_10 rfl 11 rfl ?_
  refine nw_putF C ho2 (Or.inl rfl) (T := TX8) (ty0 := tyX8) rfl in_X8 tyX8_ok nmX8 0 (by decide) q876 rfl rfl rfl rfl (Nat.le_of_ble_eq_true rfl) dX8_init_11 14 rfl (fun H5 ho6 hz7 hq8 => ?_)
  have ho6 : nwO d g 2 [.int (nI p1), .int (nI 0), .int (b2i true)] H5 := ho6
  have hsz := Nat.le_trans hsz (Nat.le_of_eq hz7.symm)
  have hB := Nat.le_trans hB0 hsz
  refine nw_aload_n C 0 dX8_init_14 rfl 15 rfl ?_
  refine nw_iload_n C 2 dX8_init_15 rfl 16 rfl ?_
  refine nw_putF C ho6 (Or.inl rfl) (T := TX8) (ty0 := tyX8) rfl in_X8 tyX8_ok nmX8 1 (by decide) q878 rfl rfl rfl rfl (Nat.le_of_ble_eq_true rfl) dX8_init_16 19 rfl (fun H9 ho10 hz11 hq12 => ?_)
  have ho10 : nwO d g 2 [.int (nI p1), .int (nI p2), .int (b2i true)] H9 := ho10
  have hsz := Nat.le_trans hsz (Nat.le_of_eq hz11.symm)
  have hB := Nat.le_trans hB0 hsz
  exact nw_vret C dX8_init_19 (Nat.le_refl _) (Nat.le_refl _) ⟨rfl, ho10⟩
set_option maxHeartbeats 4000000 in
theorem mX9_init (l : Launch) (hf : l.flags = flags0) (d : nwD) (g : Nat) (p1 p2 : Nat) (H : Heap) (hB : nd_B d ≤ H.size) (hgB : nd_B d ≤ g) (hg : nwO d g 3 [.int (nI 0), .int (nI 0)] H)  : nwMt l d yX9_init cX9_init 3 none 1 20 0 0 [.ref g, .int (nI p1), .int (nI p2)] H (fun v H1 => v = none ∧ nwO d g 3 [.int (nI p1), .int (nI p2)] H1) nwNo (fun q => q = g ∨ H.size ≤ q) := by
  refine nw_start "NightwatchWall$Report" "<init>" hf (by decide +kernel) rfl rfl (fun _ h => Or.inr h) (fun q h => h.elim (fun e => by rw [e]; exact hgB) (fun h => Nat.le_trans hB h)) (Nat.le_of_ble_eq_true rfl) ?_
  intro X C
  have hE := C.E0
  have hB0 := hB
  have hsz : H.size ≤ H.size := Nat.le_refl _
  show nwV X _ _ 3 H 0 0 0 [(0, .ref g), (1, .int (nI p1)), (2, .int (nI p2))] []
  refine nw_aload_n C 0 dX9_init_0 rfl 1 rfl ?_
  refine nw_objInit C q976 q133 q134 dX9_init_1 ⟨Nat.le_of_ble_eq_true rfl, Nat.le_of_ble_eq_true rfl⟩ (Nat.le_of_ble_eq_true rfl) 4 rfl ?_
  refine nw_aload_n C 0 dX9_init_4 rfl 5 rfl ?_
  refine nw_iload_n C 1 dX9_init_5 rfl 6 rfl ?_
  refine nw_putF C hg (Or.inl rfl) (T := TX9) (ty0 := tyX9) rfl in_X9 tyX9_ok nmX9 0 (by decide) q977 rfl rfl rfl rfl (Nat.le_of_ble_eq_true rfl) dX9_init_6 9 rfl (fun H1 ho2 hz3 hq4 => ?_)
  have ho2 : nwO d g 3 [.int (nI p1), .int (nI 0)] H1 := ho2
  have hsz := Nat.le_trans hsz (Nat.le_of_eq hz3.symm)
  have hB := Nat.le_trans hB0 hsz
  refine nw_aload_n C 0 dX9_init_9 rfl 10 rfl ?_
  refine nw_iload_n C 2 dX9_init_10 rfl 11 rfl ?_
  refine nw_putF C ho2 (Or.inl rfl) (T := TX9) (ty0 := tyX9) rfl in_X9 tyX9_ok nmX9 1 (by decide) q979 rfl rfl rfl rfl (Nat.le_of_ble_eq_true rfl) dX9_init_11 14 rfl (fun H5 ho6 hz7 hq8 => ?_)
  have ho6 : nwO d g 3 [.int (nI p1), .int (nI p2)] H5 := ho6
  have hsz := Nat.le_trans hsz (Nat.le_of_eq hz7.symm)
  have hB := Nat.le_trans hB0 hsz
  exact nw_vret C dX9_init_14 (Nat.le_refl _) (Nat.le_refl _) ⟨rfl, ho6⟩
set_option maxHeartbeats 4000000 in
theorem mX14_init (l : Launch) (hf : l.flags = flags0) (d : nwD) (g : Nat) (p1 p2 : Nat) (H : Heap) (hB : nd_B d ≤ H.size) (hgB : nd_B d ≤ g) (hg : nwO d g 8 [.int (nI 0), .int (nI 0)] H)  : nwMt l d yX14_init cX14_init 3 none 1 20 0 0 [.ref g, .int (nI p1), .int (nI p2)] H (fun v H1 => v = none ∧ nwO d g 8 [.int (nI p1), .int (nI p2)] H1) nwNo (fun q => q = g ∨ H.size ≤ q) := by
  refine nw_start "NightwatchWall$Wire" "<init>" hf (by decide +kernel) rfl rfl (fun _ h => Or.inr h) (fun q h => h.elim (fun e => by rw [e]; exact hgB) (fun h => Nat.le_trans hB h)) (Nat.le_of_ble_eq_true rfl) ?_
  intro X C
  have hE := C.E0
  have hB0 := hB
  have hsz : H.size ≤ H.size := Nat.le_refl _
  show nwV X _ _ 3 H 0 0 0 [(0, .ref g), (1, .int (nI p1)), (2, .int (nI p2))] []
  refine nw_aload_n C 0 dX14_init_0 rfl 1 rfl ?_
  refine nw_objInit C q1225 q133 q134 dX14_init_1 ⟨Nat.le_of_ble_eq_true rfl, Nat.le_of_ble_eq_true rfl⟩ (Nat.le_of_ble_eq_true rfl) 4 rfl ?_
  refine nw_aload_n C 0 dX14_init_4 rfl 5 rfl ?_
  refine nw_iload_n C 1 dX14_init_5 rfl 6 rfl ?_
  refine nw_putF C hg (Or.inl rfl) (T := TX14) (ty0 := tyX14) rfl in_X14 tyX14_ok nmX14 0 (by decide) q1226 rfl rfl rfl rfl (Nat.le_of_ble_eq_true rfl) dX14_init_6 9 rfl (fun H1 ho2 hz3 hq4 => ?_)
  have ho2 : nwO d g 8 [.int (nI p1), .int (nI 0)] H1 := ho2
  have hsz := Nat.le_trans hsz (Nat.le_of_eq hz3.symm)
  have hB := Nat.le_trans hB0 hsz
  refine nw_aload_n C 0 dX14_init_9 rfl 10 rfl ?_
  refine nw_iload_n C 2 dX14_init_10 rfl 11 rfl ?_
  refine nw_putF C ho2 (Or.inl rfl) (T := TX14) (ty0 := tyX14) rfl in_X14 tyX14_ok nmX14 1 (by decide) q1228 rfl rfl rfl rfl (Nat.le_of_ble_eq_true rfl) dX14_init_11 14 rfl (fun H5 ho6 hz7 hq8 => ?_)
  have ho6 : nwO d g 8 [.int (nI p1), .int (nI p2)] H5 := ho6
  have hsz := Nat.le_trans hsz (Nat.le_of_eq hz7.symm)
  have hB := Nat.le_trans hB0 hsz
  exact nw_vret C dX14_init_14 (Nat.le_refl _) (Nat.le_refl _) ⟨rfl, ho6⟩
set_option maxHeartbeats 4000000 in
theorem mX3_init (l : Launch) (hf : l.flags = flags0) (d : nwD) (g : Nat) (p1 : Nat) (H : Heap) (hB : nd_B d ≤ H.size) (hgB : nd_B d ≤ g) (hg : nwO d g 6 [.int (nI 0)] H)  : nwMt l d yX3_init cX3_init 2 none 1 20 0 0 [.ref g, .int (nI p1)] H (fun v H1 => v = none ∧ nwO d g 6 [.int (nI p1)] H1) nwNo (fun q => q = g ∨ H.size ≤ q) := by
  refine nw_start "NightwatchWall$Row" "<init>" hf (by decide +kernel) rfl rfl (fun _ h => Or.inr h) (fun q h => h.elim (fun e => by rw [e]; exact hgB) (fun h => Nat.le_trans hB h)) (Nat.le_of_ble_eq_true rfl) ?_
  intro X C
  have hE := C.E0
  have hB0 := hB
  have hsz : H.size ≤ H.size := Nat.le_refl _
  show nwV X _ _ 2 H 0 0 0 [(0, .ref g), (1, .int (nI p1))] []
  refine nw_aload_n C 0 dX3_init_0 rfl 1 rfl ?_
  refine nw_objInit C q186 q133 q134 dX3_init_1 ⟨Nat.le_of_ble_eq_true rfl, Nat.le_of_ble_eq_true rfl⟩ (Nat.le_of_ble_eq_true rfl) 4 rfl ?_
  refine nw_aload_n C 0 dX3_init_4 rfl 5 rfl ?_
  refine nw_iload_n C 1 dX3_init_5 rfl 6 rfl ?_
  refine nw_put C hg (Or.inl rfl) (T := TX3) (ty0 := tyX3) rfl in_X3 tyX3_ok nmX3 0 (by decide) q187 (Or.inl rfl) rfl rfl rfl (Nat.le_of_ble_eq_true rfl) dX3_init_6 9 rfl (fun H1 ho2 hz3 hq4 => ?_)
  have ho2 : nwO d g 6 [.int (nI p1)] H1 := ho2
  have hsz := Nat.le_trans hsz (Nat.le_of_eq hz3.symm)
  have hB := Nat.le_trans hB0 hsz
  exact nw_vret C dX3_init_9 (Nat.le_refl _) (Nat.le_refl _) ⟨rfl, ho2⟩
set_option maxHeartbeats 4000000 in
theorem mJ13_init (l : Launch) (hf : l.flags = flags0) (d : nwD) (g : Nat) (a n : Nat) (es : Nat → Nat) (P : Nat → Prop) (mo : Int32) (ar cap : Nat) (f : Nat → Option Nat) (H : Heap) (hB : nd_B d ≤ H.size) (hgB : nd_B d ≤ g) (hg : nwO d g 14 [.int (nI 0), .int (nI 0), .int (nI 0), .null] H) (hL : nwLm d a n es P mo ar cap f H) (hag : a ≠ g) : nwMt l d yJ13_init cJ13_init 2 none 1 20 0 0 [.ref g, .ref a] H (fun v H1 => v = none ∧ nwO d g 14 [.int (nI 0), .int (oI none), .int mo, .ref a] H1) nwNo (fun q => q = g ∨ H.size ≤ q) := by
  refine nw_start "java/util/ArrayList$Itr" "<init>" hf (by decide +kernel) rfl rfl (fun _ h => Or.inr h) (fun q h => h.elim (fun e => by rw [e]; exact hgB) (fun h => Nat.le_trans hB h)) (Nat.le_of_ble_eq_true rfl) ?_
  intro X C
  have hE := C.E0
  have hB0 := hB
  have hsz : H.size ≤ H.size := Nat.le_refl _
  obtain ⟨⟨hLo, hn1, hn2, hLa⟩, hP, hf⟩ := id hL
  show nwV X _ _ 2 H 0 0 0 [(0, .ref g), (1, .ref a)] []
  refine nw_aload_n C 0 dJ13_init_0 rfl 1 rfl ?_
  refine nw_aload_n C 1 dJ13_init_1 rfl 2 rfl ?_
  refine nw_putF C hg (Or.inl rfl) (T := TJ13) (ty0 := tyJ13) rfl in_J13 tyJ13_ok nmJ13 3 (by decide) q312 rfl rfl rfl rfl (Nat.le_of_ble_eq_true rfl) dJ13_init_2 5 rfl (fun H1 ho2 hz3 hq4 => ?_)
  have ho2 : nwO d g 14 [.int (nI 0), .int (nI 0), .int (nI 0), .ref a] H1 := ho2
  have hsz := Nat.le_trans hsz (Nat.le_of_eq hz3.symm)
  have hB := Nat.le_trans hB0 hsz
  have ho5 := hLo.kept (hq4 _ hag)
  refine nw_aload_n C 0 dJ13_init_5 rfl 6 rfl ?_
  refine nw_objInit C q308 q133 q134 dJ13_init_6 ⟨Nat.le_of_ble_eq_true rfl, Nat.le_of_ble_eq_true rfl⟩ (Nat.le_of_ble_eq_true rfl) 9 rfl ?_
  refine nw_aload_n C 0 dJ13_init_9 rfl 10 rfl ?_
  refine nw_iconst C (oI none) dJ13_init_10 (by decide) 11 rfl ?_
  refine nw_put C ho2 (Or.inl rfl) (T := TJ13) (ty0 := tyJ13) rfl in_J13 tyJ13_ok nmJ13 1 (by decide) q310 (Or.inl rfl) rfl rfl rfl (Nat.le_of_ble_eq_true rfl) dJ13_init_11 14 rfl (fun H6 ho7 hz8 hq9 => ?_)
  have ho7 : nwO d g 14 [.int (nI 0), .int (oI none), .int (nI 0), .ref a] H6 := ho7
  have hsz := Nat.le_trans hsz (Nat.le_of_eq hz8.symm)
  have hB := Nat.le_trans hB0 hsz
  have ho10 := ho5.kept (hq9 _ hag)
  refine nw_aload_n C 0 dJ13_init_14 rfl 15 rfl ?_
  refine nw_aload_n C 0 dJ13_init_15 rfl 16 rfl ?_
  refine nw_get C ho7 (T := TJ13) rfl in_J13 3 (by decide) q312 (Or.inl rfl) rfl dJ13_init_16 19 rfl ?_
  refine nw_get C ho10 (T := TJ3) rfl in_J3 0 (by decide) q159 (Or.inr q160) rfl dJ13_init_19 22 rfl ?_
  refine nw_put C ho7 (Or.inl rfl) (T := TJ13) (ty0 := tyJ13) rfl in_J13 tyJ13_ok nmJ13 2 (by decide) q311 (Or.inl rfl) rfl rfl rfl (Nat.le_of_ble_eq_true rfl) dJ13_init_22 25 rfl (fun H11 ho12 hz13 hq14 => ?_)
  have ho12 : nwO d g 14 [.int (nI 0), .int (oI none), .int mo, .ref a] H11 := ho12
  have hsz := Nat.le_trans hsz (Nat.le_of_eq hz13.symm)
  have hB := Nat.le_trans hB0 hsz
  have ho15 := ho10.kept (hq14 _ hag)
  exact nw_vret C dJ13_init_25 (Nat.le_refl _) (Nat.le_refl _) ⟨rfl, ho12⟩
set_option maxHeartbeats 4000000 in
theorem mJ3_iterator (l : Launch) (hf : l.flags = flags0) (d : nwD) (a n : Nat) (es : Nat → Nat) (P : Nat → Prop) (mo : Int32) (ar cap : Nat) (f : Nat → Option Nat) (H : Heap) (hB : nd_B d ≤ H.size) (hL : nwLm d a n es P mo ar cap f H) : nwMt l d yJ3_iterator cJ3_iterator 1 (some (.object "java/util/Iterator")) 2 41 1 4 [.ref a] H (fun v H1 => (∃ it : Nat, v = some (.ref it) ∧ H.size ≤ it ∧ nwO d it 14 [.int (nI 0), .int (oI none), .int mo, .ref a] H1) ∧ nwExt H H1) nwNo (nwNew H) := by
  refine nw_start "java/util/ArrayList" "iterator" hf (by decide +kernel) rfl rfl (fun _ h => h) (fun q h => Nat.le_trans hB h) (Nat.le_of_ble_eq_true rfl) ?_
  intro X C
  have hL0 := hL
  have hB0 := hB
  have hE := C.E0
  have hext : nwExt H H := nwExt.rfl
  obtain ⟨⟨hLo, hn1, hn2, hLa⟩, hP, hf⟩ := id hL
  show nwV X _ _ 1 H 0 0 0 [(0, .ref a)] []
  refine nw_new C (ci := 14) (T := TJ13) (ty0 := tyJ13) [.int (nI 0), .int (nI 0), .int (nI 0), .null] rfl in_J13 tyJ13_ok q303 q304 q107 (fun j hj => by rcases (show j = 0 ∨ j = 1 ∨ j = 2 ∨ j = 3 by omega) with rfl | rfl | rfl | rfl <;> rfl) 1 4 (by omega) (by omega) ⟨(show 1 ≤ 1 by omega), (show 4 ≤ 4 by omega)⟩ dJ3_iterator_0 3 rfl (fun a1 H2 hx3 ho4 hz5 hq6 => ?_)
  have hn7 : H.size ≤ a1 := (by rw [hx3]; exact hext.1)
  have hext := hext.made hz5 hq6
  have hL := hL0.ext hext.2
  have hE := C.E0.ext hext.2
  have hB := Nat.le_trans hB0 hext.1
  obtain ⟨⟨hLo, hn1, hn2, hLa⟩, hP, hf⟩ := id hL
  refine nw_dup C dJ3_iterator_3 rfl 4 rfl ?_
  refine nw_aload_n C 0 dJ3_iterator_4 rfl 5 rfl ?_
  refine nw_callI C (mJ13_init _ C.hfl d a1 a n es P mo ar cap f H2 hB (Nat.le_trans hB0 hn7) ho4 hL (fun e9 => absurd hL0.lt (Nat.not_lt.mpr (by rw [e9]; exact hn7)))) kJ13_init q305 (As := [.ref a]) (rest := [.ref a1]) rfl rfl ⟨⟨Nat.le_of_ble_eq_true rfl, Nat.le_of_ble_eq_true rfl⟩, (show 1 + 0 ≤ 1 by omega), (show 4 + 0 ≤ 4 by omega)⟩ (Nat.le_of_ble_eq_true rfl) (fun q8 h8 h9 => h9.elim (fun e9 => by rw [e9]; exact hn7) (fun e9 => absurd h8 (Nat.not_lt.mpr e9))) dJ3_iterator_5 8 rfl (fun v9 H8 hR9 hz10 hq11 => ?_) nw_noX
  obtain ⟨rfl, ho12⟩ := hR9
  have hext := hext.step hz10 hq11 (fun q9 e9 => e9.elim (fun e9 => by rw [e9]; exact hn7) (fun e9 => Nat.le_trans hext.1 e9))
  have hL := hL0.ext hext.2
  have hE := C.E0.ext hext.2
  have hB := Nat.le_trans hB0 hext.1
  obtain ⟨⟨hLo, hn1, hn2, hLa⟩, hP, hf⟩ := id hL
  show nwV X _ _ 1 H8 (1 + 0) (4 + 0) 8 [(0, .ref a)] [.ref a1]
  refine nw_wide (k' := 1) (n' := 4) (by omega) (by omega) ?_
  exact nw_aret C (Or.inl ⟨_, rfl⟩) dJ3_iterator_8 (by omega) (by omega) ⟨⟨a1, rfl, hn7, ho12⟩, hext⟩
set_option maxHeartbeats 4000000 in
theorem mJ13_hasNext (l : Launch) (hf : l.flags = flags0) (d : nwD) (a n : Nat) (es : Nat → Nat) (P : Nat → Prop) (mo : Int32) (ar cap : Nat) (f : Nat → Option Nat) (it k : Nat) (lr : Int32) (H : Heap) (hB : nd_B d ≤ H.size) (hL : nwLm d a n es P mo ar cap f H) (hi : nwO d it 14 [.int (nI k), .int lr, .int mo, .ref a] H) (hk : k ≤ n) : nwRd l d yJ13_hasNext cJ13_hasNext 1 (some .boolean) 1 20 [.ref it] H (some (.int (b2i (decide (k < n))))) := by
  refine nw_rd "java/util/ArrayList$Itr" "hasNext" hf (by decide +kernel) rfl rfl hB (Nat.le_of_ble_eq_true rfl) ?_
  intro X C
  obtain ⟨⟨hLo, hn1, hn2, hLa⟩, hP, hf⟩ := id hL
  have hn3 : n < 2 ^ 20 := hL.n20
  show nwV X _ _ 1 H 0 0 0 [(0, .ref it)] []
  refine nw_aload_n C 0 dJ13_hasNext_0 rfl 1 rfl ?_
  refine nw_get C hi (T := TJ13) rfl in_J13 0 (by decide) q309 (Or.inl rfl) rfl dJ13_hasNext_1 4 rfl ?_
  refine nw_aload_n C 0 dJ13_hasNext_4 rfl 5 rfl ?_
  refine nw_get C hi (T := TJ13) rfl in_J13 3 (by decide) q312 (Or.inl rfl) rfl dJ13_hasNext_5 8 rfl ?_
  refine nw_getN C hLo (T := TJ3) rfl in_J3 2 (by decide) q156 rfl rfl dJ13_hasNext_8 11 rfl ?_
  refine nw_icmpeqN C (by omega) 18 dJ13_hasNext_11 (by decide) 14 rfl (fun h1 => ?_) (fun h1 => ?_)
  · refine nw_iconst C (nI 0) dJ13_hasNext_18 (by decide) 19 rfl ?_
    exact nw_nret C dJ13_hasNext_19 (b2i_narrow false) (Nat.le_refl _) (Nat.le_refl _) ⟨congrArg (fun z => some (Value.int (b2i z))) (show (false) = (decide (k < n)) from (by simp; omega)), rfl⟩
  · refine nw_iconst C (nI 1) dJ13_hasNext_14 (by decide) 15 rfl ?_
    refine nw_goto C 19 dJ13_hasNext_15 (by decide) ?_
    exact nw_nret C dJ13_hasNext_19 (b2i_narrow true) (Nat.le_refl _) (Nat.le_refl _) ⟨congrArg (fun z => some (Value.int (b2i z))) (show (true) = (decide (k < n)) from (by simp; omega)), rfl⟩
set_option maxHeartbeats 4000000 in
theorem mJ13_checkForComodification (l : Launch) (hf : l.flags = flags0) (d : nwD) (a n : Nat) (es : Nat → Nat) (P : Nat → Prop) (mo : Int32) (ar cap : Nat) (f : Nat → Option Nat) (it k : Nat) (lr : Int32) (H : Heap) (hB : nd_B d ≤ H.size) (hL : nwLm d a n es P mo ar cap f H) (hi : nwO d it 14 [.int (nI k), .int lr, .int mo, .ref a] H) (hk : k ≤ n) : nwRd l d yJ13_checkForComodification cJ13_checkForComodification 1 none 1 20 [.ref it] H (none) := by
  refine nw_rd "java/util/ArrayList$Itr" "checkForComodification" hf (by decide +kernel) rfl rfl hB (Nat.le_of_ble_eq_true rfl) ?_
  intro X C
  obtain ⟨⟨hLo, hn1, hn2, hLa⟩, hP, hf⟩ := id hL
  show nwV X _ _ 1 H 0 0 0 [(0, .ref it)] []
  refine nw_aload_n C 0 dJ13_checkForComodification_0 rfl 1 rfl ?_
  refine nw_get C hi (T := TJ13) rfl in_J13 3 (by decide) q312 (Or.inl rfl) rfl dJ13_checkForComodification_1 4 rfl ?_
  refine nw_get C hLo (T := TJ3) rfl in_J3 0 (by decide) q159 (Or.inr q160) rfl dJ13_checkForComodification_4 7 rfl ?_
  refine nw_aload_n C 0 dJ13_checkForComodification_7 rfl 8 rfl ?_
  refine nw_get C hi (T := TJ13) rfl in_J13 2 (by decide) q311 (Or.inl rfl) rfl dJ13_checkForComodification_8 11 rfl ?_
  refine nw_icmpeq C 22 dJ13_checkForComodification_11 (by decide) 14 rfl (fun _ => ?_) (fun h1 => absurd rfl h1)
  exact nw_vret C dJ13_checkForComodification_22 (Nat.le_refl _) (Nat.le_refl _) ⟨rfl, rfl⟩
set_option maxHeartbeats 4000000 in
theorem mJ13_next (l : Launch) (hf : l.flags = flags0) (d : nwD) (g : Nat) (a n : Nat) (es : Nat → Nat) (P : Nat → Prop) (mo : Int32) (ar cap : Nat) (f : Nat → Option Nat) (k : Nat) (lr : Int32) (H : Heap) (hB : nd_B d ≤ H.size) (hgB : nd_B d ≤ g) (hg : nwO d g 14 [.int (nI k), .int lr, .int mo, .ref a] H) (hL : nwLm d a n es P mo ar cap f H) (hk2 : k < n) (hrg0 : 0 < cap → ar ≠ g) (hag : a ≠ g) : nwMt l d yJ13_next cJ13_next 3 (some (.object "java/lang/Object")) 2 40 0 0 [.ref g] H (fun v H1 => v = some (.ref (es k)) ∧ nwO d g 14 [.int (nI (k + 1)), .int (nI k), .int mo, .ref a] H1) nwNo (fun q => q = g ∨ H.size ≤ q) := by
  refine nw_start "java/util/ArrayList$Itr" "next" hf (by decide +kernel) rfl rfl (fun _ h => Or.inr h) (fun q h => h.elim (fun e => by rw [e]; exact hgB) (fun h => Nat.le_trans hB h)) (Nat.le_of_ble_eq_true rfl) ?_
  intro X C
  have hE := C.E0
  have hB0 := hB
  have hsz : H.size ≤ H.size := Nat.le_refl _
  obtain ⟨⟨hLo, hn1, hn2, hLa⟩, hP, hf⟩ := id hL
  have hn3 : n < 2 ^ 20 := hL.n20
  have hk : k ≤ n := Nat.le_of_lt hk2
  have hrg := hrg0 (by omega)
  have hLr : nwR d ar 3 cap f H := by rcases hLa with ⟨h, -⟩ | ⟨-, h⟩; omega; exact h
  show nwV X _ _ 3 H 0 0 0 [(0, .ref g)] []
  refine nw_aload_n C 0 dJ13_next_0 rfl 1 rfl ?_
  refine nw_callV C (mJ13_checkForComodification _ C.hfl d a n es P mo ar cap f g k lr H hB hL hg hk) kJ13_checkForComodification q341 (hg.is C (ci := 14) rfl) (As := []) (rest := []) rfl rfl ⟨⟨Nat.le_of_ble_eq_true rfl, Nat.le_of_ble_eq_true rfl⟩, Nat.le_of_ble_eq_true rfl, Nat.le_of_ble_eq_true rfl⟩ (Nat.le_of_ble_eq_true rfl) (fun _ h8 h9 => absurd h9 (Nat.not_le.mpr h8)) dJ13_next_1 4 rfl (nw_rdK ?_) nw_noX
  refine nw_aload_n C 0 dJ13_next_4 rfl 5 rfl ?_
  refine nw_get C hg (T := TJ13) rfl in_J13 0 (by decide) q309 (Or.inl rfl) rfl dJ13_next_5 8 rfl ?_
  refine nw_istore_n C [(1, .int (nI k)), (0, .ref g)] dJ13_next_8 (by decide) rfl 9 rfl ?_
  refine nw_iload_n C 0 dJ13_next_9 rfl 10 rfl ?_
  refine nw_aload_n C 1 dJ13_next_10 rfl 11 rfl ?_
  refine nw_get C hg (T := TJ13) rfl in_J13 3 (by decide) q312 (Or.inl rfl) rfl dJ13_next_11 14 rfl ?_
  refine nw_getN C hLo (T := TJ3) rfl in_J3 2 (by decide) q156 rfl rfl dJ13_next_14 17 rfl ?_
  refine nw_icmplt C 28 dJ13_next_17 (by decide) 20 rfl (fun _ => ?_) (fun h1 => absurd ((nI_ltI (by omega) (by omega)).mpr (by omega)) h1)
  refine nw_aload_n C 1 dJ13_next_28 rfl 29 rfl ?_
  refine nw_get C hg (T := TJ13) rfl in_J13 3 (by decide) q312 (Or.inl rfl) rfl dJ13_next_29 32 rfl ?_
  refine nw_get C hLo (T := TJ3) rfl in_J3 1 (by decide) q155 (Or.inl rfl) rfl dJ13_next_32 35 rfl ?_
  refine nw_astore_n C [(2, .ref ar), (1, .int (nI k)), (0, .ref g)] dJ13_next_35 (by decide) rfl 36 rfl ?_
  refine nw_iload_n C 1 dJ13_next_36 rfl 37 rfl ?_
  refine nw_aload_n C 0 dJ13_next_37 rfl 38 rfl ?_
  refine nw_alenR C hLr (by decide) dJ13_next_38 39 rfl ?_
  refine nw_icmplt C 50 dJ13_next_39 (by decide) 42 rfl (fun _ => ?_) (fun h2 => absurd ((nI_ltI (by omega) (by omega)).mpr (by omega)) h2)
  refine nw_aload_n C 2 dJ13_next_50 rfl 51 rfl ?_
  refine nw_iload_n C 1 dJ13_next_51 rfl 52 rfl ?_
  refine nw_iconst C (nI 1) dJ13_next_52 (by decide) 53 rfl ?_
  refine nw_iaddN C dJ13_next_53 54 rfl ?_
  refine nw_put C hg (Or.inl rfl) (T := TJ13) (ty0 := tyJ13) rfl in_J13 tyJ13_ok nmJ13 0 (by decide) q309 (Or.inl rfl) rfl rfl rfl (Nat.le_of_ble_eq_true rfl) dJ13_next_54 57 rfl (fun H3 ho4 hz5 hq6 => ?_)
  have ho4 : nwO d g 14 [.int (nI (k + 1)), .int lr, .int mo, .ref a] H3 := ho4
  have hsz := Nat.le_trans hsz (Nat.le_of_eq hz5.symm)
  have hB := Nat.le_trans hB0 hsz
  have ho7 := hLo.kept (hq6 _ hag)
  have ho8 := hLr.kept (hq6 _ hrg)
  refine nw_aload_n C 0 dJ13_next_57 rfl 58 rfl ?_
  refine nw_aload_n C 2 dJ13_next_58 rfl 59 rfl ?_
  refine nw_iload_n C 1 dJ13_next_59 rfl 60 rfl ?_
  refine nw_dup_x1 C dJ13_next_60 rfl rfl 61 rfl ?_
  refine nw_put C ho4 (Or.inl rfl) (T := TJ13) (ty0 := tyJ13) rfl in_J13 tyJ13_ok nmJ13 1 (by decide) q310 (Or.inl rfl) rfl rfl rfl (Nat.le_of_ble_eq_true rfl) dJ13_next_61 64 rfl (fun H9 ho10 hz11 hq12 => ?_)
  have ho10 : nwO d g 14 [.int (nI (k + 1)), .int (nI k), .int mo, .ref a] H9 := ho10
  have hsz := Nat.le_trans hsz (Nat.le_of_eq hz11.symm)
  have hB := Nat.le_trans hB0 hsz
  have ho13 := ho7.kept (hq12 _ hag)
  have ho14 := ho8.kept (hq12 _ hrg)
  refine nw_aaldN C (es k) ho14 (by omega) (hf _ hk2) dJ13_next_64 65 rfl ?_
  exact nw_aret C (Or.inl ⟨_, rfl⟩) dJ13_next_65 (Nat.le_refl _) (Nat.le_refl _) ⟨rfl, ho10⟩
