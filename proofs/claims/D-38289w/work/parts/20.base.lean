/-! ===== BASE LAYER (nw_): one judgement nwV over the kit's W, with the locals as a list, the frame rule inside, and contracts nwMt that name the heap they start from ===== -/
abbrev nwX : Type := Program × Launch × Env × Room × State × MethodId × Array Value × List Frame × Method × Code
abbrev nx_p (X : nwX) : Program := X.1
abbrev nx_l (X : nwX) : Launch := X.2.1
abbrev nx_e (X : nwX) : Env := X.2.2.1
abbrev nx_R (X : nwX) : Room := X.2.2.2.1
abbrev nx_s (X : nwX) : State := X.2.2.2.2.1
abbrev nx_m (X : nwX) : MethodId := X.2.2.2.2.2.1
abbrev nx_args (X : nwX) : Array Value := X.2.2.2.2.2.2.1
abbrev nx_below (X : nwX) : List Frame := X.2.2.2.2.2.2.2.1
abbrev nx_meth (X : nwX) : Method := X.2.2.2.2.2.2.2.2.1
abbrev nx_c (X : nwX) : Code := X.2.2.2.2.2.2.2.2.2
/-- the machine at a frame of the method: heap H, cells and slots used, pc, locals, stack -/
def nwV (X : nwX) (A : Nat → Prop) (Q : State → Prop) (nL : Nat) (H : Heap) (k n pc : Nat) (lv : List (Nat × Value)) (st : List Value) : Prop :=
  ∀ (ls : Array Slot) (locs : List Loc), lv_has ls nL lv → va_S A (nx_s X).heap H locs → W (nx_p X) (nx_l X) (nx_e X) (nx_R X) (nx_s X) (nx_m X) (nx_args X) (nx_below X) (nx_meth X) (nx_c X) H locs k n Q (F0 (nx_m X) pc ls st)
/-- the same frame with q thrown over it, of class E -/
def nwT (X : nwX) (A : Nat → Prop) (Q : State → Prop) (nL : Nat) (H : Heap) (k n pc : Nat) (lv : List (Nat × Value)) (E : String) (q : Addr) : Prop :=
  ∀ (ls : Array Slot) (locs : List Loc) (rest : List Value) (ce : Cell), lv_has ls nL lv → va_S A (nx_s X).heap H locs → H[q]? = some ce → ce.vm = .none → (nx_s X).vm.findClass E = some ce.cls → vx_W (nx_p X) (nx_l X) (nx_e X) (nx_R X) (nx_s X) (nx_m X) (nx_args X) (nx_below X) (nx_meth X) (nx_c X) H locs k n Q (F0 (nx_m X) pc ls rest) q
/-- the claim's classes with their fields -/
abbrev nwCl : List vw_C := [(RX1, TX1, 14), (RX6, TX6, 3), (RX8, TX8, 3), (RX9, TX9, 2), (RX10, TX10, 6), (RX2, TX2, 4), (RX3, TX3, 1), (RX12, TX12, 5), (RX14, TX14, 2), (RX4, TX4, 20), (RX11, TX11, 6), (RX13, TX13, 5), (RX5, TX5, 2), (RJ3, TJ3, 3), (RJ13, TJ13, 4), (RJ0, TJ0, 1), (RJ19, TJ19, 1), (RJ21, TJ21, 4), (RJ12, TJ12, 4)]
/-- a launch's numbers: class ids and slots; class ids of the array classes; the first address that the law itself makes; addresses of constant objects -/
abbrev nwD : Type := va_G × (Nat → ClassId) × Nat × (Nat → Nat)
abbrev nd_G (d : nwD) : va_G := d.1
abbrev nd_ar (d : nwD) : Nat → ClassId := d.2.1
abbrev nd_B (d : nwD) : Nat := d.2.2.1
abbrev nd_st (d : nwD) : Nat → Nat := d.2.2.2
abbrev nwTys (d : nwD) : List (ClassId × FieldType) := [(nd_ar d 0, .int), (nd_ar d 1, .boolean), (nd_ar d 2, .byte), (nd_ar d 3, .object "java/lang/Object"), (nd_ar d 4, .object "NightwatchWall$Kind")]
/-- an object, an array of ints (or booleans, bytes), an array of references -/
def nwO (d : nwD) (a ci : Nat) (fs : List Value) (H : Heap) : Prop := va_at (nd_G d) nwCl (a, .inr (ci, fs)) H
def nwI (d : nwD) (a ty n : Nat) (f : Nat → Int32) (H : Heap) : Prop := H[a]? = some (vp_cell (nd_ar d ty) (n, .inl f))
def nwR (d : nwD) (a ty n : Nat) (f : Nat → Option Nat) (H : Heap) : Prop := H[a]? = some (vp_cell (nd_ar d ty) (n, .inr (.inr (.inr (.inr f)))))
theorem nwO.kept {d : nwD} {a ci : Nat} {fs : List Value} {H H1 : Heap} (h : nwO d a ci fs H) (hq : H1[a]? = H[a]?) : nwO d a ci fs H1 := va_at.kept (q := (a, .inr (ci, fs))) h hq
theorem nwI.kept {d : nwD} {a ty n : Nat} {f : Nat → Int32} {H H1 : Heap} (h : nwI d a ty n f H) (hq : H1[a]? = H[a]?) : nwI d a ty n f H1 := hq.trans h
theorem nwR.kept {d : nwD} {a ty n : Nat} {f : Nat → Option Nat} {H H1 : Heap} (h : nwR d a ty n f H) (hq : H1[a]? = H[a]?) : nwR d a ty n f H1 := hq.trans h
theorem nwO.lt {d : nwD} {a ci : Nat} {fs : List Value} {H : Heap} (h : nwO d a ci fs H) : a < H.size := va_at.lt (q := (a, .inr (ci, fs))) h
theorem nwI.lt {d : nwD} {a ty n : Nat} {f : Nat → Int32} {H : Heap} (h : nwI d a ty n f H) : a < H.size := (Array.getElem?_eq_some_iff.mp h).1
theorem nwR.lt {d : nwD} {a ty n : Nat} {f : Nat → Option Nat} {H : Heap} (h : nwR d a ty n f H) : a < H.size := (Array.getElem?_eq_some_iff.mp h).1
theorem nwO.P {d : nwD} {a ci : Nat} {fs : List Value} {H : Heap} (h : nwO d a ci fs H) : va_P (nd_G d) nwCl [(a, .inr (ci, fs))] H := by
  intro k q hk
  have hz : k < 1 := (List.getElem?_eq_some_iff.mp hk).1
  rw [show k = 0 by omega] at hk
  cases hk
  exact h
theorem nwI.P {d : nwD} {a ty n : Nat} {f : Nat → Int32} {H : Heap} (h : nwI d a ty n f H) : va_P (nd_G d) nwCl [(a, .inl (nd_ar d ty, n, .inl f))] H := by
  intro k q hk
  have hz : k < 1 := (List.getElem?_eq_some_iff.mp hk).1
  rw [show k = 0 by omega] at hk
  cases hk
  exact h
theorem nwR.P {d : nwD} {a ty n : Nat} {f : Nat → Option Nat} {H : Heap} (h : nwR d a ty n f H) : va_P (nd_G d) nwCl [(a, .inl (nd_ar d ty, n, .inr (.inr (.inr (.inr f)))))] H := by
  intro k q hk
  have hz : k < 1 := (List.getElem?_eq_some_iff.mp hk).1
  rw [show k = 0 by omega] at hk
  cases hk
  exact h
/-! the tables' words that don't ride in the lists -/
def nw_tk : Cond → Bool
  | .castable _ _ => true
  | .declares _ => true
  | .fieldLinkNest _ _ _ _ _ _ => true
  | .methodLinkNest _ _ _ _ => true
  | _ => false
def nwTW : List Cond := lw_tbl.filter nw_tk
theorem nw_tw {w : Cond} (h : w ∈ lw_tbl) (g : nw_tk w = true) : w ∈ nwTW := List.mem_filter.mpr ⟨h, g⟩
theorem nw_tmoved {w : Cond} (g : nw_tk w = true) {s U : State} (hW : s.WarmedH U.vm) (h : va_Nw w s) : va_Nw w U := by
  cases w <;> first | exact va_Nw.warmF hW h | exact va_Nw.warmM hW h | exact va_Nw.warmC hW h | exact va_Nw.warmD hW h | exact absurd g Bool.false_ne_true
theorem nw_ton {w : Cond} (g : nw_tk w = true) : w.onTables = true := by
  cases w <;> first | rfl | exact absurd g Bool.false_ne_true
def nwFaces : List (String × MethodName × MethodName) := [
  ("java/util/ArrayList", ⟨"java/util/List", "size", "()I"⟩, ⟨"java/util/ArrayList", "size", "()I"⟩),
  ("java/util/ArrayList", ⟨"java/util/List", "get", "(I)Ljava/lang/Object;"⟩, ⟨"java/util/ArrayList", "get", "(I)Ljava/lang/Object;"⟩),
  ("java/util/ArrayList", ⟨"java/util/List", "add", "(Ljava/lang/Object;)Z"⟩, ⟨"java/util/ArrayList", "add", "(Ljava/lang/Object;)Z"⟩),
  ("java/util/ArrayList", ⟨"java/util/List", "remove", "(I)Ljava/lang/Object;"⟩, ⟨"java/util/ArrayList", "remove", "(I)Ljava/lang/Object;"⟩),
  ("java/util/ArrayList$Itr", ⟨"java/util/Iterator", "hasNext", "()Z"⟩, ⟨"java/util/ArrayList$Itr", "hasNext", "()Z"⟩),
  ("java/util/ArrayList$Itr", ⟨"java/util/Iterator", "next", "()Ljava/lang/Object;"⟩, ⟨"java/util/ArrayList$Itr", "next", "()Ljava/lang/Object;"⟩)]
/-- String constants of the reference, by entry and text -/
def nwStrs : List (Nat × String × Nat) := [(300, "", 300), (316, "#", 316), (318, "%", 318), (320, "+", 320), (322, ":", 322), (324, ".", 324)]
/-- what the tables say of a state -/
def nwK (d : nwD) (U : State) : Prop := va_K (nd_G d) nwCl (nwTys d) U ∧ (∀ w ∈ nwTW, va_Nw w U) ∧ (∀ q ∈ nwFaces, va_Fw q.1 q.2.1 q.2.2 U) ∧ va_AO "java/lang/Object" U ∧ va_AO "NightwatchWall$Kind" U ∧ va_Mi "[Ljava/lang/Object;" (nd_st d 7) U ∧ va_Dc U ∧ (∀ q ∈ nwStrs, vk_R "NightwatchWallModel" q.1 q.2.1 (nd_st d q.2.2) U) ∧ va_Nc "java/lang/IllegalArgumentException" "java/lang/IndexOutOfBoundsException" U ∧ va_Nc "java/lang/IllegalStateException" "java/lang/IndexOutOfBoundsException" U ∧ va_Nc "java/lang/IllegalStateException" "java/lang/IllegalArgumentException" U
theorem nwK.moved {d : nwD} {s U : State} (hW : s.WarmedH U.vm) (h : nwK d s) : nwK d U := by
  obtain ⟨h1, h2, h3, h4, h5, h6, h7, h8, h9, h10, h11⟩ := h
  refine ⟨va_K.moved hW.alike h1, fun w hw => nw_tmoved (List.mem_filter.mp hw).2 hW (h2 w hw), fun q hq => ?_, va_AO.moved hW.alike h4, va_AO.moved hW.alike h5, va_Mi.moved hW.alike h6, va_Dc.moved hW.alike h7, fun q hq => vk_R.warm hW (h8 q hq), va_Nc.moved hW.alike h9, va_Nc.moved hW.alike h10, va_Nc.moved hW.alike h11⟩
  refine va_Fw.moved ?_ hW.alike (h3 q hq)
  have key : ∀ q ∈ nwFaces, q.2.1.cls ≠ "java/lang/invoke/MethodHandle" ∧ q.2.1.cls ≠ "java/lang/invoke/VarHandle" := by decide +kernel
  exact key q hq
/-- constant objects and statics: all below the first address that the law makes -/
def nwZ (d : nwD) (U : State) (H : Heap) : Prop :=
  (va_Z "java/lang/Integer$IntegerCache" "high" "I" (.int 127) (fun q => nd_B d ≤ q) U H ∧ va_Z "java/lang/Integer$IntegerCache" "cache" "[Ljava/lang/Integer;" (.ref (nd_st d 6)) (fun q => nd_B d ≤ q) U H ∧ va_T (.object "java/lang/Integer") (nd_st d 6) 256 (fun j => .ref (nd_st d (1000 + j))) (fun q => nd_B d ≤ q) U H ∧ vb_C (fun k => nd_st d (1000 + k)) (fun q => nd_B d ≤ q) U H) ∧
  (va_Z "NightwatchWall$Kind" "GROUND" "LNightwatchWall$Kind;" (.ref (nd_st d 0)) (fun q => nd_B d ≤ q) U H ∧ va_Z "NightwatchWall$Kind" "WALL" "LNightwatchWall$Kind;" (.ref (nd_st d 1)) (fun q => nd_B d ≤ q) U H ∧ va_Z "NightwatchWall$Kind" "HEDGE" "LNightwatchWall$Kind;" (.ref (nd_st d 2)) (fun q => nd_B d ≤ q) U H ∧ va_Z "NightwatchWall$Kind" "GATE" "LNightwatchWall$Kind;" (.ref (nd_st d 3)) (fun q => nd_B d ≤ q) U H) ∧
  (va_O "NightwatchWall$Kind$1" (nd_st d 0) (fun q => nd_B d ≤ q) U H ∧ va_O "NightwatchWall$Kind$2" (nd_st d 1) (fun q => nd_B d ≤ q) U H ∧ va_O "NightwatchWall$Kind$3" (nd_st d 2) (fun q => nd_B d ≤ q) U H ∧ va_O "NightwatchWall$Kind$4" (nd_st d 3) (fun q => nd_B d ≤ q) U H) ∧
  (va_Z "java/util/Optional" "EMPTY" "Ljava/util/Optional;" (.ref (nd_st d 4)) (fun q => nd_B d ≤ q) U H ∧ va_O "java/util/Optional" (nd_st d 4) (fun q => nd_B d ≤ q) U H ∧ va_OF "java/util/Optional" "value" "Ljava/lang/Object;" .null (nd_st d 4) (fun q => nd_B d ≤ q) U H) ∧
  (va_Z "java/util/ArrayList" "DEFAULTCAPACITY_EMPTY_ELEMENTDATA" "[Ljava/lang/Object;" (.ref (nd_st d 5)) (fun q => nd_B d ≤ q) U H ∧ va_T (.object "java/lang/Object") (nd_st d 5) 0 (fun _ => .null) (fun q => nd_B d ≤ q) U H) ∧
  (va_Z "java/lang/String" "COMPACT_STRINGS" "Z" (.int 1) (fun q => nd_B d ≤ q) U H ∧ vk_S 6 [0, 1, 1, 1, 1, 1] [[], [35], [37], [43], [58], [46]] (fun i => nd_st d ([300, 316, 318, 320, 322, 324].getD i 0)) (fun i => nd_st d (400 + i)) (fun q => nd_B d ≤ q) U H ∧ va_Z "java/lang/Integer" "DigitOnes" "[B" (.ref (nd_st d 8)) (fun q => nd_B d ≤ q) U H ∧ va_T .byte (nd_st d 8) 100 (fun j => .int (nI (48 + j % 10))) (fun q => nd_B d ≤ q) U H) ∧
  (vx_Zq "java/lang/Throwable" "UNASSIGNED_STACK" "[Ljava/lang/StackTraceElement;" (fun q => nd_B d ≤ q) U H ∧ vx_Zq "java/lang/Throwable" "SUPPRESSED_SENTINEL" "Ljava/util/List;" (fun q => nd_B d ≤ q) U H) ∧
  (∀ i j, i < 4 → j < 4 → nd_st d i = nd_st d j → i = j)
theorem nwZ.moved {d : nwD} {u U : State} {H : Heap} (hvm : u.vm.Alike U.vm) (h : nwZ d u H) : nwZ d U H := by
  obtain ⟨⟨a1, a2, a3, a4⟩, ⟨b1, b2, b3, b4⟩, ⟨c1, c2, c3, c4⟩, ⟨d1, d2, d3⟩, ⟨e1, e2⟩, ⟨f1, f2, f3, f4⟩, ⟨g1, g2⟩, hd⟩ := h
  exact ⟨⟨a1.moved hvm, a2.moved hvm, a3.moved hvm, a4.moved hvm⟩, ⟨b1.moved hvm, b2.moved hvm, b3.moved hvm, b4.moved hvm⟩, ⟨c1.moved hvm, c2.moved hvm, c3.moved hvm, c4.moved hvm⟩, ⟨d1.moved hvm, d2.moved hvm, d3.moved hvm⟩, ⟨e1.moved hvm, e2.moved hvm⟩, ⟨f1.moved hvm, f2.moved hvm, f3.moved hvm, f4.moved hvm⟩, ⟨g1.moved hvm, g2.moved hvm⟩, hd⟩
theorem nwZ.kept {d : nwD} {U : State} {H H1 : Heap} (h : nwZ d U H) (hq : ∀ a : Nat, a < H.size → ¬ nd_B d ≤ a → H1[a]? = H[a]?) : nwZ d U H1 := by
  obtain ⟨⟨a1, a2, a3, a4⟩, ⟨b1, b2, b3, b4⟩, ⟨c1, c2, c3, c4⟩, ⟨d1, d2, d3⟩, ⟨e1, e2⟩, ⟨f1, f2, f3, f4⟩, ⟨g1, g2⟩, hd⟩ := h
  exact ⟨⟨a1.kept hq, a2.kept hq, a3.kept hq, a4.kept hq⟩, ⟨b1.kept hq, b2.kept hq, b3.kept hq, b4.kept hq⟩, ⟨c1.kept hq, c2.kept hq, c3.kept hq, c4.kept hq⟩, ⟨d1.kept hq, d2.kept hq, d3.kept hq⟩, ⟨e1.kept hq, e2.kept hq⟩, ⟨f1.kept hq, f2.kept hq, f3.kept hq, f4.kept hq⟩, ⟨g1.kept hq, g2.kept hq⟩, hd⟩
def nwE (d : nwD) (U : State) (H : Heap) : Prop := nwK d U ∧ nwZ d U H
theorem nwE.moved {d : nwD} {s U : State} {H : Heap} (hW : s.WarmedH U.vm) (h : nwE d s H) : nwE d U H := ⟨h.1.moved hW, h.2.moved hW.alike⟩
theorem nwE.kept {d : nwD} {U : State} {H H1 : Heap} (h : nwE d U H) (hq : ∀ a : Nat, a < H.size → ¬ nd_B d ≤ a → H1[a]? = H[a]?) : nwE d U H1 := ⟨h.1, h.2.kept hq⟩
/-- a contract: from heap H0, with arguments av, the method answers v and leaves a heap with 'R v', or throws E and leaves a heap with 'RX E'; of old cells only those of A have changed; at most mc cells of ms slots are new -/
def nwQ (R : Option Value → Heap → Prop) (A : Nat → Prop) : Array Value → State → Outcome → State → Prop := fun _ st oc t => (∃ v, oc = .returned v ∧ R v t.heap) ∧ va_F A st t
def nwXc (RX : String → Heap → Prop) (A : Nat → Prop) : String → State → State → Prop := fun E st t => RX E t.heap ∧ va_F A st t
def nwPc (d : nwD) (av : List Value) (H : Heap) : Array Value → State → Prop := va_Pc av (fun U => nwE d U U.heap ∧ U.heap = H)
def nwMt (l : Launch) (d : nwD) (y : MethodName) (cc : ByteArray) (nL : Nat) (ret : Option FieldType) (fr lo mc ms : Nat) (av : List Value) (H : Heap) (R : Option Value → Heap → Prop) (RX : String → Heap → Prop) (A : Nat → Prop) : Prop :=
  vx_Met l y (ws_ y cc nL ret) { frames := fr, cells := mc, slots := ms, locals := lo } (nwPc d av H) (nwQ R A) (nwXc RX A) mc ms A
/-- no throw -/
def nwNo : String → Heap → Prop := fun _ _ => False
/-- the new cells -/
def nwNew (H : Heap) : Nat → Prop := fun q => H.size ≤ q
/-- a reader: the answer is r, the heap stays -/
def nwRd (l : Launch) (d : nwD) (y : MethodName) (cc : ByteArray) (nL : Nat) (ret : Option FieldType) (fr lo : Nat) (av : List Value) (H : Heap) (r : Option Value) : Prop :=
  nwMt l d y cc nL ret fr lo 0 0 av H (fun v H1 => v = r ∧ H1 = H) nwNo (nwNew H)
theorem nwPc_blind (d : nwD) (av : List Value) (H : Heap) : FrameBlind (nwPc d av H) := by
  intro a U g mk h
  obtain ⟨h1, h2, h3⟩ := h
  refine ⟨h1, ?_, h3⟩
  have hW : U.WarmedH (U.calling g mk a).vm := State.WarmedH.refl U
  exact nwE.moved hW h2
/-- what holds all through a method's body -/
def nwC (d : nwD) (X : nwX) (A : Nat → Prop) (H0 : Heap) (own mn : String) (cc : ByteArray) (nL : Nat) (ret : Option FieldType) (rm : Room) (tb : List ExceptionTableEntry) : Prop :=
  ((nx_p X).tables.exec = Jvm.exec ∧ (nx_c X).code = cc ∧ (nx_c X).maxLocals = nL ∧ (nx_s X).vm.findClass own = some (nx_m X).cls ∧ (nx_meth X).sig.returnType = ret ∧ (nx_meth X).locks = false ∧ (nx_meth X).name = mn) ∧
  ((∀ w ∈ lw_all, w.before (nx_args X) (nx_s X) = true) ∧ nwE d (nx_s X) (nx_s X).heap ∧ (nx_l X).flags = flags0 ∧ nx_R X = rm ∧ (nx_s X).heap = H0 ∧ (nx_c X).exceptionTable.toList = tb) ∧ (∀ q, H0.size ≤ q → A q) ∧ (∀ q, A q → nd_B d ≤ q)
/-- what a body owes at its end -/
def nwQE (X : nwX) (R : Option Value → Heap → Prop) (RX : String → Heap → Prop) (A : Nat → Prop) (mc ms : Nat) : State → Prop := vx_MQ (nx_below X) (nwQ R A) (nwXc RX A) (nx_args X) (nx_s X) mc ms A
