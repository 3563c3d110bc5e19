/-! ===== ROWS over nwV ===== -/
section NWR
variable {d : nwD} {X : nwX} {A : Nat → Prop} {Q : State → Prop} {nL : Nat} {H H0 : Heap} {k n pc : Nat} {lv : List (Nat × Value)} {rest : List Value} {own mn : String} {cc : ByteArray} {ret : Option FieldType} {rm : Room} {tb : List ExceptionTableEntry}
theorem nwC.hx (C : nwC d X A H0 own mn cc nL ret rm tb) : (nx_p X).tables.exec = Jvm.exec := C.1.1
theorem nwC.hb (C : nwC d X A H0 own mn cc nL ret rm tb) : (nx_c X).code = cc := C.1.2.1
theorem nwC.hml (C : nwC d X A H0 own mn cc nL ret rm tb) : (nx_c X).maxLocals = nL := C.1.2.2.1
theorem nwC.ho (C : nwC d X A H0 own mn cc nL ret rm tb) : (nx_s X).vm.findClass own = some (nx_m X).cls := C.1.2.2.2.1
theorem nwC.hr (C : nwC d X A H0 own mn cc nL ret rm tb) : (nx_meth X).sig.returnType = ret := C.1.2.2.2.2.1
theorem nwC.hk (C : nwC d X A H0 own mn cc nL ret rm tb) : (nx_meth X).locks = false := C.1.2.2.2.2.2.1
theorem nwC.hn (C : nwC d X A H0 own mn cc nL ret rm tb) : (nx_meth X).name = mn := C.1.2.2.2.2.2.2
theorem nwC.ht (C : nwC d X A H0 own mn cc nL ret rm tb) : ∀ w ∈ lw_all, w.before (nx_args X) (nx_s X) = true := C.2.1.1
theorem nwC.hE (C : nwC d X A H0 own mn cc nL ret rm tb) : nwE d (nx_s X) (nx_s X).heap := C.2.1.2.1
theorem nwC.hK (C : nwC d X A H0 own mn cc nL ret rm tb) : va_K (nd_G d) nwCl (nwTys d) (nx_s X) := C.hE.1.1
theorem nwC.hw (C : nwC d X A H0 own mn cc nL ret rm tb) {w : Cond} (h : w ∈ nwTW) : va_Nw w (nx_s X) := C.hE.1.2.1 w h
theorem nwC.hfl (C : nwC d X A H0 own mn cc nL ret rm tb) : (nx_l X).flags = flags0 := C.2.1.2.2.1
theorem nwC.hR (C : nwC d X A H0 own mn cc nL ret rm tb) : nx_R X = rm := C.2.1.2.2.2.1
theorem nwC.hH (C : nwC d X A H0 own mn cc nL ret rm tb) : (nx_s X).heap = H0 := C.2.1.2.2.2.2.1
theorem nwC.htb (C : nwC d X A H0 own mn cc nL ret rm tb) : (nx_c X).exceptionTable.toList = tb := C.2.1.2.2.2.2.2
theorem nwC.hA (C : nwC d X A H0 own mn cc nL ret rm tb) : ∀ q, H0.size ≤ q → A q := C.2.2.1
theorem nwC.hB (C : nwC d X A H0 own mn cc nL ret rm tb) : ∀ q, A q → nd_B d ≤ q := C.2.2.2
theorem nwC.hsz (C : nwC d X A H0 own mn cc nL ret rm tb) {locs : List Loc} (hS : va_S A (nx_s X).heap H locs) : ∀ q, H.size ≤ q → A q := fun q h => C.hA q (Nat.le_trans (by rw [← C.hH]; exact hS.1) h)
/-- a constant object's fact, at a later heap -/
theorem nwC.Z (C : nwC d X A H0 own mn cc nL ret rm tb) {locs : List Loc} (hS : va_S A (nx_s X).heap H locs) : nwE d (nx_s X) H := C.hE.kept (fun a h1 h2 => hS.2.1 a h1 (fun h => h2 (C.hB a h)))
/-! straight rows -/
theorem nw_iconst (C : nwC d X A H0 own mn cc nL ret rm tb) {i : Int} (v : Int32) (dd : decode cc pc = .ok (.iconst i, 1)) (hv : Int32.ofInt i = v) (q : Nat) (hq : pc + 1 = q) (K : nwV X A Q nL H k n q lv (.int v :: rest)) : nwV X A Q nL H k n pc lv rest := by
  subst hq; exact fun ls locs hl hS => lv_iconst C.hx C.hb dd hv (K ls locs hl hS)
theorem nw_bipush (C : nwC d X A H0 own mn cc nL ret rm tb) {i : Int} (v : Int32) (dd : decode cc pc = .ok (.bipush i, 2)) (hv : (Int8.ofInt i).toInt32 = v) (q : Nat) (hq : pc + 2 = q) (K : nwV X A Q nL H k n q lv (.int v :: rest)) : nwV X A Q nL H k n pc lv rest := by
  subst hq; exact fun ls locs hl hS => lv_bipush C.hx C.hb dd hv (K ls locs hl hS)
theorem nw_sipush (C : nwC d X A H0 own mn cc nL ret rm tb) {i : Int} (v : Int32) (dd : decode cc pc = .ok (.sipush i, 3)) (hv : (Int16.ofInt i).toInt32 = v) (q : Nat) (hq : pc + 3 = q) (K : nwV X A Q nL H k n q lv (.int v :: rest)) : nwV X A Q nL H k n pc lv rest := by
  subst hq; exact fun ls locs hl hS => lv_sipush C.hx C.hb dd hv (K ls locs hl hS)
theorem nw_lconst (C : nwC d X A H0 own mn cc nL ret rm tb) {i : Fin 2} (v : Int64) (dd : decode cc pc = .ok (.lconst i, 1)) (hv : Int64.ofNat (i : Nat) = v) (q : Nat) (hq : pc + 1 = q) (K : nwV X A Q nL H k n q lv (.long v :: rest)) : nwV X A Q nL H k n pc lv rest := by
  subst hq; exact fun ls locs hl hS => lv_lconst C.hx C.hb dd hv (K ls locs hl hS)
theorem nw_ldc (C : nwC d X A H0 own mn cc nL ret rm tb) {i : Nat} {v : Int32} (hc : Cond.constant own i v ∈ lw_all) (dd : decode cc pc = .ok (.ldc i, 2)) (q : Nat) (hq : pc + 2 = q) (K : nwV X A Q nL H k n q lv (.int v :: rest)) : nwV X A Q nL H k n pc lv rest := by
  subst hq; exact fun ls locs hl hS => lv_ldc C.hx C.hb C.ho (C.ht _ hc) dd (K ls locs hl hS)
theorem nw_ldc2 (C : nwC d X A H0 own mn cc nL ret rm tb) {i : Nat} {v : Int64} (hc : Cond.constantLong own i v ∈ lw_all) (dd : decode cc pc = .ok (.ldc2_w i, 3)) (q : Nat) (hq : pc + 3 = q) (K : nwV X A Q nL H k n q lv (.long v :: rest)) : nwV X A Q nL H k n pc lv rest := by
  subst hq; exact fun ls locs hl hS => lv_ldc2 C.hx C.hb C.ho (C.ht _ hc) dd (K ls locs hl hS)
theorem nw_iload_n (C : nwC d X A H0 own mn cc nL ret rm tb) (j : Nat) {kf : Fin 4} {x : Int32} (dd : decode cc pc = .ok (.iload_n kf, 1)) (hj : lv[j]? = some ((kf : Nat), .int x)) (q : Nat) (hq : pc + 1 = q) (K : nwV X A Q nL H k n q lv (.int x :: rest)) : nwV X A Q nL H k n pc lv rest := by
  subst hq; exact fun ls locs hl hS => lv_iload_n C.hx C.hb dd rfl (lv_at hl j hj) (K ls locs hl hS)
theorem nw_iload (C : nwC d X A H0 own mn cc nL ret rm tb) (j : Nat) {i : Nat} {x : Int32} (dd : decode cc pc = .ok (.iload i, 2)) (hj : lv[j]? = some (i, .int x)) (q : Nat) (hq : pc + 2 = q) (K : nwV X A Q nL H k n q lv (.int x :: rest)) : nwV X A Q nL H k n pc lv rest := by
  subst hq; exact fun ls locs hl hS => lv_iload C.hx C.hb dd (lv_at hl j hj) (K ls locs hl hS)
theorem nw_lload_n (C : nwC d X A H0 own mn cc nL ret rm tb) (j : Nat) {kf : Fin 4} {x : Int64} (dd : decode cc pc = .ok (.lload_n kf, 1)) (hj : lv[j]? = some ((kf : Nat), .long x)) (q : Nat) (hq : pc + 1 = q) (K : nwV X A Q nL H k n q lv (.long x :: rest)) : nwV X A Q nL H k n pc lv rest := by
  subst hq; exact fun ls locs hl hS => lv_lload_n C.hx C.hb dd rfl (lv_at hl j hj) (K ls locs hl hS)
theorem nw_aload_n (C : nwC d X A H0 own mn cc nL ret rm tb) (j : Nat) {kf : Fin 4} {x : Nat} (dd : decode cc pc = .ok (.aload_n kf, 1)) (hj : lv[j]? = some ((kf : Nat), .ref x)) (q : Nat) (hq : pc + 1 = q) (K : nwV X A Q nL H k n q lv (.ref x :: rest)) : nwV X A Q nL H k n pc lv rest := by
  subst hq; exact fun ls locs hl hS => lv_aload_n C.hx C.hb dd rfl (lv_at hl j hj) (K ls locs hl hS)
theorem nw_aload (C : nwC d X A H0 own mn cc nL ret rm tb) (j : Nat) {i : Nat} {x : Nat} (dd : decode cc pc = .ok (.aload i, 2)) (hj : lv[j]? = some (i, .ref x)) (q : Nat) (hq : pc + 2 = q) (K : nwV X A Q nL H k n q lv (.ref x :: rest)) : nwV X A Q nL H k n pc lv rest := by
  subst hq; exact fun ls locs hl hS => lv_aload C.hx C.hb dd (lv_at hl j hj) (K ls locs hl hS)
theorem nw_istore_n (C : nwC d X A H0 own mn cc nL ret rm tb) {kf : Fin 4} {x : Int32} (lv' : List (Nat × Value)) (dd : decode cc pc = .ok (.istore_n kf, 1)) (hi : (kf : Nat) < nL) (hl' : ((kf : Nat), Value.int x) :: lv.filter (fun q => !(q.1 == (kf : Nat)) && !(q.1 + 1 == (kf : Nat) && q.2.category == 2)) = lv') (q : Nat) (hq : pc + 1 = q) (K : nwV X A Q nL H k n q lv' rest) : nwV X A Q nL H k n pc lv (.int x :: rest) := by
  subst hq; exact fun ls locs hl hS => lv_istore_n C.hx C.hb dd rfl hl hi hl' (fun ls' h' => K ls' locs h' hS)
theorem nw_istore (C : nwC d X A H0 own mn cc nL ret rm tb) {i : Nat} {x : Int32} (lv' : List (Nat × Value)) (dd : decode cc pc = .ok (.istore i, 2)) (hi : i < nL) (hl' : (i, Value.int x) :: lv.filter (fun q => !(q.1 == i) && !(q.1 + 1 == i && q.2.category == 2)) = lv') (q : Nat) (hq : pc + 2 = q) (K : nwV X A Q nL H k n q lv' rest) : nwV X A Q nL H k n pc lv (.int x :: rest) := by
  subst hq; exact fun ls locs hl hS => lv_istore C.hx C.hb dd hl hi hl' (fun ls' h' => K ls' locs h' hS)
theorem nw_lstore_n (C : nwC d X A H0 own mn cc nL ret rm tb) {kf : Fin 4} {x : Int64} (lv' : List (Nat × Value)) (dd : decode cc pc = .ok (.lstore_n kf, 1)) (hi : (kf : Nat) + 1 < nL) (hl' : ((kf : Nat), Value.long x) :: lv.filter (fun q => !(q.1 == (kf : Nat)) && (!(q.1 == (kf : Nat) + 1) && !(q.1 + 1 == (kf : Nat) && q.2.category == 2))) = lv') (q : Nat) (hq : pc + 1 = q) (K : nwV X A Q nL H k n q lv' rest) : nwV X A Q nL H k n pc lv (.long x :: rest) := by
  subst hq; exact fun ls locs hl hS => lv_lstore_n C.hx C.hb dd rfl hl hi hl' (fun ls' h' => K ls' locs h' hS)
theorem nw_astore_n (C : nwC d X A H0 own mn cc nL ret rm tb) {kf : Fin 4} {x : Nat} (lv' : List (Nat × Value)) (dd : decode cc pc = .ok (.astore_n kf, 1)) (hi : (kf : Nat) < nL) (hl' : ((kf : Nat), Value.ref x) :: lv.filter (fun q => !(q.1 == (kf : Nat)) && !(q.1 + 1 == (kf : Nat) && q.2.category == 2)) = lv') (q : Nat) (hq : pc + 1 = q) (K : nwV X A Q nL H k n q lv' rest) : nwV X A Q nL H k n pc lv (.ref x :: rest) := by
  subst hq; exact fun ls locs hl hS => lv_astore_n C.hx C.hb dd rfl hl hi hl' (fun ls' h' => K ls' locs h' hS)
theorem nw_astore (C : nwC d X A H0 own mn cc nL ret rm tb) {i : Nat} {x : Nat} (lv' : List (Nat × Value)) (dd : decode cc pc = .ok (.astore i, 2)) (hi : i < nL) (hl' : (i, Value.ref x) :: lv.filter (fun q => !(q.1 == i) && !(q.1 + 1 == i && q.2.category == 2)) = lv') (q : Nat) (hq : pc + 2 = q) (K : nwV X A Q nL H k n q lv' rest) : nwV X A Q nL H k n pc lv (.ref x :: rest) := by
  subst hq; exact fun ls locs hl hS => lv_astore C.hx C.hb dd hl hi hl' (fun ls' h' => K ls' locs h' hS)
theorem nw_iinc (C : nwC d X A H0 own mn cc nL ret rm tb) (j : Nat) {i : Nat} {c0 : Int} {x : Int32} (v : Int32) (lv' : List (Nat × Value)) (dd : decode cc pc = .ok (.iinc i c0, 3)) (hj : lv[j]? = some (i, .int x)) (hv : x + Int32.ofInt c0 = v) (hi : i < nL) (hl' : (i, Value.int v) :: lv.filter (fun q => !(q.1 == i) && !(q.1 + 1 == i && q.2.category == 2)) = lv') (q : Nat) (hq : pc + 3 = q) (K : nwV X A Q nL H k n q lv' rest) : nwV X A Q nL H k n pc lv rest := by
  subst hq; exact fun ls locs hl hS => lv_iinc C.hx C.hb dd hl hj hv hi hl' (fun ls' h' => K ls' locs h' hS)
theorem nw_iadd (C : nwC d X A H0 own mn cc nL ret rm tb) {x y : Int32} (v : Int32) (dd : decode cc pc = .ok (.iadd, 1)) (hv : x + y = v) (q : Nat) (hq : pc + 1 = q) (K : nwV X A Q nL H k n q lv (.int v :: rest)) : nwV X A Q nL H k n pc lv (.int y :: .int x :: rest) := by
  subst hq; subst hv; exact fun ls locs hl hS => lv_iadd C.hx C.hb dd (K ls locs hl hS)
theorem nw_isub (C : nwC d X A H0 own mn cc nL ret rm tb) {x y : Int32} (v : Int32) (dd : decode cc pc = .ok (.isub, 1)) (hv : x - y = v) (q : Nat) (hq : pc + 1 = q) (K : nwV X A Q nL H k n q lv (.int v :: rest)) : nwV X A Q nL H k n pc lv (.int y :: .int x :: rest) := by
  subst hq; subst hv; exact fun ls locs hl hS => lv_isub C.hx C.hb dd (K ls locs hl hS)
theorem nw_imul (C : nwC d X A H0 own mn cc nL ret rm tb) {x y : Int32} (v : Int32) (dd : decode cc pc = .ok (.imul, 1)) (hv : x * y = v) (q : Nat) (hq : pc + 1 = q) (K : nwV X A Q nL H k n q lv (.int v :: rest)) : nwV X A Q nL H k n pc lv (.int y :: .int x :: rest) := by
  subst hq; subst hv; exact fun ls locs hl hS => lv_imul C.hx C.hb dd (K ls locs hl hS)
theorem nw_idiv (C : nwC d X A H0 own mn cc nL ret rm tb) {x y : Int32} (v : Int32) (dd : decode cc pc = .ok (.idiv, 1)) (h0 : ¬ y = 0) (hv : x / y = v) (q : Nat) (hq : pc + 1 = q) (K : nwV X A Q nL H k n q lv (.int v :: rest)) : nwV X A Q nL H k n pc lv (.int y :: .int x :: rest) := by
  subst hq; subst hv; exact fun ls locs hl hS => lv_idiv C.hx C.hb dd h0 (K ls locs hl hS)
theorem nw_irem (C : nwC d X A H0 own mn cc nL ret rm tb) {x y : Int32} (v : Int32) (dd : decode cc pc = .ok (.irem, 1)) (h0 : ¬ y = 0) (hv : x - x / y * y = v) (q : Nat) (hq : pc + 1 = q) (K : nwV X A Q nL H k n q lv (.int v :: rest)) : nwV X A Q nL H k n pc lv (.int y :: .int x :: rest) := by
  subst hq; subst hv; exact fun ls locs hl hS => lv_irem C.hx C.hb dd h0 (K ls locs hl hS)
theorem nw_ineg (C : nwC d X A H0 own mn cc nL ret rm tb) {x : Int32} (v : Int32) (dd : decode cc pc = .ok (.ineg, 1)) (hv : -x = v) (q : Nat) (hq : pc + 1 = q) (K : nwV X A Q nL H k n q lv (.int v :: rest)) : nwV X A Q nL H k n pc lv (.int x :: rest) := by
  subst hq; subst hv; exact fun ls locs hl hS => lv_ineg C.hx C.hb dd (K ls locs hl hS)
theorem nw_iand (C : nwC d X A H0 own mn cc nL ret rm tb) {x y : Int32} (v : Int32) (dd : decode cc pc = .ok (.iand, 1)) (hv : x &&& y = v) (q : Nat) (hq : pc + 1 = q) (K : nwV X A Q nL H k n q lv (.int v :: rest)) : nwV X A Q nL H k n pc lv (.int y :: .int x :: rest) := by
  subst hq; subst hv; exact fun ls locs hl hS => lv_iand C.hx C.hb dd (K ls locs hl hS)
theorem nw_ior (C : nwC d X A H0 own mn cc nL ret rm tb) {x y : Int32} (v : Int32) (dd : decode cc pc = .ok (.ior, 1)) (hv : x ||| y = v) (q : Nat) (hq : pc + 1 = q) (K : nwV X A Q nL H k n q lv (.int v :: rest)) : nwV X A Q nL H k n pc lv (.int y :: .int x :: rest) := by
  subst hq; subst hv; exact fun ls locs hl hS => lv_ior C.hx C.hb dd (K ls locs hl hS)
theorem nw_ishl (C : nwC d X A H0 own mn cc nL ret rm tb) {x y : Int32} (v : Int32) (dd : decode cc pc = .ok (.ishl, 1)) (hv : x <<< (y &&& 31) = v) (q : Nat) (hq : pc + 1 = q) (K : nwV X A Q nL H k n q lv (.int v :: rest)) : nwV X A Q nL H k n pc lv (.int y :: .int x :: rest) := by
  subst hq; subst hv; exact fun ls locs hl hS => lv_ishl C.hx C.hb dd (K ls locs hl hS)
theorem nw_ishr (C : nwC d X A H0 own mn cc nL ret rm tb) {x y : Int32} (v : Int32) (dd : decode cc pc = .ok (.ishr, 1)) (hv : x >>> (y &&& 31) = v) (q : Nat) (hq : pc + 1 = q) (K : nwV X A Q nL H k n q lv (.int v :: rest)) : nwV X A Q nL H k n pc lv (.int y :: .int x :: rest) := by
  subst hq; subst hv; exact fun ls locs hl hS => lv_ishr C.hx C.hb dd (K ls locs hl hS)
theorem nw_iushr (C : nwC d X A H0 own mn cc nL ret rm tb) {x y : Int32} (v : Int32) (dd : decode cc pc = .ok (.iushr, 1)) (hv : (x.toUInt32 >>> (y.toUInt32 &&& Int32.toUInt32 31)).toInt32 = v) (q : Nat) (hq : pc + 1 = q) (K : nwV X A Q nL H k n q lv (.int v :: rest)) : nwV X A Q nL H k n pc lv (.int y :: .int x :: rest) := by
  subst hq; exact fun ls locs hl hS => lv_iushr C.hx C.hb dd hv (K ls locs hl hS)
theorem nw_ladd (C : nwC d X A H0 own mn cc nL ret rm tb) {x y : Int64} (dd : decode cc pc = .ok (.ladd, 1)) (q : Nat) (hq : pc + 1 = q) (K : nwV X A Q nL H k n q lv (.long (x + y) :: rest)) : nwV X A Q nL H k n pc lv (.long y :: .long x :: rest) := by
  subst hq; exact fun ls locs hl hS => lv_ladd C.hx C.hb dd (K ls locs hl hS)
theorem nw_lmul (C : nwC d X A H0 own mn cc nL ret rm tb) {x y : Int64} (dd : decode cc pc = .ok (.lmul, 1)) (q : Nat) (hq : pc + 1 = q) (K : nwV X A Q nL H k n q lv (.long (x * y) :: rest)) : nwV X A Q nL H k n pc lv (.long y :: .long x :: rest) := by
  subst hq; exact fun ls locs hl hS => lv_lmul C.hx C.hb dd (K ls locs hl hS)
theorem nw_lcmp (C : nwC d X A H0 own mn cc nL ret rm tb) {x y : Int64} (dd : decode cc pc = .ok (.lcmp, 1)) (q : Nat) (hq : pc + 1 = q) (K : nwV X A Q nL H k n q lv (.int (lg_cmp x y) :: rest)) : nwV X A Q nL H k n pc lv (.long y :: .long x :: rest) := by
  subst hq; exact fun ls locs hl hS => W.lcmp C.hx C.hb dd (K ls locs hl hS)
theorem nw_i2l (C : nwC d X A H0 own mn cc nL ret rm tb) {x : Int32} (dd : decode cc pc = .ok (.i2l, 1)) (q : Nat) (hq : pc + 1 = q) (K : nwV X A Q nL H k n q lv (.long x.toInt64 :: rest)) : nwV X A Q nL H k n pc lv (.int x :: rest) := by
  subst hq; exact fun ls locs hl hS => lv_i2l C.hx C.hb dd rfl (K ls locs hl hS)
theorem nw_i2b (C : nwC d X A H0 own mn cc nL ret rm tb) {x : Int32} (v : Int32) (dd : decode cc pc = .ok (.i2b, 1)) (hv : x.toInt8.toInt32 = v) (q : Nat) (hq : pc + 1 = q) (K : nwV X A Q nL H k n q lv (.int v :: rest)) : nwV X A Q nL H k n pc lv (.int x :: rest) := by
  subst hq; exact fun ls locs hl hS => lv_i2b C.hx C.hb dd hv (K ls locs hl hS)
theorem nw_i2c (C : nwC d X A H0 own mn cc nL ret rm tb) {x : Int32} (v : Int32) (dd : decode cc pc = .ok (.i2c, 1)) (hv : (x.toUInt32 % 65536).toInt32 = v) (q : Nat) (hq : pc + 1 = q) (K : nwV X A Q nL H k n q lv (.int v :: rest)) : nwV X A Q nL H k n pc lv (.int x :: rest) := by
  subst hq; exact fun ls locs hl hS => lv_i2c C.hx C.hb dd hv (K ls locs hl hS)
theorem nw_dup (C : nwC d X A H0 own mn cc nL ret rm tb) {va : Value} (dd : decode cc pc = .ok (.dup, 1)) (h1 : va.category = 1) (q : Nat) (hq : pc + 1 = q) (K : nwV X A Q nL H k n q lv (va :: va :: rest)) : nwV X A Q nL H k n pc lv (va :: rest) := by
  subst hq; exact fun ls locs hl hS => lv_dup C.hx C.hb dd h1 (K ls locs hl hS)
theorem nw_dup_x1 (C : nwC d X A H0 own mn cc nL ret rm tb) {va vb : Value} (dd : decode cc pc = .ok (.dup_x1, 1)) (h1 : va.category = 1) (h2 : vb.category = 1) (q : Nat) (hq : pc + 1 = q) (K : nwV X A Q nL H k n q lv (va :: vb :: va :: rest)) : nwV X A Q nL H k n pc lv (va :: vb :: rest) := by
  subst hq; exact fun ls locs hl hS => lv_dup_x1 C.hx C.hb dd h1 h2 (K ls locs hl hS)
theorem nw_dup_x2 (C : nwC d X A H0 own mn cc nL ret rm tb) {va vb vc : Value} (dd : decode cc pc = .ok (.dup_x2, 1)) (h1 : va.category = 1) (h2 : vb.category = 1) (h3 : vc.category = 1) (q : Nat) (hq : pc + 1 = q) (K : nwV X A Q nL H k n q lv (va :: vb :: vc :: va :: rest)) : nwV X A Q nL H k n pc lv (va :: vb :: vc :: rest) := by
  subst hq; exact fun ls locs hl hS => lv_dup_x2 C.hx C.hb dd h1 h2 h3 (K ls locs hl hS)
theorem nw_dup2 (C : nwC d X A H0 own mn cc nL ret rm tb) {va vb : Value} (dd : decode cc pc = .ok (.dup2, 1)) (h1 : va.category = 1) (h2 : vb.category = 1) (q : Nat) (hq : pc + 1 = q) (K : nwV X A Q nL H k n q lv (va :: vb :: va :: vb :: rest)) : nwV X A Q nL H k n pc lv (va :: vb :: rest) := by
  subst hq; exact fun ls locs hl hS => lv_dup2_11 C.hx C.hb dd h1 h2 (K ls locs hl hS)
theorem nw_dup2l (C : nwC d X A H0 own mn cc nL ret rm tb) {va : Value} (dd : decode cc pc = .ok (.dup2, 1)) (h1 : va.category = 2) (q : Nat) (hq : pc + 1 = q) (K : nwV X A Q nL H k n q lv (va :: va :: rest)) : nwV X A Q nL H k n pc lv (va :: rest) := by
  subst hq; exact fun ls locs hl hS => lv_dup2_2 C.hx C.hb dd h1 (K ls locs hl hS)
theorem nw_dup2_x1l (C : nwC d X A H0 own mn cc nL ret rm tb) {va vb : Value} (dd : decode cc pc = .ok (.dup2_x1, 1)) (h1 : va.category = 2) (h2 : vb.category = 1) (q : Nat) (hq : pc + 1 = q) (K : nwV X A Q nL H k n q lv (va :: vb :: va :: rest)) : nwV X A Q nL H k n pc lv (va :: vb :: rest) := by
  subst hq; exact fun ls locs hl hS => lv_dup2_x1_2 C.hx C.hb dd h1 h2 (K ls locs hl hS)
theorem nw_pop (C : nwC d X A H0 own mn cc nL ret rm tb) {va : Value} (dd : decode cc pc = .ok (.pop, 1)) (h1 : va.category = 1) (q : Nat) (hq : pc + 1 = q) (K : nwV X A Q nL H k n q lv rest) : nwV X A Q nL H k n pc lv (va :: rest) := by
  subst hq; exact fun ls locs hl hS => lv_pop C.hx C.hb dd h1 (K ls locs hl hS)
theorem nw_pop2l (C : nwC d X A H0 own mn cc nL ret rm tb) {va : Value} (dd : decode cc pc = .ok (.pop2, 1)) (h1 : va.category = 2) (q : Nat) (hq : pc + 1 = q) (K : nwV X A Q nL H k n q lv rest) : nwV X A Q nL H k n pc lv (va :: rest) := by
  subst hq; exact fun ls locs hl hS => lv_pop2_2 C.hx C.hb dd h1 (K ls locs hl hS)
theorem nw_null (C : nwC d X A H0 own mn cc nL ret rm tb) (dd : decode cc pc = .ok (.aconst_null, 1)) (q : Nat) (hq : pc + 1 = q) (K : nwV X A Q nL H k n q lv (.null :: rest)) : nwV X A Q nL H k n pc lv rest := by
  subst hq; exact fun ls locs hl hS => lv_null C.hx C.hb dd (K ls locs hl hS)
theorem nw_goto (C : nwC d X A H0 own mn cc nL ret rm tb) {off : Int} (t : Nat) (dd : decode cc pc = .ok (.goto off, 3)) (ht : (pc : Int) + off = (t : Int)) (K : nwV X A Q nL H k n t lv rest) : nwV X A Q nL H k n pc lv rest :=
  fun ls locs hl hS => lv_goto C.hx C.hb dd ht (K ls locs hl hS)
/-! branches -/
theorem nw_ifeq (C : nwC d X A H0 own mn cc nL ret rm tb) {x : Int32} {off : Int} (t : Nat) (dd : decode cc pc = .ok (.ifCond .eq off, 3)) (ht : (pc : Int) + off = (t : Int)) (q : Nat) (hq : pc + 3 = q) (Kt : x = 0 → nwV X A Q nL H k n t lv rest) (Kf : ¬ x = 0 → nwV X A Q nL H k n q lv rest) : nwV X A Q nL H k n pc lv (.int x :: rest) := by
  subst hq; exact fun ls locs hl hS => lv_if_eq C.hx C.hb dd ht (fun h => Kt h ls locs hl hS) (fun h => Kf h ls locs hl hS)
theorem nw_ifne (C : nwC d X A H0 own mn cc nL ret rm tb) {x : Int32} {off : Int} (t : Nat) (dd : decode cc pc = .ok (.ifCond .ne off, 3)) (ht : (pc : Int) + off = (t : Int)) (q : Nat) (hq : pc + 3 = q) (Kt : ¬ x = 0 → nwV X A Q nL H k n t lv rest) (Kf : x = 0 → nwV X A Q nL H k n q lv rest) : nwV X A Q nL H k n pc lv (.int x :: rest) := by
  subst hq; exact fun ls locs hl hS => lv_if_ne C.hx C.hb dd ht (fun h => Kt h ls locs hl hS) (fun h => Kf h ls locs hl hS)
theorem nw_iflt (C : nwC d X A H0 own mn cc nL ret rm tb) {x : Int32} {off : Int} (t : Nat) (dd : decode cc pc = .ok (.ifCond .lt off, 3)) (ht : (pc : Int) + off = (t : Int)) (q : Nat) (hq : pc + 3 = q) (Kt : x < 0 → nwV X A Q nL H k n t lv rest) (Kf : ¬ x < 0 → nwV X A Q nL H k n q lv rest) : nwV X A Q nL H k n pc lv (.int x :: rest) := by
  subst hq; exact fun ls locs hl hS => lv_if_lt C.hx C.hb dd ht (fun h => Kt h ls locs hl hS) (fun h => Kf h ls locs hl hS)
theorem nw_ifge (C : nwC d X A H0 own mn cc nL ret rm tb) {x : Int32} {off : Int} (t : Nat) (dd : decode cc pc = .ok (.ifCond .ge off, 3)) (ht : (pc : Int) + off = (t : Int)) (q : Nat) (hq : pc + 3 = q) (Kt : x ≥ 0 → nwV X A Q nL H k n t lv rest) (Kf : ¬ x ≥ 0 → nwV X A Q nL H k n q lv rest) : nwV X A Q nL H k n pc lv (.int x :: rest) := by
  subst hq; exact fun ls locs hl hS => lv_if_ge C.hx C.hb dd ht (fun h => Kt h ls locs hl hS) (fun h => Kf h ls locs hl hS)
theorem nw_ifgt (C : nwC d X A H0 own mn cc nL ret rm tb) {x : Int32} {off : Int} (t : Nat) (dd : decode cc pc = .ok (.ifCond .gt off, 3)) (ht : (pc : Int) + off = (t : Int)) (q : Nat) (hq : pc + 3 = q) (Kt : x > 0 → nwV X A Q nL H k n t lv rest) (Kf : ¬ x > 0 → nwV X A Q nL H k n q lv rest) : nwV X A Q nL H k n pc lv (.int x :: rest) := by
  subst hq; exact fun ls locs hl hS => lv_if_gt C.hx C.hb dd ht (fun h => Kt h ls locs hl hS) (fun h => Kf h ls locs hl hS)
theorem nw_ifle (C : nwC d X A H0 own mn cc nL ret rm tb) {x : Int32} {off : Int} (t : Nat) (dd : decode cc pc = .ok (.ifCond .le off, 3)) (ht : (pc : Int) + off = (t : Int)) (q : Nat) (hq : pc + 3 = q) (Kt : x ≤ 0 → nwV X A Q nL H k n t lv rest) (Kf : ¬ x ≤ 0 → nwV X A Q nL H k n q lv rest) : nwV X A Q nL H k n pc lv (.int x :: rest) := by
  subst hq; exact fun ls locs hl hS => lv_if_le C.hx C.hb dd ht (fun h => Kt h ls locs hl hS) (fun h => Kf h ls locs hl hS)
theorem nw_icmpeq (C : nwC d X A H0 own mn cc nL ret rm tb) {x y : Int32} {off : Int} (t : Nat) (dd : decode cc pc = .ok (.if_icmp .eq off, 3)) (ht : (pc : Int) + off = (t : Int)) (q : Nat) (hq : pc + 3 = q) (Kt : x = y → nwV X A Q nL H k n t lv rest) (Kf : ¬ x = y → nwV X A Q nL H k n q lv rest) : nwV X A Q nL H k n pc lv (.int y :: .int x :: rest) := by
  subst hq; exact fun ls locs hl hS => lv_icmp_eq C.hx C.hb dd ht (fun h => Kt h ls locs hl hS) (fun h => Kf h ls locs hl hS)
theorem nw_icmpne (C : nwC d X A H0 own mn cc nL ret rm tb) {x y : Int32} {off : Int} (t : Nat) (dd : decode cc pc = .ok (.if_icmp .ne off, 3)) (ht : (pc : Int) + off = (t : Int)) (q : Nat) (hq : pc + 3 = q) (Kt : ¬ x = y → nwV X A Q nL H k n t lv rest) (Kf : x = y → nwV X A Q nL H k n q lv rest) : nwV X A Q nL H k n pc lv (.int y :: .int x :: rest) := by
  subst hq; exact fun ls locs hl hS => lv_icmp_ne C.hx C.hb dd ht (fun h => Kt h ls locs hl hS) (fun h => Kf h ls locs hl hS)
theorem nw_icmplt (C : nwC d X A H0 own mn cc nL ret rm tb) {x y : Int32} {off : Int} (t : Nat) (dd : decode cc pc = .ok (.if_icmp .lt off, 3)) (ht : (pc : Int) + off = (t : Int)) (q : Nat) (hq : pc + 3 = q) (Kt : x < y → nwV X A Q nL H k n t lv rest) (Kf : ¬ x < y → nwV X A Q nL H k n q lv rest) : nwV X A Q nL H k n pc lv (.int y :: .int x :: rest) := by
  subst hq; exact fun ls locs hl hS => lv_icmp_lt C.hx C.hb dd ht (fun h => Kt h ls locs hl hS) (fun h => Kf h ls locs hl hS)
theorem nw_icmpge (C : nwC d X A H0 own mn cc nL ret rm tb) {x y : Int32} {off : Int} (t : Nat) (dd : decode cc pc = .ok (.if_icmp .ge off, 3)) (ht : (pc : Int) + off = (t : Int)) (q : Nat) (hq : pc + 3 = q) (Kt : x ≥ y → nwV X A Q nL H k n t lv rest) (Kf : ¬ x ≥ y → nwV X A Q nL H k n q lv rest) : nwV X A Q nL H k n pc lv (.int y :: .int x :: rest) := by
  subst hq; exact fun ls locs hl hS => lv_icmp_ge C.hx C.hb dd ht (fun h => Kt h ls locs hl hS) (fun h => Kf h ls locs hl hS)
theorem nw_icmpgt (C : nwC d X A H0 own mn cc nL ret rm tb) {x y : Int32} {off : Int} (t : Nat) (dd : decode cc pc = .ok (.if_icmp .gt off, 3)) (ht : (pc : Int) + off = (t : Int)) (q : Nat) (hq : pc + 3 = q) (Kt : x > y → nwV X A Q nL H k n t lv rest) (Kf : ¬ x > y → nwV X A Q nL H k n q lv rest) : nwV X A Q nL H k n pc lv (.int y :: .int x :: rest) := by
  subst hq; exact fun ls locs hl hS => lv_icmp_gt C.hx C.hb dd ht (fun h => Kt h ls locs hl hS) (fun h => Kf h ls locs hl hS)
theorem nw_icmple (C : nwC d X A H0 own mn cc nL ret rm tb) {x y : Int32} {off : Int} (t : Nat) (dd : decode cc pc = .ok (.if_icmp .le off, 3)) (ht : (pc : Int) + off = (t : Int)) (q : Nat) (hq : pc + 3 = q) (Kt : x ≤ y → nwV X A Q nL H k n t lv rest) (Kf : ¬ x ≤ y → nwV X A Q nL H k n q lv rest) : nwV X A Q nL H k n pc lv (.int y :: .int x :: rest) := by
  subst hq; exact fun ls locs hl hS => lv_icmp_le C.hx C.hb dd ht (fun h => Kt h ls locs hl hS) (fun h => Kf h ls locs hl hS)
theorem nw_acmpeq (C : nwC d X A H0 own mn cc nL ret rm tb) {x y : Nat} {off : Int} (t : Nat) (dd : decode cc pc = .ok (.if_acmp .eq off, 3)) (ht : (pc : Int) + off = (t : Int)) (q : Nat) (hq : pc + 3 = q) (Kt : x = y → nwV X A Q nL H k n t lv rest) (Kf : ¬ x = y → nwV X A Q nL H k n q lv rest) : nwV X A Q nL H k n pc lv (.ref y :: .ref x :: rest) := by
  subst hq; exact fun ls locs hl hS => lv_acmp_eq (rx := some x) (ry := some y) C.hx C.hb dd ht (fun h => Kt (Option.some.inj h) ls locs hl hS) (fun h => Kf (fun e => h (congrArg some e)) ls locs hl hS)
theorem nw_acmpne (C : nwC d X A H0 own mn cc nL ret rm tb) {x y : Nat} {off : Int} (t : Nat) (dd : decode cc pc = .ok (.if_acmp .ne off, 3)) (ht : (pc : Int) + off = (t : Int)) (q : Nat) (hq : pc + 3 = q) (Kt : ¬ x = y → nwV X A Q nL H k n t lv rest) (Kf : x = y → nwV X A Q nL H k n q lv rest) : nwV X A Q nL H k n pc lv (.ref y :: .ref x :: rest) := by
  subst hq; exact fun ls locs hl hS => lv_acmp_ne (rx := some x) (ry := some y) C.hx C.hb dd ht (fun h => Kt (fun e => h (congrArg some e)) ls locs hl hS) (fun h => Kf (Option.some.inj h) ls locs hl hS)
theorem nw_ifnonnull (C : nwC d X A H0 own mn cc nL ret rm tb) {x : Nat} {off : Int} (t : Nat) (dd : decode cc pc = .ok (.ifnonnull off, 3)) (ht : (pc : Int) + off = (t : Int)) (K : nwV X A Q nL H k n t lv rest) : nwV X A Q nL H k n pc lv (.ref x :: rest) :=
  fun ls locs hl hS => lv_ifnonnull C.hx C.hb dd ht (K ls locs hl hS)
theorem nw_ifnull (C : nwC d X A H0 own mn cc nL ret rm tb) {x : Nat} {off : Int} (dd : decode cc pc = .ok (.ifnull off, 3)) (q : Nat) (hq : pc + 3 = q) (K : nwV X A Q nL H k n q lv rest) : nwV X A Q nL H k n pc lv (.ref x :: rest) := by
  subst hq; exact fun ls locs hl hS => lv_ifnull C.hx C.hb dd (K ls locs hl hS)
theorem nw_ifnonnullN (C : nwC d X A H0 own mn cc nL ret rm tb) {off : Int} (dd : decode cc pc = .ok (.ifnonnull off, 3)) (q : Nat) (hq : pc + 3 = q) (K : nwV X A Q nL H k n q lv rest) : nwV X A Q nL H k n pc lv (.null :: rest) := by
  subst hq; exact fun ls locs hl hS => lv_ifnonnullN C.hx C.hb dd (K ls locs hl hS)
theorem nw_ifnullN (C : nwC d X A H0 own mn cc nL ret rm tb) {off : Int} (t : Nat) (dd : decode cc pc = .ok (.ifnull off, 3)) (ht : (pc : Int) + off = (t : Int)) (K : nwV X A Q nL H k n t lv rest) : nwV X A Q nL H k n pc lv (.null :: rest) :=
  fun ls locs hl hS => lv_ifnullN C.hx C.hb dd ht (K ls locs hl hS)
/-! locals under other names, cells widened -/
theorem nw_sub {st : List Value} (ks : List Nat) {lv' : List (Nat × Value)} (h : lv_pick lv ks = lv') (K : nwV X A Q nL H k n pc lv' st) : nwV X A Q nL H k n pc lv st := fun ls locs hl hS => K ls locs (lv_sub hl ks h) hS
theorem nw_wide {st : List Value} {k' n' : Nat} (h1 : k ≤ k') (h2 : n ≤ n') (K : nwV X A Q nL H k' n' pc lv st) : nwV X A Q nL H k n pc lv st := fun ls locs hl hS => W.widen h1 h2 (K ls locs hl hS)
theorem nw_wideT {E : String} {q : Addr} {k' n' : Nat} (h1 : k ≤ k') (h2 : n ≤ n') (K : nwT X A Q nL H k' n' pc lv E q) : nwT X A Q nL H k n pc lv E q := fun ls locs r ce hl hS h3 h4 h5 => vx_widen h1 h2 (K ls locs r ce hl hS h3 h4 h5)
end NWR
