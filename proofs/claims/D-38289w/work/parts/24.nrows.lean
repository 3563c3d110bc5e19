/-! ===== ROWS over numbers told as Nat, Bool, Option Nat ===== -/
def b2i (b : Bool) : Int32 := match b with | true => nI 1 | false => nI 0
def oI (o : Option Nat) : Int32 := match o with | some n => nI n | none => -1
theorem b2i_narrow (b : Bool) : narrow .boolean (.int (b2i b)) = .int (b2i b) := by cases b <;> rfl
theorem b2i_eq0 {b : Bool} : b2i b = 0 ↔ b = false := by cases b <;> decide
theorem b2i_eq {a b : Bool} : b2i a = b2i b ↔ a = b := by cases a <;> cases b <;> decide
theorem nI_m1 {n : Nat} (h : n < 2 ^ 31) : ¬ nI n = -1 := by
  intro e
  have h1 : (nI n).toInt = (-1 : Int32).toInt := by rw [e]
  rw [nI_toInt h] at h1
  have h2 : (-1 : Int32).toInt = -1 := by decide
  omega
theorem oI_eq {a b : Option Nat} (ha : ∀ v, a = some v → v < 2 ^ 31) (hb : ∀ v, b = some v → v < 2 ^ 31) : oI a = oI b ↔ a = b := by
  cases a with
  | none => cases b with
    | none => exact ⟨fun _ => rfl, fun _ => rfl⟩
    | some w => exact ⟨fun h => absurd h.symm (nI_m1 (hb w rfl)), fun h => by cases h⟩
  | some v => cases b with
    | none => exact ⟨fun h => absurd h (nI_m1 (ha v rfl)), fun h => by cases h⟩
    | some w => exact ⟨fun h => congrArg some ((nI_eq (ha v rfl) (hb w rfl)).mp h), fun h => congrArg oI h⟩
section NWN
variable {d : nwD} {X : nwX} {A : Nat → Prop} {Q : State → Prop} {nL : Nat} {H H0 : Heap} {k n pc : Nat} {lv : List (Nat × Value)} {rest : List Value} {own mn : String} {cc : ByteArray} {ret : Option FieldType} {rm : Room} {tb : List ExceptionTableEntry}
theorem nw_icmpltN (C : nwC d X A H0 own mn cc nL ret rm tb) {a b : Nat} (hab : a < 2 ^ 31 ∧ b < 2 ^ 31) {off : Int} (t : Nat) (dd : decode cc pc = .ok (.if_icmp .lt off, 3)) (ht : (pc : Int) + off = (t : Int)) (q : Nat) (hq : pc + 3 = q) (Kt : a < b → nwV X A Q nL H k n t lv rest) (Kf : b ≤ a → nwV X A Q nL H k n q lv rest) : nwV X A Q nL H k n pc lv (.int (nI b) :: .int (nI a) :: rest) := by
  obtain ⟨ha, hb⟩ := hab
  exact nw_icmplt C t dd ht q hq (fun h => Kt ((nI_ltI ha hb).mp h)) (fun h => Kf (Nat.not_lt.mp (fun e => h ((nI_ltI ha hb).mpr e))))
theorem nw_icmpgeN (C : nwC d X A H0 own mn cc nL ret rm tb) {a b : Nat} (hab : a < 2 ^ 31 ∧ b < 2 ^ 31) {off : Int} (t : Nat) (dd : decode cc pc = .ok (.if_icmp .ge off, 3)) (ht : (pc : Int) + off = (t : Int)) (q : Nat) (hq : pc + 3 = q) (Kt : b ≤ a → nwV X A Q nL H k n t lv rest) (Kf : a < b → nwV X A Q nL H k n q lv rest) : nwV X A Q nL H k n pc lv (.int (nI b) :: .int (nI a) :: rest) := by
  obtain ⟨ha, hb⟩ := hab
  exact nw_icmpge C t dd ht q hq (fun h => Kt ((nI_leI hb ha).mp h)) (fun h => Kf (Nat.not_le.mp (fun e => h ((nI_leI hb ha).mpr e))))
theorem nw_icmpgtN (C : nwC d X A H0 own mn cc nL ret rm tb) {a b : Nat} (hab : a < 2 ^ 31 ∧ b < 2 ^ 31) {off : Int} (t : Nat) (dd : decode cc pc = .ok (.if_icmp .gt off, 3)) (ht : (pc : Int) + off = (t : Int)) (q : Nat) (hq : pc + 3 = q) (Kt : b < a → nwV X A Q nL H k n t lv rest) (Kf : a ≤ b → nwV X A Q nL H k n q lv rest) : nwV X A Q nL H k n pc lv (.int (nI b) :: .int (nI a) :: rest) := by
  obtain ⟨ha, hb⟩ := hab
  exact nw_icmpgt C t dd ht q hq (fun h => Kt ((nI_ltI hb ha).mp h)) (fun h => Kf (Nat.not_lt.mp (fun e => h ((nI_ltI hb ha).mpr e))))
theorem nw_icmpleN (C : nwC d X A H0 own mn cc nL ret rm tb) {a b : Nat} (hab : a < 2 ^ 31 ∧ b < 2 ^ 31) {off : Int} (t : Nat) (dd : decode cc pc = .ok (.if_icmp .le off, 3)) (ht : (pc : Int) + off = (t : Int)) (q : Nat) (hq : pc + 3 = q) (Kt : a ≤ b → nwV X A Q nL H k n t lv rest) (Kf : b < a → nwV X A Q nL H k n q lv rest) : nwV X A Q nL H k n pc lv (.int (nI b) :: .int (nI a) :: rest) := by
  obtain ⟨ha, hb⟩ := hab
  exact nw_icmple C t dd ht q hq (fun h => Kt ((nI_leI ha hb).mp h)) (fun h => Kf (Nat.not_le.mp (fun e => h ((nI_leI ha hb).mpr e))))
theorem nw_icmpeqN (C : nwC d X A H0 own mn cc nL ret rm tb) {a b : Nat} (hab : a < 2 ^ 31 ∧ b < 2 ^ 31) {off : Int} (t : Nat) (dd : decode cc pc = .ok (.if_icmp .eq off, 3)) (ht : (pc : Int) + off = (t : Int)) (q : Nat) (hq : pc + 3 = q) (Kt : a = b → nwV X A Q nL H k n t lv rest) (Kf : ¬ a = b → nwV X A Q nL H k n q lv rest) : nwV X A Q nL H k n pc lv (.int (nI b) :: .int (nI a) :: rest) := by
  obtain ⟨ha, hb⟩ := hab
  exact nw_icmpeq C t dd ht q hq (fun h => Kt ((nI_eq ha hb).mp h)) (fun h => Kf ((fun e => h ((nI_eq ha hb).mpr e))))
theorem nw_icmpneN (C : nwC d X A H0 own mn cc nL ret rm tb) {a b : Nat} (hab : a < 2 ^ 31 ∧ b < 2 ^ 31) {off : Int} (t : Nat) (dd : decode cc pc = .ok (.if_icmp .ne off, 3)) (ht : (pc : Int) + off = (t : Int)) (q : Nat) (hq : pc + 3 = q) (Kt : ¬ a = b → nwV X A Q nL H k n t lv rest) (Kf : a = b → nwV X A Q nL H k n q lv rest) : nwV X A Q nL H k n pc lv (.int (nI b) :: .int (nI a) :: rest) := by
  obtain ⟨ha, hb⟩ := hab
  exact nw_icmpne C t dd ht q hq (fun h => Kt ((fun e => h ((nI_eq ha hb).mpr e)))) (fun h => Kf ((nI_eq ha hb).mp h))
theorem nw_ifeqN (C : nwC d X A H0 own mn cc nL ret rm tb) {a : Nat} (ha : a < 2 ^ 31) {off : Int} (t : Nat) (dd : decode cc pc = .ok (.ifCond .eq off, 3)) (ht : (pc : Int) + off = (t : Int)) (q : Nat) (hq : pc + 3 = q) (Kt : a = 0 → nwV X A Q nL H k n t lv rest) (Kf : 0 < a → nwV X A Q nL H k n q lv rest) : nwV X A Q nL H k n pc lv (.int (nI a) :: rest) := by
  exact nw_ifeq C t dd ht q hq (fun h => Kt ((nI_eq ha (by decide)).mp (h.trans nI_0.symm))) (fun h => Kf (Nat.pos_of_ne_zero (fun e => h (by rw [e]; exact nI_0))))
theorem nw_ifneN (C : nwC d X A H0 own mn cc nL ret rm tb) {a : Nat} (ha : a < 2 ^ 31) {off : Int} (t : Nat) (dd : decode cc pc = .ok (.ifCond .ne off, 3)) (ht : (pc : Int) + off = (t : Int)) (q : Nat) (hq : pc + 3 = q) (Kt : 0 < a → nwV X A Q nL H k n t lv rest) (Kf : a = 0 → nwV X A Q nL H k n q lv rest) : nwV X A Q nL H k n pc lv (.int (nI a) :: rest) := by
  exact nw_ifne C t dd ht q hq (fun h => Kt (Nat.pos_of_ne_zero (fun e => h (by rw [e]; exact nI_0)))) (fun h => Kf ((nI_eq ha (by decide)).mp (h.trans nI_0.symm)))
theorem nw_ifgtN (C : nwC d X A H0 own mn cc nL ret rm tb) {a : Nat} (ha : a < 2 ^ 31) {off : Int} (t : Nat) (dd : decode cc pc = .ok (.ifCond .gt off, 3)) (ht : (pc : Int) + off = (t : Int)) (q : Nat) (hq : pc + 3 = q) (Kt : 0 < a → nwV X A Q nL H k n t lv rest) (Kf : a = 0 → nwV X A Q nL H k n q lv rest) : nwV X A Q nL H k n pc lv (.int (nI a) :: rest) := by
  exact nw_ifgt C t dd ht q hq (fun h => Kt ((nI_ltI (by decide) ha).mp (show nI 0 < nI a by rw [nI_0]; exact h))) (fun h => Kf (by
      rcases Nat.eq_zero_or_pos a with e | e
      · exact e
      · exact absurd (by have h1 := (nI_ltI (by decide) ha).mpr e; rw [nI_0] at h1; exact h1) h))
theorem nw_ifleN (C : nwC d X A H0 own mn cc nL ret rm tb) {a : Nat} (ha : a < 2 ^ 31) {off : Int} (t : Nat) (dd : decode cc pc = .ok (.ifCond .le off, 3)) (ht : (pc : Int) + off = (t : Int)) (q : Nat) (hq : pc + 3 = q) (Kt : a = 0 → nwV X A Q nL H k n t lv rest) (Kf : 0 < a → nwV X A Q nL H k n q lv rest) : nwV X A Q nL H k n pc lv (.int (nI a) :: rest) := by
  exact nw_ifle C t dd ht q hq (fun h => Kt (by
      rcases Nat.eq_zero_or_pos a with e | e
      · exact e
      · exact absurd h (nI_nle e ha))) (fun h => Kf (by
      rcases Nat.eq_zero_or_pos a with e | e
      · exact absurd (by rw [e, nI_0]; decide) h
      · exact e))
theorem nw_ifltN (C : nwC d X A H0 own mn cc nL ret rm tb) {a : Nat} (ha : a < 2 ^ 31) {off : Int} (t : Nat) (dd : decode cc pc = .ok (.ifCond .lt off, 3)) (ht : (pc : Int) + off = (t : Int)) (q : Nat) (hq : pc + 3 = q) (Kf : nwV X A Q nL H k n q lv rest) : nwV X A Q nL H k n pc lv (.int (nI a) :: rest) :=
  nw_iflt C t dd ht q hq (fun h => absurd h (nI_pos ha)) (fun _ => Kf)
theorem nw_ifgeN (C : nwC d X A H0 own mn cc nL ret rm tb) {a : Nat} (ha : a < 2 ^ 31) {off : Int} (t : Nat) (dd : decode cc pc = .ok (.ifCond .ge off, 3)) (ht : (pc : Int) + off = (t : Int)) (Kt : nwV X A Q nL H k n t lv rest) : nwV X A Q nL H k n pc lv (.int (nI a) :: rest) :=
  nw_ifge C t dd ht (pc + 3) rfl (fun _ => Kt) (fun h => absurd (nI_pos' ha) h)
theorem nw_ifeqB (C : nwC d X A H0 own mn cc nL ret rm tb) {b : Bool} {off : Int} (t : Nat) (dd : decode cc pc = .ok (.ifCond .eq off, 3)) (ht : (pc : Int) + off = (t : Int)) (q : Nat) (hq : pc + 3 = q) (Kt : b = false → nwV X A Q nL H k n t lv rest) (Kf : b = true → nwV X A Q nL H k n q lv rest) : nwV X A Q nL H k n pc lv (.int (b2i b) :: rest) :=
  nw_ifeq C t dd ht q hq (fun h => Kt (b2i_eq0.mp h)) (fun h => Kf (by cases b with | true => rfl | false => exact absurd (b2i_eq0.mpr rfl) h))
theorem nw_ifneB (C : nwC d X A H0 own mn cc nL ret rm tb) {b : Bool} {off : Int} (t : Nat) (dd : decode cc pc = .ok (.ifCond .ne off, 3)) (ht : (pc : Int) + off = (t : Int)) (q : Nat) (hq : pc + 3 = q) (Kt : b = true → nwV X A Q nL H k n t lv rest) (Kf : b = false → nwV X A Q nL H k n q lv rest) : nwV X A Q nL H k n pc lv (.int (b2i b) :: rest) :=
  nw_ifne C t dd ht q hq (fun h => Kt (by cases b with | true => rfl | false => exact absurd (b2i_eq0.mpr rfl) h)) (fun h => Kf (b2i_eq0.mp h))
/-- a branch whose condition is known -/
theorem nw_icmpeqT (C : nwC d X A H0 own mn cc nL ret rm tb) {x y : Int32} {off : Int} (h : x = y) (t : Nat) (dd : decode cc pc = .ok (.if_icmp .eq off, 3)) (ht : (pc : Int) + off = (t : Int)) (Kt : nwV X A Q nL H k n t lv rest) : nwV X A Q nL H k n pc lv (.int y :: .int x :: rest) :=
  nw_icmpeq C t dd ht (pc + 3) rfl (fun _ => Kt) (fun h9 => absurd h h9)
theorem nw_icmpeqF (C : nwC d X A H0 own mn cc nL ret rm tb) {x y : Int32} {off : Int} (h : ¬ x = y) (t : Nat) (dd : decode cc pc = .ok (.if_icmp .eq off, 3)) (ht : (pc : Int) + off = (t : Int)) (q : Nat) (hq : pc + 3 = q) (Kf : nwV X A Q nL H k n q lv rest) : nwV X A Q nL H k n pc lv (.int y :: .int x :: rest) :=
  nw_icmpeq C t dd ht q hq (fun h9 => absurd h9 h) (fun _ => Kf)
theorem nw_icmpneT (C : nwC d X A H0 own mn cc nL ret rm tb) {x y : Int32} {off : Int} (h : ¬ x = y) (t : Nat) (dd : decode cc pc = .ok (.if_icmp .ne off, 3)) (ht : (pc : Int) + off = (t : Int)) (Kt : nwV X A Q nL H k n t lv rest) : nwV X A Q nL H k n pc lv (.int y :: .int x :: rest) :=
  nw_icmpne C t dd ht (pc + 3) rfl (fun _ => Kt) (fun h9 => absurd h9 h)
theorem nw_icmpneF (C : nwC d X A H0 own mn cc nL ret rm tb) {x y : Int32} {off : Int} (h : x = y) (t : Nat) (dd : decode cc pc = .ok (.if_icmp .ne off, 3)) (ht : (pc : Int) + off = (t : Int)) (q : Nat) (hq : pc + 3 = q) (Kf : nwV X A Q nL H k n q lv rest) : nwV X A Q nL H k n pc lv (.int y :: .int x :: rest) :=
  nw_icmpne C t dd ht q hq (fun h9 => absurd h h9) (fun _ => Kf)
theorem nw_iaddN (C : nwC d X A H0 own mn cc nL ret rm tb) {a b : Nat} (dd : decode cc pc = .ok (.iadd, 1)) (q : Nat) (hq : pc + 1 = q) (K : nwV X A Q nL H k n q lv (.int (nI (a + b)) :: rest)) : nwV X A Q nL H k n pc lv (.int (nI b) :: .int (nI a) :: rest) := nw_iadd C _ dd (nI_add a b) q hq K
theorem nw_isubN (C : nwC d X A H0 own mn cc nL ret rm tb) {a b : Nat} (h : b ≤ a) (dd : decode cc pc = .ok (.isub, 1)) (q : Nat) (hq : pc + 1 = q) (K : nwV X A Q nL H k n q lv (.int (nI (a - b)) :: rest)) : nwV X A Q nL H k n pc lv (.int (nI b) :: .int (nI a) :: rest) := nw_isub C _ dd (pk_sub h) q hq K
theorem nw_imulN (C : nwC d X A H0 own mn cc nL ret rm tb) {a b : Nat} (dd : decode cc pc = .ok (.imul, 1)) (q : Nat) (hq : pc + 1 = q) (K : nwV X A Q nL H k n q lv (.int (nI (a * b)) :: rest)) : nwV X A Q nL H k n pc lv (.int (nI b) :: .int (nI a) :: rest) := nw_imul C _ dd (pk_mul a b) q hq K
theorem nw_idivN (C : nwC d X A H0 own mn cc nL ret rm tb) {a b : Nat} (h : a < 2 ^ 31 ∧ 0 < b ∧ b < 2 ^ 31) (dd : decode cc pc = .ok (.idiv, 1)) (q : Nat) (hq : pc + 1 = q) (K : nwV X A Q nL H k n q lv (.int (nI (a / b)) :: rest)) : nwV X A Q nL H k n pc lv (.int (nI b) :: .int (nI a) :: rest) := nw_idiv C _ dd (nI_ne0 h.2.1 h.2.2) (pk_div h.1 h.2.1 h.2.2) q hq K
theorem nw_iremN (C : nwC d X A H0 own mn cc nL ret rm tb) {a b : Nat} (h : a < 2 ^ 31 ∧ 0 < b ∧ b < 2 ^ 31) (dd : decode cc pc = .ok (.irem, 1)) (q : Nat) (hq : pc + 1 = q) (K : nwV X A Q nL H k n q lv (.int (nI (a % b)) :: rest)) : nwV X A Q nL H k n pc lv (.int (nI b) :: .int (nI a) :: rest) := nw_irem C _ dd (nI_ne0 h.2.1 h.2.2) (pk_rem h.1 h.2.1 h.2.2) q hq K
theorem nw_iincN (C : nwC d X A H0 own mn cc nL ret rm tb) (j : Nat) {i c0 x : Nat} (lv' : List (Nat × Value)) (dd : decode cc pc = .ok (.iinc i (c0 : Int), 3)) (hj : lv[j]? = some (i, .int (nI x))) (hi : i < nL) (hl' : (i, Value.int (nI (x + c0))) :: lv.filter (fun q => !(q.1 == i) && !(q.1 + 1 == i && q.2.category == 2)) = lv') (q : Nat) (hq : pc + 3 = q) (K : nwV X A Q nL H k n q lv' rest) : nwV X A Q nL H k n pc lv rest :=
  nw_iinc C j (nI (x + c0)) lv' dd hj (by rw [← nI_add]; rfl) hi hl' q hq K
theorem nw_ialdN (C : nwC d X A H0 own mn cc nL ret rm tb) {a m : Nat} {f : Nat → Int32} {i : Nat} (v : Int32) (hI : nwI d a 0 m f H) (hi : i < m ∧ m < 2 ^ 31) (hv : f i = v) (dd : decode cc pc = .ok (.iaload, 1)) (q : Nat) (hq : pc + 1 = q) (K : nwV X A Q nL H k n q lv (.int v :: rest)) : nwV X A Q nL H k n pc lv (.int (nI i) :: .ref a :: rest) :=
  nw_iald C v hI (vp_in_nI hi.1 hi.2) (by rw [nI_clamp (Nat.lt_trans hi.1 hi.2)]; exact hv) dd q hq K
theorem nw_zaldN (C : nwC d X A H0 own mn cc nL ret rm tb) {a m : Nat} {f : Nat → Int32} {i : Nat} (v : Int32) (hI : nwI d a 1 m f H) (hi : i < m ∧ m < 2 ^ 31) (hv : f i = v) (dd : decode cc pc = .ok (.baload, 1)) (q : Nat) (hq : pc + 1 = q) (K : nwV X A Q nL H k n q lv (.int v :: rest)) : nwV X A Q nL H k n pc lv (.int (nI i) :: .ref a :: rest) :=
  nw_zald C v hI (vp_in_nI hi.1 hi.2) (by rw [nI_clamp (Nat.lt_trans hi.1 hi.2)]; exact hv) dd q hq K
theorem nw_baldN (C : nwC d X A H0 own mn cc nL ret rm tb) {a m : Nat} {f : Nat → Int32} {i : Nat} (v : Int32) (hI : nwI d a 2 m f H) (hi : i < m ∧ m < 2 ^ 31) (hv : f i = v) (dd : decode cc pc = .ok (.baload, 1)) (q : Nat) (hq : pc + 1 = q) (K : nwV X A Q nL H k n q lv (.int v :: rest)) : nwV X A Q nL H k n pc lv (.int (nI i) :: .ref a :: rest) :=
  nw_bald C v hI (vp_in_nI hi.1 hi.2) (by rw [nI_clamp (Nat.lt_trans hi.1 hi.2)]; exact hv) dd q hq K
theorem nw_aaldN (C : nwC d X A H0 own mn cc nL ret rm tb) {a m : Nat} {f : Nat → Option Nat} {i : Nat} (v : Nat) (hI : nwR d a 3 m f H) (hi : i < m ∧ m < 2 ^ 31) (hv : f i = some v) (dd : decode cc pc = .ok (.aaload, 1)) (q : Nat) (hq : pc + 1 = q) (K : nwV X A Q nL H k n q lv (.ref v :: rest)) : nwV X A Q nL H k n pc lv (.int (nI i) :: .ref a :: rest) :=
  nw_aald C (.ref v) hI (vp_in_nI hi.1 hi.2) (by rw [nI_clamp (Nat.lt_trans hi.1 hi.2), hv]; rfl) dd q hq K
theorem nw_aaldKN (C : nwC d X A H0 own mn cc nL ret rm tb) {a m : Nat} {f : Nat → Option Nat} {i : Nat} (v : Nat) (hI : nwR d a 4 m f H) (hi : i < m ∧ m < 2 ^ 31) (hv : f i = some v) (dd : decode cc pc = .ok (.aaload, 1)) (q : Nat) (hq : pc + 1 = q) (K : nwV X A Q nL H k n q lv (.ref v :: rest)) : nwV X A Q nL H k n pc lv (.int (nI i) :: .ref a :: rest) :=
  nw_aaldK C (.ref v) hI (vp_in_nI hi.1 hi.2) (by rw [nI_clamp (Nat.lt_trans hi.1 hi.2), hv]; rfl) dd q hq K
theorem nw_iastN (C : nwC d X A H0 own mn cc nL ret rm tb) {a m : Nat} {f : Nat → Int32} {i : Nat} {x : Int32} (hI : nwI d a 0 m f H) (hAa : A a) (hi : i < m ∧ m < 2 ^ 31) (dd : decode cc pc = .ok (.iastore, 1)) (q : Nat) (hq : pc + 1 = q)
    (K : ∀ H1 : Heap, nwI d a 0 m (upd f i x) H1 → H1.size = H.size → (∀ q, q ≠ a → H1[q]? = H[q]?) → nwV X A Q nL H1 k n q lv rest) : nwV X A Q nL H k n pc lv (.int x :: .int (nI i) :: .ref a :: rest) :=
  nw_iast C hI hAa (vp_in_nI hi.1 hi.2) dd q hq (fun H1 h1 => K H1 (by rw [nI_clamp (Nat.lt_trans hi.1 hi.2)] at h1; exact h1))
theorem nw_zastN (C : nwC d X A H0 own mn cc nL ret rm tb) {a m : Nat} {f : Nat → Int32} {i : Nat} {b : Bool} (hI : nwI d a 1 m f H) (hAa : A a) (hi : i < m ∧ m < 2 ^ 31) (dd : decode cc pc = .ok (.bastore, 1)) (q : Nat) (hq : pc + 1 = q)
    (K : ∀ H1 : Heap, nwI d a 1 m (upd f i (b2i b)) H1 → H1.size = H.size → (∀ q, q ≠ a → H1[q]? = H[q]?) → nwV X A Q nL H1 k n q lv rest) : nwV X A Q nL H k n pc lv (.int (b2i b) :: .int (nI i) :: .ref a :: rest) :=
  nw_zast C hI hAa (vp_in_nI hi.1 hi.2) (b2i_narrow b) dd q hq (fun H1 h1 => K H1 (by rw [nI_clamp (Nat.lt_trans hi.1 hi.2)] at h1; exact h1))
theorem nw_aastRN (C : nwC d X A H0 own mn cc nL ret rm tb) {a m v i : Nat} {f : Nat → Option Nat} {Cn : String} (hI : nwR d a 3 m f H) (hAa : A a) (hi : i < m ∧ m < 2 ^ 31) (hv : nwIs (nx_s X) Cn v H) (hca : Cond.castable Cn "java/lang/Object" ∈ lw_tbl) (dd : decode cc pc = .ok (.aastore, 1)) (q : Nat) (hq : pc + 1 = q)
    (K : ∀ H1 : Heap, nwR d a 3 m (va_up f i (some v)) H1 → H1.size = H.size → (∀ q, q ≠ a → H1[q]? = H[q]?) → nwV X A Q nL H1 k n q lv rest) : nwV X A Q nL H k n pc lv (.ref v :: .int (nI i) :: .ref a :: rest) :=
  nw_aast C hI hAa (vp_in_nI hi.1 hi.2) hv hca dd q hq (fun H1 h1 => K H1 (by rw [nI_clamp (Nat.lt_trans hi.1 hi.2)] at h1; exact h1))
theorem nw_aastKN (C : nwC d X A H0 own mn cc nL ret rm tb) {a m v i : Nat} {f : Nat → Option Nat} {Cn : String} (hI : nwR d a 4 m f H) (hAa : A a) (hi : i < m ∧ m < 2 ^ 31) (hv : nwIs (nx_s X) Cn v H) (hca : Cond.castable Cn "NightwatchWall$Kind" ∈ lw_tbl) (dd : decode cc pc = .ok (.aastore, 1)) (q : Nat) (hq : pc + 1 = q)
    (K : ∀ H1 : Heap, nwR d a 4 m (va_up f i (some v)) H1 → H1.size = H.size → (∀ q, q ≠ a → H1[q]? = H[q]?) → nwV X A Q nL H1 k n q lv rest) : nwV X A Q nL H k n pc lv (.ref v :: .int (nI i) :: .ref a :: rest) :=
  nw_aastK C hI hAa (vp_in_nI hi.1 hi.2) hv hca dd q hq (fun H1 h1 => K H1 (by rw [nI_clamp (Nat.lt_trans hi.1 hi.2)] at h1; exact h1))
theorem nw_aastNN (C : nwC d X A H0 own mn cc nL ret rm tb) {a m i : Nat} {f : Nat → Option Nat} (hI : nwR d a 3 m f H) (hAa : A a) (hi : i < m ∧ m < 2 ^ 31) (dd : decode cc pc = .ok (.aastore, 1)) (q : Nat) (hq : pc + 1 = q)
    (K : ∀ H1 : Heap, nwR d a 3 m (va_up f i none) H1 → H1.size = H.size → (∀ q, q ≠ a → H1[q]? = H[q]?) → nwV X A Q nL H1 k n q lv rest) : nwV X A Q nL H k n pc lv (.null :: .int (nI i) :: .ref a :: rest) :=
  nw_aastN C hI hAa (vp_in_nI hi.1 hi.2) dd q hq (fun H1 h1 => K H1 (by rw [nI_clamp (Nat.lt_trans hi.1 hi.2)] at h1; exact h1))
/-! array contents that agree on the array are one -/
theorem nwI.congr {a ty m : Nat} {f g : Nat → Int32} (h : nwI d a ty m f H) (e : ∀ j, j < m → f j = g j) : nwI d a ty m g H := by
  unfold nwI at h ⊢
  rw [h, vp_cell_i, vp_cell_i]
  congr 1
  unfold arrV
  congr 1
  apply Array.ext
  · simp
  · intro i h1 h2
    have hi : i < m := by simpa using h1
    simp [e i hi]
theorem nwR.congr {a ty m : Nat} {f g : Nat → Option Nat} (h : nwR d a ty m f H) (e : ∀ j, j < m → f j = g j) : nwR d a ty m g H := by
  unfold nwR at h ⊢
  rw [h, vp_cell_q, vp_cell_q]
  congr 1
  unfold arrV
  congr 1
  apply Array.ext
  · simp
  · intro i h1 h2
    have hi : i < m := by simpa using h1
    simp [e i hi]
end NWN
