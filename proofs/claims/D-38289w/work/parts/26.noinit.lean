/-! ===== CALLS OF A METHOD WHOSE CLASS THE TABLES DON'T CALL INITIALISED (the bodies of an enum's constants): the machine asks nothing of the sort at an invokevirtual. The two proofs follow the library's MetFree.of_bodySF and Steps.callFree, and the kit's vx_back. ===== -/
section NWNI
/-- a body that is walked from its entry, whatever the state of its class -/
def niBody (l : Launch) (y : MethodName) (cc : ByteArray) (maxL : Nat) (ret : Option FieldType) (rm : Room) (Pc : Array Value → State → Prop) (Qc : Array Value → State → Outcome → State → Prop) (free : Addr → Prop) : Prop :=
  ∀ (p : Program) (e : Env) (s : State) (m : MethodId) (args : Array Value) (below : List Frame) (meth : Method) (c : Code), Stand p l e rm s m args below meth c (s.setFrames (.java (entryFrame m args maxL) :: below)) [] 0 0 → p.tables.exec = Jvm.exec → c.code = cc → c.maxLocals = maxL → meth.sig.returnType = ret → meth.locks = false → Pc args s →
    W p l e rm s m args below meth c s.heap [] 0 0 (MQ below Qc args s 0 0 free) (entryFrame m args maxL)
theorem ni_call {l : Launch} {y : MethodName} {cc : ByteArray} {maxL : Nat} {ret : Option FieldType} {rm : Room} {Pc : Array Value → State → Prop} {Qc : Array Value → State → Outcome → State → Prop} {free : Addr → Prop} (hy : plainName y.cls = true) (hM : niBody l y cc maxL ret rm Pc Qc free)
    {e : Env} (p : Program) (ha : l.admits e) (hc : FairCas e.choices) (hk : FairClock e.choices) {s : State} {m : MethodId} {args : Array Value} {acts : List Action} {mid below : List Frame} {meth : Method} {c : Code}
    (hfr : s.frames = mid ++ below) (hlt : s.cur < s.threads.size) (hmeth : s.vm.method? m = some meth) (hcode : meth.code = some c) (hbytes : c.code = cc) (hlocals : c.maxLocals = maxL) (hret : meth.sig.returnType = ret) (hlocks : meth.locks = false) (hname : s.methodNamed? y = some m)
    (hrun : (s.pushFrame (.invoking m args)).status = .running) (hable : (s.pushFrame (.invoking m args)).curStatus? = some .runnable) (halone : (s.pushFrame (.invoking m args)).alone = true) (hhears : (s.pushFrame (.invoking m args)).hears m s.frames = true) (hroom : (s.pushFrame (.invoking m args)).hasRoom e.platform rm = true) (hP : Pc args (s.pushFrame (.invoking m args))) :
    ∃ o s₂, Steps p.tables e below (doInvoke e s acts m args).1 s₂ ∧ s₂.status = .running ∧ Ended s₂ s.frames o ∧ Qc args (s.pushFrame (.invoking m args)) o s₂ ∧ ∃ L, FrameEnd (s.pushFrame (.invoking m args)) o s₂ L 0 0 ∧ ∀ q ∈ L, free q.base := by
  obtain ⟨t, ht⟩ : ∃ t, s.threads[s.cur]? = some t := ⟨_, Array.getElem?_eq_getElem hlt⟩
  have hf' : (s.pushFrame (.invoking m args)).frames = .invoking m args :: s.frames := State.frames_setFrames _ hlt
  generalize hs' : s.pushFrame (.invoking m args) = s' at *
  have hmeth' : s'.vm.method? m = some meth := by rw [← hs']; exact hmeth
  have hname' : s'.methodNamed? y = some m := by rw [← hs']; exact hname
  have hcur := State.cur_lt_of_frames hf'
  have hf1 : (s'.setFrames (.java (entryFrame m args maxL) :: s.frames)).frames = .java (entryFrame m args maxL) :: s.frames := State.frames_setFrames _ hcur
  have ht1 := State.topJava?_of_frames hf1
  have hplain : (s'.setFrames (.java (entryFrame m args maxL) :: s.frames)).plainMethod m := by
    refine State.plainMethod.of_name ?_
    intro k hk
    obtain ⟨k', hk', hn⟩ := className_of_methodNamed hname'
    cases (show s'.vm.classes[m.cls]? = some k from hk).symm.trans hk'
    rw [hn]; exact hy
  have hAt : At (s'.setFrames (.java (entryFrame m args maxL) :: s.frames)) m c s.frames :=
    ⟨by rw [ht1]; rfl, ⟨[], by rw [hf1]; rfl⟩, hrun, by simpa using hable, by simpa using halone,
      by rw [State.code?_eq]; simp [State.setFrames, hmeth', hcode], hplain⟩
  have hstep0 : (stepThread p.tables e s').1 = (s'.setFrames (.java (entryFrame m args maxL) :: s.frames)).setTop (entryFrame m args maxL) := by
    have hfull : e.platform.stackFull (s'.setFrames s.frames).me (s'.setFrames s.frames).frames c.maxLocals = false := by
      obtain ⟨-, h1, -, h2⟩ := State.hasRoom_stack hroom
      rw [hf', List.length_cons] at h1
      rw [State.localsInUse_invoking hf' hmeth' hcode] at h2
      have hw := stackUse_le_stackWeight s.frames
      rw [State.frames_setFrames _ hcur]
      exact Platform.stackFull_eq_false (by rw [State.stackLimits_setFrames]; omega) (by rw [State.stackLimits_setFrames]; omega)
    rw [stepThread_invoking hf', (doInvoke_java (s := s'.setFrames s.frames) (e := e) (meth := meth) (code := c) hmeth' hcode hlocks hfull).1, State.setTop_self ht1]
    simp only [State.pushFrame, State.frames_setFrames _ hcur, State.setFrames_setFrames, hlocals, entryFrame]
  have hexec : p.tables.exec = Jvm.exec := by cases p <;> rfl
  have hX : Stand p l e rm s' m args s.frames meth c (s'.setFrames (.java (entryFrame m args maxL) :: s.frames)) [] 0 0 := by
    obtain ⟨t9, ht9, -⟩ := State.frames_cons hf'
    exact ⟨ha, hc, hk, hf', hroom, hhears, hmeth', hcode, hAt, by rw [hf1]; rfl, State.WarmedH.refl s', by rw [State.stackLimits_setFrames], by rw [State.stackBytes_setFrames], (State.sameButNew.refl s' ht9).setFrames _ hcur⟩
  obtain ⟨s₂, hs, o, hr, he, hp⟩ := hM p e s' m args s.frames meth c hX hexec hbytes hlocals hret hlocks hP (s'.setFrames (.java (entryFrame m args maxL) :: s.frames)) rfl hX
  obtain ⟨n, hn, hw⟩ := Steps.head (tb := p.tables) (e := e) ⟨hrun, hable, halone⟩ ⟨[.invoking m args], hf', by simp, by simp⟩ (hstep0 ▸ hs)
  have hgo : s'.goesOn := ⟨hrun, hable, halone⟩
  have hstep : (stepThread p.tables e s').1 = (doInvoke e s acts m args).1 := by
    rw [stepThread_invoking hf', doInvoke_state e s acts, ← hs', State.pushFrame, State.setFrames_setFrames, State.setFrames_self ht]
  cases n with
  | zero =>
    have hz : s' = s₂ := hn
    exact absurd ⟨[.invoking m args], hf', by simp, by simp⟩ (hz ▸ he).not_within
  | succ k =>
    rw [stepsAlone_succ _ hgo, hstep] at hn
    refine ⟨o, s₂, ⟨k, hn, fun j hj => ?_⟩, hr, he, hp⟩
    have h9 : Within (stepsAlone p.tables e (j + 1) s') s.frames := hw (j + 1) (by omega)
    rw [stepsAlone_succ _ hgo, hstep, hfr] at h9
    exact h9.weaken
variable {l : Launch} {R : Room} {p : Program} {e : Env} {below : List Frame} {s : State} {sargs : Array Value} {y : MethodName} {len W9 : Nat}
theorem ni_back {rm : Room} {Pc : Array Value → State → Prop} {Qc : Array Value → State → Outcome → State → Prop} {XC : String → State → State → Prop} {free : Addr → Prop} {bytes : ByteArray} {maxL : Nat} {ret : Option FieldType}
    (hy : plainName y.cls = true) (hM : niBody l y bytes maxL ret rm Pc Qc free) (hblind : FrameBlind Pc) (hrc : rm.cells = 0) (hrs : rm.slots = 0)
    (hframes : rm.frames + 1 ≤ R.frames) (hlocals : W9 + (maxL + 11) + rm.locals ≤ R.locals)
    (hws : ∀ a' U, s.WarmedH U.vm → (Cond.code y bytes maxL ret).before a' U = true) :
    vx_Back l R p e below s sargs y len W9 (PreOf R 0 0 Pc) (PostOf Qc 0 0 free) (vx_Post XC 0 0 free) := by
  intro m meth c A g ig mk a X hg hsize hdg hW hn hp
  have h2 : (Cond.code y bytes maxL ret).before a A.U = true := hws _ _ X.warmed
  have h4 : A.cells + rm.cells ≤ R.cells := by rw [hrc]; exact hp.1
  have h5 : A.slots + rm.slots ≤ R.slots := by rw [hrs]; exact hp.2.1
  have hPc : Pc a (A.U.calling g mk a) := hblind _ _ _ _ hp.2.2
  obtain ⟨U, Ls, c0, s0⟩ := A
  dsimp only [Pt.U, Pt.locs, Pt.cells, Pt.slots] at h2 h4 h5 X hn hPc ⊢
  obtain ⟨methY, cY, hmY, hcY, hbY, hlY, hrY, hkY0, -, -⟩ := Cond.code_spec hn h2
  have h : At U g.method c below := by rw [hg]; exact X.here
  have hlocals9 : W9 + (maxL + 11) + rm.locals ≤ R.locals := hlocals
  have hroom : (U.calling g mk a).hasRoom e.platform rm = true := X.room_calling (g := g) (R' := rm) hsize hmY hcY hframes (by rw [hlY]; omega) h4 h5
  obtain ⟨mid, hmid⟩ := h.above
  have hfr : (U.setTop g).frames = (.java g :: mid) ++ below := by rw [State.frames_setTop' g h.top, hmid]; rfl
  have hcodeG : (U.calling g mk a).code? g.method = some c := by
    have := h.code
    rw [State.code?_eq] at this ⊢
    simpa [State.calling, State.pushFrame, State.setFrames] using this
  have hfc : (U.calling g mk a).frames = .invoking mk a :: .java g :: U.frames.tail := State.frames_calling h.top g mk a
  have hlt : (U.setTop g).cur < (U.setTop g).threads.size := by
    have h9 := State.cur_lt_of_frames hfr
    exact h9
  obtain ⟨o, s₂, hsteps, -, hend, hqc, L, hfe, hL⟩ := ni_call hy hM p X.admits X.cas X.clock (s := U.setTop g) (m := mk) (args := a) (acts := []) hfr hlt (by rw [← hmY]; rfl) hcY hbY hlY hrY hkY0 (by first | exact hn | (simpa [State.methodNamed?] using hn)) h.running (by simpa [State.calling] using h.runnable) (by simpa [State.calling] using h.alone) (by
      have e9 : (U.setTop g).frames = .java g :: U.frames.tail := State.frames_setTop' g h.top
      rw [e9]
      have h8 : (U.calling g mk a).hears mk (.java g :: U.frames.tail) = true := by simp [State.hears, hcodeG, hdg, Except.toOption]
      exact h8) hroom hPc
  rw [State.frames_setTop' g h.top] at hend
  obtain ⟨g₀, hg0⟩ := Option.isSome_iff_exists.mp h.top
  obtain ⟨r, hr⟩ := State.topJava?_eq_some.mp hg0
  have hr' : (({ U with heap := s₂.heap, slotsUsed := s₂.slotsUsed } : State).setVm s₂.vm).frames = .java g₀ :: r := hr
  have hfe : FrameEnd (U.calling g mk a) o s₂ L 0 0 := hfe
  have hqc : Qc a (U.calling g mk a) o s₂ := hqc
  obtain ⟨⟨v, rfl⟩, hW₂, e2, q2, q3, q4, q5, q6⟩ := id hfe
  have e3 : s₂ = ({ (U.calling g mk a).setFrames s₂.frames with heap := s₂.heap, slotsUsed := s₂.slotsUsed } : State).setVm s₂.vm := by
    have : s₂ = ({ s₂ with vm := (U.calling g mk a).vm } : State).setVm s₂.vm := rfl
    rw [e2] at this
    exact this
  obtain ⟨c₂, i₂, len₂, hc₂, hd₂, hf₂⟩ := hend
  have hW' : U.WarmedH s₂.vm := hW₂
  have hcc : c₂ = c := by
    have h1 : s₂.code? g.method = U.code? g.method := by
      rw [State.code?_eq, State.code?_eq, hW'.alike.method?]
    exact Option.some.inj (hc₂.symm.trans (h1.trans h.code))
  subst hcc
  have hlen : len₂ = len := by rw [hdg] at hd₂; cases hd₂; rfl
  subst hlen
  have hs₂ : s₂ = (({ U with heap := s₂.heap, slotsUsed := s₂.slotsUsed } : State).setVm s₂.vm).setTop { g with pc := g.pc + len₂, stack := v.toList ++ g.stack } := by
    refine e3.trans ?_
    rw [hf₂, State.calling_eq h.top, State.setFrames_setFrames, State.setTop_of_frames _ hr', hr]
    rfl
  have hsame : U.sameButNew ({ U with heap := s₂.heap, slotsUsed := s₂.slotsUsed } : State) L 0 0 := by
    refine ⟨?_, q2, q3, q4, q5, q6⟩
    obtain ⟨t, ht, -⟩ := State.frames_cons hr
    show ({ U with heap := s₂.heap, slotsUsed := s₂.slotsUsed } : State) = { U.setFrames U.frames with heap := s₂.heap, slotsUsed := s₂.slotsUsed }
    rw [State.setFrames_self ht]
  subst hg
  refine Or.inl ⟨v, ⟨(({ U with heap := s₂.heap, slotsUsed := s₂.slotsUsed } : State).setVm s₂.vm), Ls ++ L, c0 + 0, s0 + 0⟩,
    ⟨X.admits, X.cas, X.clock, X.frames, X.room, X.hears, X.method, X.code, (X.here.setHeapUsed s₂.heap s₂.slotsUsed).setVm hW'.alike, X.tail, State.WarmedH.trans X.warmed hW', X.limits, X.bytes, X.same.trans (hsame.setVm s.vm)⟩,
    ⟨g, mk, s₂, L, rfl, rfl, hqc, rfl, hL, rfl, rfl⟩, ?_⟩
  show Steps p.tables e below _ ((({ U with heap := s₂.heap, slotsUsed := s₂.slotsUsed } : State).setVm s₂.vm).setTop { g with pc := g.pc + len₂, stack := v.toList ++ g.stack })
  rw [← hs₂]
  exact hsteps
end NWNI
