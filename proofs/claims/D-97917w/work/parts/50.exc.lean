/-! METHODS THAT MAY THROW: their contract (MetT), the machine with an exception under way (WT), rows for athrow, for a call that may throw, for a handler of one's own (its class perhaps not yet resolved) -/
set_option maxRecDepth 100000
def FrameT (first t : State) (L : List Loc) (k n : Nat) : Prop := first.WarmedH t.vm ∧ first.sameButNew ({ t with vm := first.vm } : State) L k n
/-- as Met, but that it may end by throwing -/
def MetT (l : Launch) (y : MethodName) (ws : List Cond) (rm : Room) (Pc : Array Value → State → Prop) (Qc : Array Value → State → Outcome → State → Prop) (mc ms : Nat) (free : Addr → Prop) : Prop :=
  MetFree l y (headSpec ws rm) Pc (fun _ _ _ _ _ => True) (fun a st o t => Qc a st o t ∧ ∃ L, FrameT st t L mc ms ∧ ∀ q ∈ L, free q.base)
def MQT (below : List Frame) (Qc : Array Value → State → Outcome → State → Prop) (a : Array Value) (s : State) (mc ms : Nat) (free : Addr → Prop) : State → Prop := fun t =>
  ∃ o, t.status = .running ∧ Ended t below o ∧ Qc a s o t ∧ ∃ L, FrameT s t L mc ms ∧ ∀ q ∈ L, free q.base
theorem MQ.T {below : List Frame} {Qc : Array Value → State → Outcome → State → Prop} {a : Array Value} {s : State} {mc ms : Nat} {free : Addr → Prop} {t : State} (h : MQ below Qc a s mc ms free t) : MQT below Qc a s mc ms free t := by
  obtain ⟨o, h1, h2, h3, L, h4, h5⟩ := h
  exact ⟨o, h1, h2, h3, L, h4.2, h5⟩
theorem MetT.ofW {l : Launch} {y : MethodName} {ws ws' : List Cond} {rm : Room} {Pc : Array Value → State → Prop} {Qc : Array Value → State → Outcome → State → Prop} {mc ms : Nat} {free : Addr → Prop} {cc : ByteArray} {maxL : Nat} {ret : Option FieldType}
    (hy : plainName y.cls = true) (hw : ws = Cond.code y cc maxL ret :: ws')
    (body : ∀ p e s m args below meth c s₁, BodyLoose p l y (headSpec ws rm) cc maxL ret e s m args below meth c s₁ → c.maxLocals = maxL → c.exceptionTable.toList = [] → Pc args s →
      W p l e (headSpec ws rm).room s m args below meth c s.heap [] 0 0 (MQT below Qc args s mc ms free) (entryFrame m args maxL)) : MetT l y ws rm Pc Qc mc ms free := by
  refine MetFree.of_bodyS (code := cc) (maxLocals := maxL) (ret := ret) hy ?_ ?_
  · intro args s m h hn
    obtain ⟨meth, c, h1, h2, h3, h4, h5, h6, -, -⟩ := Cond.code_spec hn (atoms_spec (ws := ws) h _ (by rw [hw]; exact List.mem_cons_self))
    exact ⟨meth, c, h1, h2, h3, h4, h5, h6⟩
  · intro p e s m args below meth c s₁ B hml hP _
    have hh0 : s₁.heap = s.heap := by rw [B.state]; rfl
    have hcode := atoms_spec (ws := ws) B.pre _ (by rw [hw]; exact List.mem_cons_self)
    have hno := B.noHandlers hcode
    have hno2 : c.exceptionTable.toList = [] := by
      have h0 : c.exceptionTable.size = 0 := by simpa [Array.isEmpty] using hno
      exact List.eq_nil_of_length_eq_zero (by simpa using h0)
    obtain ⟨t, a1, o, b1, b2, b3⟩ := body p e s m args below meth c s₁ B hml hno2 hP s₁ hh0 (Stand.of_body B)
    exact ⟨t, o, a1, b1, b2, ⟨b3.1, b3.2⟩⟩
/-- a method with handlers, that returns: its table at hand -/
theorem MetW.ofW {l : Launch} {y : MethodName} {ws ws' : List Cond} {rm : Room} {Pc : Array Value → State → Prop} {Qc : Array Value → State → Outcome → State → Prop} {mc ms : Nat} {free : Addr → Prop} {cc : ByteArray} {maxL : Nat} {ret : Option FieldType} {hh : List (Nat × Nat × Nat × Nat)}
    (hy : plainName y.cls = true) (hw : ws = Cond.codeWith y cc maxL ret hh :: ws')
    (body : ∀ p e s m args below meth c s₁, BodyLoose p l y (headSpec ws rm) cc maxL ret e s m args below meth c s₁ → c.maxLocals = maxL → c.exceptionTable.toList = tableOf hh → Pc args s →
      W p l e (headSpec ws rm).room s m args below meth c s.heap [] 0 0 (MQ below Qc args s mc ms free) (entryFrame m args maxL)) : Met l y ws rm Pc Qc mc ms free := by
  refine va_MetW (hh := hh) (cc := cc) (maxL := maxL) (ret := ret) hy hw ?_
  intro p e s m args below meth c s₁ B hml hP
  have hcode := atoms_spec (ws := ws) B.pre _ (by rw [hw]; exact List.mem_cons_self)
  obtain ⟨m9, meth9, c9, hn9, h1, h2, -, -, htab, -⟩ := Cond.codeWith_spec hcode
  cases B.named.symm.trans hn9
  cases B.method.symm.trans h1
  cases (Stand.of_body B).code.symm.trans h2
  exact body p e s m args below meth c s₁ B hml (by rw [← htab, table_eq]) hP
section EXA
variable {p : Program} {l : Launch} {e : Env} {R : Room} {s : State} {m : MethodId} {args : Array Value} {below : List Frame} {meth : Method} {c : Code} {H : Heap} {locs : List Loc} {cells slots : Nat} {Q Q' : State → Prop}
theorem W.imp {g : JFrame} (h : ∀ t, Q t → Q' t) (k : W p l e R s m args below meth c H locs cells slots Q g) : W p l e R s m args below meth c H locs cells slots Q' g := by
  intro T hT X
  obtain ⟨t, a, b⟩ := k T hT X
  exact ⟨t, a, h t b⟩
/-- x is under way over the frame g -/
def WT (p : Program) (l : Launch) (e : Env) (R : Room) (s : State) (m : MethodId) (args : Array Value) (below : List Frame) (meth : Method) (c : Code) (H : Heap) (locs : List Loc) (cells slots : Nat) (Q : State → Prop) (g : JFrame) (x : Addr) : Prop :=
  ∀ T : State, T.heap = H → Stand p l e R s m args below meth c T locs cells slots → ∃ t, Steps p.tables e below ((T.setTop g).pushFrame (.throwing x)) t ∧ Q t
theorem WT.widen {g : JFrame} {x : Addr} {k n : Nat} (h1 : cells ≤ k) (h2 : slots ≤ n) (kk : WT p l e R s m args below meth c H locs k n Q g x) : WT p l e R s m args below meth c H locs cells slots Q g x := fun T hT X => kk T hT (stand_widen X h1 h2)
theorem W.athrow {cc : ByteArray} (hexec : p.tables.exec = Jvm.exec) (hb : c.code = cc) {pc : Nat} {ls : Array Slot} {x : Addr} {rest : List Value} (hdg : decode cc pc = .ok (.athrow, 1))
    (kk : WT p l e R s m args below meth c H locs cells slots Q (F0 m pc ls rest) x) : W p l e R s m args below meth c H locs cells slots Q (F0 m pc ls (.ref x :: rest)) := by
  intro T hT X
  obtain ⟨t, a1, b1⟩ := kk T hT X
  refine ⟨t, ?_, b1⟩
  subst hb
  jvm_step X.here [hexec, hdg, athrow.wp_sem]
  exact a1
/-- no handler of one's own covers the place: the method ends by throwing -/
theorem WT.leave {Qc : Array Value → State → Outcome → State → Prop} {free : Addr → Prop} {x : Addr} {pc : Nat} {ls : Array Slot} {rest : List Value} (hout : c.exceptionTable.toList = []) (hlocks : meth.locks = false)
    (hq : ∀ t : State, t.heap = H → s.WarmedH t.vm → Qc args s (.threw x) t) (hf : ∀ q ∈ locs, free q.base) : WT p l e R s m args below meth c H locs cells slots (MQT below Qc args s cells slots free) (F0 m pc ls rest) x := by
  intro T hT X
  obtain ⟨hwalk, h1, h2, h3, h4⟩ := X.leaveThrown x (g := F0 m pc ls rest) rfl rfl rfl (by rw [hout]; intro y hy; cases hy) hlocks
  exact ⟨_, hwalk, .threw x, h1, h2, hq _ hT h3, locs, ⟨h3, h4⟩, hf⟩
end EXA
section EXB
variable {E : CtlPost} {e : Env} {d : Bool} {acts : List Action} {s : State} {f : JFrame} {a : Addr} {Q : Handler → Pre}
theorem ex_go_cold {x : ExceptionTableEntry} {t : List ExceptionTableEntry} {cC : ClassId} {vm' : Vm} {cell : Cell} (hx : covers x f.pc = true) (h0 : x.catchType ≠ 0) (hg : (Jvm.resolveClass f.method.cls x.catchType).Gives e.toSetting s.vm (.ok cC) vm') (hsz : vm'.classes.size ≤ s.vm.classes.size)
    (hcell : s.heap[a]? = some cell) (hobj : ∀ k, cell.vm ≠ .statics k) (hk : ∃ k, vm'.classes[cell.cls]? = some k) (hc : ∃ k, vm'.classes[cC]? = some k) :
    wp (findHandler.go f a (x :: t)) Q E e d acts s ↔ if vm'.assignable cell.cls cC = true then Q (.found x.handlerPc) d acts (s.setVm vm') else wp (findHandler.go f a t) Q E e d acts (s.setVm vm') := by
  simp only [covers] at hx
  obtain ⟨ha, ht⟩ := hg.op (op := VmOp.resolveClass f.method.cls x.catchType) rfl
  cases hfit : vm'.assignable cell.cls cC <;> simp [findHandler.go, hx, h0, ha, ht, hsz, hcell, hobj, hk, hc, hfit, VmOp.dirties, VmOp.acts]
end EXB
/-- what the search gives, and the tables it leaves -/
def FindsC (e : Env) (s : State) (f : JFrame) (a : Addr) (h : Handler) (vm' : Vm) : Prop :=
  ∀ (Q : Handler → Pre) (E : CtlPost) (d : Bool) (acts : List Action), wp (findHandler f a) Q E e d acts s ↔ Q h d acts (s.setVm vm')
theorem FindsC.step {e : Env} {s : State} {a : Addr} {f : JFrame} {r : List Frame} {pc : Nat} {vm' : Vm} (hfind : FindsC e s f a (.found pc) vm') :
    (stepThrowing e s a (.java f :: r)).Is ((s.setVm vm').setFrames (.java { f with pc := pc, stack := [.ref a] } :: r)) [] := by
  simp only [stepThrowing, searchFrame, vmDo]
  generalize hr : Sem.go _ e false [] s = res
  obtain ⟨as, rfl, ha⟩ := Sem.eq_ok_of hr (a := Handler.found pc) (s' := s.setVm vm') (acts' := []) (by simp [hfind _ _ _ _])
  exact ⟨rfl, ha⟩
theorem FindsC.caught {tb : Tables} {e : Env} {s target : State} {g : JFrame} {c : Code} {below : List Frame} {a : Addr} (h : At s g.method c below) {pc : Nat} {vm' : Vm} (hfind : FindsC e ((s.setTop g).pushFrame (.throwing a)) g a (.found pc) vm')
    (hrest : Steps tb e below ((s.setVm vm').setTop { g with pc := pc, stack := [.ref a] }) target) :
    Steps tb e below ((s.setTop g).pushFrame (.throwing a)) target := by
  obtain ⟨hgo, hw⟩ := h.throwing a
  refine Steps.head hgo hw ?_
  rw [stepThread_throwing (frames_entered h.top _), (FindsC.step (s := (s.setTop g).pushFrame (.throwing a)) hfind).1]
  obtain ⟨g₀, hg⟩ := Option.isSome_iff_exists.mp h.top
  obtain ⟨r, hr⟩ := State.topJava?_eq_some.mp hg
  have hr' : (s.setVm vm').frames = .java g₀ :: r := hr
  rw [State.setTop_of_frames _ hr'] at hrest
  rw [State.pushFrame, State.setTop_of_frames _ hr]
  rw [hr]
  show Steps tb e below ((((s.setVm vm').setFrames _).setFrames _).setFrames _) target
  rw [State.setFrames_setFrames, State.setFrames_setFrames]
  exact hrest
section EXC
variable {p : Program} {l : Launch} {e : Env} {R : Room} {s : State} {m : MethodId} {args : Array Value} {below : List Frame} {meth : Method} {c : Code} {H : Heap} {locs : List Loc} {cells slots : Nat} {Q : State → Prop}
/-- the first entry that covers the place takes it -/
theorem WT.catch {pc : Nat} {ls : Array Slot} {rest : List Value} {x : Addr} {own C CE : String} {index hpc : Nat} (hown : s.vm.findClass own = some m.cls) (hcl : (Cond.classLink own index C).before args s = true) (h0 : index ≠ 0)
    (pre post : List ExceptionTableEntry) (en : ExceptionTableEntry) (htab : c.exceptionTable.toList = pre ++ en :: post) (hpre : ∀ y ∈ pre, covers y pc = false) (hcov : covers en pc = true) (hct : en.catchType = index) (hhp : en.handlerPc = hpc)
    (hcell : ∃ cell : Cell, H[x]? = some cell ∧ cell.vm.isStatics = false ∧ s.vm.findClass CE = some cell.cls) (hcast : va_Nw (.castable CE C) s)
    (kk : W p l e R s m args below meth c H locs cells slots Q (F0 m hpc ls [.ref x])) : WT p l e R s m args below meth c H locs cells slots Q (F0 m pc ls rest) x := by
  intro T hT X
  have hpl : e.platform.magicAccessors = ({} : Platform).magicAccessors := by rw [X.admits.platform]
  obtain ⟨cell, hc1, hc2, hc3⟩ := hcell
  obtain ⟨cC, hfc, hlk⟩ := Cond.classLink_spec hown hcl e.platform hpl
  obtain ⟨c9, t9, w1, w2, w3⟩ := Cond.castable_spec hcast
  cases hc3.symm.trans w1
  cases hfc.symm.trans w2
  obtain ⟨hg₁, hwarm₁, hready₁⟩ := State.classEntry (e := e) X.warmed hlk
  have hsz : (T.vm.noted m.cls index (.cls cC)).classes.size ≤ T.vm.classes.size := by rw [Vm.size_noted]; exact Nat.le_refl _
  generalize hvm : T.vm.noted m.cls index (.cls cC) = vm₁ at hg₁ hwarm₁ hready₁ hsz
  obtain ⟨k1, hk1⟩ := Vm.classAt_of_findClass (vm := vm₁) (name := CE) (c := cell.cls) (by rw [hwarm₁.alike.findClass]; exact hc3)
  obtain ⟨k2, hk2⟩ := Vm.classAt_of_findClass (vm := vm₁) (name := C) (c := cC) (by rw [hwarm₁.alike.findClass]; exact hfc)
  obtain ⟨t, a1, b1⟩ := kk (T.setVm vm₁) hT (X.noted hwarm₁)
  refine ⟨t, ?_, b1⟩
  refine FindsC.caught (g := F0 m pc ls rest) (pc := hpc) (vm' := vm₁) X.here ?_ a1
  intro Q' E' d' acts'
  have hm' : ((T.setTop (F0 m pc ls rest)).pushFrame (.throwing x)).vm.method? m = some meth := by rw [Stand.throwing_vm]; exact X.method'
  rw [W.findHandler_eq (f := F0 m pc ls rest) hm' X.code, htab]
  have hgo : ∀ (pr : List ExceptionTableEntry), (∀ y ∈ pr, covers y pc = false) → (wp (findHandler.go (F0 m pc ls rest) x (pr ++ en :: post)) Q' E' e d' acts' ((T.setTop (F0 m pc ls rest)).pushFrame (.throwing x)) ↔ Q' (.found hpc) d' acts' (((T.setTop (F0 m pc ls rest)).pushFrame (.throwing x)).setVm vm₁)) := by
    intro pr
    induction pr with
    | nil =>
      intro _
      rw [List.nil_append, ex_go_cold (cC := cC) (vm' := vm₁) (cell := cell) hcov (by rw [hct]; exact h0) (by rw [hct, Stand.throwing_vm]; exact hg₁) (by rw [Stand.throwing_vm]; exact hsz) (by rw [Stand.throwing_heap, hT]; exact hc1) (fun k h => by rw [h] at hc2; cases hc2) ⟨k1, hk1⟩ ⟨k2, hk2⟩]
      rw [if_pos (by rw [hwarm₁.alike.assignable]; exact w3), hhp]
    | cons y t ih =>
      intro hh
      rw [List.cons_append, W.findHandler_go_skip (hh y List.mem_cons_self)]
      exact ih (fun z hz => hh z (List.mem_cons_of_mem _ hz))
  exact hgo pre hpre
end EXC
section EXD
variable {p : Program} {l : Launch} {e : Env} {R : Room} {s : State} {m : MethodId} {args : Array Value} {below : List Frame} {meth : Method} {c : Code} {H : Heap} {locs : List Loc} {cells slots : Nat} {Q : State → Prop}
/-- the first entry that covers the place is of another class; the second takes it -/
theorem WT.catch2 {pc : Nat} {ls : Array Slot} {rest : List Value} {x : Addr} {own C C2 CE : String} {index index2 hpc : Nat} (hown : s.vm.findClass own = some m.cls) (hcl : (Cond.classLink own index C).before args s = true) (hcl2 : (Cond.classLink own index2 C2).before args s = true) (h0 : index ≠ 0) (h02 : index2 ≠ 0)
    (post : List ExceptionTableEntry) (en en2 : ExceptionTableEntry) (htab : c.exceptionTable.toList = en :: en2 :: post) (hcov : covers en pc = true) (hcov2 : covers en2 pc = true) (hct : en.catchType = index) (hct2 : en2.catchType = index2) (hhp : en2.handlerPc = hpc)
    (hcell : ∃ cell : Cell, H[x]? = some cell ∧ cell.vm.isStatics = false ∧ s.vm.findClass CE = some cell.cls) (hno : va_Nc CE C s) (hcast : va_Nw (.castable CE C2) s)
    (kk : W p l e R s m args below meth c H locs cells slots Q (F0 m hpc ls [.ref x])) : WT p l e R s m args below meth c H locs cells slots Q (F0 m pc ls rest) x := by
  intro T hT X
  have hpl : e.platform.magicAccessors = ({} : Platform).magicAccessors := by rw [X.admits.platform]
  obtain ⟨cell, hc1, hc2, hc3⟩ := hcell
  obtain ⟨cC, hfc, hlk⟩ := Cond.classLink_spec hown hcl e.platform hpl
  obtain ⟨cC2, hfc2, hlk2⟩ := Cond.classLink_spec hown hcl2 e.platform hpl
  obtain ⟨c8, t8, v1, v2, v3⟩ := hno
  cases hc3.symm.trans v1
  cases hfc.symm.trans v2
  obtain ⟨c9, t9, w1, w2, w3⟩ := Cond.castable_spec hcast
  cases hc3.symm.trans w1
  cases hfc2.symm.trans w2
  obtain ⟨hg₁, hwarm₁, hready₁⟩ := State.classEntry (e := e) X.warmed hlk
  have hsz : (T.vm.noted m.cls index (.cls cC)).classes.size ≤ T.vm.classes.size := by rw [Vm.size_noted]; exact Nat.le_refl _
  generalize hvm : T.vm.noted m.cls index (.cls cC) = vm₁ at hg₁ hwarm₁ hready₁ hsz
  obtain ⟨hg₂, hwarm₂, hready₂⟩ := State.classEntry (e := e) hwarm₁ hlk2
  have hsz2 : (vm₁.noted m.cls index2 (.cls cC2)).classes.size ≤ vm₁.classes.size := by rw [Vm.size_noted]; exact Nat.le_refl _
  generalize hvm2 : vm₁.noted m.cls index2 (.cls cC2) = vm₂ at hg₂ hwarm₂ hready₂ hsz2
  obtain ⟨k1, hk1⟩ := Vm.classAt_of_findClass (vm := vm₁) (name := CE) (c := cell.cls) (by rw [hwarm₁.alike.findClass]; exact hc3)
  obtain ⟨k2, hk2⟩ := Vm.classAt_of_findClass (vm := vm₁) (name := C) (c := cC) (by rw [hwarm₁.alike.findClass]; exact hfc)
  obtain ⟨k3, hk3⟩ := Vm.classAt_of_findClass (vm := vm₂) (name := CE) (c := cell.cls) (by rw [hwarm₂.alike.findClass]; exact hc3)
  obtain ⟨k4, hk4⟩ := Vm.classAt_of_findClass (vm := vm₂) (name := C2) (c := cC2) (by rw [hwarm₂.alike.findClass]; exact hfc2)
  obtain ⟨t, a1, b1⟩ := kk (T.setVm vm₂) hT (X.noted hwarm₂)
  refine ⟨t, ?_, b1⟩
  refine FindsC.caught (g := F0 m pc ls rest) (pc := hpc) (vm' := vm₂) X.here ?_ a1
  intro Q' E' d' acts'
  have hm' : ((T.setTop (F0 m pc ls rest)).pushFrame (.throwing x)).vm.method? m = some meth := by rw [Stand.throwing_vm]; exact X.method'
  rw [W.findHandler_eq (f := F0 m pc ls rest) hm' X.code, htab]
  rw [ex_go_cold (cC := cC) (vm' := vm₁) (cell := cell) hcov (by rw [hct]; exact h0) (by rw [hct, Stand.throwing_vm]; exact hg₁) (by rw [Stand.throwing_vm]; exact hsz) (by rw [Stand.throwing_heap, hT]; exact hc1) (fun k h => by rw [h] at hc2; cases hc2) ⟨k1, hk1⟩ ⟨k2, hk2⟩]
  rw [if_neg (by rw [hwarm₁.alike.assignable, v3]; decide)]
  rw [ex_go_cold (cC := cC2) (vm' := vm₂) (cell := cell) hcov2 (by rw [hct2]; exact h02) (by rw [hct2]; exact hg₂) hsz2 (by show ((T.setTop (F0 m pc ls rest)).pushFrame (.throwing x)).heap[x]? = _; rw [Stand.throwing_heap, hT]; exact hc1) (fun k h => by rw [h] at hc2; cases hc2) ⟨k3, hk3⟩ ⟨k4, hk4⟩]
  rw [if_pos (by rw [hwarm₂.alike.assignable]; exact w3), hhp]
  exact Iff.rfl
end EXD
section EXE
variable {l : Launch} {R : Room} {p : Program} {e : Env} {below : List Frame} {s : State} {sargs : Array Value} {y : MethodName} {len W : Nat}
def BackT (l : Launch) (R : Room) (p : Program) (e : Env) (below : List Frame) (s : State) (sargs : Array Value) (y : MethodName) (len W : Nat) (Pre : Pt → Array Value → Prop) (Post : Pt → Array Value → Outcome → Pt → Prop) : Prop :=
  ∀ (m : MethodId) (meth : Method) (c : Code) (A : Pt) (g : JFrame) (ig : Instr) (mk : MethodId) (a : Array Value),
    Stand p l e R s m sargs below meth c A.U A.locs A.cells A.slots → g.method = m → g.locals.size = c.maxLocals → decode c.code g.pc = .ok (ig, len) →
    2 * g.monitorRoom + (g.stack.map fun v => v.category).sum ≤ W → A.U.methodNamed? y = some mk → Pre A a →
    ∃ (o : Outcome) (B : Pt), Stand p l e R s m sargs below meth c B.U B.locs B.cells B.slots ∧ Post A a o B ∧
      (∀ v, o = .returned v → Steps p.tables e below (doInvoke e (A.U.setTop g) [] mk a).1 (B.U.setTop { g with pc := g.pc + len, stack := v.toList ++ g.stack })) ∧
      (∀ x, o = .threw x → Steps p.tables e below (doInvoke e (A.U.setTop g) [] mk a).1 ((B.U.setTop g).pushFrame (.throwing x)))
def PostT (Qc : Array Value → State → Outcome → State → Prop) (mc ms : Nat) (free : Addr → Prop) : Pt → Array Value → Outcome → Pt → Prop := fun A a o B =>
  ∃ (g : JFrame) (mk : MethodId) (t : State) (L : List Loc), B.U.heap = t.heap ∧ B.U.vm = t.vm ∧ Qc a (A.U.calling g mk a) o t ∧ B.locs = A.locs ++ L ∧ (∀ q ∈ L, free q.base) ∧ B.cells = A.cells + mc ∧ B.slots = A.slots + ms
theorem backT_of {ws : List Cond} {rm : Room} {Pc : Array Value → State → Prop} {Qc : Array Value → State → Outcome → State → Prop} {mc ms : Nat} {free : Addr → Prop} {bytes : ByteArray} {maxL : Nat} {ret : Option FieldType}
    (hM : MetT l y ws rm Pc Qc mc ms free) (hblind : FrameBlind Pc) (hrc : rm.cells = mc) (hrs : rm.slots = ms)
    (hframes : rm.frames + 1 ≤ R.frames) (hlocals : W + (maxL + 11) + rm.locals ≤ R.locals)
    (hws : ∀ w ∈ ws, ∀ a' U, s.WarmedH U.vm → w.before a' U = true) (hcode : Cond.code y bytes maxL ret ∈ ws) (hinit : ∀ a' U, s.WarmedH U.vm → (Cond.initialized y.cls).before a' U = true) :
    BackT l R p e below s sargs y len W (PreOf R mc ms Pc) (PostT Qc mc ms free) := by
  intro m meth c A g ig mk a X hg hsize hdg hW hn hp
  have h1 : (headSpec ws rm).pre.before a A.U = true := atoms_intro fun w hw => hws w hw _ _ X.warmed
  have h2 := hws _ hcode a A.U X.warmed
  have h3 := hinit a A.U X.warmed
  have h4 : A.cells + (headSpec ws rm).room.cells ≤ R.cells := by rw [show (headSpec ws rm).room.cells = mc from hrc]; exact hp.1
  have h5 : A.slots + (headSpec ws rm).room.slots ≤ R.slots := by rw [show (headSpec ws rm).room.slots = ms from hrs]; exact hp.2.1
  have hPc := hp.2.2
  obtain ⟨U, Ls, c0, s0⟩ := A
  dsimp only [Pt.U, Pt.locs, Pt.cells, Pt.slots] at h1 h2 h3 h4 h5 X hn hPc ⊢
  obtain ⟨methY, cY, hmY, hcY, -, hlY, -, -, -, -⟩ := Cond.code_spec hn h2
  obtain ⟨kY, hkY, -⟩ := className_of_methodNamed hn
  have hinitY : kY.init = .initialized := Cond.initialized_spec (findClass_of_methodNamed hn) hkY h3
  have h : At U g.method c below := by rw [hg]; exact X.here
  have happ : (headSpec ws rm).appliesLoose y e.platform (U.calling g mk a) = true :=
    Spec.appliesLoose_calling (g := g) h hdg hn hkY hinitY
      (X.room_calling (g := g) (R' := (headSpec ws rm).room) hsize hmY hcY hframes (by rw [hlY]; show _ + _ + rm.locals ≤ _; omega) h4 h5) h1
  obtain ⟨mid, hmid⟩ := h.above
  have hfr : (U.setTop g).frames = (.java g :: mid) ++ below := by rw [State.frames_setTop' g h.top, hmid]; rfl
  obtain ⟨o, s₂, hsteps, -, hend, hq⟩ := Steps.callFree hM p X.admits X.cas X.clock (acts := []) hfr happ (hblind _ _ _ _ hPc) trivial
  rw [State.frames_setTop' g h.top] at hend
  obtain ⟨hq', L, hfe, hL⟩ := hq
  have hq' : Qc a (U.calling g mk a) o s₂ := hq'
  have hfe : FrameT (U.calling g mk a) s₂ L mc ms := hfe
  obtain ⟨hW₂, e2, q2, q3, q4, q5, q6⟩ := id hfe
  have e3 : s₂ = ({ (U.calling g mk a).setFrames s₂.frames with heap := s₂.heap, slotsUsed := s₂.slotsUsed } : State).setVm s₂.vm := by
    have : s₂ = ({ s₂ with vm := (U.calling g mk a).vm } : State).setVm s₂.vm := rfl
    rw [e2] at this
    exact this
  have hW' : U.WarmedH s₂.vm := hW₂
  obtain ⟨g₀, hg0⟩ := Option.isSome_iff_exists.mp h.top
  obtain ⟨r, hr⟩ := State.topJava?_eq_some.mp hg0
  have hr' : (({ U with heap := s₂.heap, slotsUsed := s₂.slotsUsed } : State).setVm s₂.vm).frames = .java g₀ :: r := hr
  have hsame : U.sameButNew ({ U with heap := s₂.heap, slotsUsed := s₂.slotsUsed } : State) L mc ms := by
    refine ⟨?_, q2, q3, q4, q5, q6⟩
    obtain ⟨t, ht, -⟩ := State.frames_cons hr
    show ({ U with heap := s₂.heap, slotsUsed := s₂.slotsUsed } : State) = { U.setFrames U.frames with heap := s₂.heap, slotsUsed := s₂.slotsUsed }
    rw [State.setFrames_self ht]
  have hstand : Stand p l e R s m sargs below meth c (({ U with heap := s₂.heap, slotsUsed := s₂.slotsUsed } : State).setVm s₂.vm) (Ls ++ L) (c0 + mc) (s0 + ms) :=
    ⟨X.admits, X.cas, X.clock, X.frames, X.room, X.hears, X.method, X.code, (X.here.setHeapUsed s₂.heap s₂.slotsUsed).setVm hW'.alike, X.tail, State.WarmedH.trans X.warmed hW', X.limits, X.bytes, X.same.trans (hsame.setVm s.vm)⟩
  refine ⟨o, ⟨(({ U with heap := s₂.heap, slotsUsed := s₂.slotsUsed } : State).setVm s₂.vm), Ls ++ L, c0 + mc, s0 + ms⟩, hstand, ⟨g, mk, s₂, L, rfl, rfl, hq', rfl, hL, rfl, rfl⟩, ?_, ?_⟩
  · intro v hv
    subst hv
    obtain ⟨c₂, i₂, len₂, hc₂, hd₂, hf₂⟩ := hend
    have hcc : c₂ = c := by
      have h1 : s₂.code? g.method = U.code? g.method := by
        rw [State.code?_eq, State.code?_eq, hW'.alike.method?]
      exact Option.some.inj (hc₂.symm.trans (h1.trans h.code))
    subst hcc
    have hlen : len₂ = len := by rw [hdg] at hd₂; cases hd₂; rfl
    subst hlen
    have hs₂ : s₂ = (({ U with heap := s₂.heap, slotsUsed := s₂.slotsUsed } : State).setVm s₂.vm).setTop { g with pc := g.pc + len₂, stack := v.toList ++ g.stack } := by
      refine e3.trans ?_
      rw [hf₂, State.calling_eq h.top, State.setFrames_setFrames, State.setTop_of_frames _ hr', hr]
      rfl
    show Steps p.tables e below _ ((({ U with heap := s₂.heap, slotsUsed := s₂.slotsUsed } : State).setVm s₂.vm).setTop { g with pc := g.pc + len₂, stack := v.toList ++ g.stack })
    rw [← hs₂]
    exact hsteps
  · intro x hx
    subst hx
    have hf₂ : s₂.frames = .throwing x :: (.java g :: U.frames.tail) := hend
    have hs₂ : s₂ = ((({ U with heap := s₂.heap, slotsUsed := s₂.slotsUsed } : State).setVm s₂.vm).setTop g).pushFrame (.throwing x) := by
      refine e3.trans ?_
      rw [hf₂, State.calling_eq h.top, State.setFrames_setFrames, State.pushFrame, State.setTop_of_frames _ hr', hr]
      rw [State.frames_setFrames _ (State.cur_lt_of_frames hr'), State.setFrames_setFrames]
      rfl
    show Steps p.tables e below _ (((({ U with heap := s₂.heap, slotsUsed := s₂.slotsUsed } : State).setVm s₂.vm).setTop g).pushFrame (.throwing x))
    rw [← hs₂]
    exact hsteps
end EXE
section EXF
variable {p : Program} {l : Launch} {e : Env} {R : Room} {s : State} {m : MethodId} {args : Array Value} {below : List Frame} {meth : Method} {c : Code} {H : Heap} {locs : List Loc} {cells slots : Nat} {Q : State → Prop}
  {Ts ws : List Cond} {cc bytes : ByteArray} {nL maxL index n mc ms : Nat} {own C : String} {y : MethodName} {ret : Option FieldType} {rm : Room} {Pc : Array Value → State → Prop} {Qc : Array Value → State → Outcome → State → Prop} {free : Addr → Prop}
  {b : Addr} {As rest : List Value} {g : JFrame}
/-- a call that may throw -/
def RunT (p : Program) (l : Launch) (e : Env) (R : Room) (s : State) (m : MethodId) (args : Array Value) (below : List Frame) (meth : Method) (c : Code) (H : Heap) (locs : List Loc) (cells slots mc ms : Nat) (g : JFrame) (rest : List Value) (Qa : State → Outcome → State → Prop) (free : Addr → Prop) : Prop :=
  ∀ T : State, T.heap = H → Stand p l e R s m args below meth c T locs cells slots → ∃ (o : Outcome) (st₀ t T' : State) (L : List Loc), st₀.heap = H ∧ Stand p l e R s m args below meth c T' (locs ++ L) (cells + mc) (slots + ms) ∧ (∀ q ∈ L, free q.base) ∧ T'.heap = t.heap ∧ Qa st₀ o t ∧
    (∀ v, o = .returned v → ∀ tg, Steps p.tables e below (T'.setTop { g with pc := g.pc + 3, stack := v.toList ++ rest }) tg → Steps p.tables e below (T.setTop g) tg) ∧
    (∀ x, o = .threw x → ∀ tg, Steps p.tables e below ((T'.setTop { g with stack := rest }).pushFrame (.throwing x)) tg → Steps p.tables e below (T.setTop g) tg)
theorem runVT (S : CallFix p m c cc nL s args Ts own) (hM : MetT l y ws rm Pc Qc mc ms free) (cw : CallW R s args own C index y bytes maxL ret ws rm mc ms n) (hp : PreV s H C b Pc As)
    (hg : g.method = m) (hn : As.length = n) (hsize : g.locals.size = nL) (hstack : g.stack = As.reverse ++ .ref b :: rest) (hW : 2 * g.monitorRoom + (rest.map fun v => v.category).sum ≤ 8) (hdg : decode cc g.pc = .ok (.invokevirtual index, 3)) (hf : cells + mc ≤ R.cells ∧ slots + ms ≤ R.slots) :
    RunT p l e R s m args below meth c H locs cells slots mc ms g rest (Qc (Value.ref b :: As).toArray) free := by
  obtain ⟨⟨hrc, hrs, hfr, hlo, hws, hcw, hcode, hini, hy, hlen, hlink⟩, hinst, hsel⟩ := cw
  have hK : BackT l R p e below s args y 3 8 (PreOf R mc ms Pc) (PostT Qc mc ms free) := backT_of (bytes := bytes) (maxL := maxL) (ret := ret) hM hp.1 hrc hrs hfr hlo hws hcw (fun a' U hW => word_at hW (Or.inl (by first | rfl | simp [Cond.onTables, Cond.keeps, Cond.steady])) hini)
  obtain ⟨hexec, hb, hml, hown, -⟩ := S
  obtain ⟨-, ⟨cellB, hcell, hobj, hcls⟩, hPc⟩ := hp
  intro T hT X
  obtain ⟨mk, methM, hnamed, hmethM, hstM, habM⟩ := Cond.instanceMethod_spec hinst
  obtain ⟨methM', cM, hmethM', -, -, -, -, -, -, hsigM⟩ := Cond.code_spec hnamed hcode
  cases hmethM.symm.trans hmethM'
  obtain ⟨c2, r2, m2, q1, q2, q3, q4, kP, hkP, hkPi⟩ := Cond.selects_spec hsel
  cases hcls.symm.trans q1
  cases (State.methodFound?_of_named hnamed hy).symm.trans q2
  cases hnamed.symm.trans q3
  have hselP : selectMethod e.platform s.vm cellB.cls mk = .method mk := by rw [Launch.admits_selectMethod X.admits]; exact q4
  obtain ⟨vm₁, X₁, hstep₁⟩ := X.invokevirtual hexec hown hlink hnamed hmethM hstM hkP hkPi hy (a := b) (cell := cellB) (by rw [hT]; exact hcell)
    (fun z h => by rw [h] at hobj; cases hobj) hselP hmethM habM hkP hkPi (g := g) hg (argsL := As) (rest := rest) (hn.trans (hlen _ hsigM)) hstack (by rw [hb]; exact hdg)
  obtain ⟨o, ⟨U', l2, c2', s2⟩, X', ⟨g', mk', t, L, e1, e2, hq, h1, hL, h2, h3⟩, st1, st2⟩ := hK m meth c ⟨T.setVm vm₁, locs, cells, slots⟩ { g with stack := rest } (.invokevirtual index) mk (Value.ref b :: As).toArray X₁ hg (hsize.trans hml.symm) (by rw [hb]; exact hdg) hW (X₁.named hnamed) ⟨hf.1, hf.2, hPc (T.setVm vm₁) hT X₁.warmed⟩
  dsimp only [Pt.U, Pt.locs, Pt.cells, Pt.slots] at X' e1 e2 h1 h2 h3 st1 st2
  subst h1; subst h2; subst h3
  refine ⟨o, (T.setVm vm₁).calling g' mk' (Value.ref b :: As).toArray, t, U', L, hT, X', hL, e1, hq, fun v hv tg htg => ?_, fun x hx tg htg => ?_⟩
  · exact hstep₁ _ fun acts => by rw [doInvoke_state]; exact (st1 v hv).trans htg
  · exact hstep₁ _ fun acts => by rw [doInvoke_state]; exact (st2 x hx).trans htg
end EXF
