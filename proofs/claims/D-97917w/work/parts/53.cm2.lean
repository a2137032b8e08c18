/-! THE COMPONENT: rows for calls -/
set_option maxRecDepth 100000
theorem cAt.recv {D : va_G} {dA : Nat → ClassId} {s : State} {b ci N : Nat} {C : String} {T : u_T} {fs : List Value} {H : Heap} (hK : cmK D dA s) (ho : cAt D b (.inr (ci, fs)) H) (hc : cmCl[ci]? = some (C, T, N)) : ∃ cell : Cell, H[b]? = some cell ∧ cell.vm.isStatics = false ∧ s.vm.findClass C = some cell.cls :=
  va_recv hK.1 ho.P (ci := ci) (q0 := 0) hc rfl
section CMC
variable {p : Program} {l : Launch} {e : Env} {R : Room} {s : State} {m : MethodId} {args : Array Value} {below : List Frame} {meth : Method} {c : Code} {H H0 : Heap} {locs : List Loc} {cells slots : Nat} {Q : State → Prop}
variable {cc : ByteArray} {pc : Nat} {ls : Array Slot} {rest : List Value} {D : va_G} {dA : Nat → ClassId} {A B : Nat → Prop} {b : Nat} {P : Heap → Prop} {Qv : Option Value → Heap → Prop} {Qo : Outcome → Heap → Prop}
variable {y x : MethodName} {cy : ByteArray} {maxL nL fr lo idx mc ms n : Nat} {ret : Option FieldType} {As st : List Value} {own C : String}
/-- behind a call -/
def CgK (p : Program) (l : Launch) (e : Env) (R : Room) (s : State) (m : MethodId) (args : Array Value) (below : List Frame) (meth : Method) (c : Code) (H0 H : Heap) (cells slots : Nat) (Q : State → Prop) (A B : Nat → Prop) (mc ms : Nat) (Qv : Option Value → Heap → Prop) (g : List Value → JFrame) (rest : List Value) : Prop :=
  ∀ (v : Option Value) (H1 : Heap) (locs1 : List Loc), Qv v H1 → H.size ≤ H1.size → (∀ q, q < H.size → ¬ B q → H1[q]? = H[q]?) → va_S A H0 H1 locs1 → W p l e R s m args below meth c H1 locs1 (cells + mc) (slots + ms) Q (g (v.toList ++ rest))
theorem va_S.call {L : List Loc} {st₀ t : State} {T' : State} (hS : va_S A H0 H locs) (hBA : ∀ q, B q → A q) (h0 : st₀.heap = H) (e1 : T'.heap = t.heap) (hF : va_F B st₀ t) (hL : ∀ q ∈ L, B q.base) : H.size ≤ T'.heap.size ∧ (∀ q, q < H.size → ¬ B q → T'.heap[q]? = H[q]?) ∧ va_S A H0 T'.heap (locs ++ L) := by
  obtain ⟨hz, hk⟩ := hF
  rw [h0] at hz hk
  refine ⟨by rw [e1]; exact hz, fun q h1 h2 => by rw [e1]; exact hk q h1 h2, Nat.le_trans hS.1 (by rw [e1]; exact hz), fun q g1 g2 => by rw [e1, hk q (Nat.lt_of_lt_of_le g1 hS.1) (fun h => g2 (hBA q h))]; exact hS.2.1 q g1 g2, fun q hq => ?_⟩
  rcases List.mem_append.mp hq with g | g
  · exact hS.2.2 q g
  · exact hBA _ (hL q g)
theorem cg_go (hr : va_Run p l e R s m args below meth c H locs cells slots mc ms (F0 m pc ls st) rest (fun st' oc t => (∃ v, oc = .returned v ∧ Qv v t.heap) ∧ va_F B st' t) B) (hS : va_S A H0 H locs) (hBA : ∀ q, B q → A q)
    (kk : CgK p l e R s m args below meth c H0 H cells slots Q A B mc ms Qv (fun z => F0 m (pc + 3) ls z) rest) : W p l e R s m args below meth c H locs cells slots Q (F0 m pc ls st) := by
  intro T hT X
  obtain ⟨v', st₀, t, T', L, h0, X', hL, e1, e2, ⟨⟨v, hv, hq⟩, hF⟩, stp⟩ := hr T hT X
  cases hv
  obtain ⟨k1, k2, k3⟩ := hS.call hBA h0 e1 hF hL
  obtain ⟨t2, a1, b1⟩ := kk v' T'.heap (locs ++ L) (by rw [e1]; exact hq) k1 k2 k3 T' rfl X'
  exact ⟨t2, stp t2 a1, b1⟩
theorem cg_go5 (hr : va_Run5 p l e R s m args below meth c H locs cells slots mc ms (F0 m pc ls st) rest (fun st' oc t => (∃ v, oc = .returned v ∧ Qv v t.heap) ∧ va_F B st' t) B) (hS : va_S A H0 H locs) (hBA : ∀ q, B q → A q)
    (kk : CgK p l e R s m args below meth c H0 H cells slots Q A B mc ms Qv (fun z => F0 m (pc + 5) ls z) rest) : W p l e R s m args below meth c H locs cells slots Q (F0 m pc ls st) := by
  intro T hT X
  obtain ⟨v', st₀, t, T', L, h0, X', hL, e1, e2, ⟨⟨v, hv, hq⟩, hF⟩, stp⟩ := hr T hT X
  cases hv
  obtain ⟨k1, k2, k3⟩ := hS.call hBA h0 e1 hF hL
  obtain ⟨t2, a1, b1⟩ := kk v' T'.heap (locs ++ L) (by rw [e1]; exact hq) k1 k2 k3 T' rfl X'
  exact ⟨t2, stp t2 a1, b1⟩
/-- the receiver's own method -/
theorem cg_callV (hx : p.tables.exec = Jvm.exec) (hb : c.code = cc) (hml : c.maxLocals = nL) (hown : s.vm.findClass own = some m.cls) (hts : ∀ w ∈ lw_all, w.before args s = true) (hK : cmK D dA s) (hS : va_S A H0 H locs)
    (hC : Cg D dA B y cy maxL ret fr lo mc ms (.ref b :: As) P Qv) (hP : P H) (hBA : ∀ q, B q → A q) (hrc : ∃ cell : Cell, H[b]? = some cell ∧ cell.vm.isStatics = false ∧ s.vm.findClass C = some cell.cls)
    (h1 : Cond.methodLink own idx y ∈ lw_all) (h2 : Cond.instanceMethod y ∈ lw_all) (h3 : Cond.selects C y y ∈ lw_all) (h4 : Cond.initialized C ∈ lw_all) (h5 : Cond.code y cy maxL ret ∈ lw_all)
    (hd : y.cls = C ∧ y.cls ≠ "java/lang/invoke/MethodHandle" ∧ y.cls ≠ "java/lang/invoke/VarHandle" ∧ (parseMethodDescriptor y.desc).map (fun d => d.parameters.length) = some n) (hn : As.length = n) (hRf : fr + 1 ≤ R.frames) (hRl : 8 + (maxL + 11) + lo ≤ R.locals) (hRc : cells + mc ≤ R.cells) (hRs : slots + ms ≤ R.slots) (hsize : ls.size = nL) (hst : st = As.reverse ++ .ref b :: rest) (hW : (rest.map fun v => v.category).sum ≤ 8) (hdg : decode cc pc = .ok (.invokevirtual idx, 3))
    (kk : CgK p l e R s m args below meth c H0 H cells slots Q A B mc ms Qv (fun z => F0 m (pc + 3) ls z) rest) : W p l e R s m args below meth c H locs cells slots Q (F0 m pc ls st) :=
  cg_go (va_runV (below := below) (meth := meth) (locs := locs) (cells := cells) (slots := slots) (e := e) (As := As) (rest := rest) (g := F0 m pc ls st) (b := b) (Ts := lw_all) (own := own) (C := C) (n := n) ⟨hx, hb, hml, hown, hts⟩ (hC l) (cwV n hts (lw_V h1 h2 h3 h4 h5) rfl rfl rfl hd ⟨hRf, hRl⟩)
    ⟨cm_blind, hrc, fun U hU hW => ⟨rfl, by rw [hU]; exact hP, hK.warm hW⟩⟩ rfl hn hsize hst (lv_room hW) hdg ⟨hRc, hRs⟩) hS hBA kk
/-- a static method -/
theorem cg_callS (hx : p.tables.exec = Jvm.exec) (hb : c.code = cc) (hml : c.maxLocals = nL) (hown : s.vm.findClass own = some m.cls) (hts : ∀ w ∈ lw_all, w.before args s = true) (hK : cmK D dA s) (hS : va_S A H0 H locs)
    (hC : Cg D dA B y cy maxL ret fr lo mc ms As P Qv) (hP : P H) (hBA : ∀ q, B q → A q)
    (h1 : Cond.methodLink own idx y ∈ lw_all) (h2 : Cond.static y ∈ lw_all) (h4 : Cond.initialized y.cls ∈ lw_all) (h5 : Cond.code y cy maxL ret ∈ lw_all)
    (hd : y.cls ≠ "java/lang/invoke/MethodHandle" ∧ y.cls ≠ "java/lang/invoke/VarHandle" ∧ (parseMethodDescriptor y.desc).map (fun d => d.parameters.length) = some n) (hn : As.length = n) (hRf : fr + 1 ≤ R.frames) (hRl : 8 + (maxL + 11) + lo ≤ R.locals) (hRc : cells + mc ≤ R.cells) (hRs : slots + ms ≤ R.slots) (hsize : ls.size = nL) (hst : st = As.reverse ++ rest) (hW : (rest.map fun v => v.category).sum ≤ 8) (hdg : decode cc pc = .ok (.invokestatic idx, 3))
    (kk : CgK p l e R s m args below meth c H0 H cells slots Q A B mc ms Qv (fun z => F0 m (pc + 3) ls z) rest) : W p l e R s m args below meth c H locs cells slots Q (F0 m pc ls st) :=
  cg_go (va_runS (below := below) (meth := meth) (locs := locs) (cells := cells) (slots := slots) (e := e) (As := As) (rest := rest) (g := F0 m pc ls st) (Ts := lw_all) (own := own) (n := n) ⟨hx, hb, hml, hown, hts⟩ (hC l) (va_cwS n hts (lw_S h1 h2 h4 h5) rfl rfl rfl hd ⟨hRf, hRl⟩)
    ⟨cm_blind, fun U hU hW => ⟨rfl, by rw [hU]; exact hP, hK.warm hW⟩⟩ rfl hn hsize hst (lv_room hW) hdg ⟨hRc, hRs⟩) hS hBA kk
/-- a nest mate's static method -/
theorem cg_callSN {host : String} (hx : p.tables.exec = Jvm.exec) (hb : c.code = cc) (hml : c.maxLocals = nL) (hown : s.vm.findClass own = some m.cls) (hts : ∀ w ∈ lw_all, w.before args s = true) (hK : cmK D dA s) (hS : va_S A H0 H locs)
    (hC : Cg D dA B y cy maxL ret fr lo mc ms As P Qv) (hP : P H) (hBA : ∀ q, B q → A q)
    (h1 : va_Nw (.methodLinkNest own idx y host) s) (h2 : Cond.static y ∈ lw_all) (h4 : Cond.initialized y.cls ∈ lw_all) (h5 : Cond.code y cy maxL ret ∈ lw_all)
    (hd : y.cls ≠ "java/lang/invoke/MethodHandle" ∧ y.cls ≠ "java/lang/invoke/VarHandle" ∧ (parseMethodDescriptor y.desc).map (fun d => d.parameters.length) = some n) (hn : As.length = n) (hRf : fr + 1 ≤ R.frames) (hRl : 8 + (maxL + 11) + lo ≤ R.locals) (hRc : cells + mc ≤ R.cells) (hRs : slots + ms ≤ R.slots) (hsize : ls.size = nL) (hst : st = As.reverse ++ rest) (hW : (rest.map fun v => v.category).sum ≤ 8) (hdg : decode cc pc = .ok (.invokestatic idx, 3))
    (kk : CgK p l e R s m args below meth c H0 H cells slots Q A B mc ms Qv (fun z => F0 m (pc + 3) ls z) rest) : W p l e R s m args below meth c H locs cells slots Q (F0 m pc ls st) :=
  cg_go (va_runSN (below := below) (meth := meth) (locs := locs) (cells := cells) (slots := slots) (e := e) (As := As) (rest := rest) (g := F0 m pc ls st) (Ts := lw_all) (own := own) (n := n) ⟨hx, hb, hml, hown, hts⟩ (hC l) ⟨va_cnB n hts (lw_meth h5) rfl rfl rfl h1 (hts _ h4) hd ⟨hRf, hRl⟩, hts _ h2, trivial⟩
    ⟨cm_blind, fun U hU hW => ⟨rfl, by rw [hU]; exact hP, hK.warm hW⟩⟩ rfl hn hsize hst (lv_room hW) hdg ⟨hRc, hRs⟩) hS hBA kk
/-- a constructor -/
theorem cg_callI (hx : p.tables.exec = Jvm.exec) (hb : c.code = cc) (hml : c.maxLocals = nL) (hown : s.vm.findClass own = some m.cls) (hts : ∀ w ∈ lw_all, w.before args s = true) (hK : cmK D dA s) (hS : va_S A H0 H locs)
    (hC : Cg D dA B y cy maxL none fr lo mc ms (.ref b :: As) P Qv) (hP : P H) (hBA : ∀ q, B q → A q)
    (h1 : Cond.methodLink own idx y ∈ lw_all) (h2 : Cond.instanceMethod y ∈ lw_all) (h4 : Cond.initialized y.cls ∈ lw_all) (h5 : Cond.code y cy maxL none ∈ lw_all)
    (hd : y.name = "<init>" ∧ y.cls ≠ "java/lang/invoke/MethodHandle" ∧ y.cls ≠ "java/lang/invoke/VarHandle" ∧ (parseMethodDescriptor y.desc).map (fun d => d.parameters.length) = some n) (hn : As.length = n) (hRf : fr + 1 ≤ R.frames) (hRl : 8 + (maxL + 11) + lo ≤ R.locals) (hRc : cells + mc ≤ R.cells) (hRs : slots + ms ≤ R.slots) (hsize : ls.size = nL) (hst : st = As.reverse ++ .ref b :: rest) (hW : (rest.map fun v => v.category).sum ≤ 8) (hdg : decode cc pc = .ok (.invokespecial idx, 3))
    (kk : CgK p l e R s m args below meth c H0 H cells slots Q A B mc ms Qv (fun z => F0 m (pc + 3) ls z) rest) : W p l e R s m args below meth c H locs cells slots Q (F0 m pc ls st) :=
  cg_go (va_runI (below := below) (meth := meth) (locs := locs) (cells := cells) (slots := slots) (e := e) (As := As) (rest := rest) (g := F0 m pc ls st) (b := b) (Ts := lw_all) (own := own) (n := n) ⟨hx, hb, hml, hown, hts⟩ (hC l) (cwI n hts (lw_meth h5) rfl rfl rfl (hts _ h4) (hts _ h1) (hts _ h2) hd.1 hd.2 ⟨hRf, hRl⟩)
    ⟨cm_blind, fun U hU hW => ⟨rfl, by rw [hU]; exact hP, hK.warm hW⟩⟩ rfl hn hsize hst (lv_room hW) hdg ⟨hRc, hRs⟩) hS hBA kk
/-- a nest mate's constructor -/
theorem cg_callIN {host : String} (hx : p.tables.exec = Jvm.exec) (hb : c.code = cc) (hml : c.maxLocals = nL) (hown : s.vm.findClass own = some m.cls) (hts : ∀ w ∈ lw_all, w.before args s = true) (hK : cmK D dA s) (hS : va_S A H0 H locs)
    (hC : Cg D dA B y cy maxL none fr lo mc ms (.ref b :: As) P Qv) (hP : P H) (hBA : ∀ q, B q → A q)
    (h1 : va_Nw (.methodLinkNest own idx y host) s) (h2 : Cond.instanceMethod y ∈ lw_all) (h4 : Cond.initialized y.cls ∈ lw_all) (h5 : Cond.code y cy maxL none ∈ lw_all)
    (hd : y.name = "<init>" ∧ y.cls ≠ "java/lang/invoke/MethodHandle" ∧ y.cls ≠ "java/lang/invoke/VarHandle" ∧ (parseMethodDescriptor y.desc).map (fun d => d.parameters.length) = some n) (hn : As.length = n) (hRf : fr + 1 ≤ R.frames) (hRl : 8 + (maxL + 11) + lo ≤ R.locals) (hRc : cells + mc ≤ R.cells) (hRs : slots + ms ≤ R.slots) (hsize : ls.size = nL) (hst : st = As.reverse ++ .ref b :: rest) (hW : (rest.map fun v => v.category).sum ≤ 8) (hdg : decode cc pc = .ok (.invokespecial idx, 3))
    (kk : CgK p l e R s m args below meth c H0 H cells slots Q A B mc ms Qv (fun z => F0 m (pc + 3) ls z) rest) : W p l e R s m args below meth c H locs cells slots Q (F0 m pc ls st) :=
  cg_go (va_runIN (below := below) (meth := meth) (locs := locs) (cells := cells) (slots := slots) (e := e) (As := As) (rest := rest) (g := F0 m pc ls st) (b := b) (Ts := lw_all) (own := own) (n := n) ⟨hx, hb, hml, hown, hts⟩ (hC l) ⟨va_cnB n hts (lw_meth h5) rfl rfl rfl h1 (hts _ h4) hd.2 ⟨hRf, hRl⟩, hd.1, hts _ h2⟩
    ⟨cm_blind, fun U hU hW => ⟨rfl, by rw [hU]; exact hP, hK.warm hW⟩⟩ rfl hn hsize hst (lv_room hW) hdg ⟨hRc, hRs⟩) hS hBA kk
/-- a virtual call of x that comes to y, by the receiver's class C; x is declared in 'owner' -/
theorem cg_callU {owner : String} (hx : p.tables.exec = Jvm.exec) (hb : c.code = cc) (hml : c.maxLocals = nL) (hown : s.vm.findClass own = some m.cls) (hts : ∀ w ∈ lw_all, w.before args s = true) (hK : cmK D dA s) (hS : va_S A H0 H locs)
    (hC : Cg D dA B y cy maxL ret fr lo mc ms (.ref b :: As) P Qv) (hP : P H) (hBA : ∀ q, B q → A q) (hrc : ∃ cell : Cell, H[b]? = some cell ∧ cell.vm.isStatics = false ∧ s.vm.findClass C = some cell.cls)
    (hcw : ∀ (R : Room), fr + 1 ≤ R.frames → 8 + (maxL + 11) + lo ≤ R.locals → va_CU R s args own C owner idx x y cy maxL ret (ws_ y cy maxL ret) { frames := fr, cells := mc, slots := ms, locals := lo } mc ms n)
    (hn : As.length = n) (hRf : fr + 1 ≤ R.frames) (hRl : 8 + (maxL + 11) + lo ≤ R.locals) (hRc : cells + mc ≤ R.cells) (hRs : slots + ms ≤ R.slots) (hsize : ls.size = nL) (hst : st = As.reverse ++ .ref b :: rest) (hW : (rest.map fun v => v.category).sum ≤ 8) (hdg : decode cc pc = .ok (.invokevirtual idx, 3))
    (kk : CgK p l e R s m args below meth c H0 H cells slots Q A B mc ms Qv (fun z => F0 m (pc + 3) ls z) rest) : W p l e R s m args below meth c H locs cells slots Q (F0 m pc ls st) :=
  cg_go (va_runU (below := below) (meth := meth) (locs := locs) (cells := cells) (slots := slots) (e := e) (As := As) (rest := rest) (g := F0 m pc ls st) (b := b) (Ts := lw_all) (own := own) (C := C) (n := n) ⟨hx, hb, hml, hown, hts⟩ (hC l) (hcw R hRf hRl)
    ⟨cm_blind, hrc, fun U hU hW => ⟨rfl, by rw [hU]; exact hP, hK.warm hW⟩⟩ rfl hn hsize hst (lv_room hW) hdg ⟨hRc, hRs⟩) hS hBA kk
/-- super.y() -/
theorem cg_callSU {cC : ClassId} (hx : p.tables.exec = Jvm.exec) (hb : c.code = cc) (hml : c.maxLocals = nL) (hown : s.vm.findClass own = some m.cls) (hts : ∀ w ∈ lw_all, w.before args s = true) (hK : cmK D dA s) (hS : va_S A H0 H locs) (hat : ClassAt s C cC)
    (hC : Cg D dA B y cy maxL ret fr lo mc ms (.ref b :: As) P Qv) (hP : P H) (hBA : ∀ q, B q → A q) (hrc : ∃ cell : Cell, H[b]? = some cell ∧ cell.vm.isStatics = false ∧ s.vm.findClass C = some cell.cls)
    (h1 : Cond.methodLink own idx y ∈ lw_all) (h2 : Cond.sameMethod y.cls y.cls y.name y.desc ∈ lw_all) (h3 : Cond.superclass own y.cls ∈ lw_all) (h4 : Cond.instanceMethod y ∈ lw_all) (h6 : Cond.initialized y.cls ∈ lw_all) (h5 : Cond.code y cy maxL ret ∈ lw_all)
    (hd : y.name ≠ "<init>" ∧ (parseMethodDescriptor y.desc).map (fun d => d.parameters.length) = some n) (hn : As.length = n) (hRf : fr + 1 ≤ R.frames) (hRl : 8 + (maxL + 11) + lo ≤ R.locals) (hRc : cells + mc ≤ R.cells) (hRs : slots + ms ≤ R.slots) (hsize : ls.size = nL) (hst : st = As.reverse ++ .ref b :: rest) (hW : (rest.map fun v => v.category).sum ≤ 8) (hdg : decode cc pc = .ok (.invokespecial idx, 3))
    (kk : CgK p l e R s m args below meth c H0 H cells slots Q A B mc ms Qv (fun z => F0 m (pc + 3) ls z) rest) : W p l e R s m args below meth c H locs cells slots Q (F0 m pc ls st) :=
  cg_go (va_runSU (below := below) (meth := meth) (locs := locs) (cells := cells) (slots := slots) (e := e) (As := As) (rest := rest) (g := F0 m pc ls st) (b := b) (Ts := lw_all) (own := own) (C := C) (n := n) hat ⟨hx, hb, hml, hown, hts⟩ (hC l) (va_cwSU n hts (lw_app (fun w hw => by
      simp only [List.mem_cons, List.not_mem_nil, or_false] at hw
      rcases hw with h | h | h | h | h <;> rw [h] <;> assumption) (lw_meth h5)) rfl rfl rfl hd ⟨hRf, hRl⟩)
    ⟨cm_blind, hrc, fun U hU hW => ⟨rfl, by rw [hU]; exact hP, hK.warm hW⟩⟩ rfl hn hsize hst (lv_room hW) hdg ⟨hRc, hRs⟩) hS hBA kk
/-- an interface's method x that comes to y -/
theorem cg_callF {cC : ClassId} {count : Nat} (hx : p.tables.exec = Jvm.exec) (hb : c.code = cc) (hml : c.maxLocals = nL) (hown : s.vm.findClass own = some m.cls) (hts : ∀ w ∈ lw_all, w.before args s = true) (hK : cmK D dA s) (hS : va_S A H0 H locs) (hat : ClassAt s C cC)
    (hC : Cg D dA B y cy maxL ret fr lo mc ms (.ref b :: As) P Qv) (hP : P H) (hBA : ∀ q, B q → A q) (hrc : ∃ cell : Cell, H[b]? = some cell ∧ cell.vm.isStatics = false ∧ s.vm.findClass C = some cell.cls)
    (h1 : Cond.methodLink own idx x ∈ lw_all) (h2 : Cond.selects C x y ∈ lw_all) (h3 : Cond.instanceMethod y ∈ lw_all) (h4 : Cond.initialized y.cls ∈ lw_all) (h5 : Cond.code y cy maxL ret ∈ lw_all) (hF : va_Fw C x y s)
    (hd : x.cls ≠ "java/lang/invoke/MethodHandle" ∧ x.cls ≠ "java/lang/invoke/VarHandle" ∧ (parseMethodDescriptor x.desc).map (fun d => d.parameters.length) = some n) (hn : As.length = n) (hRf : fr + 1 ≤ R.frames) (hRl : 8 + (maxL + 11) + lo ≤ R.locals) (hRc : cells + mc ≤ R.cells) (hRs : slots + ms ≤ R.slots) (hsize : ls.size = nL) (hst : st = As.reverse ++ .ref b :: rest) (hW : (rest.map fun v => v.category).sum ≤ 8) (hdg : decode cc pc = .ok (.invokeinterface idx count, 5))
    (kk : CgK p l e R s m args below meth c H0 H cells slots Q A B mc ms Qv (fun z => F0 m (pc + 5) ls z) rest) : W p l e R s m args below meth c H locs cells slots Q (F0 m pc ls st) :=
  cg_go5 (va_runF (below := below) (meth := meth) (locs := locs) (cells := cells) (slots := slots) (e := e) (As := As) (rest := rest) (g := F0 m pc ls st) (b := b) (Ts := lw_all) (own := own) (C := C) (n := n) hat ⟨hx, hb, hml, hown, hts⟩ (hC l) (va_cwF n hts (lw_app (fun w hw => by
      simp only [List.mem_cons, List.not_mem_nil, or_false] at hw
      rcases hw with h | h | h | h <;> rw [h] <;> assumption) (lw_meth h5)) rfl rfl rfl hF hd ⟨hRf, hRl⟩)
    ⟨cm_blind, hrc, fun U hU hW => ⟨rfl, by rw [hU]; exact hP, hK.warm hW⟩⟩ rfl hn hsize hst (lv_room hW) hdg ⟨hRc, hRs⟩) hS hBA kk
end CMC
