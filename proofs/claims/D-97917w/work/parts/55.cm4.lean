/-! methods that read alone (Rd): the heap stays as it was -/
set_option maxRecDepth 100000
def Rd (D : va_G) (dA : Nat → ClassId) (y : MethodName) (cc : ByteArray) (maxL : Nat) (ret : Option FieldType) (fr lo : Nat) (As : List Value) (P : Heap → Prop) (v : Option Value) : Prop :=
  ∀ (l : Launch), Met l y (ws_ y cc maxL ret) { frames := fr, cells := 0, slots := 0, locals := lo } (va_Pc As (fun U => P U.heap ∧ cmK D dA U)) (fun _ st oc t => oc = .returned v ∧ t.heap = st.heap) 0 0 (fun _ => False)
section RDA
variable {D : va_G} {dA : Nat → ClassId} {P : Heap → Prop} {y : MethodName} {cc : ByteArray} {maxL fr lo : Nat} {ret : Option FieldType} {As : List Value} {own : String} {v : Option Value}
theorem Rd.of (hy : plainName y.cls = true) (hcl : y.cls = own) (hlen : (lg_sl As).length ≤ maxL)
    (body : ∀ (p : Program) (l : Launch) (e : Env) (s : State) (m : MethodId) (below : List Frame) (meth : Method) (c : Code) (ls : Array Slot), p.tables.exec = Jvm.exec → c.code = cc → meth.sig.returnType = ret → meth.locks = false → c.maxLocals = maxL → (∀ w ∈ lw_all, w.before As.toArray s = true) → s.vm.findClass own = some m.cls → cmK D dA s → P s.heap → lv_has ls maxL (lv_args 0 As) →
      W p l e { frames := fr, cells := 0, slots := 0, locals := lo } s m As.toArray below meth c s.heap [] 0 0 (MQ below (fun _ st oc t => oc = .returned v ∧ t.heap = st.heap) As.toArray s 0 0 (fun _ => False)) (F0 m 0 ls [])) : Rd D dA y cc maxL ret fr lo As P v := by
  intro l
  refine Met.ofW (cc := cc) (maxL := maxL) (ret := ret) hy rfl ?_
  intro p e s m args below meth c s₁ B hml hv
  obtain ⟨rfl, hP, hK⟩ := hv
  have hts := atoms_spec (ws := ws_ y cc maxL ret) B.pre
  have hts : ∀ w ∈ lw_all, w.before _ s = true := fun w h => hts w (List.mem_cons_of_mem _ h)
  have hown : s.vm.findClass own = some m.cls := by rw [← hcl]; exact findClass_of_methodNamed B.named
  have hl := lv_entry As (n := maxL) hlen
  rw [lg_entry_eq]
  exact body p l e s m below meth c _ B.exec B.bytes B.returns B.notSynchronized hml hts hown hK hP hl
theorem Rd.ofI {v : Int32} (hy : plainName y.cls = true) (hcl : y.cls = own) (hlen : (lg_sl As).length ≤ maxL)
    (body : ∀ (p : Program) (l : Launch) (e : Env) (R : Room) (s : State) (m : MethodId) (args : Array Value) (below : List Frame) (meth : Method) (c : Code) (Q : State → Prop) (ls : Array Slot), p.tables.exec = Jvm.exec → c.code = cc → c.maxLocals = maxL → R.frames = fr → R.locals = lo → (∀ w ∈ lw_all, w.before args s = true) → s.vm.findClass own = some m.cls → cmK D dA s → P s.heap → lv_has ls maxL (lv_args 0 As) →
      (∀ {pc : Nat} {ls : Array Slot} {x : Int32}, x = v → decode cc pc = .ok (.ireturn, 1) → W p l e R s m args below meth c s.heap [] 0 0 Q (F0 m pc ls [.int x])) →
      W p l e R s m args below meth c s.heap [] 0 0 Q (F0 m 0 ls [])) : Rd D dA y cc maxL (some .int) fr lo As P (some (.int v)) := by
  refine Rd.of hy hcl hlen ?_
  intro p l e s m below meth c ls hx hb hr hlk hml hts hown hK hP hl
  exact body p l e _ s m _ below meth c _ ls hx hb hml rfl rfl hts hown hK hP hl (fun hv hdg => by subst hv; exact W.iret hx hb hr (fun t ht hW => ⟨rfl, ht⟩) (fun q hq => by cases hq) hdg hlk)
theorem Rd.ofZ {v : Int32} (hy : plainName y.cls = true) (hcl : y.cls = own) (hlen : (lg_sl As).length ≤ maxL) (hn : narrow .boolean (.int v) = .int v)
    (body : ∀ (p : Program) (l : Launch) (e : Env) (R : Room) (s : State) (m : MethodId) (args : Array Value) (below : List Frame) (meth : Method) (c : Code) (Q : State → Prop) (ls : Array Slot), p.tables.exec = Jvm.exec → c.code = cc → c.maxLocals = maxL → R.frames = fr → R.locals = lo → (∀ w ∈ lw_all, w.before args s = true) → s.vm.findClass own = some m.cls → cmK D dA s → P s.heap → lv_has ls maxL (lv_args 0 As) →
      (∀ {pc : Nat} {ls : Array Slot} {x : Int32}, x = v → decode cc pc = .ok (.ireturn, 1) → W p l e R s m args below meth c s.heap [] 0 0 Q (F0 m pc ls [.int x])) →
      W p l e R s m args below meth c s.heap [] 0 0 Q (F0 m 0 ls [])) : Rd D dA y cc maxL (some .boolean) fr lo As P (some (.int v)) := by
  refine Rd.of hy hcl hlen ?_
  intro p l e s m below meth c ls hx hb hr hlk hml hts hown hK hP hl
  exact body p l e _ s m _ below meth c _ ls hx hb hml rfl rfl hts hown hK hP hl (fun hv hdg => by subst hv; exact W.zret hx hb hr hn (fun t ht hW => ⟨rfl, ht⟩) (fun q hq => by cases hq) hdg hlk)
end RDA
section RDB
variable {p : Program} {l : Launch} {e : Env} {R : Room} {s : State} {m : MethodId} {args : Array Value} {below : List Frame} {meth : Method} {c : Code} {H : Heap} {locs : List Loc} {cells slots : Nat} {Q : State → Prop}
variable {cc : ByteArray} {pc : Nat} {ls : Array Slot} {rest : List Value} {D : va_G} {dA : Nat → ClassId} {b : Nat} {P : Heap → Prop} {v : Option Value}
variable {y x : MethodName} {cy : ByteArray} {maxL nL fr lo idx n : Nat} {ret : Option FieldType} {As st : List Value} {own C : String}
theorem rd_locs {T' : State} {L : List Loc} (hL : ∀ q ∈ L, (fun _ : Addr => False) q.base) : L = [] := by
  cases L with
  | nil => rfl
  | cons a t => exact (hL a List.mem_cons_self).elim
theorem rd_go (hr : va_Run p l e R s m args below meth c H locs cells slots 0 0 (F0 m pc ls st) rest (fun st' oc t => oc = .returned v ∧ t.heap = st'.heap) (fun _ => False))
    (kk : W p l e R s m args below meth c H locs cells slots Q (F0 m (pc + 3) ls (v.toList ++ rest))) : W p l e R s m args below meth c H locs cells slots Q (F0 m pc ls st) := by
  intro T hT X
  obtain ⟨v', st₀, t, T', L, h0, X', hL, e1, e2, ⟨hv, hh⟩, stp⟩ := hr T hT X
  cases hv
  have hL0 : L = [] := rd_locs (T' := T') hL
  subst hL0
  obtain ⟨t2, a1, b1⟩ := kk T' (by rw [e1, hh, h0]) (by simpa using X')
  exact ⟨t2, stp t2 a1, b1⟩
theorem rd_callV (hx : p.tables.exec = Jvm.exec) (hb : c.code = cc) (hml : c.maxLocals = nL) (hown : s.vm.findClass own = some m.cls) (hts : ∀ w ∈ lw_all, w.before args s = true) (hK : cmK D dA s)
    (hC : Rd D dA y cy maxL ret fr lo (.ref b :: As) P v) (hP : P H) (hrc : ∃ cell : Cell, H[b]? = some cell ∧ cell.vm.isStatics = false ∧ s.vm.findClass C = some cell.cls)
    (h1 : Cond.methodLink own idx y ∈ lw_all) (h2 : Cond.instanceMethod y ∈ lw_all) (h3 : Cond.selects C y y ∈ lw_all) (h4 : Cond.initialized C ∈ lw_all) (h5 : Cond.code y cy maxL ret ∈ lw_all)
    (hd : y.cls = C ∧ y.cls ≠ "java/lang/invoke/MethodHandle" ∧ y.cls ≠ "java/lang/invoke/VarHandle" ∧ (parseMethodDescriptor y.desc).map (fun d => d.parameters.length) = some n) (hn : As.length = n) (hRf : fr + 1 ≤ R.frames) (hRl : 8 + (maxL + 11) + lo ≤ R.locals) (hRc : cells ≤ R.cells) (hRs : slots ≤ R.slots) (hsize : ls.size = nL) (hst : st = As.reverse ++ .ref b :: rest) (hW : (rest.map fun v => v.category).sum ≤ 8) (hdg : decode cc pc = .ok (.invokevirtual idx, 3))
    (kk : W p l e R s m args below meth c H locs cells slots Q (F0 m (pc + 3) ls (v.toList ++ rest))) : W p l e R s m args below meth c H locs cells slots Q (F0 m pc ls st) :=
  rd_go (va_runV (below := below) (meth := meth) (locs := locs) (cells := cells) (slots := slots) (e := e) (As := As) (rest := rest) (g := F0 m pc ls st) (b := b) (Ts := lw_all) (own := own) (C := C) (n := n) ⟨hx, hb, hml, hown, hts⟩ (hC l) (cwV n hts (lw_V h1 h2 h3 h4 h5) rfl rfl rfl hd ⟨hRf, hRl⟩)
    ⟨cm_blind, hrc, fun U hU hW => ⟨rfl, by rw [hU]; exact hP, hK.warm hW⟩⟩ rfl hn hsize hst (lv_room hW) hdg ⟨hRc, hRs⟩) kk
theorem rd_callU {owner : String} (hx : p.tables.exec = Jvm.exec) (hb : c.code = cc) (hml : c.maxLocals = nL) (hown : s.vm.findClass own = some m.cls) (hts : ∀ w ∈ lw_all, w.before args s = true) (hK : cmK D dA s)
    (hC : Rd D dA y cy maxL ret fr lo (.ref b :: As) P v) (hP : P H) (hrc : ∃ cell : Cell, H[b]? = some cell ∧ cell.vm.isStatics = false ∧ s.vm.findClass C = some cell.cls)
    (hcw : fr + 1 ≤ R.frames → 8 + (maxL + 11) + lo ≤ R.locals → va_CU R s args own C owner idx x y cy maxL ret (ws_ y cy maxL ret) { frames := fr, cells := 0, slots := 0, locals := lo } 0 0 n)
    (hn : As.length = n) (hRf : fr + 1 ≤ R.frames) (hRl : 8 + (maxL + 11) + lo ≤ R.locals) (hRc : cells ≤ R.cells) (hRs : slots ≤ R.slots) (hsize : ls.size = nL) (hst : st = As.reverse ++ .ref b :: rest) (hW : (rest.map fun v => v.category).sum ≤ 8) (hdg : decode cc pc = .ok (.invokevirtual idx, 3))
    (kk : W p l e R s m args below meth c H locs cells slots Q (F0 m (pc + 3) ls (v.toList ++ rest))) : W p l e R s m args below meth c H locs cells slots Q (F0 m pc ls st) :=
  rd_go (va_runU (below := below) (meth := meth) (locs := locs) (cells := cells) (slots := slots) (e := e) (As := As) (rest := rest) (g := F0 m pc ls st) (b := b) (Ts := lw_all) (own := own) (C := C) (n := n) ⟨hx, hb, hml, hown, hts⟩ (hC l) (hcw hRf hRl)
    ⟨cm_blind, hrc, fun U hU hW => ⟨rfl, by rw [hU]; exact hP, hK.warm hW⟩⟩ rfl hn hsize hst (lv_room hW) hdg ⟨hRc, hRs⟩) kk
theorem rd_callSU {cC : ClassId} (hx : p.tables.exec = Jvm.exec) (hb : c.code = cc) (hml : c.maxLocals = nL) (hown : s.vm.findClass own = some m.cls) (hts : ∀ w ∈ lw_all, w.before args s = true) (hK : cmK D dA s) (hat : ClassAt s C cC)
    (hC : Rd D dA y cy maxL ret fr lo (.ref b :: As) P v) (hP : P H) (hrc : ∃ cell : Cell, H[b]? = some cell ∧ cell.vm.isStatics = false ∧ s.vm.findClass C = some cell.cls)
    (h1 : Cond.methodLink own idx y ∈ lw_all) (h2 : Cond.sameMethod y.cls y.cls y.name y.desc ∈ lw_all) (h3 : Cond.superclass own y.cls ∈ lw_all) (h4 : Cond.instanceMethod y ∈ lw_all) (h6 : Cond.initialized y.cls ∈ lw_all) (h5 : Cond.code y cy maxL ret ∈ lw_all)
    (hd : y.name ≠ "<init>" ∧ (parseMethodDescriptor y.desc).map (fun d => d.parameters.length) = some n) (hn : As.length = n) (hRf : fr + 1 ≤ R.frames) (hRl : 8 + (maxL + 11) + lo ≤ R.locals) (hRc : cells ≤ R.cells) (hRs : slots ≤ R.slots) (hsize : ls.size = nL) (hst : st = As.reverse ++ .ref b :: rest) (hW : (rest.map fun v => v.category).sum ≤ 8) (hdg : decode cc pc = .ok (.invokespecial idx, 3))
    (kk : W p l e R s m args below meth c H locs cells slots Q (F0 m (pc + 3) ls (v.toList ++ rest))) : W p l e R s m args below meth c H locs cells slots Q (F0 m pc ls st) :=
  rd_go (va_runSU (below := below) (meth := meth) (locs := locs) (cells := cells) (slots := slots) (e := e) (As := As) (rest := rest) (g := F0 m pc ls st) (b := b) (Ts := lw_all) (own := own) (C := C) (n := n) hat ⟨hx, hb, hml, hown, hts⟩ (hC l) (va_cwSU n hts (lw_app (fun w hw => by
      simp only [List.mem_cons, List.not_mem_nil, or_false] at hw
      rcases hw with h | h | h | h | h <;> rw [h] <;> assumption) (lw_meth h5)) rfl rfl rfl hd ⟨hRf, hRl⟩)
    ⟨cm_blind, hrc, fun U hU hW => ⟨rfl, by rw [hU]; exact hP, hK.warm hW⟩⟩ rfl hn hsize hst (lv_room hW) hdg ⟨hRc, hRs⟩) kk
/-- a nest mate's static method that touches nothing -/
theorem st_callN {host : String} (hx : p.tables.exec = Jvm.exec) (hb : c.code = cc) (hml : c.maxLocals = nL) (hown : s.vm.findClass own = some m.cls) (hts : ∀ w ∈ lw_all, w.before args s = true)
    (hC : StF y cy maxL ret fr lo As v) (h1 : va_Nw (.methodLinkNest own idx y host) s) (h2 : Cond.static y ∈ lw_all) (h4 : Cond.initialized y.cls ∈ lw_all) (h5 : Cond.code y cy maxL ret ∈ lw_all)
    (hd : y.cls ≠ "java/lang/invoke/MethodHandle" ∧ y.cls ≠ "java/lang/invoke/VarHandle" ∧ (parseMethodDescriptor y.desc).map (fun d => d.parameters.length) = some n) (hn : As.length = n) (hRf : fr + 1 ≤ R.frames) (hRl : 8 + (maxL + 11) + lo ≤ R.locals) (hRc : cells ≤ R.cells) (hRs : slots ≤ R.slots) (hsize : ls.size = nL) (hst : st = As.reverse ++ rest) (hW : (rest.map fun v => v.category).sum ≤ 8) (hdg : decode cc pc = .ok (.invokestatic idx, 3))
    (kk : W p l e R s m args below meth c H locs cells slots Q (F0 m (pc + 3) ls (v.toList ++ rest))) : W p l e R s m args below meth c H locs cells slots Q (F0 m pc ls st) :=
  rd_go (va_runSN (below := below) (meth := meth) (locs := locs) (cells := cells) (slots := slots) (e := e) (As := As) (rest := rest) (g := F0 m pc ls st) (Ts := lw_all) (own := own) (n := n) ⟨hx, hb, hml, hown, hts⟩ (hC l) ⟨va_cnB n hts (lw_meth h5) rfl rfl rfl h1 (hts _ h4) hd ⟨hRf, hRl⟩, hts _ h2, trivial⟩
    ⟨fun a U g mk q => q, fun U hU hW => ⟨rfl, trivial⟩⟩ rfl hn hsize hst (lv_room hW) hdg ⟨hRc, hRs⟩) kk
theorem st_callS (hx : p.tables.exec = Jvm.exec) (hb : c.code = cc) (hml : c.maxLocals = nL) (hown : s.vm.findClass own = some m.cls) (hts : ∀ w ∈ lw_all, w.before args s = true)
    (hC : StF y cy maxL ret fr lo As v) (h1 : Cond.methodLink own idx y ∈ lw_all) (h2 : Cond.static y ∈ lw_all) (h4 : Cond.initialized y.cls ∈ lw_all) (h5 : Cond.code y cy maxL ret ∈ lw_all)
    (hd : y.cls ≠ "java/lang/invoke/MethodHandle" ∧ y.cls ≠ "java/lang/invoke/VarHandle" ∧ (parseMethodDescriptor y.desc).map (fun d => d.parameters.length) = some n) (hn : As.length = n) (hRf : fr + 1 ≤ R.frames) (hRl : 8 + (maxL + 11) + lo ≤ R.locals) (hRc : cells ≤ R.cells) (hRs : slots ≤ R.slots) (hsize : ls.size = nL) (hst : st = As.reverse ++ rest) (hW : (rest.map fun v => v.category).sum ≤ 8) (hdg : decode cc pc = .ok (.invokestatic idx, 3))
    (kk : W p l e R s m args below meth c H locs cells slots Q (F0 m (pc + 3) ls (v.toList ++ rest))) : W p l e R s m args below meth c H locs cells slots Q (F0 m pc ls st) :=
  rd_go (va_runS (below := below) (meth := meth) (locs := locs) (cells := cells) (slots := slots) (e := e) (As := As) (rest := rest) (g := F0 m pc ls st) (Ts := lw_all) (own := own) (n := n) ⟨hx, hb, hml, hown, hts⟩ (hC l) (va_cwS n hts (lw_S h1 h2 h4 h5) rfl rfl rfl hd ⟨hRf, hRl⟩)
    ⟨fun a U g mk q => q, fun U hU hW => ⟨rfl, trivial⟩⟩ rfl hn hsize hst (lv_room hW) hdg ⟨hRc, hRs⟩) kk
end RDB
