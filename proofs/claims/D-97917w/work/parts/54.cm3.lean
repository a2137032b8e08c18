/-! THE COMPONENT: entry and ends of contracts -/
set_option maxRecDepth 100000
section CMD
variable {D : va_G} {dA : Nat → ClassId} {A : Nat → Prop} {P : Heap → Prop} {Qv : Option Value → Heap → Prop} {Qo : Outcome → Heap → Prop} {y : MethodName} {cc : ByteArray} {maxL fr lo mc ms : Nat} {ret : Option FieldType} {As : List Value} {own : String}
theorem Cg.of (hy : plainName y.cls = true) (hcl : y.cls = own) (hlen : (lg_sl As).length ≤ maxL)
    (body : ∀ (p : Program) (l : Launch) (e : Env) (s : State) (m : MethodId) (below : List Frame) (meth : Method) (c : Code) (ls : Array Slot), p.tables.exec = Jvm.exec → c.code = cc → meth.sig.returnType = ret → meth.locks = false → c.maxLocals = maxL → meth.name = y.name → (∀ w ∈ lw_all, w.before As.toArray s = true) → s.vm.findClass own = some m.cls → cmK D dA s → P s.heap → lv_has ls maxL (lv_args 0 As) →
      W p l e { frames := fr, cells := mc, slots := ms, locals := lo } s m As.toArray below meth c s.heap [] 0 0 (MQ below (fun _ st oc t => (∃ v, oc = .returned v ∧ Qv v t.heap) ∧ va_F A st t) As.toArray s mc ms A) (F0 m 0 ls [])) : Cg D dA A y cc maxL ret fr lo mc ms As P Qv := by
  intro l
  refine Met.ofW (cc := cc) (maxL := maxL) (ret := ret) hy rfl ?_
  intro p e s m args below meth c s₁ B hml hv
  obtain ⟨rfl, hP, hK⟩ := hv
  have hts := atoms_spec (ws := ws_ y cc maxL ret) B.pre
  have hts : ∀ w ∈ lw_all, w.before _ s = true := fun w h => hts w (List.mem_cons_of_mem _ h)
  have hown : s.vm.findClass own = some m.cls := by rw [← hcl]; exact findClass_of_methodNamed B.named
  have hin : meth.name = y.name := (name_of_methodNamed B.named B.method).1
  have hl := lv_entry As (n := maxL) hlen
  rw [lg_entry_eq]
  exact body p l e s m below meth c _ B.exec B.bytes B.returns B.notSynchronized hml hin hts hown hK hP hl
theorem Co.of (hy : plainName y.cls = true) (hcl : y.cls = own) (hlen : (lg_sl As).length ≤ maxL)
    (body : ∀ (p : Program) (l : Launch) (e : Env) (s : State) (m : MethodId) (below : List Frame) (meth : Method) (c : Code) (ls : Array Slot), p.tables.exec = Jvm.exec → c.code = cc → meth.sig.returnType = ret → meth.locks = false → c.maxLocals = maxL → c.exceptionTable.toList = [] → (∀ w ∈ lw_all, w.before As.toArray s = true) → s.vm.findClass own = some m.cls → cmK D dA s → P s.heap → lv_has ls maxL (lv_args 0 As) →
      W p l e { frames := fr, cells := mc, slots := ms, locals := lo } s m As.toArray below meth c s.heap [] 0 0 (MQT below (fun _ st oc t => Qo oc t.heap ∧ va_F A st t) As.toArray s mc ms A) (F0 m 0 ls [])) : Co D dA A y cc maxL ret fr lo mc ms As P Qo := by
  intro l
  refine MetT.ofW (cc := cc) (maxL := maxL) (ret := ret) hy rfl ?_
  intro p e s m args below meth c s₁ B hml htab hv
  obtain ⟨rfl, hP, hK⟩ := hv
  have hts := atoms_spec (ws := ws_ y cc maxL ret) B.pre
  have hts : ∀ w ∈ lw_all, w.before _ s = true := fun w h => hts w (List.mem_cons_of_mem _ h)
  have hown : s.vm.findClass own = some m.cls := by rw [← hcl]; exact findClass_of_methodNamed B.named
  have hl := lv_entry As (n := maxL) hlen
  rw [lg_entry_eq]
  exact body p l e s m below meth c _ B.exec B.bytes B.returns B.notSynchronized hml htab hts hown hK hP hl
theorem Cw.of {hh : List (Nat × Nat × Nat × Nat)} (hy : plainName y.cls = true) (hcl : y.cls = own) (hlen : (lg_sl As).length ≤ maxL)
    (body : ∀ (p : Program) (l : Launch) (e : Env) (s : State) (m : MethodId) (below : List Frame) (meth : Method) (c : Code) (ls : Array Slot), p.tables.exec = Jvm.exec → c.code = cc → meth.sig.returnType = ret → meth.locks = false → c.maxLocals = maxL → c.exceptionTable.toList = tableOf hh → (∀ w ∈ lw_all, w.before As.toArray s = true) → s.vm.findClass own = some m.cls → cmK D dA s → P s.heap → lv_has ls maxL (lv_args 0 As) →
      W p l e { frames := fr, cells := mc, slots := ms, locals := lo } s m As.toArray below meth c s.heap [] 0 0 (MQ below (fun _ st oc t => (∃ v, oc = .returned v ∧ Qv v t.heap) ∧ va_F A st t) As.toArray s mc ms A) (F0 m 0 ls [])) : Cw D dA A y cc maxL ret hh fr lo mc ms As P Qv := by
  intro l
  refine MetW.ofW (cc := cc) (maxL := maxL) (ret := ret) (hh := hh) hy rfl ?_
  intro p e s m args below meth c s₁ B hml htab hv
  obtain ⟨rfl, hP, hK⟩ := hv
  have hts := atoms_spec (ws := wsW_ y cc maxL ret hh) B.pre
  have hts : ∀ w ∈ lw_all, w.before _ s = true := fun w h => hts w (List.mem_cons_of_mem _ h)
  have hown : s.vm.findClass own = some m.cls := by rw [← hcl]; exact findClass_of_methodNamed B.named
  have hl := lv_entry As (n := maxL) hlen
  rw [lg_entry_eq]
  exact body p l e s m below meth c _ B.exec B.bytes B.returns B.notSynchronized hml htab hts hown hK hP hl

theorem Cg.ofI (hy : plainName y.cls = true) (hcl : y.cls = own) (hlen : (lg_sl As).length ≤ maxL)
    (body : ∀ (p : Program) (l : Launch) (e : Env) (R : Room) (s : State) (m : MethodId) (args : Array Value) (below : List Frame) (meth : Method) (c : Code) (Q : State → Prop) (ls : Array Slot), p.tables.exec = Jvm.exec → c.code = cc → c.maxLocals = maxL → R.frames = fr → R.locals = lo → R.cells = mc → R.slots = ms → meth.name = y.name → (∀ w ∈ lw_all, w.before args s = true) → s.vm.findClass own = some m.cls → cmK D dA s → P s.heap → lv_has ls maxL (lv_args 0 As) →
      (∀ {H : Heap} {locs : List Loc} {pc : Nat} {ls : Array Slot} {x : Int32}, Qv (some (.int x)) H → va_S A s.heap H locs → decode cc pc = .ok (.ireturn, 1) → W p l e R s m args below meth c H locs mc ms Q (F0 m pc ls [.int x])) →
      W p l e R s m args below meth c s.heap [] 0 0 Q (F0 m 0 ls [])) : Cg D dA A y cc maxL (some .int) fr lo mc ms As P Qv := by
  refine Cg.of hy hcl hlen ?_
  intro p l e s m below meth c ls hx hb hr hlk hml hin hts hown hK hP hl
  exact body p l e _ s m _ below meth c _ ls hx hb hml rfl rfl rfl rfl hin hts hown hK hP hl (fun hq hS hdg => W.iret hx hb hr (fun t ht hW => ⟨⟨_, rfl, by rw [ht]; exact hq⟩, hS.F ht⟩) hS.2.2 hdg hlk)
theorem Cg.ofZ (hy : plainName y.cls = true) (hcl : y.cls = own) (hlen : (lg_sl As).length ≤ maxL)
    (body : ∀ (p : Program) (l : Launch) (e : Env) (R : Room) (s : State) (m : MethodId) (args : Array Value) (below : List Frame) (meth : Method) (c : Code) (Q : State → Prop) (ls : Array Slot), p.tables.exec = Jvm.exec → c.code = cc → c.maxLocals = maxL → R.frames = fr → R.locals = lo → R.cells = mc → R.slots = ms → meth.name = y.name → (∀ w ∈ lw_all, w.before args s = true) → s.vm.findClass own = some m.cls → cmK D dA s → P s.heap → lv_has ls maxL (lv_args 0 As) →
      (∀ {H : Heap} {locs : List Loc} {pc : Nat} {ls : Array Slot} {x : Int32}, narrow .boolean (.int x) = .int x → Qv (some (.int x)) H → va_S A s.heap H locs → decode cc pc = .ok (.ireturn, 1) → W p l e R s m args below meth c H locs mc ms Q (F0 m pc ls [.int x])) →
      W p l e R s m args below meth c s.heap [] 0 0 Q (F0 m 0 ls [])) : Cg D dA A y cc maxL (some .boolean) fr lo mc ms As P Qv := by
  refine Cg.of hy hcl hlen ?_
  intro p l e s m below meth c ls hx hb hr hlk hml hin hts hown hK hP hl
  exact body p l e _ s m _ below meth c _ ls hx hb hml rfl rfl rfl rfl hin hts hown hK hP hl (fun hnz hq hS hdg => W.zret hx hb hr hnz (fun t ht hW => ⟨⟨_, rfl, by rw [ht]; exact hq⟩, hS.F ht⟩) hS.2.2 hdg hlk)
theorem Cg.ofV (hy : plainName y.cls = true) (hcl : y.cls = own) (hlen : (lg_sl As).length ≤ maxL)
    (body : ∀ (p : Program) (l : Launch) (e : Env) (R : Room) (s : State) (m : MethodId) (args : Array Value) (below : List Frame) (meth : Method) (c : Code) (Q : State → Prop) (ls : Array Slot), p.tables.exec = Jvm.exec → c.code = cc → c.maxLocals = maxL → R.frames = fr → R.locals = lo → R.cells = mc → R.slots = ms → meth.name = y.name → (∀ w ∈ lw_all, w.before args s = true) → s.vm.findClass own = some m.cls → cmK D dA s → P s.heap → lv_has ls maxL (lv_args 0 As) →
      (∀ {H : Heap} {locs : List Loc} {pc : Nat} {ls : Array Slot} , Qv (none) H → va_S A s.heap H locs → decode cc pc = .ok (.return_, 1) → W p l e R s m args below meth c H locs mc ms Q (F0 m pc ls [])) →
      W p l e R s m args below meth c s.heap [] 0 0 Q (F0 m 0 ls [])) : Cg D dA A y cc maxL (none) fr lo mc ms As P Qv := by
  refine Cg.of hy hcl hlen ?_
  intro p l e s m below meth c ls hx hb hr hlk hml hin hts hown hK hP hl
  exact body p l e _ s m _ below meth c _ ls hx hb hml rfl rfl rfl rfl hin hts hown hK hP hl (fun hq hS hdg => W.vret hx hb hr (fun t ht hW => ⟨⟨_, rfl, by rw [ht]; exact hq⟩, hS.F ht⟩) hS.2.2 hdg hlk)
theorem Cg.ofA {rt : FieldType} (hrt : (∃ n, rt = .object n) ∨ ∃ t, rt = .array t) (hy : plainName y.cls = true) (hcl : y.cls = own) (hlen : (lg_sl As).length ≤ maxL)
    (body : ∀ (p : Program) (l : Launch) (e : Env) (R : Room) (s : State) (m : MethodId) (args : Array Value) (below : List Frame) (meth : Method) (c : Code) (Q : State → Prop) (ls : Array Slot), p.tables.exec = Jvm.exec → c.code = cc → c.maxLocals = maxL → R.frames = fr → R.locals = lo → R.cells = mc → R.slots = ms → meth.name = y.name → (∀ w ∈ lw_all, w.before args s = true) → s.vm.findClass own = some m.cls → cmK D dA s → P s.heap → lv_has ls maxL (lv_args 0 As) →
      (∀ {H : Heap} {locs : List Loc} {pc : Nat} {ls : Array Slot} {x : Nat}, Qv (some (.ref x)) H → va_S A s.heap H locs → decode cc pc = .ok (.areturn, 1) → W p l e R s m args below meth c H locs mc ms Q (F0 m pc ls [.ref x])) →
      W p l e R s m args below meth c s.heap [] 0 0 Q (F0 m 0 ls [])) : Cg D dA A y cc maxL (some rt) fr lo mc ms As P Qv := by
  refine Cg.of hy hcl hlen ?_
  intro p l e s m below meth c ls hx hb hr hlk hml hin hts hown hK hP hl
  exact body p l e _ s m _ below meth c _ ls hx hb hml rfl rfl rfl rfl hin hts hown hK hP hl (fun hq hS hdg => W.aret hx hb hr hrt (Or.inr ⟨_, rfl⟩) (fun t ht hW => ⟨⟨_, rfl, by rw [ht]; exact hq⟩, hS.F ht⟩) hS.2.2 hdg hlk)
theorem Co.ofI (hy : plainName y.cls = true) (hcl : y.cls = own) (hlen : (lg_sl As).length ≤ maxL)
    (body : ∀ (p : Program) (l : Launch) (e : Env) (R : Room) (s : State) (m : MethodId) (args : Array Value) (below : List Frame) (meth : Method) (c : Code) (Q : State → Prop) (ls : Array Slot), p.tables.exec = Jvm.exec → c.code = cc → c.maxLocals = maxL → R.frames = fr → R.locals = lo → R.cells = mc → R.slots = ms → c.exceptionTable.toList = [] → (∀ w ∈ lw_all, w.before args s = true) → s.vm.findClass own = some m.cls → cmK D dA s → P s.heap → lv_has ls maxL (lv_args 0 As) →
      (∀ {H : Heap} {locs : List Loc} {pc : Nat} {ls : Array Slot} {x : Int32}, Qo (.returned (some (.int x))) H → va_S A s.heap H locs → decode cc pc = .ok (.ireturn, 1) → W p l e R s m args below meth c H locs mc ms Q (F0 m pc ls [.int x])) →
      (∀ {H : Heap} {locs : List Loc} {pc : Nat} {ls : Array Slot} {rest : List Value} {x : Nat}, Qo (.threw x) H → va_S A s.heap H locs → WT p l e R s m args below meth c H locs mc ms Q (F0 m pc ls rest) x) →
      W p l e R s m args below meth c s.heap [] 0 0 Q (F0 m 0 ls [])) : Co D dA A y cc maxL (some .int) fr lo mc ms As P Qo := by
  refine Co.of hy hcl hlen ?_
  intro p l e s m below meth c ls hx hb hr hlk hml hin hts hown hK hP hl
  exact body p l e _ s m _ below meth c _ ls hx hb hml rfl rfl rfl rfl hin hts hown hK hP hl (fun hq hS hdg => W.imp (fun t h => h.T) (W.iret hx hb hr (fun t ht hW => ⟨by rw [ht]; exact hq, hS.F ht⟩) hS.2.2 hdg hlk)) (fun hq hS => WT.leave hin hlk (fun t ht hW => ⟨by rw [ht]; exact hq, hS.F ht⟩) hS.2.2)
theorem Co.ofZ (hy : plainName y.cls = true) (hcl : y.cls = own) (hlen : (lg_sl As).length ≤ maxL)
    (body : ∀ (p : Program) (l : Launch) (e : Env) (R : Room) (s : State) (m : MethodId) (args : Array Value) (below : List Frame) (meth : Method) (c : Code) (Q : State → Prop) (ls : Array Slot), p.tables.exec = Jvm.exec → c.code = cc → c.maxLocals = maxL → R.frames = fr → R.locals = lo → R.cells = mc → R.slots = ms → c.exceptionTable.toList = [] → (∀ w ∈ lw_all, w.before args s = true) → s.vm.findClass own = some m.cls → cmK D dA s → P s.heap → lv_has ls maxL (lv_args 0 As) →
      (∀ {H : Heap} {locs : List Loc} {pc : Nat} {ls : Array Slot} {x : Int32}, narrow .boolean (.int x) = .int x → Qo (.returned (some (.int x))) H → va_S A s.heap H locs → decode cc pc = .ok (.ireturn, 1) → W p l e R s m args below meth c H locs mc ms Q (F0 m pc ls [.int x])) →
      (∀ {H : Heap} {locs : List Loc} {pc : Nat} {ls : Array Slot} {rest : List Value} {x : Nat}, Qo (.threw x) H → va_S A s.heap H locs → WT p l e R s m args below meth c H locs mc ms Q (F0 m pc ls rest) x) →
      W p l e R s m args below meth c s.heap [] 0 0 Q (F0 m 0 ls [])) : Co D dA A y cc maxL (some .boolean) fr lo mc ms As P Qo := by
  refine Co.of hy hcl hlen ?_
  intro p l e s m below meth c ls hx hb hr hlk hml hin hts hown hK hP hl
  exact body p l e _ s m _ below meth c _ ls hx hb hml rfl rfl rfl rfl hin hts hown hK hP hl (fun hnz hq hS hdg => W.imp (fun t h => h.T) (W.zret hx hb hr hnz (fun t ht hW => ⟨by rw [ht]; exact hq, hS.F ht⟩) hS.2.2 hdg hlk)) (fun hq hS => WT.leave hin hlk (fun t ht hW => ⟨by rw [ht]; exact hq, hS.F ht⟩) hS.2.2)
theorem Co.ofV (hy : plainName y.cls = true) (hcl : y.cls = own) (hlen : (lg_sl As).length ≤ maxL)
    (body : ∀ (p : Program) (l : Launch) (e : Env) (R : Room) (s : State) (m : MethodId) (args : Array Value) (below : List Frame) (meth : Method) (c : Code) (Q : State → Prop) (ls : Array Slot), p.tables.exec = Jvm.exec → c.code = cc → c.maxLocals = maxL → R.frames = fr → R.locals = lo → R.cells = mc → R.slots = ms → c.exceptionTable.toList = [] → (∀ w ∈ lw_all, w.before args s = true) → s.vm.findClass own = some m.cls → cmK D dA s → P s.heap → lv_has ls maxL (lv_args 0 As) →
      (∀ {H : Heap} {locs : List Loc} {pc : Nat} {ls : Array Slot} , Qo (.returned (none)) H → va_S A s.heap H locs → decode cc pc = .ok (.return_, 1) → W p l e R s m args below meth c H locs mc ms Q (F0 m pc ls [])) →
      (∀ {H : Heap} {locs : List Loc} {pc : Nat} {ls : Array Slot} {rest : List Value} {x : Nat}, Qo (.threw x) H → va_S A s.heap H locs → WT p l e R s m args below meth c H locs mc ms Q (F0 m pc ls rest) x) →
      W p l e R s m args below meth c s.heap [] 0 0 Q (F0 m 0 ls [])) : Co D dA A y cc maxL (none) fr lo mc ms As P Qo := by
  refine Co.of hy hcl hlen ?_
  intro p l e s m below meth c ls hx hb hr hlk hml hin hts hown hK hP hl
  exact body p l e _ s m _ below meth c _ ls hx hb hml rfl rfl rfl rfl hin hts hown hK hP hl (fun hq hS hdg => W.imp (fun t h => h.T) (W.vret hx hb hr (fun t ht hW => ⟨by rw [ht]; exact hq, hS.F ht⟩) hS.2.2 hdg hlk)) (fun hq hS => WT.leave hin hlk (fun t ht hW => ⟨by rw [ht]; exact hq, hS.F ht⟩) hS.2.2)
theorem Co.ofA {rt : FieldType} (hrt : (∃ n, rt = .object n) ∨ ∃ t, rt = .array t) (hy : plainName y.cls = true) (hcl : y.cls = own) (hlen : (lg_sl As).length ≤ maxL)
    (body : ∀ (p : Program) (l : Launch) (e : Env) (R : Room) (s : State) (m : MethodId) (args : Array Value) (below : List Frame) (meth : Method) (c : Code) (Q : State → Prop) (ls : Array Slot), p.tables.exec = Jvm.exec → c.code = cc → c.maxLocals = maxL → R.frames = fr → R.locals = lo → R.cells = mc → R.slots = ms → c.exceptionTable.toList = [] → (∀ w ∈ lw_all, w.before args s = true) → s.vm.findClass own = some m.cls → cmK D dA s → P s.heap → lv_has ls maxL (lv_args 0 As) →
      (∀ {H : Heap} {locs : List Loc} {pc : Nat} {ls : Array Slot} {x : Nat}, Qo (.returned (some (.ref x))) H → va_S A s.heap H locs → decode cc pc = .ok (.areturn, 1) → W p l e R s m args below meth c H locs mc ms Q (F0 m pc ls [.ref x])) →
      (∀ {H : Heap} {locs : List Loc} {pc : Nat} {ls : Array Slot} {rest : List Value} {x : Nat}, Qo (.threw x) H → va_S A s.heap H locs → WT p l e R s m args below meth c H locs mc ms Q (F0 m pc ls rest) x) →
      W p l e R s m args below meth c s.heap [] 0 0 Q (F0 m 0 ls [])) : Co D dA A y cc maxL (some rt) fr lo mc ms As P Qo := by
  refine Co.of hy hcl hlen ?_
  intro p l e s m below meth c ls hx hb hr hlk hml hin hts hown hK hP hl
  exact body p l e _ s m _ below meth c _ ls hx hb hml rfl rfl rfl rfl hin hts hown hK hP hl (fun hq hS hdg => W.imp (fun t h => h.T) (W.aret hx hb hr hrt (Or.inr ⟨_, rfl⟩) (fun t ht hW => ⟨by rw [ht]; exact hq, hS.F ht⟩) hS.2.2 hdg hlk)) (fun hq hS => WT.leave hin hlk (fun t ht hW => ⟨by rw [ht]; exact hq, hS.F ht⟩) hS.2.2)
theorem Cw.ofI {hh : List (Nat × Nat × Nat × Nat)} (hy : plainName y.cls = true) (hcl : y.cls = own) (hlen : (lg_sl As).length ≤ maxL)
    (body : ∀ (p : Program) (l : Launch) (e : Env) (R : Room) (s : State) (m : MethodId) (args : Array Value) (below : List Frame) (meth : Method) (c : Code) (Q : State → Prop) (ls : Array Slot), p.tables.exec = Jvm.exec → c.code = cc → c.maxLocals = maxL → R.frames = fr → R.locals = lo → R.cells = mc → R.slots = ms → c.exceptionTable.toList = tableOf hh → (∀ w ∈ lw_all, w.before args s = true) → s.vm.findClass own = some m.cls → cmK D dA s → P s.heap → lv_has ls maxL (lv_args 0 As) →
      (∀ {H : Heap} {locs : List Loc} {pc : Nat} {ls : Array Slot} {x : Int32}, Qv (some (.int x)) H → va_S A s.heap H locs → decode cc pc = .ok (.ireturn, 1) → W p l e R s m args below meth c H locs mc ms Q (F0 m pc ls [.int x])) →
      W p l e R s m args below meth c s.heap [] 0 0 Q (F0 m 0 ls [])) : Cw D dA A y cc maxL (some .int) hh fr lo mc ms As P Qv := by
  refine Cw.of hy hcl hlen ?_
  intro p l e s m below meth c ls hx hb hr hlk hml hin hts hown hK hP hl
  exact body p l e _ s m _ below meth c _ ls hx hb hml rfl rfl rfl rfl hin hts hown hK hP hl (fun hq hS hdg => W.iret hx hb hr (fun t ht hW => ⟨⟨_, rfl, by rw [ht]; exact hq⟩, hS.F ht⟩) hS.2.2 hdg hlk)
end CMD
