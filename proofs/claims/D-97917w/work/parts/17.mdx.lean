/-! the model's contracts up to its scratch fields 7..14 (what the going through a text leaves there) -/
set_option maxRecDepth 100000
def fE (f f' : Nat → Int32) : Prop := ∀ k, (k < 7 ∨ 14 < k) → f' k = f k
theorem fE.rf {f : Nat → Int32} : fE f f := fun _ _ => rfl
theorem fE.tr {f f1 f2 : Nat → Int32} (h1 : fE f f1) (h2 : fE f1 f2) : fE f f2 := fun k hk => (h2 k hk).trans (h1 k hk)
def mdQX (D : va_G) (h : Nat → Nat) (dA : ClassId) (v : Option Value) (f : Nat → Int32) (a : Nat → Nat → Int32) : Array Value → State → Outcome → State → Prop := fun _ st oc t => oc = .returned v ∧ (∃ f', fE f f' ∧ va_P D mdCl (mdWs h dA f' a) t.heap) ∧ va_F (mdA h) st t
def MdX (y : MethodName) (cc : ByteArray) (maxL : Nat) (ret : Option FieldType) (fr lo : Nat) (As : List Value) (f : Nat → Int32) (a : Nat → Nat → Int32) (v : Option Value) (a' : Nat → Nat → Int32) : Prop :=
  ∀ (l : Launch) (D : va_G) (h : Nat → Nat) (dA : ClassId), mdI h → Met l y (ws_ y cc maxL ret) { frames := fr, cells := 0, slots := 0, locals := lo } (mdPc D h dA As f a) (mdQX D h dA v f a') 0 0 (mdA h)
theorem Met.imp {l : Launch} {y : MethodName} {ws : List Cond} {rm : Room} {Pc : Array Value → State → Prop} {Qc Qc' : Array Value → State → Outcome → State → Prop} {mc ms : Nat} {free : Addr → Prop} (hM : Met l y ws rm Pc Qc mc ms free) (h : ∀ a s o t, Pc a s → Qc a s o t → Qc' a s o t) : Met l y ws rm Pc Qc' mc ms free := by
  intro p e h1 h2 h3 s m args below h4 h5 h6 h7
  obtain ⟨n, o, k1, k2, k3, k4, k5⟩ := hM p e h1 h2 h3 s m args below h4 h5 h6 h7
  exact ⟨n, o, k1, k2, k3, h _ _ _ _ h6 k4, k5⟩
theorem MdX.ofF {y : MethodName} {cc : ByteArray} {maxL : Nat} {ret : Option FieldType} {fr lo : Nat} {As : List Value} {f f' : Nat → Int32} {a a' : Nat → Nat → Int32} {v : Option Value} (h : MdF y cc maxL ret fr lo As f a v f' a') (he : fE f f') : MdX y cc maxL ret fr lo As f a v a' := fun l D h' dA hI =>
  (h l D h' dA hI).imp (fun _ _ _ _ _ q => ⟨q.1, ⟨f', he, q.2.1⟩, q.2.2⟩)
section MDX
variable {p : Program} {l : Launch} {e : Env} {R : Room} {s : State} {m : MethodId} {args : Array Value} {below : List Frame} {meth : Method} {c : Code} {H H0 : Heap} {locs : List Loc} {Q : State → Prop}
variable {cc : ByteArray} {pc : Nat} {ls : Array Slot} {rest : List Value} {D : va_G} {h : Nat → Nat} {dA : ClassId} {f f1 : Nat → Int32} {a a1 : Nat → Nat → Int32}
theorem MdX.of {y : MethodName} {maxL fr lo : Nat} {ret : Option FieldType} {As : List Value} {v : Option Value} {a' : Nat → Nat → Int32} (hy : plainName y.cls = true) (hcl : y.cls = RX6) (hlen : (lg_sl (.ref 0 :: As)).length ≤ maxL)
    (body : ∀ (p : Program) (l : Launch) (e : Env) (s : State) (m : MethodId) (below : List Frame) (meth : Method) (c : Code) (D : va_G) (h : Nat → Nat) (dA : ClassId) (ls : Array Slot), p.tables.exec = Jvm.exec → c.code = cc → meth.sig.returnType = ret → meth.locks = false → c.maxLocals = maxL → (∀ w ∈ lw_all, w.before (Value.ref (h 0) :: As).toArray s = true) → s.vm.findClass RX6 = some m.cls → va_K D mdCl [(dA, .int)] s → mdI h → mdH D h dA s.heap s.heap [] f a → lv_has ls maxL (lv_args 0 (.ref (h 0) :: As)) →
      W p l e { frames := fr, cells := 0, slots := 0, locals := lo } s m (Value.ref (h 0) :: As).toArray below meth c s.heap [] 0 0 (MQ below (mdQX D h dA v f a') (Value.ref (h 0) :: As).toArray s 0 0 (mdA h)) (F0 m 0 ls [])) : MdX y cc maxL ret fr lo As f a v a' := by
  intro l D h dA hI
  refine Met.ofW (cc := cc) (maxL := maxL) (ret := ret) hy rfl ?_
  intro p e s m args below meth c s₁ B hml hv
  obtain ⟨rfl, hP, hK⟩ := hv
  have hts := atoms_spec (ws := ws_ y cc maxL ret) B.pre
  have hts : ∀ w ∈ lw_all, w.before _ s = true := fun w h => hts w (List.mem_cons_of_mem _ h)
  have hown : s.vm.findClass RX6 = some m.cls := by rw [← hcl]; exact findClass_of_methodNamed B.named
  have hl := lv_entry (.ref (h 0) :: As) (n := maxL) hlen
  rw [lg_entry_eq]
  exact body p l e s m below meth c D h dA _ B.exec B.bytes B.returns B.notSynchronized hml hts hown hK hI ⟨hP, va_S.rf⟩ hl
theorem MdX.ofI {y : MethodName} {maxL fr lo : Nat} {As : List Value} {v : Int32} {a' : Nat → Nat → Int32} (hy : plainName y.cls = true) (hcl : y.cls = RX6) (hlen : (lg_sl (.ref 0 :: As)).length ≤ maxL)
    (body : ∀ (p : Program) (l : Launch) (e : Env) (R : Room) (s : State) (m : MethodId) (args : Array Value) (below : List Frame) (meth : Method) (c : Code) (Q : State → Prop) (D : va_G) (h : Nat → Nat) (dA : ClassId) (ls : Array Slot), p.tables.exec = Jvm.exec → c.code = cc → c.maxLocals = maxL → R.frames = fr → R.locals = lo → (∀ w ∈ lw_all, w.before args s = true) → s.vm.findClass RX6 = some m.cls → va_K D mdCl [(dA, .int)] s → mdI h → mdH D h dA s.heap s.heap [] f a → lv_has ls maxL (lv_args 0 (.ref (h 0) :: As)) →
      (∀ {H : Heap} {locs : List Loc} {pc : Nat} {ls : Array Slot} {x : Int32} {f1 : Nat → Int32}, fE f f1 → mdH D h dA s.heap H locs f1 a' → x = v → decode cc pc = .ok (.ireturn, 1) → W p l e R s m args below meth c H locs 0 0 Q (F0 m pc ls [.int x])) →
      W p l e R s m args below meth c s.heap [] 0 0 Q (F0 m 0 ls [])) : MdX y cc maxL (some .int) fr lo As f a (some (.int v)) a' := by
  refine MdX.of hy hcl hlen ?_
  intro p l e s m below meth c D h dA ls hx hb hr hlk hml hts hown hK hI hM hl
  exact body p l e _ s m _ below meth c _ D h dA ls hx hb hml rfl rfl hts hown hK hI hM hl (fun he hM hv hdg => by subst hv; exact W.iret hx hb hr (fun t ht hW => ⟨rfl, ⟨_, he, by rw [ht]; exact hM.1⟩, hM.2.F ht⟩) hM.2.2.2 hdg hlk)
theorem MdX.ofZ {y : MethodName} {maxL fr lo : Nat} {As : List Value} {v : Int32} {a' : Nat → Nat → Int32} (hy : plainName y.cls = true) (hcl : y.cls = RX6) (hlen : (lg_sl (.ref 0 :: As)).length ≤ maxL) (hn : narrow .boolean (.int v) = .int v)
    (body : ∀ (p : Program) (l : Launch) (e : Env) (R : Room) (s : State) (m : MethodId) (args : Array Value) (below : List Frame) (meth : Method) (c : Code) (Q : State → Prop) (D : va_G) (h : Nat → Nat) (dA : ClassId) (ls : Array Slot), p.tables.exec = Jvm.exec → c.code = cc → c.maxLocals = maxL → R.frames = fr → R.locals = lo → (∀ w ∈ lw_all, w.before args s = true) → s.vm.findClass RX6 = some m.cls → va_K D mdCl [(dA, .int)] s → mdI h → mdH D h dA s.heap s.heap [] f a → lv_has ls maxL (lv_args 0 (.ref (h 0) :: As)) →
      (∀ {H : Heap} {locs : List Loc} {pc : Nat} {ls : Array Slot} {x : Int32} {f1 : Nat → Int32}, fE f f1 → mdH D h dA s.heap H locs f1 a' → x = v → decode cc pc = .ok (.ireturn, 1) → W p l e R s m args below meth c H locs 0 0 Q (F0 m pc ls [.int x])) →
      W p l e R s m args below meth c s.heap [] 0 0 Q (F0 m 0 ls [])) : MdX y cc maxL (some .boolean) fr lo As f a (some (.int v)) a' := by
  refine MdX.of hy hcl hlen ?_
  intro p l e s m below meth c D h dA ls hx hb hr hlk hml hts hown hK hI hM hl
  exact body p l e _ s m _ below meth c _ D h dA ls hx hb hml rfl rfl hts hown hK hI hM hl (fun he hM hv hdg => by subst hv; exact W.zret hx hb hr hn (fun t ht hW => ⟨rfl, ⟨_, he, by rw [ht]; exact hM.1⟩, hM.2.F ht⟩) hM.2.2.2 hdg hlk)
theorem MdX.ofV {y : MethodName} {maxL fr lo : Nat} {As : List Value} {a' : Nat → Nat → Int32} (hy : plainName y.cls = true) (hcl : y.cls = RX6) (hlen : (lg_sl (.ref 0 :: As)).length ≤ maxL)
    (body : ∀ (p : Program) (l : Launch) (e : Env) (R : Room) (s : State) (m : MethodId) (args : Array Value) (below : List Frame) (meth : Method) (c : Code) (Q : State → Prop) (D : va_G) (h : Nat → Nat) (dA : ClassId) (ls : Array Slot), p.tables.exec = Jvm.exec → c.code = cc → c.maxLocals = maxL → R.frames = fr → R.locals = lo → (∀ w ∈ lw_all, w.before args s = true) → s.vm.findClass RX6 = some m.cls → va_K D mdCl [(dA, .int)] s → mdI h → mdH D h dA s.heap s.heap [] f a → lv_has ls maxL (lv_args 0 (.ref (h 0) :: As)) →
      (∀ {H : Heap} {locs : List Loc} {pc : Nat} {ls : Array Slot} {f1 : Nat → Int32}, fE f f1 → mdH D h dA s.heap H locs f1 a' → decode cc pc = .ok (.return_, 1) → W p l e R s m args below meth c H locs 0 0 Q (F0 m pc ls [])) →
      W p l e R s m args below meth c s.heap [] 0 0 Q (F0 m 0 ls [])) : MdX y cc maxL none fr lo As f a none a' := by
  refine MdX.of hy hcl hlen ?_
  intro p l e s m below meth c D h dA ls hx hb hr hlk hml hts hown hK hI hM hl
  exact body p l e _ s m _ below meth c _ D h dA ls hx hb hml rfl rfl hts hown hK hI hM hl (fun he hM hdg => W.vret hx hb hr (fun t ht hW => ⟨rfl, ⟨_, he, by rw [ht]; exact hM.1⟩, hM.2.F ht⟩) hM.2.2.2 hdg hlk)
theorem md_callX {y : MethodName} {cy : ByteArray} {maxL nL fr lo idx : Nat} {ret : Option FieldType} {As : List Value} {v : Option Value} {a' : Nat → Nat → Int32} {st : List Value} (hx : p.tables.exec = Jvm.exec) (hb : c.code = cc) (hml : c.maxLocals = nL) (hown : s.vm.findClass RX6 = some m.cls) (hts : ∀ w ∈ lw_all, w.before args s = true) (hK : va_K D mdCl [(dA, .int)] s) (hI : mdI h) (hM : mdH D h dA H0 H locs f a)
    (hC : MdX y cy maxL ret fr lo As f a v a') (h1 : Cond.methodLink RX6 idx y ∈ lw_all) (h2 : Cond.instanceMethod y ∈ lw_all) (h3 : Cond.selects RX6 y y ∈ lw_all) (h5 : Cond.code y cy maxL ret ∈ lw_all)
    {n : Nat} (hd : y.cls = RX6 ∧ y.cls ≠ "java/lang/invoke/MethodHandle" ∧ y.cls ≠ "java/lang/invoke/VarHandle" ∧ (parseMethodDescriptor y.desc).map (fun d => d.parameters.length) = some n) (hn : As.length = n) (hRf : fr + 1 ≤ R.frames) (hRl : 8 + (maxL + 11) + lo ≤ R.locals) (hsize : ls.size = nL) (hst : st = As.reverse ++ .ref (h 0) :: rest) (hW : (rest.map fun v => v.category).sum ≤ 8) (hdg : decode cc pc = .ok (.invokevirtual idx, 3))
    (kk : ∀ (H1 : Heap) (locs1 : List Loc) (f1 : Nat → Int32), fE f f1 → mdH D h dA H0 H1 locs1 f1 a' → W p l e R s m args below meth c H1 locs1 0 0 Q (F0 m (pc + 3) ls (v.toList ++ rest))) : W p l e R s m args below meth c H locs 0 0 Q (F0 m pc ls st) := by
  have hr := va_runV (below := below) (meth := meth) (locs := locs) (cells := 0) (slots := 0) (e := e) (As := As) (rest := rest) (g := F0 m pc ls st) (b := h 0) (Ts := lw_all) (own := RX6) (C := RX6) (n := n) ⟨hx, hb, hml, hown, hts⟩ (hC l D h dA hI) (cwV n hts (lw_V h1 h2 h3 q70 h5) rfl rfl rfl hd ⟨hRf, hRl⟩)
    ⟨fun a U g mk q => by obtain ⟨q0, qP, qK⟩ := q; exact ⟨q0, qP, va_K.moved (u := U) (U := U.calling g mk a) (Vm.Alike.refl U.vm) qK⟩, va_recv hK hM.1 (ci := 0) (q0 := 0) rfl rfl, fun U hU hW => ⟨rfl, by rw [hU]; exact hM.1, va_K.moved hW.alike hK⟩⟩ rfl hn hsize hst (lv_room hW) hdg ⟨Nat.zero_le _, Nat.zero_le _⟩
  intro T hT X
  obtain ⟨v', st₀, t, T', L, h0, X', hL, e1, e2, ⟨hv, ⟨f1, hf1, hP⟩, hz, hk⟩, stp⟩ := hr T hT X
  cases hv
  rw [h0] at hz hk
  have hS := hM.2
  obtain ⟨t2, a1, b1⟩ := kk T'.heap (locs ++ L) f1 hf1 ⟨by rw [e1]; exact hP, ⟨Nat.le_trans hS.1 (by rw [e1]; exact hz), fun q g1 g2 => by rw [e1, hk q (Nat.lt_of_lt_of_le g1 hS.1) g2]; exact hS.2.1 q g1 g2, fun q hq => by
      rcases List.mem_append.mp hq with g | g
      · exact hS.2.2 q g
      · exact hL q g⟩⟩ T' rfl X'
  exact ⟨t2, stp t2 a1, b1⟩
theorem md_callXI {y : MethodName} {cy : ByteArray} {maxL nL fr lo idx : Nat} {ret : Option FieldType} {As : List Value} {r : Int32} {a' : Nat → Nat → Int32} {st : List Value} (hx : p.tables.exec = Jvm.exec) (hb : c.code = cc) (hml : c.maxLocals = nL) (hown : s.vm.findClass RX6 = some m.cls) (hts : ∀ w ∈ lw_all, w.before args s = true) (hK : va_K D mdCl [(dA, .int)] s) (hI : mdI h) (hM : mdH D h dA H0 H locs f a)
    (hC : MdX y cy maxL ret fr lo As f a (some (.int r)) a') (h1 : Cond.methodLink RX6 idx y ∈ lw_all) (h2 : Cond.instanceMethod y ∈ lw_all) (h3 : Cond.selects RX6 y y ∈ lw_all) (h5 : Cond.code y cy maxL ret ∈ lw_all)
    {n : Nat} (hd : y.cls = RX6 ∧ y.cls ≠ "java/lang/invoke/MethodHandle" ∧ y.cls ≠ "java/lang/invoke/VarHandle" ∧ (parseMethodDescriptor y.desc).map (fun d => d.parameters.length) = some n) (hn : As.length = n) (hRf : fr + 1 ≤ R.frames) (hRl : 8 + (maxL + 11) + lo ≤ R.locals) (hsize : ls.size = nL) (hst : st = As.reverse ++ .ref (h 0) :: rest) (hW : (rest.map fun v => v.category).sum ≤ 8) (hdg : decode cc pc = .ok (.invokevirtual idx, 3))
    (kk : ∀ (H1 : Heap) (locs1 : List Loc) (f1 : Nat → Int32), fE f f1 → mdH D h dA H0 H1 locs1 f1 a' → W p l e R s m args below meth c H1 locs1 0 0 Q (F0 m (pc + 3) ls (.int r :: rest))) : W p l e R s m args below meth c H locs 0 0 Q (F0 m pc ls st) :=
  md_callX hx hb hml hown hts hK hI hM hC h1 h2 h3 h5 hd hn hRf hRl hsize hst hW hdg kk
theorem md_callXV {y : MethodName} {cy : ByteArray} {maxL nL fr lo idx : Nat} {ret : Option FieldType} {As : List Value} {a' : Nat → Nat → Int32} {st : List Value} (hx : p.tables.exec = Jvm.exec) (hb : c.code = cc) (hml : c.maxLocals = nL) (hown : s.vm.findClass RX6 = some m.cls) (hts : ∀ w ∈ lw_all, w.before args s = true) (hK : va_K D mdCl [(dA, .int)] s) (hI : mdI h) (hM : mdH D h dA H0 H locs f a)
    (hC : MdX y cy maxL ret fr lo As f a none a') (h1 : Cond.methodLink RX6 idx y ∈ lw_all) (h2 : Cond.instanceMethod y ∈ lw_all) (h3 : Cond.selects RX6 y y ∈ lw_all) (h5 : Cond.code y cy maxL ret ∈ lw_all)
    {n : Nat} (hd : y.cls = RX6 ∧ y.cls ≠ "java/lang/invoke/MethodHandle" ∧ y.cls ≠ "java/lang/invoke/VarHandle" ∧ (parseMethodDescriptor y.desc).map (fun d => d.parameters.length) = some n) (hn : As.length = n) (hRf : fr + 1 ≤ R.frames) (hRl : 8 + (maxL + 11) + lo ≤ R.locals) (hsize : ls.size = nL) (hst : st = As.reverse ++ .ref (h 0) :: rest) (hW : (rest.map fun v => v.category).sum ≤ 8) (hdg : decode cc pc = .ok (.invokevirtual idx, 3))
    (kk : ∀ (H1 : Heap) (locs1 : List Loc) (f1 : Nat → Int32), fE f f1 → mdH D h dA H0 H1 locs1 f1 a' → W p l e R s m args below meth c H1 locs1 0 0 Q (F0 m (pc + 3) ls rest)) : W p l e R s m args below meth c H locs 0 0 Q (F0 m pc ls st) :=
  md_callX hx hb hml hown hts hK hI hM hC h1 h2 h3 h5 hd hn hRf hRl hsize hst hW hdg kk
end MDX
