/-! entry and ends of the model's contracts; static methods that read and write nothing -/
set_option maxRecDepth 100000
/-- a static method that touches no heap: As ↦ v -/
def StF (y : MethodName) (cc : ByteArray) (maxL : Nat) (ret : Option FieldType) (fr lo : Nat) (As : List Value) (v : Option Value) : Prop :=
  ∀ (l : Launch), Met l y (ws_ y cc maxL ret) { frames := fr, cells := 0, slots := 0, locals := lo } (va_Pc As (fun _ => True)) (fun _ st oc t => oc = .returned v ∧ t.heap = st.heap) 0 0 (fun _ => False)
section MDC
variable {p : Program} {l : Launch} {e : Env} {R : Room} {s : State} {m : MethodId} {args : Array Value} {below : List Frame} {meth : Method} {c : Code} {H H0 : Heap} {locs : List Loc} {cells slots : Nat} {Q : State → Prop}
variable {cc : ByteArray} {pc : Nat} {ls : Array Slot} {rest : List Value} {D : va_G} {h : Nat → Nat} {dA : ClassId} {f f1 : Nat → Int32} {a a1 : Nat → Nat → Int32}
theorem MdF.of {y : MethodName} {maxL fr lo : Nat} {ret : Option FieldType} {As : List Value} {v : Option Value} {f' : Nat → Int32} {a' : Nat → Nat → Int32} (hy : plainName y.cls = true) (hcl : y.cls = RX6) (hlen : (lg_sl (.ref 0 :: As)).length ≤ maxL)
    (body : ∀ (p : Program) (l : Launch) (e : Env) (s : State) (m : MethodId) (below : List Frame) (meth : Method) (c : Code) (D : va_G) (h : Nat → Nat) (dA : ClassId) (ls : Array Slot), p.tables.exec = Jvm.exec → c.code = cc → meth.sig.returnType = ret → meth.locks = false → c.maxLocals = maxL → (∀ w ∈ lw_all, w.before (Value.ref (h 0) :: As).toArray s = true) → s.vm.findClass RX6 = some m.cls → va_K D mdCl [(dA, .int)] s → mdI h → mdH D h dA s.heap s.heap [] f a → lv_has ls maxL (lv_args 0 (.ref (h 0) :: As)) →
      W p l e { frames := fr, cells := 0, slots := 0, locals := lo } s m (Value.ref (h 0) :: As).toArray below meth c s.heap [] 0 0 (MQ below (mdQ D h dA v f' a') (Value.ref (h 0) :: As).toArray s 0 0 (mdA h)) (F0 m 0 ls [])) : MdF y cc maxL ret fr lo As f a v f' a' := by
  intro l D h dA hI
  refine Met.ofW (cc := cc) (maxL := maxL) (ret := ret) hy rfl ?_
  intro p e s m args below meth c s₁ B hml hv
  obtain ⟨rfl, hP, hK⟩ := hv
  have hts := atoms_spec (ws := ws_ y cc maxL ret) B.pre
  have hts : ∀ w ∈ lw_all, w.before _ s = true := fun w h => hts w (List.mem_cons_of_mem _ h)
  have hown : s.vm.findClass RX6 = some m.cls := by rw [← hcl]; exact findClass_of_methodNamed B.named
  have hl := lv_entry (.ref (h 0) :: As) (n := maxL) hlen
  rw [lg_entry_eq]
  exact body p l e s m below meth c D h dA _ B.exec B.bytes B.returns B.notSynchronized hml hts hown hK hI ⟨hP, va_S.rf⟩ hl
theorem StF.of {y : MethodName} {maxL fr lo : Nat} {ret : Option FieldType} {As : List Value} {v : Option Value} {own : String} (hy : plainName y.cls = true) (hcl : y.cls = own) (hlen : (lg_sl As).length ≤ maxL)
    (body : ∀ (p : Program) (l : Launch) (e : Env) (s : State) (m : MethodId) (below : List Frame) (meth : Method) (c : Code) (ls : Array Slot), p.tables.exec = Jvm.exec → c.code = cc → meth.sig.returnType = ret → meth.locks = false → c.maxLocals = maxL → (∀ w ∈ lw_all, w.before As.toArray s = true) → s.vm.findClass own = some m.cls → lv_has ls maxL (lv_args 0 As) →
      W p l e { frames := fr, cells := 0, slots := 0, locals := lo } s m As.toArray below meth c s.heap [] 0 0 (MQ below (fun _ st oc t => oc = .returned v ∧ t.heap = st.heap) As.toArray s 0 0 (fun _ => False)) (F0 m 0 ls [])) : StF y cc maxL ret fr lo As v := by
  intro l
  refine Met.ofW (cc := cc) (maxL := maxL) (ret := ret) hy rfl ?_
  intro p e s m args below meth c s₁ B hml hv
  obtain ⟨rfl, -⟩ := hv
  have hts := atoms_spec (ws := ws_ y cc maxL ret) B.pre
  have hts : ∀ w ∈ lw_all, w.before _ s = true := fun w h => hts w (List.mem_cons_of_mem _ h)
  have hown : s.vm.findClass own = some m.cls := by rw [← hcl]; exact findClass_of_methodNamed B.named
  have hl := lv_entry As (n := maxL) hlen
  rw [lg_entry_eq]
  exact body p l e s m below meth c _ B.exec B.bytes B.returns B.notSynchronized hml hts hown hl
theorem st_call {y : MethodName} {cy : ByteArray} {own : String} {maxL nL fr lo idx : Nat} {ret : Option FieldType} {As : List Value} {v : Option Value} {st : List Value} (hx : p.tables.exec = Jvm.exec) (hb : c.code = cc) (hml : c.maxLocals = nL) (hown : s.vm.findClass own = some m.cls) (hts : ∀ w ∈ lw_all, w.before args s = true)
    (hC : StF y cy maxL ret fr lo As v) (h1 : Cond.methodLink own idx y ∈ lw_all) (h2 : Cond.static y ∈ lw_all) (h4 : Cond.initialized y.cls ∈ lw_all) (h5 : Cond.code y cy maxL ret ∈ lw_all)
    (hd : y.cls ≠ "java/lang/invoke/MethodHandle" ∧ y.cls ≠ "java/lang/invoke/VarHandle" ∧ (parseMethodDescriptor y.desc).map (fun d => d.parameters.length) = some As.length) (hR : fr + 1 ≤ R.frames ∧ 8 + (maxL + 11) + lo ≤ R.locals) (hsize : ls.size = nL) (hst : st = As.reverse ++ rest) (hW : (rest.map fun v => v.category).sum ≤ 8) (hf : cells ≤ R.cells ∧ slots ≤ R.slots) (hdg : decode cc pc = .ok (.invokestatic idx, 3))
    (kk : W p l e R s m args below meth c H locs cells slots Q (F0 m (pc + 3) ls (v.toList ++ rest))) : W p l e R s m args below meth c H locs cells slots Q (F0 m pc ls st) := by
  have hr := va_runS (H := H) (below := below) (meth := meth) (locs := locs) (cells := cells) (slots := slots) (e := e) (As := As) (rest := rest) (g := F0 m pc ls st) (Ts := lw_all) (own := own) (n := As.length) ⟨hx, hb, hml, hown, hts⟩ (hC l) (va_cwS As.length hts (lw_S h1 h2 h4 h5) rfl rfl rfl hd hR)
    ⟨fun a U g mk q => ⟨q.1, trivial⟩, fun U hU hW => ⟨rfl, trivial⟩⟩ rfl rfl hsize hst (lv_room hW) hdg ⟨hf.1, hf.2⟩
  intro T hT X
  obtain ⟨v', st₀, t, T', L, h0, X', hL, e1, e2, ⟨hv, hP⟩, stp⟩ := hr T hT X
  cases hv
  have hLn : L = [] := List.eq_nil_iff_forall_not_mem.mpr (fun q hq => hL q hq)
  subst hLn
  rw [List.append_nil] at X'
  obtain ⟨t2, a1, b1⟩ := kk T' (by rw [e1, hP, h0]) X'
  exact ⟨t2, stp t2 a1, b1⟩
theorem md_iret {As : List Value} {x x' : Int32} {f' : Nat → Int32} {a' : Nat → Nat → Int32} (hx : p.tables.exec = Jvm.exec) (hb : c.code = cc) (hr : meth.sig.returnType = some .int) (hlk : meth.locks = false) (hM : mdH D h dA s.heap H locs f1 a1) (hv : x = x' ∧ f1 = f' ∧ a1 = a') (hdg : decode cc pc = .ok (.ireturn, 1)) :
    W p l e R s m args below meth c H locs cells slots (MQ below (mdQ D h dA (some (.int x')) f' a') args s cells slots (mdA h)) (F0 m pc ls [.int x]) := by
  obtain ⟨rfl, rfl, rfl⟩ := hv
  exact W.iret hx hb hr (fun t ht hW => ⟨rfl, by rw [ht]; exact hM.1, hM.2.F ht⟩) hM.2.2.2 hdg hlk
theorem md_zret {As : List Value} {x x' : Int32} {f' : Nat → Int32} {a' : Nat → Nat → Int32} (hx : p.tables.exec = Jvm.exec) (hb : c.code = cc) (hr : meth.sig.returnType = some .boolean) (hlk : meth.locks = false) (hn : narrow .boolean (.int x) = .int x) (hM : mdH D h dA s.heap H locs f1 a1) (hv : x = x' ∧ f1 = f' ∧ a1 = a') (hdg : decode cc pc = .ok (.ireturn, 1)) :
    W p l e R s m args below meth c H locs cells slots (MQ below (mdQ D h dA (some (.int x')) f' a') args s cells slots (mdA h)) (F0 m pc ls [.int x]) := by
  obtain ⟨rfl, rfl, rfl⟩ := hv
  exact W.zret hx hb hr hn (fun t ht hW => ⟨rfl, by rw [ht]; exact hM.1, hM.2.F ht⟩) hM.2.2.2 hdg hlk
theorem md_vret {As : List Value} {f' : Nat → Int32} {a' : Nat → Nat → Int32} (hx : p.tables.exec = Jvm.exec) (hb : c.code = cc) (hr : meth.sig.returnType = none) (hlk : meth.locks = false) (hM : mdH D h dA s.heap H locs f1 a1) (hv : f1 = f' ∧ a1 = a') (hdg : decode cc pc = .ok (.return_, 1)) :
    W p l e R s m args below meth c H locs cells slots (MQ below (mdQ D h dA none f' a') args s cells slots (mdA h)) (F0 m pc ls []) := by
  obtain ⟨rfl, rfl⟩ := hv
  exact W.vret hx hb hr (fun t ht hW => ⟨rfl, by rw [ht]; exact hM.1, hM.2.F ht⟩) hM.2.2.2 hdg hlk
theorem st_iret {x x' : Int32} (hx : p.tables.exec = Jvm.exec) (hb : c.code = cc) (hr : meth.sig.returnType = some .int) (hlk : meth.locks = false) (hv : x = x') (hdg : decode cc pc = .ok (.ireturn, 1)) :
    W p l e R s m args below meth c s.heap [] cells slots (MQ below (fun _ st oc t => oc = .returned (some (.int x')) ∧ t.heap = st.heap) args s cells slots (fun _ => False)) (F0 m pc ls [.int x]) := by
  subst hv
  exact W.iret hx hb hr (fun t ht hW => ⟨rfl, ht⟩) (fun q hq => by cases hq) hdg hlk
theorem st_zret {x x' : Int32} (hx : p.tables.exec = Jvm.exec) (hb : c.code = cc) (hr : meth.sig.returnType = some .boolean) (hlk : meth.locks = false) (hn : narrow .boolean (.int x) = .int x) (hv : x = x') (hdg : decode cc pc = .ok (.ireturn, 1)) :
    W p l e R s m args below meth c s.heap [] cells slots (MQ below (fun _ st oc t => oc = .returned (some (.int x')) ∧ t.heap = st.heap) args s cells slots (fun _ => False)) (F0 m pc ls [.int x]) := by
  subst hv
  exact W.zret hx hb hr hn (fun t ht hW => ⟨rfl, ht⟩) (fun q hq => by cases hq) hdg hlk
end MDC
