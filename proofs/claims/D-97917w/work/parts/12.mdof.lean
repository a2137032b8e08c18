/-! rows with numbers; the model's contracts, opened for a walk -/
set_option maxRecDepth 100000
/-- a truth as an int -/
def iI (P : Prop) [Decidable P] : Int32 := if P then 1 else 0
theorem iI_t {P : Prop} [Decidable P] (h : P) : iI P = 1 := if_pos h
theorem iI_f {P : Prop} [Decidable P] (h : ¬ P) : iI P = 0 := if_neg h
theorem iI_z {P : Prop} [Decidable P] : iI P = 0 ↔ ¬ P := by
  by_cases h : P
  · rw [iI_t h]; exact ⟨fun q => absurd q (by decide), fun q => absurd h q⟩
  · rw [iI_f h]; exact ⟨fun _ => h, fun _ => rfl⟩
theorem iI_nz {P : Prop} [Decidable P] : ¬ iI P = 0 ↔ P := by rw [iI_z]; exact Decidable.not_not
theorem iI_n {P : Prop} [Decidable P] : narrow .boolean (.int (iI P)) = .int (iI P) := by
  by_cases h : P
  · rw [iI_t h]; rfl
  · rw [iI_f h]; rfl
theorem iI_c {P P' : Prop} [Decidable P] [Decidable P'] (h : P ↔ P') : iI P = iI P' := by
  by_cases q : P
  · rw [iI_t q, iI_t (h.mp q)]
  · rw [iI_f q, iI_f (fun z => q (h.mpr z))]
section MDN
variable {p : Program} {l : Launch} {e : Env} {R : Room} {s : State} {m : MethodId} {args : Array Value} {below : List Frame} {meth : Method} {c : Code} {H H0 : Heap} {locs : List Loc} {cells slots : Nat} {Q : State → Prop}
variable {cc : ByteArray} {pc : Nat} {ls : Array Slot} {rest : List Value} {D : va_G} {h : Nat → Nat} {dA : ClassId} {f f1 : Nat → Int32} {a a1 : Nat → Nat → Int32}
/-- a number on the stack, by another name -/
theorem w_top {x : Int32} (y : Int32) (hy : x = y) (k : W p l e R s m args below meth c H locs cells slots Q (F0 m pc ls (.int y :: rest))) : W p l e R s m args below meth c H locs cells slots Q (F0 m pc ls (.int x :: rest)) := by
  subst hy; exact k
theorem w_iaddN (hx : p.tables.exec = Jvm.exec) (hb : c.code = cc) {x y : Nat} (hdg : decode cc pc = .ok (.iadd, 1)) (k : W p l e R s m args below meth c H locs cells slots Q (F0 m (pc + 1) ls (.int (nI (x + y)) :: rest))) : W p l e R s m args below meth c H locs cells slots Q (F0 m pc ls (.int (nI y) :: .int (nI x) :: rest)) :=
  lv_iadd hx hb hdg (by rw [nI_add]; exact k)
theorem w_imulN (hx : p.tables.exec = Jvm.exec) (hb : c.code = cc) {x y : Nat} (hdg : decode cc pc = .ok (.imul, 1)) (k : W p l e R s m args below meth c H locs cells slots Q (F0 m (pc + 1) ls (.int (nI (x * y)) :: rest))) : W p l e R s m args below meth c H locs cells slots Q (F0 m pc ls (.int (nI y) :: .int (nI x) :: rest)) :=
  lv_imul hx hb hdg (by rw [pk_mul]; exact k)
theorem w_isubN (hx : p.tables.exec = Jvm.exec) (hb : c.code = cc) {x y : Nat} (hyx : y ≤ x) (hdg : decode cc pc = .ok (.isub, 1)) (k : W p l e R s m args below meth c H locs cells slots Q (F0 m (pc + 1) ls (.int (nI (x - y)) :: rest))) : W p l e R s m args below meth c H locs cells slots Q (F0 m pc ls (.int (nI y) :: .int (nI x) :: rest)) :=
  lv_isub hx hb hdg (by rw [pk_sub hyx]; exact k)
theorem mdH.to {f' : Nat → Int32} {a' : Nat → Nat → Int32} (hM : mdH D h dA H0 H locs f a) (hf : f = f') (ha : a = a') : mdH D h dA H0 H locs f' a' := by subst hf; subst ha; exact hM
theorem MdF.ofI {y : MethodName} {maxL fr lo : Nat} {As : List Value} {v : Int32} {f' : Nat → Int32} {a' : Nat → Nat → Int32} (hy : plainName y.cls = true) (hcl : y.cls = RX6) (hlen : (lg_sl (.ref 0 :: As)).length ≤ maxL)
    (body : ∀ (p : Program) (l : Launch) (e : Env) (R : Room) (s : State) (m : MethodId) (args : Array Value) (below : List Frame) (meth : Method) (c : Code) (Q : State → Prop) (D : va_G) (h : Nat → Nat) (dA : ClassId) (ls : Array Slot), p.tables.exec = Jvm.exec → c.code = cc → c.maxLocals = maxL → R.frames = fr → R.locals = lo → (∀ w ∈ lw_all, w.before args s = true) → s.vm.findClass RX6 = some m.cls → va_K D mdCl [(dA, .int)] s → mdI h → mdH D h dA s.heap s.heap [] f a → lv_has ls maxL (lv_args 0 (.ref (h 0) :: As)) →
      (∀ {H : Heap} {locs : List Loc} {pc : Nat} {ls : Array Slot} {x : Int32}, mdH D h dA s.heap H locs f' a' → x = v → decode cc pc = .ok (.ireturn, 1) → W p l e R s m args below meth c H locs 0 0 Q (F0 m pc ls [.int x])) →
      W p l e R s m args below meth c s.heap [] 0 0 Q (F0 m 0 ls [])) : MdF y cc maxL (some .int) fr lo As f a (some (.int v)) f' a' := by
  refine MdF.of hy hcl hlen ?_
  intro p l e s m below meth c D h dA ls hx hb hr hlk hml hts hown hK hI hM hl
  exact body p l e _ s m _ below meth c _ D h dA ls hx hb hml rfl rfl hts hown hK hI hM hl (fun hM hv hdg => md_iret (As := As) hx hb hr hlk hM ⟨hv, rfl, rfl⟩ hdg)
theorem MdF.ofZ {y : MethodName} {maxL fr lo : Nat} {As : List Value} {v : Int32} {f' : Nat → Int32} {a' : Nat → Nat → Int32} (hy : plainName y.cls = true) (hcl : y.cls = RX6) (hlen : (lg_sl (.ref 0 :: As)).length ≤ maxL) (hn : narrow .boolean (.int v) = .int v)
    (body : ∀ (p : Program) (l : Launch) (e : Env) (R : Room) (s : State) (m : MethodId) (args : Array Value) (below : List Frame) (meth : Method) (c : Code) (Q : State → Prop) (D : va_G) (h : Nat → Nat) (dA : ClassId) (ls : Array Slot), p.tables.exec = Jvm.exec → c.code = cc → c.maxLocals = maxL → R.frames = fr → R.locals = lo → (∀ w ∈ lw_all, w.before args s = true) → s.vm.findClass RX6 = some m.cls → va_K D mdCl [(dA, .int)] s → mdI h → mdH D h dA s.heap s.heap [] f a → lv_has ls maxL (lv_args 0 (.ref (h 0) :: As)) →
      (∀ {H : Heap} {locs : List Loc} {pc : Nat} {ls : Array Slot} {x : Int32}, mdH D h dA s.heap H locs f' a' → x = v → decode cc pc = .ok (.ireturn, 1) → W p l e R s m args below meth c H locs 0 0 Q (F0 m pc ls [.int x])) →
      W p l e R s m args below meth c s.heap [] 0 0 Q (F0 m 0 ls [])) : MdF y cc maxL (some .boolean) fr lo As f a (some (.int v)) f' a' := by
  refine MdF.of hy hcl hlen ?_
  intro p l e s m below meth c D h dA ls hx hb hr hlk hml hts hown hK hI hM hl
  exact body p l e _ s m _ below meth c _ D h dA ls hx hb hml rfl rfl hts hown hK hI hM hl (fun hM hv hdg => md_zret (As := As) hx hb hr hlk (by rw [hv]; exact hn) hM ⟨hv, rfl, rfl⟩ hdg)
theorem MdF.ofV {y : MethodName} {maxL fr lo : Nat} {As : List Value} {f' : Nat → Int32} {a' : Nat → Nat → Int32} (hy : plainName y.cls = true) (hcl : y.cls = RX6) (hlen : (lg_sl (.ref 0 :: As)).length ≤ maxL)
    (body : ∀ (p : Program) (l : Launch) (e : Env) (R : Room) (s : State) (m : MethodId) (args : Array Value) (below : List Frame) (meth : Method) (c : Code) (Q : State → Prop) (D : va_G) (h : Nat → Nat) (dA : ClassId) (ls : Array Slot), p.tables.exec = Jvm.exec → c.code = cc → c.maxLocals = maxL → R.frames = fr → R.locals = lo → (∀ w ∈ lw_all, w.before args s = true) → s.vm.findClass RX6 = some m.cls → va_K D mdCl [(dA, .int)] s → mdI h → mdH D h dA s.heap s.heap [] f a → lv_has ls maxL (lv_args 0 (.ref (h 0) :: As)) →
      (∀ {H : Heap} {locs : List Loc} {pc : Nat} {ls : Array Slot}, mdH D h dA s.heap H locs f' a' → decode cc pc = .ok (.return_, 1) → W p l e R s m args below meth c H locs 0 0 Q (F0 m pc ls [])) →
      W p l e R s m args below meth c s.heap [] 0 0 Q (F0 m 0 ls [])) : MdF y cc maxL none fr lo As f a none f' a' := by
  refine MdF.of hy hcl hlen ?_
  intro p l e s m below meth c D h dA ls hx hb hr hlk hml hts hown hK hI hM hl
  exact body p l e _ s m _ below meth c _ D h dA ls hx hb hml rfl rfl hts hown hK hI hM hl (fun hM hdg => md_vret (As := As) hx hb hr hlk hM ⟨rfl, rfl⟩ hdg)
theorem StF.ofI {y : MethodName} {maxL fr lo : Nat} {As : List Value} {v : Int32} {own : String} (hy : plainName y.cls = true) (hcl : y.cls = own) (hlen : (lg_sl As).length ≤ maxL)
    (body : ∀ (p : Program) (l : Launch) (e : Env) (R : Room) (s : State) (m : MethodId) (args : Array Value) (below : List Frame) (meth : Method) (c : Code) (Q : State → Prop) (H : Heap) (locs : List Loc) (ls : Array Slot), p.tables.exec = Jvm.exec → c.code = cc → c.maxLocals = maxL → R.frames = fr → R.locals = lo → (∀ w ∈ lw_all, w.before args s = true) → s.vm.findClass own = some m.cls → lv_has ls maxL (lv_args 0 As) →
      (∀ {pc : Nat} {ls : Array Slot} {x : Int32}, x = v → decode cc pc = .ok (.ireturn, 1) → W p l e R s m args below meth c H locs 0 0 Q (F0 m pc ls [.int x])) →
      W p l e R s m args below meth c H locs 0 0 Q (F0 m 0 ls [])) : StF y cc maxL (some .int) fr lo As (some (.int v)) := by
  refine StF.of hy hcl hlen ?_
  intro p l e s m below meth c ls hx hb hr hlk hml hts hown hl
  exact body p l e _ s m _ below meth c _ _ _ ls hx hb hml rfl rfl hts hown hl (fun hv hdg => st_iret hx hb hr hlk hv hdg)
theorem StF.ofZ {y : MethodName} {maxL fr lo : Nat} {As : List Value} {v : Int32} {own : String} (hy : plainName y.cls = true) (hcl : y.cls = own) (hlen : (lg_sl As).length ≤ maxL) (hn : narrow .boolean (.int v) = .int v)
    (body : ∀ (p : Program) (l : Launch) (e : Env) (R : Room) (s : State) (m : MethodId) (args : Array Value) (below : List Frame) (meth : Method) (c : Code) (Q : State → Prop) (H : Heap) (locs : List Loc) (ls : Array Slot), p.tables.exec = Jvm.exec → c.code = cc → c.maxLocals = maxL → R.frames = fr → R.locals = lo → (∀ w ∈ lw_all, w.before args s = true) → s.vm.findClass own = some m.cls → lv_has ls maxL (lv_args 0 As) →
      (∀ {pc : Nat} {ls : Array Slot} {x : Int32}, x = v → decode cc pc = .ok (.ireturn, 1) → W p l e R s m args below meth c H locs 0 0 Q (F0 m pc ls [.int x])) →
      W p l e R s m args below meth c H locs 0 0 Q (F0 m 0 ls [])) : StF y cc maxL (some .boolean) fr lo As (some (.int v)) := by
  refine StF.of hy hcl hlen ?_
  intro p l e s m below meth c ls hx hb hr hlk hml hts hown hl
  exact body p l e _ s m _ below meth c _ _ _ ls hx hb hml rfl rfl hts hown hl (fun hv hdg => st_zret hx hb hr hlk (by rw [hv]; exact hn) hv hdg)
end MDN
