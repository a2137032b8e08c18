/-! faults, findings, terms are made (printed by comp36.py) -/
set_option maxRecDepth 100000
/-- returns; with the literals and Throwable's statics -/
def Cq (D : va_G) (dA : Nat → ClassId) (b0 : Nat) (ad adV : Nat → Nat) (A : Nat → Prop) (y : MethodName) (cc : ByteArray) (maxL : Nat) (ret : Option FieldType) (fr lo mc ms : Nat) (As : List Value) (P : Heap → Prop) (Q : Option Value → Heap → Prop) : Prop :=
  ∀ (l : Launch), Met l y (ws_ y cc maxL ret) { frames := fr, cells := mc, slots := ms, locals := lo } (va_Pc As (fun U => P U.heap ∧ cmK D dA U ∧ SRh b0 ad adV U U.heap)) (fun _ st oc t => (∃ v, oc = .returned v ∧ Q v t.heap) ∧ va_F A st t) mc ms A
/-- as Cq; it may throw -/
def Cs (D : va_G) (dA : Nat → ClassId) (b0 : Nat) (ad adV : Nat → Nat) (A : Nat → Prop) (y : MethodName) (cc : ByteArray) (maxL : Nat) (ret : Option FieldType) (fr lo mc ms : Nat) (As : List Value) (P : Heap → Prop) (Q : Outcome → Heap → Prop) : Prop :=
  ∀ (l : Launch), MetT l y (ws_ y cc maxL ret) { frames := fr, cells := mc, slots := ms, locals := lo } (va_Pc As (fun U => P U.heap ∧ cmK D dA U ∧ SRh b0 ad adV U U.heap)) (fun _ st oc t => Q oc t.heap ∧ va_F A st t) mc ms A
theorem cq_blind {D : va_G} {dA : Nat → ClassId} {b0 : Nat} {ad adV : Nat → Nat} {As : List Value} {P : Heap → Prop} : FrameBlind (va_Pc As (fun U => P U.heap ∧ cmK D dA U ∧ SRh b0 ad adV U U.heap)) := fun a U g mk q => ⟨q.1, q.2.1, q.2.2.1.warm (State.WarmedH.refl U), q.2.2.2.go (State.WarmedH.refl U) (fun _ _ _ => rfl)⟩
section CQA
variable {D : va_G} {dA : Nat → ClassId} {b0 : Nat} {ad adV : Nat → Nat} {A : Nat → Prop} {P : Heap → Prop} {Qv : Option Value → Heap → Prop} {Qo : Outcome → Heap → Prop} {y : MethodName} {cc : ByteArray} {maxL fr lo mc ms : Nat} {ret : Option FieldType} {As : List Value} {own : String}
theorem Cq.ofV (hy : plainName y.cls = true) (hcl : y.cls = own) (hlen : (lg_sl As).length ≤ maxL)
    (body : ∀ (p : Program) (l : Launch) (e : Env) (R : Room) (s : State) (m : MethodId) (args : Array Value) (below : List Frame) (meth : Method) (c : Code) (Q : State → Prop) (ls : Array Slot), p.tables.exec = Jvm.exec → c.code = cc → c.maxLocals = maxL → R.frames = fr → R.locals = lo → R.cells = mc → R.slots = ms → meth.name = y.name → (∀ w ∈ lw_all, w.before args s = true) → s.vm.findClass own = some m.cls → cmK D dA s → SRh b0 ad adV s s.heap → P s.heap → lv_has ls maxL (lv_args 0 As) →
      (∀ {H : Heap} {locs : List Loc} {pc : Nat} {ls : Array Slot}, Qv none H → va_S A s.heap H locs → decode cc pc = .ok (.return_, 1) → W p l e R s m args below meth c H locs mc ms Q (F0 m pc ls [])) →
      W p l e R s m args below meth c s.heap [] 0 0 Q (F0 m 0 ls [])) : Cq D dA b0 ad adV A y cc maxL none fr lo mc ms As P Qv := by
  intro l
  refine Met.ofW (cc := cc) (maxL := maxL) (ret := none) hy rfl ?_
  intro p e s m args below meth c s₁ B hml hv
  obtain ⟨rfl, hP, hK, hE⟩ := hv
  have hts := atoms_spec (ws := ws_ y cc maxL none) B.pre
  have hts : ∀ w ∈ lw_all, w.before _ s = true := fun w h => hts w (List.mem_cons_of_mem _ h)
  have hown : s.vm.findClass own = some m.cls := by rw [← hcl]; exact findClass_of_methodNamed B.named
  have hin : meth.name = y.name := (name_of_methodNamed B.named B.method).1
  have hl := lv_entry As (n := maxL) hlen
  rw [lg_entry_eq]
  have hlk := B.notSynchronized
  exact body p l e _ s m _ below meth c _ _ B.exec B.bytes hml rfl rfl rfl rfl hin hts hown hK hE hP hl (fun hq hS hdg => W.vret B.exec B.bytes B.returns (fun t ht hW => ⟨⟨_, rfl, by rw [ht]; exact hq⟩, hS.F ht⟩) hS.2.2 hdg hlk)
theorem Cs.of (hy : plainName y.cls = true) (hcl : y.cls = own) (hlen : (lg_sl As).length ≤ maxL)
    (body : ∀ (p : Program) (l : Launch) (e : Env) (s : State) (m : MethodId) (below : List Frame) (meth : Method) (c : Code) (ls : Array Slot), p.tables.exec = Jvm.exec → c.code = cc → meth.sig.returnType = ret → meth.locks = false → c.maxLocals = maxL → c.exceptionTable.toList = [] → (∀ w ∈ lw_all, w.before As.toArray s = true) → s.vm.findClass own = some m.cls → cmK D dA s → SRh b0 ad adV s s.heap → P s.heap → lv_has ls maxL (lv_args 0 As) →
      W p l e { frames := fr, cells := mc, slots := ms, locals := lo } s m As.toArray below meth c s.heap [] 0 0 (MQT below (fun _ st oc t => Qo oc t.heap ∧ va_F A st t) As.toArray s mc ms A) (F0 m 0 ls [])) : Cs D dA b0 ad adV A y cc maxL ret fr lo mc ms As P Qo := by
  intro l
  refine MetT.ofW (cc := cc) (maxL := maxL) (ret := ret) hy rfl ?_
  intro p e s m args below meth c s₁ B hml htab hv
  obtain ⟨rfl, hP, hK, hE⟩ := hv
  have hts := atoms_spec (ws := ws_ y cc maxL ret) B.pre
  have hts : ∀ w ∈ lw_all, w.before _ s = true := fun w h => hts w (List.mem_cons_of_mem _ h)
  have hown : s.vm.findClass own = some m.cls := by rw [← hcl]; exact findClass_of_methodNamed B.named
  have hl := lv_entry As (n := maxL) hlen
  rw [lg_entry_eq]
  exact body p l e s m below meth c _ B.exec B.bytes B.returns B.notSynchronized hml htab hts hown hK hE hP hl
theorem Cs.ofV (hy : plainName y.cls = true) (hcl : y.cls = own) (hlen : (lg_sl As).length ≤ maxL)
    (body : ∀ (p : Program) (l : Launch) (e : Env) (R : Room) (s : State) (m : MethodId) (args : Array Value) (below : List Frame) (meth : Method) (c : Code) (Q : State → Prop) (ls : Array Slot), p.tables.exec = Jvm.exec → c.code = cc → c.maxLocals = maxL → R.frames = fr → R.locals = lo → R.cells = mc → R.slots = ms → (∀ w ∈ lw_all, w.before args s = true) → s.vm.findClass own = some m.cls → cmK D dA s → SRh b0 ad adV s s.heap → P s.heap → lv_has ls maxL (lv_args 0 As) →
      (∀ {H : Heap} {locs : List Loc} {pc : Nat} {ls : Array Slot} , Qo (.returned none) H → va_S A s.heap H locs → decode cc pc = .ok (.return_, 1) → W p l e R s m args below meth c H locs mc ms Q (F0 m pc ls [])) →
      (∀ {H : Heap} {locs : List Loc} {pc : Nat} {ls : Array Slot} {rest : List Value} {x : Nat}, Qo (.threw x) H → va_S A s.heap H locs → WT p l e R s m args below meth c H locs mc ms Q (F0 m pc ls rest) x) →
      W p l e R s m args below meth c s.heap [] 0 0 Q (F0 m 0 ls [])) : Cs D dA b0 ad adV A y cc maxL none fr lo mc ms As P Qo := by
  refine Cs.of hy hcl hlen ?_
  intro p l e s m below meth c ls hx hb hr hlk hml hin hts hown hK hE hP hl
  exact body p l e _ s m _ below meth c _ ls hx hb hml rfl rfl rfl rfl hts hown hK hE hP hl (fun hq hS hdg => W.imp (fun t h => h.T) (W.vret hx hb hr (fun t ht hW => ⟨by rw [ht]; exact hq, hS.F ht⟩) hS.2.2 hdg hlk)) (fun hq hS => WT.leave hin hlk (fun t ht hW => ⟨by rw [ht]; exact hq, hS.F ht⟩) hS.2.2)
theorem Cs.ofA {rt : FieldType} (hrt : (∃ n, rt = .object n) ∨ ∃ t, rt = .array t) (hy : plainName y.cls = true) (hcl : y.cls = own) (hlen : (lg_sl As).length ≤ maxL)
    (body : ∀ (p : Program) (l : Launch) (e : Env) (R : Room) (s : State) (m : MethodId) (args : Array Value) (below : List Frame) (meth : Method) (c : Code) (Q : State → Prop) (ls : Array Slot), p.tables.exec = Jvm.exec → c.code = cc → c.maxLocals = maxL → R.frames = fr → R.locals = lo → R.cells = mc → R.slots = ms → (∀ w ∈ lw_all, w.before args s = true) → s.vm.findClass own = some m.cls → cmK D dA s → SRh b0 ad adV s s.heap → P s.heap → lv_has ls maxL (lv_args 0 As) →
      (∀ {H : Heap} {locs : List Loc} {pc : Nat} {ls : Array Slot} {x : Nat}, Qo (.returned (some (.ref x))) H → va_S A s.heap H locs → decode cc pc = .ok (.areturn, 1) → W p l e R s m args below meth c H locs mc ms Q (F0 m pc ls [.ref x])) →
      (∀ {H : Heap} {locs : List Loc} {pc : Nat} {ls : Array Slot} {rest : List Value} {x : Nat}, Qo (.threw x) H → va_S A s.heap H locs → WT p l e R s m args below meth c H locs mc ms Q (F0 m pc ls rest) x) →
      W p l e R s m args below meth c s.heap [] 0 0 Q (F0 m 0 ls [])) : Cs D dA b0 ad adV A y cc maxL (some rt) fr lo mc ms As P Qo := by
  refine Cs.of hy hcl hlen ?_
  intro p l e s m below meth c ls hx hb hr hlk hml hin hts hown hK hE hP hl
  exact body p l e _ s m _ below meth c _ ls hx hb hml rfl rfl rfl rfl hts hown hK hE hP hl (fun hq hS hdg => W.imp (fun t h => h.T) (W.aret hx hb hr hrt (Or.inr ⟨_, rfl⟩) (fun t ht hW => ⟨by rw [ht]; exact hq, hS.F ht⟩) hS.2.2 hdg hlk)) (fun hq hS => WT.leave hin hlk (fun t ht hW => ⟨by rw [ht]; exact hq, hS.F ht⟩) hS.2.2)
end CQA
section CQB
variable {p : Program} {l : Launch} {e : Env} {R : Room} {s : State} {m : MethodId} {args : Array Value} {below : List Frame} {meth : Method} {c : Code} {H : Heap} {locs : List Loc} {cells slots : Nat} {Q : State → Prop}
variable {cc : ByteArray} {pc : Nat} {ls : Array Slot} {rest : List Value} {D : va_G} {dA : Nat → ClassId} {b0 : Nat} {ad adV : Nat → Nat} {A B : Nat → Prop} {b : Nat} {P : Heap → Prop} {Qv : Option Value → Heap → Prop} {Qo : Outcome → Heap → Prop}
variable {y x : MethodName} {cy : ByteArray} {maxL nL fr lo idx mc ms n : Nat} {ret : Option FieldType} {As st : List Value} {own C : String}
theorem cq_callI (hx : p.tables.exec = Jvm.exec) (hb : c.code = cc) (hml : c.maxLocals = nL) (hown : s.vm.findClass own = some m.cls) (hts : ∀ w ∈ lw_all, w.before args s = true) (hK : cmK D dA s) (hE : SRh b0 ad adV s s.heap) (hS : va_S A s.heap H locs) (hA0 : ∀ q, A q → b0 ≤ q)
    (hC : Cq D dA b0 ad adV B y cy maxL none fr lo mc ms (.ref b :: As) P Qv) (hP : P H) (hBA : ∀ q, B q → A q)
    (h1 : Cond.methodLink own idx y ∈ lw_all) (h2 : Cond.instanceMethod y ∈ lw_all) (h4 : Cond.initialized y.cls ∈ lw_all) (h5 : Cond.code y cy maxL none ∈ lw_all)
    (hd : y.name = "<init>" ∧ y.cls ≠ "java/lang/invoke/MethodHandle" ∧ y.cls ≠ "java/lang/invoke/VarHandle" ∧ (parseMethodDescriptor y.desc).map (fun d => d.parameters.length) = some n) (hn : As.length = n) (hRf : fr + 1 ≤ R.frames) (hRl : 8 + (maxL + 11) + lo ≤ R.locals) (hRc : cells + mc ≤ R.cells) (hRs : slots + ms ≤ R.slots) (hsize : ls.size = nL) (hst : st = As.reverse ++ .ref b :: rest) (hW : (rest.map fun v => v.category).sum ≤ 8) (hdg : decode cc pc = .ok (.invokespecial idx, 3))
    (kk : CgK p l e R s m args below meth c s.heap H cells slots Q A B mc ms Qv (fun z => F0 m (pc + 3) ls z) rest) : W p l e R s m args below meth c H locs cells slots Q (F0 m pc ls st) :=
  cg_go (va_runI (below := below) (meth := meth) (locs := locs) (cells := cells) (slots := slots) (e := e) (As := As) (rest := rest) (g := F0 m pc ls st) (b := b) (Ts := lw_all) (own := own) (n := n) ⟨hx, hb, hml, hown, hts⟩ (hC l) (cwI n hts (lw_meth h5) rfl rfl rfl (hts _ h4) (hts _ h1) (hts _ h2) hd.1 hd.2 ⟨hRf, hRl⟩)
    ⟨cq_blind, fun U hU hW => ⟨rfl, by rw [hU]; exact hP, hK.warm hW, hE.go hW (fun q g1 g2 => by rw [hU]; exact hS.2.1 q g1 (fun z => g2 (hA0 q z)))⟩⟩ rfl hn hsize hst (lv_room hW) hdg ⟨hRc, hRs⟩) hS hBA kk
/-- a call that may throw -/
theorem cs_callV (hx : p.tables.exec = Jvm.exec) (hb : c.code = cc) (hml : c.maxLocals = nL) (hown : s.vm.findClass own = some m.cls) (hts : ∀ w ∈ lw_all, w.before args s = true) (hK : cmK D dA s) (hE : SRh b0 ad adV s s.heap) (hS : va_S A s.heap H locs) (hA0 : ∀ q, A q → b0 ≤ q)
    (hC : Cs D dA b0 ad adV B y cy maxL ret fr lo mc ms (.ref b :: As) P Qo) (hP : P H) (hBA : ∀ q, B q → A q) (hrc : ∃ cell : Cell, H[b]? = some cell ∧ cell.vm.isStatics = false ∧ s.vm.findClass C = some cell.cls)
    (h1 : Cond.methodLink own idx y ∈ lw_all) (h2 : Cond.instanceMethod y ∈ lw_all) (h3 : Cond.selects C y y ∈ lw_all) (h4 : Cond.initialized C ∈ lw_all) (h5 : Cond.code y cy maxL ret ∈ lw_all)
    (hd : y.cls = C ∧ y.cls ≠ "java/lang/invoke/MethodHandle" ∧ y.cls ≠ "java/lang/invoke/VarHandle" ∧ (parseMethodDescriptor y.desc).map (fun d => d.parameters.length) = some n) (hn : As.length = n) (hRf : fr + 1 ≤ R.frames) (hRl : 8 + (maxL + 11) + lo ≤ R.locals) (hRc : cells + mc ≤ R.cells) (hRs : slots + ms ≤ R.slots) (hsize : ls.size = nL) (hst : st = As.reverse ++ .ref b :: rest) (hW : (rest.map fun v => v.category).sum ≤ 8) (hdg : decode cc pc = .ok (.invokevirtual idx, 3))
    (kr : ∀ (v : Option Value) (H1 : Heap) (locs1 : List Loc), Qo (.returned v) H1 → H.size ≤ H1.size → (∀ q, q < H.size → ¬ B q → H1[q]? = H[q]?) → va_S A s.heap H1 locs1 → W p l e R s m args below meth c H1 locs1 (cells + mc) (slots + ms) Q (F0 m (pc + 3) ls (v.toList ++ rest)))
    (kt : ∀ (x : Nat) (H1 : Heap) (locs1 : List Loc), Qo (.threw x) H1 → H.size ≤ H1.size → (∀ q, q < H.size → ¬ B q → H1[q]? = H[q]?) → va_S A s.heap H1 locs1 → WT p l e R s m args below meth c H1 locs1 (cells + mc) (slots + ms) Q (F0 m pc ls rest) x) : W p l e R s m args below meth c H locs cells slots Q (F0 m pc ls st) := by
  have hr := runVT (below := below) (meth := meth) (locs := locs) (cells := cells) (slots := slots) (e := e) (As := As) (rest := rest) (g := F0 m pc ls st) (b := b) (Ts := lw_all) (own := own) (C := C) (n := n) ⟨hx, hb, hml, hown, hts⟩ (hC l) (cwV n hts (lw_V h1 h2 h3 h4 h5) rfl rfl rfl hd ⟨hRf, hRl⟩)
    ⟨cq_blind, hrc, fun U hU hW => ⟨rfl, by rw [hU]; exact hP, hK.warm hW, hE.go hW (fun q g1 g2 => by rw [hU]; exact hS.2.1 q g1 (fun z => g2 (hA0 q z)))⟩⟩ rfl hn hsize hst (lv_room hW) hdg ⟨hRc, hRs⟩
  intro T hT X
  obtain ⟨oc, st₀, t, T', L, h0, X', hL, e1, ⟨hq, hF⟩, k1, k2⟩ := hr T hT X
  obtain ⟨z1, z2, z3⟩ := hS.call hBA h0 e1 hF hL
  rw [← e1] at hq
  cases oc with
  | returned v =>
    obtain ⟨t2, a1, b1⟩ := kr v T'.heap (locs ++ L) hq z1 z2 z3 T' rfl X'
    exact ⟨t2, k1 v rfl t2 a1, b1⟩
  | threw x =>
    obtain ⟨t2, a1, b1⟩ := kt x T'.heap (locs ++ L) hq z1 z2 z3 T' rfl X'
    exact ⟨t2, k2 x rfl t2 a1, b1⟩
end CQB
theorem va_Zq.opt {C n d : String} {A : Nat → Prop} {U : State} {H : Heap} (h : va_Zq C n d A U H) : ∃ o : Option Nat, va_Z C n d (va_rf o) A U H := by
  rcases h with h | ⟨t, h⟩
  · exact ⟨none, h⟩
  · exact ⟨some t, h⟩
theorem ndJ0_init_2 : yJ0_init_2.name = "<init>" ∧ yJ0_init_2.cls ≠ "java/lang/invoke/MethodHandle" ∧ yJ0_init_2.cls ≠ "java/lang/invoke/VarHandle" ∧ (parseMethodDescriptor yJ0_init_2.desc).map (fun d => d.parameters.length) = some 4 := by decide +kernel
set_option maxHeartbeats 400000 in
theorem ex_J0_1 {D : va_G} {dA : Nat → ClassId} {b0 : Nat} {ad adV : Nat → Nat} (x : Nat) (hb0 : b0 ≤ x) (z : Int32) : Cq D dA b0 ad adV (fun q => q = x) yJ0_init_2 cJ0_init_2 5 none 1 21 0 0 [.ref x, .null, .null, .int (nI 0), .int (nI 0)] (fun H => cAt D x (.inr (1, [.null, .null, .null, .null, .null, .int 0, .int z])) H) (fun v' H => v' = none ∧ cAt D x (.inr (1, [.null, .null, .null, .null, .null, .int 0, .int z])) H) := by
  refine Cq.ofV (by decide) (own := RJ0) rfl (Nat.le_of_ble_eq_true rfl) ?_
  intro p l e R s m args below meth c Q ls hx hb hml hRf hRl hRc hRs hin hts hown hK hE hP hl hret
  have hl : lv_has ls 5 [(0, .ref x), (1, .null), (2, .null), (3, .int (nI 0)), (4, .int (nI 0))] := hl
  have hM := g_one hP
  obtain ⟨o1, hZ1⟩ := hE.2.2.2.1.opt
  obtain ⟨o2, hZ2⟩ := hE.2.2.2.2.opt
  have hA : ∀ q, (fun q => q = x) q → b0 ≤ q := fun q hq => by rw [hq]; exact hb0
  refine lv_aload_n hx hb dJ0_init_2_0 rfl (lv_at hl 0 rfl) ?_
  refine W.objInit hx hb hown (hts _ q130) (hts _ q103) (hts _ q104) rfl (by rw [hml]; exact hl.1) rfl dJ0_init_2_1 (by rw [hRf]; exact Nat.le_of_ble_eq_true rfl) (by rw [hRl]; exact Nat.le_of_ble_eq_true rfl) ?_
  show W p l e R s m args below meth c s.heap [] 0 0 Q (F0 m 4 ls [])
  refine lv_aload_n hx hb dJ0_init_2_4 rfl (lv_at hl 0 rfl) ?_
  refine lv_aload_n hx hb dJ0_init_2_5 rfl (lv_at hl 0 rfl) ?_
  refine g_put hx hb hts in_X1 tyX1 tyX1_ok nmX1 hown hK hM 0 rfl rfl 0 (by decide) q161 rfl rfl rfl rfl (Nat.le_of_ble_eq_true rfl) dJ0_init_2_6 (fun H locs hM => ?_)
  refine lv_aload_n hx hb dJ0_init_2_9 rfl (lv_at hl 0 rfl) ?_
  refine va_gets (ref := RJ0) hx hb hZ1 (hM.2.2.wd hA) hown (hts _ q131) (fun x h => h) dJ0_init_2_10 ?_
  refine g_put hx hb hts in_X1 tyX1 tyX1_ok nmX1 hown hK hM 0 rfl rfl 1 (by decide) q162 rfl rfl (by cases o1 <;> rfl) (by cases o1 <;> rfl) (Nat.le_of_ble_eq_true rfl) dJ0_init_2_13 (fun H locs hM => ?_)
  refine lv_aload_n hx hb dJ0_init_2_16 rfl (lv_at hl 0 rfl) ?_
  refine va_gets (ref := RJ0) hx hb hZ2 (hM.2.2.wd hA) hown (hts _ q133) (fun x h => h) dJ0_init_2_17 ?_
  refine g_put hx hb hts in_X1 tyX1 tyX1_ok nmX1 hown hK hM 0 rfl rfl 2 (by decide) q163 rfl rfl (by cases o2 <;> rfl) (by cases o2 <;> rfl) (Nat.le_of_ble_eq_true rfl) dJ0_init_2_20 (fun H locs hM => ?_)
  refine lv_iload hx hb dJ0_init_2_23 (lv_at hl 4 rfl) ?_
  refine lv_if_eq (tgt := 36) hx hb dJ0_init_2_25 (by decide) (fun _ => ?_) (fun q => absurd rfl q)
  refine lv_aload_n hx hb dJ0_init_2_36 rfl (lv_at hl 0 rfl) ?_
  refine lv_null hx hb dJ0_init_2_37 ?_
  refine g_put hx hb hts in_X1 tyX1 tyX1_ok nmX1 hown hK hM 0 rfl rfl 1 (by decide) q162 rfl rfl rfl rfl (Nat.le_of_ble_eq_true rfl) dJ0_init_2_38 (fun H locs hM => ?_)
  refine lv_aload_n hx hb dJ0_init_2_41 rfl (lv_at hl 0 rfl) ?_
  refine lv_aload_nN hx hb dJ0_init_2_42 rfl (lv_at hl 1 rfl) ?_
  refine g_put hx hb hts in_X1 tyX1 tyX1_ok nmX1 hown hK hM 0 rfl rfl 3 (by decide) q160 rfl rfl rfl rfl (Nat.le_of_ble_eq_true rfl) dJ0_init_2_43 (fun H locs hM => ?_)
  refine lv_aload_n hx hb dJ0_init_2_46 rfl (lv_at hl 0 rfl) ?_
  refine lv_aload_nN hx hb dJ0_init_2_47 rfl (lv_at hl 2 rfl) ?_
  refine g_put hx hb hts in_X1 tyX1 tyX1_ok nmX1 hown hK hM 0 rfl rfl 0 (by decide) q161 rfl rfl rfl rfl (Nat.le_of_ble_eq_true rfl) dJ0_init_2_48 (fun H locs hM => ?_)
  refine lv_iload_n hx hb dJ0_init_2_51 rfl (lv_at hl 3 rfl) ?_
  refine lv_if_ne (tgt := 60) hx hb dJ0_init_2_52 (by decide) (fun q => absurd rfl q) (fun _ => ?_)
  refine lv_aload_n hx hb dJ0_init_2_55 rfl (lv_at hl 0 rfl) ?_
  refine lv_null hx hb dJ0_init_2_56 ?_
  refine g_put hx hb hts in_X1 tyX1 tyX1_ok nmX1 hown hK hM 0 rfl rfl 2 (by decide) q163 rfl rfl rfl rfl (Nat.le_of_ble_eq_true rfl) dJ0_init_2_57 (fun H locs hM => ?_)
  exact hret ⟨rfl, hM.1 0 _ rfl⟩ hM.2.2 dJ0_init_2_60
theorem ndJ1_init : yJ1_init.name = "<init>" ∧ yJ1_init.cls ≠ "java/lang/invoke/MethodHandle" ∧ yJ1_init.cls ≠ "java/lang/invoke/VarHandle" ∧ (parseMethodDescriptor yJ1_init.desc).map (fun d => d.parameters.length) = some 4 := by decide +kernel
set_option maxHeartbeats 400000 in
theorem ex_J1_1 {D : va_G} {dA : Nat → ClassId} {b0 : Nat} {ad adV : Nat → Nat} (x : Nat) (hb0 : b0 ≤ x) (z : Int32) : Cq D dA b0 ad adV (fun q => q = x) yJ1_init cJ1_init 5 none 2 45 0 0 [.ref x, .null, .null, .int (nI 0), .int (nI 0)] (fun H => cAt D x (.inr (1, [.null, .null, .null, .null, .null, .int 0, .int z])) H) (fun v' H => v' = none ∧ cAt D x (.inr (1, [.null, .null, .null, .null, .null, .int 0, .int z])) H) := by
  refine Cq.ofV (by decide) (own := RJ1) rfl (Nat.le_of_ble_eq_true rfl) ?_
  intro p l e R s m args below meth c Q ls hx hb hml hRf hRl hRc hRs hin hts hown hK hE hP hl hret
  have hl : lv_has ls 5 [(0, .ref x), (1, .null), (2, .null), (3, .int (nI 0)), (4, .int (nI 0))] := hl
  refine lv_aload_n hx hb dJ1_init_0 rfl (lv_at hl 0 rfl) ?_
  refine lv_aload_nN hx hb dJ1_init_1 rfl (lv_at hl 1 rfl) ?_
  refine lv_aload_nN hx hb dJ1_init_2 rfl (lv_at hl 2 rfl) ?_
  refine lv_iload_n hx hb dJ1_init_3 rfl (lv_at hl 3 rfl) ?_
  refine lv_iload hx hb dJ1_init_4 (lv_at hl 4 rfl) ?_
  refine cq_callI (y := yJ0_init_2) (b := x) (As := [.null, .null, .int (nI 0), .int (nI 0)]) hx hb hml hown hts hK hE va_S.rf (fun q hq => by rw [hq]; exact hb0) (ex_J0_1 x hb0 z) hP (fun q hq => hq) q154 q155 q62 q156 ndJ0_init_2 rfl (by rw [hRf]; decide) (by rw [hRl]; decide) (Nat.zero_le _) (Nat.zero_le _) hl.1 rfl (Nat.le_of_ble_eq_true rfl) dJ1_init_6 ?_
  rintro _ H locs ⟨rfl, hP1⟩ hz1 hk1 hS1
  exact hret ⟨rfl, hP1⟩ hS1 dJ1_init_9
theorem ndJ2_init : yJ2_init.name = "<init>" ∧ yJ2_init.cls ≠ "java/lang/invoke/MethodHandle" ∧ yJ2_init.cls ≠ "java/lang/invoke/VarHandle" ∧ (parseMethodDescriptor yJ2_init.desc).map (fun d => d.parameters.length) = some 4 := by decide +kernel
set_option maxHeartbeats 400000 in
theorem ex_J2_1 {D : va_G} {dA : Nat → ClassId} {b0 : Nat} {ad adV : Nat → Nat} (x : Nat) (hb0 : b0 ≤ x) (z : Int32) : Cq D dA b0 ad adV (fun q => q = x) yJ2_init cJ2_init 5 none 3 69 0 0 [.ref x, .null, .null, .int (nI 0), .int (nI 0)] (fun H => cAt D x (.inr (1, [.null, .null, .null, .null, .null, .int 0, .int z])) H) (fun v' H => v' = none ∧ cAt D x (.inr (1, [.null, .null, .null, .null, .null, .int 0, .int z])) H) := by
  refine Cq.ofV (by decide) (own := RJ2) rfl (Nat.le_of_ble_eq_true rfl) ?_
  intro p l e R s m args below meth c Q ls hx hb hml hRf hRl hRc hRs hin hts hown hK hE hP hl hret
  have hl : lv_has ls 5 [(0, .ref x), (1, .null), (2, .null), (3, .int (nI 0)), (4, .int (nI 0))] := hl
  refine lv_aload_n hx hb dJ2_init_0 rfl (lv_at hl 0 rfl) ?_
  refine lv_aload_nN hx hb dJ2_init_1 rfl (lv_at hl 1 rfl) ?_
  refine lv_aload_nN hx hb dJ2_init_2 rfl (lv_at hl 2 rfl) ?_
  refine lv_iload_n hx hb dJ2_init_3 rfl (lv_at hl 3 rfl) ?_
  refine lv_iload hx hb dJ2_init_4 (lv_at hl 4 rfl) ?_
  refine cq_callI (y := yJ1_init) (b := x) (As := [.null, .null, .int (nI 0), .int (nI 0)]) hx hb hml hown hts hK hE va_S.rf (fun q hq => by rw [hq]; exact hb0) (ex_J1_1 x hb0 z) hP (fun q hq => hq) q151 q152 q63 q153 ndJ1_init rfl (by rw [hRf]; decide) (by rw [hRl]; decide) (Nat.zero_le _) (Nat.zero_le _) hl.1 rfl (Nat.le_of_ble_eq_true rfl) dJ2_init_6 ?_
  rintro _ H locs ⟨rfl, hP1⟩ hz1 hk1 hS1
  exact hret ⟨rfl, hP1⟩ hS1 dJ2_init_9
theorem ndX1_init : yX1_init.name = "<init>" ∧ yX1_init.cls ≠ "java/lang/invoke/MethodHandle" ∧ yX1_init.cls ≠ "java/lang/invoke/VarHandle" ∧ (parseMethodDescriptor yX1_init.desc).map (fun d => d.parameters.length) = some 0 := by decide +kernel
set_option maxHeartbeats 400000 in
theorem ex_X1 {D : va_G} {dA : Nat → ClassId} {b0 : Nat} {ad adV : Nat → Nat} (x : Nat) (hb0 : b0 ≤ x) : Cq D dA b0 ad adV (fun q => q = x) yX1_init cX1_init 1 none 4 93 0 0 [.ref x] (fun H => cAt D x (.inr (1, [.null, .null, .null, .null, .null, .int 0, .int 0])) H) (fun v' H => v' = none ∧ cAt D x (.inr (1, [.null, .null, .null, .null, .null, .int 0, .int (0)])) H) := by
  refine Cq.ofV (by decide) (own := RX1) rfl (Nat.le_of_ble_eq_true rfl) ?_
  intro p l e R s m args below meth c Q ls hx hb hml hRf hRl hRc hRs hin hts hown hK hE hP hl hret
  have hl : lv_has ls 1 [(0, .ref x)] := hl
  refine lv_aload_n hx hb dX1_init_0 rfl (lv_at hl 0 rfl) ?_
  refine lv_null hx hb dX1_init_1 ?_
  refine lv_null hx hb dX1_init_2 ?_
  refine lv_iconst (v := nI 0) hx hb dX1_init_3 (by decide) ?_
  refine lv_iconst (v := nI 0) hx hb dX1_init_4 (by decide) ?_
  refine cq_callI (y := yJ2_init) (b := x) (As := [.null, .null, .int (nI 0), .int (nI 0)]) hx hb hml hown hts hK hE va_S.rf (fun q hq => by rw [hq]; exact hb0) (ex_J2_1 x hb0 0) hP (fun q hq => hq) q148 q149 q64 q150 ndJ2_init rfl (by rw [hRf]; decide) (by rw [hRl]; decide) (Nat.zero_le _) (Nat.zero_le _) hl.1 rfl (Nat.le_of_ble_eq_true rfl) dX1_init_5 ?_
  rintro _ H locs ⟨rfl, hP1⟩ hz1 hk1 hS1
  exact hret ⟨rfl, hP1⟩ hS1 dX1_init_8
set_option maxHeartbeats 400000 in
theorem ex_J0_18 {D : va_G} {dA : Nat → ClassId} {b0 : Nat} {ad adV : Nat → Nat} (x : Nat) (hb0 : b0 ≤ x) (z : Int32) : Cq D dA b0 ad adV (fun q => q = x) yJ0_init_2 cJ0_init_2 5 none 1 21 0 0 [.ref x, .null, .null, .int (nI 0), .int (nI 0)] (fun H => cAt D x (.inr (18, [.null, .null, .null, .null, .null, .int 0, .int z])) H) (fun v' H => v' = none ∧ cAt D x (.inr (18, [.null, .null, .null, .null, .null, .int 0, .int z])) H) := by
  refine Cq.ofV (by decide) (own := RJ0) rfl (Nat.le_of_ble_eq_true rfl) ?_
  intro p l e R s m args below meth c Q ls hx hb hml hRf hRl hRc hRs hin hts hown hK hE hP hl hret
  have hl : lv_has ls 5 [(0, .ref x), (1, .null), (2, .null), (3, .int (nI 0)), (4, .int (nI 0))] := hl
  have hM := g_one hP
  obtain ⟨o1, hZ1⟩ := hE.2.2.2.1.opt
  obtain ⟨o2, hZ2⟩ := hE.2.2.2.2.opt
  have hA : ∀ q, (fun q => q = x) q → b0 ≤ q := fun q hq => by rw [hq]; exact hb0
  refine lv_aload_n hx hb dJ0_init_2_0 rfl (lv_at hl 0 rfl) ?_
  refine W.objInit hx hb hown (hts _ q130) (hts _ q103) (hts _ q104) rfl (by rw [hml]; exact hl.1) rfl dJ0_init_2_1 (by rw [hRf]; exact Nat.le_of_ble_eq_true rfl) (by rw [hRl]; exact Nat.le_of_ble_eq_true rfl) ?_
  show W p l e R s m args below meth c s.heap [] 0 0 Q (F0 m 4 ls [])
  refine lv_aload_n hx hb dJ0_init_2_4 rfl (lv_at hl 0 rfl) ?_
  refine lv_aload_n hx hb dJ0_init_2_5 rfl (lv_at hl 0 rfl) ?_
  refine g_put hx hb hts in_X18 tyX18 tyX18_ok nmX18 hown hK hM 0 rfl rfl 0 (by decide) q161 rfl rfl rfl rfl (Nat.le_of_ble_eq_true rfl) dJ0_init_2_6 (fun H locs hM => ?_)
  refine lv_aload_n hx hb dJ0_init_2_9 rfl (lv_at hl 0 rfl) ?_
  refine va_gets (ref := RJ0) hx hb hZ1 (hM.2.2.wd hA) hown (hts _ q131) (fun x h => h) dJ0_init_2_10 ?_
  refine g_put hx hb hts in_X18 tyX18 tyX18_ok nmX18 hown hK hM 0 rfl rfl 1 (by decide) q162 rfl rfl (by cases o1 <;> rfl) (by cases o1 <;> rfl) (Nat.le_of_ble_eq_true rfl) dJ0_init_2_13 (fun H locs hM => ?_)
  refine lv_aload_n hx hb dJ0_init_2_16 rfl (lv_at hl 0 rfl) ?_
  refine va_gets (ref := RJ0) hx hb hZ2 (hM.2.2.wd hA) hown (hts _ q133) (fun x h => h) dJ0_init_2_17 ?_
  refine g_put hx hb hts in_X18 tyX18 tyX18_ok nmX18 hown hK hM 0 rfl rfl 2 (by decide) q163 rfl rfl (by cases o2 <;> rfl) (by cases o2 <;> rfl) (Nat.le_of_ble_eq_true rfl) dJ0_init_2_20 (fun H locs hM => ?_)
  refine lv_iload hx hb dJ0_init_2_23 (lv_at hl 4 rfl) ?_
  refine lv_if_eq (tgt := 36) hx hb dJ0_init_2_25 (by decide) (fun _ => ?_) (fun q => absurd rfl q)
  refine lv_aload_n hx hb dJ0_init_2_36 rfl (lv_at hl 0 rfl) ?_
  refine lv_null hx hb dJ0_init_2_37 ?_
  refine g_put hx hb hts in_X18 tyX18 tyX18_ok nmX18 hown hK hM 0 rfl rfl 1 (by decide) q162 rfl rfl rfl rfl (Nat.le_of_ble_eq_true rfl) dJ0_init_2_38 (fun H locs hM => ?_)
  refine lv_aload_n hx hb dJ0_init_2_41 rfl (lv_at hl 0 rfl) ?_
  refine lv_aload_nN hx hb dJ0_init_2_42 rfl (lv_at hl 1 rfl) ?_
  refine g_put hx hb hts in_X18 tyX18 tyX18_ok nmX18 hown hK hM 0 rfl rfl 3 (by decide) q160 rfl rfl rfl rfl (Nat.le_of_ble_eq_true rfl) dJ0_init_2_43 (fun H locs hM => ?_)
  refine lv_aload_n hx hb dJ0_init_2_46 rfl (lv_at hl 0 rfl) ?_
  refine lv_aload_nN hx hb dJ0_init_2_47 rfl (lv_at hl 2 rfl) ?_
  refine g_put hx hb hts in_X18 tyX18 tyX18_ok nmX18 hown hK hM 0 rfl rfl 0 (by decide) q161 rfl rfl rfl rfl (Nat.le_of_ble_eq_true rfl) dJ0_init_2_48 (fun H locs hM => ?_)
  refine lv_iload_n hx hb dJ0_init_2_51 rfl (lv_at hl 3 rfl) ?_
  refine lv_if_ne (tgt := 60) hx hb dJ0_init_2_52 (by decide) (fun q => absurd rfl q) (fun _ => ?_)
  refine lv_aload_n hx hb dJ0_init_2_55 rfl (lv_at hl 0 rfl) ?_
  refine lv_null hx hb dJ0_init_2_56 ?_
  refine g_put hx hb hts in_X18 tyX18 tyX18_ok nmX18 hown hK hM 0 rfl rfl 2 (by decide) q163 rfl rfl rfl rfl (Nat.le_of_ble_eq_true rfl) dJ0_init_2_57 (fun H locs hM => ?_)
  exact hret ⟨rfl, hM.1 0 _ rfl⟩ hM.2.2 dJ0_init_2_60
set_option maxHeartbeats 400000 in
theorem ex_J1_18 {D : va_G} {dA : Nat → ClassId} {b0 : Nat} {ad adV : Nat → Nat} (x : Nat) (hb0 : b0 ≤ x) (z : Int32) : Cq D dA b0 ad adV (fun q => q = x) yJ1_init cJ1_init 5 none 2 45 0 0 [.ref x, .null, .null, .int (nI 0), .int (nI 0)] (fun H => cAt D x (.inr (18, [.null, .null, .null, .null, .null, .int 0, .int z])) H) (fun v' H => v' = none ∧ cAt D x (.inr (18, [.null, .null, .null, .null, .null, .int 0, .int z])) H) := by
  refine Cq.ofV (by decide) (own := RJ1) rfl (Nat.le_of_ble_eq_true rfl) ?_
  intro p l e R s m args below meth c Q ls hx hb hml hRf hRl hRc hRs hin hts hown hK hE hP hl hret
  have hl : lv_has ls 5 [(0, .ref x), (1, .null), (2, .null), (3, .int (nI 0)), (4, .int (nI 0))] := hl
  refine lv_aload_n hx hb dJ1_init_0 rfl (lv_at hl 0 rfl) ?_
  refine lv_aload_nN hx hb dJ1_init_1 rfl (lv_at hl 1 rfl) ?_
  refine lv_aload_nN hx hb dJ1_init_2 rfl (lv_at hl 2 rfl) ?_
  refine lv_iload_n hx hb dJ1_init_3 rfl (lv_at hl 3 rfl) ?_
  refine lv_iload hx hb dJ1_init_4 (lv_at hl 4 rfl) ?_
  refine cq_callI (y := yJ0_init_2) (b := x) (As := [.null, .null, .int (nI 0), .int (nI 0)]) hx hb hml hown hts hK hE va_S.rf (fun q hq => by rw [hq]; exact hb0) (ex_J0_18 x hb0 z) hP (fun q hq => hq) q154 q155 q62 q156 ndJ0_init_2 rfl (by rw [hRf]; decide) (by rw [hRl]; decide) (Nat.zero_le _) (Nat.zero_le _) hl.1 rfl (Nat.le_of_ble_eq_true rfl) dJ1_init_6 ?_
  rintro _ H locs ⟨rfl, hP1⟩ hz1 hk1 hS1
  exact hret ⟨rfl, hP1⟩ hS1 dJ1_init_9
set_option maxHeartbeats 400000 in
theorem ex_J2_18 {D : va_G} {dA : Nat → ClassId} {b0 : Nat} {ad adV : Nat → Nat} (x : Nat) (hb0 : b0 ≤ x) (z : Int32) : Cq D dA b0 ad adV (fun q => q = x) yJ2_init cJ2_init 5 none 3 69 0 0 [.ref x, .null, .null, .int (nI 0), .int (nI 0)] (fun H => cAt D x (.inr (18, [.null, .null, .null, .null, .null, .int 0, .int z])) H) (fun v' H => v' = none ∧ cAt D x (.inr (18, [.null, .null, .null, .null, .null, .int 0, .int z])) H) := by
  refine Cq.ofV (by decide) (own := RJ2) rfl (Nat.le_of_ble_eq_true rfl) ?_
  intro p l e R s m args below meth c Q ls hx hb hml hRf hRl hRc hRs hin hts hown hK hE hP hl hret
  have hl : lv_has ls 5 [(0, .ref x), (1, .null), (2, .null), (3, .int (nI 0)), (4, .int (nI 0))] := hl
  refine lv_aload_n hx hb dJ2_init_0 rfl (lv_at hl 0 rfl) ?_
  refine lv_aload_nN hx hb dJ2_init_1 rfl (lv_at hl 1 rfl) ?_
  refine lv_aload_nN hx hb dJ2_init_2 rfl (lv_at hl 2 rfl) ?_
  refine lv_iload_n hx hb dJ2_init_3 rfl (lv_at hl 3 rfl) ?_
  refine lv_iload hx hb dJ2_init_4 (lv_at hl 4 rfl) ?_
  refine cq_callI (y := yJ1_init) (b := x) (As := [.null, .null, .int (nI 0), .int (nI 0)]) hx hb hml hown hts hK hE va_S.rf (fun q hq => by rw [hq]; exact hb0) (ex_J1_18 x hb0 z) hP (fun q hq => hq) q151 q152 q63 q153 ndJ1_init rfl (by rw [hRf]; decide) (by rw [hRl]; decide) (Nat.zero_le _) (Nat.zero_le _) hl.1 rfl (Nat.le_of_ble_eq_true rfl) dJ2_init_6 ?_
  rintro _ H locs ⟨rfl, hP1⟩ hz1 hk1 hS1
  exact hret ⟨rfl, hP1⟩ hS1 dJ2_init_9
theorem ndX18_init : yX18_init.name = "<init>" ∧ yX18_init.cls ≠ "java/lang/invoke/MethodHandle" ∧ yX18_init.cls ≠ "java/lang/invoke/VarHandle" ∧ (parseMethodDescriptor yX18_init.desc).map (fun d => d.parameters.length) = some 1 := by decide +kernel
set_option maxHeartbeats 400000 in
theorem ex_X18 {D : va_G} {dA : Nat → ClassId} {b0 : Nat} {ad adV : Nat → Nat} (x : Nat) (hb0 : b0 ≤ x) (t : Nat) : Cq D dA b0 ad adV (fun q => q = x) yX18_init cX18_init 2 none 4 93 0 0 [.ref x, .int (nI t)] (fun H => cAt D x (.inr (18, [.null, .null, .null, .null, .null, .int 0, .int 0])) H) (fun v' H => v' = none ∧ cAt D x (.inr (18, [.null, .null, .null, .null, .null, .int 0, .int (nI t)])) H) := by
  refine Cq.ofV (by decide) (own := RX18) rfl (Nat.le_of_ble_eq_true rfl) ?_
  intro p l e R s m args below meth c Q ls hx hb hml hRf hRl hRc hRs hin hts hown hK hE hP hl hret
  have hl : lv_has ls 2 [(0, .ref x), (1, .int (nI t))] := hl
  refine lv_aload_n hx hb dX18_init_0 rfl (lv_at hl 0 rfl) ?_
  refine lv_null hx hb dX18_init_1 ?_
  refine lv_null hx hb dX18_init_2 ?_
  refine lv_iconst (v := nI 0) hx hb dX18_init_3 (by decide) ?_
  refine lv_iconst (v := nI 0) hx hb dX18_init_4 (by decide) ?_
  refine cq_callI (y := yJ2_init) (b := x) (As := [.null, .null, .int (nI 0), .int (nI 0)]) hx hb hml hown hts hK hE va_S.rf (fun q hq => by rw [hq]; exact hb0) (ex_J2_18 x hb0 0) hP (fun q hq => hq) q857 q149 q64 q150 ndJ2_init rfl (by rw [hRf]; decide) (by rw [hRl]; decide) (Nat.zero_le _) (Nat.zero_le _) hl.1 rfl (Nat.le_of_ble_eq_true rfl) dX18_init_5 ?_
  rintro _ H locs ⟨rfl, hP1⟩ hz1 hk1 hS1
  refine lv_aload_n hx hb dX18_init_8 rfl (lv_at hl 0 rfl) ?_
  refine lv_iload_n hx hb dX18_init_9 rfl (lv_at hl 1 rfl) ?_
  refine g_putF hx hb hts in_X18 tyX18 tyX18_ok nmX18 hown hK (g_oneS hP1 hS1) 0 rfl rfl 6 (by decide) q858 rfl rfl hin rfl rfl rfl (Nat.le_of_ble_eq_true rfl) dX18_init_10 (fun H locs hM => ?_)
  exact hret ⟨rfl, hM.1 0 _ rfl⟩ hM.2.2 dX18_init_13
theorem ndX7_init : yX7_init.name = "<init>" ∧ yX7_init.cls ≠ "java/lang/invoke/MethodHandle" ∧ yX7_init.cls ≠ "java/lang/invoke/VarHandle" ∧ (parseMethodDescriptor yX7_init.desc).map (fun d => d.parameters.length) = some 0 := by decide +kernel
set_option maxHeartbeats 400000 in
theorem tm_super {D : va_G} {dA : Nat → ClassId} (x : Nat) : Cg D dA (fun _ => False) yX7_init cX7_init 1 none 1 21 0 0 [.ref x] (fun _ => True) (fun v' H => v' = none) := by
  refine Cg.ofV (by decide) (own := RX7) rfl (Nat.le_of_ble_eq_true rfl) ?_
  intro p l e R s m args below meth c Q ls hx hb hml hRf hRl hRc hRs hin hts hown hK hP hl hret
  have hl : lv_has ls 1 [(0, .ref x)] := hl
  refine lv_aload_n hx hb dX7_init_0 rfl (lv_at hl 0 rfl) ?_
  refine W.objInit hx hb hown (hts _ q831) (hts _ q103) (hts _ q104) rfl (by rw [hml]; exact hl.1) rfl dX7_init_1 (by rw [hRf]; exact Nat.le_of_ble_eq_true rfl) (by rw [hRl]; exact Nat.le_of_ble_eq_true rfl) ?_
  exact hret rfl va_S.rf dX7_init_4
theorem ndX20_init : yX20_init.name = "<init>" ∧ yX20_init.cls ≠ "java/lang/invoke/MethodHandle" ∧ yX20_init.cls ≠ "java/lang/invoke/VarHandle" ∧ (parseMethodDescriptor yX20_init.desc).map (fun d => d.parameters.length) = some 1 := by decide +kernel
set_option maxHeartbeats 400000 in
theorem tm_iX20 {D : va_G} {dA : Nat → ClassId} (x : Nat) (v : Int32) : Cg D dA (fun q => q = x) yX20_init cX20_init 2 none 2 41 0 0 [.ref x, .int v] (fun H => cAt D x (.inr (9, [.int 0])) H) (fun v' H => v' = none ∧ cAt D x (.inr (9, [.int v])) H) := by
  refine Cg.ofV (by decide) (own := RX20) rfl (Nat.le_of_ble_eq_true rfl) ?_
  intro p l e R s m args below meth c Q ls hx hb hml hRf hRl hRc hRs hin hts hown hK hP hl hret
  have hl : lv_has ls 2 [(0, .ref x), (1, .int v)] := hl
  have nq := hK.M 3 rfl
  refine lv_aload_n hx hb dX20_init_0 rfl (lv_at hl 0 rfl) ?_
  refine cg_callIN (A := fun q => q = x) (H0 := s.heap) (y := yX7_init) (b := x) (As := []) hx hb hml hown hts hK va_S.rf (tm_super x) trivial (fun q hq => hq.elim) nq q829 q71 q830 ndX7_init rfl (by rw [hRf]; decide) (by rw [hRl]; decide) (Nat.zero_le _) (Nat.zero_le _) hl.1 rfl (Nat.le_of_ble_eq_true rfl) dX20_init_1 ?_
  rintro _ H locs rfl hz1 hk1 hS1
  have hM := g_oneS (hP.kept (hk1 x hP.lt (fun q => q))) hS1
  refine lv_aload_n hx hb dX20_init_4 rfl (lv_at hl 0 rfl) ?_
  refine lv_iload_n hx hb dX20_init_5 rfl (lv_at hl 1 rfl) ?_
  refine g_putF hx hb hts in_X20 tyX20 tyX20_ok nmX20 hown hK hM 0 rfl rfl 0 (by decide) q882 rfl rfl hin rfl rfl rfl (Nat.le_of_ble_eq_true rfl) dX20_init_6 (fun H locs hM => ?_)
  exact hret ⟨rfl, hM.1 0 _ rfl⟩ hM.2.2 dX20_init_9
theorem ndX17_init : yX17_init.name = "<init>" ∧ yX17_init.cls ≠ "java/lang/invoke/MethodHandle" ∧ yX17_init.cls ≠ "java/lang/invoke/VarHandle" ∧ (parseMethodDescriptor yX17_init.desc).map (fun d => d.parameters.length) = some 1 := by decide +kernel
set_option maxHeartbeats 400000 in
theorem tm_iX17 {D : va_G} {dA : Nat → ClassId} (x : Nat) (v : Int32) : Cg D dA (fun q => q = x) yX17_init cX17_init 2 none 2 41 0 0 [.ref x, .int v] (fun H => cAt D x (.inr (7, [.int 0])) H) (fun v' H => v' = none ∧ cAt D x (.inr (7, [.int v])) H) := by
  refine Cg.ofV (by decide) (own := RX17) rfl (Nat.le_of_ble_eq_true rfl) ?_
  intro p l e R s m args below meth c Q ls hx hb hml hRf hRl hRc hRs hin hts hown hK hP hl hret
  have hl : lv_has ls 2 [(0, .ref x), (1, .int v)] := hl
  have nq := hK.M 7 rfl
  refine lv_aload_n hx hb dX17_init_0 rfl (lv_at hl 0 rfl) ?_
  refine cg_callIN (A := fun q => q = x) (H0 := s.heap) (y := yX7_init) (b := x) (As := []) hx hb hml hown hts hK va_S.rf (tm_super x) trivial (fun q hq => hq.elim) nq q829 q71 q830 ndX7_init rfl (by rw [hRf]; decide) (by rw [hRl]; decide) (Nat.zero_le _) (Nat.zero_le _) hl.1 rfl (Nat.le_of_ble_eq_true rfl) dX17_init_1 ?_
  rintro _ H locs rfl hz1 hk1 hS1
  have hM := g_oneS (hP.kept (hk1 x hP.lt (fun q => q))) hS1
  refine lv_aload_n hx hb dX17_init_4 rfl (lv_at hl 0 rfl) ?_
  refine lv_iload_n hx hb dX17_init_5 rfl (lv_at hl 1 rfl) ?_
  refine g_putF hx hb hts in_X17 tyX17 tyX17_ok nmX17 hown hK hM 0 rfl rfl 0 (by decide) q832 rfl rfl hin rfl rfl rfl (Nat.le_of_ble_eq_true rfl) dX17_init_6 (fun H locs hM => ?_)
  exact hret ⟨rfl, hM.1 0 _ rfl⟩ hM.2.2 dX17_init_9
theorem ndX19_init : yX19_init.name = "<init>" ∧ yX19_init.cls ≠ "java/lang/invoke/MethodHandle" ∧ yX19_init.cls ≠ "java/lang/invoke/VarHandle" ∧ (parseMethodDescriptor yX19_init.desc).map (fun d => d.parameters.length) = some 1 := by decide +kernel
set_option maxHeartbeats 400000 in
theorem tm_iX19 {D : va_G} {dA : Nat → ClassId} (x : Nat) (y : Nat) : Cg D dA (fun q => q = x) yX19_init cX19_init 2 none 2 41 0 0 [.ref x, .ref y] (fun H => cAt D x (.inr (8, [.null])) H) (fun v' H => v' = none ∧ cAt D x (.inr (8, [.ref y])) H) := by
  refine Cg.ofV (by decide) (own := RX19) rfl (Nat.le_of_ble_eq_true rfl) ?_
  intro p l e R s m args below meth c Q ls hx hb hml hRf hRl hRc hRs hin hts hown hK hP hl hret
  have hl : lv_has ls 2 [(0, .ref x), (1, .ref y)] := hl
  have nq := hK.M 10 rfl
  refine lv_aload_n hx hb dX19_init_0 rfl (lv_at hl 0 rfl) ?_
  refine cg_callIN (A := fun q => q = x) (H0 := s.heap) (y := yX7_init) (b := x) (As := []) hx hb hml hown hts hK va_S.rf (tm_super x) trivial (fun q hq => hq.elim) nq q829 q71 q830 ndX7_init rfl (by rw [hRf]; decide) (by rw [hRl]; decide) (Nat.zero_le _) (Nat.zero_le _) hl.1 rfl (Nat.le_of_ble_eq_true rfl) dX19_init_1 ?_
  rintro _ H locs rfl hz1 hk1 hS1
  have hM := g_oneS (hP.kept (hk1 x hP.lt (fun q => q))) hS1
  refine lv_aload_n hx hb dX19_init_4 rfl (lv_at hl 0 rfl) ?_
  refine lv_aload_n hx hb dX19_init_5 rfl (lv_at hl 1 rfl) ?_
  refine g_putF hx hb hts in_X19 tyX19 tyX19_ok nmX19 hown hK hM 0 rfl rfl 0 (by decide) q870 rfl rfl hin rfl rfl rfl (Nat.le_of_ble_eq_true rfl) dX19_init_6 (fun H locs hM => ?_)
  exact hret ⟨rfl, hM.1 0 _ rfl⟩ hM.2.2 dX19_init_9
theorem ndX8_init : yX8_init.name = "<init>" ∧ yX8_init.cls ≠ "java/lang/invoke/MethodHandle" ∧ yX8_init.cls ≠ "java/lang/invoke/VarHandle" ∧ (parseMethodDescriptor yX8_init.desc).map (fun d => d.parameters.length) = some 3 := by decide +kernel
set_option maxHeartbeats 400000 in
theorem tm_iX8 {D : va_G} {dA : Nat → ClassId} (x : Nat) (g : Int32) (y z : Nat) : Cg D dA (fun q => q = x) yX8_init cX8_init 4 none 2 41 0 0 [.ref x, .int g, .ref y, .ref z] (fun H => cAt D x (.inr (6, [.int 0, .null, .null])) H) (fun v' H => v' = none ∧ cAt D x (.inr (6, [.int g, .ref y, .ref z])) H) := by
  refine Cg.ofV (by decide) (own := RX8) rfl (Nat.le_of_ble_eq_true rfl) ?_
  intro p l e R s m args below meth c Q ls hx hb hml hRf hRl hRc hRs hin hts hown hK hP hl hret
  have hl : lv_has ls 4 [(0, .ref x), (1, .int g), (2, .ref y), (3, .ref z)] := hl
  have nq := hK.M 11 rfl
  refine lv_aload_n hx hb dX8_init_0 rfl (lv_at hl 0 rfl) ?_
  refine cg_callIN (A := fun q => q = x) (H0 := s.heap) (y := yX7_init) (b := x) (As := []) hx hb hml hown hts hK va_S.rf (tm_super x) trivial (fun q hq => hq.elim) nq q829 q71 q830 ndX7_init rfl (by rw [hRf]; decide) (by rw [hRl]; decide) (Nat.zero_le _) (Nat.zero_le _) hl.1 rfl (Nat.le_of_ble_eq_true rfl) dX8_init_1 ?_
  rintro _ H locs rfl hz1 hk1 hS1
  have hM := g_oneS (hP.kept (hk1 x hP.lt (fun q => q))) hS1
  refine lv_aload_n hx hb dX8_init_4 rfl (lv_at hl 0 rfl) ?_
  refine lv_iload_n hx hb dX8_init_5 rfl (lv_at hl 1 rfl) ?_
  refine g_putF hx hb hts in_X8 tyX8 tyX8_ok nmX8 hown hK hM 0 rfl rfl 0 (by decide) q893 rfl rfl hin rfl rfl rfl (Nat.le_of_ble_eq_true rfl) dX8_init_6 (fun H locs hM => ?_)
  refine lv_aload_n hx hb dX8_init_9 rfl (lv_at hl 0 rfl) ?_
  refine lv_aload_n hx hb dX8_init_10 rfl (lv_at hl 2 rfl) ?_
  refine g_putF hx hb hts in_X8 tyX8 tyX8_ok nmX8 hown hK hM 0 rfl rfl 1 (by decide) q894 rfl rfl hin rfl rfl rfl (Nat.le_of_ble_eq_true rfl) dX8_init_11 (fun H locs hM => ?_)
  refine lv_aload_n hx hb dX8_init_14 rfl (lv_at hl 0 rfl) ?_
  refine lv_aload_n hx hb dX8_init_15 rfl (lv_at hl 3 rfl) ?_
  refine g_putF hx hb hts in_X8 tyX8 tyX8_ok nmX8 hown hK hM 0 rfl rfl 2 (by decide) q895 rfl rfl hin rfl rfl rfl (Nat.le_of_ble_eq_true rfl) dX8_init_16 (fun H locs hM => ?_)
  exact hret ⟨rfl, hM.1 0 _ rfl⟩ hM.2.2 dX8_init_19
theorem ndX16_init : yX16_init.name = "<init>" ∧ yX16_init.cls ≠ "java/lang/invoke/MethodHandle" ∧ yX16_init.cls ≠ "java/lang/invoke/VarHandle" ∧ (parseMethodDescriptor yX16_init.desc).map (fun d => d.parameters.length) = some 3 := by decide +kernel
set_option maxHeartbeats 400000 in
theorem rd_init {D : va_G} {dA : Nat → ClassId} (x sn ba n : Nat) : Cg D dA (fun q => q = x) yX16_init cX16_init 4 none 1 21 0 0 [.ref x, .ref sn, .ref ba, .int (nI n)] (fun H => cAt D x (.inr (17, [.null, .null, .int 0, .int 0, .int 0])) H) (fun v' H => v' = none ∧ cAt D x (.inr (17, [.ref sn, .ref ba, .int (nI n), .int 0, .int 0])) H) := by
  refine Cg.ofV (by decide) (own := RX16) rfl (Nat.le_of_ble_eq_true rfl) ?_
  intro p l e R s m args below meth c Q ls hx hb hml hRf hRl hRc hRs hin hts hown hK hP hl hret
  have hl : lv_has ls 4 [(0, .ref x), (1, .ref sn), (2, .ref ba), (3, .int (nI n))] := hl
  have hM := g_one hP
  refine lv_aload_n hx hb dX16_init_0 rfl (lv_at hl 0 rfl) ?_
  refine W.objInit hx hb hown (hts _ q688) (hts _ q103) (hts _ q104) rfl (by rw [hml]; exact hl.1) rfl dX16_init_1 (by rw [hRf]; exact Nat.le_of_ble_eq_true rfl) (by rw [hRl]; exact Nat.le_of_ble_eq_true rfl) ?_
  refine lv_aload_n hx hb dX16_init_4 rfl (lv_at hl 0 rfl) ?_
  refine lv_aload_n hx hb dX16_init_5 rfl (lv_at hl 1 rfl) ?_
  refine g_putF hx hb hts in_X16 tyX16 tyX16_ok nmX16 hown hK hM 0 rfl rfl 0 (by decide) q689 rfl rfl hin rfl rfl rfl (Nat.le_of_ble_eq_true rfl) dX16_init_6 (fun H locs hM => ?_)
  refine lv_aload_n hx hb dX16_init_9 rfl (lv_at hl 0 rfl) ?_
  refine lv_aload_n hx hb dX16_init_10 rfl (lv_at hl 2 rfl) ?_
  refine g_putF hx hb hts in_X16 tyX16 tyX16_ok nmX16 hown hK hM 0 rfl rfl 1 (by decide) q690 rfl rfl hin rfl rfl rfl (Nat.le_of_ble_eq_true rfl) dX16_init_11 (fun H locs hM => ?_)
  refine lv_aload_n hx hb dX16_init_14 rfl (lv_at hl 0 rfl) ?_
  refine lv_iload_n hx hb dX16_init_15 rfl (lv_at hl 3 rfl) ?_
  refine g_putF hx hb hts in_X16 tyX16 tyX16_ok nmX16 hown hK hM 0 rfl rfl 2 (by decide) q691 rfl rfl hin rfl rfl rfl (Nat.le_of_ble_eq_true rfl) dX16_init_16 (fun H locs hM => ?_)
  exact hret ⟨rfl, hM.1 0 _ rfl⟩ hM.2.2 dX16_init_19
