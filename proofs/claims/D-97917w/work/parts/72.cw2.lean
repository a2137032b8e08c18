/-! ACTS: their contracts; need by a literal; finds; the meadows' methods called -/
set_option maxRecDepth 100000
theorem va_uself {α : Type} (a : Nat → α) (j : Nat) : va_up a j (a j) = a := by
  funext k
  unfold va_up
  split
  · rename_i e; rw [e]
  · rfl
theorem va_S.wd {A A' : Nat → Prop} {H0 H : Heap} {locs : List Loc} (h : va_S A H0 H locs) (hA : ∀ q, A q → A' q) : va_S A' H0 H locs := ⟨h.1, fun q h1 h2 => h.2.1 q h1 (fun z => h2 (hA q z)), fun q hq => hA _ (h.2.2 q hq)⟩
/-- no cow past the last -/
def cmZ (r0 ri : Nat → Int32) (cw : Nat → Nat → Option Nat) : Prop := (∀ w, cl (r0 3) ≤ w → w < 5 → cw 0 w = none) ∧ (∀ w, cl (ri 3) ≤ w → w < 5 → cw 1 w = none)
/-- a sheet's kind: its array's type, its width -/
def shT (wi : Nat) : Nat := if wi = 0 then 1 else if wi = 1 then 2 else 0
def shB (wi : Nat) : Int32 := if wi = 0 then nI 8 else if wi = 1 then nI 16 else nI 32
/-- the sheets, off the acts' cells -/
def shOK (D : va_G) (h : Nat → Nat) (dA : Nat → ClassId) (hd : Nat → Option Nat) (B : Nat → Prop) (a : Nat → Nat → Int32) (H : Heap) : Prop := ∃ ya : Nat → Nat, (∀ u v, u < 4 → v < 4 → ¬ a 6 u = 0 → ¬ a 6 v = 0 → (ya u = ya v → u = v) ∧ ¬ hd u = some (ya v)) ∧ ∀ u, u < 4 → (a 6 u = 0 ∧ hd u = none) ∨ (∃ x wi, wi < 3 ∧ hd u = some x ∧ B x ∧ B (ya u) ∧ a 6 u = shB wi ∧ okN (a 7 u) 40 ∧ cAt D x (.inr (19 + wi, [.ref (ya u)])) H ∧ cAt D (ya u) (.inl (dA (shT wi), cl (a 7 u), .inl (fun k => a 8 (40 * u + k)))) H)
theorem shOK.to {D : va_G} {h : Nat → Nat} {dA : Nat → ClassId} {hd : Nat → Option Nat} {B : Nat → Prop} {a a' : Nat → Nat → Int32} {H H1 : Heap} {locs : List Loc} (hs : shOK D h dA hd B a H) (hB : ∀ q, B q → ¬ cmA h q) (e : a' 6 = a 6 ∧ a' 7 = a 7 ∧ a' 8 = a 8) (hS : va_S (cmA h) H H1 locs) : shOK D h dA hd B a' H1 := by
  obtain ⟨e6, e7, e8⟩ := e
  obtain ⟨ya, h1, h2⟩ := hs
  unfold shOK
  rw [e6, e7, e8]
  refine ⟨ya, h1, fun u hu => ?_⟩
  rcases h2 u hu with q | ⟨x, wi, q1, q2, q3, q4, q5, q6, q7, q8⟩
  · exact Or.inl q
  · exact Or.inr ⟨x, wi, q1, q2, q3, q4, q5, q6, q7.kept (hS.2.1 x q7.lt (hB _ q3)), q8.kept (hS.2.1 _ q8.lt (hB _ q4))⟩
def cmQ (D : va_G) (dA : Nat → ClassId) (h : Nat → Nat) (hd : Nat → Option Nat) (A0 : Nat → Prop) (f : Nat → Int32) (a : Nat → Nat → Int32) (ri rt : Nat → Int32) (cw tx : Nat → Nat → Option Nat) (H : Heap) : Prop := ∃ B S : Nat → Prop, ((∀ q, B q → ¬ cmA h q) ∧ (∀ q, S q → ¬ cmA h q) ∧ (∀ q, S q → ¬ B q) ∧ (∀ q, B q ∨ S q → A0 q ∧ q < H.size)) ∧ cmPl D h B (a 1) ri rt cw tx H ∧ (cl (a 1 3) ≤ 5 ∧ cl (ri 3) ≤ 5 ∧ cl (rt 3) ≤ 5) ∧ (¬ f 4 = 0 → ri = a 2) ∧ cmZ (a 1) ri cw ∧ shOK D h dA hd S a H
/-- an act: from f, a to f', a', answers v -/
def CmF (y : MethodName) (cc : ByteArray) (maxL : Nat) (hh : List (Nat × Nat × Nat × Nat)) (fr lo : Nat) (As : List Value) (f : Nat → Int32) (a : Nat → Nat → Int32) (v : Int32) (f' : Nat → Int32) (a' : Nat → Nat → Int32) : Prop :=
  ∀ (D : va_G) (dA : Nat → ClassId) (h : Nat → Nat) (fc : Int32) (wk : Nat → Nat → Int32) (hd : Nat → Option Nat) (ri rt : Nat → Int32) (cw tx : Nat → Nat → Option Nat) (nm : Nat → Nat → Int32) (A0 : Nat → Prop) (b2 : Nat), cmI h → (∀ q, cmA h q → A0 q) → (∀ q, b2 ≤ q → A0 q) →
    Cw D dA A0 y cc maxL (some .int) hh fr lo 0 0 (.ref (h 0) :: As) (fun H => b2 ≤ H.size ∧ va_P D cmCl (cmWs h dA f a fc wk hd ri rt cw tx nm) H ∧ cmQ D dA h hd A0 f a ri rt cw tx H)
      (fun v' H => v' = some (.int v) ∧ ∃ fc' wk' hd' ri' rt' cw' tx' nm', va_P D cmCl (cmWs h dA f' a' fc' wk' hd' ri' rt' cw' tx' nm') H ∧ cmQ D dA h hd' A0 f' a' ri' rt' cw' tx' H)
theorem CmF.ofI {y : MethodName} {cc : ByteArray} {maxL fr lo : Nat} {hh : List (Nat × Nat × Nat × Nat)} {As : List Value} {f f' : Nat → Int32} {a a' : Nat → Nat → Int32} {v : Int32} (hy : plainName y.cls = true) (hcl : y.cls = RX0) (hlen : (lg_sl (.ref 0 :: As)).length ≤ maxL)
    (body : ∀ (p : Program) (l : Launch) (e : Env) (R : Room) (s : State) (m : MethodId) (args : Array Value) (below : List Frame) (meth : Method) (c : Code) (Q : State → Prop) (D : va_G) (dA : Nat → ClassId) (h : Nat → Nat) (fc : Int32) (wk : Nat → Nat → Int32) (hd : Nat → Option Nat) (ri rt : Nat → Int32) (cw tx : Nat → Nat → Option Nat) (nm : Nat → Nat → Int32) (B S : Nat → Prop) (ls : Array Slot), p.tables.exec = Jvm.exec → c.code = cc → c.maxLocals = maxL → R.frames = fr → R.locals = lo → R.cells = 0 → R.slots = 0 → c.exceptionTable.toList = tableOf hh → (∀ w ∈ lw_all, w.before args s = true) → s.vm.findClass RX0 = some m.cls → cmK D dA s → cmI h → (∀ q, B q → ¬ cmA h q) → (∀ q, S q → ¬ cmA h q) → cmPl D h B (a 1) ri rt cw tx s.heap → (cl (a 1 3) ≤ 5 ∧ cl (ri 3) ≤ 5 ∧ cl (rt 3) ≤ 5) → (¬ f 4 = 0 → ri = a 2) → cmZ (a 1) ri cw → shOK D h dA hd S a s.heap → cmH D h dA s.heap s.heap [] f a fc wk hd ri rt cw tx nm → lv_has ls maxL (lv_args 0 (.ref (h 0) :: As)) →
      (∀ {H : Heap} {locs : List Loc} {pc : Nat} {ls : Array Slot} {x : Int32} {fc' : Int32} {wk' : Nat → Nat → Int32} {ri' rt' : Nat → Int32} {cw' tx' : Nat → Nat → Option Nat} {nm' : Nat → Nat → Int32}, cmH D h dA s.heap H locs f' a' fc' wk' hd ri' rt' cw' tx' nm' → cmPl D h B (a' 1) ri' rt' cw' tx' H → (cl (a' 1 3) ≤ 5 ∧ cl (ri' 3) ≤ 5 ∧ cl (rt' 3) ≤ 5) → (¬ f' 4 = 0 → ri' = a' 2) → cmZ (a' 1) ri' cw' → shOK D h dA hd S a' H → x = v → decode cc pc = .ok (.ireturn, 1) → W p l e R s m args below meth c H locs 0 0 Q (F0 m pc ls [.int x])) →
      (∀ {H : Heap} {locs : List Loc} {pc : Nat} {ls : Array Slot} {x : Int32} {fc' : Int32} {wk' : Nat → Nat → Int32} {nm' : Nat → Nat → Int32}, cmH D h dA s.heap H locs f' a' fc' wk' hd ri rt cw tx nm' → mwEq (a 1) (a' 1) → f' 4 = f 4 → a' 2 = a 2 → (a' 6 = a 6 ∧ a' 7 = a 7 ∧ a' 8 = a 8) → x = v → decode cc pc = .ok (.ireturn, 1) → W p l e R s m args below meth c H locs 0 0 Q (F0 m pc ls [.int x])) →
      W p l e R s m args below meth c s.heap [] 0 0 Q (F0 m 0 ls [])) : CmF y cc maxL hh fr lo As f a v f' a' := by
  intro D dA h fc wk hd ri rt cw tx nm A0 b2 hI hA hf
  refine Cw.ofI hy hcl hlen ?_
  intro p l e R s m args below meth c Q ls hx hb hml hRf hRl hRc hRs htab hts hown hK hP hl hret
  obtain ⟨-, hP, B, S, ⟨hB, hS0, hBS, hR⟩, hQ, hN, hIm, hZ, hSh⟩ := hP
  refine body p l e R s m args below meth c Q D dA h fc wk hd ri rt cw tx nm B S ls hx hb hml hRf hRl hRc hRs htab hts hown hK hI hB hS0 hQ hN hIm hZ hSh (cmH.of hI hP va_S.rf) hl ?_ ?_
  · intro H locs pc ls x fc' wk' ri' rt' cw' tx' nm' hM h1 h2 h3 h4 h5 hv hdg
    exact hret ⟨by rw [hv], _, _, _, _, _, _, _, _, hM.1, B, S, ⟨hB, hS0, hBS, fun q hq => ⟨(hR q hq).1, Nat.lt_of_lt_of_le (hR q hq).2 hM.2.2.1⟩⟩, h1, h2, h3, h4, h5⟩ (hM.2.2.wd hA) hdg
  · intro H locs pc ls x fc' wk' nm' hM h1 h2 h3 h6 hv hdg
    exact hret ⟨by rw [hv], _, _, _, _, _, _, _, _, hM.1, B, S, ⟨hB, hS0, hBS, fun q hq => ⟨(hR q hq).1, Nat.lt_of_lt_of_le (hR q hq).2 hM.2.2.1⟩⟩, hQ.at hB hN h1 mwEq.rf mwEq.rf hM.2.2, ⟨by rw [h1.1]; exact hN.1, hN.2⟩, by rw [h2, h3]; exact hIm, by unfold cmZ; rw [h1.1]; exact hZ, hSh.to hS0 h6 hM.2.2⟩ (hM.2.2.wd hA) hdg
section CWC
variable {p : Program} {l : Launch} {e : Env} {R : Room} {s : State} {m : MethodId} {args : Array Value} {below : List Frame} {meth : Method} {c : Code} {H H0 : Heap} {locs : List Loc} {cells slots : Nat} {Q : State → Prop}
variable {cc : ByteArray} {pc : Nat} {ls : Array Slot} {rest : List Value} {D : va_G} {dA : Nat → ClassId} {h : Nat → Nat} {f : Nat → Int32} {a : Nat → Nat → Int32} {fc : Int32} {wk : Nat → Nat → Int32} {hd : Nat → Option Nat} {ri rt : Nat → Int32} {cw tx : Nat → Nat → Option Nat} {nm : Nat → Nat → Int32}
theorem cm_n1 {nL idx hpc : Nat} {c0 : Int32} {hh : List (Nat × Nat × Nat × Nat)} (hx : p.tables.exec = Jvm.exec) (hb : c.code = cc) (hml : c.maxLocals = nL) (hown : s.vm.findClass RX0 = some m.cls) (hts : ∀ w ∈ lw_all, w.before args s = true) (hK : cmK D dA s) (hI : cmI h) (hM : cmH D h dA H0 H locs f a fc wk hd ri rt cw tx nm) (htab : c.exceptionTable.toList = tableOf hh) (hex : exF hh pc = some (hpc, 8)) (h1 : Cond.methodLink RX0 idx yX0_need ∈ lw_all) (hRf : 2 ≤ R.frames) (hRl : 60 ≤ R.locals) (hRc : cells ≤ R.cells) (hRs : slots ≤ R.slots) (hsize : ls.size = nL) (hW : (rest.map fun v => v.category).sum ≤ 8) (hdg : decode cc pc = .ok (.invokevirtual idx, 3))
    (kt : ∀ (locs1 : List Loc), cmH D h dA H0 H locs1 f a fc wk hd ri rt cw tx nm → W p l e R s m args below meth c H locs1 cells slots Q (F0 m (pc + 3) ls rest)) : W p l e R s m args below meth c H locs cells slots Q (F0 m pc ls (.int c0 :: .int (nI 1) :: .ref (h 0) :: rest)) :=
  cm_need (b := True) hx hb hml hown hts hK hI hM htab hex h1 hRf hRl hRc hRs hsize hW hdg (fun _ => kt) (fun q => absurd trivial q)
theorem cm_n0 {nL idx hpc : Nat} {c0 : Int32} {hh : List (Nat × Nat × Nat × Nat)} (hx : p.tables.exec = Jvm.exec) (hb : c.code = cc) (hml : c.maxLocals = nL) (hown : s.vm.findClass RX0 = some m.cls) (hts : ∀ w ∈ lw_all, w.before args s = true) (hK : cmK D dA s) (hI : cmI h) (hM : cmH D h dA H0 H locs f a fc wk hd ri rt cw tx nm) (htab : c.exceptionTable.toList = tableOf hh) (hex : exF hh pc = some (hpc, 8)) (h1 : Cond.methodLink RX0 idx yX0_need ∈ lw_all) (hRf : 2 ≤ R.frames) (hRl : 60 ≤ R.locals) (hRc : cells ≤ R.cells) (hRs : slots ≤ R.slots) (hsize : ls.size = nL) (hW : (rest.map fun v => v.category).sum ≤ 8) (hdg : decode cc pc = .ok (.invokevirtual idx, 3))
    (kf : ∀ (H1 : Heap) (locs1 : List Loc), cmH D h dA H0 H1 locs1 f a c0 wk hd ri rt cw tx nm → W p l e R s m args below meth c H1 locs1 cells slots Q (F0 m hpc ls [.ref (h 1)])) : W p l e R s m args below meth c H locs cells slots Q (F0 m pc ls (.int c0 :: .int (nI 0) :: .ref (h 0) :: rest)) :=
  cm_need (b := False) hx hb hml hown hts hK hI hM htab hex h1 hRf hRl hRc hRs hsize hW hdg (fun q => q.elim) (fun _ => kf)
theorem cm_fin {nL idx : Nat} (hx : p.tables.exec = Jvm.exec) (hb : c.code = cc) (hml : c.maxLocals = nL) (hown : s.vm.findClass RX0 = some m.cls) (hts : ∀ w ∈ lw_all, w.before args s = true) (hK : cmK D dA s) (hI : cmI h) (k : Nat) (hk : k < 6) (hM : cmH D h dA H0 H locs f a (nI k) wk hd ri rt cw tx nm) (h1 : Cond.methodLink RX0 idx yX0_finds ∈ lw_all) (hRf : 1 ≤ R.frames) (hRl : 21 ≤ R.locals) (hRc : cells ≤ R.cells) (hRs : slots ≤ R.slots) (hsize : ls.size = nL) (hW : (rest.map fun v => v.category).sum ≤ 8) (hdg : decode cc pc = .ok (.invokevirtual idx, 3))
    (kk : ∀ (H1 : Heap) (locs1 : List Loc), cmH D h dA H0 H1 locs1 f (mErr a k) (nI k) wk hd ri rt cw tx nm → W p l e R s m args below meth c H1 locs1 cells slots Q (F0 m (pc + 3) ls (.int ((-1000000000 : Int32) - nI k) :: rest))) : W p l e R s m args below meth c H locs cells slots Q (F0 m pc ls (.ref (h 1) :: .ref (h 0) :: rest)) := by
  refine cg_callV (y := yX0_finds) (b := h 0) (C := RX0) (As := [.ref (h 1)]) hx hb hml hown hts hK hM.2.2 (cm_finds D dA h f a k hk wk hd ri rt cw tx nm hI) hM.1 (fun q hq => hq) (cAt.recv hK (hM.1 0 _ rfl) rfl) h1 q343 qs2 q61 q344 ndX0_finds rfl hRf hRl (by omega) (by omega) hsize rfl hW hdg ?_
  intro v' H1 locs1 hq hz hk1 hS1
  obtain ⟨rfl, hq⟩ := hq
  exact kk H1 locs1 (cmH.of hI hq hS1)
/-- a method of the meadow -/
theorem cm_mcall0 {y : MethodName} {cy : ByteArray} {maxL nL fr lo idx n : Nat} {ret : Option FieldType} {As : List Value} {v : Option Value} {st : List Value} {r2 : Nat → Int32} (hx : p.tables.exec = Jvm.exec) (hb : c.code = cc) (hml : c.maxLocals = nL) (hown : s.vm.findClass RX0 = some m.cls) (hts : ∀ w ∈ lw_all, w.before args s = true) (hK : cmK D dA s) (hI : cmI h) {B : Nat → Prop} (hB : ∀ q, B q → ¬ cmA h q) (hM : cmH D h dA H0 H locs f a fc wk hd ri rt cw tx nm) (hQ : cmPl D h B (a 1) ri rt cw tx H) (hN : cl (a 1 3) ≤ 5)
    (hC : MwF y cy maxL ret fr lo As (a 1) v r2) (h1 : Cond.methodLink RX0 idx y ∈ lw_all) (h2 : Cond.instanceMethod y ∈ lw_all) (h3 : Cond.selects RX2 y y ∈ lw_all) (h5 : Cond.code y cy maxL ret ∈ lw_all)
    (hd' : y.cls = RX2 ∧ y.cls ≠ "java/lang/invoke/MethodHandle" ∧ y.cls ≠ "java/lang/invoke/VarHandle" ∧ (parseMethodDescriptor y.desc).map (fun d => d.parameters.length) = some n) (hn : As.length = n) (hRf : fr + 1 ≤ R.frames) (hRl : 8 + (maxL + 11) + lo ≤ R.locals) (hRc : cells ≤ R.cells) (hRs : slots ≤ R.slots) (hsize : ls.size = nL) (hst : st = As.reverse ++ .ref (hm0 h 0) :: rest) (hW : (rest.map fun v => v.category).sum ≤ 8) (hdg : decode cc pc = .ok (.invokevirtual idx, 3))
    (kk : ∀ (H1 : Heap) (locs1 : List Loc) (nm1 : Nat → Nat → Int32), cmH D h dA H0 H1 locs1 f (va_up a 1 r2) fc wk hd ri rt cw tx nm1 → W p l e R s m args below meth c H1 locs1 cells slots Q (F0 m (pc + 3) ls (v.toList ++ rest))) : W p l e R s m args below meth c H locs cells slots Q (F0 m pc ls st) := by
  have hP := (cm_parts hM.1).2.1
  refine cg_callV (y := y) (b := hm0 h 0) (C := RX2) hx hb hml hown hts hK hM.2.2 (hC D dA (hm0 h) (cw 0) (tx 0) (nm 0) (h 2) hI.m0) ⟨hP, hQ.1.in hN (fun q hq hq2 => hB q hq hq2.m0)⟩ (fun q hq => hq.m0) (cAt.recv hK (hP 0 _ rfl) rfl) h1 h2 h3 q66 h5 hd' hn hRf hRl (by omega) (by omega) hsize hst hW hdg ?_
  intro v' H1 locs1 hq hz hk hS
  obtain ⟨rfl, nm', hP1⟩ := hq
  have hu := cm_upd0 hI hM.1 hk hP1
  rw [va_uself, va_uself] at hu
  exact kk H1 locs1 _ (cmH.of hI hu hS)
/-- a method of the meadow that's tried -/
theorem cm_mcall2 {y : MethodName} {cy : ByteArray} {maxL nL fr lo idx n : Nat} {ret : Option FieldType} {As : List Value} {v : Option Value} {st : List Value} {r2 : Nat → Int32} (hx : p.tables.exec = Jvm.exec) (hb : c.code = cc) (hml : c.maxLocals = nL) (hown : s.vm.findClass RX0 = some m.cls) (hts : ∀ w ∈ lw_all, w.before args s = true) (hK : cmK D dA s) (hI : cmI h) {B : Nat → Prop} (hB : ∀ q, B q → ¬ cmA h q) (hM : cmH D h dA H0 H locs f a fc wk hd ri rt cw tx nm) (hQ : cmPl D h B (a 1) ri rt cw tx H) (hN : cl (rt 3) ≤ 5)
    (hC : MwF y cy maxL ret fr lo As rt v r2) (h1 : Cond.methodLink RX0 idx y ∈ lw_all) (h2 : Cond.instanceMethod y ∈ lw_all) (h3 : Cond.selects RX2 y y ∈ lw_all) (h5 : Cond.code y cy maxL ret ∈ lw_all)
    (hd' : y.cls = RX2 ∧ y.cls ≠ "java/lang/invoke/MethodHandle" ∧ y.cls ≠ "java/lang/invoke/VarHandle" ∧ (parseMethodDescriptor y.desc).map (fun d => d.parameters.length) = some n) (hn : As.length = n) (hRf : fr + 1 ≤ R.frames) (hRl : 8 + (maxL + 11) + lo ≤ R.locals) (hRc : cells ≤ R.cells) (hRs : slots ≤ R.slots) (hsize : ls.size = nL) (hst : st = As.reverse ++ .ref (hm2 h 0) :: rest) (hW : (rest.map fun v => v.category).sum ≤ 8) (hdg : decode cc pc = .ok (.invokevirtual idx, 3))
    (kk : ∀ (H1 : Heap) (locs1 : List Loc) (nm1 : Nat → Nat → Int32), cmH D h dA H0 H1 locs1 f a fc wk hd ri r2 cw tx nm1 → W p l e R s m args below meth c H1 locs1 cells slots Q (F0 m (pc + 3) ls (v.toList ++ rest))) : W p l e R s m args below meth c H locs cells slots Q (F0 m pc ls st) := by
  have hP := (cm_parts hM.1).2.2.2
  refine cg_callV (y := y) (b := hm2 h 0) (C := RX2) hx hb hml hown hts hK hM.2.2 (hC D dA (hm2 h) (cw 2) (tx 2) (nm 2) (h 2) hI.m2) ⟨hP, hQ.2.2.in hN (fun q hq hq2 => hB q hq hq2.m2)⟩ (fun q hq => hq.m2) (cAt.recv hK (hP 0 _ rfl) rfl) h1 h2 h3 q66 h5 hd' hn hRf hRl (by omega) (by omega) hsize hst hW hdg ?_
  intro v' H1 locs1 hq hz hk hS
  obtain ⟨rfl, nm', hP1⟩ := hq
  have hu := cm_upd2 hI hM.1 hk hP1
  rw [va_uself, va_uself] at hu
  exact kk H1 locs1 _ (cmH.of hI hu hS)
end CWC
