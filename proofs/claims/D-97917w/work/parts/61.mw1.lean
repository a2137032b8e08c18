/-! THE MEADOW: contracts, rows -/
set_option maxRecDepth 100000
/-- reads alone -/
def MwR (y : MethodName) (cc : ByteArray) (maxL : Nat) (ret : Option FieldType) (fr lo : Nat) (As : List Value) (r : Nat → Int32) (v : Option Value) : Prop :=
  ∀ (D : va_G) (dA : Nat → ClassId) (h : Nat → Nat) (cw tx : Nat → Option Nat) (nm : Nat → Int32), Rd D dA y cc maxL ret fr lo (.ref (h 0) :: As) (fun H => va_P D cmCl (mwWs h dA r cw tx nm) H) v
/-- from the row r to the row r' -/
def MwF (y : MethodName) (cc : ByteArray) (maxL : Nat) (ret : Option FieldType) (fr lo : Nat) (As : List Value) (r : Nat → Int32) (v : Option Value) (r' : Nat → Int32) : Prop :=
  ∀ (D : va_G) (dA : Nat → ClassId) (h : Nat → Nat) (cw tx : Nat → Option Nat) (nm : Nat → Int32) (tr : Nat), mwI h → Cg D dA (mwA h) y cc maxL ret fr lo 0 0 (.ref (h 0) :: As) (fun H => va_P D cmCl (mwWs h dA r cw tx nm) H ∧ mwPl D tr (fun q => ¬ mwA h q) r cw tx H) (fun v' H => v' = v ∧ ∃ nm', va_P D cmCl (mwWs h dA r' cw tx nm') H)
theorem mwMk_at {r : Nat → Int32} {w i : Nat} (hi : i < 10) : mwMk r (12 * w + i) = r (58 + 14 * w + (4 + i)) := by
  unfold mwMk
  rw [show (12 * w + i) % 12 = i by omega, show (12 * w + i) / 12 = w by omega, if_pos hi]
section MWB
variable {p : Program} {l : Launch} {e : Env} {R : Room} {s : State} {m : MethodId} {args : Array Value} {below : List Frame} {meth : Method} {c : Code} {H H0 : Heap} {locs : List Loc} {cells slots : Nat} {Q : State → Prop}
variable {cc : ByteArray} {pc : Nat} {ls : Array Slot} {rest : List Value} {D : va_G} {dA : Nat → ClassId} {h : Nat → Nat} {r r1 r2 : Nat → Int32} {cw tx : Nat → Option Nat} {nm : Nat → Int32}
theorem w_topV {x : Value} (y : Value) (hy : x = y) (k : W p l e R s m args below meth c H locs cells slots Q (F0 m pc ls (y :: rest))) : W p l e R s m args below meth c H locs cells slots Q (F0 m pc ls (x :: rest)) := hy ▸ k
theorem MwF.ofI {y : MethodName} {maxL fr lo : Nat} {As : List Value} {v : Int32} {r' : Nat → Int32} (hy : plainName y.cls = true) (hcl : y.cls = RX2) (hlen : (lg_sl (.ref 0 :: As)).length ≤ maxL)
    (body : ∀ (p : Program) (l : Launch) (e : Env) (R : Room) (s : State) (m : MethodId) (args : Array Value) (below : List Frame) (meth : Method) (c : Code) (Q : State → Prop) (D : va_G) (dA : Nat → ClassId) (h : Nat → Nat) (cw tx : Nat → Option Nat) (nm : Nat → Int32) (tr : Nat) (ls : Array Slot), p.tables.exec = Jvm.exec → c.code = cc → c.maxLocals = maxL → R.frames = fr → R.locals = lo → R.cells = 0 → R.slots = 0 → (∀ w ∈ lw_all, w.before args s = true) → s.vm.findClass RX2 = some m.cls → cmK D dA s → mwI h → mwPl D tr (fun q => ¬ mwA h q) r cw tx s.heap → mwH D h dA s.heap s.heap [] r cw tx nm → lv_has ls maxL (lv_args 0 (.ref (h 0) :: As)) →
      (∀ {H : Heap} {locs : List Loc} {pc : Nat} {ls : Array Slot} {x : Int32} {nm' : Nat → Int32}, mwH D h dA s.heap H locs r' cw tx nm' → x = v → decode cc pc = .ok (.ireturn, 1) → W p l e R s m args below meth c H locs 0 0 Q (F0 m pc ls [.int x])) →
      W p l e R s m args below meth c s.heap [] 0 0 Q (F0 m 0 ls [])) : MwF y cc maxL (some .int) fr lo As r (some (.int v)) r' := by
  intro D dA h cw tx nm tr hI
  refine Cg.ofI hy hcl hlen ?_
  intro p l e R s m args below meth c Q ls hx hb hml hRf hRl hRc hRs hin hts hown hK hP hl hret
  exact body p l e R s m args below meth c Q D dA h cw tx nm tr ls hx hb hml hRf hRl hRc hRs hts hown hK hI hP.2 ⟨hP.1, mwD hI _ _ _ _ _ _, va_S.rf⟩ hl (fun hM hv hdg => hret ⟨by rw [hv], _, hM.1⟩ hM.2.2 hdg)
theorem MwF.ofV {y : MethodName} {maxL fr lo : Nat} {As : List Value} {r' : Nat → Int32} (hy : plainName y.cls = true) (hcl : y.cls = RX2) (hlen : (lg_sl (.ref 0 :: As)).length ≤ maxL)
    (body : ∀ (p : Program) (l : Launch) (e : Env) (R : Room) (s : State) (m : MethodId) (args : Array Value) (below : List Frame) (meth : Method) (c : Code) (Q : State → Prop) (D : va_G) (dA : Nat → ClassId) (h : Nat → Nat) (cw tx : Nat → Option Nat) (nm : Nat → Int32) (tr : Nat) (ls : Array Slot), p.tables.exec = Jvm.exec → c.code = cc → c.maxLocals = maxL → R.frames = fr → R.locals = lo → R.cells = 0 → R.slots = 0 → (∀ w ∈ lw_all, w.before args s = true) → s.vm.findClass RX2 = some m.cls → cmK D dA s → mwI h → mwPl D tr (fun q => ¬ mwA h q) r cw tx s.heap → mwH D h dA s.heap s.heap [] r cw tx nm → lv_has ls maxL (lv_args 0 (.ref (h 0) :: As)) →
      (∀ {H : Heap} {locs : List Loc} {pc : Nat} {ls : Array Slot} {nm' : Nat → Int32}, mwH D h dA s.heap H locs r' cw tx nm' → decode cc pc = .ok (.return_, 1) → W p l e R s m args below meth c H locs 0 0 Q (F0 m pc ls [])) →
      W p l e R s m args below meth c s.heap [] 0 0 Q (F0 m 0 ls [])) : MwF y cc maxL none fr lo As r none r' := by
  intro D dA h cw tx nm tr hI
  refine Cg.ofV hy hcl hlen ?_
  intro p l e R s m args below meth c Q ls hx hb hml hRf hRl hRc hRs hin hts hown hK hP hl hret
  exact body p l e R s m args below meth c Q D dA h cw tx nm tr ls hx hb hml hRf hRl hRc hRs hts hown hK hI hP.2 ⟨hP.1, mwD hI _ _ _ _ _ _, va_S.rf⟩ hl (fun hM hdg => hret ⟨rfl, _, hM.1⟩ hM.2.2 hdg)
/-- the pool, later in the same method -/
theorem mwPl.at {tr : Nat} {locs : List Loc} (hQ : mwPl D tr (fun q => ¬ mwA h q) r cw tx H0) (hN : cl (r 3) ≤ 5) (hr : mwEq r r1) (hS : va_S (mwA h) H0 H locs) : mwPl D tr (fun q => ¬ mwA h q) r1 cw tx H := hQ.to hr hN (fun q h1 h2 => ⟨h2, hS.2.1 q h1 h2⟩)
theorem mw_call {tr : Nat} {y : MethodName} {cy : ByteArray} {maxL nL fr lo idx n : Nat} {ret : Option FieldType} {As : List Value} {v : Option Value} {st : List Value} (hx : p.tables.exec = Jvm.exec) (hb : c.code = cc) (hml : c.maxLocals = nL) (hown : s.vm.findClass RX2 = some m.cls) (hts : ∀ w ∈ lw_all, w.before args s = true) (hK : cmK D dA s) (hI : mwI h) (hM : mwH D h dA H0 H locs r1 cw tx nm) (hQ : mwPl D tr (fun q => ¬ mwA h q) r1 cw tx H)
    (hC : MwF y cy maxL ret fr lo As r1 v r2) (h1 : Cond.methodLink RX2 idx y ∈ lw_all) (h2 : Cond.instanceMethod y ∈ lw_all) (h3 : Cond.selects RX2 y y ∈ lw_all) (h5 : Cond.code y cy maxL ret ∈ lw_all)
    (hd : y.cls = RX2 ∧ y.cls ≠ "java/lang/invoke/MethodHandle" ∧ y.cls ≠ "java/lang/invoke/VarHandle" ∧ (parseMethodDescriptor y.desc).map (fun d => d.parameters.length) = some n) (hn : As.length = n) (hRf : fr + 1 ≤ R.frames) (hRl : 8 + (maxL + 11) + lo ≤ R.locals) (hsize : ls.size = nL) (hst : st = As.reverse ++ .ref (h 0) :: rest) (hW : (rest.map fun v => v.category).sum ≤ 8) (hdg : decode cc pc = .ok (.invokevirtual idx, 3))
    (kk : ∀ (H1 : Heap) (locs1 : List Loc) (nm1 : Nat → Int32), mwH D h dA H0 H1 locs1 r2 cw tx nm1 → W p l e R s m args below meth c H1 locs1 0 0 Q (F0 m (pc + 3) ls (v.toList ++ rest))) : W p l e R s m args below meth c H locs 0 0 Q (F0 m pc ls st) := by
  refine cg_callV (y := y) (b := h 0) (C := RX2) hx hb hml hown hts hK hM.2.2 (hC D dA h cw tx nm tr hI) ⟨hM.1, hQ⟩ (fun q hq => hq) (cAt.recv hK (hM.1 0 _ rfl) rfl) h1 h2 h3 q66 h5 hd hn hRf hRl (Nat.zero_le _) (Nat.zero_le _) hsize hst hW hdg ?_
  intro v' H1 locs1 hq hz hk hS
  obtain ⟨rfl, nm', hP⟩ := hq
  exact kk H1 locs1 nm' ⟨hP, mwD hI _ _ _ _ _ _, hS⟩
end MWB
