/-! become among the three meadows -/
set_option maxRecDepth 100000
theorem mwPl.cg {D : va_G} {tr : Nat} {B : Nat → Prop} {r : Nat → Int32} {cw tx cw' tx' : Nat → Option Nat} {H : Heap} (hQ : mwPl D tr B r cw tx H) (hN : cl (r 3) ≤ 5) (e1 : ∀ w, w < 5 → cw' w = cw w) (e2 : ∀ u, u < 2 → tx' u = tx u) : mwPl D tr B r cw' tx' H := by
  refine ⟨fun w hw => ?_, fun u hu => ?_⟩
  · obtain ⟨x, h1, h2⟩ := hQ.1 w hw
    exact ⟨x, (e1 w (by omega)).trans h1, h2⟩
  · rcases hQ.2 u hu with ⟨h1, h2⟩ | ⟨h1, x, F, h2, h3⟩
    · exact Or.inl ⟨h1, (e2 u hu).trans h2⟩
    · exact Or.inr ⟨h1, x, F, (e2 u hu).trans h2, h3⟩
theorem ndX2_become : yX2_become.cls = RX2 ∧ yX2_become.cls ≠ "java/lang/invoke/MethodHandle" ∧ yX2_become.cls ≠ "java/lang/invoke/VarHandle" ∧ (parseMethodDescriptor yX2_become.desc).map (fun d => d.parameters.length) = some 1 := by decide +kernel
section CWF
variable {p : Program} {l : Launch} {e : Env} {R : Room} {s : State} {m : MethodId} {args : Array Value} {below : List Frame} {meth : Method} {c : Code} {H H0 : Heap} {locs : List Loc} {cells slots : Nat} {Q : State → Prop}
variable {cc : ByteArray} {pc : Nat} {ls : Array Slot} {rest : List Value} {D : va_G} {dA : Nat → ClassId} {h : Nat → Nat} {f : Nat → Int32} {a : Nat → Nat → Int32} {fc : Int32} {wk : Nat → Nat → Int32} {hd : Nat → Option Nat} {ri rt : Nat → Int32} {cw tx : Nat → Nat → Option Nat} {nm : Nat → Nat → Int32}
theorem cm_bc20 {nL idx : Nat} (hx : p.tables.exec = Jvm.exec) (hb : c.code = cc) (hml : c.maxLocals = nL) (hown : s.vm.findClass RX0 = some m.cls) (hts : ∀ w ∈ lw_all, w.before args s = true) (hK : cmK D dA s) (hI : cmI h) {B : Nat → Prop} (hB : ∀ q, B q → ¬ cmA h q) (hM : cmH D h dA H0 H locs f a fc wk hd ri rt cw tx nm) (hQ : cmPl D h B (a 1) ri rt cw tx H) (hN : cl ((a 1) 3) ≤ 5) (hkd : ∀ w, w < 5 → cl ((a 1) (58 + 14 * w + 0)) ≤ 6) (hZ : ∀ w, cl ((a 1) 3) ≤ w → w < 5 → cw 0 w = none)
    (h1 : Cond.methodLink RX0 idx yX2_become ∈ lw_all) (hRf : 2 ≤ R.frames) (hRl : 61 ≤ R.locals) (hRc : cells ≤ R.cells) (hRs : slots ≤ R.slots) (hsize : ls.size = nL) (hW : (rest.map fun v => v.category).sum ≤ 8) (hdg : decode cc pc = .ok (.invokevirtual idx, 3))
    (kk : ∀ (cw1 tx1 : Nat → Option Nat), (∀ w, w < 5 → cw1 w = cw 0 w) → (∀ u, u < 2 → tx1 u = tx 0 u) → ∀ (H1 : Heap) (locs1 : List Loc), cmH D h dA H0 H1 locs1 f a fc wk hd ri (a 1) (va_up cw 2 cw1) (va_up tx 2 tx1) nm → W p l e R s m args below meth c H1 locs1 cells slots Q (F0 m (pc + 3) ls (.ref (hm2 h 0) :: rest))) : W p l e R s m args below meth c H locs cells slots Q (F0 m pc ls (.ref (hm0 h 0) :: .ref (hm2 h 0) :: rest)) := by
  obtain ⟨p1, p2, p3, p4⟩ := cm_parts hM.1
  have hBA : ∀ q, bcA (hm2 h) (hm0 h) q → cmA h q := fun q hq => hq.elim (fun z => z.m2) (fun z => z.m0)
  refine cg_callV (y := yX2_become) (b := hm2 h 0) (C := RX2) (As := [.ref (hm0 h 0)]) hx hb hml hown hts hK hM.2.2 (mw_become D dA (hm2 h) (hm0 h) rt (a 1) (cw 2) (tx 2) (cw 0) (tx 0) (nm 2) (nm 0) (h 2) hI.m2 hI.m0 (fun i hi j hj z => ?_) hN hkd hZ) ⟨p4, p2, hQ.1.in hN (fun q hq hq2 => hB q hq (hBA q hq2))⟩ hBA (cAt.recv hK (p4 0 _ rfl) rfl) h1 q976 q977 q66 q978 ndX2_become rfl (by omega) (by omega) (by omega) (by omega) hsize rfl hW hdg ?_
  · have := hI (38 + i) (by omega) (14 + j) (by omega) z; omega
  intro v' H1 locs1 hq hz hk hS
  obtain ⟨rfl, h2, cw1, tx1, e1, e2, h1⟩ := hq
  refine kk cw1 tx1 e1 e2 H1 locs1 (cmH.of hI (cm_join (cm_off p1 hk (fun j q hj hB => ?_)) h2 (cm_off p3 hk (fun j q hj hB => ?_)) h1) hS)
  · obtain ⟨j1, j2⟩ := cm_bat j q hj
    rcases hB with ⟨k, k1, k2⟩ | ⟨k, k1, k2⟩
    · have := hI j (by omega) (38 + k) (by omega) (j2.symm.trans k2); omega
    · have := hI j (by omega) (14 + k) (by omega) (j2.symm.trans k2); omega
  · obtain ⟨j1, j2⟩ := mwRw_at j q hj
    rcases hB with ⟨k, k1, k2⟩ | ⟨k, k1, k2⟩
    · have := hI (26 + j) (by omega) (38 + k) (by omega) (j2.symm.trans k2); omega
    · have := hI (26 + j) (by omega) (14 + k) (by omega) (j2.symm.trans k2); omega
theorem cm_bc10 {nL idx : Nat} (hx : p.tables.exec = Jvm.exec) (hb : c.code = cc) (hml : c.maxLocals = nL) (hown : s.vm.findClass RX0 = some m.cls) (hts : ∀ w ∈ lw_all, w.before args s = true) (hK : cmK D dA s) (hI : cmI h) {B : Nat → Prop} (hB : ∀ q, B q → ¬ cmA h q) (hM : cmH D h dA H0 H locs f a fc wk hd ri rt cw tx nm) (hQ : cmPl D h B (a 1) ri rt cw tx H) (hN : cl ((a 1) 3) ≤ 5) (hkd : ∀ w, w < 5 → cl ((a 1) (58 + 14 * w + 0)) ≤ 6) (hZ : ∀ w, cl ((a 1) 3) ≤ w → w < 5 → cw 0 w = none)
    (h1 : Cond.methodLink RX0 idx yX2_become ∈ lw_all) (hRf : 2 ≤ R.frames) (hRl : 61 ≤ R.locals) (hRc : cells ≤ R.cells) (hRs : slots ≤ R.slots) (hsize : ls.size = nL) (hW : (rest.map fun v => v.category).sum ≤ 8) (hdg : decode cc pc = .ok (.invokevirtual idx, 3))
    (kk : ∀ (cw1 tx1 : Nat → Option Nat), (∀ w, w < 5 → cw1 w = cw 0 w) → (∀ u, u < 2 → tx1 u = tx 0 u) → ∀ (H1 : Heap) (locs1 : List Loc), cmH D h dA H0 H1 locs1 f a fc wk hd (a 1) rt (va_up cw 1 cw1) (va_up tx 1 tx1) nm → W p l e R s m args below meth c H1 locs1 cells slots Q (F0 m (pc + 3) ls (.ref (hm1 h 0) :: rest))) : W p l e R s m args below meth c H locs cells slots Q (F0 m pc ls (.ref (hm0 h 0) :: .ref (hm1 h 0) :: rest)) := by
  obtain ⟨p1, p2, p3, p4⟩ := cm_parts hM.1
  have hBA : ∀ q, bcA (hm1 h) (hm0 h) q → cmA h q := fun q hq => hq.elim (fun z => z.m1) (fun z => z.m0)
  refine cg_callV (y := yX2_become) (b := hm1 h 0) (C := RX2) (As := [.ref (hm0 h 0)]) hx hb hml hown hts hK hM.2.2 (mw_become D dA (hm1 h) (hm0 h) ri (a 1) (cw 1) (tx 1) (cw 0) (tx 0) (nm 1) (nm 0) (h 2) hI.m1 hI.m0 (fun i hi j hj z => ?_) hN hkd hZ) ⟨p3, p2, hQ.1.in hN (fun q hq hq2 => hB q hq (hBA q hq2))⟩ hBA (cAt.recv hK (p3 0 _ rfl) rfl) h1 q976 q977 q66 q978 ndX2_become rfl (by omega) (by omega) (by omega) (by omega) hsize rfl hW hdg ?_
  · have := hI (26 + i) (by omega) (14 + j) (by omega) z; omega
  intro v' H1 locs1 hq hz hk hS
  obtain ⟨rfl, h2, cw1, tx1, e1, e2, h1⟩ := hq
  refine kk cw1 tx1 e1 e2 H1 locs1 (cmH.of hI (cm_join (cm_off p1 hk (fun j q hj hB => ?_)) h2 h1 (cm_off p4 hk (fun j q hj hB => ?_))) hS)
  · obtain ⟨j1, j2⟩ := cm_bat j q hj
    rcases hB with ⟨k, k1, k2⟩ | ⟨k, k1, k2⟩
    · have := hI j (by omega) (26 + k) (by omega) (j2.symm.trans k2); omega
    · have := hI j (by omega) (14 + k) (by omega) (j2.symm.trans k2); omega
  · obtain ⟨j1, j2⟩ := mwRw_at j q hj
    rcases hB with ⟨k, k1, k2⟩ | ⟨k, k1, k2⟩
    · have := hI (38 + j) (by omega) (26 + k) (by omega) (j2.symm.trans k2); omega
    · have := hI (38 + j) (by omega) (14 + k) (by omega) (j2.symm.trans k2); omega
theorem cm_bc01 {nL idx : Nat} (hx : p.tables.exec = Jvm.exec) (hb : c.code = cc) (hml : c.maxLocals = nL) (hown : s.vm.findClass RX0 = some m.cls) (hts : ∀ w ∈ lw_all, w.before args s = true) (hK : cmK D dA s) (hI : cmI h) {B : Nat → Prop} (hB : ∀ q, B q → ¬ cmA h q) (hM : cmH D h dA H0 H locs f a fc wk hd ri rt cw tx nm) (hQ : cmPl D h B (a 1) ri rt cw tx H) (hN : cl (ri 3) ≤ 5) (hkd : ∀ w, w < 5 → cl (ri (58 + 14 * w + 0)) ≤ 6) (hZ : ∀ w, cl (ri 3) ≤ w → w < 5 → cw 1 w = none)
    (h1 : Cond.methodLink RX0 idx yX2_become ∈ lw_all) (hRf : 2 ≤ R.frames) (hRl : 61 ≤ R.locals) (hRc : cells ≤ R.cells) (hRs : slots ≤ R.slots) (hsize : ls.size = nL) (hW : (rest.map fun v => v.category).sum ≤ 8) (hdg : decode cc pc = .ok (.invokevirtual idx, 3))
    (kk : ∀ (cw1 tx1 : Nat → Option Nat), (∀ w, w < 5 → cw1 w = cw 1 w) → (∀ u, u < 2 → tx1 u = tx 1 u) → ∀ (H1 : Heap) (locs1 : List Loc), cmH D h dA H0 H1 locs1 f (va_up a 1 ri) fc wk hd ri rt (va_up cw 0 cw1) (va_up tx 0 tx1) nm → W p l e R s m args below meth c H1 locs1 cells slots Q (F0 m (pc + 3) ls (.ref (hm0 h 0) :: rest))) : W p l e R s m args below meth c H locs cells slots Q (F0 m pc ls (.ref (hm1 h 0) :: .ref (hm0 h 0) :: rest)) := by
  obtain ⟨p1, p2, p3, p4⟩ := cm_parts hM.1
  have hBA : ∀ q, bcA (hm0 h) (hm1 h) q → cmA h q := fun q hq => hq.elim (fun z => z.m0) (fun z => z.m1)
  refine cg_callV (y := yX2_become) (b := hm0 h 0) (C := RX2) (As := [.ref (hm1 h 0)]) hx hb hml hown hts hK hM.2.2 (mw_become D dA (hm0 h) (hm1 h) (a 1) ri (cw 0) (tx 0) (cw 1) (tx 1) (nm 0) (nm 1) (h 2) hI.m0 hI.m1 (fun i hi j hj z => ?_) hN hkd hZ) ⟨p2, p3, hQ.2.1.in hN (fun q hq hq2 => hB q hq (hBA q hq2))⟩ hBA (cAt.recv hK (p2 0 _ rfl) rfl) h1 q976 q977 q66 q978 ndX2_become rfl (by omega) (by omega) (by omega) (by omega) hsize rfl hW hdg ?_
  · have := hI (14 + i) (by omega) (26 + j) (by omega) z; omega
  intro v' H1 locs1 hq hz hk hS
  obtain ⟨rfl, h2, cw1, tx1, e1, e2, h1⟩ := hq
  refine kk cw1 tx1 e1 e2 H1 locs1 (cmH.of hI (cm_join (cm_off p1 hk (fun j q hj hB => ?_)) h1 h2 (cm_off p4 hk (fun j q hj hB => ?_))) hS)
  · obtain ⟨j1, j2⟩ := cm_bat j q hj
    rcases hB with ⟨k, k1, k2⟩ | ⟨k, k1, k2⟩
    · have := hI j (by omega) (14 + k) (by omega) (j2.symm.trans k2); omega
    · have := hI j (by omega) (26 + k) (by omega) (j2.symm.trans k2); omega
  · obtain ⟨j1, j2⟩ := mwRw_at j q hj
    rcases hB with ⟨k, k1, k2⟩ | ⟨k, k1, k2⟩
    · have := hI (38 + j) (by omega) (14 + k) (by omega) (j2.symm.trans k2); omega
    · have := hI (38 + j) (by omega) (26 + k) (by omega) (j2.symm.trans k2); omega
end CWF
