/-! NEW CELLS (printed by comp30.py) -/
set_option maxRecDepth 100000
/-- an act that makes new cells: as CmF -/
def CmN (y : MethodName) (cc : ByteArray) (maxL : Nat) (hh : List (Nat × Nat × Nat × Nat)) (fr lo mc ms : Nat) (As : List Value) (f : Nat → Int32) (a : Nat → Nat → Int32) (v : Int32) (f' : Nat → Int32) (a' : Nat → Nat → Int32) : Prop :=
  ∀ (D : va_G) (dA : Nat → ClassId) (h : Nat → Nat) (fc : Int32) (wk : Nat → Nat → Int32) (hd : Nat → Option Nat) (ri rt : Nat → Int32) (cw tx : Nat → Nat → Option Nat) (nm : Nat → Nat → Int32) (A0 : Nat → Prop) (b2 : Nat), cmI h → (∀ q, cmA h q → A0 q) → (∀ q, b2 ≤ q → A0 q) →
    Cw D dA A0 y cc maxL (some .int) hh fr lo mc ms (.ref (h 0) :: As) (fun H => b2 ≤ H.size ∧ va_P D cmCl (cmWs h dA f a fc wk hd ri rt cw tx nm) H ∧ cmQ D dA h hd A0 f a ri rt cw tx H)
      (fun v' H => v' = some (.int v) ∧ ∃ fc' wk' hd' ri' rt' cw' tx' nm', va_P D cmCl (cmWs h dA f' a' fc' wk' hd' ri' rt' cw' tx' nm') H ∧ cmQ D dA h hd' A0 f' a' ri' rt' cw' tx' H)
theorem CmN.ofM {mc ms : Nat} {y : MethodName} {cc : ByteArray} {maxL fr lo : Nat} {hh : List (Nat × Nat × Nat × Nat)} {As : List Value} {f f' : Nat → Int32} {a a' : Nat → Nat → Int32} {v : Int32} (hy : plainName y.cls = true) (hcl : y.cls = RX0) (hlen : (lg_sl (.ref 0 :: As)).length ≤ maxL)
    (body : ∀ (p : Program) (l : Launch) (e : Env) (R : Room) (s : State) (m : MethodId) (args : Array Value) (below : List Frame) (meth : Method) (c : Code) (Q : State → Prop) (D : va_G) (dA : Nat → ClassId) (h : Nat → Nat) (fc : Int32) (wk : Nat → Nat → Int32) (hd : Nat → Option Nat) (ri rt : Nat → Int32) (cw tx : Nat → Nat → Option Nat) (nm : Nat → Nat → Int32) (B S A0 : Nat → Prop) (b2 : Nat) (ls : Array Slot), p.tables.exec = Jvm.exec → c.code = cc → c.maxLocals = maxL → R.frames = fr → R.locals = lo → R.cells = mc → R.slots = ms → c.exceptionTable.toList = tableOf hh → (∀ w ∈ lw_all, w.before args s = true) → s.vm.findClass RX0 = some m.cls → cmK D dA s → cmI h → (∀ q, B q → ¬ cmA h q) → (∀ q, S q → ¬ cmA h q) → cmPl D h B (a 1) ri rt cw tx s.heap → (cl (a 1 3) ≤ 5 ∧ cl (ri 3) ≤ 5 ∧ cl (rt 3) ≤ 5) → (¬ f 4 = 0 → ri = a 2) → cmZ (a 1) ri cw → shOK D h dA hd S a s.heap → cmH D h dA s.heap s.heap [] f a fc wk hd ri rt cw tx nm → lv_has ls maxL (lv_args 0 (.ref (h 0) :: As)) →
      (∀ q, cmA h q → A0 q) → (∀ q, b2 ≤ q → A0 q) → b2 ≤ s.heap.size → (∀ q, S q → ¬ B q) → (∀ q, B q ∨ S q → A0 q ∧ q < s.heap.size) →
      (∀ {H : Heap} {locs : List Loc} {pc : Nat} {ls : Array Slot} {x : Int32} {fc' : Int32} {wk' : Nat → Nat → Int32} {hd' : Nat → Option Nat} {ri' rt' : Nat → Int32} {cw' tx' : Nat → Nat → Option Nat} {nm' : Nat → Nat → Int32}, va_P D cmCl (cmWs h dA f' a' fc' wk' hd' ri' rt' cw' tx' nm') H → cmQ D dA h hd' A0 f' a' ri' rt' cw' tx' H → va_S A0 s.heap H locs → x = v → decode cc pc = .ok (.ireturn, 1) → W p l e R s m args below meth c H locs mc ms Q (F0 m pc ls [.int x])) →
      W p l e R s m args below meth c s.heap [] 0 0 Q (F0 m 0 ls [])) : CmN y cc maxL hh fr lo mc ms As f a v f' a' := by
  intro D dA h fc wk hd ri rt cw tx nm A0 b2 hI hA hf
  refine Cw.ofI hy hcl hlen ?_
  intro p l e R s m args below meth c Q ls hx hb hml hRf hRl hRc hRs htab hts hown hK hP hl hret
  obtain ⟨hsz, hP, B, S, ⟨hB, hS0, hBS, hR⟩, hQ, hN, hIm, hZ, hSh⟩ := hP
  refine body p l e R s m args below meth c Q D dA h fc wk hd ri rt cw tx nm B S A0 b2 ls hx hb hml hRf hRl hRc hRs htab hts hown hK hI hB hS0 hQ hN hIm hZ hSh (cmH.of hI hP va_S.rf) hl hA hf hsz hBS hR ?_
  intro H locs pc ls x fc' wk' hd' ri' rt' cw' tx' nm' h1 h2 h3 hv hdg
  exact hret ⟨by rw [hv], _, _, _, _, _, _, _, _, h1, h2⟩ h3 hdg

section NWA
variable {p : Program} {l : Launch} {e : Env} {R : Room} {s : State} {m : MethodId} {args : Array Value} {below : List Frame} {meth : Method} {c : Code} {H H0 : Heap} {locs : List Loc} {cells slots : Nat} {Q : State → Prop}
variable {cc : ByteArray} {pc : Nat} {ls : Array Slot} {rest : List Value} {D : va_G} {dA : Nat → ClassId} {A B : Nat → Prop} {b : Nat} {P : Heap → Prop} {Qv : Option Value → Heap → Prop} {Qo : Outcome → Heap → Prop}
variable {y x : MethodName} {cy : ByteArray} {maxL nL fr lo idx mc ms n : Nat} {ret : Option FieldType} {As st : List Value} {own C : String}
/-- behind a call that touches new cells alone -/
theorem cg_goN (hr : va_Run p l e R s m args below meth c H locs cells slots mc ms (F0 m pc ls st) rest (fun st' oc t => (∃ v, oc = .returned v ∧ Qv v t.heap) ∧ va_F B st' t) B) (hB : ∀ q, B q → H.size ≤ q) (hs : s.heap.size ≤ H.size)
    (kk : ∀ (v : Option Value) (H1 : Heap), Qv v H1 → H.size ≤ H1.size → (∀ q, q < H.size → H1[q]? = H[q]?) → W p l e R s m args below meth c H1 locs (cells + mc) (slots + ms) Q (F0 m (pc + 3) ls (v.toList ++ rest))) : W p l e R s m args below meth c H locs cells slots Q (F0 m pc ls st) := by
  intro T hT X
  obtain ⟨v', st₀, t, T', L, h0, X', hL, e1, e2, ⟨⟨v, hv, hq⟩, hF⟩, stp⟩ := hr T hT X
  cases hv
  obtain ⟨hz, hk⟩ := hF
  rw [h0] at hz hk
  obtain ⟨t2, a1, b1⟩ := kk v' T'.heap (by rw [e1]; exact hq) (by rw [e1]; exact hz) (fun q h1 => by rw [e1]; exact hk q h1 (fun h2 => by have := hB q h2; omega)) T' rfl (X'.forget (fun q hq => Nat.le_trans hs (hB _ (hL q hq))))
  exact ⟨t2, stp t2 a1, b1⟩
theorem va_S.new {H1 : Heap} (hS : va_S A H0 H locs) (hz : H.size ≤ H1.size) (hk : ∀ q, q < H.size → H1[q]? = H[q]?) : va_S A H0 H1 locs := ⟨Nat.le_trans hS.1 hz, fun q h1 h2 => (hk q (Nat.lt_of_lt_of_le h1 hS.1)).trans (hS.2.1 q h1 h2), hS.2.2⟩
theorem va_S.tr {H1 : Heap} {locs1 : List Loc} (hS : va_S A H0 H locs) (hS2 : va_S A H H1 locs1) : va_S A H0 H1 locs1 := ⟨Nat.le_trans hS.1 hS2.1, fun q h1 h2 => (hS2.2.1 q (Nat.lt_of_lt_of_le h1 hS.1) h2).trans (hS.2.1 q h1 h2), hS2.2.2⟩
theorem va_S.here (hS : va_S A H0 H locs) : va_S A H H locs := ⟨Nat.le_refl _, fun _ _ _ => rfl, hS.2.2⟩
theorem cg_callSN2 (hx : p.tables.exec = Jvm.exec) (hb : c.code = cc) (hml : c.maxLocals = nL) (hown : s.vm.findClass own = some m.cls) (hts : ∀ w ∈ lw_all, w.before args s = true) (hK : cmK D dA s) (hs : s.heap.size ≤ H.size)
    (hC : Cg D dA (fun q => H.size ≤ q) y cy maxL ret fr lo mc ms As P Qv) (hP : P H)
    (h1 : Cond.methodLink own idx y ∈ lw_all) (h2 : Cond.static y ∈ lw_all) (h4 : Cond.initialized y.cls ∈ lw_all) (h5 : Cond.code y cy maxL ret ∈ lw_all)
    (hd : y.cls ≠ "java/lang/invoke/MethodHandle" ∧ y.cls ≠ "java/lang/invoke/VarHandle" ∧ (parseMethodDescriptor y.desc).map (fun d => d.parameters.length) = some n) (hn : As.length = n) (hRf : fr + 1 ≤ R.frames) (hRl : 8 + (maxL + 11) + lo ≤ R.locals) (hRc : cells + mc ≤ R.cells) (hRs : slots + ms ≤ R.slots) (hsize : ls.size = nL) (hst : st = As.reverse ++ rest) (hW : (rest.map fun v => v.category).sum ≤ 8) (hdg : decode cc pc = .ok (.invokestatic idx, 3))
    (kk : ∀ (v : Option Value) (H1 : Heap), Qv v H1 → H.size ≤ H1.size → (∀ q, q < H.size → H1[q]? = H[q]?) → W p l e R s m args below meth c H1 locs (cells + mc) (slots + ms) Q (F0 m (pc + 3) ls (v.toList ++ rest))) : W p l e R s m args below meth c H locs cells slots Q (F0 m pc ls st) :=
  cg_goN (va_runS (below := below) (meth := meth) (locs := locs) (cells := cells) (slots := slots) (e := e) (As := As) (rest := rest) (g := F0 m pc ls st) (Ts := lw_all) (own := own) (n := n) ⟨hx, hb, hml, hown, hts⟩ (hC l) (va_cwS n hts (lw_S h1 h2 h4 h5) rfl rfl rfl hd ⟨hRf, hRl⟩)
    ⟨cm_blind, fun U hU hW => ⟨rfl, by rw [hU]; exact hP, hK.warm hW⟩⟩ rfl hn hsize hst (lv_room hW) hdg ⟨hRc, hRs⟩) (fun q h => h) hs kk
/-- a constructor on a cell of one's own (q ≥ the heap's size at the start) -/
theorem cg_callIN2 {x0 : Nat} (hx : p.tables.exec = Jvm.exec) (hb : c.code = cc) (hml : c.maxLocals = nL) (hown : s.vm.findClass own = some m.cls) (hts : ∀ w ∈ lw_all, w.before args s = true) (hK : cmK D dA s) (hs : s.heap.size ≤ x0) (hxl : x0 < H.size)
    (hC : Cg D dA (fun q => q = x0 ∨ H.size ≤ q) y cy maxL none fr lo mc ms (.ref x0 :: As) P Qv) (hP : P H)
    (h1 : Cond.methodLink own idx y ∈ lw_all) (h2 : Cond.instanceMethod y ∈ lw_all) (h4 : Cond.initialized y.cls ∈ lw_all) (h5 : Cond.code y cy maxL none ∈ lw_all)
    (hd : y.name = "<init>" ∧ y.cls ≠ "java/lang/invoke/MethodHandle" ∧ y.cls ≠ "java/lang/invoke/VarHandle" ∧ (parseMethodDescriptor y.desc).map (fun d => d.parameters.length) = some n) (hn : As.length = n) (hRf : fr + 1 ≤ R.frames) (hRl : 8 + (maxL + 11) + lo ≤ R.locals) (hRc : cells + mc ≤ R.cells) (hRs : slots + ms ≤ R.slots) (hsize : ls.size = nL) (hst : st = As.reverse ++ .ref x0 :: rest) (hW : (rest.map fun v => v.category).sum ≤ 8) (hdg : decode cc pc = .ok (.invokespecial idx, 3))
    (kk : ∀ (v : Option Value) (H1 : Heap), Qv v H1 → H.size ≤ H1.size → (∀ q, q < H.size → ¬ q = x0 → H1[q]? = H[q]?) → W p l e R s m args below meth c H1 locs (cells + mc) (slots + ms) Q (F0 m (pc + 3) ls (v.toList ++ rest))) : W p l e R s m args below meth c H locs cells slots Q (F0 m pc ls st) := by
  intro T hT X
  obtain ⟨v', st₀, t, T', L, h0, X', hL, e1, e2, ⟨⟨v, hv, hq⟩, hF⟩, stp⟩ := (va_runI (below := below) (meth := meth) (locs := locs) (cells := cells) (slots := slots) (e := e) (As := As) (rest := rest) (g := F0 m pc ls st) (b := x0) (Ts := lw_all) (own := own) (n := n) ⟨hx, hb, hml, hown, hts⟩ (hC l) (cwI n hts (lw_meth h5) rfl rfl rfl (hts _ h4) (hts _ h1) (hts _ h2) hd.1 hd.2 ⟨hRf, hRl⟩)
    ⟨cm_blind, fun U hU hW => ⟨rfl, by rw [hU]; exact hP, hK.warm hW⟩⟩ rfl hn hsize hst (lv_room hW) hdg ⟨hRc, hRs⟩) T hT X
  cases hv
  obtain ⟨hz, hk⟩ := hF
  rw [h0] at hz hk
  obtain ⟨t2, a1, b1⟩ := kk v' T'.heap (by rw [e1]; exact hq) (by rw [e1]; exact hz) (fun q h1 h3 => by rw [e1]; exact hk q h1 (fun h2 => h2.elim h3 (fun z => by omega))) T' rfl (X'.forget (fun q hq => (hL q hq).elim (fun z => by rw [z]; exact hs) (fun z => by omega)))
  exact ⟨t2, stp t2 a1, b1⟩
/-- new: one cell more, all else as it was -/
theorem c_new {T : u_T} {N ci index : Nat} {C : String} (hx : p.tables.exec = Jvm.exec) (hb : c.code = cc) (hts : ∀ w ∈ lw_all, w.before args s = true) (hin : ∀ w ∈ u_ws C T N, w ∈ lw_all) (ty : Nat → FieldType) (hty : ∀ k, k < N → parseFieldDescriptor (T k).2.2.1 = some (ty k)) (hown : s.vm.findClass own = some m.cls) (hcl : Cond.classLink own index C ∈ lw_all) (hinst : Cond.instantiable C N ∈ lw_all) (hini : Cond.initialized C ∈ lw_all) (hK : cmK D dA s)
    (hc : cmCl[ci]? = some (C, T, N)) {fs : List Value} (hfs : ∀ j, j < N → defaultValue (ty j) = vp_V fs j) (hcells : cells + 1 ≤ R.cells) (hslots : slots + N ≤ R.slots) (hdg : decode cc pc = .ok (.new index, 3))
    (kk : ∀ (H1 : Heap), cAt D H.size (.inr (ci, fs)) H1 → H1.size = H.size + 1 → (∀ z, z < H.size → H1[z]? = H[z]?) → W p l e R s m args below meth c H1 locs (cells + 1) (slots + N) Q (F0 m (pc + 3) ls (.ref H.size :: rest))) : W p l e R s m args below meth c H locs cells slots Q (F0 m pc ls rest) := by
  have hKn := hK.1.1 ci _ hc
  refine W.newcK hx hb hown (hts _ hcl) (hts _ hinst) (hts _ hini) rfl hdg hcells hslots hKn.2.1 rfl fun H1 kC hkC e1 z1 o1 => ?_
  exact kk H1 ⟨_, hc, (u_born ty hts hin hKn hkC e1 hty).to hfs⟩ z1 o1
/-- a new array of ints, bytes, shorts -/
theorem c_newa {atype : ArrayType} (hx : p.tables.exec = Jvm.exec) (hb : c.code = cc) (hts : ∀ w ∈ lw_all, w.before args s = true) (harr : Cond.arrayClass (newarray.typeOf atype) ∈ lw_all) (hK : cmK D dA s) (t0 : Nat) (ht : (cmTy dA)[t0]? = some (dA t0, newarray.typeOf atype)) (hd0 : defaultValue (newarray.typeOf atype) = .int 0) {n : Int32} (N : Nat) (hn : n = nI N) (hN : N ≤ 1000000) (hbytes : N * componentBytes (newarray.typeOf atype) ≤ 536870912) (hcells : cells + 1 ≤ R.cells) (hslots : slots + N ≤ R.slots) (hdg : decode cc pc = .ok (.newarray atype, 2))
    (kk : ∀ (H1 : Heap), cAt D H.size (.inl (dA t0, N, .inl (fun _ => 0))) H1 → H1.size = H.size + 1 → (∀ z, z < H.size → H1[z]? = H[z]?) → W p l e R s m args below meth c H1 locs (cells + 1) (slots + N) Q (F0 m (pc + 2) ls (.ref H.size :: rest))) : W p l e R s m args below meth c H locs cells slots Q (F0 m pc ls (.int n :: rest)) := by
  subst hn
  refine va_newaK hx hb (hts _ harr) rfl hdg rfl (fun q => ?_) (nI_clamp (by omega)) hbytes hcells hslots rfl fun H1 cA e1 z1 o1 hAr hNm => ?_
  · have := Int32.lt_iff_toInt_lt.mp q
    rw [nI_toInt (by omega), show ((0 : Int32)).toInt = 0 from rfl] at this
    omega
  · have e : cA = dA t0 := by
      have h9 := (hK.1.2 t0 _ ht).2
      have h8 : s.vm.findClass ("[" ++ (newarray.typeOf atype).toString) = some (dA t0) := by cases atype <;> exact h9
      exact Option.some.inj (hNm.symm.trans h8)
    subst e
    refine kk H1 ?_ z1 o1
    show H1[H.size]? = some (vp_cell (dA t0) (N, .inl (fun _ => 0)))
    rw [e1, vp_cell_i, hd0]
end NWA
