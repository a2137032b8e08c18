/-! the component is made, 1 (printed by comp42.py) -/
set_option maxRecDepth 100000
section GNA
variable {p : Program} {l : Launch} {e : Env} {R : Room} {s : State} {m : MethodId} {args : Array Value} {below : List Frame} {meth : Method} {c : Code} {H H0 : Heap} {locs : List Loc} {cells slots : Nat} {Q : State → Prop}
variable {cc : ByteArray} {pc : Nat} {ls : Array Slot} {rest : List Value} {D : va_G} {dA : Nat → ClassId} {A : Nat → Prop} {ws : va_W} {own : String}
theorem gH.push {H1 : Heap} {e : va_E} (hM : gH D A ws H0 H locs) (hA : ∀ q, H0.size ≤ q → A q) (h1 : cAt D H.size e H1) (hz : H1.size = H.size + 1) (hk : ∀ z, z < H.size → H1[z]? = H[z]?) : gH D A (ws ++ [(H.size, e)]) H0 H1 locs :=
  ⟨(hM.1.kept (fun k q hk2 => hk q.1 ((hM.1 k q hk2).lt))).app h1.P, hM.2.1.push hM.1 rfl (hA _ hM.2.2.1), hM.2.2.new (by omega) hk⟩
theorem g_newa {atype : ArrayType} (hx : p.tables.exec = Jvm.exec) (hb : c.code = cc) (hts : ∀ w ∈ lw_all, w.before args s = true) (harr : Cond.arrayClass (newarray.typeOf atype) ∈ lw_all) (hK : cmK D dA s) (hM : gH D A ws H0 H locs) (hA : ∀ q, H0.size ≤ q → A q) (t0 : Nat) (ht : (cmTy dA)[t0]? = some (dA t0, newarray.typeOf atype)) (hd0 : defaultValue (newarray.typeOf atype) = .int 0) (N : Nat) (hN : N ≤ 1000) (hbytes : N * componentBytes (newarray.typeOf atype) ≤ 536870912) (hcells : cells + 1 ≤ R.cells) (hslots : slots + N ≤ R.slots) (hdg : decode cc pc = .ok (.newarray atype, 2))
    (kk : ∀ (q : Nat) (H1 : Heap), gH D A (ws ++ [(q, .inl (dA t0, N, .inl (fun _ => 0)))]) H0 H1 locs → W p l e R s m args below meth c H1 locs (cells + 1) (slots + N) Q (F0 m (pc + 2) ls (.ref q :: rest))) : W p l e R s m args below meth c H locs cells slots Q (F0 m pc ls (.int (nI N) :: rest)) :=
  c_newa hx hb hts harr hK t0 ht hd0 N rfl (by omega) hbytes hcells hslots hdg (fun H1 h1 hz hk => kk _ H1 (hM.push hA h1 hz hk))
theorem g_newq {C : String} {index : Nat} (hx : p.tables.exec = Jvm.exec) (hb : c.code = cc) (hts : ∀ w ∈ lw_all, w.before args s = true) (hown : s.vm.findClass own = some m.cls) (hcl : Cond.classLink own index C ∈ lw_all) (hov : va_AO C s) (hK : cmK D dA s) (hM : gH D A ws H0 H locs) (hA : ∀ q, H0.size ≤ q → A q) (t0 : Nat) (ht : (cmTy dA)[t0]? = some (dA t0, .object C)) (N : Nat) (hN : N ≤ 1000) (hcells : cells + 1 ≤ R.cells) (hslots : slots + N ≤ R.slots) (hdg : decode cc pc = .ok (.anewarray index, 3))
    (kk : ∀ (q : Nat) (H1 : Heap), gH D A (ws ++ [(q, .inl (dA t0, N, .inr (.inr (.inr (.inr (fun _ => none))))))]) H0 H1 locs → W p l e R s m args below meth c H1 locs (cells + 1) (slots + N) Q (F0 m (pc + 3) ls (.ref q :: rest))) : W p l e R s m args below meth c H locs cells slots Q (F0 m pc ls (.int (nI N) :: rest)) := by
  refine va_newq hx hb hown (hts _ hcl) hov hK.1 hM.1 hM.2.1 hM.2.2 hA (fun q => ?_) (nI_clamp (by omega)) (by omega) hcells hslots hdg (fun q cA H1 hK1 hP hD hS => ?_)
  · have := Int32.lt_iff_toInt_lt.mp q
    rw [nI_toInt (by omega), show ((0 : Int32)).toInt = 0 from rfl] at this
    omega
  · have e1 := (hK1.2 6 (cA, .object C) rfl).2
    have e2 := (hK.1.2 t0 _ ht).2
    obtain ⟨-, -, -, -, -, g1⟩ := e1
    obtain ⟨-, -, -, -, -, g2⟩ := e2
    have e : cA = dA t0 := Option.some.inj (g1.symm.trans g2)
    subst e
    exact kk q H1 ⟨hP, hD, hS⟩
theorem g_newo {T : u_T} {N ci index : Nat} {C : String} (hx : p.tables.exec = Jvm.exec) (hb : c.code = cc) (hts : ∀ w ∈ lw_all, w.before args s = true) (hin : ∀ w ∈ u_ws C T N, w ∈ lw_all) (ty : Nat → FieldType) (hty : ∀ k, k < N → parseFieldDescriptor (T k).2.2.1 = some (ty k)) (hown : s.vm.findClass own = some m.cls) (hcl : Cond.classLink own index C ∈ lw_all) (hinst : Cond.instantiable C N ∈ lw_all) (hini : Cond.initialized C ∈ lw_all) (hK : cmK D dA s) (hM : gH D A ws H0 H locs) (hA : ∀ q, H0.size ≤ q → A q)
    (hc : cmCl[ci]? = some (C, T, N)) {fs : List Value} (hfs : ∀ j, j < N → defaultValue (ty j) = vp_V fs j) (hcells : cells + 1 ≤ R.cells) (hslots : slots + N ≤ R.slots) (hdg : decode cc pc = .ok (.new index, 3))
    (kk : ∀ (q : Nat) (H1 : Heap), H.size ≤ q → gH D A (ws ++ [(q, .inr (ci, fs))]) H0 H1 locs → W p l e R s m args below meth c H1 locs (cells + 1) (slots + N) Q (F0 m (pc + 3) ls (.ref q :: rest))) : W p l e R s m args below meth c H locs cells slots Q (F0 m pc ls rest) :=
  c_new hx hb hts hin ty hty hown hcl hinst hini hK hc hfs hcells hslots hdg (fun H1 h1 hz hk => kk _ H1 (Nat.le_refl _) (hM.push hA h1 hz hk))
/-- one cell is another, new ones are there -/
theorem gH.ext {L : va_W} {q0 x0 : Nat} {e0 e1 : va_E} {H1 : Heap} (hM : gH D A ws H0 H locs) (hA : ∀ q, H0.size ≤ q → A q) (hq : ws[q0]? = some (x0, e0)) (hz : H.size ≤ H1.size) (hk : ∀ q, q < H.size → ¬ q = x0 → H1[q]? = H[q]?) (h1 : cAt D x0 e1 H1) (hL : ∀ (k : Nat) (q : Nat × va_E), L[k]? = some q → H.size ≤ q.1 ∧ va_at D cmCl q H1) (hd : ∀ (i j : Nat) (p q : Nat × va_E), L[i]? = some p → L[j]? = some q → p.1 = q.1 → i = j) : gH D A (ws.set q0 (x0, e1) ++ L) H0 H1 locs := by
  have hlt : q0 < ws.length := (List.getElem?_eq_some_iff.mp hq).1
  have hset : ∀ (k : Nat) (q : Nat × va_E), (ws.set q0 (x0, e1))[k]? = some q → ∃ q' : Nat × va_E, ws[k]? = some q' ∧ q'.1 = q.1 := fun k q hk2 => by
    rw [List.getElem?_set] at hk2
    by_cases e : q0 = k
    · rw [if_pos e, if_pos hlt] at hk2
      cases hk2
      exact ⟨(x0, e0), by rw [← e]; exact hq, rfl⟩
    · rw [if_neg e] at hk2
      exact ⟨q, hk2, rfl⟩
  have hx0 := hM.2.1.2 q0 _ hq
  refine ⟨va_P.app (fun k q hk2 => ?_) (fun k q hk2 => (hL k q hk2).2), ⟨fun i j p q hi hj e => ?_, fun k q hk2 => ?_⟩, ⟨Nat.le_trans hM.2.2.1 hz, fun q g1 g2 => (hk q (Nat.lt_of_lt_of_le g1 hM.2.2.1) (fun z => g2 (by rw [z]; exact hx0))).trans (hM.2.2.2.1 q g1 g2), hM.2.2.2.2⟩⟩
  · rw [List.getElem?_set] at hk2
    by_cases e : q0 = k
    · rw [if_pos e, if_pos hlt] at hk2
      cases hk2
      exact h1
    · rw [if_neg e] at hk2
      exact cAt.kept (a := q.1) (e := q.2) (hM.1 k q hk2) (hk q.1 ((hM.1 k q hk2).lt) (fun z => e (hM.2.1.1 q0 k _ q hq hk2 z.symm)))
  · by_cases li : i < (ws.set q0 (x0, e1)).length
    · rw [List.getElem?_append_left li] at hi
      obtain ⟨p', p1, p2⟩ := hset i p hi
      by_cases lj : j < (ws.set q0 (x0, e1)).length
      · rw [List.getElem?_append_left lj] at hj
        obtain ⟨q', r1, r2⟩ := hset j q hj
        exact hM.2.1.1 i j p' q' p1 r1 (p2.trans (e.trans r2.symm))
      · rw [List.getElem?_append_right (by omega)] at hj
        have := (hL _ q hj).1
        have := (hM.1 i p' p1).lt
        omega
    · rw [List.getElem?_append_right (by omega)] at hi
      by_cases lj : j < (ws.set q0 (x0, e1)).length
      · rw [List.getElem?_append_left lj] at hj
        obtain ⟨q', r1, r2⟩ := hset j q hj
        have := (hL _ p hi).1
        have := (hM.1 j q' r1).lt
        omega
      · rw [List.getElem?_append_right (by omega)] at hj
        have := hd _ _ p q hi hj e
        omega
  · by_cases lk : k < (ws.set q0 (x0, e1)).length
    · rw [List.getElem?_append_left lk] at hk2
      obtain ⟨q', r1, r2⟩ := hset k q hk2
      rw [← r2]
      exact hM.2.1.2 k q' r1
    · rw [List.getElem?_append_right (by omega)] at hk2
      exact hA _ (Nat.le_trans hM.2.2.1 (hL _ q hk2).1)
end GNA
section GNB
variable {p : Program} {l : Launch} {e : Env} {R : Room} {s : State} {m : MethodId} {args : Array Value} {below : List Frame} {meth : Method} {c : Code} {H : Heap} {locs : List Loc} {cells slots : Nat} {Q : State → Prop}
variable {cc : ByteArray} {pc : Nat} {ls : Array Slot} {rest : List Value} {D : va_G} {dA : Nat → ClassId} {b0 : Nat} {ad adV : Nat → Nat} {A B : Nat → Prop} {P : Heap → Prop} {Qv : Option Value → Heap → Prop}
variable {y : MethodName} {cy : ByteArray} {maxL nL fr lo idx mc ms n : Nat} {As st : List Value} {own : String}
theorem cx_go {b x0 : Nat} (hr : va_Run p l e R s m args below meth c H locs cells slots mc ms (F0 m pc ls st) rest (fun st' oc t => (∃ v, oc = .returned v ∧ Qv v t.heap) ∧ va_F B st' t) B) (hs : s.heap.size ≤ x0) (hsH : s.heap.size ≤ H.size) (hB : ∀ q, B q → q = x0 ∨ H.size ≤ q)
    (kk : ∀ (v : Option Value) (H1 : Heap), Qv v H1 → H.size ≤ H1.size → (∀ q, q < H.size → ¬ q = x0 → H1[q]? = H[q]?) → W p l e R s m args below meth c H1 locs (cells + mc) (slots + ms) Q (F0 m (pc + 3) ls (v.toList ++ rest))) : W p l e R s m args below meth c H locs cells slots Q (F0 m pc ls st) := by
  intro T hT X
  obtain ⟨v', st₀, t, T', L, h0, X', hL, e1, e2, ⟨⟨v, hv, hq⟩, hF⟩, stp⟩ := hr T hT X
  cases hv
  obtain ⟨hz, hk⟩ := hF
  rw [h0] at hz hk
  obtain ⟨t2, a1, b1⟩ := kk v' T'.heap (by rw [e1]; exact hq) (by rw [e1]; exact hz) (fun q h1 h3 => by rw [e1]; exact hk q h1 (fun h2 => (hB q h2).elim h3 (fun z => by omega))) T' rfl (X'.forget (fun q hq => (hB _ (hL q hq)).elim (fun z => by rw [z]; exact hs) (fun z => Nat.le_trans hsH z)))
  exact ⟨t2, stp t2 a1, b1⟩
theorem cx_I {x0 : Nat} (hx : p.tables.exec = Jvm.exec) (hb : c.code = cc) (hml : c.maxLocals = nL) (hown : s.vm.findClass own = some m.cls) (hts : ∀ w ∈ lw_all, w.before args s = true) (hK : cmK D dA s) (hs : s.heap.size ≤ x0) (hsH : s.heap.size ≤ H.size)
    (hC : Cg D dA B y cy maxL none fr lo mc ms (.ref x0 :: As) P Qv) (hB : ∀ q, B q → q = x0 ∨ H.size ≤ q) (hP : P H)
    (h1 : Cond.methodLink own idx y ∈ lw_all) (h2 : Cond.instanceMethod y ∈ lw_all) (h4 : Cond.initialized y.cls ∈ lw_all) (h5 : Cond.code y cy maxL none ∈ lw_all)
    (hd : y.name = "<init>" ∧ y.cls ≠ "java/lang/invoke/MethodHandle" ∧ y.cls ≠ "java/lang/invoke/VarHandle" ∧ (parseMethodDescriptor y.desc).map (fun d => d.parameters.length) = some n) (hn : As.length = n) (hRf : fr + 1 ≤ R.frames) (hRl : 8 + (maxL + 11) + lo ≤ R.locals) (hRc : cells + mc ≤ R.cells) (hRs : slots + ms ≤ R.slots) (hsize : ls.size = nL) (hst : st = As.reverse ++ .ref x0 :: rest) (hW : (rest.map fun v => v.category).sum ≤ 8) (hdg : decode cc pc = .ok (.invokespecial idx, 3))
    (kk : ∀ (v : Option Value) (H1 : Heap), Qv v H1 → H.size ≤ H1.size → (∀ q, q < H.size → ¬ q = x0 → H1[q]? = H[q]?) → W p l e R s m args below meth c H1 locs (cells + mc) (slots + ms) Q (F0 m (pc + 3) ls (v.toList ++ rest))) : W p l e R s m args below meth c H locs cells slots Q (F0 m pc ls st) :=
  cx_go (b := 0) (va_runI (below := below) (meth := meth) (locs := locs) (cells := cells) (slots := slots) (e := e) (As := As) (rest := rest) (g := F0 m pc ls st) (b := x0) (Ts := lw_all) (own := own) (n := n) ⟨hx, hb, hml, hown, hts⟩ (hC l) (cwI n hts (lw_meth h5) rfl rfl rfl (hts _ h4) (hts _ h1) (hts _ h2) hd.1 hd.2 ⟨hRf, hRl⟩)
    ⟨cm_blind, fun U hU hW => ⟨rfl, by rw [hU]; exact hP, hK.warm hW⟩⟩ rfl hn hsize hst (lv_room hW) hdg ⟨hRc, hRs⟩) hs hsH hB kk
theorem cx_IN {host : String} {x0 : Nat} (hx : p.tables.exec = Jvm.exec) (hb : c.code = cc) (hml : c.maxLocals = nL) (hown : s.vm.findClass own = some m.cls) (hts : ∀ w ∈ lw_all, w.before args s = true) (hK : cmK D dA s) (hs : s.heap.size ≤ x0) (hsH : s.heap.size ≤ H.size)
    (hC : Cg D dA B y cy maxL none fr lo mc ms (.ref x0 :: As) P Qv) (hB : ∀ q, B q → q = x0 ∨ H.size ≤ q) (hP : P H)
    (h1 : va_Nw (.methodLinkNest own idx y host) s) (h2 : Cond.instanceMethod y ∈ lw_all) (h4 : Cond.initialized y.cls ∈ lw_all) (h5 : Cond.code y cy maxL none ∈ lw_all)
    (hd : y.name = "<init>" ∧ y.cls ≠ "java/lang/invoke/MethodHandle" ∧ y.cls ≠ "java/lang/invoke/VarHandle" ∧ (parseMethodDescriptor y.desc).map (fun d => d.parameters.length) = some n) (hn : As.length = n) (hRf : fr + 1 ≤ R.frames) (hRl : 8 + (maxL + 11) + lo ≤ R.locals) (hRc : cells + mc ≤ R.cells) (hRs : slots + ms ≤ R.slots) (hsize : ls.size = nL) (hst : st = As.reverse ++ .ref x0 :: rest) (hW : (rest.map fun v => v.category).sum ≤ 8) (hdg : decode cc pc = .ok (.invokespecial idx, 3))
    (kk : ∀ (v : Option Value) (H1 : Heap), Qv v H1 → H.size ≤ H1.size → (∀ q, q < H.size → ¬ q = x0 → H1[q]? = H[q]?) → W p l e R s m args below meth c H1 locs (cells + mc) (slots + ms) Q (F0 m (pc + 3) ls (v.toList ++ rest))) : W p l e R s m args below meth c H locs cells slots Q (F0 m pc ls st) :=
  cx_go (b := 0) (va_runIN (below := below) (meth := meth) (locs := locs) (cells := cells) (slots := slots) (e := e) (As := As) (rest := rest) (g := F0 m pc ls st) (b := x0) (Ts := lw_all) (own := own) (n := n) ⟨hx, hb, hml, hown, hts⟩ (hC l) ⟨va_cnB n hts (lw_meth h5) rfl rfl rfl h1 (hts _ h4) hd.2 ⟨hRf, hRl⟩, hd.1, hts _ h2⟩
    ⟨cm_blind, fun U hU hW => ⟨rfl, by rw [hU]; exact hP, hK.warm hW⟩⟩ rfl hn hsize hst (lv_room hW) hdg ⟨hRc, hRs⟩) hs hsH hB kk
theorem cx_Q {x0 : Nat} (hx : p.tables.exec = Jvm.exec) (hb : c.code = cc) (hml : c.maxLocals = nL) (hown : s.vm.findClass own = some m.cls) (hts : ∀ w ∈ lw_all, w.before args s = true) (hK : cmK D dA s) (hE : ∀ U : State, U.heap = H → s.WarmedH U.vm → SRh b0 ad adV U H) (hs : s.heap.size ≤ x0) (hsH : s.heap.size ≤ H.size)
    (hC : Cq D dA b0 ad adV B y cy maxL none fr lo mc ms (.ref x0 :: As) P Qv) (hB : ∀ q, B q → q = x0 ∨ H.size ≤ q) (hP : P H)
    (h1 : Cond.methodLink own idx y ∈ lw_all) (h2 : Cond.instanceMethod y ∈ lw_all) (h4 : Cond.initialized y.cls ∈ lw_all) (h5 : Cond.code y cy maxL none ∈ lw_all)
    (hd : y.name = "<init>" ∧ y.cls ≠ "java/lang/invoke/MethodHandle" ∧ y.cls ≠ "java/lang/invoke/VarHandle" ∧ (parseMethodDescriptor y.desc).map (fun d => d.parameters.length) = some n) (hn : As.length = n) (hRf : fr + 1 ≤ R.frames) (hRl : 8 + (maxL + 11) + lo ≤ R.locals) (hRc : cells + mc ≤ R.cells) (hRs : slots + ms ≤ R.slots) (hsize : ls.size = nL) (hst : st = As.reverse ++ .ref x0 :: rest) (hW : (rest.map fun v => v.category).sum ≤ 8) (hdg : decode cc pc = .ok (.invokespecial idx, 3))
    (kk : ∀ (v : Option Value) (H1 : Heap), Qv v H1 → H.size ≤ H1.size → (∀ q, q < H.size → ¬ q = x0 → H1[q]? = H[q]?) → W p l e R s m args below meth c H1 locs (cells + mc) (slots + ms) Q (F0 m (pc + 3) ls (v.toList ++ rest))) : W p l e R s m args below meth c H locs cells slots Q (F0 m pc ls st) :=
  cx_go (b := 0) (va_runI (below := below) (meth := meth) (locs := locs) (cells := cells) (slots := slots) (e := e) (As := As) (rest := rest) (g := F0 m pc ls st) (b := x0) (Ts := lw_all) (own := own) (n := n) ⟨hx, hb, hml, hown, hts⟩ (hC l) (cwI n hts (lw_meth h5) rfl rfl rfl (hts _ h4) (hts _ h1) (hts _ h2) hd.1 hd.2 ⟨hRf, hRl⟩)
    ⟨cq_blind, fun U hU hW => ⟨rfl, by rw [hU]; exact hP, hK.warm hW, by rw [hU]; exact hE U hU hW⟩⟩ rfl hn hsize hst (lv_room hW) hdg ⟨hRc, hRs⟩) hs hsH hB kk
end GNB
theorem ndX3_init : yX3_init.name = "<init>" ∧ yX3_init.cls ≠ "java/lang/invoke/MethodHandle" ∧ yX3_init.cls ≠ "java/lang/invoke/VarHandle" ∧ (parseMethodDescriptor yX3_init.desc).map (fun d => d.parameters.length) = some 0 := by decide +kernel
set_option maxHeartbeats 400000 in
theorem cn_X3 {D : va_G} {dA : Nat → ClassId} (b x : Nat) : Cg D dA (fun q => q = x ∨ b ≤ q) yX3_init cX3_init 1 none 1 21 1 128 [.ref x] (fun H => H.size = b ∧ cAt D x (.inr (3, [.null])) H) (fun v' H => v' = none ∧ ∃ y, b ≤ y ∧ cAt D x (.inr (3, [.ref y])) H ∧ cAt D y (.inl (dA 0, 128, .inl (fun _ => 0))) H) := by
  refine Cg.ofV (by decide) (own := RX3) rfl (Nat.le_of_ble_eq_true rfl) ?_
  intro p l e R s m args below meth c Q ls hx hb hml hRf hRl hRc hRs hin hts hown hK hP hl hret
  have hl : lv_has ls 1 [(0, .ref x)] := hl
  obtain ⟨rfl, hX⟩ := hP
  have hM : gH D (fun q => q = x ∨ s.heap.size ≤ q) [(x, .inr (3, [.null]))] s.heap s.heap [] := g_oneA hX (Or.inl rfl) va_S.rf
  refine lv_aload_n hx hb dX3_init_0 rfl (lv_at hl 0 rfl) ?_
  refine W.objInit hx hb hown (hts _ q189) (hts _ q103) (hts _ q104) rfl (by rw [hml]; exact hl.1) rfl dX3_init_1 (by rw [hRf]; exact Nat.le_of_ble_eq_true rfl) (by rw [hRl]; exact Nat.le_of_ble_eq_true rfl) ?_
  show W p l e R s m args below meth c s.heap [] 0 0 Q (F0 m 4 ls [])
  refine lv_aload_n hx hb dX3_init_4 rfl (lv_at hl 0 rfl) ?_
  refine lv_sipush (v := nI 128) hx hb dX3_init_5 (by decide) ?_
  refine c_newa (atype := .int) hx hb hts q195 hK 0 rfl rfl 128 rfl (by decide) (by decide) (by rw [hRc]; decide) (by rw [hRs]; decide) dX3_init_8 (fun H1 hY hz hk => ?_)
  have hM1 := hM.push (fun q h => Or.inr h) hY hz hk
  refine g_putF hx hb hts in_X3 tyX3 tyX3_ok nmX3 hown hK hM1 0 rfl rfl 0 (by decide) q190 rfl rfl hin rfl rfl rfl (Nat.le_of_ble_eq_true rfl) dX3_init_10 (fun H locs hM => ?_)
  exact hret ⟨rfl, _, Nat.le_refl _, hM.1 0 _ rfl, hM.1 1 _ rfl⟩ hM.2.2 dX3_init_13
theorem ndX4_init : yX4_init.name = "<init>" ∧ yX4_init.cls ≠ "java/lang/invoke/MethodHandle" ∧ yX4_init.cls ≠ "java/lang/invoke/VarHandle" ∧ (parseMethodDescriptor yX4_init.desc).map (fun d => d.parameters.length) = some 0 := by decide +kernel
set_option maxHeartbeats 400000 in
theorem cn_X4 {D : va_G} {dA : Nat → ClassId} (b x : Nat) : Cg D dA (fun q => q = x ∨ b ≤ q) yX4_init cX4_init 1 none 1 21 1 40 [.ref x] (fun H => H.size = b ∧ cAt D x (.inr (4, [.null, .int 0])) H) (fun v' H => v' = none ∧ ∃ y, b ≤ y ∧ cAt D x (.inr (4, [.ref y, .int 0])) H ∧ cAt D y (.inl (dA 0, 40, .inl (fun _ => 0))) H) := by
  refine Cg.ofV (by decide) (own := RX4) rfl (Nat.le_of_ble_eq_true rfl) ?_
  intro p l e R s m args below meth c Q ls hx hb hml hRf hRl hRc hRs hin hts hown hK hP hl hret
  have hl : lv_has ls 1 [(0, .ref x)] := hl
  obtain ⟨rfl, hX⟩ := hP
  have hM : gH D (fun q => q = x ∨ s.heap.size ≤ q) [(x, .inr (4, [.null, .int 0]))] s.heap s.heap [] := g_oneA hX (Or.inl rfl) va_S.rf
  refine lv_aload_n hx hb dX4_init_0 rfl (lv_at hl 0 rfl) ?_
  refine W.objInit hx hb hown (hts _ q265) (hts _ q103) (hts _ q104) rfl (by rw [hml]; exact hl.1) rfl dX4_init_1 (by rw [hRf]; exact Nat.le_of_ble_eq_true rfl) (by rw [hRl]; exact Nat.le_of_ble_eq_true rfl) ?_
  show W p l e R s m args below meth c s.heap [] 0 0 Q (F0 m 4 ls [])
  refine lv_aload_n hx hb dX4_init_4 rfl (lv_at hl 0 rfl) ?_
  refine lv_bipush (v := nI 40) hx hb dX4_init_5 (by decide) ?_
  refine c_newa (atype := .int) hx hb hts q195 hK 0 rfl rfl 40 rfl (by decide) (by decide) (by rw [hRc]; decide) (by rw [hRs]; decide) dX4_init_7 (fun H1 hY hz hk => ?_)
  have hM1 := hM.push (fun q h => Or.inr h) hY hz hk
  refine g_putF hx hb hts in_X4 tyX4 tyX4_ok nmX4 hown hK hM1 0 rfl rfl 0 (by decide) q266 rfl rfl hin rfl rfl rfl (Nat.le_of_ble_eq_true rfl) dX4_init_9 (fun H locs hM => ?_)
  exact hret ⟨rfl, _, Nat.le_refl _, hM.1 0 _ rfl, hM.1 1 _ rfl⟩ hM.2.2 dX4_init_12
theorem ndX5_init : yX5_init.name = "<init>" ∧ yX5_init.cls ≠ "java/lang/invoke/MethodHandle" ∧ yX5_init.cls ≠ "java/lang/invoke/VarHandle" ∧ (parseMethodDescriptor yX5_init.desc).map (fun d => d.parameters.length) = some 0 := by decide +kernel
set_option maxHeartbeats 400000 in
theorem cn_X5 {D : va_G} {dA : Nat → ClassId} (x : Nat) (e1 : va_E) : Cg D dA (fun q => q = x) yX5_init cX5_init 1 none 1 21 0 0 [.ref x] (fun H => cAt D x e1 H) (fun v' H => v' = none ∧ cAt D x e1 H) := by
  refine Cg.ofV (by decide) (own := RX5) rfl (Nat.le_of_ble_eq_true rfl) ?_
  intro p l e R s m args below meth c Q ls hx hb hml hRf hRl hRc hRs hin hts hown hK hP hl hret
  have hl : lv_has ls 1 [(0, .ref x)] := hl
  refine lv_aload_n hx hb dX5_init_0 rfl (lv_at hl 0 rfl) ?_
  refine W.objInit hx hb hown (hts _ q281) (hts _ q103) (hts _ q104) rfl (by rw [hml]; exact hl.1) rfl dX5_init_1 (by rw [hRf]; exact Nat.le_of_ble_eq_true rfl) (by rw [hRl]; exact Nat.le_of_ble_eq_true rfl) ?_
  show W p l e R s m args below meth c s.heap [] 0 0 Q (F0 m 4 ls [])
  exact hret ⟨rfl, hP⟩ va_S.rf dX5_init_4
/-- the row at the start -/
def r00 : Nat → Int32 := fun k => if k = 1 ∨ k = 2 then nI 1 else if k = 6 ∨ k = 7 then -1 else if 33 ≤ k ∧ k < 58 then nI 50 else 0
theorem r00_at {k : Nat} (hk : 25 ≤ k) {j q : Nat} (hj : mwJ j) (hq : q < mwLn j) : (fun j => if j = 2 then cpk (fun _ => nI 50) (fun _ => (0 : Int32)) k else fun _ => 0) j q = mwAr r00 j q := by
  have g0 : ∀ x, (3 ≤ x ∧ x ≠ 6 ∧ x ≠ 7 ∧ (x < 33 ∨ 58 ≤ x)) → r00 x = 0 := fun x h => by
    unfold r00
    rw [if_neg (by omega), if_neg (by omega), if_neg (by omega)]
  rcases hj with rfl | rfl | rfl | rfl | rfl | rfl | rfl
  · have hq : q < 25 := hq
    exact (g0 (8 + q) (by omega)).symm
  · have hq : q < 25 := hq
    show (if (2 : Nat) = 2 then cpk (fun _ => nI 50) (fun _ => (0 : Int32)) k else fun _ => 0) q = r00 (33 + q)
    rw [if_pos rfl]
    unfold cpk r00
    rw [if_pos (by omega), if_neg (by omega), if_neg (by omega), if_pos (by omega)]
  · exact (g0 (58 + 14 * q + 2) (by omega)).symm
  · show 0 = mwMk r00 q
    unfold mwMk
    by_cases e : q % 12 < 10
    · rw [if_pos e]; exact (g0 _ (by omega)).symm
    · rw [if_neg e]
  · exact (g0 (58 + 14 * q + 3) (by omega)).symm
  · show 0 = (r00 (128 + q)).toInt8.toInt32
    rw [g0 (128 + q) (by omega)]; rfl
  · exact (g0 (178 + q) (by omega)).symm
theorem ndX2_init : yX2_init.name = "<init>" ∧ yX2_init.cls ≠ "java/lang/invoke/MethodHandle" ∧ yX2_init.cls ≠ "java/lang/invoke/VarHandle" ∧ (parseMethodDescriptor yX2_init.desc).map (fun d => d.parameters.length) = some 0 := by decide +kernel
set_option maxHeartbeats 2000000 in
theorem cn_X2 {D : va_G} {dA : Nat → ClassId} (b x : Nat) : Cg D dA (fun q => q = x ∨ b ≤ q) yX2_init cX2_init 2 none 2 41 11 326 [.ref x] (fun H => H.size = b ∧ cAt D x (.inr (2, [.null, .null, .int 0, .int 0, .null, .null, .null, .null, .int 0, .null, .int 0, .null, .int 0, .null, .int 0, .null])) H) (fun v' H => v' = none ∧ ∃ h : Nat → Nat, h 0 = x ∧ mwI h ∧ (∀ k, 1 ≤ k → k < 12 → b ≤ h k) ∧ va_P D cmCl (mwWs h dA r00 (fun _ => none) (fun _ => none) (fun _ => 0)) H) := by
  refine Cg.ofV (by decide) (own := RX2) rfl (Nat.le_of_ble_eq_true rfl) ?_
  intro p l e R s m args below meth c Q ls hx hb hml hRf hRl hRc hRs hin hts hown hK hP hl hret
  have hl : lv_has ls 2 [(0, .ref x)] := hl
  obtain ⟨rfl, hX⟩ := hP
  have hxl := hX.lt
  have hA : ∀ q, s.heap.size ≤ q → (fun q => q = x ∨ s.heap.size ≤ q) q := fun q h => Or.inr h
  have hM : gH D (fun q => q = x ∨ s.heap.size ≤ q) [(x, .inr (2, [.null, .null, .int 0, .int 0, .null, .null, .null, .null, .int 0, .null, .int 0, .null, .int 0, .null, .int 0, .null]))] s.heap s.heap [] := g_oneA hX (Or.inl rfl) va_S.rf
  refine lv_aload_n hx hb dX2_init_0 rfl (lv_at hl 0 rfl) ?_
  refine W.objInit hx hb hown (hts _ q179) (hts _ q103) (hts _ q104) rfl (by rw [hml]; exact hl.1) rfl dX2_init_1 (by rw [hRf]; exact Nat.le_of_ble_eq_true rfl) (by rw [hRl]; exact Nat.le_of_ble_eq_true rfl) ?_
  show W p l e R s m args below meth c s.heap [] 0 0 Q (F0 m 4 ls [])
  refine lv_aload_n hx hb dX2_init_4 rfl (lv_at hl 0 rfl) ?_
  refine lv_bipush (v := nI 25) hx hb dX2_init_5 (by decide) ?_
  refine g_newa (atype := .int) hx hb hts q195 hK hM hA 0 rfl rfl 25 (by decide) (by decide) (by rw [hRc]; decide) (by rw [hRs]; decide) dX2_init_7 (fun a1 H hM => ?_)
  have hM : gH D (fun q => q = x ∨ s.heap.size ≤ q) [(x, .inr (2, [.null, .null, .int 0, .int 0, .null, .null, .null, .null, .int 0, .null, .int 0, .null, .int 0, .null, .int 0, .null])), (a1, .inl (dA 0, 25, .inl (fun _ => 0)))] s.heap H [] := hM
  refine g_putF hx hb hts in_X2 tyX2 tyX2_ok nmX2 hown hK hM 0 rfl rfl 0 (by decide) q197 rfl rfl hin rfl rfl rfl (Nat.le_of_ble_eq_true rfl) dX2_init_9 (fun H locs hM => ?_)
  have hM : gH D (fun q => q = x ∨ s.heap.size ≤ q) [(x, .inr (2, [.ref a1, .null, .int 0, .int 0, .null, .null, .null, .null, .int 0, .null, .int 0, .null, .int 0, .null, .int 0, .null])), (a1, .inl (dA 0, 25, .inl (fun _ => 0)))] s.heap H locs := hM
  refine lv_aload_n hx hb dX2_init_12 rfl (lv_at hl 0 rfl) ?_
  refine lv_bipush (v := nI 25) hx hb dX2_init_13 (by decide) ?_
  refine g_newa (atype := .int) hx hb hts q195 hK hM hA 0 rfl rfl 25 (by decide) (by decide) (by rw [hRc]; decide) (by rw [hRs]; decide) dX2_init_15 (fun a2 H hM => ?_)
  have hM : gH D (fun q => q = x ∨ s.heap.size ≤ q) [(x, .inr (2, [.ref a1, .null, .int 0, .int 0, .null, .null, .null, .null, .int 0, .null, .int 0, .null, .int 0, .null, .int 0, .null])), (a1, .inl (dA 0, 25, .inl (fun _ => 0))), (a2, .inl (dA 0, 25, .inl (fun _ => 0)))] s.heap H locs := hM
  refine g_putF hx hb hts in_X2 tyX2 tyX2_ok nmX2 hown hK hM 0 rfl rfl 1 (by decide) q199 rfl rfl hin rfl rfl rfl (Nat.le_of_ble_eq_true rfl) dX2_init_17 (fun H locs hM => ?_)
  have hM : gH D (fun q => q = x ∨ s.heap.size ≤ q) [(x, .inr (2, [.ref a1, .ref a2, .int 0, .int 0, .null, .null, .null, .null, .int 0, .null, .int 0, .null, .int 0, .null, .int 0, .null])), (a1, .inl (dA 0, 25, .inl (fun _ => 0))), (a2, .inl (dA 0, 25, .inl (fun _ => 0)))] s.heap H locs := hM
  refine lv_aload_n hx hb dX2_init_20 rfl (lv_at hl 0 rfl) ?_
  refine lv_iconst (v := nI 1) hx hb dX2_init_21 (by decide) ?_
  refine g_put hx hb hts in_X2 tyX2 tyX2_ok nmX2 hown hK hM 0 rfl rfl 2 (by decide) q201 rfl rfl rfl rfl (Nat.le_of_ble_eq_true rfl) dX2_init_22 (fun H locs hM => ?_)
  have hM : gH D (fun q => q = x ∨ s.heap.size ≤ q) [(x, .inr (2, [.ref a1, .ref a2, .int (nI 1), .int 0, .null, .null, .null, .null, .int 0, .null, .int 0, .null, .int 0, .null, .int 0, .null])), (a1, .inl (dA 0, 25, .inl (fun _ => 0))), (a2, .inl (dA 0, 25, .inl (fun _ => 0)))] s.heap H locs := hM
  refine lv_aload_n hx hb dX2_init_25 rfl (lv_at hl 0 rfl) ?_
  refine lv_iconst (v := nI 5) hx hb dX2_init_26 (by decide) ?_
  refine g_newq (C := "MeadowMilk$Cow") hx hb hts hown q180 hK.2.2.2.2.2.2.1 hK hM hA 3 rfl 5 (by decide) (by rw [hRc]; decide) (by rw [hRs]; decide) dX2_init_27 (fun a3 H hM => ?_)
  have hM : gH D (fun q => q = x ∨ s.heap.size ≤ q) [(x, .inr (2, [.ref a1, .ref a2, .int (nI 1), .int 0, .null, .null, .null, .null, .int 0, .null, .int 0, .null, .int 0, .null, .int 0, .null])), (a1, .inl (dA 0, 25, .inl (fun _ => 0))), (a2, .inl (dA 0, 25, .inl (fun _ => 0))), (a3, .inl (dA 3, 5, .inr (.inr (.inr (.inr (fun _ => none))))))] s.heap H locs := hM
  refine g_putF hx hb hts in_X2 tyX2 tyX2_ok nmX2 hown hK hM 0 rfl rfl 4 (by decide) q205 rfl rfl hin rfl rfl rfl (Nat.le_of_ble_eq_true rfl) dX2_init_30 (fun H locs hM => ?_)
  have hM : gH D (fun q => q = x ∨ s.heap.size ≤ q) [(x, .inr (2, [.ref a1, .ref a2, .int (nI 1), .int 0, .ref a3, .null, .null, .null, .int 0, .null, .int 0, .null, .int 0, .null, .int 0, .null])), (a1, .inl (dA 0, 25, .inl (fun _ => 0))), (a2, .inl (dA 0, 25, .inl (fun _ => 0))), (a3, .inl (dA 3, 5, .inr (.inr (.inr (.inr (fun _ => none))))))] s.heap H locs := hM
  refine lv_aload_n hx hb dX2_init_33 rfl (lv_at hl 0 rfl) ?_
  refine lv_iconst (v := nI 5) hx hb dX2_init_34 (by decide) ?_
  refine g_newa (atype := .int) hx hb hts q195 hK hM hA 0 rfl rfl 5 (by decide) (by decide) (by rw [hRc]; decide) (by rw [hRs]; decide) dX2_init_35 (fun a4 H hM => ?_)
  have hM : gH D (fun q => q = x ∨ s.heap.size ≤ q) [(x, .inr (2, [.ref a1, .ref a2, .int (nI 1), .int 0, .ref a3, .null, .null, .null, .int 0, .null, .int 0, .null, .int 0, .null, .int 0, .null])), (a1, .inl (dA 0, 25, .inl (fun _ => 0))), (a2, .inl (dA 0, 25, .inl (fun _ => 0))), (a3, .inl (dA 3, 5, .inr (.inr (.inr (.inr (fun _ => none)))))), (a4, .inl (dA 0, 5, .inl (fun _ => 0)))] s.heap H locs := hM
  refine g_putF hx hb hts in_X2 tyX2 tyX2_ok nmX2 hown hK hM 0 rfl rfl 5 (by decide) q207 rfl rfl hin rfl rfl rfl (Nat.le_of_ble_eq_true rfl) dX2_init_37 (fun H locs hM => ?_)
  have hM : gH D (fun q => q = x ∨ s.heap.size ≤ q) [(x, .inr (2, [.ref a1, .ref a2, .int (nI 1), .int 0, .ref a3, .ref a4, .null, .null, .int 0, .null, .int 0, .null, .int 0, .null, .int 0, .null])), (a1, .inl (dA 0, 25, .inl (fun _ => 0))), (a2, .inl (dA 0, 25, .inl (fun _ => 0))), (a3, .inl (dA 3, 5, .inr (.inr (.inr (.inr (fun _ => none)))))), (a4, .inl (dA 0, 5, .inl (fun _ => 0)))] s.heap H locs := hM
  refine lv_aload_n hx hb dX2_init_40 rfl (lv_at hl 0 rfl) ?_
  refine lv_bipush (v := nI 60) hx hb dX2_init_41 (by decide) ?_
  refine g_newa (atype := .int) hx hb hts q195 hK hM hA 0 rfl rfl 60 (by decide) (by decide) (by rw [hRc]; decide) (by rw [hRs]; decide) dX2_init_43 (fun a5 H hM => ?_)
  have hM : gH D (fun q => q = x ∨ s.heap.size ≤ q) [(x, .inr (2, [.ref a1, .ref a2, .int (nI 1), .int 0, .ref a3, .ref a4, .null, .null, .int 0, .null, .int 0, .null, .int 0, .null, .int 0, .null])), (a1, .inl (dA 0, 25, .inl (fun _ => 0))), (a2, .inl (dA 0, 25, .inl (fun _ => 0))), (a3, .inl (dA 3, 5, .inr (.inr (.inr (.inr (fun _ => none)))))), (a4, .inl (dA 0, 5, .inl (fun _ => 0))), (a5, .inl (dA 0, 60, .inl (fun _ => 0)))] s.heap H locs := hM
  refine g_putF hx hb hts in_X2 tyX2 tyX2_ok nmX2 hown hK hM 0 rfl rfl 6 (by decide) q209 rfl rfl hin rfl rfl rfl (Nat.le_of_ble_eq_true rfl) dX2_init_45 (fun H locs hM => ?_)
  have hM : gH D (fun q => q = x ∨ s.heap.size ≤ q) [(x, .inr (2, [.ref a1, .ref a2, .int (nI 1), .int 0, .ref a3, .ref a4, .ref a5, .null, .int 0, .null, .int 0, .null, .int 0, .null, .int 0, .null])), (a1, .inl (dA 0, 25, .inl (fun _ => 0))), (a2, .inl (dA 0, 25, .inl (fun _ => 0))), (a3, .inl (dA 3, 5, .inr (.inr (.inr (.inr (fun _ => none)))))), (a4, .inl (dA 0, 5, .inl (fun _ => 0))), (a5, .inl (dA 0, 60, .inl (fun _ => 0)))] s.heap H locs := hM
  refine lv_aload_n hx hb dX2_init_48 rfl (lv_at hl 0 rfl) ?_
  refine lv_iconst (v := nI 5) hx hb dX2_init_49 (by decide) ?_
  refine g_newa (atype := .int) hx hb hts q195 hK hM hA 0 rfl rfl 5 (by decide) (by decide) (by rw [hRc]; decide) (by rw [hRs]; decide) dX2_init_50 (fun a6 H hM => ?_)
  have hM : gH D (fun q => q = x ∨ s.heap.size ≤ q) [(x, .inr (2, [.ref a1, .ref a2, .int (nI 1), .int 0, .ref a3, .ref a4, .ref a5, .null, .int 0, .null, .int 0, .null, .int 0, .null, .int 0, .null])), (a1, .inl (dA 0, 25, .inl (fun _ => 0))), (a2, .inl (dA 0, 25, .inl (fun _ => 0))), (a3, .inl (dA 3, 5, .inr (.inr (.inr (.inr (fun _ => none)))))), (a4, .inl (dA 0, 5, .inl (fun _ => 0))), (a5, .inl (dA 0, 60, .inl (fun _ => 0))), (a6, .inl (dA 0, 5, .inl (fun _ => 0)))] s.heap H locs := hM
  refine g_putF hx hb hts in_X2 tyX2 tyX2_ok nmX2 hown hK hM 0 rfl rfl 7 (by decide) q210 rfl rfl hin rfl rfl rfl (Nat.le_of_ble_eq_true rfl) dX2_init_52 (fun H locs hM => ?_)
  have hM : gH D (fun q => q = x ∨ s.heap.size ≤ q) [(x, .inr (2, [.ref a1, .ref a2, .int (nI 1), .int 0, .ref a3, .ref a4, .ref a5, .ref a6, .int 0, .null, .int 0, .null, .int 0, .null, .int 0, .null])), (a1, .inl (dA 0, 25, .inl (fun _ => 0))), (a2, .inl (dA 0, 25, .inl (fun _ => 0))), (a3, .inl (dA 3, 5, .inr (.inr (.inr (.inr (fun _ => none)))))), (a4, .inl (dA 0, 5, .inl (fun _ => 0))), (a5, .inl (dA 0, 60, .inl (fun _ => 0))), (a6, .inl (dA 0, 5, .inl (fun _ => 0)))] s.heap H locs := hM
  refine lv_aload_n hx hb dX2_init_55 rfl (lv_at hl 0 rfl) ?_
  refine lv_iconst (v := nI 2) hx hb dX2_init_56 (by decide) ?_
  refine g_newq (C := "MeadowMilk$Term") hx hb hts hown q182 hK.2.2.2.2.2.2.2.1 hK hM hA 4 rfl 2 (by decide) (by rw [hRc]; decide) (by rw [hRs]; decide) dX2_init_57 (fun a7 H hM => ?_)
  have hM : gH D (fun q => q = x ∨ s.heap.size ≤ q) [(x, .inr (2, [.ref a1, .ref a2, .int (nI 1), .int 0, .ref a3, .ref a4, .ref a5, .ref a6, .int 0, .null, .int 0, .null, .int 0, .null, .int 0, .null])), (a1, .inl (dA 0, 25, .inl (fun _ => 0))), (a2, .inl (dA 0, 25, .inl (fun _ => 0))), (a3, .inl (dA 3, 5, .inr (.inr (.inr (.inr (fun _ => none)))))), (a4, .inl (dA 0, 5, .inl (fun _ => 0))), (a5, .inl (dA 0, 60, .inl (fun _ => 0))), (a6, .inl (dA 0, 5, .inl (fun _ => 0))), (a7, .inl (dA 4, 2, .inr (.inr (.inr (.inr (fun _ => none))))))] s.heap H locs := hM
  refine g_putF hx hb hts in_X2 tyX2 tyX2_ok nmX2 hown hK hM 0 rfl rfl 9 (by decide) q214 rfl rfl hin rfl rfl rfl (Nat.le_of_ble_eq_true rfl) dX2_init_60 (fun H locs hM => ?_)
  have hM : gH D (fun q => q = x ∨ s.heap.size ≤ q) [(x, .inr (2, [.ref a1, .ref a2, .int (nI 1), .int 0, .ref a3, .ref a4, .ref a5, .ref a6, .int 0, .ref a7, .int 0, .null, .int 0, .null, .int 0, .null])), (a1, .inl (dA 0, 25, .inl (fun _ => 0))), (a2, .inl (dA 0, 25, .inl (fun _ => 0))), (a3, .inl (dA 3, 5, .inr (.inr (.inr (.inr (fun _ => none)))))), (a4, .inl (dA 0, 5, .inl (fun _ => 0))), (a5, .inl (dA 0, 60, .inl (fun _ => 0))), (a6, .inl (dA 0, 5, .inl (fun _ => 0))), (a7, .inl (dA 4, 2, .inr (.inr (.inr (.inr (fun _ => none))))))] s.heap H locs := hM
  refine lv_aload_n hx hb dX2_init_63 rfl (lv_at hl 0 rfl) ?_
  refine lv_iconst (v := nI 1) hx hb dX2_init_64 (by decide) ?_
  refine g_put hx hb hts in_X2 tyX2 tyX2_ok nmX2 hown hK hM 0 rfl rfl 10 (by decide) q216 rfl rfl rfl rfl (Nat.le_of_ble_eq_true rfl) dX2_init_65 (fun H locs hM => ?_)
  have hM : gH D (fun q => q = x ∨ s.heap.size ≤ q) [(x, .inr (2, [.ref a1, .ref a2, .int (nI 1), .int 0, .ref a3, .ref a4, .ref a5, .ref a6, .int 0, .ref a7, .int (nI 1), .null, .int 0, .null, .int 0, .null])), (a1, .inl (dA 0, 25, .inl (fun _ => 0))), (a2, .inl (dA 0, 25, .inl (fun _ => 0))), (a3, .inl (dA 3, 5, .inr (.inr (.inr (.inr (fun _ => none)))))), (a4, .inl (dA 0, 5, .inl (fun _ => 0))), (a5, .inl (dA 0, 60, .inl (fun _ => 0))), (a6, .inl (dA 0, 5, .inl (fun _ => 0))), (a7, .inl (dA 4, 2, .inr (.inr (.inr (.inr (fun _ => none))))))] s.heap H locs := hM
  refine lv_aload_n hx hb dX2_init_68 rfl (lv_at hl 0 rfl) ?_
  refine lv_bipush (v := nI 50) hx hb dX2_init_69 (by decide) ?_
  refine g_newa (atype := .byte) hx hb hts q196 hK hM hA 1 rfl rfl 50 (by decide) (by decide) (by rw [hRc]; decide) (by rw [hRs]; decide) dX2_init_71 (fun a8 H hM => ?_)
  have hM : gH D (fun q => q = x ∨ s.heap.size ≤ q) [(x, .inr (2, [.ref a1, .ref a2, .int (nI 1), .int 0, .ref a3, .ref a4, .ref a5, .ref a6, .int 0, .ref a7, .int (nI 1), .null, .int 0, .null, .int 0, .null])), (a1, .inl (dA 0, 25, .inl (fun _ => 0))), (a2, .inl (dA 0, 25, .inl (fun _ => 0))), (a3, .inl (dA 3, 5, .inr (.inr (.inr (.inr (fun _ => none)))))), (a4, .inl (dA 0, 5, .inl (fun _ => 0))), (a5, .inl (dA 0, 60, .inl (fun _ => 0))), (a6, .inl (dA 0, 5, .inl (fun _ => 0))), (a7, .inl (dA 4, 2, .inr (.inr (.inr (.inr (fun _ => none)))))), (a8, .inl (dA 1, 50, .inl (fun _ => 0)))] s.heap H locs := hM
  refine g_putF hx hb hts in_X2 tyX2 tyX2_ok nmX2 hown hK hM 0 rfl rfl 11 (by decide) q218 rfl rfl hin rfl rfl rfl (Nat.le_of_ble_eq_true rfl) dX2_init_73 (fun H locs hM => ?_)
  have hM : gH D (fun q => q = x ∨ s.heap.size ≤ q) [(x, .inr (2, [.ref a1, .ref a2, .int (nI 1), .int 0, .ref a3, .ref a4, .ref a5, .ref a6, .int 0, .ref a7, .int (nI 1), .ref a8, .int 0, .null, .int 0, .null])), (a1, .inl (dA 0, 25, .inl (fun _ => 0))), (a2, .inl (dA 0, 25, .inl (fun _ => 0))), (a3, .inl (dA 3, 5, .inr (.inr (.inr (.inr (fun _ => none)))))), (a4, .inl (dA 0, 5, .inl (fun _ => 0))), (a5, .inl (dA 0, 60, .inl (fun _ => 0))), (a6, .inl (dA 0, 5, .inl (fun _ => 0))), (a7, .inl (dA 4, 2, .inr (.inr (.inr (.inr (fun _ => none)))))), (a8, .inl (dA 1, 50, .inl (fun _ => 0)))] s.heap H locs := hM
  refine lv_aload_n hx hb dX2_init_76 rfl (lv_at hl 0 rfl) ?_
  refine lv_bipush (v := nI 20) hx hb dX2_init_77 (by decide) ?_
  refine g_newa (atype := .int) hx hb hts q195 hK hM hA 0 rfl rfl 20 (by decide) (by decide) (by rw [hRc]; decide) (by rw [hRs]; decide) dX2_init_79 (fun a9 H hM => ?_)
  have hM : gH D (fun q => q = x ∨ s.heap.size ≤ q) [(x, .inr (2, [.ref a1, .ref a2, .int (nI 1), .int 0, .ref a3, .ref a4, .ref a5, .ref a6, .int 0, .ref a7, .int (nI 1), .ref a8, .int 0, .null, .int 0, .null])), (a1, .inl (dA 0, 25, .inl (fun _ => 0))), (a2, .inl (dA 0, 25, .inl (fun _ => 0))), (a3, .inl (dA 3, 5, .inr (.inr (.inr (.inr (fun _ => none)))))), (a4, .inl (dA 0, 5, .inl (fun _ => 0))), (a5, .inl (dA 0, 60, .inl (fun _ => 0))), (a6, .inl (dA 0, 5, .inl (fun _ => 0))), (a7, .inl (dA 4, 2, .inr (.inr (.inr (.inr (fun _ => none)))))), (a8, .inl (dA 1, 50, .inl (fun _ => 0))), (a9, .inl (dA 0, 20, .inl (fun _ => 0)))] s.heap H locs := hM
  refine g_putF hx hb hts in_X2 tyX2 tyX2_ok nmX2 hown hK hM 0 rfl rfl 13 (by decide) q222 rfl rfl hin rfl rfl rfl (Nat.le_of_ble_eq_true rfl) dX2_init_81 (fun H locs hM => ?_)
  have hM : gH D (fun q => q = x ∨ s.heap.size ≤ q) [(x, .inr (2, [.ref a1, .ref a2, .int (nI 1), .int 0, .ref a3, .ref a4, .ref a5, .ref a6, .int 0, .ref a7, .int (nI 1), .ref a8, .int 0, .ref a9, .int 0, .null])), (a1, .inl (dA 0, 25, .inl (fun _ => 0))), (a2, .inl (dA 0, 25, .inl (fun _ => 0))), (a3, .inl (dA 3, 5, .inr (.inr (.inr (.inr (fun _ => none)))))), (a4, .inl (dA 0, 5, .inl (fun _ => 0))), (a5, .inl (dA 0, 60, .inl (fun _ => 0))), (a6, .inl (dA 0, 5, .inl (fun _ => 0))), (a7, .inl (dA 4, 2, .inr (.inr (.inr (.inr (fun _ => none)))))), (a8, .inl (dA 1, 50, .inl (fun _ => 0))), (a9, .inl (dA 0, 20, .inl (fun _ => 0)))] s.heap H locs := hM
  refine lv_aload_n hx hb dX2_init_84 rfl (lv_at hl 0 rfl) ?_
  have hS8 := hM.2.2.1
  refine g_newo (ci := 3) (fs := [.null]) (C := RX3) (T := TX3) (N := 1) hx hb hts in_X3 tyX3 tyX3_ok hown q184 q185 q67 hK hM hA rfl (fun j hj => by rcases (show j = 0 by omega) with rfl <;> rfl) (by rw [hRc]; decide) (by rw [hRs]; decide) dX2_init_85 (fun a10 H hq10 hM => ?_)
  have hM : gH D (fun q => q = x ∨ s.heap.size ≤ q) [(x, .inr (2, [.ref a1, .ref a2, .int (nI 1), .int 0, .ref a3, .ref a4, .ref a5, .ref a6, .int 0, .ref a7, .int (nI 1), .ref a8, .int 0, .ref a9, .int 0, .null])), (a1, .inl (dA 0, 25, .inl (fun _ => 0))), (a2, .inl (dA 0, 25, .inl (fun _ => 0))), (a3, .inl (dA 3, 5, .inr (.inr (.inr (.inr (fun _ => none)))))), (a4, .inl (dA 0, 5, .inl (fun _ => 0))), (a5, .inl (dA 0, 60, .inl (fun _ => 0))), (a6, .inl (dA 0, 5, .inl (fun _ => 0))), (a7, .inl (dA 4, 2, .inr (.inr (.inr (.inr (fun _ => none)))))), (a8, .inl (dA 1, 50, .inl (fun _ => 0))), (a9, .inl (dA 0, 20, .inl (fun _ => 0))), (a10, .inr (3, [.null]))] s.heap H locs := hM
  refine lv_dup hx hb dX2_init_88 rfl ?_
  have nq := hK.M 5 rfl
  have hS9 := hM.2.2.1
  refine cx_IN (y := yX3_init) (x0 := a10) (As := []) hx hb hml hown hts hK (by have := hM.2.2.1; omega) hM.2.2.1 (cn_X3 H.size a10) (fun q h => h) ⟨rfl, hM.1 10 _ rfl⟩ nq q187 q67 q188 ndX3_init rfl (by rw [hRf]; decide) (by rw [hRl]; decide) (by rw [hRc]; decide) (by rw [hRs]; decide) hl.1 rfl (Nat.le_of_ble_eq_true rfl) dX2_init_89 ?_
  rintro _ H1 ⟨rfl, a11, hb11, hF, hN⟩ hz1 hk1
  have hM := hM.ext (L := [(a11, .inl (dA 0, 128, .inl (fun _ => 0)))]) (q0 := 10) hA rfl hz1 hk1 hF (fun k q hk => by
    have h2 : k < 1 := (List.getElem?_eq_some_iff.mp hk).1
    match k, h2, hk with
    | 0, _, hk => cases hk; exact ⟨hb11, hN⟩) (fun i j p q hi hj _ => by
    have h2 : i < 1 := (List.getElem?_eq_some_iff.mp hi).1
    have h3 : j < 1 := (List.getElem?_eq_some_iff.mp hj).1
    omega)
  have hM : gH D (fun q => q = x ∨ s.heap.size ≤ q) [(x, .inr (2, [.ref a1, .ref a2, .int (nI 1), .int 0, .ref a3, .ref a4, .ref a5, .ref a6, .int 0, .ref a7, .int (nI 1), .ref a8, .int 0, .ref a9, .int 0, .null])), (a1, .inl (dA 0, 25, .inl (fun _ => 0))), (a2, .inl (dA 0, 25, .inl (fun _ => 0))), (a3, .inl (dA 3, 5, .inr (.inr (.inr (.inr (fun _ => none)))))), (a4, .inl (dA 0, 5, .inl (fun _ => 0))), (a5, .inl (dA 0, 60, .inl (fun _ => 0))), (a6, .inl (dA 0, 5, .inl (fun _ => 0))), (a7, .inl (dA 4, 2, .inr (.inr (.inr (.inr (fun _ => none)))))), (a8, .inl (dA 1, 50, .inl (fun _ => 0))), (a9, .inl (dA 0, 20, .inl (fun _ => 0))), (a10, .inr (3, [.ref a11])), (a11, .inl (dA 0, 128, .inl (fun _ => 0)))] s.heap H1 locs := hM
  refine g_putF hx hb hts in_X2 tyX2 tyX2_ok nmX2 hown hK hM 0 rfl rfl 15 (by decide) q226 rfl rfl hin rfl rfl rfl (Nat.le_of_ble_eq_true rfl) dX2_init_92 (fun H locs hM => ?_)
  have hM : gH D (fun q => q = x ∨ s.heap.size ≤ q) [(x, .inr (2, [.ref a1, .ref a2, .int (nI 1), .int 0, .ref a3, .ref a4, .ref a5, .ref a6, .int 0, .ref a7, .int (nI 1), .ref a8, .int 0, .ref a9, .int 0, .ref a10])), (a1, .inl (dA 0, 25, .inl (fun _ => 0))), (a2, .inl (dA 0, 25, .inl (fun _ => 0))), (a3, .inl (dA 3, 5, .inr (.inr (.inr (.inr (fun _ => none)))))), (a4, .inl (dA 0, 5, .inl (fun _ => 0))), (a5, .inl (dA 0, 60, .inl (fun _ => 0))), (a6, .inl (dA 0, 5, .inl (fun _ => 0))), (a7, .inl (dA 4, 2, .inr (.inr (.inr (.inr (fun _ => none)))))), (a8, .inl (dA 1, 50, .inl (fun _ => 0))), (a9, .inl (dA 0, 20, .inl (fun _ => 0))), (a10, .inr (3, [.ref a11])), (a11, .inl (dA 0, 128, .inl (fun _ => 0)))] s.heap H locs := hM
  refine lv_iconst (v := nI 0) hx hb dX2_init_95 (by decide) ?_
  refine lv_istore_n (lv' := [(1, .int (nI 0)), (0, .ref x)]) hx hb dX2_init_96 rfl hl (by decide) rfl (fun ls hl => ?_)
  obtain ⟨h, hh⟩ : ∃ h : Nat → Nat, h = fun k => [x, a1, a2, a3, a4, a5, a6, a7, a8, a9, a10, a11].getD k 0 := ⟨_, rfl⟩
  have loop : ∀ (fu k : Nat), k ≤ 25 → 25 < k + fu → ∀ (H : Heap) (locs : List Loc), gH D (fun q => q = x ∨ s.heap.size ≤ q) (mwRw h dA (fun k => if k = 1 ∨ k = 2 then nI 1 else 0) (fun j => if j = 2 then cpk (fun _ => nI 50) (fun _ => 0) k else fun _ => 0) (fun _ => none) (fun _ => none) (fun _ => 0)) s.heap H locs → ∀ (ls : Array Slot), lv_has ls 2 [(1, .int (nI k)), (0, .ref x)] → W p l e R s m args below meth c H locs 11 326 Q (F0 m 97 ls []) := by
    intro fu
    induction fu with
    | zero =>
      intro k hk hf
      omega
    | succ fu ih =>
      intro k hk hf H locs hM ls hl
      have h0 : h 0 = x := by rw [hh]; rfl
      refine lv_iload_n hx hb dX2_init_97 rfl (lv_at hl 0 rfl) ?_
      refine lv_bipush (v := nI 25) hx hb dX2_init_98 (by decide) ?_
      refine w_icmp_geN (tgt := 117) hx hb (by omega) (by omega) dX2_init_100 (by decide) (fun c_1 => ?_) (fun c_1 => ?_)
      · refine hret ⟨rfl, h, h0, fun i hi j hj e => ?_, fun k1 h1 h2 => ?_, mw_cong hM.1 (fun j hj => ?_) (fun j q hj hq => ?_)⟩ hM.2.2 dX2_init_117
        · obtain ⟨p1, g1⟩ : ∃ p, (mwRw h dA (fun k => if k = 1 ∨ k = 2 then nI 1 else 0) (fun j => if j = 2 then cpk (fun _ => nI 50) (fun _ => 0) k else fun _ => 0) (fun _ => none) (fun _ => none) (fun _ => 0))[i]? = some p := ⟨_, List.getElem?_eq_getElem (show i < 12 from hi)⟩
          obtain ⟨p2, g2⟩ : ∃ p, (mwRw h dA (fun k => if k = 1 ∨ k = 2 then nI 1 else 0) (fun j => if j = 2 then cpk (fun _ => nI 50) (fun _ => 0) k else fun _ => 0) (fun _ => none) (fun _ => none) (fun _ => 0))[j]? = some p := ⟨_, List.getElem?_eq_getElem (show j < 12 from hj)⟩
          exact hM.2.1.1 i j p1 p2 g1 g2 (by rw [(mwRw_at i p1 g1).2, (mwRw_at j p2 g2).2]; exact e)
        · obtain ⟨p1, g1⟩ : ∃ p, (mwRw h dA (fun k => if k = 1 ∨ k = 2 then nI 1 else 0) (fun j => if j = 2 then cpk (fun _ => nI 50) (fun _ => 0) k else fun _ => 0) (fun _ => none) (fun _ => none) (fun _ => 0))[k1]? = some p := ⟨_, List.getElem?_eq_getElem (show k1 < 12 from h2)⟩
          have g2 := hM.2.1.2 k1 p1 g1
          rw [(mwRw_at k1 p1 g1).2] at g2
          refine g2.resolve_left (fun z => ?_)
          obtain ⟨p0, g0⟩ : ∃ p, (mwRw h dA (fun k => if k = 1 ∨ k = 2 then nI 1 else 0) (fun j => if j = 2 then cpk (fun _ => nI 50) (fun _ => 0) k else fun _ => 0) (fun _ => none) (fun _ => none) (fun _ => 0))[0]? = some p := ⟨_, rfl⟩
          have := hM.2.1.1 k1 0 p1 p0 g1 g0 (by rw [(mwRw_at k1 p1 g1).2, (mwRw_at 0 p0 g0).2, z, h0])
          omega
        · unfold r00
          rcases (show j = 0 ∨ j = 1 ∨ j = 2 ∨ j = 3 ∨ j = 4 ∨ j = 5 by omega) with rfl | rfl | rfl | rfl | rfl | rfl <;> rfl
        · exact r00_at (by omega) hj hq
      · refine lv_aload_n hx hb dX2_init_103 rfl (lv_at hl 1 rfl) ?_
        refine w_topV (.ref (h 0)) (by rw [h0]) ?_
        refine c_get (v := .ref (h 2)) hx hb hts in_X2 hown hK (hM.1 0 _ rfl) rfl 1 (by decide) q199 rfl rfl dX2_init_104 ?_
        refine lv_iload_n hx hb dX2_init_107 rfl (lv_at hl 0 rfl) ?_
        refine lv_bipush (v := nI 50) hx hb dX2_init_108 (by decide) ?_
        refine g_iast hx hb hK hM 2 rfl k ⟨by omega, by decide, rfl⟩ dX2_init_110 (fun H locs hM => ?_)
        refine lv_iinc (v := nI (k + 1)) (lv' := [(1, .int (nI (k + 1))), (0, .ref x)]) hx hb dX2_init_111 hl (k := 0) rfl (by rw [show Int32.ofInt 1 = nI 1 from by decide]; exact nI_add _ _) (by decide) rfl (fun ls hl => ?_)
        refine lv_goto (tgt := 97) hx hb dX2_init_114 (by decide) ?_
        refine ih (k + 1) (by omega) (by omega) H locs (hM.to ?_) ls hl
        rw [show (fun j => if j = 2 then cpk (fun _ => nI 50) (fun _ => (0 : Int32)) (k + 1) else fun _ => 0) = (fun j => if j = 2 then upd (cpk (fun _ => nI 50) (fun _ => 0) k) k (nI 50) else fun _ => 0) from by rw [← cpk_u]]
        rfl
  refine loop 26 0 (by omega) (by omega) H locs (hM.to ?_) ls hl
  rw [hh, cpk_z]
  rfl
