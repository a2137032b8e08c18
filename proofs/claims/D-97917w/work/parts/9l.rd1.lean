/-! the reader: rows, look, isOne, fault (printed by comp37.py) -/
set_option maxRecDepth 100000
/-- what a text is of facts -/
abbrev Dn : Type := (Nat → Int32) → Int32
def opD : Ops Dn := (fun v _ => v, fun c nm => nm (cl c), fun s F G nm => opB s (F nm) (G nm), fun F nm => iI (F nm = 0), fun _ => nI 0)
/-- which signs a literal holds -/
def isL (i : Nat) (c : Int32) : Bool := if i = 0 then isNm 0 c else if i = 1 then isNm 1 c else if i = 2 then c == nI 33 else if i = 3 then c == nI 40 else if i = 4 then op1 c else if i = 5 then op2 c else if i = 6 then op3 c else if i = 7 then op4 c else op5 c
theorem isL_ok : ∀ i, i < 9 → ∀ m, m < 256 → (0 ≤ ixN ((nI m).toInt8.toInt32) (srB.getD i []) 0 ↔ isL i (nI m) = true) := by decide +kernel
theorem isL_m1 : ∀ i, i < 9 → isL i (-1) = false := by decide
abbrev rdF (sn ba n t o : Nat) : List Value := [.ref sn, .ref ba, .int (nI n), .int (nI t), .int (nI o)]
def tbOK (tb bb : Nat → Int32) (n : Nat) : Prop := n ≤ 50 ∧ ∀ k, k < n → tb k &&& nI 255 = bb k ∧ okN (bb k) 255 ∧ tb k = (bb k).toInt8.toInt32
abbrev rdC (D : va_G) (dA : Nat → ClassId) (rd sn ba n t o : Nat) (tb : Nat → Int32) (H : Heap) : Prop := cAt D rd (.inr (17, rdF sn ba n t o)) H ∧ cAt D ba (.inl (dA 1, 50, .inl tb)) H
theorem tk_255 {bb tb : Nat → Int32} {n : Nat} (h : tbOK tb bb n) (t : Nat) : tk bb n t = -1 ∨ ∃ m, m < 256 ∧ tk bb n t = nI m := by
  unfold tk
  by_cases e : t < n
  · rw [if_pos e]
    have := (h.2 t e).2.1
    exact Or.inr ⟨cl (bb t), by have := this.2; omega, this.1⟩
  · rw [if_neg e]; exact Or.inl rfl
set_option maxHeartbeats 400000 in
theorem rd_look {D : va_G} {dA : Nat → ClassId} (rd sn ba n t o : Nat) (tb bb : Nat → Int32) (htb : tbOK tb bb n) (ht : t ≤ n) : Rd D dA yX16_look cX16_look 1 (some .int) 0 0 [.ref rd] (fun H => rdC D dA rd sn ba n t o tb H) (some (.int (tk bb n t))) := by
  refine Rd.ofI (by decide) (own := RX16) rfl (Nat.le_of_ble_eq_true rfl) ?_
  intro p l e R s m args below meth c Q ls hx hb hml hRf hRl hts hown hK hP hl hret
  have hl : lv_has ls 1 [(0, .ref rd)] := hl
  have hn := htb.1
  refine lv_aload_n hx hb dX16_look_0 rfl (lv_at hl 0 rfl) ?_
  refine c_get (v := .int (nI t)) hx hb hts in_X16 hown hK hP.1 rfl 3 (by decide) q692 rfl rfl dX16_look_1 ?_
  refine lv_aload_n hx hb dX16_look_4 rfl (lv_at hl 0 rfl) ?_
  refine c_get (v := .int (nI n)) hx hb hts in_X16 hown hK hP.1 rfl 2 (by decide) q691 rfl rfl dX16_look_5 ?_
  refine w_icmp_geN (tgt := 27) hx hb (by omega) (by omega) dX16_look_8 (by decide) (fun c_1 => ?_) (fun c_1 => ?_)
  · refine lv_iconst (v := (-1 : Int32)) hx hb dX16_look_27 (by decide) ?_
    exact hret (by unfold tk; rw [if_neg (by omega)]) dX16_look_28
  · refine lv_aload_n hx hb dX16_look_11 rfl (lv_at hl 0 rfl) ?_
    refine c_get (v := .ref ba) hx hb hts in_X16 hown hK hP.1 rfl 1 (by decide) q690 rfl rfl dX16_look_12 ?_
    refine lv_aload_n hx hb dX16_look_15 rfl (lv_at hl 0 rfl) ?_
    refine c_get (v := .int (nI t)) hx hb hts in_X16 hown hK hP.1 rfl 3 (by decide) q692 rfl rfl dX16_look_16 ?_
    refine c_bald hx hb hK hP.2 t ⟨by omega, by decide, rfl⟩ dX16_look_19 ?_
    refine lv_sipush (v := nI 255) hx hb dX16_look_20 (by decide) ?_
    refine lv_iand hx hb dX16_look_23 ?_
    refine lv_goto (tgt := 28) hx hb dX16_look_24 (by decide) ?_
    exact hret (by unfold tk; rw [if_pos (by omega)]; exact (htb.2 t (by omega)).1) dX16_look_28
abbrev rdE (D : va_G) (dA : Nat → ClassId) (b0 : Nat) (ad adV : Nat → Nat) (rd sn ba n t o : Nat) (tb : Nat → Int32) : State → Prop := fun U => rdC D dA rd sn ba n t o tb U.heap ∧ cmK D dA U ∧ SRh b0 ad adV U U.heap
theorem rdE_blind {D : va_G} {dA : Nat → ClassId} {b0 : Nat} {ad adV : Nat → Nat} {rd sn ba n t o : Nat} {tb : Nat → Int32} {As : List Value} : FrameBlind (va_Pc As (rdE D dA b0 ad adV rd sn ba n t o tb)) := fun a U g mk q => ⟨q.1, q.2.1, q.2.2.1.warm (State.WarmedH.refl U), q.2.2.2.go (State.WarmedH.refl U) (fun _ _ _ => rfl)⟩
theorem ndX16_look : yX16_look.cls = RX16 ∧ yX16_look.cls ≠ "java/lang/invoke/MethodHandle" ∧ yX16_look.cls ≠ "java/lang/invoke/VarHandle" ∧ (parseMethodDescriptor yX16_look.desc).map (fun d => d.parameters.length) = some 0 := by decide +kernel
set_option maxHeartbeats 400000 in
theorem rd_isOne {D : va_G} {dA : Nat → ClassId} {b0 : Nat} {ad adV : Nat → Nat} (rd sn ba n t o : Nat) (tb bb : Nat → Int32) (htb : tbOK tb bb n) (ht : t ≤ n) (i : Nat) (hi : i < 9) : Rg (rdE D dA b0 ad adV rd sn ba n t o tb) yX16_isOne cX16_isOne 2 (some .boolean) 4 91 [.ref rd, .ref (ad i)] (some (.int (iI (isL i (tk bb n t) = true)))) := by
  refine Rg.ofT (by decide) (own := RX16) rfl (Nat.le_of_ble_eq_true rfl) iI_n ?_
  intro p l e R s m args below meth c Q ls hx hb hml hRf hRl hts hown hE hl hret
  obtain ⟨hP, hK, hE⟩ := hE
  have hl : lv_has ls 2 [(0, .ref rd), (1, .ref (ad i))] := hl
  refine lv_aload_n hx hb dX16_isOne_0 rfl (lv_at hl 0 rfl) ?_
  refine rd_callV (y := yX16_look) (b := rd) (C := RX16) (As := []) hx hb hml hown hts hK (rd_look rd sn ba n t o tb bb htb ht) hP (cAt.recv hK hP.1 rfl) q737 q739 qs12 q81 q740 ndX16_look rfl (by rw [hRf]; decide) (by rw [hRl]; decide) (Nat.zero_le _) (Nat.zero_le _) hl.1 rfl (Nat.le_of_ble_eq_true rfl) dX16_isOne_1 ?_
  refine lv_if_lt (tgt := 22) hx hb dX16_isOne_4 (by decide) (fun c_1 => ?_) (fun c_1 => ?_)
  · refine lv_iconst (v := nI 0) hx hb dX16_isOne_22 (by decide) ?_
    refine hret ?_ dX16_isOne_23
    rcases tk_255 htb t with q | ⟨m, q1, q2⟩
    · rw [q]; exact iI_0 (by rw [isL_m1 i hi]; decide)
    · rw [q2] at c_1; exact absurd c_1 (Int32.not_lt.mpr (nI_le (Nat.zero_le _) (by omega)))
  · obtain ⟨mm, q1, q2⟩ : ∃ m, m < 256 ∧ tk bb n t = nI m := (tk_255 htb t).resolve_left (fun q => c_1 (by rw [q]; decide))
    refine lv_aload_n hx hb dX16_isOne_7 rfl (lv_at hl 1 rfl) ?_
    refine lv_aload_n hx hb dX16_isOne_8 rfl (lv_at hl 0 rfl) ?_
    refine rd_callV (y := yX16_look) (b := rd) (C := RX16) (As := []) hx hb hml hown hts hK (rd_look rd sn ba n t o tb bb htb ht) hP (cAt.recv hK hP.1 rfl) q737 q739 qs12 q81 q740 ndX16_look rfl (by rw [hRf]; decide) (by rw [hRl]; decide) (Nat.zero_le _) (Nat.zero_le _) hl.1 rfl (Nat.le_of_ble_eq_true rfl) dX16_isOne_9 ?_
    refine w_top (nI mm) q2 ?_
    refine rg_callV (y := yJ4_indexOf) (b := ad i) (C := RJ4) (As := [.int (nI mm)]) hx hb hml hown hts (st_ix (b0 := b0) (ad := ad) (adV := adV) i hi mm q1) sr_blind (fun U hU hW => hE.go hW (fun q _ _ => by rw [hU])) (vk_recv hE.1 hi sr_S) q741 q742 q743 q82 q744 ndJ4_indexOf rfl (by rw [hRf]; decide) (by rw [hRl]; decide) (Nat.zero_le _) (Nat.zero_le _) hl.1 rfl (Nat.le_of_ble_eq_true rfl) dX16_isOne_12 ?_
    refine lv_if_lt (tgt := 22) hx hb dX16_isOne_15 (by decide) (fun c_2 => ?_) (fun c_2 => ?_)
    · refine lv_iconst (v := nI 0) hx hb dX16_isOne_22 (by decide) ?_
      refine hret ?_ dX16_isOne_23
      rw [q2]; exact iI_0 (fun z => absurd ((isL_ok i hi mm q1).mpr z) (Int32.not_le.mpr c_2))
    · refine lv_iconst (v := nI 1) hx hb dX16_isOne_18 (by decide) ?_
      refine lv_goto (tgt := 23) hx hb dX16_isOne_19 (by decide) ?_
      refine hret ?_ dX16_isOne_23
      rw [q2]; exact iI_1 ((isL_ok i hi mm q1).mp (Int32.not_lt.mp c_2))
/-- while a reader's method runs: its own cell, nothing else that was there -/
def rdJ (D : va_G) (rd : Nat) (s : State) (fs : List Value) (H : Heap) (locs : List Loc) : Prop := cAt D rd (.inr (17, fs)) H ∧ s.heap.size ≤ H.size ∧ (∀ q : Nat, q < s.heap.size → ¬ q = rd → H[q]? = s.heap[q]?) ∧ ∀ l ∈ locs, l.base = rd
def rdA (rd b : Nat) : Nat → Prop := fun q => q = rd ∨ b ≤ q
theorem rdJ.S {D : va_G} {rd : Nat} {s : State} {fs : List Value} {H : Heap} {locs : List Loc} (h : rdJ D rd s fs H locs) : va_S (rdA rd s.heap.size) s.heap H locs := ⟨h.2.1, fun q h1 h2 => h.2.2.1 q h1 (fun z => h2 (Or.inl z)), fun l hl => Or.inl (h.2.2.2 l hl)⟩
section RDJ
variable {p : Program} {l : Launch} {e : Env} {R : Room} {s : State} {m : MethodId} {args : Array Value} {below : List Frame} {meth : Method} {c : Code} {H : Heap} {locs : List Loc} {cells slots : Nat} {Q : State → Prop}
variable {cc : ByteArray} {pc : Nat} {ls : Array Slot} {rest : List Value} {D : va_G} {dA : Nat → ClassId} {b0 : Nat} {ad adV : Nat → Nat} {rd : Nat} {fs : List Value} {P : Heap → Prop} {Qo : Outcome → Heap → Prop}
variable {y : MethodName} {cy : ByteArray} {maxL nL fr lo idx mc ms n : Nat} {ret : Option FieldType} {As st : List Value}
theorem W.flt {g : JFrame} (locs' : List Loc) (h : ∀ y ∈ locs, y.base < s.heap.size → y ∈ locs') (k : W p l e R s m args below meth c H locs' cells slots Q g) : W p l e R s m args below meth c H locs cells slots Q g := fun T hT X => k T hT { X with same := X.same.weaken (fun y hy hlt => h y hy hlt) (Nat.le_refl _) (Nat.le_refl _) }
theorem WT.flt {g : JFrame} {x : Addr} (locs' : List Loc) (h : ∀ y ∈ locs, y.base < s.heap.size → y ∈ locs') (k : WT p l e R s m args below meth c H locs' cells slots Q g x) : WT p l e R s m args below meth c H locs cells slots Q g x := fun T hT X => k T hT { X with same := X.same.weaken (fun y hy hlt => h y hy hlt) (Nat.le_refl _) (Nat.le_refl _) }
theorem rd_putf (hx : p.tables.exec = Jvm.exec) (hb : c.code = cc) (hts : ∀ w ∈ lw_all, w.before args s = true) (hown : s.vm.findClass RX16 = some m.cls) (hK : cmK D dA s) (hJ : rdJ D rd s fs H locs) (k : Nat) (hk : k < 5) {index : Nat} (hq : Cond.fieldLink RX16 index RX16 (TX16 k).2.1 (TX16 k).2.2.1 ∈ lw_all) (hR : (TX16 k).1 = RX16) (hfin : (TX16 k).2.2.2 = false) {v : Value} (hn : narrow (tyX16 k) v = v) (hfit : fits (tyX16 k) v = true) (hl : k < fs.length) (hdg : decode cc pc = .ok (.putfield index, 3))
    (kk : ∀ (H1 : Heap) (locs1 : List Loc), rdJ D rd s (fs.set k v) H1 locs1 → H.size ≤ H1.size → (∀ q, q < H.size → ¬ q = rd → H1[q]? = H[q]?) → W p l e R s m args below meth c H1 locs1 cells slots Q (F0 m (pc + 3) ls rest)) : W p l e R s m args below meth c H locs cells slots Q (F0 m pc ls (v :: .ref rd :: rest)) := by
  refine g_put hx hb hts in_X16 tyX16 tyX16_ok nmX16 hown hK (g_oneS hJ.1 (H0 := H) ⟨Nat.le_refl _, fun _ _ _ => rfl, hJ.2.2.2⟩) 0 rfl rfl k hk hq hR hfin hn hfit hl hdg (fun H1 locs1 hM => ?_)
  exact kk H1 locs1 ⟨hM.1 0 _ rfl, Nat.le_trans hJ.2.1 hM.2.2.1, fun q h1 h2 => (hM.2.2.2.1 q (Nat.lt_of_lt_of_le h1 hJ.2.1) h2).trans (hJ.2.2.1 q h1 h2), hM.2.2.2.2⟩ hM.2.2.1 hM.2.2.2.1
theorem rd_call (hx : p.tables.exec = Jvm.exec) (hb : c.code = cc) (hml : c.maxLocals = nL) (hown : s.vm.findClass RX16 = some m.cls) (hts : ∀ w ∈ lw_all, w.before args s = true) (hK : cmK D dA s) (hE : SRh b0 ad adV s s.heap) (hJ : rdJ D rd s fs H locs) (hA0 : ∀ q, rdA rd s.heap.size q → b0 ≤ q)
    (hC : Cs D dA b0 ad adV (rdA rd H.size) y cy maxL ret fr lo mc ms (.ref rd :: As) P Qo) (hP : P H)
    (h1 : Cond.methodLink RX16 idx y ∈ lw_all) (h2 : Cond.instanceMethod y ∈ lw_all) (h3 : Cond.selects RX16 y y ∈ lw_all) (h5 : Cond.code y cy maxL ret ∈ lw_all)
    (hd : y.cls = RX16 ∧ y.cls ≠ "java/lang/invoke/MethodHandle" ∧ y.cls ≠ "java/lang/invoke/VarHandle" ∧ (parseMethodDescriptor y.desc).map (fun d => d.parameters.length) = some n) (hn : As.length = n) (hRf : fr + 1 ≤ R.frames) (hRl : 8 + (maxL + 11) + lo ≤ R.locals) (hRc : cells + mc ≤ R.cells) (hRs : slots + ms ≤ R.slots) (hsize : ls.size = nL) (hst : st = As.reverse ++ .ref rd :: rest) (hW : (rest.map fun v => v.category).sum ≤ 8) (hdg : decode cc pc = .ok (.invokevirtual idx, 3))
    (kr : ∀ (v : Option Value) (H1 : Heap) (locs1 : List Loc), Qo (.returned v) H1 → H.size ≤ H1.size → (∀ q, q < H.size → ¬ q = rd → H1[q]? = H[q]?) → (∀ l ∈ locs1, l.base = rd) → W p l e R s m args below meth c H1 locs1 (cells + mc) (slots + ms) Q (F0 m (pc + 3) ls (v.toList ++ rest)))
    (kt : ∀ (x : Nat) (H1 : Heap) (locs1 : List Loc), Qo (.threw x) H1 → H.size ≤ H1.size → (∀ q, q < H.size → ¬ q = rd → H1[q]? = H[q]?) → (∀ l ∈ locs1, l.base = rd) → WT p l e R s m args below meth c H1 locs1 (cells + mc) (slots + ms) Q (F0 m pc ls rest) x) : W p l e R s m args below meth c H locs cells slots Q (F0 m pc ls st) := by
  have hg : ∀ (L : List Loc), (∀ q ∈ L, rdA rd s.heap.size q.base) → ∀ y ∈ L.filter (fun q => decide (q.base < s.heap.size)), y.base = rd := fun L hL y hy => by
    obtain ⟨g1, g2⟩ := List.mem_filter.mp hy
    have g2 : y.base < s.heap.size := of_decide_eq_true g2
    exact (hL y g1).resolve_right (fun z => absurd g2 (Nat.not_lt.mpr z))
  have hf : ∀ (L : List Loc), ∀ y ∈ L, y.base < s.heap.size → y ∈ L.filter (fun q => decide (q.base < s.heap.size)) := fun L y hy hlt => List.mem_filter.mpr ⟨hy, decide_eq_true hlt⟩
  have hkB : ∀ (H1 : Heap), (∀ q, q < H.size → ¬ rdA rd H.size q → H1[q]? = H[q]?) → ∀ q, q < H.size → ¬ q = rd → H1[q]? = H[q]? := fun H1 hk q h1 h2 => hk q h1 (fun z => z.elim h2 (fun w => by omega))
  refine cs_callV (C := RX16) hx hb hml hown hts hK hE hJ.S hA0 hC hP (fun q hq => hq.elim Or.inl (fun z => Or.inr (Nat.le_trans hJ.2.1 z))) (cAt.recv hK hJ.1 rfl) h1 h2 h3 q81 h5 hd hn hRf hRl hRc hRs hsize hst hW hdg ?_ ?_
  · intro v H1 locs1 hq hz hk hS
    exact W.flt _ (hf locs1) (kr v H1 _ hq hz (hkB H1 hk) (hg locs1 hS.2.2))
  · intro x H1 locs1 hq hz hk hS
    exact WT.flt _ (hf locs1) (kt x H1 _ hq hz (hkB H1 hk) (hg locs1 hS.2.2))
end RDJ
theorem rdJ.go {D : va_G} {rd : Nat} {s : State} {fs fs' : List Value} {H H1 : Heap} {locs locs1 : List Loc} (hJ : rdJ D rd s fs H locs) (h1 : cAt D rd (.inr (17, fs')) H1) (hz : H.size ≤ H1.size) (hk : ∀ q, q < H.size → ¬ q = rd → H1[q]? = H[q]?) (hL : ∀ l ∈ locs1, l.base = rd) : rdJ D rd s fs' H1 locs1 := ⟨h1, Nat.le_trans hJ.2.1 hz, fun q g1 g2 => (hk q (Nat.lt_of_lt_of_le g1 hJ.2.1) g2).trans (hJ.2.2.1 q g1 g2), hL⟩
abbrev ftF (t : Nat) : List Value := [.null, .null, .null, .null, .null, .int 0, .int (nI t)]
set_option maxHeartbeats 400000 in
theorem rd_fault_ok {D : va_G} {dA : Nat → ClassId} {b0 : Nat} {ad adV : Nat → Nat} (rd b : Nat) (fs : List Value) : Cs D dA b0 ad adV (rdA rd b) yX16_fault cX16_fault 2 none 5 114 0 0 [.ref rd, .int (nI 1)] (fun H => cAt D rd (.inr (17, fs)) H) (fun oc H => oc = .returned none ∧ cAt D rd (.inr (17, fs)) H) := by
  refine Cs.ofV (by decide) (own := RX16) rfl (Nat.le_of_ble_eq_true rfl) ?_
  intro p l e R s m args below meth c Q ls hx hb hml hRf hRl hRc hRs hts hown hK hE hP hl hret hthr
  have hl : lv_has ls 2 [(0, .ref rd), (1, .int (nI 1))] := hl
  refine lv_iload_n hx hb dX16_fault_0 rfl (lv_at hl 1 rfl) ?_
  refine lv_if_ne (tgt := 16) hx hb dX16_fault_1 (by decide) (fun _ => ?_) (fun q => absurd q (by decide))
  exact hret ⟨rfl, hP⟩ va_S.rf dX16_fault_16
theorem ndX16_fault : yX16_fault.cls = RX16 ∧ yX16_fault.cls ≠ "java/lang/invoke/MethodHandle" ∧ yX16_fault.cls ≠ "java/lang/invoke/VarHandle" ∧ (parseMethodDescriptor yX16_fault.desc).map (fun d => d.parameters.length) = some 1 := by decide +kernel
set_option maxHeartbeats 400000 in
theorem rd_fault_x {D : va_G} {dA : Nat → ClassId} {b0 : Nat} {ad adV : Nat → Nat} (rd sn ba n t o b : Nat) (hrd : b0 ≤ rd) : Cs D dA b0 ad adV (rdA rd b) yX16_fault cX16_fault 2 none 5 114 1 7 [.ref rd, .int (nI 0)] (fun H => H.size = b ∧ cAt D rd (.inr (17, rdF sn ba n t o)) H) (fun oc H => ∃ x, oc = .threw x ∧ b ≤ x ∧ cAt D x (.inr (18, ftF t)) H) := by
  refine Cs.ofV (by decide) (own := RX16) rfl (Nat.le_of_ble_eq_true rfl) ?_
  intro p l e R s m args below meth c Q ls hx hb hml hRf hRl hRc hRs hts hown hK hE hP hl hret hthr
  have hl : lv_has ls 2 [(0, .ref rd), (1, .int (nI 0))] := hl
  obtain ⟨rfl, hRd⟩ := hP
  have hrb := hRd.lt
  refine lv_iload_n hx hb dX16_fault_0 rfl (lv_at hl 1 rfl) ?_
  refine lv_if_ne (tgt := 16) hx hb dX16_fault_1 (by decide) (fun q => absurd rfl q) (fun _ => ?_)
  refine c_new (ci := 18) (fs := [.null, .null, .null, .null, .null, .int 0, .int 0]) (C := RX18) (T := TX18) (N := 7) hx hb hts in_X18 tyX18 tyX18_ok hown q845 q846 q88 hK rfl (fun j hj => by rcases (show j = 0 ∨ j = 1 ∨ j = 2 ∨ j = 3 ∨ j = 4 ∨ j = 5 ∨ j = 6 by omega) with rfl | rfl | rfl | rfl | rfl | rfl | rfl <;> rfl) (by rw [hRc]; decide) (by rw [hRs]; decide) dX16_fault_4 (fun H hX hz hk => ?_)
  have hRd1 := hRd.kept (hk rd hrb)
  refine lv_dup hx hb dX16_fault_7 rfl ?_
  refine lv_aload_n hx hb dX16_fault_8 rfl (lv_at hl 0 rfl) ?_
  refine c_get (v := .int (nI t)) hx hb hts in_X16 hown hK hRd1 rfl 3 (by decide) q692 rfl rfl dX16_fault_9 ?_
  refine cq_callI (A := rdA rd s.heap.size) (y := yX18_init) (b := s.heap.size) (As := [.int (nI t)]) hx hb hml hown hts hK hE ⟨by omega, fun q h1 _ => hk q h1, fun q hq => by cases hq⟩ (fun q hq => hq.elim (fun z => by rw [z]; exact hrd) (fun z => by omega)) (ex_X18 s.heap.size (by omega) t) hX (fun q hq => Or.inr (by rw [hq]; exact Nat.le_refl _)) q854 q855 q88 q856 ndX18_init rfl (by rw [hRf]; decide) (by rw [hRl]; decide) (by rw [hRc]; decide) (by rw [hRs]; decide) hl.1 rfl (Nat.le_of_ble_eq_true rfl) dX16_fault_12 ?_
  rintro _ H locs ⟨rfl, hP1⟩ hz1 hk1 hS1
  refine W.athrow hx hb dX16_fault_15 ?_
  exact hthr ⟨_, rfl, Nat.le_refl _, hP1⟩ hS1
set_option maxHeartbeats 400000 in
theorem rd_opens_ok {D : va_G} {dA : Nat → ClassId} {b0 : Nat} {ad adV : Nat → Nat} (rd sn ba n t o b : Nat) (hrd : b0 ≤ rd) (hb0 : b0 ≤ b) (ho : o < 5) : Cs D dA b0 ad adV (rdA rd b) yX16_opens cX16_opens 1 none 6 135 0 0 [.ref rd] (fun H => H.size = b ∧ cAt D rd (.inr (17, rdF sn ba n t o)) H) (fun oc H => oc = .returned none ∧ cAt D rd (.inr (17, rdF sn ba n (t + 1) (o + 1))) H) := by
  refine Cs.ofV (by decide) (own := RX16) rfl (Nat.le_of_ble_eq_true rfl) ?_
  intro p l e R s m args below meth c Q ls hx hb hml hRf hRl hRc hRs hts hown hK hE hP hl hret hthr
  have hl : lv_has ls 1 [(0, .ref rd)] := hl
  obtain ⟨rfl, hRd⟩ := hP
  have hA0 : ∀ q, rdA rd s.heap.size q → b0 ≤ q := fun q hq => hq.elim (fun z => by rw [z]; exact hrd) (fun z => Nat.le_trans hb0 z)
  have hJ : rdJ D rd s (rdF sn ba n t o) s.heap [] := ⟨hRd, Nat.le_refl _, fun _ _ _ => rfl, fun q hq => by cases hq⟩
  refine lv_aload_n hx hb dX16_opens_0 rfl (lv_at hl 0 rfl) ?_
  refine lv_aload_n hx hb dX16_opens_1 rfl (lv_at hl 0 rfl) ?_
  refine c_get (v := .int (nI o)) hx hb hts in_X16 hown hK hJ.1 rfl 4 (by decide) q693 rfl rfl dX16_opens_2 ?_
  refine lv_iconst (v := nI 5) hx hb dX16_opens_5 (by decide) ?_
  refine w_icmp_geN (tgt := 13) hx hb (by omega) (by omega) dX16_opens_6 (by decide) (fun c_1 => absurd c_1 (by omega)) (fun c_1 => ?_)
  refine lv_iconst (v := nI 1) hx hb dX16_opens_9 (by decide) ?_
  refine lv_goto (tgt := 14) hx hb dX16_opens_10 (by decide) ?_
  refine rd_call (y := yX16_fault) (As := [.int (nI 1)]) hx hb hml hown hts hK hE hJ hA0 (rd_fault_ok rd s.heap.size (rdF sn ba n t o)) hJ.1 q841 q843 qs14 q844 ndX16_fault rfl (by rw [hRf]; decide) (by rw [hRl]; decide) (Nat.zero_le _) (Nat.zero_le _) hl.1 rfl (Nat.le_of_ble_eq_true rfl) dX16_opens_14 ?_ (fun x H1 locs1 hq => absurd hq.1 (by intro z; cases z))
  intro v H locs hq hz hk hL
  obtain ⟨hv, hq⟩ := hq
  cases hv
  have hJ := hJ.go hq hz hk hL
  refine lv_aload_n hx hb dX16_opens_17 rfl (lv_at hl 0 rfl) ?_
  refine lv_dup hx hb dX16_opens_18 rfl ?_
  refine c_get (v := .int (nI o)) hx hb hts in_X16 hown hK hJ.1 rfl 4 (by decide) q693 rfl rfl dX16_opens_19 ?_
  refine lv_iconst (v := nI 1) hx hb dX16_opens_22 (by decide) ?_
  refine w_iaddN hx hb dX16_opens_23 ?_
  refine rd_putf hx hb hts hown hK hJ 4 (by decide) q693 rfl rfl rfl rfl (Nat.le_of_ble_eq_true rfl) dX16_opens_24 (fun H locs hJ hz1 hk1 => ?_)
  refine lv_aload_n hx hb dX16_opens_27 rfl (lv_at hl 0 rfl) ?_
  refine lv_dup hx hb dX16_opens_28 rfl ?_
  refine c_get (v := .int (nI t)) hx hb hts in_X16 hown hK hJ.1 rfl 3 (by decide) q692 rfl rfl dX16_opens_29 ?_
  refine lv_iconst (v := nI 1) hx hb dX16_opens_32 (by decide) ?_
  refine w_iaddN hx hb dX16_opens_33 ?_
  refine rd_putf hx hb hts hown hK hJ 3 (by decide) q692 rfl rfl rfl rfl (Nat.le_of_ble_eq_true rfl) dX16_opens_34 (fun H locs hJ hz2 hk2 => ?_)
  exact hret ⟨rfl, hJ.1⟩ hJ.S dX16_opens_37
set_option maxHeartbeats 400000 in
theorem rd_opens_x {D : va_G} {dA : Nat → ClassId} {b0 : Nat} {ad adV : Nat → Nat} (rd sn ba n t b : Nat) (hrd : b0 ≤ rd) (hb0 : b0 ≤ b) : Cs D dA b0 ad adV (rdA rd b) yX16_opens cX16_opens 1 none 6 135 1 7 [.ref rd] (fun H => H.size = b ∧ cAt D rd (.inr (17, rdF sn ba n t 5)) H) (fun oc H => ∃ x, oc = .threw x ∧ b ≤ x ∧ cAt D x (.inr (18, ftF t)) H) := by
  refine Cs.ofV (by decide) (own := RX16) rfl (Nat.le_of_ble_eq_true rfl) ?_
  intro p l e R s m args below meth c Q ls hx hb hml hRf hRl hRc hRs hts hown hK hE hP hl hret hthr
  have hl : lv_has ls 1 [(0, .ref rd)] := hl
  obtain ⟨rfl, hRd⟩ := hP
  have hA0 : ∀ q, rdA rd s.heap.size q → b0 ≤ q := fun q hq => hq.elim (fun z => by rw [z]; exact hrd) (fun z => Nat.le_trans hb0 z)
  have hJ : rdJ D rd s (rdF sn ba n t 5) s.heap [] := ⟨hRd, Nat.le_refl _, fun _ _ _ => rfl, fun q hq => by cases hq⟩
  refine lv_aload_n hx hb dX16_opens_0 rfl (lv_at hl 0 rfl) ?_
  refine lv_aload_n hx hb dX16_opens_1 rfl (lv_at hl 0 rfl) ?_
  refine c_get (v := .int (nI 5)) hx hb hts in_X16 hown hK hJ.1 rfl 4 (by decide) q693 rfl rfl dX16_opens_2 ?_
  refine lv_iconst (v := nI 5) hx hb dX16_opens_5 (by decide) ?_
  refine lv_icmp_ge (tgt := 13) hx hb dX16_opens_6 (by decide) (fun _ => ?_) (fun q => absurd q (by decide))
  refine lv_iconst (v := nI 0) hx hb dX16_opens_13 (by decide) ?_
  refine rd_call (y := yX16_fault) (As := [.int (nI 0)]) hx hb hml hown hts hK hE hJ hA0 (rd_fault_x rd sn ba n t 5 s.heap.size hrd) ⟨rfl, hJ.1⟩ q841 q843 qs14 q844 ndX16_fault rfl (by rw [hRf]; decide) (by rw [hRl]; decide) (by rw [hRc]; decide) (by rw [hRs]; decide) hl.1 rfl (Nat.le_of_ble_eq_true rfl) dX16_opens_14 (fun v H1 locs1 hq => by obtain ⟨x, hq, -⟩ := hq; cases hq) ?_
  intro x H locs hq hz hk hL
  obtain ⟨x, hv, hxb, hF⟩ := hq
  cases hv
  exact hthr ⟨_, rfl, hxb, hF⟩ ⟨hz, fun q h1 h2 => hk q h1 (fun z => h2 (Or.inl z)), fun l hl => Or.inl (hL l hl)⟩
