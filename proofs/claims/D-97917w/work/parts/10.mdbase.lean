/-! THE MODEL's WORLD: one object, fourteen int rows; f: its int fields by their numbers, a: its rows by their places 1..14; h: addresses -/
set_option maxRecDepth 100000
abbrev mdCl : List vw_C := [(RX6, TX6, 28)]
abbrev mdF (h : Nat → Nat) (f : Nat → Int32) : List Value := [.ref (h 1), .ref (h 2), .ref (h 3), .ref (h 4), .int (f 4), .int (f 5), .ref (h 5), .int (f 7), .int (f 8), .int (f 9), .int (f 10), .int (f 11), .int (f 12), .int (f 13), .int (f 14), .ref (h 6), .ref (h 7), .ref (h 8), .ref (h 9), .ref (h 10), .ref (h 11), .ref (h 12), .ref (h 13), .ref (h 14), .int (f 24), .int (f 25), .int (f 26), .int (f 27)]
abbrev mdWs (h : Nat → Nat) (dA : ClassId) (f : Nat → Int32) (a : Nat → Nat → Int32) : va_W := [(h 0, .inr (0, mdF h f)), (h 1, .inl (dA, 298, .inl (a 1))), (h 2, .inl (dA, 298, .inl (a 2))), (h 3, .inl (dA, 298, .inl (a 3))), (h 4, .inl (dA, 298, .inl (a 4))), (h 5, .inl (dA, 6, .inl (a 5))), (h 6, .inl (dA, 4, .inl (a 6))), (h 7, .inl (dA, 4, .inl (a 7))), (h 8, .inl (dA, 160, .inl (a 8))), (h 9, .inl (dA, 40, .inl (a 9))), (h 10, .inl (dA, 25, .inl (a 10))), (h 11, .inl (dA, 25, .inl (a 11))), (h 12, .inl (dA, 25, .inl (a 12))), (h 13, .inl (dA, 25, .inl (a 13))), (h 14, .inl (dA, 40, .inl (a 14)))]
/-- its addresses -/
def mdA (h : Nat → Nat) : Nat → Prop := fun q => ∃ k, k < 15 ∧ q = h k
def mdI (h : Nat → Nat) : Prop := ∀ i, i < 15 → ∀ j, j < 15 → h i = h j → i = j
theorem mdWs_at (h : Nat → Nat) (dA : ClassId) (f : Nat → Int32) (a : Nat → Nat → Int32) (k : Nat) (q : Nat × va_E) (hk : (mdWs h dA f a)[k]? = some q) : k < 15 ∧ q.1 = h k := by
  have h1 : k < (mdWs h dA f a).length := (List.getElem?_eq_some_iff.mp hk).1
  have h2 : k < 15 := h1
  refine ⟨h2, ?_⟩
  match k, h2, hk with
  | 0, _, hk => cases hk; rfl
  | 1, _, hk => cases hk; rfl
  | 2, _, hk => cases hk; rfl
  | 3, _, hk => cases hk; rfl
  | 4, _, hk => cases hk; rfl
  | 5, _, hk => cases hk; rfl
  | 6, _, hk => cases hk; rfl
  | 7, _, hk => cases hk; rfl
  | 8, _, hk => cases hk; rfl
  | 9, _, hk => cases hk; rfl
  | 10, _, hk => cases hk; rfl
  | 11, _, hk => cases hk; rfl
  | 12, _, hk => cases hk; rfl
  | 13, _, hk => cases hk; rfl
  | 14, _, hk => cases hk; rfl
  | k + 15, h2, _ => omega
theorem mdD {h : Nat → Nat} (hI : mdI h) (dA : ClassId) (f : Nat → Int32) (a : Nat → Nat → Int32) : va_D (mdA h) (mdWs h dA f a) := by
  refine ⟨fun i j p q hi hj e => ?_, fun k q hk => ?_⟩
  · obtain ⟨i1, i2⟩ := mdWs_at h dA f a i p hi
    obtain ⟨j1, j2⟩ := mdWs_at h dA f a j q hj
    exact hI i i1 j j1 (i2.symm.trans (e.trans j2))
  · obtain ⟨i1, i2⟩ := mdWs_at h dA f a k q hk
    exact ⟨k, i1, i2⟩
/-- the heap holds the model at f, a; since H0 nothing else has changed -/
def mdH (D : va_G) (h : Nat → Nat) (dA : ClassId) (H0 H : Heap) (locs : List Loc) (f : Nat → Int32) (a : Nat → Nat → Int32) : Prop := va_P D mdCl (mdWs h dA f a) H ∧ va_S (mdA h) H0 H locs
def mdQ (D : va_G) (h : Nat → Nat) (dA : ClassId) (v : Option Value) (f : Nat → Int32) (a : Nat → Nat → Int32) : Array Value → State → Outcome → State → Prop := fun _ st oc t => oc = .returned v ∧ va_P D mdCl (mdWs h dA f a) t.heap ∧ va_F (mdA h) st t
abbrev mdPc (D : va_G) (h : Nat → Nat) (dA : ClassId) (As : List Value) (f : Nat → Int32) (a : Nat → Nat → Int32) : Array Value → State → Prop := va_Pc (.ref (h 0) :: As) (fun U => va_P D mdCl (mdWs h dA f a) U.heap ∧ va_K D mdCl [(dA, .int)] U)
/-- A CONTRACT of the model: from f, a with the arguments As: answers v, leaves f', a' -/
def MdF (y : MethodName) (cc : ByteArray) (maxL : Nat) (ret : Option FieldType) (fr lo : Nat) (As : List Value) (f : Nat → Int32) (a : Nat → Nat → Int32) (v : Option Value) (f' : Nat → Int32) (a' : Nat → Nat → Int32) : Prop :=
  ∀ (l : Launch) (D : va_G) (h : Nat → Nat) (dA : ClassId), mdI h → Met l y (ws_ y cc maxL ret) { frames := fr, cells := 0, slots := 0, locals := lo } (mdPc D h dA As f a) (mdQ D h dA v f' a') 0 0 (mdA h)
section MDB
variable {p : Program} {l : Launch} {e : Env} {R : Room} {s : State} {m : MethodId} {args : Array Value} {below : List Frame} {meth : Method} {c : Code} {H H0 : Heap} {locs : List Loc} {cells slots : Nat} {Q : State → Prop}
variable {cc : ByteArray} {pc : Nat} {ls : Array Slot} {rest : List Value} {D : va_G} {h : Nat → Nat} {dA : ClassId} {f : Nat → Int32} {a : Nat → Nat → Int32}
theorem md_get (hx : p.tables.exec = Jvm.exec) (hb : c.code = cc) (hts : ∀ w ∈ lw_all, w.before args s = true) (hown : s.vm.findClass RX6 = some m.cls) (hK : va_K D mdCl [(dA, .int)] s) (hM : mdH D h dA H0 H locs f a) (k : Nat) (hk : k < 28) {index : Nat} (hq : Cond.fieldLink RX6 index RX6 (TX6 k).2.1 (TX6 k).2.2.1 ∈ lw_all) {v : Value} (hR : (TX6 k).1 = RX6) (hv : (mdF h f)[k]? = some v) (hdg : decode cc pc = .ok (.getfield index, 3))
    (kk : W p l e R s m args below meth c H locs cells slots Q (F0 m (pc + 3) ls (v :: rest))) : W p l e R s m args below meth c H locs cells slots Q (F0 m pc ls (.ref (h 0) :: rest)) :=
  va_get (ref := RX6) hx hb hts in_X6 hown hK hM.1 0 rfl rfl k hk (hts _ hq) (fun x hx => by rw [← hR]; exact hx) hv hdg kk
theorem md_put (hx : p.tables.exec = Jvm.exec) (hb : c.code = cc) (hts : ∀ w ∈ lw_all, w.before args s = true) (hown : s.vm.findClass RX6 = some m.cls) (hK : va_K D mdCl [(dA, .int)] s) (hI : mdI h) (hM : mdH D h dA H0 H locs f a) (k : Nat) (hk : k < 28) {index : Nat} (hq : Cond.fieldLink RX6 index RX6 (TX6 k).2.1 (TX6 k).2.2.1 ∈ lw_all) {x : Int32} (hR : (TX6 k).1 = RX6) (hfin : (TX6 k).2.2.2 = false) (hn : narrow (tyX6 k) (.int x) = .int x) (hfit : fits (tyX6 k) (.int x) = true) (hset : (mdF h f).set k (.int x) = mdF h (upd f k x)) (hdg : decode cc pc = .ok (.putfield index, 3))
    (kk : ∀ (H1 : Heap) (locs1 : List Loc), mdH D h dA H0 H1 locs1 (upd f k x) a → W p l e R s m args below meth c H1 locs1 cells slots Q (F0 m (pc + 3) ls rest)) : W p l e R s m args below meth c H locs cells slots Q (F0 m pc ls (.int x :: .ref (h 0) :: rest)) := by
  refine va_put (ref := RX6) (ty := tyX6 k) hx hb hts in_X6 tyX6 tyX6_ok nmX6 hown hK hM.1 (mdD hI dA f a) hM.2 0 rfl rfl k hk (hts _ hq) (fun x hx => by rw [← hR]; exact hx) hfin (tyX6_ok k hk) hn hfit hk hdg (fun H1 locs1 hP hD hS => kk H1 locs1 ⟨?_, hS⟩)
  have hP : va_P D mdCl ((mdWs h dA f a).set 0 (h 0, .inr (0, (mdF h f).set k (.int x)))) H1 := hP
  rw [hset] at hP
  exact hP
theorem md_iald (hx : p.tables.exec = Jvm.exec) (hb : c.code = cc) (hK : va_K D mdCl [(dA, .int)] s) (hM : mdH D h dA H0 H locs f a) (j : Nat) {n : Nat} (hj : (mdWs h dA f a)[j]? = some (h j, .inl (dA, n, .inl (a j)))) {i : Int32} (i' : Nat) (hi : i' < n ∧ n < 2 ^ 31 ∧ i = nI i') (hdg : decode cc pc = .ok (.iaload, 1))
    (kk : W p l e R s m args below meth c H locs cells slots Q (F0 m (pc + 1) ls (.int (a j i') :: rest))) : W p l e R s m args below meth c H locs cells slots Q (F0 m pc ls (.int i :: .ref (h j) :: rest)) := by
  obtain ⟨h1, h2, h3⟩ := hi
  subst h3
  refine va_iald hx hb hK hM.1 j 0 hj rfl (vp_in_nI h1 h2) hdg ?_
  rw [nI_clamp (Nat.lt_trans h1 h2)]
  exact kk
theorem md_iast (hx : p.tables.exec = Jvm.exec) (hb : c.code = cc) (hK : va_K D mdCl [(dA, .int)] s) (hI : mdI h) (hM : mdH D h dA H0 H locs f a) (j : Nat) {n : Nat} (hj : (mdWs h dA f a)[j]? = some (h j, .inl (dA, n, .inl (a j)))) {i x : Int32} (i' : Nat) (hi : i' < n ∧ n < 2 ^ 31 ∧ i = nI i') (hset : (mdWs h dA f a).set j (h j, .inl (dA, n, .inl (upd (a j) i' x))) = mdWs h dA f (va_up a j (upd (a j) i' x))) (hdg : decode cc pc = .ok (.iastore, 1))
    (kk : ∀ (H1 : Heap) (locs1 : List Loc), mdH D h dA H0 H1 locs1 f (va_up a j (upd (a j) i' x)) → W p l e R s m args below meth c H1 locs1 cells slots Q (F0 m (pc + 1) ls rest)) : W p l e R s m args below meth c H locs cells slots Q (F0 m pc ls (.int x :: .int i :: .ref (h j) :: rest)) := by
  obtain ⟨h1, h2, h3⟩ := hi
  subst h3
  refine va_iast hx hb hK hM.1 (mdD hI dA f a) hM.2 j 0 hj rfl (vp_in_nI h1 h2) hdg (fun H1 locs1 hP hD hS => kk H1 locs1 ⟨?_, hS⟩)
  rw [nI_clamp (Nat.lt_trans h1 h2), hset] at hP
  exact hP
theorem md_call {y : MethodName} {cy : ByteArray} {maxL nL fr lo idx : Nat} {ret : Option FieldType} {As : List Value} {v : Option Value} {f' : Nat → Int32} {a' : Nat → Nat → Int32} {st : List Value} (hx : p.tables.exec = Jvm.exec) (hb : c.code = cc) (hml : c.maxLocals = nL) (hown : s.vm.findClass RX6 = some m.cls) (hts : ∀ w ∈ lw_all, w.before args s = true) (hK : va_K D mdCl [(dA, .int)] s) (hI : mdI h) (hM : mdH D h dA H0 H locs f a)
    (hC : MdF y cy maxL ret fr lo As f a v f' a') (h1 : Cond.methodLink RX6 idx y ∈ lw_all) (h2 : Cond.instanceMethod y ∈ lw_all) (h3 : Cond.selects RX6 y y ∈ lw_all) (h4 : Cond.initialized RX6 ∈ lw_all) (h5 : Cond.code y cy maxL ret ∈ lw_all)
    (hd : y.cls = RX6 ∧ y.cls ≠ "java/lang/invoke/MethodHandle" ∧ y.cls ≠ "java/lang/invoke/VarHandle" ∧ (parseMethodDescriptor y.desc).map (fun d => d.parameters.length) = some As.length) (hR : fr + 1 ≤ R.frames ∧ 8 + (maxL + 11) + lo ≤ R.locals) (hsize : ls.size = nL) (hst : st = As.reverse ++ .ref (h 0) :: rest) (hW : (rest.map fun v => v.category).sum ≤ 8) (hf : cells ≤ R.cells ∧ slots ≤ R.slots) (hdg : decode cc pc = .ok (.invokevirtual idx, 3))
    (kk : ∀ (H1 : Heap) (locs1 : List Loc), mdH D h dA H0 H1 locs1 f' a' → W p l e R s m args below meth c H1 locs1 cells slots Q (F0 m (pc + 3) ls (v.toList ++ rest))) : W p l e R s m args below meth c H locs cells slots Q (F0 m pc ls st) := by
  have hr := va_runV (below := below) (meth := meth) (locs := locs) (cells := cells) (slots := slots) (e := e) (As := As) (rest := rest) (g := F0 m pc ls st) (b := h 0) (Ts := lw_all) (own := RX6) (C := RX6) (n := As.length) ⟨hx, hb, hml, hown, hts⟩ (hC l D h dA hI) (cwV As.length hts (lw_V h1 h2 h3 h4 h5) rfl rfl rfl hd hR)
    ⟨fun a U g mk q => by obtain ⟨q0, qP, qK⟩ := q; exact ⟨q0, qP, va_K.moved (u := U) (U := U.calling g mk a) (Vm.Alike.refl U.vm) qK⟩, va_recv hK hM.1 (ci := 0) (q0 := 0) rfl rfl, fun U hU hW => ⟨rfl, by rw [hU]; exact hM.1, va_K.moved hW.alike hK⟩⟩ rfl rfl hsize hst (lv_room hW) hdg ⟨hf.1, hf.2⟩
  intro T hT X
  obtain ⟨v', st₀, t, T', L, h0, X', hL, e1, e2, ⟨hv, hP, hz, hk⟩, stp⟩ := hr T hT X
  cases hv
  rw [h0] at hz hk
  have hS := hM.2
  obtain ⟨t2, a1, b1⟩ := kk T'.heap (locs ++ L) ⟨by rw [e1]; exact hP, ⟨Nat.le_trans hS.1 (by rw [e1]; exact hz), fun q g1 g2 => by rw [e1, hk q (Nat.lt_of_lt_of_le g1 hS.1) g2]; exact hS.2.1 q g1 g2, fun q hq => by
      rcases List.mem_append.mp hq with g | g
      · exact hS.2.2 q g
      · exact hL q g⟩⟩ T' rfl X'
  exact ⟨t2, stp t2 a1, b1⟩
end MDB
