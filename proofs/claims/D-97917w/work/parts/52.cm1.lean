/-! THE COMPONENT: contracts (Cg: returns; Co: returns or throws), a world as a list of cells (gH), rows -/
set_option maxRecDepth 100000
/-- y, from P, with the arguments As: returns v with Q v; nothing old is changed outside A; at most mc cells of ms slots are made -/
def Cg (D : va_G) (dA : Nat → ClassId) (A : Nat → Prop) (y : MethodName) (cc : ByteArray) (maxL : Nat) (ret : Option FieldType) (fr lo mc ms : Nat) (As : List Value) (P : Heap → Prop) (Q : Option Value → Heap → Prop) : Prop :=
  ∀ (l : Launch), Met l y (ws_ y cc maxL ret) { frames := fr, cells := mc, slots := ms, locals := lo } (va_Pc As (fun U => P U.heap ∧ cmK D dA U)) (fun _ st oc t => (∃ v, oc = .returned v ∧ Q v t.heap) ∧ va_F A st t) mc ms A
/-- as Cg; it may throw: Q says of the outcome -/
def Co (D : va_G) (dA : Nat → ClassId) (A : Nat → Prop) (y : MethodName) (cc : ByteArray) (maxL : Nat) (ret : Option FieldType) (fr lo mc ms : Nat) (As : List Value) (P : Heap → Prop) (Q : Outcome → Heap → Prop) : Prop :=
  ∀ (l : Launch), MetT l y (ws_ y cc maxL ret) { frames := fr, cells := mc, slots := ms, locals := lo } (va_Pc As (fun U => P U.heap ∧ cmK D dA U)) (fun _ st oc t => Q oc t.heap ∧ va_F A st t) mc ms A
/-- a method with handlers -/
def Cw (D : va_G) (dA : Nat → ClassId) (A : Nat → Prop) (y : MethodName) (cc : ByteArray) (maxL : Nat) (ret : Option FieldType) (hh : List (Nat × Nat × Nat × Nat)) (fr lo mc ms : Nat) (As : List Value) (P : Heap → Prop) (Q : Option Value → Heap → Prop) : Prop :=
  ∀ (l : Launch), Met l y (wsW_ y cc maxL ret hh) { frames := fr, cells := mc, slots := ms, locals := lo } (va_Pc As (fun U => P U.heap ∧ cmK D dA U)) (fun _ st oc t => (∃ v, oc = .returned v ∧ Q v t.heap) ∧ va_F A st t) mc ms A
theorem cm_blind {D : va_G} {dA : Nat → ClassId} {As : List Value} {P : Heap → Prop} : FrameBlind (va_Pc As (fun U => P U.heap ∧ cmK D dA U)) := fun a U g mk q => ⟨q.1, q.2.1, q.2.2.warm (State.WarmedH.refl U)⟩
/-- the world ws, all of it in A, and since H0 nothing old outside A has changed -/
def gH (D : va_G) (A : Nat → Prop) (ws : va_W) (H0 H : Heap) (locs : List Loc) : Prop := va_P D cmCl ws H ∧ va_D A ws ∧ va_S A H0 H locs
theorem gH.to {D : va_G} {A : Nat → Prop} {ws ws' : va_W} {H0 H : Heap} {locs : List Loc} (h : gH D A ws H0 H locs) (e : ws = ws') : gH D A ws' H0 H locs := e ▸ h
/-- a cell by itself -/
abbrev cAt (D : va_G) (a : Nat) (e : va_E) (H : Heap) : Prop := va_at D cmCl (a, e) H
theorem cAt.kept {D : va_G} {a : Nat} {e : va_E} {H H1 : Heap} (h : cAt D a e H) (k : H1[a]? = H[a]?) : cAt D a e H1 := by
  unfold cAt va_at at h ⊢
  cases e with
  | inl x => exact k.trans h
  | inr x =>
    obtain ⟨r, h1, h2⟩ := h
    exact ⟨r, h1, h2.kept k⟩
theorem cAt.lt {D : va_G} {a : Nat} {e : va_E} {H : Heap} (h : cAt D a e H) : a < H.size := by
  unfold cAt va_at at h
  cases e with
  | inl x => exact (Array.getElem?_eq_some_iff.mp h).1
  | inr x =>
    obtain ⟨r, -, cell, h1, -⟩ := h
    exact (Array.getElem?_eq_some_iff.mp h1).1
theorem cAt.P {D : va_G} {a : Nat} {e : va_E} {H : Heap} (h : cAt D a e H) : va_P D cmCl [(a, e)] H := by
  intro k q hk
  match k, hk with
  | 0, hk => cases hk; exact h
theorem cm_P_app {D : va_G} {xs ys : va_W} {H : Heap} : va_P D cmCl (xs ++ ys) H ↔ va_P D cmCl xs H ∧ va_P D cmCl ys H := by
  constructor
  · intro h
    refine ⟨fun k q hk => h k q ?_, fun k q hk => h (xs.length + k) q ?_⟩
    · rw [List.getElem?_append_left (List.getElem?_eq_some_iff.mp hk).1]; exact hk
    · rw [List.getElem?_append_right (Nat.le_add_right _ _), Nat.add_sub_cancel_left]; exact hk
  · rintro ⟨h1, h2⟩ k q hk
    by_cases hl : k < xs.length
    · rw [List.getElem?_append_left hl] at hk; exact h1 k q hk
    · rw [List.getElem?_append_right (Nat.not_lt.mp hl)] at hk; exact h2 _ q hk
theorem cm_P_keep {D : va_G} {ws : va_W} {H H1 : Heap} (h : va_P D cmCl ws H) (k : ∀ (j : Nat) (q : Nat × va_E), ws[j]? = some q → H1[q.1]? = H[q.1]?) : va_P D cmCl ws H1 := fun j q hj => cAt.kept (a := q.1) (e := q.2) (h j q hj) (k j q hj)
section CMB
variable {p : Program} {l : Launch} {e : Env} {R : Room} {s : State} {m : MethodId} {args : Array Value} {below : List Frame} {meth : Method} {c : Code} {H H0 : Heap} {locs : List Loc} {cells slots : Nat} {Q : State → Prop}
variable {cc : ByteArray} {pc : Nat} {ls : Array Slot} {rest : List Value} {D : va_G} {dA : Nat → ClassId} {A : Nat → Prop} {ws : va_W} {a : Nat}
-- ===== reading: from one cell
theorem c_get (hx : p.tables.exec = Jvm.exec) (hb : c.code = cc) {own ref C : String} {T : u_T} {N ci index : Nat} (hts : ∀ w ∈ lw_all, w.before args s = true) (hin : ∀ w ∈ u_ws C T N, w ∈ lw_all) (hown : s.vm.findClass own = some m.cls) (hK : cmK D dA s) {fs : List Value} (ho : cAt D a (.inr (ci, fs)) H) (hc : cmCl[ci]? = some (C, T, N)) (k : Nat) (hk : k < N) (hq : Cond.fieldLink own index ref (T k).2.1 (T k).2.2.1 ∈ lw_all) (hR : (T k).1 = ref) {v : Value} (hv : fs[k]? = some v) (hdg : decode cc pc = .ok (.getfield index, 3))
    (kk : W p l e R s m args below meth c H locs cells slots Q (F0 m (pc + 3) ls (v :: rest))) : W p l e R s m args below meth c H locs cells slots Q (F0 m pc ls (.ref a :: rest)) :=
  va_get (ref := ref) hx hb hts hin hown hK.1 ho.P 0 rfl hc k hk (hts _ hq) (fun x h => by rw [← hR]; exact h) hv hdg kk
theorem c_getU (hx : p.tables.exec = Jvm.exec) (hb : c.code = cc) {own ref C : String} {T : u_T} {N ci index : Nat} (hts : ∀ w ∈ lw_all, w.before args s = true) (hin : ∀ w ∈ u_ws C T N, w ∈ lw_all) (hown : s.vm.findClass own = some m.cls) (hK : cmK D dA s) {fs : List Value} (ho : cAt D a (.inr (ci, fs)) H) (hc : cmCl[ci]? = some (C, T, N)) (k : Nat) (hk : k < N) (hq : Cond.fieldLink own index ref (T k).2.1 (T k).2.2.1 ∈ lw_all) (hR : Cond.sameField ref (T k).1 (T k).2.1 (T k).2.2.1 ∈ lw_all) {v : Value} (hv : fs[k]? = some v) (hdg : decode cc pc = .ok (.getfield index, 3))
    (kk : W p l e R s m args below meth c H locs cells slots Q (F0 m (pc + 3) ls (v :: rest))) : W p l e R s m args below meth c H locs cells slots Q (F0 m pc ls (.ref a :: rest)) :=
  va_get (ref := ref) hx hb hts hin hown hK.1 ho.P 0 rfl hc k hk (hts _ hq) (fun x h => u_same (hts _ hR) x h) hv hdg kk
theorem c_getN (hx : p.tables.exec = Jvm.exec) (hb : c.code = cc) {own ref C host : String} {T : u_T} {N ci index : Nat} (hts : ∀ w ∈ lw_all, w.before args s = true) (hin : ∀ w ∈ u_ws C T N, w ∈ lw_all) (hown : s.vm.findClass own = some m.cls) (hK : cmK D dA s) {fs : List Value} (ho : cAt D a (.inr (ci, fs)) H) (hc : cmCl[ci]? = some (C, T, N)) (k : Nat) (hk : k < N) (hq : va_Nw (.fieldLinkNest own index ref (T k).2.1 (T k).2.2.1 host) s) (hR : (T k).1 = ref) {v : Value} (hv : fs[k]? = some v) (hdg : decode cc pc = .ok (.getfield index, 3))
    (kk : W p l e R s m args below meth c H locs cells slots Q (F0 m (pc + 3) ls (v :: rest))) : W p l e R s m args below meth c H locs cells slots Q (F0 m pc ls (.ref a :: rest)) :=
  va_getN (ref := ref) (host := host) hx hb hts hin hown hK.1 ho.P 0 rfl hc k hk (va_Nw.use rfl hq) (fun x h => by rw [← hR]; exact h) hv hdg kk
theorem c_iald (hx : p.tables.exec = Jvm.exec) (hb : c.code = cc) (hK : cmK D dA s) {n : Nat} {f : Nat → Int32} (ha : cAt D a (.inl (dA 0, n, .inl f)) H) {i : Int32} (i' : Nat) (hi : i' < n ∧ n < 2 ^ 31 ∧ i = nI i') (hdg : decode cc pc = .ok (.iaload, 1))
    (kk : W p l e R s m args below meth c H locs cells slots Q (F0 m (pc + 1) ls (.int (f i') :: rest))) : W p l e R s m args below meth c H locs cells slots Q (F0 m pc ls (.int i :: .ref a :: rest)) := by
  obtain ⟨h1, h2, rfl⟩ := hi
  refine va_iald hx hb hK.1 ha.P 0 0 rfl rfl (vp_in_nI h1 h2) hdg ?_
  rw [nI_clamp (Nat.lt_trans h1 h2)]
  exact kk
theorem c_bald (hx : p.tables.exec = Jvm.exec) (hb : c.code = cc) (hK : cmK D dA s) {n : Nat} {f : Nat → Int32} (ha : cAt D a (.inl (dA 1, n, .inl f)) H) {i : Int32} (i' : Nat) (hi : i' < n ∧ n < 2 ^ 31 ∧ i = nI i') (hdg : decode cc pc = .ok (.baload, 1))
    (kk : W p l e R s m args below meth c H locs cells slots Q (F0 m (pc + 1) ls (.int (f i') :: rest))) : W p l e R s m args below meth c H locs cells slots Q (F0 m pc ls (.int i :: .ref a :: rest)) := by
  obtain ⟨h1, h2, rfl⟩ := hi
  refine va_bald hx hb hK.1 ha.P 0 1 rfl rfl (vp_in_nI h1 h2) hdg ?_
  rw [nI_clamp (Nat.lt_trans h1 h2)]
  exact kk
theorem c_aldq (hx : p.tables.exec = Jvm.exec) (hb : c.code = cc) (hK : cmK D dA s) (t0 : Nat) {cA : ClassId} {C : String} (ht : (cmTy dA)[t0]? = some (cA, .object C)) {n : Nat} {f : Nat → Option Nat} (ha : cAt D a (.inl (cA, n, .inr (.inr (.inr (.inr f))))) H) {i : Int32} (i' : Nat) (hi : i' < n ∧ n < 2 ^ 31 ∧ i = nI i') (hdg : decode cc pc = .ok (.aaload, 1))
    (kk : W p l e R s m args below meth c H locs cells slots Q (F0 m (pc + 1) ls (va_rf (f i') :: rest))) : W p l e R s m args below meth c H locs cells slots Q (F0 m pc ls (.int i :: .ref a :: rest)) := by
  obtain ⟨h1, h2, rfl⟩ := hi
  refine va_aldq hx hb hK.1 ha.P 0 t0 rfl ht (vp_in_nI h1 h2) hdg ?_
  rw [nI_clamp (Nat.lt_trans h1 h2)]
  exact kk
-- ===== writing: into the world
theorem g_put (hx : p.tables.exec = Jvm.exec) (hb : c.code = cc) {own ref C : String} {T : u_T} {N ci index : Nat} (hts : ∀ w ∈ lw_all, w.before args s = true) (hin : ∀ w ∈ u_ws C T N, w ∈ lw_all) (ty0 : Nat → FieldType) (hty : ∀ k, k < N → parseFieldDescriptor (T k).2.2.1 = some (ty0 k)) (hnm : ∀ a, a < N → ∀ b, b < N → a ≠ b → (T a).2.1 ≠ (T b).2.1) (hown : s.vm.findClass own = some m.cls) (hK : cmK D dA s) (hM : gH D A ws H0 H locs) (q0 : Nat) {fs : List Value} (he : ws[q0]? = some (a, .inr (ci, fs))) (hc : cmCl[ci]? = some (C, T, N)) (k : Nat) (hk : k < N) (hq : Cond.fieldLink own index ref (T k).2.1 (T k).2.2.1 ∈ lw_all) (hR : (T k).1 = ref) (hfin : (T k).2.2.2 = false) {v : Value} (hn : narrow (ty0 k) v = v) (hfit : fits (ty0 k) v = true) (hl : k < fs.length) (hdg : decode cc pc = .ok (.putfield index, 3))
    (kk : ∀ (H1 : Heap) (locs1 : List Loc), gH D A (ws.set q0 (a, .inr (ci, fs.set k v))) H0 H1 locs1 → W p l e R s m args below meth c H1 locs1 cells slots Q (F0 m (pc + 3) ls rest)) : W p l e R s m args below meth c H locs cells slots Q (F0 m pc ls (v :: .ref a :: rest)) :=
  va_put (ref := ref) (ty := ty0 k) hx hb hts hin ty0 hty hnm hown hK.1 hM.1 hM.2.1 hM.2.2 q0 he hc k hk (hts _ hq) (fun x h => by rw [← hR]; exact h) hfin (hty k hk) hn hfit hl hdg (fun H1 locs1 hP hD hS => kk H1 locs1 ⟨hP, hD, hS⟩)
theorem g_putN (hx : p.tables.exec = Jvm.exec) (hb : c.code = cc) {own ref C host : String} {T : u_T} {N ci index : Nat} (hts : ∀ w ∈ lw_all, w.before args s = true) (hin : ∀ w ∈ u_ws C T N, w ∈ lw_all) (ty0 : Nat → FieldType) (hty : ∀ k, k < N → parseFieldDescriptor (T k).2.2.1 = some (ty0 k)) (hnm : ∀ a, a < N → ∀ b, b < N → a ≠ b → (T a).2.1 ≠ (T b).2.1) (hown : s.vm.findClass own = some m.cls) (hK : cmK D dA s) (hM : gH D A ws H0 H locs) (q0 : Nat) {fs : List Value} (he : ws[q0]? = some (a, .inr (ci, fs))) (hc : cmCl[ci]? = some (C, T, N)) (k : Nat) (hk : k < N) (hq : va_Nw (.fieldLinkNest own index ref (T k).2.1 (T k).2.2.1 host) s) (hR : (T k).1 = ref) (hfin : (T k).2.2.2 = false) {v : Value} (hn : narrow (ty0 k) v = v) (hfit : fits (ty0 k) v = true) (hl : k < fs.length) (hdg : decode cc pc = .ok (.putfield index, 3))
    (kk : ∀ (H1 : Heap) (locs1 : List Loc), gH D A (ws.set q0 (a, .inr (ci, fs.set k v))) H0 H1 locs1 → W p l e R s m args below meth c H1 locs1 cells slots Q (F0 m (pc + 3) ls rest)) : W p l e R s m args below meth c H locs cells slots Q (F0 m pc ls (v :: .ref a :: rest)) :=
  va_putN (ref := ref) (host := host) (ty := ty0 k) hx hb hts hin ty0 hty hnm hown hK.1 hM.1 hM.2.1 hM.2.2 q0 he hc k hk (va_Nw.use rfl hq) (fun x h => by rw [← hR]; exact h) hfin (hty k hk) hn hfit hl hdg (fun H1 locs1 hP hD hS => kk H1 locs1 ⟨hP, hD, hS⟩)
theorem g_putF (hx : p.tables.exec = Jvm.exec) (hb : c.code = cc) {own ref C : String} {T : u_T} {N ci index : Nat} (hts : ∀ w ∈ lw_all, w.before args s = true) (hin : ∀ w ∈ u_ws C T N, w ∈ lw_all) (ty0 : Nat → FieldType) (hty : ∀ k, k < N → parseFieldDescriptor (T k).2.2.1 = some (ty0 k)) (hnm : ∀ a, a < N → ∀ b, b < N → a ≠ b → (T a).2.1 ≠ (T b).2.1) (hown : s.vm.findClass own = some m.cls) (hK : cmK D dA s) (hM : gH D A ws H0 H locs) (q0 : Nat) {fs : List Value} (he : ws[q0]? = some (a, .inr (ci, fs))) (hc : cmCl[ci]? = some (C, T, N)) (k : Nat) (hk : k < N) (hq : Cond.fieldLink own index ref (T k).2.1 (T k).2.2.1 ∈ lw_all) (hR : (T k).1 = ref) (hfin : (T k).2.2.2 = true) (hini : meth.name = "<init>") (hdecl : (T k).1 = own) {v : Value} (hn : narrow (ty0 k) v = v) (hfit : fits (ty0 k) v = true) (hl : k < fs.length) (hdg : decode cc pc = .ok (.putfield index, 3))
    (kk : ∀ (H1 : Heap) (locs1 : List Loc), gH D A (ws.set q0 (a, .inr (ci, fs.set k v))) H0 H1 locs1 → W p l e R s m args below meth c H1 locs1 cells slots Q (F0 m (pc + 3) ls rest)) : W p l e R s m args below meth c H locs cells slots Q (F0 m pc ls (v :: .ref a :: rest)) :=
  va_putF (ref := ref) (ty := ty0 k) hx hb hts hin ty0 hty hnm hown hK.1 hM.1 hM.2.1 hM.2.2 q0 he hc k hk (hts _ hq) (fun x h => by rw [← hR]; exact h) hfin hini hdecl (hty k hk) hn hfit hl hdg (fun H1 locs1 hP hD hS => kk H1 locs1 ⟨hP, hD, hS⟩)
theorem g_iast (hx : p.tables.exec = Jvm.exec) (hb : c.code = cc) (hK : cmK D dA s) (hM : gH D A ws H0 H locs) (q0 : Nat) {n : Nat} {f : Nat → Int32} (ha : ws[q0]? = some (a, .inl (dA 0, n, .inl f))) {i x : Int32} (i' : Nat) (hi : i' < n ∧ n < 2 ^ 31 ∧ i = nI i') (hdg : decode cc pc = .ok (.iastore, 1))
    (kk : ∀ (H1 : Heap) (locs1 : List Loc), gH D A (ws.set q0 (a, .inl (dA 0, n, .inl (upd f i' x)))) H0 H1 locs1 → W p l e R s m args below meth c H1 locs1 cells slots Q (F0 m (pc + 1) ls rest)) : W p l e R s m args below meth c H locs cells slots Q (F0 m pc ls (.int x :: .int i :: .ref a :: rest)) := by
  obtain ⟨h1, h2, rfl⟩ := hi
  refine va_iast hx hb hK.1 hM.1 hM.2.1 hM.2.2 q0 0 ha rfl (vp_in_nI h1 h2) hdg (fun H1 locs1 hP hD hS => ?_)
  rw [nI_clamp (Nat.lt_trans h1 h2)] at hP hD
  exact kk H1 locs1 ⟨hP, hD, hS⟩
theorem g_bast (hx : p.tables.exec = Jvm.exec) (hb : c.code = cc) (hK : cmK D dA s) (hM : gH D A ws H0 H locs) (q0 : Nat) {n : Nat} {f : Nat → Int32} (ha : ws[q0]? = some (a, .inl (dA 1, n, .inl f))) {i x : Int32} (i' : Nat) (hi : i' < n ∧ n < 2 ^ 31 ∧ i = nI i') (hdg : decode cc pc = .ok (.bastore, 1))
    (kk : ∀ (H1 : Heap) (locs1 : List Loc), gH D A (ws.set q0 (a, .inl (dA 1, n, .inl (upd f i' (vp_nar .byte x))))) H0 H1 locs1 → W p l e R s m args below meth c H1 locs1 cells slots Q (F0 m (pc + 1) ls rest)) : W p l e R s m args below meth c H locs cells slots Q (F0 m pc ls (.int x :: .int i :: .ref a :: rest)) := by
  obtain ⟨h1, h2, rfl⟩ := hi
  refine va_bast hx hb hK.1 hM.1 hM.2.1 hM.2.2 q0 1 ha rfl (vp_in_nI h1 h2) hdg (fun H1 locs1 hP hD hS => ?_)
  rw [nI_clamp (Nat.lt_trans h1 h2)] at hP hD
  exact kk H1 locs1 ⟨hP, hD, hS⟩
end CMB
