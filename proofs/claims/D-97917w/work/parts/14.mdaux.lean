/-! small rows -/
set_option maxRecDepth 100000
theorem iI_fit {P : Prop} [Decidable P] : fits .boolean (.int (iI P)) = true := by
  by_cases h : P
  · rw [iI_t h]; rfl
  · rw [iI_f h]; rfl
theorem w_tout {x : Int32} (lo n : Nat) {lo' hi' : Int} (h : lo' = (lo : Int) ∧ hi' + 1 = (lo : Int) + (n : Int) ∧ lo + n < 2 ^ 31) (hk : ∀ k, k < n → ¬ x = nI (lo + k)) : x.toInt < lo' ∨ hi' < x.toInt := by
  obtain ⟨h1, h2, h3⟩ := h
  by_cases q : x.toInt < lo'
  · exact Or.inl q
  · by_cases q2 : hi' < x.toInt
    · exact Or.inr q2
    · exfalso
      have hx : x = nI x.toInt.toNat := by
        apply Int32.toInt_inj.mp
        rw [nI_toInt (by omega)]
        omega
      refine hk (x.toInt.toNat - lo) (by omega) ?_
      rw [show lo + (x.toInt.toNat - lo) = x.toInt.toNat by omega]
      exact hx
/-- between 0 and n -/
theorem in_nat {v : Int32} {n : Nat} (hn : n < 2 ^ 31) : (nI 0 ≤ v ∧ v ≤ nI n) ↔ ∃ k, k ≤ n ∧ v = nI k := by
  constructor
  · intro ⟨h1, h2⟩
    obtain ⟨j, hj, rfl⟩ := nI_of (x := v) (Int32.not_lt.mpr h1)
    exact ⟨j, (nI_leI hj hn).mp h2, rfl⟩
  · intro ⟨k, hk, e⟩
    subst e
    exact ⟨nI_le (Nat.zero_le _) (by omega), nI_le hk hn⟩
theorem in_nat1 {v : Int32} {n : Nat} (lo : Nat) (hb : lo < 2 ^ 31) (hn : n < 2 ^ 31) : (nI lo ≤ v ∧ v ≤ nI n) ↔ ∃ k, lo ≤ k ∧ k ≤ n ∧ v = nI k := by
  constructor
  · intro ⟨h1, h2⟩
    by_cases hl : lo ≤ n
    · obtain ⟨k, hk, rfl⟩ := (in_nat hn).mp ⟨Int32.le_trans (nI_le (Nat.zero_le lo) (by omega)) h1, h2⟩
      exact ⟨k, (nI_leI (by omega) (by omega)).mp h1, hk, rfl⟩
    · exfalso
      exact hl ((nI_leI hb hn).mp (Int32.le_trans h1 h2))
  · intro ⟨k, h1, hk, e⟩
    subst e
    exact ⟨nI_le h1 (by omega), nI_le hk hn⟩
theorem nI_one : nI 1 = 1 := rfl
section MDR
variable {p : Program} {l : Launch} {e : Env} {R : Room} {s : State} {m : MethodId} {args : Array Value} {below : List Frame} {meth : Method} {c : Code} {H H0 : Heap} {locs : List Loc} {cells slots : Nat} {Q : State → Prop}
variable {cc : ByteArray} {pc : Nat} {ls : Array Slot} {rest : List Value} {D : va_G} {h : Nat → Nat} {dA : ClassId} {f f1 : Nat → Int32} {a a1 : Nat → Nat → Int32}
theorem w_idivN (hx : p.tables.exec = Jvm.exec) (hb : c.code = cc) {x y : Nat} (h1 : x < 2 ^ 31) (h2 : 0 < y) (h3 : y < 2 ^ 31) (hdg : decode cc pc = .ok (.idiv, 1)) (k : W p l e R s m args below meth c H locs cells slots Q (F0 m (pc + 1) ls (.int (nI (x / y)) :: rest))) : W p l e R s m args below meth c H locs cells slots Q (F0 m pc ls (.int (nI y) :: .int (nI x) :: rest)) :=
  lv_idiv hx hb hdg (nI_ne0 h2 h3) (by rw [pk_div h1 h2 h3]; exact k)
theorem w_iremN (hx : p.tables.exec = Jvm.exec) (hb : c.code = cc) {x y : Nat} (h1 : x < 2 ^ 31) (h2 : 0 < y) (h3 : y < 2 ^ 31) (hdg : decode cc pc = .ok (.irem, 1)) (k : W p l e R s m args below meth c H locs cells slots Q (F0 m (pc + 1) ls (.int (nI (x % y)) :: rest))) : W p l e R s m args below meth c H locs cells slots Q (F0 m pc ls (.int (nI y) :: .int (nI x) :: rest)) :=
  lv_irem hx hb hdg (nI_ne0 h2 h3) (by rw [pk_rem h1 h2 h3]; exact k)
end MDR
/-- a number's natural part -/
abbrev cl (x : Int32) : Nat := x.toNatClampNeg
/-- a number from 0 to n -/
def okN (x : Int32) (n : Nat) : Prop := x = nI (cl x) ∧ cl x ≤ n
theorem okN_of {k n : Nat} (h : k ≤ n) (hn : n < 2 ^ 31) : okN (nI k) n := by
  have : cl (nI k) = k := nI_clamp (by omega)
  exact ⟨by rw [this], by rw [this]; exact h⟩
theorem cl_nI {k : Nat} (h : k < 2 ^ 31) : cl (nI k) = k := nI_clamp h
/-- none: -1 -/
def oI (o : Option Nat) : Int32 := match o with
  | none => -1
  | some k => nI k
/-- the cell that lies a way off -/
def nxt (c w : Nat) : Option Nat := if w = 1 then (if c < 5 then none else some (c - 5)) else if w = 2 then (if c % 5 = 4 then none else some (c + 1)) else if w = 3 then (if 20 ≤ c then none else some (c + 5)) else if w = 4 then (if c % 5 = 0 then none else some (c - 1)) else some c
theorem nxt_lt {c w k : Nat} (hc : c < 25) (h : nxt c w = some k) : k < 25 := by
  unfold nxt at h
  grind
theorem arrV_c (cI : ClassId) (N : Nat) {f g : Nat → Int32} (h : ∀ i, i < N → f i = g i) : vp_cell cI (N, .inl f) = vp_cell cI (N, .inl g) := by
  rw [vp_cell_i, vp_cell_i]
  unfold arrV
  congr 1
  apply congrArg
  funext j
  show Value.int (f j.val) = Value.int (g j.val)
  rw [h j.val j.isLt]
theorem mdH.cong {D : va_G} {h : Nat → Nat} {dA : ClassId} {H0 H : Heap} {locs : List Loc} {f : Nat → Int32} {a : Nat → Nat → Int32} (hM : mdH D h dA H0 H locs f a) (j : Nat) {n : Nat} (g : Nat → Int32) (hj : (mdWs h dA f a)[j]? = some (h j, .inl (dA, n, .inl (a j)))) (hset : (mdWs h dA f a).set j (h j, .inl (dA, n, .inl g)) = mdWs h dA f (va_up a j g)) (hg : ∀ i, i < n → a j i = g i) : mdH D h dA H0 H locs f (va_up a j g) := by
  refine ⟨?_, hM.2⟩
  rw [← hset]
  have hl := (List.getElem?_eq_some_iff.mp hj).1
  intro k q hk
  by_cases hkp : k = j
  · subst hkp
    rw [List.getElem?_set_self hl] at hk
    cases hk
    have h1 : H[h k]? = some (vp_cell dA (n, .inl (a k))) := hM.1 k _ hj
    show H[h k]? = some (vp_cell dA (n, .inl g))
    rw [h1, arrV_c dA n hg]
  · rw [List.getElem?_set_ne (Ne.symm hkp)] at hk
    exact hM.1 k q hk
/-- copied up to k -/
def cpk (g d : Nat → Int32) (k : Nat) : Nat → Int32 := fun x => if x < k then g x else d x
theorem cpk_s {a : Nat → Nat → Int32} {i j k : Nat} (h : i ≠ j) : va_up (va_up a j (cpk (a i) (a j) k)) j (upd ((va_up a j (cpk (a i) (a j) k)) j) k ((va_up a j (cpk (a i) (a j) k)) i k)) = va_up a j (cpk (a i) (a j) (k + 1)) := by
  funext x
  by_cases hx : x = j
  · subst hx
    funext y
    simp only [va_up, if_pos, if_neg h, upd, cpk]
    grind
  · simp [va_up, hx]
theorem cpk_0 (a : Nat → Nat → Int32) (i j : Nat) : a = va_up a j (cpk (a i) (a j) 0) := by
  funext x
  by_cases hx : x = j
  · subst hx
    funext y
    simp [va_up, cpk]
  · simp [va_up, hx]
theorem va_uu {α : Type} (a : Nat → α) (j : Nat) (x y : α) : va_up (va_up a j x) j y = va_up a j y := bx_uu a j x y
theorem va_us {α : Type} (a : Nat → α) (j : Nat) (x : α) : va_up a j x j = x := by simp [va_up]
/-- a contract whose arguments may name the model's own rows -/
def MdG (y : MethodName) (cc : ByteArray) (maxL : Nat) (ret : Option FieldType) (fr lo : Nat) (As : (Nat → Nat) → List Value) (f : Nat → Int32) (a : Nat → Nat → Int32) (v : Option Value) (f' : Nat → Int32) (a' : Nat → Nat → Int32) : Prop :=
  ∀ (l : Launch) (D : va_G) (h : Nat → Nat) (dA : ClassId), mdI h → Met l y (ws_ y cc maxL ret) { frames := fr, cells := 0, slots := 0, locals := lo } (mdPc D h dA (As h) f a) (mdQ D h dA v f' a') 0 0 (mdA h)
theorem MdG.ofV {y : MethodName} {cc : ByteArray} {maxL fr lo : Nat} {As : (Nat → Nat) → List Value} {f f' : Nat → Int32} {a a' : Nat → Nat → Int32} (hy : plainName y.cls = true) (hcl : y.cls = RX6) (hlen : ∀ h, (lg_sl (.ref 0 :: As h)).length ≤ maxL)
    (body : ∀ (p : Program) (l : Launch) (e : Env) (R : Room) (s : State) (m : MethodId) (args : Array Value) (below : List Frame) (meth : Method) (c : Code) (Q : State → Prop) (D : va_G) (h : Nat → Nat) (dA : ClassId) (ls : Array Slot), p.tables.exec = Jvm.exec → c.code = cc → c.maxLocals = maxL → R.frames = fr → R.locals = lo → (∀ w ∈ lw_all, w.before args s = true) → s.vm.findClass RX6 = some m.cls → va_K D mdCl [(dA, .int)] s → mdI h → mdH D h dA s.heap s.heap [] f a → lv_has ls maxL (lv_args 0 (.ref (h 0) :: As h)) →
      (∀ {H : Heap} {locs : List Loc} {pc : Nat} {ls : Array Slot}, mdH D h dA s.heap H locs f' a' → decode cc pc = .ok (.return_, 1) → W p l e R s m args below meth c H locs 0 0 Q (F0 m pc ls [])) →
      W p l e R s m args below meth c s.heap [] 0 0 Q (F0 m 0 ls [])) : MdG y cc maxL none fr lo As f a none f' a' := by
  intro l D h dA hI
  refine Met.ofW (cc := cc) (maxL := maxL) (ret := none) hy rfl ?_
  intro p e s m args below meth c s₁ B hml hv
  obtain ⟨rfl, hP, hK⟩ := hv
  have hts := atoms_spec (ws := ws_ y cc maxL none) B.pre
  have hts : ∀ w ∈ lw_all, w.before _ s = true := fun w h => hts w (List.mem_cons_of_mem _ h)
  have hown : s.vm.findClass RX6 = some m.cls := by rw [← hcl]; exact findClass_of_methodNamed B.named
  have hl := lv_entry (.ref (h 0) :: As h) (n := maxL) (hlen h)
  rw [lg_entry_eq]
  exact body p l e _ s m _ below meth c _ D h dA _ B.exec B.bytes hml rfl rfl hts hown hK hI ⟨hP, va_S.rf⟩ hl (fun hM hdg => md_vret (As := As h) B.exec B.bytes B.returns B.notSynchronized hM ⟨rfl, rfl⟩ hdg)
section MDG
variable {p : Program} {l : Launch} {e : Env} {R : Room} {s : State} {m : MethodId} {args : Array Value} {below : List Frame} {meth : Method} {c : Code} {H H0 : Heap} {locs : List Loc} {Q : State → Prop}
variable {cc : ByteArray} {pc : Nat} {ls : Array Slot} {rest : List Value} {D : va_G} {h : Nat → Nat} {dA : ClassId} {f : Nat → Int32} {a : Nat → Nat → Int32}
theorem md_callG {y : MethodName} {cy : ByteArray} {maxL nL fr lo idx : Nat} {ret : Option FieldType} {As : (Nat → Nat) → List Value} {f' : Nat → Int32} {a' : Nat → Nat → Int32} {st : List Value} (hx : p.tables.exec = Jvm.exec) (hb : c.code = cc) (hml : c.maxLocals = nL) (hown : s.vm.findClass RX6 = some m.cls) (hts : ∀ w ∈ lw_all, w.before args s = true) (hK : va_K D mdCl [(dA, .int)] s) (hI : mdI h) (hM : mdH D h dA H0 H locs f a)
    (hC : MdG y cy maxL ret fr lo As f a none f' a') (h1 : Cond.methodLink RX6 idx y ∈ lw_all) (h2 : Cond.instanceMethod y ∈ lw_all) (h3 : Cond.selects RX6 y y ∈ lw_all) (h5 : Cond.code y cy maxL ret ∈ lw_all)
    {n : Nat} (hd : y.cls = RX6 ∧ y.cls ≠ "java/lang/invoke/MethodHandle" ∧ y.cls ≠ "java/lang/invoke/VarHandle" ∧ (parseMethodDescriptor y.desc).map (fun d => d.parameters.length) = some n) (hn : (As h).length = n) (hRf : fr + 1 ≤ R.frames) (hRl : 8 + (maxL + 11) + lo ≤ R.locals) (hsize : ls.size = nL) (hst : st = (As h).reverse ++ .ref (h 0) :: rest) (hW : (rest.map fun v => v.category).sum ≤ 8) (hdg : decode cc pc = .ok (.invokevirtual idx, 3))
    (kk : ∀ (H1 : Heap) (locs1 : List Loc), mdH D h dA H0 H1 locs1 f' a' → W p l e R s m args below meth c H1 locs1 0 0 Q (F0 m (pc + 3) ls rest)) : W p l e R s m args below meth c H locs 0 0 Q (F0 m pc ls st) := by
  have hr := va_runV (below := below) (meth := meth) (locs := locs) (cells := 0) (slots := 0) (e := e) (As := As h) (rest := rest) (g := F0 m pc ls st) (b := h 0) (Ts := lw_all) (own := RX6) (C := RX6) (n := n) ⟨hx, hb, hml, hown, hts⟩ (hC l D h dA hI) (cwV n hts (lw_V h1 h2 h3 q70 h5) rfl rfl rfl hd ⟨hRf, hRl⟩)
    ⟨fun a U g mk q => by obtain ⟨q0, qP, qK⟩ := q; exact ⟨q0, qP, va_K.moved (u := U) (U := U.calling g mk a) (Vm.Alike.refl U.vm) qK⟩, va_recv hK hM.1 (ci := 0) (q0 := 0) rfl rfl, fun U hU hW => ⟨rfl, by rw [hU]; exact hM.1, va_K.moved hW.alike hK⟩⟩ rfl hn hsize hst (lv_room hW) hdg ⟨Nat.zero_le _, Nat.zero_le _⟩
  intro T hT X
  obtain ⟨v', st₀, t, T', L, h0, X', hL, e1, e2, ⟨hv, hP, hz, hk⟩, stp⟩ := hr T hT X
  cases hv
  rw [h0] at hz hk
  have hS := hM.2
  obtain ⟨t2, a1, b1⟩ := kk T'.heap (locs ++ L) ⟨by rw [e1]; exact hP, ⟨Nat.le_trans hS.1 (by rw [e1]; exact hz), fun q g1 g2 => by rw [e1, hk q (Nat.lt_of_lt_of_le g1 hS.1) g2]; exact hS.2.1 q g1 g2, fun q hq => by
      rcases List.mem_append.mp hq with g | g
      · exact hS.2.2 q g
      · exact hL q g⟩⟩ T' rfl X'
  exact ⟨t2, stp t2 a1, b1⟩
end MDG
