/-! VOICES: super's method that the superclass itself inherits; the trace's little world -/
set_option maxRecDepth 100000
section VSX
variable {p : Program} {l : Launch} {e : Env} {R : Room} {s : State} {m : MethodId} {args : Array Value} {below : List Frame} {meth : Method} {c : Code} {H H0 : Heap} {locs : List Loc} {cells slots : Nat} {Q : State → Prop}
theorem isSub_up {vm : Vm} {a b : ClassId} {k : Class} (h : vm.classes[a]? = some k) (hs : k.super = some b) : vm.isSubclass a b = true := by
  have hz : 0 < vm.classes.size := Nat.lt_of_le_of_lt (Nat.zero_le _) (Array.getElem?_eq_some_iff.mp h).1
  obtain ⟨n, hn⟩ : ∃ n, vm.classes.size = n + 1 := ⟨vm.classes.size - 1, by omega⟩
  unfold Vm.isSubclass
  rw [hn, Vm.isSubclassAux, h]
  simp only [hs]
  rw [Vm.isSubclassAux]
  simp
theorem va_runSX {x y : MethodName} {bytes cc : ByteArray} {maxL nL mc ms n index : Nat} {ret : Option FieldType} {ws ws' : List Cond} {rm : Room} {Pc : Array Value → State → Prop} {Qc : Array Value → State → Outcome → State → Prop} {free : Addr → Prop} {Ts : List Cond} {own C : String} {cC : ClassId} {b : Addr} {As rest : List Value} {g : JFrame}
    (hat : ClassAt s C cC) (S : CallFix p m c cc nL s args Ts own) (hM : Met l y ws rm Pc Qc mc ms free) (hT : GoodIn Ts ws) (hwd : ws = Cond.code y bytes maxL ret :: ws') (hrm : rm.cells = mc ∧ rm.slots = ms) (hR : rm.frames + 1 ≤ R.frames ∧ 8 + (maxL + 11) + rm.locals ≤ R.locals)
    (hl1 : (Cond.methodLink own index x).before args s = true) (hl2 : (Cond.sameMethod x.cls y.cls x.name x.desc).before args s = true) (hl3 : (Cond.superclass own x.cls).before args s = true) (hl5 : (Cond.superclass x.cls y.cls).before args s = true) (hl4 : (Cond.instanceMethod y).before args s = true) (hini : (Cond.initialized y.cls).before args s = true)
    (hd : x.name ≠ "<init>" ∧ x.name = y.name ∧ x.desc = y.desc ∧ (parseMethodDescriptor y.desc).map (fun d => d.parameters.length) = some n) (hp : PreV s H C b Pc As)
    (hg : g.method = m) (hn : As.length = n) (hsize : g.locals.size = nL) (hstack : g.stack = As.reverse ++ .ref b :: rest) (hW : 2 * g.monitorRoom + (rest.map fun v => v.category).sum ≤ 8) (hdg : decode cc g.pc = .ok (.invokespecial index, 3)) (hf : cells + mc ≤ R.cells ∧ slots + ms ≤ R.slots) :
    va_Run p l e R s m args below meth c H locs cells slots mc ms g rest (Qc (Value.ref b :: As).toArray) (free) := by
  obtain ⟨hx, hb, hml, ho, ht⟩ := S
  have hcw : Cond.code y bytes maxL ret ∈ ws := by rw [hwd]; exact List.mem_cons_self
  have hcode := ht _ (hT _ hcw).1
  have hK : Back l R p e below s args y 3 8 (PreOf R mc ms Pc) (PostOf Qc mc ms free) := back_of (bytes := bytes) (maxL := maxL) (ret := ret) hM hp.1 hrm.1 hrm.2 hR.1 hR.2 (pay_in ht hT) hcw (fun a' U hW => word_at hW (Or.inl (by first | rfl | simp [Cond.onTables, Cond.keeps, Cond.steady])) hini)
  obtain ⟨-, ⟨cellB, hcB, hoB, hclB⟩, hPc⟩ := hp
  obtain ⟨hfc, kB, hkB, -⟩ := hat
  cases hfc.symm.trans hclB
  intro T hT X
  obtain ⟨mk, methM, hnamed, hmethM, hstM, habM⟩ := Cond.instanceMethod_spec hl4
  obtain ⟨methM', cM, hmethM', -, -, -, -, -, -, hsigM⟩ := Cond.code_spec hnamed hcode
  cases hmethM.symm.trans hmethM'
  obtain ⟨ps, dk, kp, hps, hdk, hkp, hsuper, -, -, hnid⟩ := Cond.superclass_spec ho hl3
  obtain ⟨ps2, dk2, kp2, hps2, hdk2, hkp2, hsuper2, -, -, -⟩ := Cond.superclass_spec hps hl5
  have hn2 : s.methodNamed? ⟨y.cls, x.name, x.desc⟩ = some mk := by rw [hd.2.1, hd.2.2.1]; exact hnamed
  have hpm : ps2 = mk.cls := Option.some.inj (hps2.symm.trans (findClass_of_methodNamed hnamed))
  have hsub : s.vm.isSubclass ps mk.cls = true := by rw [← hpm]; exact isSub_up hdk2 hsuper2
  have hlen : As.length = methM.sig.parameters.length := by
    have h2 := hd.2.2.2
    rw [hsigM] at h2
    simp only [Option.map_some, Option.some.injEq] at h2
    rw [hn, h2]
  obtain ⟨vm₁, X₁, hstep₁⟩ := X.invokespecialUp hx ho hl1 hl2 hn2 hmethM hstM habM hd.1 hdk hnid hps hsuper hsub (a := b) (cell := cellB) (by rw [hT]; exact hcB)
    (fun z h => by rw [h] at hoB; cases hoB) hkB (g := g) hg (argsL := As) (rest := rest) hlen hstack (by rw [hb]; exact hdg)
  obtain ⟨v, ⟨U', l2, c2, s2⟩, X', ⟨g', mk', t, L, e1, e2, hq, h1, hL, h2, h3⟩, hsteps⟩ := hK m meth c ⟨T.setVm vm₁, locs, cells, slots⟩ { g with stack := rest } (.invokespecial index) mk (Value.ref b :: As).toArray X₁ hg (hsize.trans hml.symm) (by rw [hb]; exact hdg) hW (X₁.named hnamed) ⟨hf.1, hf.2, hPc (T.setVm vm₁) hT X₁.warmed⟩
  dsimp only [Pt.U, Pt.locs, Pt.cells, Pt.slots] at X' e1 e2 h1 h2 h3 hsteps
  subst h1; subst h2; subst h3
  exact ⟨v, (T.setVm vm₁).calling g' mk' (Value.ref b :: As).toArray, t, U', L, hT, X', hL, e1, e2, hq, fun target h => hstep₁ _ (by rw [doInvoke_state]; exact hsteps.trans h)⟩
end VSX
section CSX
variable {p : Program} {l : Launch} {e : Env} {R : Room} {s : State} {m : MethodId} {args : Array Value} {below : List Frame} {meth : Method} {c : Code} {H H0 : Heap} {locs : List Loc} {cells slots : Nat} {Q : State → Prop}
variable {cc : ByteArray} {pc : Nat} {ls : Array Slot} {rest : List Value} {D : va_G} {dA : Nat → ClassId} {A B : Nat → Prop} {b : Nat} {P : Heap → Prop} {Qv : Option Value → Heap → Prop} {Qo : Outcome → Heap → Prop}
variable {y x : MethodName} {cy : ByteArray} {maxL nL fr lo idx mc ms n : Nat} {ret : Option FieldType} {As st : List Value} {own C : String}
/-- super.x(), that comes to y -/
theorem cg_callSX {cC : ClassId} (hx : p.tables.exec = Jvm.exec) (hb : c.code = cc) (hml : c.maxLocals = nL) (hown : s.vm.findClass own = some m.cls) (hts : ∀ w ∈ lw_all, w.before args s = true) (hK : cmK D dA s) (hS : va_S A H0 H locs) (hat : ClassAt s C cC)
    (hC : Cg D dA B y cy maxL ret fr lo mc ms (.ref b :: As) P Qv) (hP : P H) (hBA : ∀ q, B q → A q) (hrc : ∃ cell : Cell, H[b]? = some cell ∧ cell.vm.isStatics = false ∧ s.vm.findClass C = some cell.cls)
    (h1 : Cond.methodLink own idx x ∈ lw_all) (h2 : Cond.sameMethod x.cls y.cls x.name x.desc ∈ lw_all) (h3 : Cond.superclass own x.cls ∈ lw_all) (h7 : Cond.superclass x.cls y.cls ∈ lw_all) (h4 : Cond.instanceMethod y ∈ lw_all) (h6 : Cond.initialized y.cls ∈ lw_all) (h5 : Cond.code y cy maxL ret ∈ lw_all)
    (hd : x.name ≠ "<init>" ∧ x.name = y.name ∧ x.desc = y.desc ∧ (parseMethodDescriptor y.desc).map (fun d => d.parameters.length) = some n) (hn : As.length = n) (hRf : fr + 1 ≤ R.frames) (hRl : 8 + (maxL + 11) + lo ≤ R.locals) (hRc : cells + mc ≤ R.cells) (hRs : slots + ms ≤ R.slots) (hsize : ls.size = nL) (hst : st = As.reverse ++ .ref b :: rest) (hW : (rest.map fun v => v.category).sum ≤ 8) (hdg : decode cc pc = .ok (.invokespecial idx, 3))
    (kk : CgK p l e R s m args below meth c H0 H cells slots Q A B mc ms Qv (fun z => F0 m (pc + 3) ls z) rest) : W p l e R s m args below meth c H locs cells slots Q (F0 m pc ls st) :=
  cg_go (va_runSX (x := x) (below := below) (meth := meth) (locs := locs) (cells := cells) (slots := slots) (e := e) (As := As) (rest := rest) (g := F0 m pc ls st) (b := b) (Ts := lw_all) (own := own) (C := C) (n := n) hat ⟨hx, hb, hml, hown, hts⟩ (hC l) (lw_meth h5) rfl ⟨rfl, rfl⟩ ⟨hRf, hRl⟩ (hts _ h1) (hts _ h2) (hts _ h3) (hts _ h7) (hts _ h4) (hts _ h6) hd
    ⟨cm_blind, hrc, fun U hU hW => ⟨rfl, by rw [hU]; exact hP, hK.warm hW⟩⟩ rfl hn hsize hst (lv_room hW) hdg ⟨hRc, hRs⟩) hS hBA kk
end CSX
abbrev voWs (dA : Nat → ClassId) (tr rn t : Nat) (T : Nat → Int32) : va_W := [(tr, .inr (4, [.ref rn, .int (nI t)])), (rn, .inl (dA 0, 40, .inl T))]
def voA (tr rn : Nat) : Nat → Prop := fun q => q = tr ∨ q = rn
theorem voD {tr rn : Nat} (h : tr ≠ rn) (dA : Nat → ClassId) (t : Nat) (T : Nat → Int32) : va_D (voA tr rn) (voWs dA tr rn t T) := by
  refine ⟨fun i j p q hi hj e => ?_, fun k q hk => ?_⟩
  · have i1 : i < 2 := (List.getElem?_eq_some_iff.mp hi).1
    have j1 : j < 2 := (List.getElem?_eq_some_iff.mp hj).1
    match i, j, i1, j1, hi, hj with
    | 0, 0, _, _, _, _ => rfl
    | 1, 1, _, _, _, _ => rfl
    | 0, 1, _, _, hi, hj => cases hi; cases hj; exact absurd e h
    | 1, 0, _, _, hi, hj => cases hi; cases hj; exact absurd e.symm h
  · have k1 : k < 2 := (List.getElem?_eq_some_iff.mp hk).1
    match k, k1, hk with
    | 0, _, hk => cases hk; exact Or.inl rfl
    | 1, _, hk => cases hk; exact Or.inr rfl
abbrev voH (D : va_G) (dA : Nat → ClassId) (tr rn : Nat) (H0 H : Heap) (locs : List Loc) (t : Nat) (T : Nat → Int32) : Prop := gH D (voA tr rn) (voWs dA tr rn t T) H0 H locs
set_option maxHeartbeats 400000 in
theorem vo_begins {D : va_G} {dA : Nat → ClassId} (tr rn t b : Nat) (T : Nat → Int32) (hne : tr ≠ rn) (ht : t < 40) : Cg D dA (voA tr rn) yX4_begins cX4_begins 2 none 0 0 0 0 [.ref tr, .int (nI b)] (fun H => va_P D cmCl (voWs dA tr rn t T) H) (fun v' H => v' = none ∧ va_P D cmCl (voWs dA tr rn (t + 1) (upd T t (nI b))) H) := by
  refine Cg.ofV (by decide) (own := RX4) rfl (Nat.le_of_ble_eq_true rfl) ?_
  intro p l e R s m args below meth c Q ls hx hb hml hRf hRl hRc hRs hin hts hown hK hP hl hret
  have hl : lv_has ls 2 [(0, .ref tr), (1, .int (nI b))] := hl
  have hM : voH D dA tr rn s.heap s.heap [] t T := ⟨hP, voD hne _ _ _, va_S.rf⟩
  refine lv_aload_n hx hb dX4_begins_0 rfl (lv_at hl 0 rfl) ?_
  refine c_get (v := .int (nI t)) hx hb hts in_X4 hown hK (hM.1 0 _ rfl) rfl 1 (by decide) q268 rfl rfl dX4_begins_1 ?_
  refine lv_bipush (v := nI 40) hx hb dX4_begins_4 (by decide) ?_
  refine w_icmp_geN (tgt := 29) hx hb (by omega) (by omega) dX4_begins_6 (by decide) (fun c_1 => ?_) (fun c_1 => ?_)
  · exact absurd c_1 (by omega)
  · refine lv_aload_n hx hb dX4_begins_9 rfl (lv_at hl 0 rfl) ?_
    refine c_get (v := .ref rn) hx hb hts in_X4 hown hK (hM.1 0 _ rfl) rfl 0 (by decide) q266 rfl rfl dX4_begins_10 ?_
    refine lv_aload_n hx hb dX4_begins_13 rfl (lv_at hl 0 rfl) ?_
    refine c_get (v := .int (nI t)) hx hb hts in_X4 hown hK (hM.1 0 _ rfl) rfl 1 (by decide) q268 rfl rfl dX4_begins_14 ?_
    refine lv_iload_n hx hb dX4_begins_17 rfl (lv_at hl 1 rfl) ?_
    refine g_iast hx hb hK hM 1 rfl t ⟨ht, by decide, rfl⟩ dX4_begins_18 (fun H locs hM => ?_)
    refine lv_aload_n hx hb dX4_begins_19 rfl (lv_at hl 0 rfl) ?_
    refine lv_dup hx hb dX4_begins_20 rfl ?_
    refine c_get (v := .int (nI t)) hx hb hts in_X4 hown hK (hM.1 0 _ rfl) rfl 1 (by decide) q268 rfl rfl dX4_begins_21 ?_
    refine lv_iconst (v := nI 1) hx hb dX4_begins_24 (by decide) ?_
    refine w_iaddN hx hb dX4_begins_25 ?_
    refine g_put hx hb hts in_X4 tyX4 tyX4_ok nmX4 hown hK hM 0 rfl rfl 1 (by decide) q268 rfl rfl rfl rfl (Nat.le_of_ble_eq_true rfl) dX4_begins_26 (fun H locs hM => ?_)
    exact hret ⟨rfl, hM.1⟩ hM.2.2 dX4_begins_29
/-- the trace is gone on with, nothing else -/
theorem cm_updT {D : va_G} {h : Nat → Nat} {dA : Nat → ClassId} {H H1 : Heap} {f : Nat → Int32} {a : Nat → Nat → Int32} {fc : Int32} {wk : Nat → Nat → Int32} {hd : Nat → Option Nat} {ri rt : Nat → Int32} {cw tx : Nat → Nat → Option Nat} {nm : Nat → Nat → Int32} {t : Nat} {T : Nat → Int32} (hI : cmI h) (hP : va_P D cmCl (cmWs h dA f a fc wk hd ri rt cw tx nm) H) (hk : ∀ q, q < H.size → ¬ voA (h 2) (h 3) q → H1[q]? = H[q]?) (h1 : va_P D cmCl (voWs dA (h 2) (h 3) t T) H1) : va_P D cmCl (cmWs h dA (upd f 24 (nI t)) (va_up a 14 T) fc wk hd ri rt cw tx nm) H1 := by
  obtain ⟨p1, p2, p3, p4⟩ := cm_parts hP
  have hne : ∀ j, j < 50 → j ≠ 2 → j ≠ 3 → ¬ voA (h 2) (h 3) (h j) := fun j j1 j2 j3 q => q.elim (fun e => j2 (hI j j1 2 (by omega) e)) (fun e => j3 (hI j j1 3 (by omega) e))
  refine cm_join (fun k q hj => ?_) (cm_off p2 hk ?_) (cm_off p3 hk ?_) (cm_off p4 hk ?_)
  · have h2 : k < 14 := (List.getElem?_eq_some_iff.mp hj).1
    match k, h2, hj with
    | 0, _, hj => cases hj; exact cAt.kept (a := h 0) (p1 0 _ rfl) (hk _ (cAt.lt (a := h 0) (p1 0 _ rfl)) (hne 0 (by decide) (by decide) (by decide)))
    | 1, _, hj => cases hj; exact cAt.kept (a := h 1) (p1 1 _ rfl) (hk _ (cAt.lt (a := h 1) (p1 1 _ rfl)) (hne 1 (by decide) (by decide) (by decide)))
    | 2, _, hj => cases hj; exact h1 0 _ rfl
    | 3, _, hj => cases hj; exact h1 1 _ rfl
    | 4, _, hj => cases hj; exact cAt.kept (a := h 4) (p1 4 _ rfl) (hk _ (cAt.lt (a := h 4) (p1 4 _ rfl)) (hne 4 (by decide) (by decide) (by decide)))
    | 5, _, hj => cases hj; exact cAt.kept (a := h 5) (p1 5 _ rfl) (hk _ (cAt.lt (a := h 5) (p1 5 _ rfl)) (hne 5 (by decide) (by decide) (by decide)))
    | 6, _, hj => cases hj; exact cAt.kept (a := h 6) (p1 6 _ rfl) (hk _ (cAt.lt (a := h 6) (p1 6 _ rfl)) (hne 6 (by decide) (by decide) (by decide)))
    | 7, _, hj => cases hj; exact cAt.kept (a := h 7) (p1 7 _ rfl) (hk _ (cAt.lt (a := h 7) (p1 7 _ rfl)) (hne 7 (by decide) (by decide) (by decide)))
    | 8, _, hj => cases hj; exact cAt.kept (a := h 8) (p1 8 _ rfl) (hk _ (cAt.lt (a := h 8) (p1 8 _ rfl)) (hne 8 (by decide) (by decide) (by decide)))
    | 9, _, hj => cases hj; exact cAt.kept (a := h 9) (p1 9 _ rfl) (hk _ (cAt.lt (a := h 9) (p1 9 _ rfl)) (hne 9 (by decide) (by decide) (by decide)))
    | 10, _, hj => cases hj; exact cAt.kept (a := h 10) (p1 10 _ rfl) (hk _ (cAt.lt (a := h 10) (p1 10 _ rfl)) (hne 10 (by decide) (by decide) (by decide)))
    | 11, _, hj => cases hj; exact cAt.kept (a := h 11) (p1 11 _ rfl) (hk _ (cAt.lt (a := h 11) (p1 11 _ rfl)) (hne 11 (by decide) (by decide) (by decide)))
    | 12, _, hj => cases hj; exact cAt.kept (a := h 12) (p1 12 _ rfl) (hk _ (cAt.lt (a := h 12) (p1 12 _ rfl)) (hne 12 (by decide) (by decide) (by decide)))
    | 13, _, hj => cases hj; exact cAt.kept (a := h 13) (p1 13 _ rfl) (hk _ (cAt.lt (a := h 13) (p1 13 _ rfl)) (hne 13 (by decide) (by decide) (by decide)))
    | k + 14, h2, _ => omega
  · intro j q hj
    obtain ⟨j1, j2⟩ := mwRw_at j q hj
    rw [j2]; exact hne (14 + j) (by omega) (by omega) (by omega)
  · intro j q hj
    obtain ⟨j1, j2⟩ := mwRw_at j q hj
    rw [j2]; exact hne (26 + j) (by omega) (by omega) (by omega)
  · intro j q hj
    obtain ⟨j1, j2⟩ := mwRw_at j q hj
    rw [j2]; exact hne (38 + j) (by omega) (by omega) (by omega)
