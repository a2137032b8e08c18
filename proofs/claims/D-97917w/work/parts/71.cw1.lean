/-! finding: of, need, finds; what is written in the acts' world -/
set_option maxRecDepth 100000
theorem g_one {D : va_G} {a : Nat} {e : va_E} {H : Heap} (h : cAt D a e H) : gH D (fun q => q = a) [(a, e)] H H [] := ⟨h.P, ⟨fun i j p q hi hj _ => by
    have hi2 : i < 1 := (List.getElem?_eq_some_iff.mp hi).1
    have hj2 : j < 1 := (List.getElem?_eq_some_iff.mp hj).1
    omega, fun j q hj => by
    have hj2 : j < 1 := (List.getElem?_eq_some_iff.mp hj).1
    obtain rfl : j = 0 := by omega
    cases hj; rfl⟩, va_S.rf⟩
theorem fi_of (D : va_G) (dA : Nat → ClassId) (fa : Nat) (fc c0 : Int32) : Cg D dA (fun q => q = fa) yX1_of cX1_of 2 (some (.object "MeadowMilk$Finding")) 0 0 0 0 [.ref fa, .int c0] (fun H => cAt D fa (.inr (1, cmFi fc)) H) (fun v' H => v' = some (.ref fa) ∧ cAt D fa (.inr (1, cmFi c0)) H) := by
  refine Cg.ofA (Or.inl ⟨_, rfl⟩) (by decide) (own := RX1) rfl (Nat.le_of_ble_eq_true rfl) ?_
  intro p l e R s m args below meth c Q ls hx hb hml hRf hRl hRc hRs hin hts hown hK hP hl hret
  have hl : lv_has ls 2 [(0, .ref fa), (1, .int c0)] := hl
  have hM := g_one hP
  refine lv_aload_n hx hb dX1_of_0 rfl (lv_at hl 0 rfl) ?_
  refine lv_iload_n hx hb dX1_of_1 rfl (lv_at hl 1 rfl) ?_
  refine g_put hx hb hts in_X1 tyX1 tyX1_ok nmX1 hown hK hM 0 rfl rfl 6 (by decide) q157 rfl rfl rfl rfl (Nat.le_of_ble_eq_true rfl) dX1_of_2 (fun H locs hM => ?_)
  refine lv_aload_n hx hb dX1_of_5 rfl (lv_at hl 0 rfl) ?_
  exact hret ⟨rfl, hM.1 0 _ rfl⟩ hM.2.2 dX1_of_6
theorem ndX1_of : yX1_of.cls = RX1 ∧ yX1_of.cls ≠ "java/lang/invoke/MethodHandle" ∧ yX1_of.cls ≠ "java/lang/invoke/VarHandle" ∧ (parseMethodDescriptor yX1_of.desc).map (fun d => d.parameters.length) = some 1 := by decide +kernel
theorem ndX0_need : yX0_need.cls = RX0 ∧ yX0_need.cls ≠ "java/lang/invoke/MethodHandle" ∧ yX0_need.cls ≠ "java/lang/invoke/VarHandle" ∧ (parseMethodDescriptor yX0_need.desc).map (fun d => d.parameters.length) = some 2 := by decide +kernel
theorem ndX0_finds : yX0_finds.cls = RX0 ∧ yX0_finds.cls ≠ "java/lang/invoke/MethodHandle" ∧ yX0_finds.cls ≠ "java/lang/invoke/VarHandle" ∧ (parseMethodDescriptor yX0_finds.desc).map (fun d => d.parameters.length) = some 1 := by decide +kernel
set_option maxHeartbeats 400000 in
theorem nd_need (D : va_G) (dA : Nat → ClassId) (o fa : Nat) (fo : List Value) (hfo : fo[0]? = some (.ref fa)) (fc c0 : Int32) (b : Prop) [Decidable b] (H0 : Heap) : Co D dA (fun q => q = fa) yX0_need cX0_need 3 none 1 30 0 0 [.ref o, .int (iI b), .int c0] (fun H => H = H0 ∧ cAt D o (.inr (0, fo)) H ∧ cAt D fa (.inr (1, cmFi fc)) H) (fun oc H => (b ∧ oc = .returned none ∧ H = H0) ∨ (¬ b ∧ oc = .threw fa ∧ cAt D fa (.inr (1, cmFi c0)) H)) := by
  refine Co.ofV (by decide) (own := RX0) rfl (Nat.le_of_ble_eq_true rfl) ?_
  intro p l e R s m args below meth c Q ls hx hb hml hRf hRl hRc hRs hin hts hown hK hP hl hret hthr
  obtain ⟨h0, h1, h2⟩ := hP
  have hl : lv_has ls 3 [(0, .ref o), (1, .int (iI b)), (2, .int c0)] := hl
  have hS : va_S (fun q => q = fa) s.heap s.heap [] := va_S.rf
  refine lv_iload_n hx hb dX0_need_0 rfl (lv_at hl 1 rfl) ?_
  refine w_if_neT (tgt := 13) hx hb dX0_need_1 (by decide) (fun hb1 => ?_) (fun hb1 => ?_)
  · exact hret (Or.inl ⟨hb1, rfl, h0⟩) hS dX0_need_13
  · refine lv_aload_n hx hb dX0_need_4 rfl (lv_at hl 0 rfl) ?_
    refine c_get (v := .ref fa) hx hb hts in_X0 hown hK h1 rfl 0 (by decide) q286 rfl hfo dX0_need_5 ?_
    refine lv_iload_n hx hb dX0_need_8 rfl (lv_at hl 2 rfl) ?_
    refine cg_callV (y := yX1_of) (b := fa) (C := RX1) (As := [.int c0]) hx hb hml hown hts hK hS (fi_of D dA fa fc c0) h2 (fun q hq => hq) (h2.recv hK rfl) q337 q338 q339 q65 q340 ndX1_of rfl (by omega) (by omega) (Nat.zero_le _) (Nat.zero_le _) hl.1 rfl (Nat.le_of_ble_eq_true rfl) dX0_need_9 ?_
    intro v' H1 locs1 hq hz hk1 hS1
    obtain ⟨rfl, hq⟩ := hq
    exact W.athrow hx hb dX0_need_12 (hthr (Or.inr ⟨hb1, rfl, hq⟩) hS1)

section CWA
variable {p : Program} {l : Launch} {e : Env} {R : Room} {s : State} {m : MethodId} {args : Array Value} {below : List Frame} {meth : Method} {c : Code} {H H0 : Heap} {locs : List Loc} {cells slots : Nat} {Q : State → Prop}
variable {cc : ByteArray} {pc : Nat} {ls : Array Slot} {rest : List Value} {D : va_G} {dA : Nat → ClassId} {h : Nat → Nat} {f : Nat → Int32} {a : Nat → Nat → Int32} {fc : Int32} {wk : Nat → Nat → Int32} {hd : Nat → Option Nat} {ri rt : Nat → Int32} {cw tx : Nat → Nat → Option Nat} {nm : Nat → Nat → Int32}

/-- need(b, c0): goes on, or its finding is under way -/
theorem cm_needT {b : Prop} [Decidable b] {nL idx : Nat} {c0 : Int32} (hx : p.tables.exec = Jvm.exec) (hb : c.code = cc) (hml : c.maxLocals = nL) (hown : s.vm.findClass RX0 = some m.cls) (hts : ∀ w ∈ lw_all, w.before args s = true) (hK : cmK D dA s) (hI : cmI h) (hM : cmH D h dA H0 H locs f a fc wk hd ri rt cw tx nm) (h1 : Cond.methodLink RX0 idx yX0_need ∈ lw_all) (hRf : 2 ≤ R.frames) (hRl : 60 ≤ R.locals) (hRc : cells ≤ R.cells) (hRs : slots ≤ R.slots) (hsize : ls.size = nL) (hW : (rest.map fun v => v.category).sum ≤ 8) (hdg : decode cc pc = .ok (.invokevirtual idx, 3))
    (kt : b → ∀ (locs1 : List Loc), cmH D h dA H0 H locs1 f a fc wk hd ri rt cw tx nm → W p l e R s m args below meth c H locs1 cells slots Q (F0 m (pc + 3) ls rest))
    (kf : ¬ b → ∀ (H1 : Heap) (locs1 : List Loc), cmH D h dA H0 H1 locs1 f a c0 wk hd ri rt cw tx nm → WT p l e R s m args below meth c H1 locs1 cells slots Q (F0 m pc ls rest) (h 1)) : W p l e R s m args below meth c H locs cells slots Q (F0 m pc ls (.int c0 :: .int (iI b) :: .ref (h 0) :: rest)) := by
  have hr := runVT (below := below) (meth := meth) (locs := locs) (cells := cells) (slots := slots) (e := e) (As := [.int (iI b), .int c0]) (rest := rest) (g := F0 m pc ls (.int c0 :: .int (iI b) :: .ref (h 0) :: rest)) (b := h 0) (Ts := lw_all) (own := RX0) (C := RX0) (n := 2) ⟨hx, hb, hml, hown, hts⟩ (nd_need D dA (h 0) (h 1) (cmOf h f) rfl fc c0 b H l) (cwV 2 hts (lw_V h1 q335 qs1 q61 q336) rfl rfl rfl ndX0_need ⟨by show 1 + 1 ≤ _; omega, by show 8 + (3 + 11) + 30 ≤ _; omega⟩)
    ⟨(fun a U g mk q => ⟨q.1, q.2.1, q.2.2.warm (State.WarmedH.refl U)⟩), cAt.recv hK (hM.1 0 _ rfl) rfl, fun U hU hW => ⟨rfl, by rw [hU]; exact ⟨rfl, hM.1 0 _ rfl, hM.1 1 _ rfl⟩, hK.warm hW⟩⟩ rfl rfl hsize rfl (lv_room hW) hdg ⟨hRc, hRs⟩
  intro T hT X
  obtain ⟨oc, st₀, t, T', L, h0, X', hL, e1, ⟨hq, hF⟩, k1, k2⟩ := hr T hT X
  obtain ⟨z1, z2, z3⟩ := hM.2.2.call (B := fun q => q = h 1) (fun q hq => ⟨1, by omega, hq⟩) h0 e1 hF hL
  rcases hq with ⟨hb1, rfl, hH⟩ | ⟨hb1, rfl, hc⟩
  · have hTH : T'.heap = H := e1.trans hH
    rw [hTH] at z3
    obtain ⟨t2, a1, b1⟩ := kt hb1 (locs ++ L) ⟨hM.1, hM.2.1, z3⟩ T' hTH X'
    exact ⟨t2, k1 none rfl t2 a1, b1⟩
  · have hc1 : cAt D (h 1) (.inr (1, cmFi c0)) T'.heap := by rw [e1]; exact hc
    have hP := cm_P_set (k := 1) hM.1 hM.2.1 rfl hc1 (fun q g1 g2 => z2 q g1 g2)
    obtain ⟨t2, a1, b1⟩ := kf hb1 T'.heap (locs ++ L) (cmH.of hI hP z3) T' rfl X'
    exact ⟨t2, k2 _ rfl t2 a1, b1⟩
/-- need(b, c0), where it's caught -/
theorem cm_need {b : Prop} [Decidable b] {nL idx hpc : Nat} {c0 : Int32} {hh : List (Nat × Nat × Nat × Nat)} (hx : p.tables.exec = Jvm.exec) (hb : c.code = cc) (hml : c.maxLocals = nL) (hown : s.vm.findClass RX0 = some m.cls) (hts : ∀ w ∈ lw_all, w.before args s = true) (hK : cmK D dA s) (hI : cmI h) (hM : cmH D h dA H0 H locs f a fc wk hd ri rt cw tx nm) (htab : c.exceptionTable.toList = tableOf hh) (hex : exF hh pc = some (hpc, 8)) (h1 : Cond.methodLink RX0 idx yX0_need ∈ lw_all) (hRf : 2 ≤ R.frames) (hRl : 60 ≤ R.locals) (hRc : cells ≤ R.cells) (hRs : slots ≤ R.slots) (hsize : ls.size = nL) (hW : (rest.map fun v => v.category).sum ≤ 8) (hdg : decode cc pc = .ok (.invokevirtual idx, 3))
    (kt : b → ∀ (locs1 : List Loc), cmH D h dA H0 H locs1 f a fc wk hd ri rt cw tx nm → W p l e R s m args below meth c H locs1 cells slots Q (F0 m (pc + 3) ls rest))
    (kf : ¬ b → ∀ (H1 : Heap) (locs1 : List Loc), cmH D h dA H0 H1 locs1 f a c0 wk hd ri rt cw tx nm → W p l e R s m args below meth c H1 locs1 cells slots Q (F0 m hpc ls [.ref (h 1)])) : W p l e R s m args below meth c H locs cells slots Q (F0 m pc ls (.int c0 :: .int (iI b) :: .ref (h 0) :: rest)) := by
  refine cm_needT hx hb hml hown hts hK hI hM h1 hRf hRl hRc hRs hsize hW hdg kt (fun hb1 H1 locs1 hM1 => ?_)
  obtain ⟨pre, post, en, t1, t2, t3, t4, t5⟩ := exF_spec hh pc hpc 8 hex
  exact WT.catch (C := RX1) (CE := RX1) (index := 8) hown (hts _ q105) (by decide) pre post en (htab.trans t1) t2 t3 t4 t5 (cAt.recv hK (hM1.1 1 _ rfl) rfl) (hK.C 7 rfl) (kf hb1 H1 locs1 hM1)

theorem cm_ast_err (hx : p.tables.exec = Jvm.exec) (hb : c.code = cc) (hK : cmK D dA s) (hI : cmI h) (hM : cmH D h dA H0 H locs f a fc wk hd ri rt cw tx nm) {i x : Int32} (c0 : Nat) (hi : c0 < 6 ∧ i = nI c0) (hdg : decode cc pc = .ok (.iastore, 1))
    (kk : ∀ (H1 : Heap) (locs1 : List Loc), cmH D h dA H0 H1 locs1 f (va_up a 5 (upd (a 5) c0 x)) fc wk hd ri rt cw tx nm → W p l e R s m args below meth c H1 locs1 cells slots Q (F0 m (pc + 1) ls rest)) : W p l e R s m args below meth c H locs cells slots Q (F0 m pc ls (.int x :: .int i :: .ref (h 4) :: rest)) :=
  g_iast hx hb hK hM 4 rfl c0 ⟨hi.1, by decide, hi.2⟩ hdg (fun H1 locs1 hM1 => kk H1 locs1 (cmH.of hI hM1.1 hM1.2.2))
theorem cm_ast_wk10 (hx : p.tables.exec = Jvm.exec) (hb : c.code = cc) (hK : cmK D dA s) (hI : cmI h) (hM : cmH D h dA H0 H locs f a fc wk hd ri rt cw tx nm) {i x : Int32} (c0 : Nat) (hi : c0 < 25 ∧ i = nI c0) (hdg : decode cc pc = .ok (.iastore, 1))
    (kk : ∀ (H1 : Heap) (locs1 : List Loc), cmH D h dA H0 H1 locs1 f a fc (va_up wk 10 (upd (wk 10) c0 x)) hd ri rt cw tx nm → W p l e R s m args below meth c H1 locs1 cells slots Q (F0 m (pc + 1) ls rest)) : W p l e R s m args below meth c H locs cells slots Q (F0 m pc ls (.int x :: .int i :: .ref (h 10) :: rest)) :=
  g_iast hx hb hK hM 10 rfl c0 ⟨hi.1, by decide, hi.2⟩ hdg (fun H1 locs1 hM1 => kk H1 locs1 (cmH.of hI hM1.1 hM1.2.2))
theorem cm_ast_wk11 (hx : p.tables.exec = Jvm.exec) (hb : c.code = cc) (hK : cmK D dA s) (hI : cmI h) (hM : cmH D h dA H0 H locs f a fc wk hd ri rt cw tx nm) {i x : Int32} (c0 : Nat) (hi : c0 < 25 ∧ i = nI c0) (hdg : decode cc pc = .ok (.iastore, 1))
    (kk : ∀ (H1 : Heap) (locs1 : List Loc), cmH D h dA H0 H1 locs1 f a fc (va_up wk 11 (upd (wk 11) c0 x)) hd ri rt cw tx nm → W p l e R s m args below meth c H1 locs1 cells slots Q (F0 m (pc + 1) ls rest)) : W p l e R s m args below meth c H locs cells slots Q (F0 m pc ls (.int x :: .int i :: .ref (h 11) :: rest)) :=
  g_iast hx hb hK hM 11 rfl c0 ⟨hi.1, by decide, hi.2⟩ hdg (fun H1 locs1 hM1 => kk H1 locs1 (cmH.of hI hM1.1 hM1.2.2))
theorem cm_ast_wk12 (hx : p.tables.exec = Jvm.exec) (hb : c.code = cc) (hK : cmK D dA s) (hI : cmI h) (hM : cmH D h dA H0 H locs f a fc wk hd ri rt cw tx nm) {i x : Int32} (c0 : Nat) (hi : c0 < 25 ∧ i = nI c0) (hdg : decode cc pc = .ok (.iastore, 1))
    (kk : ∀ (H1 : Heap) (locs1 : List Loc), cmH D h dA H0 H1 locs1 f a fc (va_up wk 12 (upd (wk 12) c0 x)) hd ri rt cw tx nm → W p l e R s m args below meth c H1 locs1 cells slots Q (F0 m (pc + 1) ls rest)) : W p l e R s m args below meth c H locs cells slots Q (F0 m pc ls (.int x :: .int i :: .ref (h 12) :: rest)) :=
  g_iast hx hb hK hM 12 rfl c0 ⟨hi.1, by decide, hi.2⟩ hdg (fun H1 locs1 hM1 => kk H1 locs1 (cmH.of hI hM1.1 hM1.2.2))
theorem cm_ast_wk13 (hx : p.tables.exec = Jvm.exec) (hb : c.code = cc) (hK : cmK D dA s) (hI : cmI h) (hM : cmH D h dA H0 H locs f a fc wk hd ri rt cw tx nm) {i x : Int32} (c0 : Nat) (hi : c0 < 25 ∧ i = nI c0) (hdg : decode cc pc = .ok (.iastore, 1))
    (kk : ∀ (H1 : Heap) (locs1 : List Loc), cmH D h dA H0 H1 locs1 f a fc (va_up wk 13 (upd (wk 13) c0 x)) hd ri rt cw tx nm → W p l e R s m args below meth c H1 locs1 cells slots Q (F0 m (pc + 1) ls rest)) : W p l e R s m args below meth c H locs cells slots Q (F0 m pc ls (.int x :: .int i :: .ref (h 13) :: rest)) :=
  g_iast hx hb hK hM 13 rfl c0 ⟨hi.1, by decide, hi.2⟩ hdg (fun H1 locs1 hM1 => kk H1 locs1 (cmH.of hI hM1.1 hM1.2.2))
theorem cm_put_images {index : Nat} (hx : p.tables.exec = Jvm.exec) (hb : c.code = cc) (hts : ∀ w ∈ lw_all, w.before args s = true) (hown : s.vm.findClass RX0 = some m.cls) (hK : cmK D dA s) (hI : cmI h) (hM : cmH D h dA H0 H locs f a fc wk hd ri rt cw tx nm) {x : Int32} (hq : Cond.fieldLink RX0 index RX0 (TX0 4).2.1 (TX0 4).2.2.1 ∈ lw_all) (hdg : decode cc pc = .ok (.putfield index, 3))
    (kk : ∀ (H1 : Heap) (locs1 : List Loc), cmH D h dA H0 H1 locs1 (upd f 5 x) a fc wk hd ri rt cw tx nm → W p l e R s m args below meth c H1 locs1 cells slots Q (F0 m (pc + 3) ls rest)) : W p l e R s m args below meth c H locs cells slots Q (F0 m pc ls (.int x :: .ref (h 0) :: rest)) :=
  g_put hx hb hts in_X0 tyX0 tyX0_ok nmX0 hown hK hM 0 rfl rfl 4 (by decide) hq rfl rfl rfl rfl (Nat.le_of_ble_eq_true rfl) hdg (fun H1 locs1 hM1 => kk H1 locs1 (cmH.of hI hM1.1 hM1.2.2))
theorem cm_put_tmany {own host : String} {index : Nat} (hx : p.tables.exec = Jvm.exec) (hb : c.code = cc) (hts : ∀ w ∈ lw_all, w.before args s = true) (hown : s.vm.findClass own = some m.cls) (hK : cmK D dA s) (hI : cmI h) (hM : cmH D h dA H0 H locs f a fc wk hd ri rt cw tx nm) {x : Int32} (hq : va_Nw (.fieldLinkNest own index RX4 (TX4 1).2.1 (TX4 1).2.2.1 host) s) (hdg : decode cc pc = .ok (.putfield index, 3))
    (kk : ∀ (H1 : Heap) (locs1 : List Loc), cmH D h dA H0 H1 locs1 (upd f 24 x) a fc wk hd ri rt cw tx nm → W p l e R s m args below meth c H1 locs1 cells slots Q (F0 m (pc + 3) ls rest)) : W p l e R s m args below meth c H locs cells slots Q (F0 m pc ls (.int x :: .ref (h 2) :: rest)) :=
  g_putN hx hb hts in_X4 tyX4 tyX4_ok nmX4 hown hK hM 2 rfl rfl 1 (by decide) hq rfl rfl rfl rfl (Nat.le_of_ble_eq_true rfl) hdg (fun H1 locs1 hM1 => kk H1 locs1 (cmH.of hI hM1.1 hM1.2.2))
theorem cm_raw0 {g r' : Nat → Int32} {a0 : Nat → Nat → Int32} (hI : cmI h) (hM : gH D (cmA h) (cmBs h dA f a fc wk hd ++ (mwRw (hm0 h) dA g a0 (cw 0) (tx 0) (nm 0) ++ (mwWs (hm1 h) dA ri (cw 1) (tx 1) (nm 1) ++ mwWs (hm2 h) dA rt (cw 2) (tx 2) (nm 2)))) H0 H locs) (hg : ∀ k, k < 6 → g k = r' k) (ha : ∀ j k, mwJ j → k < mwLn j → a0 j k = mwAr r' j k) : cmH D h dA H0 H locs f (va_up a 1 r') fc wk hd ri rt cw tx nm := by
  obtain ⟨h1, h2⟩ := cm_P_app.mp hM.1
  obtain ⟨h3, h4⟩ := cm_P_app.mp h2
  exact cmH.of hI (cm_P_app.mpr ⟨h1, cm_P_app.mpr ⟨mw_cong h3 hg ha, h4⟩⟩) hM.2.2
theorem cm_ast_mark (hx : p.tables.exec = Jvm.exec) (hb : c.code = cc) (hK : cmK D dA s) (hI : cmI h) (hM : cmH D h dA H0 H locs f a fc wk hd ri rt cw tx nm) {i x : Int32} (c0 : Nat) (hi : c0 < 25 ∧ i = nI c0) (hdg : decode cc pc = .ok (.iastore, 1))
    (kk : ∀ (H1 : Heap) (locs1 : List Loc), cmH D h dA H0 H1 locs1 f (va_up a 1 (upd (a 1) (8 + c0) x)) fc wk hd ri rt cw tx nm → W p l e R s m args below meth c H1 locs1 cells slots Q (F0 m (pc + 1) ls rest)) : W p l e R s m args below meth c H locs cells slots Q (F0 m pc ls (.int x :: .int i :: .ref (hm0 h 1) :: rest)) :=
  g_iast hx hb hK hM 15 rfl c0 ⟨hi.1, by decide, hi.2⟩ hdg (fun H1 locs1 hM1 => kk H1 locs1 (cm_raw0 hI (g := a 1) (a0 := va_up (mwAr (a 1)) 1 (upd (mwAr (a 1) 1) c0 x)) hM1 (mw_up_mark (a 1) c0 hi.1 x).1 (mw_up_mark (a 1) c0 hi.1 x).2))
theorem cm_ast_grass (hx : p.tables.exec = Jvm.exec) (hb : c.code = cc) (hK : cmK D dA s) (hI : cmI h) (hM : cmH D h dA H0 H locs f a fc wk hd ri rt cw tx nm) {i x : Int32} (c0 : Nat) (hi : c0 < 25 ∧ i = nI c0) (hdg : decode cc pc = .ok (.iastore, 1))
    (kk : ∀ (H1 : Heap) (locs1 : List Loc), cmH D h dA H0 H1 locs1 f (va_up a 1 (upd (a 1) (33 + c0) x)) fc wk hd ri rt cw tx nm → W p l e R s m args below meth c H1 locs1 cells slots Q (F0 m (pc + 1) ls rest)) : W p l e R s m args below meth c H locs cells slots Q (F0 m pc ls (.int x :: .int i :: .ref (hm0 h 2) :: rest)) :=
  g_iast hx hb hK hM 16 rfl c0 ⟨hi.1, by decide, hi.2⟩ hdg (fun H1 locs1 hM1 => kk H1 locs1 (cm_raw0 hI (g := a 1) (a0 := va_up (mwAr (a 1)) 2 (upd (mwAr (a 1) 2) c0 x)) hM1 (mw_up_grass (a 1) c0 hi.1 x).1 (mw_up_grass (a 1) c0 hi.1 x).2))
theorem cm_ast_at (hx : p.tables.exec = Jvm.exec) (hb : c.code = cc) (hK : cmK D dA s) (hI : cmI h) (hM : cmH D h dA H0 H locs f a fc wk hd ri rt cw tx nm) {i x : Int32} (c0 : Nat) (hi : c0 < 5 ∧ i = nI c0) (hdg : decode cc pc = .ok (.iastore, 1))
    (kk : ∀ (H1 : Heap) (locs1 : List Loc), cmH D h dA H0 H1 locs1 f (va_up a 1 (upd (a 1) (58 + 14 * c0 + 2) x)) fc wk hd ri rt cw tx nm → W p l e R s m args below meth c H1 locs1 cells slots Q (F0 m (pc + 1) ls rest)) : W p l e R s m args below meth c H locs cells slots Q (F0 m pc ls (.int x :: .int i :: .ref (hm0 h 4) :: rest)) :=
  g_iast hx hb hK hM 18 rfl c0 ⟨hi.1, by decide, hi.2⟩ hdg (fun H1 locs1 hM1 => kk H1 locs1 (cm_raw0 hI (g := a 1) (a0 := va_up (mwAr (a 1)) 4 (upd (mwAr (a 1) 4) c0 x)) hM1 (mw_up_at (a 1) c0 hi.1 x).1 (mw_up_at (a 1) c0 hi.1 x).2))
theorem cm_ast_many (hx : p.tables.exec = Jvm.exec) (hb : c.code = cc) (hK : cmK D dA s) (hI : cmI h) (hM : cmH D h dA H0 H locs f a fc wk hd ri rt cw tx nm) {i x : Int32} (c0 : Nat) (hi : c0 < 5 ∧ i = nI c0) (hdg : decode cc pc = .ok (.iastore, 1))
    (kk : ∀ (H1 : Heap) (locs1 : List Loc), cmH D h dA H0 H1 locs1 f (va_up a 1 (upd (a 1) (58 + 14 * c0 + 3) x)) fc wk hd ri rt cw tx nm → W p l e R s m args below meth c H1 locs1 cells slots Q (F0 m (pc + 1) ls rest)) : W p l e R s m args below meth c H locs cells slots Q (F0 m pc ls (.int x :: .int i :: .ref (hm0 h 6) :: rest)) :=
  g_iast hx hb hK hM 20 rfl c0 ⟨hi.1, by decide, hi.2⟩ hdg (fun H1 locs1 hM1 => kk H1 locs1 (cm_raw0 hI (g := a 1) (a0 := va_up (mwAr (a 1)) 6 (upd (mwAr (a 1) 6) c0 x)) hM1 (mw_up_many (a 1) c0 hi.1 x).1 (mw_up_many (a 1) c0 hi.1 x).2))
theorem cm_ast_waiting (hx : p.tables.exec = Jvm.exec) (hb : c.code = cc) (hK : cmK D dA s) (hI : cmI h) (hM : cmH D h dA H0 H locs f a fc wk hd ri rt cw tx nm) {i x : Int32} (c0 : Nat) (hi : c0 < 20 ∧ i = nI c0) (hdg : decode cc pc = .ok (.iastore, 1))
    (kk : ∀ (H1 : Heap) (locs1 : List Loc), cmH D h dA H0 H1 locs1 f (va_up a 1 (upd (a 1) (178 + c0) x)) fc wk hd ri rt cw tx nm → W p l e R s m args below meth c H1 locs1 cells slots Q (F0 m (pc + 1) ls rest)) : W p l e R s m args below meth c H locs cells slots Q (F0 m pc ls (.int x :: .int i :: .ref (hm0 h 9) :: rest)) :=
  g_iast hx hb hK hM 23 rfl c0 ⟨hi.1, by decide, hi.2⟩ hdg (fun H1 locs1 hM1 => kk H1 locs1 (cm_raw0 hI (g := a 1) (a0 := va_up (mwAr (a 1)) 9 (upd (mwAr (a 1) 9) c0 x)) hM1 (mw_up_waiting (a 1) c0 hi.1 x).1 (mw_up_waiting (a 1) c0 hi.1 x).2))
theorem cm_ast_tape (hx : p.tables.exec = Jvm.exec) (hb : c.code = cc) (hK : cmK D dA s) (hI : cmI h) (hM : cmH D h dA H0 H locs f a fc wk hd ri rt cw tx nm) {i y x : Int32} (c0 : Nat) (hi : c0 < 50 ∧ i = nI c0) (hy : vp_nar .byte y = x.toInt8.toInt32) (hdg : decode cc pc = .ok (.bastore, 1))
    (kk : ∀ (H1 : Heap) (locs1 : List Loc), cmH D h dA H0 H1 locs1 f (va_up a 1 (upd (a 1) (128 + c0) x)) fc wk hd ri rt cw tx nm → W p l e R s m args below meth c H1 locs1 cells slots Q (F0 m (pc + 1) ls rest)) : W p l e R s m args below meth c H locs cells slots Q (F0 m pc ls (.int y :: .int i :: .ref (hm0 h 8) :: rest)) :=
  g_bast hx hb hK hM 22 rfl c0 ⟨hi.1, by decide, hi.2⟩ hdg (fun H1 locs1 hM1 => kk H1 locs1 (cm_raw0 hI (g := a 1) (a0 := va_up (mwAr (a 1)) 8 (upd (mwAr (a 1) 8) c0 x.toInt8.toInt32)) (by rw [hy] at hM1; exact hM1) (mw_up_tape (a 1) c0 hi.1 x).1 (mw_up_tape (a 1) c0 hi.1 x).2))
theorem cm_put_day {own host : String} {index : Nat} (hx : p.tables.exec = Jvm.exec) (hb : c.code = cc) (hts : ∀ w ∈ lw_all, w.before args s = true) (hown : s.vm.findClass own = some m.cls) (hK : cmK D dA s) (hI : cmI h) (hM : cmH D h dA H0 H locs f a fc wk hd ri rt cw tx nm) {x : Int32} (hq : va_Nw (.fieldLinkNest own index RX2 (TX2 8).2.1 (TX2 8).2.2.1 host) s) (hdg : decode cc pc = .ok (.putfield index, 3))
    (kk : ∀ (H1 : Heap) (locs1 : List Loc), cmH D h dA H0 H1 locs1 f (va_up a 1 (upd (a 1) 0 x)) fc wk hd ri rt cw tx nm → W p l e R s m args below meth c H1 locs1 cells slots Q (F0 m (pc + 3) ls rest)) : W p l e R s m args below meth c H locs cells slots Q (F0 m pc ls (.int x :: .ref (hm0 h 0) :: rest)) :=
  g_putN hx hb hts in_X2 tyX2 tyX2_ok nmX2 hown hK hM 14 rfl rfl 8 (by decide) hq rfl rfl rfl rfl (Nat.le_of_ble_eq_true rfl) hdg (fun H1 locs1 hM1 => kk H1 locs1 (cm_raw0 hI (g := upd (a 1) 0 x) (a0 := mwAr (a 1)) hM1 (fun _ _ => rfl) (mw_fl_day (a 1) x)))
theorem cm_put_grows {own host : String} {index : Nat} (hx : p.tables.exec = Jvm.exec) (hb : c.code = cc) (hts : ∀ w ∈ lw_all, w.before args s = true) (hown : s.vm.findClass own = some m.cls) (hK : cmK D dA s) (hI : cmI h) (hM : cmH D h dA H0 H locs f a fc wk hd ri rt cw tx nm) {x : Int32} (hq : va_Nw (.fieldLinkNest own index RX2 (TX2 2).2.1 (TX2 2).2.2.1 host) s) (hdg : decode cc pc = .ok (.putfield index, 3))
    (kk : ∀ (H1 : Heap) (locs1 : List Loc), cmH D h dA H0 H1 locs1 f (va_up a 1 (upd (a 1) 1 x)) fc wk hd ri rt cw tx nm → W p l e R s m args below meth c H1 locs1 cells slots Q (F0 m (pc + 3) ls rest)) : W p l e R s m args below meth c H locs cells slots Q (F0 m pc ls (.int x :: .ref (hm0 h 0) :: rest)) :=
  g_putN hx hb hts in_X2 tyX2 tyX2_ok nmX2 hown hK hM 14 rfl rfl 2 (by decide) hq rfl rfl rfl rfl (Nat.le_of_ble_eq_true rfl) hdg (fun H1 locs1 hM1 => kk H1 locs1 (cm_raw0 hI (g := upd (a 1) 1 x) (a0 := mwAr (a 1)) hM1 (fun _ _ => rfl) (mw_fl_grows (a 1) x)))
theorem cm_put_z {own host : String} {index : Nat} (hx : p.tables.exec = Jvm.exec) (hb : c.code = cc) (hts : ∀ w ∈ lw_all, w.before args s = true) (hown : s.vm.findClass own = some m.cls) (hK : cmK D dA s) (hI : cmI h) (hM : cmH D h dA H0 H locs f a fc wk hd ri rt cw tx nm) {x : Int32} (hq : va_Nw (.fieldLinkNest own index RX2 (TX2 10).2.1 (TX2 10).2.2.1 host) s) (hdg : decode cc pc = .ok (.putfield index, 3))
    (kk : ∀ (H1 : Heap) (locs1 : List Loc), cmH D h dA H0 H1 locs1 f (va_up a 1 (upd (a 1) 2 x)) fc wk hd ri rt cw tx nm → W p l e R s m args below meth c H1 locs1 cells slots Q (F0 m (pc + 3) ls rest)) : W p l e R s m args below meth c H locs cells slots Q (F0 m pc ls (.int x :: .ref (hm0 h 0) :: rest)) :=
  g_putN hx hb hts in_X2 tyX2 tyX2_ok nmX2 hown hK hM 14 rfl rfl 10 (by decide) hq rfl rfl rfl rfl (Nat.le_of_ble_eq_true rfl) hdg (fun H1 locs1 hM1 => kk H1 locs1 (cm_raw0 hI (g := upd (a 1) 2 x) (a0 := mwAr (a 1)) hM1 (fun _ _ => rfl) (mw_fl_z (a 1) x)))
theorem cm_put_cows {own host : String} {index : Nat} (hx : p.tables.exec = Jvm.exec) (hb : c.code = cc) (hts : ∀ w ∈ lw_all, w.before args s = true) (hown : s.vm.findClass own = some m.cls) (hK : cmK D dA s) (hI : cmI h) (hM : cmH D h dA H0 H locs f a fc wk hd ri rt cw tx nm) {x : Int32} (hq : va_Nw (.fieldLinkNest own index RX2 (TX2 3).2.1 (TX2 3).2.2.1 host) s) (hdg : decode cc pc = .ok (.putfield index, 3))
    (kk : ∀ (H1 : Heap) (locs1 : List Loc), cmH D h dA H0 H1 locs1 f (va_up a 1 (upd (a 1) 3 x)) fc wk hd ri rt cw tx nm → W p l e R s m args below meth c H1 locs1 cells slots Q (F0 m (pc + 3) ls rest)) : W p l e R s m args below meth c H locs cells slots Q (F0 m pc ls (.int x :: .ref (hm0 h 0) :: rest)) :=
  g_putN hx hb hts in_X2 tyX2 tyX2_ok nmX2 hown hK hM 14 rfl rfl 3 (by decide) hq rfl rfl rfl rfl (Nat.le_of_ble_eq_true rfl) hdg (fun H1 locs1 hM1 => kk H1 locs1 (cm_raw0 hI (g := upd (a 1) 3 x) (a0 := mwAr (a 1)) hM1 (fun _ _ => rfl) (mw_fl_cows (a 1) x)))
theorem cm_put_taped {own host : String} {index : Nat} (hx : p.tables.exec = Jvm.exec) (hb : c.code = cc) (hts : ∀ w ∈ lw_all, w.before args s = true) (hown : s.vm.findClass own = some m.cls) (hK : cmK D dA s) (hI : cmI h) (hM : cmH D h dA H0 H locs f a fc wk hd ri rt cw tx nm) {x : Int32} (hq : va_Nw (.fieldLinkNest own index RX2 (TX2 12).2.1 (TX2 12).2.2.1 host) s) (hdg : decode cc pc = .ok (.putfield index, 3))
    (kk : ∀ (H1 : Heap) (locs1 : List Loc), cmH D h dA H0 H1 locs1 f (va_up a 1 (upd (a 1) 4 x)) fc wk hd ri rt cw tx nm → W p l e R s m args below meth c H1 locs1 cells slots Q (F0 m (pc + 3) ls rest)) : W p l e R s m args below meth c H locs cells slots Q (F0 m pc ls (.int x :: .ref (hm0 h 0) :: rest)) :=
  g_putN hx hb hts in_X2 tyX2 tyX2_ok nmX2 hown hK hM 14 rfl rfl 12 (by decide) hq rfl rfl rfl rfl (Nat.le_of_ble_eq_true rfl) hdg (fun H1 locs1 hM1 => kk H1 locs1 (cm_raw0 hI (g := upd (a 1) 4 x) (a0 := mwAr (a 1)) hM1 (fun _ _ => rfl) (mw_fl_taped (a 1) x)))
theorem cm_put_waits {own host : String} {index : Nat} (hx : p.tables.exec = Jvm.exec) (hb : c.code = cc) (hts : ∀ w ∈ lw_all, w.before args s = true) (hown : s.vm.findClass own = some m.cls) (hK : cmK D dA s) (hI : cmI h) (hM : cmH D h dA H0 H locs f a fc wk hd ri rt cw tx nm) {x : Int32} (hq : va_Nw (.fieldLinkNest own index RX2 (TX2 14).2.1 (TX2 14).2.2.1 host) s) (hdg : decode cc pc = .ok (.putfield index, 3))
    (kk : ∀ (H1 : Heap) (locs1 : List Loc), cmH D h dA H0 H1 locs1 f (va_up a 1 (upd (a 1) 5 x)) fc wk hd ri rt cw tx nm → W p l e R s m args below meth c H1 locs1 cells slots Q (F0 m (pc + 3) ls rest)) : W p l e R s m args below meth c H locs cells slots Q (F0 m pc ls (.int x :: .ref (hm0 h 0) :: rest)) :=
  g_putN hx hb hts in_X2 tyX2 tyX2_ok nmX2 hown hK hM 14 rfl rfl 14 (by decide) hq rfl rfl rfl rfl (Nat.le_of_ble_eq_true rfl) hdg (fun H1 locs1 hM1 => kk H1 locs1 (cm_raw0 hI (g := upd (a 1) 5 x) (a0 := mwAr (a 1)) hM1 (fun _ _ => rfl) (mw_fl_waits (a 1) x)))
end CWA
set_option maxHeartbeats 400000 in
/-- finds(): one more of the errors -/
theorem cm_finds (D : va_G) (dA : Nat → ClassId) (h : Nat → Nat) (f : Nat → Int32) (a : Nat → Nat → Int32) (k : Nat) (hk : k < 6) (wk : Nat → Nat → Int32) (hd : Nat → Option Nat) (ri rt : Nat → Int32) (cw tx : Nat → Nat → Option Nat) (nm : Nat → Nat → Int32) (hI : cmI h) : Cg D dA (cmA h) yX0_finds cX0_finds 2 (some .int) 0 0 0 0 [.ref (h 0), .ref (h 1)] (fun H => va_P D cmCl (cmWs h dA f a (nI k) wk hd ri rt cw tx nm) H) (fun v' H => v' = some (.int ((-1000000000 : Int32) - nI k)) ∧ va_P D cmCl (cmWs h dA f (mErr a k) (nI k) wk hd ri rt cw tx nm) H) := by
  refine Cg.ofI (by decide) (own := RX0) rfl (Nat.le_of_ble_eq_true rfl) ?_
  intro p l e R s m args below meth c Q ls hx hb hml hRf hRl hRc hRs hin hts hown hK hP hl hret
  have hl : lv_has ls 2 [(0, .ref (h 0)), (1, .ref (h 1))] := hl
  have hM : cmH D h dA s.heap s.heap [] f a (nI k) wk hd ri rt cw tx nm := cmH.of hI hP va_S.rf
  refine lv_aload_n hx hb dX0_finds_0 rfl (lv_at hl 0 rfl) ?_
  refine c_get (v := .ref (h 4)) hx hb hts in_X0 hown hK (hM.1 0 _ rfl) rfl 6 (by decide) q292 rfl rfl dX0_finds_1 ?_
  refine lv_aload_n hx hb dX0_finds_4 rfl (lv_at hl 1 rfl) ?_
  refine c_getN (v := .int (nI k)) hx hb hts in_X1 hown hK (hM.1 1 _ rfl) rfl 6 (by decide) (hK.F 0 rfl) rfl rfl dX0_finds_5 ?_
  refine lv_dup2_11 hx hb dX0_finds_8 rfl rfl ?_
  refine c_iald hx hb hK (hM.1 4 _ rfl) k ⟨hk, by decide, rfl⟩ dX0_finds_9 ?_
  refine lv_iconst (v := nI 1) hx hb dX0_finds_10 (by decide) ?_
  refine lv_iadd hx hb dX0_finds_11 ?_
  refine cm_ast_err hx hb hK hI hM k ⟨hk, rfl⟩ dX0_finds_12 (fun H locs hM => ?_)
  refine lv_ldc hx hb hown (hts _ q345) dX0_finds_13 ?_
  refine lv_aload_n hx hb dX0_finds_15 rfl (lv_at hl 1 rfl) ?_
  refine c_getN (v := .int (nI k)) hx hb hts in_X1 hown hK (hM.1 1 _ rfl) rfl 6 (by decide) (hK.F 0 rfl) rfl rfl dX0_finds_16 ?_
  refine lv_isub hx hb dX0_finds_19 ?_
  exact hret ⟨rfl, hM.1⟩ hM.2.2 dX0_finds_20
