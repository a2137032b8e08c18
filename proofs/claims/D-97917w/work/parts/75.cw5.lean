/-! calls that throw, caught; cowAt -/
set_option maxRecDepth 100000
section CWD
variable {p : Program} {l : Launch} {e : Env} {R : Room} {s : State} {m : MethodId} {args : Array Value} {below : List Frame} {meth : Method} {c : Code} {H H0 : Heap} {locs : List Loc} {cells slots : Nat} {Q : State → Prop}
variable {cc : ByteArray} {pc : Nat} {ls : Array Slot} {rest : List Value} {D : va_G} {dA : Nat → ClassId} {h : Nat → Nat}
theorem cm_thr {y : MethodName} {cy : ByteArray} {maxL nL fr lo idx n hpc : Nat} {ret : Option FieldType} {As st : List Value} {hh : List (Nat × Nat × Nat × Nat)} {P Pz : Heap → Prop} (hx : p.tables.exec = Jvm.exec) (hb : c.code = cc) (hml : c.maxLocals = nL) (hown : s.vm.findClass RX0 = some m.cls) (hts : ∀ w ∈ lw_all, w.before args s = true) (hK : cmK D dA s) (hS : va_S (cmA h) H0 H locs)
    (hC : Co D dA (cmA h) y cy maxL ret fr lo 0 0 (.ref (h 0) :: As) P (fun oc H' => oc = .threw (h 1) ∧ Pz H')) (hP : P H) (hrc : ∃ cell : Cell, H[h 0]? = some cell ∧ cell.vm.isStatics = false ∧ s.vm.findClass RX0 = some cell.cls) (hz : ∀ H1, Pz H1 → ∃ fc, cAt D (h 1) (.inr (1, cmFi fc)) H1) (htab : c.exceptionTable.toList = tableOf hh) (hex : exF hh pc = some (hpc, 8))
    (h1 : Cond.methodLink RX0 idx y ∈ lw_all) (h2 : Cond.instanceMethod y ∈ lw_all) (h3 : Cond.selects RX0 y y ∈ lw_all) (h5 : Cond.code y cy maxL ret ∈ lw_all)
    (hd : y.cls = RX0 ∧ y.cls ≠ "java/lang/invoke/MethodHandle" ∧ y.cls ≠ "java/lang/invoke/VarHandle" ∧ (parseMethodDescriptor y.desc).map (fun d => d.parameters.length) = some n) (hn : As.length = n) (hRf : fr + 1 ≤ R.frames) (hRl : 8 + (maxL + 11) + lo ≤ R.locals) (hRc : cells ≤ R.cells) (hRs : slots ≤ R.slots) (hsize : ls.size = nL) (hst : st = As.reverse ++ .ref (h 0) :: rest) (hW : (rest.map fun v => v.category).sum ≤ 8) (hdg : decode cc pc = .ok (.invokevirtual idx, 3))
    (kf : ∀ (H1 : Heap) (locs1 : List Loc), Pz H1 → va_S (cmA h) H0 H1 locs1 → W p l e R s m args below meth c H1 locs1 cells slots Q (F0 m hpc ls [.ref (h 1)])) : W p l e R s m args below meth c H locs cells slots Q (F0 m pc ls st) := by
  have hr := runVT (below := below) (meth := meth) (locs := locs) (cells := cells) (slots := slots) (e := e) (As := As) (rest := rest) (g := F0 m pc ls st) (b := h 0) (Ts := lw_all) (own := RX0) (C := RX0) (n := n) ⟨hx, hb, hml, hown, hts⟩ (hC l) (cwV n hts (lw_V h1 h2 h3 q61 h5) rfl rfl rfl hd ⟨hRf, hRl⟩)
    ⟨(fun a U g mk q => ⟨q.1, q.2.1, q.2.2.warm (State.WarmedH.refl U)⟩), hrc, fun U hU hW => ⟨rfl, by rw [hU]; exact hP, hK.warm hW⟩⟩ rfl hn hsize hst (lv_room hW) hdg ⟨hRc, hRs⟩
  intro T hT X
  obtain ⟨oc, st₀, t, T', L, h0, X', hL, e1, ⟨hq, hF⟩, k1, k2⟩ := hr T hT X
  obtain ⟨z1, z2, z3⟩ := hS.call (B := cmA h) (fun q hq => hq) h0 e1 hF hL
  obtain ⟨rfl, hc⟩ := hq
  have hc1 : Pz T'.heap := by rw [e1]; exact hc
  obtain ⟨fc, hc2⟩ := hz _ hc1
  obtain ⟨pre, post, en, t1, t2, t3, t4, t5⟩ := exF_spec hh pc hpc 8 hex
  obtain ⟨t6, a1, b1⟩ := WT.catch (C := RX1) (CE := RX1) (index := 8) hown (hts _ q105) (by decide) pre post en (htab.trans t1) t2 t3 t4 t5 (cAt.recv hK hc2 rfl) (hK.C 7 rfl) (kf T'.heap (locs ++ L) hc1 z3) T' rfl X'
  exact ⟨t6, k2 _ rfl t6 a1, b1⟩
end CWD
theorem ndX0_cowAt : yX0_cowAt.cls = RX0 ∧ yX0_cowAt.cls ≠ "java/lang/invoke/MethodHandle" ∧ yX0_cowAt.cls ≠ "java/lang/invoke/VarHandle" ∧ (parseMethodDescriptor yX0_cowAt.desc).map (fun d => d.parameters.length) = some 2 := by decide +kernel
section CWE
variable (D : va_G) (dA : Nat → ClassId) (h : Nat → Nat) (f : Nat → Int32) (a : Nat → Nat → Int32) (fc : Int32) (wk : Nat → Nat → Int32) (hd : Nat → Option Nat) (ri rt : Nat → Int32) (cw tx : Nat → Nat → Option Nat) (nm : Nat → Nat → Int32)
set_option maxHeartbeats 400000 in
theorem ca_cowAt_ok (hI : cmI h) (i x : Nat) (b : Prop) [Decidable b] (hN0 : okN (a 1 3) 5) (hi : i < cl (a 1 3)) (hb0 : b) (hxc : cw 0 i = some x) : Cg D dA (cmA h) yX0_cowAt cX0_cowAt 3 (some (.object "MeadowMilk$Cow")) 2 60 0 0 (.ref (h 0) :: [.int (nI i), .int (iI b)]) (fun H => va_P D cmCl (cmWs h dA f a fc wk hd ri rt cw tx nm) H) (fun v' H => v' = some (.ref x) ∧ va_P D cmCl (cmWs h dA f a fc wk hd ri rt cw tx nm) H) := by
  refine Cg.ofA (Or.inl ⟨_, rfl⟩) (by decide) (own := RX0) rfl (Nat.le_of_ble_eq_true rfl) ?_
  intro p l e R s m args below meth c Q ls hx hb hml hRf hRl hRc hRs hin hts hown hK hP hl hret
  have hl : lv_has ls 3 [(0, .ref (h 0)), (1, .int (nI i)), (2, .int (iI b))] := hl
  have hM : cmH D h dA s.heap s.heap [] f a fc wk hd ri rt cw tx nm := cmH.of hI hP va_S.rf
  have hN2 := hN0.2
  refine lv_aload_n hx hb dX0_cowAt_0 rfl (lv_at hl 0 rfl) ?_
  refine lv_aload_n hx hb dX0_cowAt_1 rfl (lv_at hl 0 rfl) ?_
  refine lv_iload_n hx hb dX0_cowAt_2 rfl (lv_at hl 1 rfl) ?_
  refine rd_callV (y := yX0_isCow) hx hb hml hown hts hK (ca_isCow D dA h _ _ _ _ _ _ _ _ _ _ (nI i)) hM.1 (cAt.recv hK (hM.1 0 _ rfl) rfl) q512 q514 qs4 q61 q515 ndX0_isCow rfl (by rw [hRf]; decide) (by rw [hRl]; decide) (Nat.zero_le _) (Nat.zero_le _) hl.1 rfl (Nat.le_of_ble_eq_true rfl) dX0_cowAt_3 ?_
  refine w_if_eqT (tgt := 17) hx hb dX0_cowAt_6 (by decide) (fun c_1 => absurd (cow_in hN0 hi) c_1) (fun c_1 => ?_)
  refine lv_iload_n hx hb dX0_cowAt_9 rfl (lv_at hl 2 rfl) ?_
  refine w_if_eqT (tgt := 17) hx hb dX0_cowAt_10 (by decide) (fun c_2 => absurd hb0 c_2) (fun c_2 => ?_)
  refine lv_iconst (v := nI 1) hx hb dX0_cowAt_13 (by decide) ?_
  refine lv_goto (tgt := 18) hx hb dX0_cowAt_14 (by decide) ?_
  refine lv_iconst (v := nI 1) hx hb dX0_cowAt_18 (by decide) ?_
  refine cm_needT (b := True) hx hb hml hown hts hK hI hM q333 (by omega) (by omega) (Nat.zero_le _) (Nat.zero_le _) hl.1 (Nat.le_of_ble_eq_true rfl) dX0_cowAt_19 (fun _ locs hM => ?_) (fun q => absurd trivial q)
  refine lv_aload_n hx hb dX0_cowAt_22 rfl (lv_at hl 0 rfl) ?_
  refine c_get (v := .ref (hm0 h 0)) hx hb hts in_X0 hown hK (hM.1 0 _ rfl) rfl 1 (by decide) q287 rfl rfl dX0_cowAt_23 ?_
  have nq := hK.F 7 rfl
  refine c_getN (v := .ref (hm0 h 3)) hx hb hts in_X2 hown hK ((cm_parts hM.1).2.1 0 _ rfl) rfl 4 (by decide) nq rfl rfl dX0_cowAt_26 ?_
  refine lv_iload_n hx hb dX0_cowAt_29 rfl (lv_at hl 1 rfl) ?_
  refine c_aldq hx hb hK 3 rfl ((cm_parts hM.1).2.1 3 _ rfl) i ⟨by omega, by decide, rfl⟩ dX0_cowAt_30 ?_
  refine w_topV (.ref x) (by show va_rf (cw 0 i) = _; rw [hxc]; rfl) ?_
  exact hret ⟨rfl, hM.1⟩ hM.2.2 dX0_cowAt_31
set_option maxHeartbeats 400000 in
theorem ca_cowAt_e (hI : cmI h) (v : Int32) (b : Prop) [Decidable b] (he : ¬ (cowP (a 1) v ∧ b)) : Co D dA (cmA h) yX0_cowAt cX0_cowAt 3 (some (.object "MeadowMilk$Cow")) 2 60 0 0 (.ref (h 0) :: [.int v, .int (iI b)]) (fun H => va_P D cmCl (cmWs h dA f a fc wk hd ri rt cw tx nm) H) (fun oc H => oc = .threw (h 1) ∧ va_P D cmCl (cmWs h dA f a (nI 1) wk hd ri rt cw tx nm) H) := by
  refine Co.ofA (Or.inl ⟨_, rfl⟩) (by decide) (own := RX0) rfl (Nat.le_of_ble_eq_true rfl) ?_
  intro p l e R s m args below meth c Q ls hx hb hml hRf hRl hRc hRs hin hts hown hK hP hl hret hthr
  have hl : lv_has ls 3 [(0, .ref (h 0)), (1, .int v), (2, .int (iI b))] := hl
  have hM : cmH D h dA s.heap s.heap [] f a fc wk hd ri rt cw tx nm := cmH.of hI hP va_S.rf
  refine lv_aload_n hx hb dX0_cowAt_0 rfl (lv_at hl 0 rfl) ?_
  refine lv_aload_n hx hb dX0_cowAt_1 rfl (lv_at hl 0 rfl) ?_
  refine lv_iload_n hx hb dX0_cowAt_2 rfl (lv_at hl 1 rfl) ?_
  refine rd_callV (y := yX0_isCow) hx hb hml hown hts hK (ca_isCow D dA h _ _ _ _ _ _ _ _ _ _ v) hM.1 (cAt.recv hK (hM.1 0 _ rfl) rfl) q512 q514 qs4 q61 q515 ndX0_isCow rfl (by rw [hRf]; decide) (by rw [hRl]; decide) (Nat.zero_le _) (Nat.zero_le _) hl.1 rfl (Nat.le_of_ble_eq_true rfl) dX0_cowAt_3 ?_
  have hE : ∀ (ls : Array Slot), lv_has ls 3 [(0, .ref (h 0)), (1, .int v), (2, .int (iI b))] → W p l e R s m args below meth c s.heap [] 0 0 Q (F0 m 17 ls [.ref (h 0)]) := by
    intro ls hl
    refine lv_iconst (v := nI 0) hx hb dX0_cowAt_17 (by decide) ?_
    refine lv_iconst (v := nI 1) hx hb dX0_cowAt_18 (by decide) ?_
    exact cm_needT (b := False) hx hb hml hown hts hK hI hM q333 (by omega) (by omega) (Nat.zero_le _) (Nat.zero_le _) hl.1 (Nat.le_of_ble_eq_true rfl) dX0_cowAt_19 (fun q => q.elim) (fun _ H1 locs1 hM1 => hthr ⟨rfl, hM1.1⟩ hM1.2.2)
  refine w_if_eqT (tgt := 17) hx hb dX0_cowAt_6 (by decide) (fun c_1 => hE ls hl) (fun c_1 => ?_)
  refine lv_iload_n hx hb dX0_cowAt_9 rfl (lv_at hl 2 rfl) ?_
  exact w_if_eqT (tgt := 17) hx hb dX0_cowAt_10 (by decide) (fun c_2 => hE ls hl) (fun c_2 => absurd ⟨c_1, c_2⟩ he)
end CWE
