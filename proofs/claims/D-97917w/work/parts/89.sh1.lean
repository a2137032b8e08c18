/-! sheetAt -/
set_option maxRecDepth 100000
theorem shelf_at {D : va_G} {h : Nat → Nat} {dA : Nat → ClassId} {f : Nat → Int32} {a : Nat → Nat → Int32} {fc : Int32} {wk : Nat → Nat → Int32} {hd : Nat → Option Nat} {ri rt : Nat → Int32} {cw tx : Nat → Nat → Option Nat} {nm : Nat → Nat → Int32} {H : Heap} (hP : va_P D cmCl (cmWs h dA f a fc wk hd ri rt cw tx nm) H) {u : Nat} (hu : u < 4) : cAt D (h (6 + u)) (.inr (5, [va_rf (hd u)])) H := by
  rcases (show u = 0 ∨ u = 1 ∨ u = 2 ∨ u = 3 by omega) with rfl | rfl | rfl | rfl
  · exact hP 6 _ rfl
  · exact hP 7 _ rfl
  · exact hP 8 _ rfl
  · exact hP 9 _ rfl
theorem ndX0_sheetAt : yX0_sheetAt.cls = RX0 ∧ yX0_sheetAt.cls ≠ "java/lang/invoke/MethodHandle" ∧ yX0_sheetAt.cls ≠ "java/lang/invoke/VarHandle" ∧ (parseMethodDescriptor yX0_sheetAt.desc).map (fun d => d.parameters.length) = some 1 := by decide +kernel
section CWG
variable {p : Program} {l : Launch} {e : Env} {R : Room} {s : State} {m : MethodId} {args : Array Value} {below : List Frame} {meth : Method} {c : Code} {H : Heap} {locs : List Loc} {cells slots : Nat} {Q : State → Prop}
variable {cc : ByteArray} {pc : Nat} {ls : Array Slot} {rest : List Value} {D : va_G} {dA : Nat → ClassId}
theorem cm_castSh (hx : p.tables.exec = Jvm.exec) (hb : c.code = cc) (hown : s.vm.findClass RX0 = some m.cls) (hts : ∀ w ∈ lw_all, w.before args s = true) (hK : cmK D dA s) (wi : Nat) (hwi : wi < 3) {x : Nat} {fs : List Value} (ho : cAt D x (.inr (19 + wi, fs)) H) (hdg : decode cc pc = .ok (.checkcast 106, 3))
    (kk : W p l e R s m args below meth c H locs cells slots Q (F0 m (pc + 3) ls (.ref x :: rest))) : W p l e R s m args below meth c H locs cells slots Q (F0 m pc ls (.ref x :: rest)) := by
  have n0 := hK.C 0 rfl
  have n1 := hK.C 35 rfl
  have n2 := hK.C 18 rfl
  rcases (show wi = 0 ∨ wi = 1 ∨ wi = 2 by omega) with rfl | rfl | rfl
  · exact va_castY hx hb hown (hts _ q1027) n0 (ho.recv (C := RX22) hK rfl) hdg kk
  · exact va_castY hx hb hown (hts _ q1027) n1 (ho.recv (C := RX23) hK rfl) hdg kk
  · exact va_castY hx hb hown (hts _ q1027) n2 (ho.recv (C := RX24) hK rfl) hdg kk
end CWG
section CWH
variable (D : va_G) (dA : Nat → ClassId) (h : Nat → Nat) (f : Nat → Int32) (a : Nat → Nat → Int32) (fc : Int32) (wk : Nat → Nat → Int32) (hd : Nat → Option Nat) (ri rt : Nat → Int32) (cw tx : Nat → Nat → Option Nat) (nm : Nat → Nat → Int32)
set_option maxHeartbeats 400000 in
theorem ca_sheetAt_ok (hI : cmI h) (u x wi : Nat) (hu : u < 4) (hx0 : hd u = some x) (hxA : ¬ cmA h x) (hwi : wi < 3) (fs : List Value) : Cg D dA (cmA h) yX0_sheetAt cX0_sheetAt 2 (some (.object "MeadowMilk$Sheet")) 2 60 0 0 (.ref (h 0) :: [.int (nI u)]) (fun H => va_P D cmCl (cmWs h dA f a fc wk hd ri rt cw tx nm) H ∧ cAt D x (.inr (19 + wi, fs)) H) (fun v' H => v' = some (.ref x) ∧ va_P D cmCl (cmWs h dA f a fc wk hd ri rt cw tx nm) H) := by
  refine Cg.ofA (Or.inl ⟨_, rfl⟩) (by decide) (own := RX0) rfl (Nat.le_of_ble_eq_true rfl) ?_
  intro p l e R s m args below meth c Q ls hx hb hml hRf hRl hRc hRs hin hts hown hK hP hl hret
  obtain ⟨hP, hX⟩ := hP
  have hl : lv_has ls 2 [(0, .ref (h 0)), (1, .int (nI u))] := hl
  have hM : cmH D h dA s.heap s.heap [] f a fc wk hd ri rt cw tx nm := cmH.of hI hP va_S.rf
  have nq := hK.F 2 rfl
  refine lv_aload_n hx hb dX0_sheetAt_0 rfl (lv_at hl 0 rfl) ?_
  refine lv_aload_n hx hb dX0_sheetAt_1 rfl (lv_at hl 0 rfl) ?_
  refine c_get (v := .ref (h 5)) hx hb hts in_X0 hown hK (hM.1 0 _ rfl) rfl 7 (by decide) q293 rfl rfl dX0_sheetAt_2 ?_
  refine lv_iload_n hx hb dX0_sheetAt_5 rfl (lv_at hl 1 rfl) ?_
  refine c_aldq hx hb hK 5 rfl (hM.1 5 _ rfl) u ⟨hu, by decide, rfl⟩ dX0_sheetAt_6 ?_
  refine w_topV (.ref (h (6 + u))) rfl ?_
  refine c_getN (v := va_rf (hd u)) hx hb hts in_X5 hown hK (shelf_at hM.1 hu) rfl 0 (by decide) nq rfl rfl dX0_sheetAt_7 ?_
  refine w_topV (.ref x) (by rw [hx0]; rfl) ?_
  refine lv_ifnull hx hb dX0_sheetAt_10 ?_
  refine lv_iconst (v := nI 1) hx hb dX0_sheetAt_13 (by decide) ?_
  refine lv_goto (tgt := 18) hx hb dX0_sheetAt_14 (by decide) ?_
  refine lv_iconst (v := nI 2) hx hb dX0_sheetAt_18 (by decide) ?_
  refine cm_needT (b := True) hx hb hml hown hts hK hI hM q333 (by omega) (by omega) (Nat.zero_le _) (Nat.zero_le _) hl.1 (Nat.le_of_ble_eq_true rfl) dX0_sheetAt_19 (fun _ locs hM => ?_) (fun q => absurd trivial q)
  refine lv_aload_n hx hb dX0_sheetAt_22 rfl (lv_at hl 0 rfl) ?_
  refine c_get (v := .ref (h 5)) hx hb hts in_X0 hown hK (hM.1 0 _ rfl) rfl 7 (by decide) q293 rfl rfl dX0_sheetAt_23 ?_
  refine lv_iload_n hx hb dX0_sheetAt_26 rfl (lv_at hl 1 rfl) ?_
  refine c_aldq hx hb hK 5 rfl (hM.1 5 _ rfl) u ⟨hu, by decide, rfl⟩ dX0_sheetAt_27 ?_
  refine w_topV (.ref (h (6 + u))) rfl ?_
  refine c_getN (v := va_rf (hd u)) hx hb hts in_X5 hown hK (shelf_at hM.1 hu) rfl 0 (by decide) nq rfl rfl dX0_sheetAt_28 ?_
  refine w_topV (.ref x) (by rw [hx0]; rfl) ?_
  refine cm_castSh hx hb hown hts hK wi hwi (hX.kept (hM.2.2.2.1 x hX.lt hxA)) dX0_sheetAt_31 ?_
  exact hret ⟨rfl, hM.1⟩ hM.2.2 dX0_sheetAt_34
set_option maxHeartbeats 400000 in
theorem ca_sheetAt_n (hI : cmI h) (u : Nat) (hu : u < 4) (hx0 : hd u = none) : Co D dA (cmA h) yX0_sheetAt cX0_sheetAt 2 (some (.object "MeadowMilk$Sheet")) 2 60 0 0 (.ref (h 0) :: [.int (nI u)]) (fun H => va_P D cmCl (cmWs h dA f a fc wk hd ri rt cw tx nm) H) (fun oc H => oc = .threw (h 1) ∧ va_P D cmCl (cmWs h dA f a (nI 2) wk hd ri rt cw tx nm) H) := by
  refine Co.ofA (Or.inl ⟨_, rfl⟩) (by decide) (own := RX0) rfl (Nat.le_of_ble_eq_true rfl) ?_
  intro p l e R s m args below meth c Q ls hx hb hml hRf hRl hRc hRs hin hts hown hK hP hl hret hthr
  have hl : lv_has ls 2 [(0, .ref (h 0)), (1, .int (nI u))] := hl
  have hM : cmH D h dA s.heap s.heap [] f a fc wk hd ri rt cw tx nm := cmH.of hI hP va_S.rf
  have nq := hK.F 2 rfl
  refine lv_aload_n hx hb dX0_sheetAt_0 rfl (lv_at hl 0 rfl) ?_
  refine lv_aload_n hx hb dX0_sheetAt_1 rfl (lv_at hl 0 rfl) ?_
  refine c_get (v := .ref (h 5)) hx hb hts in_X0 hown hK (hM.1 0 _ rfl) rfl 7 (by decide) q293 rfl rfl dX0_sheetAt_2 ?_
  refine lv_iload_n hx hb dX0_sheetAt_5 rfl (lv_at hl 1 rfl) ?_
  refine c_aldq hx hb hK 5 rfl (hM.1 5 _ rfl) u ⟨hu, by decide, rfl⟩ dX0_sheetAt_6 ?_
  refine w_topV (.ref (h (6 + u))) rfl ?_
  refine c_getN (v := va_rf (hd u)) hx hb hts in_X5 hown hK (shelf_at hM.1 hu) rfl 0 (by decide) nq rfl rfl dX0_sheetAt_7 ?_
  refine w_topV .null (by rw [hx0]; rfl) ?_
  refine lv_ifnullN (tgt := 17) hx hb dX0_sheetAt_10 (by decide) ?_
  refine lv_iconst (v := nI 0) hx hb dX0_sheetAt_17 (by decide) ?_
  refine lv_iconst (v := nI 2) hx hb dX0_sheetAt_18 (by decide) ?_
  exact cm_needT (b := False) hx hb hml hown hts hK hI hM q333 (by omega) (by omega) (Nat.zero_le _) (Nat.zero_le _) hl.1 (Nat.le_of_ble_eq_true rfl) dX0_sheetAt_19 (fun q => q.elim) (fun _ H1 locs1 hM1 => hthr ⟨rfl, hM1.1⟩ hM1.2.2)
end CWH
