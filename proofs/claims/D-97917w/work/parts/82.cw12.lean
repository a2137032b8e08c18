/-! comes, lost (printed by comp15.py) -/
set_option maxRecDepth 100000
theorem ndX0_firstBy : yX0_firstBy.cls = RX0 ∧ yX0_firstBy.cls ≠ "java/lang/invoke/MethodHandle" ∧ yX0_firstBy.cls ≠ "java/lang/invoke/VarHandle" ∧ (parseMethodDescriptor yX0_firstBy.desc).map (fun d => d.parameters.length) = some 3 := by decide +kernel

set_option maxHeartbeats 400000 in
theorem ca_comes_ok (f : Nat → Int32) (a : Nat → Nat → Int32) (g : Nat) (hg0 : g < 32) (hg : jugP (a 1) (nI g)) (c0 : Nat) (hc : c0 < 25) (hR : okR (a 1)) (hf : fdN (a 1) (nI g) c0 true 101 0 ≤ 100) : CmF yX0_comes cX0_comes 4 [(0, 7, 8, 8)] 67 1538 [.int (nI g), .int (nI c0)] f a (nI (fdN (a 1) (nI g) c0 true 101 0)) f (va_up a 3 (a 1)) := by
  refine CmF.ofI (by decide) rfl (Nat.le_of_ble_eq_true rfl) ?_
  intro p l e R s m args below meth c Q D dA h fc wk hd ri rt cw tx nm B S ls hx hb hml hRf hRl hRc hRs htab hts hown hK hI hB hS0 hQ hN hIm hZ hSh hM hl hret hret0
  have hl : lv_has ls 4 [(0, .ref (h 0)), (1, .int (nI g)), (2, .int (nI c0))] := hl
  refine lv_aload_n hx hb dX0_comes_0 rfl (lv_at hl 0 rfl) ?_
  refine lv_iload_n hx hb dX0_comes_1 rfl (lv_at hl 1 rfl) ?_
  refine lv_iload_n hx hb dX0_comes_2 rfl (lv_at hl 2 rfl) ?_
  refine lv_iconst (v := nI 1) hx hb dX0_comes_3 (by decide) ?_
  refine cg_callV (y := yX0_firstBy) (b := h 0) (C := RX0) (As := [.int (nI g), .int (nI c0), .int (nI 1)]) hx hb hml hown hts hK hM.2.2 (ca_firstBy1_ok D dA h _ _ _ _ _ _ _ _ _ _ hI hN hZ B hB g hg0 hg c0 hc hR hf) ⟨hM.1, hQ.at hB hN mwEq.rf mwEq.rf mwEq.rf hM.2.2⟩ (fun q hq => hq) (cAt.recv hK (hM.1 0 _ rfl) rfl) q991 q993 qs17 q61 q994 ndX0_firstBy rfl (by rw [hRf]; decide) (by rw [hRl]; decide) (Nat.zero_le _) (Nat.zero_le _) hl.1 rfl (Nat.le_of_ble_eq_true rfl) dX0_comes_4 ?_
  rintro _ H locs ⟨rfl, rt1, cw1, tx1, nm, et3, ec, et, hP1⟩ hz1 hk1 hS1
  have hM := cmH.of hI hP1 hS1
  have hQ : cmPl D h B (a 1) ri (a 1) (va_up cw 2 cw1) (va_up tx 2 tx1) s.heap := ⟨hQ.1, hQ.2.1, hQ.1.cg hN.1 ec et⟩
  have hN : cl (a 1 3) ≤ 5 ∧ cl (ri 3) ≤ 5 ∧ cl (a 1 3) ≤ 5 := ⟨hN.1, hN.2.1, hN.1⟩
  exact hret (hM.cg rfl rfl rfl rfl rfl) (hQ.at hB hN mwEq.rf mwEq.rf et3 hM.2.2) ⟨hN.1, hN.2.1, by rw [et3.1]; exact hN.1⟩ hIm hZ (hSh.to hS0 ⟨rfl, rfl, rfl⟩ hM.2.2) (rfl) dX0_comes_7
set_option maxHeartbeats 400000 in
theorem ca_comes_n (f : Nat → Int32) (a : Nat → Nat → Int32) (g : Nat) (hg0 : g < 32) (hg : jugP (a 1) (nI g)) (c0 : Nat) (hc : c0 < 25) (hR : okR (a 1)) (hf : ¬ fdN (a 1) (nI g) c0 true 101 0 ≤ 100) : CmF yX0_comes cX0_comes 4 [(0, 7, 8, 8)] 67 1538 [.int (nI g), .int (nI c0)] f a (-1000000002 : Int32) f (mErr (va_up a 3 (a 1)) 2) := by
  refine CmF.ofI (by decide) rfl (Nat.le_of_ble_eq_true rfl) ?_
  intro p l e R s m args below meth c Q D dA h fc wk hd ri rt cw tx nm B S ls hx hb hml hRf hRl hRc hRs htab hts hown hK hI hB hS0 hQ hN hIm hZ hSh hM hl hret hret0
  have hl : lv_has ls 4 [(0, .ref (h 0)), (1, .int (nI g)), (2, .int (nI c0))] := hl
  refine lv_aload_n hx hb dX0_comes_0 rfl (lv_at hl 0 rfl) ?_
  refine lv_iload_n hx hb dX0_comes_1 rfl (lv_at hl 1 rfl) ?_
  refine lv_iload_n hx hb dX0_comes_2 rfl (lv_at hl 2 rfl) ?_
  refine lv_iconst (v := nI 1) hx hb dX0_comes_3 (by decide) ?_
  refine cm_thr (y := yX0_firstBy) (As := [.int (nI g), .int (nI c0), .int (nI 1)]) hx hb hml hown hts hK hM.2.2 (ca_firstBy1_n D dA h _ _ _ _ _ _ _ _ _ _ hI hN hZ B hB g hg0 hg c0 hc hR hf) ⟨hM.1, hQ.at hB hN mwEq.rf mwEq.rf mwEq.rf hM.2.2⟩ (cAt.recv hK (hM.1 0 _ rfl) rfl) (fun H1 hq => by obtain ⟨_, _, _, _, _, _, _, hq⟩ := hq; exact ⟨_, hq 1 _ rfl⟩) htab (hpc := 8) rfl q991 q993 qs17 q994 ndX0_firstBy rfl (by rw [hRf]; decide) (by rw [hRl]; decide) (Nat.zero_le _) (Nat.zero_le _) hl.1 rfl (Nat.le_of_ble_eq_true rfl) dX0_comes_4 (fun H locs hP1 hS1 => ?_)
  obtain ⟨rt1, cw1, tx1, nm, et3, ec, et, hP1⟩ := hP1
  have hQ : cmPl D h B (a 1) ri (a 1) (va_up cw 2 cw1) (va_up tx 2 tx1) s.heap := ⟨hQ.1, hQ.2.1, hQ.1.cg hN.1 ec et⟩
  have hN : cl (a 1 3) ≤ 5 ∧ cl (ri 3) ≤ 5 ∧ cl (a 1 3) ≤ 5 := ⟨hN.1, hN.2.1, hN.1⟩
  have hM := cmH.of hI hP1 hS1
  refine lv_astore_n (lv' := [(3, .ref (h 1)), (0, .ref (h 0)), (1, .int (nI g)), (2, .int (nI c0))]) hx hb dX0_comes_8 rfl hl (by decide) rfl (fun ls hl => ?_)
  refine lv_aload_n hx hb dX0_comes_9 rfl (lv_at hl 1 rfl) ?_
  refine lv_aload_n hx hb dX0_comes_10 rfl (lv_at hl 0 rfl) ?_
  refine cm_fin hx hb hml hown hts hK hI 2 (by decide) hM q341 (by rw [hRf]; decide) (by rw [hRl]; decide) (Nat.zero_le _) (Nat.zero_le _) hl.1 (Nat.le_of_ble_eq_true rfl) dX0_comes_11 (fun H locs hM => ?_)
  exact hret (hM.cg rfl rfl rfl rfl rfl) (hQ.at hB hN mwEq.rf mwEq.rf et3 hM.2.2) ⟨hN.1, hN.2.1, by rw [et3.1]; exact hN.1⟩ hIm hZ (hSh.to hS0 ⟨rfl, rfl, rfl⟩ hM.2.2) (by decide) dX0_comes_14
set_option maxHeartbeats 400000 in
theorem ca_comes_e (f : Nat → Int32) (a : Nat → Nat → Int32) (g c0 : Int32) (he : ¬ (jugP (a 1) g ∧ (nI 0 ≤ c0 ∧ c0 ≤ nI 24))) : CmF yX0_comes cX0_comes 4 [(0, 7, 8, 8)] 67 1538 [.int g, .int c0] f a (-1000000001 : Int32) f (mErr a 1) := by
  refine CmF.ofI (by decide) rfl (Nat.le_of_ble_eq_true rfl) ?_
  intro p l e R s m args below meth c Q D dA h fc wk hd ri rt cw tx nm B S ls hx hb hml hRf hRl hRc hRs htab hts hown hK hI hB hS0 hQ hN hIm hZ hSh hM hl hret hret0
  have hl : lv_has ls 4 [(0, .ref (h 0)), (1, .int g), (2, .int c0)] := hl
  refine lv_aload_n hx hb dX0_comes_0 rfl (lv_at hl 0 rfl) ?_
  refine lv_iload_n hx hb dX0_comes_1 rfl (lv_at hl 1 rfl) ?_
  refine lv_iload_n hx hb dX0_comes_2 rfl (lv_at hl 2 rfl) ?_
  refine lv_iconst (v := nI 1) hx hb dX0_comes_3 (by decide) ?_
  refine cm_thr (y := yX0_firstBy) (As := [.int g, .int c0, .int (nI 1)]) hx hb hml hown hts hK hM.2.2 (ca_firstBy1_e D dA h _ _ _ _ _ _ _ _ _ _ hI hN hZ B hB g c0 he) ⟨hM.1, hQ.at hB hN mwEq.rf mwEq.rf mwEq.rf hM.2.2⟩ (cAt.recv hK (hM.1 0 _ rfl) rfl) (fun H1 hq => ⟨_, hq 1 _ rfl⟩) htab (hpc := 8) rfl q991 q993 qs17 q994 ndX0_firstBy rfl (by rw [hRf]; decide) (by rw [hRl]; decide) (Nat.zero_le _) (Nat.zero_le _) hl.1 rfl (Nat.le_of_ble_eq_true rfl) dX0_comes_4 (fun H locs hP1 hS1 => ?_)
  have hM := cmH.of hI hP1 hS1
  refine lv_astore_n (lv' := [(3, .ref (h 1)), (0, .ref (h 0)), (1, .int g), (2, .int c0)]) hx hb dX0_comes_8 rfl hl (by decide) rfl (fun ls hl => ?_)
  refine lv_aload_n hx hb dX0_comes_9 rfl (lv_at hl 1 rfl) ?_
  refine lv_aload_n hx hb dX0_comes_10 rfl (lv_at hl 0 rfl) ?_
  refine cm_fin hx hb hml hown hts hK hI 1 (by decide) hM q341 (by rw [hRf]; decide) (by rw [hRl]; decide) (Nat.zero_le _) (Nat.zero_le _) hl.1 (Nat.le_of_ble_eq_true rfl) dX0_comes_11 (fun H locs hM => ?_)
  exact hret0 hM (mwEq.rf) rfl rfl ⟨rfl, rfl, rfl⟩ (by decide) dX0_comes_14
set_option maxHeartbeats 400000 in
theorem ca_lost_ok (f : Nat → Int32) (a : Nat → Nat → Int32) (g : Nat) (hg0 : g < 32) (hg : jugP (a 1) (nI g)) (c0 : Nat) (hc : c0 < 25) (hR : okR (a 1)) (hf : fdN (a 1) (nI g) c0 false 101 0 ≤ 100) : CmF yX0_lost cX0_lost 4 [(0, 7, 8, 8)] 67 1538 [.int (nI g), .int (nI c0)] f a (nI (fdN (a 1) (nI g) c0 false 101 0)) f (va_up a 3 (a 1)) := by
  refine CmF.ofI (by decide) rfl (Nat.le_of_ble_eq_true rfl) ?_
  intro p l e R s m args below meth c Q D dA h fc wk hd ri rt cw tx nm B S ls hx hb hml hRf hRl hRc hRs htab hts hown hK hI hB hS0 hQ hN hIm hZ hSh hM hl hret hret0
  have hl : lv_has ls 4 [(0, .ref (h 0)), (1, .int (nI g)), (2, .int (nI c0))] := hl
  refine lv_aload_n hx hb dX0_lost_0 rfl (lv_at hl 0 rfl) ?_
  refine lv_iload_n hx hb dX0_lost_1 rfl (lv_at hl 1 rfl) ?_
  refine lv_iload_n hx hb dX0_lost_2 rfl (lv_at hl 2 rfl) ?_
  refine lv_iconst (v := nI 0) hx hb dX0_lost_3 (by decide) ?_
  refine cg_callV (y := yX0_firstBy) (b := h 0) (C := RX0) (As := [.int (nI g), .int (nI c0), .int (nI 0)]) hx hb hml hown hts hK hM.2.2 (ca_firstBy0_ok D dA h _ _ _ _ _ _ _ _ _ _ hI hN hZ B hB g hg0 hg c0 hc hR hf) ⟨hM.1, hQ.at hB hN mwEq.rf mwEq.rf mwEq.rf hM.2.2⟩ (fun q hq => hq) (cAt.recv hK (hM.1 0 _ rfl) rfl) q991 q993 qs17 q61 q994 ndX0_firstBy rfl (by rw [hRf]; decide) (by rw [hRl]; decide) (Nat.zero_le _) (Nat.zero_le _) hl.1 rfl (Nat.le_of_ble_eq_true rfl) dX0_lost_4 ?_
  rintro _ H locs ⟨rfl, rt1, cw1, tx1, nm, et3, ec, et, hP1⟩ hz1 hk1 hS1
  have hM := cmH.of hI hP1 hS1
  have hQ : cmPl D h B (a 1) ri (a 1) (va_up cw 2 cw1) (va_up tx 2 tx1) s.heap := ⟨hQ.1, hQ.2.1, hQ.1.cg hN.1 ec et⟩
  have hN : cl (a 1 3) ≤ 5 ∧ cl (ri 3) ≤ 5 ∧ cl (a 1 3) ≤ 5 := ⟨hN.1, hN.2.1, hN.1⟩
  exact hret (hM.cg rfl rfl rfl rfl rfl) (hQ.at hB hN mwEq.rf mwEq.rf et3 hM.2.2) ⟨hN.1, hN.2.1, by rw [et3.1]; exact hN.1⟩ hIm hZ (hSh.to hS0 ⟨rfl, rfl, rfl⟩ hM.2.2) (rfl) dX0_lost_7
set_option maxHeartbeats 400000 in
theorem ca_lost_n (f : Nat → Int32) (a : Nat → Nat → Int32) (g : Nat) (hg0 : g < 32) (hg : jugP (a 1) (nI g)) (c0 : Nat) (hc : c0 < 25) (hR : okR (a 1)) (hf : ¬ fdN (a 1) (nI g) c0 false 101 0 ≤ 100) : CmF yX0_lost cX0_lost 4 [(0, 7, 8, 8)] 67 1538 [.int (nI g), .int (nI c0)] f a (-1000000002 : Int32) f (mErr (va_up a 3 (a 1)) 2) := by
  refine CmF.ofI (by decide) rfl (Nat.le_of_ble_eq_true rfl) ?_
  intro p l e R s m args below meth c Q D dA h fc wk hd ri rt cw tx nm B S ls hx hb hml hRf hRl hRc hRs htab hts hown hK hI hB hS0 hQ hN hIm hZ hSh hM hl hret hret0
  have hl : lv_has ls 4 [(0, .ref (h 0)), (1, .int (nI g)), (2, .int (nI c0))] := hl
  refine lv_aload_n hx hb dX0_lost_0 rfl (lv_at hl 0 rfl) ?_
  refine lv_iload_n hx hb dX0_lost_1 rfl (lv_at hl 1 rfl) ?_
  refine lv_iload_n hx hb dX0_lost_2 rfl (lv_at hl 2 rfl) ?_
  refine lv_iconst (v := nI 0) hx hb dX0_lost_3 (by decide) ?_
  refine cm_thr (y := yX0_firstBy) (As := [.int (nI g), .int (nI c0), .int (nI 0)]) hx hb hml hown hts hK hM.2.2 (ca_firstBy0_n D dA h _ _ _ _ _ _ _ _ _ _ hI hN hZ B hB g hg0 hg c0 hc hR hf) ⟨hM.1, hQ.at hB hN mwEq.rf mwEq.rf mwEq.rf hM.2.2⟩ (cAt.recv hK (hM.1 0 _ rfl) rfl) (fun H1 hq => by obtain ⟨_, _, _, _, _, _, _, hq⟩ := hq; exact ⟨_, hq 1 _ rfl⟩) htab (hpc := 8) rfl q991 q993 qs17 q994 ndX0_firstBy rfl (by rw [hRf]; decide) (by rw [hRl]; decide) (Nat.zero_le _) (Nat.zero_le _) hl.1 rfl (Nat.le_of_ble_eq_true rfl) dX0_lost_4 (fun H locs hP1 hS1 => ?_)
  obtain ⟨rt1, cw1, tx1, nm, et3, ec, et, hP1⟩ := hP1
  have hQ : cmPl D h B (a 1) ri (a 1) (va_up cw 2 cw1) (va_up tx 2 tx1) s.heap := ⟨hQ.1, hQ.2.1, hQ.1.cg hN.1 ec et⟩
  have hN : cl (a 1 3) ≤ 5 ∧ cl (ri 3) ≤ 5 ∧ cl (a 1 3) ≤ 5 := ⟨hN.1, hN.2.1, hN.1⟩
  have hM := cmH.of hI hP1 hS1
  refine lv_astore_n (lv' := [(3, .ref (h 1)), (0, .ref (h 0)), (1, .int (nI g)), (2, .int (nI c0))]) hx hb dX0_lost_8 rfl hl (by decide) rfl (fun ls hl => ?_)
  refine lv_aload_n hx hb dX0_lost_9 rfl (lv_at hl 1 rfl) ?_
  refine lv_aload_n hx hb dX0_lost_10 rfl (lv_at hl 0 rfl) ?_
  refine cm_fin hx hb hml hown hts hK hI 2 (by decide) hM q341 (by rw [hRf]; decide) (by rw [hRl]; decide) (Nat.zero_le _) (Nat.zero_le _) hl.1 (Nat.le_of_ble_eq_true rfl) dX0_lost_11 (fun H locs hM => ?_)
  exact hret (hM.cg rfl rfl rfl rfl rfl) (hQ.at hB hN mwEq.rf mwEq.rf et3 hM.2.2) ⟨hN.1, hN.2.1, by rw [et3.1]; exact hN.1⟩ hIm hZ (hSh.to hS0 ⟨rfl, rfl, rfl⟩ hM.2.2) (by decide) dX0_lost_14
set_option maxHeartbeats 400000 in
theorem ca_lost_e (f : Nat → Int32) (a : Nat → Nat → Int32) (g c0 : Int32) (he : ¬ (jugP (a 1) g ∧ (nI 0 ≤ c0 ∧ c0 ≤ nI 24))) : CmF yX0_lost cX0_lost 4 [(0, 7, 8, 8)] 67 1538 [.int g, .int c0] f a (-1000000001 : Int32) f (mErr a 1) := by
  refine CmF.ofI (by decide) rfl (Nat.le_of_ble_eq_true rfl) ?_
  intro p l e R s m args below meth c Q D dA h fc wk hd ri rt cw tx nm B S ls hx hb hml hRf hRl hRc hRs htab hts hown hK hI hB hS0 hQ hN hIm hZ hSh hM hl hret hret0
  have hl : lv_has ls 4 [(0, .ref (h 0)), (1, .int g), (2, .int c0)] := hl
  refine lv_aload_n hx hb dX0_lost_0 rfl (lv_at hl 0 rfl) ?_
  refine lv_iload_n hx hb dX0_lost_1 rfl (lv_at hl 1 rfl) ?_
  refine lv_iload_n hx hb dX0_lost_2 rfl (lv_at hl 2 rfl) ?_
  refine lv_iconst (v := nI 0) hx hb dX0_lost_3 (by decide) ?_
  refine cm_thr (y := yX0_firstBy) (As := [.int g, .int c0, .int (nI 0)]) hx hb hml hown hts hK hM.2.2 (ca_firstBy0_e D dA h _ _ _ _ _ _ _ _ _ _ hI hN hZ B hB g c0 he) ⟨hM.1, hQ.at hB hN mwEq.rf mwEq.rf mwEq.rf hM.2.2⟩ (cAt.recv hK (hM.1 0 _ rfl) rfl) (fun H1 hq => ⟨_, hq 1 _ rfl⟩) htab (hpc := 8) rfl q991 q993 qs17 q994 ndX0_firstBy rfl (by rw [hRf]; decide) (by rw [hRl]; decide) (Nat.zero_le _) (Nat.zero_le _) hl.1 rfl (Nat.le_of_ble_eq_true rfl) dX0_lost_4 (fun H locs hP1 hS1 => ?_)
  have hM := cmH.of hI hP1 hS1
  refine lv_astore_n (lv' := [(3, .ref (h 1)), (0, .ref (h 0)), (1, .int g), (2, .int c0)]) hx hb dX0_lost_8 rfl hl (by decide) rfl (fun ls hl => ?_)
  refine lv_aload_n hx hb dX0_lost_9 rfl (lv_at hl 1 rfl) ?_
  refine lv_aload_n hx hb dX0_lost_10 rfl (lv_at hl 0 rfl) ?_
  refine cm_fin hx hb hml hown hts hK hI 1 (by decide) hM q341 (by rw [hRf]; decide) (by rw [hRl]; decide) (Nat.zero_le _) (Nat.zero_le _) hl.1 (Nat.le_of_ble_eq_true rfl) dX0_lost_11 (fun H locs hM => ?_)
  exact hret0 hM (mwEq.rf) rfl rfl ⟨rfl, rfl, rfl⟩ (by decide) dX0_lost_14
