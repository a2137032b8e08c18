/-! voice (printed by comp29.py) -/
set_option maxRecDepth 100000
theorem nf_wants : ("MeadowMilk$Wants" : String) ≠ "java/lang/invoke/MethodHandle" ∧ ("MeadowMilk$Wants" : String) ≠ "java/lang/invoke/VarHandle" ∧ (parseMethodDescriptor "(I)I").map (fun d => d.parameters.length) = some 1 := by decide +kernel
theorem nf_eats : ("MeadowMilk$Eats" : String) ≠ "java/lang/invoke/MethodHandle" ∧ ("MeadowMilk$Eats" : String) ≠ "java/lang/invoke/VarHandle" ∧ (parseMethodDescriptor "(I)I").map (fun d => d.parameters.length) = some 1 := by decide +kernel
theorem nf_knows : ("MeadowMilk$Knows" : String) ≠ "java/lang/invoke/MethodHandle" ∧ ("MeadowMilk$Knows" : String) ≠ "java/lang/invoke/VarHandle" ∧ (parseMethodDescriptor "(I)I").map (fun d => d.parameters.length) = some 1 := by decide +kernel
theorem nf_tells : ("MeadowMilk$Tells" : String) ≠ "java/lang/invoke/MethodHandle" ∧ ("MeadowMilk$Tells" : String) ≠ "java/lang/invoke/VarHandle" ∧ (parseMethodDescriptor "(I)I").map (fun d => d.parameters.length) = some 1 := by decide +kernel
set_option maxHeartbeats 400000 in
theorem ca_voice_0_0 (f : Nat → Int32) (a : Nat → Nat → Int32) (i : Nat) (hi : i < cl (a 1 3)) (hN0 : okN (a 1 3) 5) (hkd : a 1 (58 + 14 * i + 0) = nI 0) (x0 : Int32) : CmF yX0_voice cX0_voice 5 [(0, 56, 84, 8), (57, 65, 84, 8), (66, 74, 84, 8), (75, 83, 84, 8)] 3 82 [.int (nI i), .int (nI 0), .int x0] f a (x0 + (vF f 0 i (a 1 (58 + 14 * i + 1)) 26)) (upd (vF f 0 i (a 1 (58 + 14 * i + 1))) 24 (nI (0 + 1))) (va_up a 14 (upd (a 14) 0 (nI 10))) := by
  refine CmF.ofI (by decide) rfl (Nat.le_of_ble_eq_true rfl) ?_
  intro p l e R s m args below meth c Q D dA h fc wk hd ri rt cw tx nm B S ls hx hb hml hRf hRl hRc hRs htab hts hown hK hI hB hS0 hQ hN hIm hZ hSh hM hl hret hret0
  have hl : lv_has ls 5 [(0, .ref (h 0)), (1, .int (nI i)), (2, .int (nI 0)), (3, .int x0)] := hl
  have hN2 := hN0.2
  refine lv_aload_n hx hb dX0_voice_0 rfl (lv_at hl 0 rfl) ?_
  refine lv_iload_n hx hb dX0_voice_1 rfl (lv_at hl 1 rfl) ?_
  refine lv_iload_n hx hb dX0_voice_2 rfl (lv_at hl 2 rfl) ?_
  refine lv_iconst (v := nI 0) hx hb dX0_voice_3 (by decide) ?_
  refine lv_iconst (v := nI 3) hx hb dX0_voice_4 (by decide) ?_
  refine st_callS (y := yX0_in) hx hb hml hown hts (cmX0_in (nI 0) (nI 0) (nI 3)) q330 q331 q61 q332 ndX0_in rfl (by rw [hRf]; decide) (by rw [hRl]; decide) (Nat.zero_le _) (Nat.zero_le _) hl.1 rfl (Nat.le_of_ble_eq_true rfl) dX0_voice_5 ?_
  obtain ⟨x, hx1, hx2, hx3⟩ := hQ.1.1 i hi
  refine cg_callV (y := yX0_cowAt) (b := h 0) (C := RX0) (As := [.int (nI i), .int (iI (nI 0 ≤ nI 0 ∧ nI 0 ≤ nI 3))]) hx hb hml hown hts hK hM.2.2 (ca_cowAt_ok D dA h _ _ _ _ _ _ _ _ _ _ hI i x (nI 0 ≤ nI 0 ∧ nI 0 ≤ nI 3) hN0 hi ((in_nat (by decide)).mpr ⟨_, by omega, rfl⟩) hx1) hM.1 (fun q hq => hq) (cAt.recv hK (hM.1 0 _ rfl) rfl) q508 q510 qs3 q61 q511 ndX0_cowAt rfl (by rw [hRf]; decide) (by rw [hRl]; decide) (Nat.zero_le _) (Nat.zero_le _) hl.1 rfl (Nat.le_of_ble_eq_true rfl) dX0_voice_8 ?_
  rintro _ H locs ⟨rfl, hP1⟩ hz1 hk1 hS1
  have hM := cmH.of hI hP1 hS1
  refine lv_astore (lv' := [(4, .ref x), (0, .ref (h 0)), (1, .int (nI i)), (2, .int (nI 0)), (3, .int x0)]) hx hb dX0_voice_11 hl (by decide) rfl (fun ls hl => ?_)
  refine lv_aload_n hx hb dX0_voice_13 rfl (lv_at hl 1 rfl) ?_
  refine c_get (v := .ref (h 2)) hx hb hts in_X0 hown hK (hM.1 0 _ rfl) rfl 5 (by decide) q291 rfl rfl dX0_voice_14 ?_
  refine lv_iconst (v := nI 0) hx hb dX0_voice_17 (by decide) ?_
  have nq := hK.F 15 rfl
  refine cm_put_tmany hx hb hts hown hK hI hM nq dX0_voice_18 (fun H locs hM => ?_)
  refine lv_iload_n hx hb dX0_voice_21 rfl (lv_at hl 3 rfl) ?_
  refine lv_tableIn (off := 26) (tgt := 48) hx hb dX0_voice_22 (by decide) (by decide) (by rfl) (by decide) ?_
  refine lv_aload hx hb dX0_voice_48 (lv_at hl 0 rfl) ?_
  refine lv_iload_n hx hb dX0_voice_50 rfl (lv_at hl 4 rfl) ?_
  have nq := hK.I 0 rfl
  have hO := hx3
  rw [show cl (a 1 (58 + 14 * i + 0)) = 0 by rw [hkd]; rfl] at hO
  have hxA : ¬ voA (h 2) (h 3) x := fun q => hB _ hx2 (q.elim (fun z => ⟨2, by decide, z⟩) (fun z => ⟨3, by decide, z⟩))
  have hne : h 2 ≠ h 3 := fun z => absurd (hI 2 (by decide) 3 (by decide) z) (by decide)
  have hP0 : va_P D cmCl (voWs dA (h 2) (h 3) 0 (a 14)) H := fun k q hk => by
    have h2 : k < 2 := (List.getElem?_eq_some_iff.mp hk).1
    match k, h2, hk with
    | 0, _, hk => cases hk; exact hM.1 2 _ rfl
    | 1, _, hk => cases hk; exact hM.1 3 _ rfl
  refine cg_callF (x := ⟨"MeadowMilk$Wants", "wants", "(I)I"⟩) (y := yX9_wants) (C := RX9) (A := cmA h) hx hb hml hown hts hK hM.2.2 (hK.1.1 10 _ rfl).2 (vo_wants_0_0 x (h 2) (h 3) i (a 1 (58 + 14 * i + 1)) (a 14) 0 hne hxA x0 (by omega)) ⟨hP0, hO.kept (hM.2.2.2.1 x hO.lt (hB _ hx2))⟩ (fun q hq => hq.elim (fun z => ⟨2, by decide, z⟩) (fun z => ⟨3, by decide, z⟩)) ((hO.kept (hM.2.2.2.1 x hO.lt (hB _ hx2))).recv hK rfl) q1095 q1099 q1101 q74 q1103 nq nf_wants rfl (by rw [hRf]; decide) (by rw [hRl]; decide) (Nat.zero_le _) (Nat.zero_le _) hl.1 rfl (Nat.le_of_ble_eq_true rfl) dX0_voice_51 ?_
  rintro _ H locs ⟨rfl, hP1⟩ hz1 hk1 hS1
  have hM := cmH.of hI (cm_updT hI hM.1 hk1 hP1) hS1
  exact hret0 (hM.cg (f' := upd (vF f 0 i (a 1 (58 + 14 * i + 1))) 24 (nI (0 + 1))) (a' := va_up a 14 (upd (a 14) 0 (nI 10))) rfl rfl rfl rfl rfl) (mwEq.rf) rfl rfl ⟨rfl, rfl, rfl⟩ (rfl) dX0_voice_56
set_option maxHeartbeats 400000 in
theorem ca_voice_0_1 (f : Nat → Int32) (a : Nat → Nat → Int32) (i : Nat) (hi : i < cl (a 1 3)) (hN0 : okN (a 1 3) 5) (hkd : a 1 (58 + 14 * i + 0) = nI 1) (x0 : Int32) : CmF yX0_voice cX0_voice 5 [(0, 56, 84, 8), (57, 65, 84, 8), (66, 74, 84, 8), (75, 83, 84, 8)] 3 82 [.int (nI i), .int (nI 0), .int x0] f a (x0 + (vF f 1 i (a 1 (58 + 14 * i + 1)) 26)) (upd (vF f 1 i (a 1 (58 + 14 * i + 1))) 24 (nI (0 + 1))) (va_up a 14 (upd (a 14) 0 (nI 10))) := by
  refine CmF.ofI (by decide) rfl (Nat.le_of_ble_eq_true rfl) ?_
  intro p l e R s m args below meth c Q D dA h fc wk hd ri rt cw tx nm B S ls hx hb hml hRf hRl hRc hRs htab hts hown hK hI hB hS0 hQ hN hIm hZ hSh hM hl hret hret0
  have hl : lv_has ls 5 [(0, .ref (h 0)), (1, .int (nI i)), (2, .int (nI 0)), (3, .int x0)] := hl
  have hN2 := hN0.2
  refine lv_aload_n hx hb dX0_voice_0 rfl (lv_at hl 0 rfl) ?_
  refine lv_iload_n hx hb dX0_voice_1 rfl (lv_at hl 1 rfl) ?_
  refine lv_iload_n hx hb dX0_voice_2 rfl (lv_at hl 2 rfl) ?_
  refine lv_iconst (v := nI 0) hx hb dX0_voice_3 (by decide) ?_
  refine lv_iconst (v := nI 3) hx hb dX0_voice_4 (by decide) ?_
  refine st_callS (y := yX0_in) hx hb hml hown hts (cmX0_in (nI 0) (nI 0) (nI 3)) q330 q331 q61 q332 ndX0_in rfl (by rw [hRf]; decide) (by rw [hRl]; decide) (Nat.zero_le _) (Nat.zero_le _) hl.1 rfl (Nat.le_of_ble_eq_true rfl) dX0_voice_5 ?_
  obtain ⟨x, hx1, hx2, hx3⟩ := hQ.1.1 i hi
  refine cg_callV (y := yX0_cowAt) (b := h 0) (C := RX0) (As := [.int (nI i), .int (iI (nI 0 ≤ nI 0 ∧ nI 0 ≤ nI 3))]) hx hb hml hown hts hK hM.2.2 (ca_cowAt_ok D dA h _ _ _ _ _ _ _ _ _ _ hI i x (nI 0 ≤ nI 0 ∧ nI 0 ≤ nI 3) hN0 hi ((in_nat (by decide)).mpr ⟨_, by omega, rfl⟩) hx1) hM.1 (fun q hq => hq) (cAt.recv hK (hM.1 0 _ rfl) rfl) q508 q510 qs3 q61 q511 ndX0_cowAt rfl (by rw [hRf]; decide) (by rw [hRl]; decide) (Nat.zero_le _) (Nat.zero_le _) hl.1 rfl (Nat.le_of_ble_eq_true rfl) dX0_voice_8 ?_
  rintro _ H locs ⟨rfl, hP1⟩ hz1 hk1 hS1
  have hM := cmH.of hI hP1 hS1
  refine lv_astore (lv' := [(4, .ref x), (0, .ref (h 0)), (1, .int (nI i)), (2, .int (nI 0)), (3, .int x0)]) hx hb dX0_voice_11 hl (by decide) rfl (fun ls hl => ?_)
  refine lv_aload_n hx hb dX0_voice_13 rfl (lv_at hl 1 rfl) ?_
  refine c_get (v := .ref (h 2)) hx hb hts in_X0 hown hK (hM.1 0 _ rfl) rfl 5 (by decide) q291 rfl rfl dX0_voice_14 ?_
  refine lv_iconst (v := nI 0) hx hb dX0_voice_17 (by decide) ?_
  have nq := hK.F 15 rfl
  refine cm_put_tmany hx hb hts hown hK hI hM nq dX0_voice_18 (fun H locs hM => ?_)
  refine lv_iload_n hx hb dX0_voice_21 rfl (lv_at hl 3 rfl) ?_
  refine lv_tableIn (off := 26) (tgt := 48) hx hb dX0_voice_22 (by decide) (by decide) (by rfl) (by decide) ?_
  refine lv_aload hx hb dX0_voice_48 (lv_at hl 0 rfl) ?_
  refine lv_iload_n hx hb dX0_voice_50 rfl (lv_at hl 4 rfl) ?_
  have nq := hK.I 1 rfl
  have hO := hx3
  rw [show cl (a 1 (58 + 14 * i + 0)) = 1 by rw [hkd]; rfl] at hO
  have hxA : ¬ voA (h 2) (h 3) x := fun q => hB _ hx2 (q.elim (fun z => ⟨2, by decide, z⟩) (fun z => ⟨3, by decide, z⟩))
  have hne : h 2 ≠ h 3 := fun z => absurd (hI 2 (by decide) 3 (by decide) z) (by decide)
  have hP0 : va_P D cmCl (voWs dA (h 2) (h 3) 0 (a 14)) H := fun k q hk => by
    have h2 : k < 2 := (List.getElem?_eq_some_iff.mp hk).1
    match k, h2, hk with
    | 0, _, hk => cases hk; exact hM.1 2 _ rfl
    | 1, _, hk => cases hk; exact hM.1 3 _ rfl
  refine cg_callF (x := ⟨"MeadowMilk$Wants", "wants", "(I)I"⟩) (y := yX9_wants) (C := RX10) (A := cmA h) hx hb hml hown hts hK hM.2.2 (hK.1.1 11 _ rfl).2 (vo_wants_0_1 x (h 2) (h 3) i (a 1 (58 + 14 * i + 1)) (a 14) 0 hne hxA x0 (by omega)) ⟨hP0, hO.kept (hM.2.2.2.1 x hO.lt (hB _ hx2))⟩ (fun q hq => hq.elim (fun z => ⟨2, by decide, z⟩) (fun z => ⟨3, by decide, z⟩)) ((hO.kept (hM.2.2.2.1 x hO.lt (hB _ hx2))).recv hK rfl) q1095 q1109 q1101 q74 q1103 nq nf_wants rfl (by rw [hRf]; decide) (by rw [hRl]; decide) (Nat.zero_le _) (Nat.zero_le _) hl.1 rfl (Nat.le_of_ble_eq_true rfl) dX0_voice_51 ?_
  rintro _ H locs ⟨rfl, hP1⟩ hz1 hk1 hS1
  have hM := cmH.of hI (cm_updT hI hM.1 hk1 hP1) hS1
  exact hret0 (hM.cg (f' := upd (vF f 1 i (a 1 (58 + 14 * i + 1))) 24 (nI (0 + 1))) (a' := va_up a 14 (upd (a 14) 0 (nI 10))) rfl rfl rfl rfl rfl) (mwEq.rf) rfl rfl ⟨rfl, rfl, rfl⟩ (rfl) dX0_voice_56
set_option maxHeartbeats 400000 in
theorem ca_voice_0_2 (f : Nat → Int32) (a : Nat → Nat → Int32) (i : Nat) (hi : i < cl (a 1 3)) (hN0 : okN (a 1 3) 5) (hkd : a 1 (58 + 14 * i + 0) = nI 2) (x0 : Int32) : CmF yX0_voice cX0_voice 5 [(0, 56, 84, 8), (57, 65, 84, 8), (66, 74, 84, 8), (75, 83, 84, 8)] 3 82 [.int (nI i), .int (nI 0), .int x0] f a ((x0 + (vF f 2 i (a 1 (58 + 14 * i + 1)) 26)) * (nI 3)) (upd (vF f 2 i (a 1 (58 + 14 * i + 1))) 24 (nI (0 + 1 + 1))) (va_up a 14 (upd (upd (a 14) 0 (nI 30)) (0 + 1) (nI 10))) := by
  refine CmF.ofI (by decide) rfl (Nat.le_of_ble_eq_true rfl) ?_
  intro p l e R s m args below meth c Q D dA h fc wk hd ri rt cw tx nm B S ls hx hb hml hRf hRl hRc hRs htab hts hown hK hI hB hS0 hQ hN hIm hZ hSh hM hl hret hret0
  have hl : lv_has ls 5 [(0, .ref (h 0)), (1, .int (nI i)), (2, .int (nI 0)), (3, .int x0)] := hl
  have hN2 := hN0.2
  refine lv_aload_n hx hb dX0_voice_0 rfl (lv_at hl 0 rfl) ?_
  refine lv_iload_n hx hb dX0_voice_1 rfl (lv_at hl 1 rfl) ?_
  refine lv_iload_n hx hb dX0_voice_2 rfl (lv_at hl 2 rfl) ?_
  refine lv_iconst (v := nI 0) hx hb dX0_voice_3 (by decide) ?_
  refine lv_iconst (v := nI 3) hx hb dX0_voice_4 (by decide) ?_
  refine st_callS (y := yX0_in) hx hb hml hown hts (cmX0_in (nI 0) (nI 0) (nI 3)) q330 q331 q61 q332 ndX0_in rfl (by rw [hRf]; decide) (by rw [hRl]; decide) (Nat.zero_le _) (Nat.zero_le _) hl.1 rfl (Nat.le_of_ble_eq_true rfl) dX0_voice_5 ?_
  obtain ⟨x, hx1, hx2, hx3⟩ := hQ.1.1 i hi
  refine cg_callV (y := yX0_cowAt) (b := h 0) (C := RX0) (As := [.int (nI i), .int (iI (nI 0 ≤ nI 0 ∧ nI 0 ≤ nI 3))]) hx hb hml hown hts hK hM.2.2 (ca_cowAt_ok D dA h _ _ _ _ _ _ _ _ _ _ hI i x (nI 0 ≤ nI 0 ∧ nI 0 ≤ nI 3) hN0 hi ((in_nat (by decide)).mpr ⟨_, by omega, rfl⟩) hx1) hM.1 (fun q hq => hq) (cAt.recv hK (hM.1 0 _ rfl) rfl) q508 q510 qs3 q61 q511 ndX0_cowAt rfl (by rw [hRf]; decide) (by rw [hRl]; decide) (Nat.zero_le _) (Nat.zero_le _) hl.1 rfl (Nat.le_of_ble_eq_true rfl) dX0_voice_8 ?_
  rintro _ H locs ⟨rfl, hP1⟩ hz1 hk1 hS1
  have hM := cmH.of hI hP1 hS1
  refine lv_astore (lv' := [(4, .ref x), (0, .ref (h 0)), (1, .int (nI i)), (2, .int (nI 0)), (3, .int x0)]) hx hb dX0_voice_11 hl (by decide) rfl (fun ls hl => ?_)
  refine lv_aload_n hx hb dX0_voice_13 rfl (lv_at hl 1 rfl) ?_
  refine c_get (v := .ref (h 2)) hx hb hts in_X0 hown hK (hM.1 0 _ rfl) rfl 5 (by decide) q291 rfl rfl dX0_voice_14 ?_
  refine lv_iconst (v := nI 0) hx hb dX0_voice_17 (by decide) ?_
  have nq := hK.F 15 rfl
  refine cm_put_tmany hx hb hts hown hK hI hM nq dX0_voice_18 (fun H locs hM => ?_)
  refine lv_iload_n hx hb dX0_voice_21 rfl (lv_at hl 3 rfl) ?_
  refine lv_tableIn (off := 26) (tgt := 48) hx hb dX0_voice_22 (by decide) (by decide) (by rfl) (by decide) ?_
  refine lv_aload hx hb dX0_voice_48 (lv_at hl 0 rfl) ?_
  refine lv_iload_n hx hb dX0_voice_50 rfl (lv_at hl 4 rfl) ?_
  have nq := hK.I 2 rfl
  have hO := hx3
  rw [show cl (a 1 (58 + 14 * i + 0)) = 2 by rw [hkd]; rfl] at hO
  have hxA : ¬ voA (h 2) (h 3) x := fun q => hB _ hx2 (q.elim (fun z => ⟨2, by decide, z⟩) (fun z => ⟨3, by decide, z⟩))
  have hne : h 2 ≠ h 3 := fun z => absurd (hI 2 (by decide) 3 (by decide) z) (by decide)
  have hP0 : va_P D cmCl (voWs dA (h 2) (h 3) 0 (a 14)) H := fun k q hk => by
    have h2 : k < 2 := (List.getElem?_eq_some_iff.mp hk).1
    match k, h2, hk with
    | 0, _, hk => cases hk; exact hM.1 2 _ rfl
    | 1, _, hk => cases hk; exact hM.1 3 _ rfl
  refine cg_callF (x := ⟨"MeadowMilk$Wants", "wants", "(I)I"⟩) (y := yX11_wants) (C := RX11) (A := cmA h) hx hb hml hown hts hK hM.2.2 (hK.1.1 12 _ rfl).2 (vo_wants_2_2 x (h 2) (h 3) i (a 1 (58 + 14 * i + 1)) (a 14) 0 hne hxA x0 (by omega)) ⟨hP0, hO.kept (hM.2.2.2.1 x hO.lt (hB _ hx2))⟩ (fun q hq => hq.elim (fun z => ⟨2, by decide, z⟩) (fun z => ⟨3, by decide, z⟩)) ((hO.kept (hM.2.2.2.1 x hO.lt (hB _ hx2))).recv hK rfl) q1095 q1129 q1123 q76 q1125 nq nf_wants rfl (by rw [hRf]; decide) (by rw [hRl]; decide) (Nat.zero_le _) (Nat.zero_le _) hl.1 rfl (Nat.le_of_ble_eq_true rfl) dX0_voice_51 ?_
  rintro _ H locs ⟨rfl, hP1⟩ hz1 hk1 hS1
  have hM := cmH.of hI (cm_updT hI hM.1 hk1 hP1) hS1
  exact hret0 (hM.cg (f' := upd (vF f 2 i (a 1 (58 + 14 * i + 1))) 24 (nI (0 + 1 + 1))) (a' := va_up a 14 (upd (upd (a 14) 0 (nI 30)) (0 + 1) (nI 10))) rfl rfl rfl rfl rfl) (mwEq.rf) rfl rfl ⟨rfl, rfl, rfl⟩ (rfl) dX0_voice_56
set_option maxHeartbeats 400000 in
theorem ca_voice_0_3 (f : Nat → Int32) (a : Nat → Nat → Int32) (i : Nat) (hi : i < cl (a 1 3)) (hN0 : okN (a 1 3) 5) (hkd : a 1 (58 + 14 * i + 0) = nI 3) (x0 : Int32) : CmF yX0_voice cX0_voice 5 [(0, 56, 84, 8), (57, 65, 84, 8), (66, 74, 84, 8), (75, 83, 84, 8)] 3 82 [.int (nI i), .int (nI 0), .int x0] f a (x0 + (vF f 3 i (a 1 (58 + 14 * i + 1)) 26)) (upd (vF f 3 i (a 1 (58 + 14 * i + 1))) 24 (nI (0 + 1))) (va_up a 14 (upd (a 14) 0 (nI 10))) := by
  refine CmF.ofI (by decide) rfl (Nat.le_of_ble_eq_true rfl) ?_
  intro p l e R s m args below meth c Q D dA h fc wk hd ri rt cw tx nm B S ls hx hb hml hRf hRl hRc hRs htab hts hown hK hI hB hS0 hQ hN hIm hZ hSh hM hl hret hret0
  have hl : lv_has ls 5 [(0, .ref (h 0)), (1, .int (nI i)), (2, .int (nI 0)), (3, .int x0)] := hl
  have hN2 := hN0.2
  refine lv_aload_n hx hb dX0_voice_0 rfl (lv_at hl 0 rfl) ?_
  refine lv_iload_n hx hb dX0_voice_1 rfl (lv_at hl 1 rfl) ?_
  refine lv_iload_n hx hb dX0_voice_2 rfl (lv_at hl 2 rfl) ?_
  refine lv_iconst (v := nI 0) hx hb dX0_voice_3 (by decide) ?_
  refine lv_iconst (v := nI 3) hx hb dX0_voice_4 (by decide) ?_
  refine st_callS (y := yX0_in) hx hb hml hown hts (cmX0_in (nI 0) (nI 0) (nI 3)) q330 q331 q61 q332 ndX0_in rfl (by rw [hRf]; decide) (by rw [hRl]; decide) (Nat.zero_le _) (Nat.zero_le _) hl.1 rfl (Nat.le_of_ble_eq_true rfl) dX0_voice_5 ?_
  obtain ⟨x, hx1, hx2, hx3⟩ := hQ.1.1 i hi
  refine cg_callV (y := yX0_cowAt) (b := h 0) (C := RX0) (As := [.int (nI i), .int (iI (nI 0 ≤ nI 0 ∧ nI 0 ≤ nI 3))]) hx hb hml hown hts hK hM.2.2 (ca_cowAt_ok D dA h _ _ _ _ _ _ _ _ _ _ hI i x (nI 0 ≤ nI 0 ∧ nI 0 ≤ nI 3) hN0 hi ((in_nat (by decide)).mpr ⟨_, by omega, rfl⟩) hx1) hM.1 (fun q hq => hq) (cAt.recv hK (hM.1 0 _ rfl) rfl) q508 q510 qs3 q61 q511 ndX0_cowAt rfl (by rw [hRf]; decide) (by rw [hRl]; decide) (Nat.zero_le _) (Nat.zero_le _) hl.1 rfl (Nat.le_of_ble_eq_true rfl) dX0_voice_8 ?_
  rintro _ H locs ⟨rfl, hP1⟩ hz1 hk1 hS1
  have hM := cmH.of hI hP1 hS1
  refine lv_astore (lv' := [(4, .ref x), (0, .ref (h 0)), (1, .int (nI i)), (2, .int (nI 0)), (3, .int x0)]) hx hb dX0_voice_11 hl (by decide) rfl (fun ls hl => ?_)
  refine lv_aload_n hx hb dX0_voice_13 rfl (lv_at hl 1 rfl) ?_
  refine c_get (v := .ref (h 2)) hx hb hts in_X0 hown hK (hM.1 0 _ rfl) rfl 5 (by decide) q291 rfl rfl dX0_voice_14 ?_
  refine lv_iconst (v := nI 0) hx hb dX0_voice_17 (by decide) ?_
  have nq := hK.F 15 rfl
  refine cm_put_tmany hx hb hts hown hK hI hM nq dX0_voice_18 (fun H locs hM => ?_)
  refine lv_iload_n hx hb dX0_voice_21 rfl (lv_at hl 3 rfl) ?_
  refine lv_tableIn (off := 26) (tgt := 48) hx hb dX0_voice_22 (by decide) (by decide) (by rfl) (by decide) ?_
  refine lv_aload hx hb dX0_voice_48 (lv_at hl 0 rfl) ?_
  refine lv_iload_n hx hb dX0_voice_50 rfl (lv_at hl 4 rfl) ?_
  have nq := hK.I 3 rfl
  have hO := hx3
  rw [show cl (a 1 (58 + 14 * i + 0)) = 3 by rw [hkd]; rfl] at hO
  have hxA : ¬ voA (h 2) (h 3) x := fun q => hB _ hx2 (q.elim (fun z => ⟨2, by decide, z⟩) (fun z => ⟨3, by decide, z⟩))
  have hne : h 2 ≠ h 3 := fun z => absurd (hI 2 (by decide) 3 (by decide) z) (by decide)
  have hP0 : va_P D cmCl (voWs dA (h 2) (h 3) 0 (a 14)) H := fun k q hk => by
    have h2 : k < 2 := (List.getElem?_eq_some_iff.mp hk).1
    match k, h2, hk with
    | 0, _, hk => cases hk; exact hM.1 2 _ rfl
    | 1, _, hk => cases hk; exact hM.1 3 _ rfl
  refine cg_callF (x := ⟨"MeadowMilk$Wants", "wants", "(I)I"⟩) (y := yX9_wants) (C := RX12) (A := cmA h) hx hb hml hown hts hK hM.2.2 (hK.1.1 13 _ rfl).2 (vo_wants_0_3 x (h 2) (h 3) i (a 1 (58 + 14 * i + 1)) (a 14) 0 hne hxA x0 (by omega)) ⟨hP0, hO.kept (hM.2.2.2.1 x hO.lt (hB _ hx2))⟩ (fun q hq => hq.elim (fun z => ⟨2, by decide, z⟩) (fun z => ⟨3, by decide, z⟩)) ((hO.kept (hM.2.2.2.1 x hO.lt (hB _ hx2))).recv hK rfl) q1095 q1112 q1101 q74 q1103 nq nf_wants rfl (by rw [hRf]; decide) (by rw [hRl]; decide) (Nat.zero_le _) (Nat.zero_le _) hl.1 rfl (Nat.le_of_ble_eq_true rfl) dX0_voice_51 ?_
  rintro _ H locs ⟨rfl, hP1⟩ hz1 hk1 hS1
  have hM := cmH.of hI (cm_updT hI hM.1 hk1 hP1) hS1
  exact hret0 (hM.cg (f' := upd (vF f 3 i (a 1 (58 + 14 * i + 1))) 24 (nI (0 + 1))) (a' := va_up a 14 (upd (a 14) 0 (nI 10))) rfl rfl rfl rfl rfl) (mwEq.rf) rfl rfl ⟨rfl, rfl, rfl⟩ (rfl) dX0_voice_56
set_option maxHeartbeats 400000 in
theorem ca_voice_0_4 (f : Nat → Int32) (a : Nat → Nat → Int32) (i : Nat) (hi : i < cl (a 1 3)) (hN0 : okN (a 1 3) 5) (hkd : a 1 (58 + 14 * i + 0) = nI 4) (x0 : Int32) : CmF yX0_voice cX0_voice 5 [(0, 56, 84, 8), (57, 65, 84, 8), (66, 74, 84, 8), (75, 83, 84, 8)] 3 82 [.int (nI i), .int (nI 0), .int x0] f a (x0 + (vF f 4 i (a 1 (58 + 14 * i + 1)) 26)) (upd (vF f 4 i (a 1 (58 + 14 * i + 1))) 24 (nI (0 + 1))) (va_up a 14 (upd (a 14) 0 (nI 10))) := by
  refine CmF.ofI (by decide) rfl (Nat.le_of_ble_eq_true rfl) ?_
  intro p l e R s m args below meth c Q D dA h fc wk hd ri rt cw tx nm B S ls hx hb hml hRf hRl hRc hRs htab hts hown hK hI hB hS0 hQ hN hIm hZ hSh hM hl hret hret0
  have hl : lv_has ls 5 [(0, .ref (h 0)), (1, .int (nI i)), (2, .int (nI 0)), (3, .int x0)] := hl
  have hN2 := hN0.2
  refine lv_aload_n hx hb dX0_voice_0 rfl (lv_at hl 0 rfl) ?_
  refine lv_iload_n hx hb dX0_voice_1 rfl (lv_at hl 1 rfl) ?_
  refine lv_iload_n hx hb dX0_voice_2 rfl (lv_at hl 2 rfl) ?_
  refine lv_iconst (v := nI 0) hx hb dX0_voice_3 (by decide) ?_
  refine lv_iconst (v := nI 3) hx hb dX0_voice_4 (by decide) ?_
  refine st_callS (y := yX0_in) hx hb hml hown hts (cmX0_in (nI 0) (nI 0) (nI 3)) q330 q331 q61 q332 ndX0_in rfl (by rw [hRf]; decide) (by rw [hRl]; decide) (Nat.zero_le _) (Nat.zero_le _) hl.1 rfl (Nat.le_of_ble_eq_true rfl) dX0_voice_5 ?_
  obtain ⟨x, hx1, hx2, hx3⟩ := hQ.1.1 i hi
  refine cg_callV (y := yX0_cowAt) (b := h 0) (C := RX0) (As := [.int (nI i), .int (iI (nI 0 ≤ nI 0 ∧ nI 0 ≤ nI 3))]) hx hb hml hown hts hK hM.2.2 (ca_cowAt_ok D dA h _ _ _ _ _ _ _ _ _ _ hI i x (nI 0 ≤ nI 0 ∧ nI 0 ≤ nI 3) hN0 hi ((in_nat (by decide)).mpr ⟨_, by omega, rfl⟩) hx1) hM.1 (fun q hq => hq) (cAt.recv hK (hM.1 0 _ rfl) rfl) q508 q510 qs3 q61 q511 ndX0_cowAt rfl (by rw [hRf]; decide) (by rw [hRl]; decide) (Nat.zero_le _) (Nat.zero_le _) hl.1 rfl (Nat.le_of_ble_eq_true rfl) dX0_voice_8 ?_
  rintro _ H locs ⟨rfl, hP1⟩ hz1 hk1 hS1
  have hM := cmH.of hI hP1 hS1
  refine lv_astore (lv' := [(4, .ref x), (0, .ref (h 0)), (1, .int (nI i)), (2, .int (nI 0)), (3, .int x0)]) hx hb dX0_voice_11 hl (by decide) rfl (fun ls hl => ?_)
  refine lv_aload_n hx hb dX0_voice_13 rfl (lv_at hl 1 rfl) ?_
  refine c_get (v := .ref (h 2)) hx hb hts in_X0 hown hK (hM.1 0 _ rfl) rfl 5 (by decide) q291 rfl rfl dX0_voice_14 ?_
  refine lv_iconst (v := nI 0) hx hb dX0_voice_17 (by decide) ?_
  have nq := hK.F 15 rfl
  refine cm_put_tmany hx hb hts hown hK hI hM nq dX0_voice_18 (fun H locs hM => ?_)
  refine lv_iload_n hx hb dX0_voice_21 rfl (lv_at hl 3 rfl) ?_
  refine lv_tableIn (off := 26) (tgt := 48) hx hb dX0_voice_22 (by decide) (by decide) (by rfl) (by decide) ?_
  refine lv_aload hx hb dX0_voice_48 (lv_at hl 0 rfl) ?_
  refine lv_iload_n hx hb dX0_voice_50 rfl (lv_at hl 4 rfl) ?_
  have nq := hK.I 4 rfl
  have hO := hx3
  rw [show cl (a 1 (58 + 14 * i + 0)) = 4 by rw [hkd]; rfl] at hO
  have hxA : ¬ voA (h 2) (h 3) x := fun q => hB _ hx2 (q.elim (fun z => ⟨2, by decide, z⟩) (fun z => ⟨3, by decide, z⟩))
  have hne : h 2 ≠ h 3 := fun z => absurd (hI 2 (by decide) 3 (by decide) z) (by decide)
  have hP0 : va_P D cmCl (voWs dA (h 2) (h 3) 0 (a 14)) H := fun k q hk => by
    have h2 : k < 2 := (List.getElem?_eq_some_iff.mp hk).1
    match k, h2, hk with
    | 0, _, hk => cases hk; exact hM.1 2 _ rfl
    | 1, _, hk => cases hk; exact hM.1 3 _ rfl
  refine cg_callF (x := ⟨"MeadowMilk$Wants", "wants", "(I)I"⟩) (y := yX9_wants) (C := RX13) (A := cmA h) hx hb hml hown hts hK hM.2.2 (hK.1.1 14 _ rfl).2 (vo_wants_0_4 x (h 2) (h 3) i (a 1 (58 + 14 * i + 1)) (a 14) 0 hne hxA x0 (by omega)) ⟨hP0, hO.kept (hM.2.2.2.1 x hO.lt (hB _ hx2))⟩ (fun q hq => hq.elim (fun z => ⟨2, by decide, z⟩) (fun z => ⟨3, by decide, z⟩)) ((hO.kept (hM.2.2.2.1 x hO.lt (hB _ hx2))).recv hK rfl) q1095 q1115 q1101 q74 q1103 nq nf_wants rfl (by rw [hRf]; decide) (by rw [hRl]; decide) (Nat.zero_le _) (Nat.zero_le _) hl.1 rfl (Nat.le_of_ble_eq_true rfl) dX0_voice_51 ?_
  rintro _ H locs ⟨rfl, hP1⟩ hz1 hk1 hS1
  have hM := cmH.of hI (cm_updT hI hM.1 hk1 hP1) hS1
  exact hret0 (hM.cg (f' := upd (vF f 4 i (a 1 (58 + 14 * i + 1))) 24 (nI (0 + 1))) (a' := va_up a 14 (upd (a 14) 0 (nI 10))) rfl rfl rfl rfl rfl) (mwEq.rf) rfl rfl ⟨rfl, rfl, rfl⟩ (rfl) dX0_voice_56
set_option maxHeartbeats 400000 in
theorem ca_voice_0_5 (f : Nat → Int32) (a : Nat → Nat → Int32) (i : Nat) (hi : i < cl (a 1 3)) (hN0 : okN (a 1 3) 5) (hkd : a 1 (58 + 14 * i + 0) = nI 5) (x0 : Int32) : CmF yX0_voice cX0_voice 5 [(0, 56, 84, 8), (57, 65, 84, 8), (66, 74, 84, 8), (75, 83, 84, 8)] 3 82 [.int (nI i), .int (nI 0), .int x0] f a ((x0 + (vF f 5 i (a 1 (58 + 14 * i + 1)) 26)) * (nI 3)) (upd (vF f 5 i (a 1 (58 + 14 * i + 1))) 24 (nI (0 + 1 + 1))) (va_up a 14 (upd (upd (a 14) 0 (nI 30)) (0 + 1) (nI 10))) := by
  refine CmF.ofI (by decide) rfl (Nat.le_of_ble_eq_true rfl) ?_
  intro p l e R s m args below meth c Q D dA h fc wk hd ri rt cw tx nm B S ls hx hb hml hRf hRl hRc hRs htab hts hown hK hI hB hS0 hQ hN hIm hZ hSh hM hl hret hret0
  have hl : lv_has ls 5 [(0, .ref (h 0)), (1, .int (nI i)), (2, .int (nI 0)), (3, .int x0)] := hl
  have hN2 := hN0.2
  refine lv_aload_n hx hb dX0_voice_0 rfl (lv_at hl 0 rfl) ?_
  refine lv_iload_n hx hb dX0_voice_1 rfl (lv_at hl 1 rfl) ?_
  refine lv_iload_n hx hb dX0_voice_2 rfl (lv_at hl 2 rfl) ?_
  refine lv_iconst (v := nI 0) hx hb dX0_voice_3 (by decide) ?_
  refine lv_iconst (v := nI 3) hx hb dX0_voice_4 (by decide) ?_
  refine st_callS (y := yX0_in) hx hb hml hown hts (cmX0_in (nI 0) (nI 0) (nI 3)) q330 q331 q61 q332 ndX0_in rfl (by rw [hRf]; decide) (by rw [hRl]; decide) (Nat.zero_le _) (Nat.zero_le _) hl.1 rfl (Nat.le_of_ble_eq_true rfl) dX0_voice_5 ?_
  obtain ⟨x, hx1, hx2, hx3⟩ := hQ.1.1 i hi
  refine cg_callV (y := yX0_cowAt) (b := h 0) (C := RX0) (As := [.int (nI i), .int (iI (nI 0 ≤ nI 0 ∧ nI 0 ≤ nI 3))]) hx hb hml hown hts hK hM.2.2 (ca_cowAt_ok D dA h _ _ _ _ _ _ _ _ _ _ hI i x (nI 0 ≤ nI 0 ∧ nI 0 ≤ nI 3) hN0 hi ((in_nat (by decide)).mpr ⟨_, by omega, rfl⟩) hx1) hM.1 (fun q hq => hq) (cAt.recv hK (hM.1 0 _ rfl) rfl) q508 q510 qs3 q61 q511 ndX0_cowAt rfl (by rw [hRf]; decide) (by rw [hRl]; decide) (Nat.zero_le _) (Nat.zero_le _) hl.1 rfl (Nat.le_of_ble_eq_true rfl) dX0_voice_8 ?_
  rintro _ H locs ⟨rfl, hP1⟩ hz1 hk1 hS1
  have hM := cmH.of hI hP1 hS1
  refine lv_astore (lv' := [(4, .ref x), (0, .ref (h 0)), (1, .int (nI i)), (2, .int (nI 0)), (3, .int x0)]) hx hb dX0_voice_11 hl (by decide) rfl (fun ls hl => ?_)
  refine lv_aload_n hx hb dX0_voice_13 rfl (lv_at hl 1 rfl) ?_
  refine c_get (v := .ref (h 2)) hx hb hts in_X0 hown hK (hM.1 0 _ rfl) rfl 5 (by decide) q291 rfl rfl dX0_voice_14 ?_
  refine lv_iconst (v := nI 0) hx hb dX0_voice_17 (by decide) ?_
  have nq := hK.F 15 rfl
  refine cm_put_tmany hx hb hts hown hK hI hM nq dX0_voice_18 (fun H locs hM => ?_)
  refine lv_iload_n hx hb dX0_voice_21 rfl (lv_at hl 3 rfl) ?_
  refine lv_tableIn (off := 26) (tgt := 48) hx hb dX0_voice_22 (by decide) (by decide) (by rfl) (by decide) ?_
  refine lv_aload hx hb dX0_voice_48 (lv_at hl 0 rfl) ?_
  refine lv_iload_n hx hb dX0_voice_50 rfl (lv_at hl 4 rfl) ?_
  have nq := hK.I 5 rfl
  have hO := hx3
  rw [show cl (a 1 (58 + 14 * i + 0)) = 5 by rw [hkd]; rfl] at hO
  have hxA : ¬ voA (h 2) (h 3) x := fun q => hB _ hx2 (q.elim (fun z => ⟨2, by decide, z⟩) (fun z => ⟨3, by decide, z⟩))
  have hne : h 2 ≠ h 3 := fun z => absurd (hI 2 (by decide) 3 (by decide) z) (by decide)
  have hP0 : va_P D cmCl (voWs dA (h 2) (h 3) 0 (a 14)) H := fun k q hk => by
    have h2 : k < 2 := (List.getElem?_eq_some_iff.mp hk).1
    match k, h2, hk with
    | 0, _, hk => cases hk; exact hM.1 2 _ rfl
    | 1, _, hk => cases hk; exact hM.1 3 _ rfl
  refine cg_callF (x := ⟨"MeadowMilk$Wants", "wants", "(I)I"⟩) (y := yX11_wants) (C := RX14) (A := cmA h) hx hb hml hown hts hK hM.2.2 (hK.1.1 15 _ rfl).2 (vo_wants_2_5 x (h 2) (h 3) i (a 1 (58 + 14 * i + 1)) (a 14) 0 hne hxA x0 (by omega)) ⟨hP0, hO.kept (hM.2.2.2.1 x hO.lt (hB _ hx2))⟩ (fun q hq => hq.elim (fun z => ⟨2, by decide, z⟩) (fun z => ⟨3, by decide, z⟩)) ((hO.kept (hM.2.2.2.1 x hO.lt (hB _ hx2))).recv hK rfl) q1095 q1121 q1123 q76 q1125 nq nf_wants rfl (by rw [hRf]; decide) (by rw [hRl]; decide) (Nat.zero_le _) (Nat.zero_le _) hl.1 rfl (Nat.le_of_ble_eq_true rfl) dX0_voice_51 ?_
  rintro _ H locs ⟨rfl, hP1⟩ hz1 hk1 hS1
  have hM := cmH.of hI (cm_updT hI hM.1 hk1 hP1) hS1
  exact hret0 (hM.cg (f' := upd (vF f 5 i (a 1 (58 + 14 * i + 1))) 24 (nI (0 + 1 + 1))) (a' := va_up a 14 (upd (upd (a 14) 0 (nI 30)) (0 + 1) (nI 10))) rfl rfl rfl rfl rfl) (mwEq.rf) rfl rfl ⟨rfl, rfl, rfl⟩ (rfl) dX0_voice_56
set_option maxHeartbeats 400000 in
theorem ca_voice_0_6 (f : Nat → Int32) (a : Nat → Nat → Int32) (i : Nat) (hi : i < cl (a 1 3)) (hN0 : okN (a 1 3) 5) (hkd : a 1 (58 + 14 * i + 0) = nI 6) (x0 : Int32) : CmF yX0_voice cX0_voice 5 [(0, 56, 84, 8), (57, 65, 84, 8), (66, 74, 84, 8), (75, 83, 84, 8)] 3 82 [.int (nI i), .int (nI 0), .int x0] f a (x0 + (vF f 6 i (a 1 (58 + 14 * i + 1)) 26)) (upd (vF f 6 i (a 1 (58 + 14 * i + 1))) 24 (nI (0 + 1))) (va_up a 14 (upd (a 14) 0 (nI 10))) := by
  refine CmF.ofI (by decide) rfl (Nat.le_of_ble_eq_true rfl) ?_
  intro p l e R s m args below meth c Q D dA h fc wk hd ri rt cw tx nm B S ls hx hb hml hRf hRl hRc hRs htab hts hown hK hI hB hS0 hQ hN hIm hZ hSh hM hl hret hret0
  have hl : lv_has ls 5 [(0, .ref (h 0)), (1, .int (nI i)), (2, .int (nI 0)), (3, .int x0)] := hl
  have hN2 := hN0.2
  refine lv_aload_n hx hb dX0_voice_0 rfl (lv_at hl 0 rfl) ?_
  refine lv_iload_n hx hb dX0_voice_1 rfl (lv_at hl 1 rfl) ?_
  refine lv_iload_n hx hb dX0_voice_2 rfl (lv_at hl 2 rfl) ?_
  refine lv_iconst (v := nI 0) hx hb dX0_voice_3 (by decide) ?_
  refine lv_iconst (v := nI 3) hx hb dX0_voice_4 (by decide) ?_
  refine st_callS (y := yX0_in) hx hb hml hown hts (cmX0_in (nI 0) (nI 0) (nI 3)) q330 q331 q61 q332 ndX0_in rfl (by rw [hRf]; decide) (by rw [hRl]; decide) (Nat.zero_le _) (Nat.zero_le _) hl.1 rfl (Nat.le_of_ble_eq_true rfl) dX0_voice_5 ?_
  obtain ⟨x, hx1, hx2, hx3⟩ := hQ.1.1 i hi
  refine cg_callV (y := yX0_cowAt) (b := h 0) (C := RX0) (As := [.int (nI i), .int (iI (nI 0 ≤ nI 0 ∧ nI 0 ≤ nI 3))]) hx hb hml hown hts hK hM.2.2 (ca_cowAt_ok D dA h _ _ _ _ _ _ _ _ _ _ hI i x (nI 0 ≤ nI 0 ∧ nI 0 ≤ nI 3) hN0 hi ((in_nat (by decide)).mpr ⟨_, by omega, rfl⟩) hx1) hM.1 (fun q hq => hq) (cAt.recv hK (hM.1 0 _ rfl) rfl) q508 q510 qs3 q61 q511 ndX0_cowAt rfl (by rw [hRf]; decide) (by rw [hRl]; decide) (Nat.zero_le _) (Nat.zero_le _) hl.1 rfl (Nat.le_of_ble_eq_true rfl) dX0_voice_8 ?_
  rintro _ H locs ⟨rfl, hP1⟩ hz1 hk1 hS1
  have hM := cmH.of hI hP1 hS1
  refine lv_astore (lv' := [(4, .ref x), (0, .ref (h 0)), (1, .int (nI i)), (2, .int (nI 0)), (3, .int x0)]) hx hb dX0_voice_11 hl (by decide) rfl (fun ls hl => ?_)
  refine lv_aload_n hx hb dX0_voice_13 rfl (lv_at hl 1 rfl) ?_
  refine c_get (v := .ref (h 2)) hx hb hts in_X0 hown hK (hM.1 0 _ rfl) rfl 5 (by decide) q291 rfl rfl dX0_voice_14 ?_
  refine lv_iconst (v := nI 0) hx hb dX0_voice_17 (by decide) ?_
  have nq := hK.F 15 rfl
  refine cm_put_tmany hx hb hts hown hK hI hM nq dX0_voice_18 (fun H locs hM => ?_)
  refine lv_iload_n hx hb dX0_voice_21 rfl (lv_at hl 3 rfl) ?_
  refine lv_tableIn (off := 26) (tgt := 48) hx hb dX0_voice_22 (by decide) (by decide) (by rfl) (by decide) ?_
  refine lv_aload hx hb dX0_voice_48 (lv_at hl 0 rfl) ?_
  refine lv_iload_n hx hb dX0_voice_50 rfl (lv_at hl 4 rfl) ?_
  have nq := hK.I 6 rfl
  have hO := hx3
  rw [show cl (a 1 (58 + 14 * i + 0)) = 6 by rw [hkd]; rfl] at hO
  have hxA : ¬ voA (h 2) (h 3) x := fun q => hB _ hx2 (q.elim (fun z => ⟨2, by decide, z⟩) (fun z => ⟨3, by decide, z⟩))
  have hne : h 2 ≠ h 3 := fun z => absurd (hI 2 (by decide) 3 (by decide) z) (by decide)
  have hP0 : va_P D cmCl (voWs dA (h 2) (h 3) 0 (a 14)) H := fun k q hk => by
    have h2 : k < 2 := (List.getElem?_eq_some_iff.mp hk).1
    match k, h2, hk with
    | 0, _, hk => cases hk; exact hM.1 2 _ rfl
    | 1, _, hk => cases hk; exact hM.1 3 _ rfl
  refine cg_callF (x := ⟨"MeadowMilk$Wants", "wants", "(I)I"⟩) (y := yX9_wants) (C := RX15) (A := cmA h) hx hb hml hown hts hK hM.2.2 (hK.1.1 16 _ rfl).2 (vo_wants_0_6 x (h 2) (h 3) i (a 1 (58 + 14 * i + 1)) (a 14) 0 hne hxA x0 (by omega)) ⟨hP0, hO.kept (hM.2.2.2.1 x hO.lt (hB _ hx2))⟩ (fun q hq => hq.elim (fun z => ⟨2, by decide, z⟩) (fun z => ⟨3, by decide, z⟩)) ((hO.kept (hM.2.2.2.1 x hO.lt (hB _ hx2))).recv hK rfl) q1095 q1118 q1101 q74 q1103 nq nf_wants rfl (by rw [hRf]; decide) (by rw [hRl]; decide) (Nat.zero_le _) (Nat.zero_le _) hl.1 rfl (Nat.le_of_ble_eq_true rfl) dX0_voice_51 ?_
  rintro _ H locs ⟨rfl, hP1⟩ hz1 hk1 hS1
  have hM := cmH.of hI (cm_updT hI hM.1 hk1 hP1) hS1
  exact hret0 (hM.cg (f' := upd (vF f 6 i (a 1 (58 + 14 * i + 1))) 24 (nI (0 + 1))) (a' := va_up a 14 (upd (a 14) 0 (nI 10))) rfl rfl rfl rfl rfl) (mwEq.rf) rfl rfl ⟨rfl, rfl, rfl⟩ (rfl) dX0_voice_56
set_option maxHeartbeats 400000 in
theorem ca_voice_1_0 (f : Nat → Int32) (a : Nat → Nat → Int32) (i : Nat) (hi : i < cl (a 1 3)) (hN0 : okN (a 1 3) 5) (hkd : a 1 (58 + 14 * i + 0) = nI 0) (x0 : Int32) : CmF yX0_voice cX0_voice 5 [(0, 56, 84, 8), (57, 65, 84, 8), (66, 74, 84, 8), (75, 83, 84, 8)] 3 82 [.int (nI i), .int (nI 1), .int x0] f a ((x0 + (vF f 0 i (a 1 (58 + 14 * i + 1)) 26)) * (nI 2)) (upd (vF f 0 i (a 1 (58 + 14 * i + 1))) 24 (nI (0 + 1 + 1))) (va_up a 14 (upd (upd (a 14) 0 (nI 11)) (0 + 1) (nI 10))) := by
  refine CmF.ofI (by decide) rfl (Nat.le_of_ble_eq_true rfl) ?_
  intro p l e R s m args below meth c Q D dA h fc wk hd ri rt cw tx nm B S ls hx hb hml hRf hRl hRc hRs htab hts hown hK hI hB hS0 hQ hN hIm hZ hSh hM hl hret hret0
  have hl : lv_has ls 5 [(0, .ref (h 0)), (1, .int (nI i)), (2, .int (nI 1)), (3, .int x0)] := hl
  have hN2 := hN0.2
  refine lv_aload_n hx hb dX0_voice_0 rfl (lv_at hl 0 rfl) ?_
  refine lv_iload_n hx hb dX0_voice_1 rfl (lv_at hl 1 rfl) ?_
  refine lv_iload_n hx hb dX0_voice_2 rfl (lv_at hl 2 rfl) ?_
  refine lv_iconst (v := nI 0) hx hb dX0_voice_3 (by decide) ?_
  refine lv_iconst (v := nI 3) hx hb dX0_voice_4 (by decide) ?_
  refine st_callS (y := yX0_in) hx hb hml hown hts (cmX0_in (nI 1) (nI 0) (nI 3)) q330 q331 q61 q332 ndX0_in rfl (by rw [hRf]; decide) (by rw [hRl]; decide) (Nat.zero_le _) (Nat.zero_le _) hl.1 rfl (Nat.le_of_ble_eq_true rfl) dX0_voice_5 ?_
  obtain ⟨x, hx1, hx2, hx3⟩ := hQ.1.1 i hi
  refine cg_callV (y := yX0_cowAt) (b := h 0) (C := RX0) (As := [.int (nI i), .int (iI (nI 0 ≤ nI 1 ∧ nI 1 ≤ nI 3))]) hx hb hml hown hts hK hM.2.2 (ca_cowAt_ok D dA h _ _ _ _ _ _ _ _ _ _ hI i x (nI 0 ≤ nI 1 ∧ nI 1 ≤ nI 3) hN0 hi ((in_nat (by decide)).mpr ⟨_, by omega, rfl⟩) hx1) hM.1 (fun q hq => hq) (cAt.recv hK (hM.1 0 _ rfl) rfl) q508 q510 qs3 q61 q511 ndX0_cowAt rfl (by rw [hRf]; decide) (by rw [hRl]; decide) (Nat.zero_le _) (Nat.zero_le _) hl.1 rfl (Nat.le_of_ble_eq_true rfl) dX0_voice_8 ?_
  rintro _ H locs ⟨rfl, hP1⟩ hz1 hk1 hS1
  have hM := cmH.of hI hP1 hS1
  refine lv_astore (lv' := [(4, .ref x), (0, .ref (h 0)), (1, .int (nI i)), (2, .int (nI 1)), (3, .int x0)]) hx hb dX0_voice_11 hl (by decide) rfl (fun ls hl => ?_)
  refine lv_aload_n hx hb dX0_voice_13 rfl (lv_at hl 1 rfl) ?_
  refine c_get (v := .ref (h 2)) hx hb hts in_X0 hown hK (hM.1 0 _ rfl) rfl 5 (by decide) q291 rfl rfl dX0_voice_14 ?_
  refine lv_iconst (v := nI 0) hx hb dX0_voice_17 (by decide) ?_
  have nq := hK.F 15 rfl
  refine cm_put_tmany hx hb hts hown hK hI hM nq dX0_voice_18 (fun H locs hM => ?_)
  refine lv_iload_n hx hb dX0_voice_21 rfl (lv_at hl 3 rfl) ?_
  refine lv_tableIn (off := 35) (tgt := 57) hx hb dX0_voice_22 (by decide) (by decide) (by rfl) (by decide) ?_
  refine lv_aload hx hb dX0_voice_57 (lv_at hl 0 rfl) ?_
  refine lv_iload_n hx hb dX0_voice_59 rfl (lv_at hl 4 rfl) ?_
  have nq := hK.I 7 rfl
  have hO := hx3
  rw [show cl (a 1 (58 + 14 * i + 0)) = 0 by rw [hkd]; rfl] at hO
  have hxA : ¬ voA (h 2) (h 3) x := fun q => hB _ hx2 (q.elim (fun z => ⟨2, by decide, z⟩) (fun z => ⟨3, by decide, z⟩))
  have hne : h 2 ≠ h 3 := fun z => absurd (hI 2 (by decide) 3 (by decide) z) (by decide)
  have hP0 : va_P D cmCl (voWs dA (h 2) (h 3) 0 (a 14)) H := fun k q hk => by
    have h2 : k < 2 := (List.getElem?_eq_some_iff.mp hk).1
    match k, h2, hk with
    | 0, _, hk => cases hk; exact hM.1 2 _ rfl
    | 1, _, hk => cases hk; exact hM.1 3 _ rfl
  refine cg_callF (x := ⟨"MeadowMilk$Eats", "eats", "(I)I"⟩) (y := yX9_eats) (C := RX9) (A := cmA h) hx hb hml hown hts hK hM.2.2 (hK.1.1 10 _ rfl).2 (vo_eats_0_0 x (h 2) (h 3) i (a 1 (58 + 14 * i + 1)) (a 14) 0 hne hxA x0 (by omega)) ⟨hP0, hO.kept (hM.2.2.2.1 x hO.lt (hB _ hx2))⟩ (fun q hq => hq.elim (fun z => ⟨2, by decide, z⟩) (fun z => ⟨3, by decide, z⟩)) ((hO.kept (hM.2.2.2.1 x hO.lt (hB _ hx2))).recv hK rfl) q1132 q1136 q1138 q74 q1140 nq nf_eats rfl (by rw [hRf]; decide) (by rw [hRl]; decide) (Nat.zero_le _) (Nat.zero_le _) hl.1 rfl (Nat.le_of_ble_eq_true rfl) dX0_voice_60 ?_
  rintro _ H locs ⟨rfl, hP1⟩ hz1 hk1 hS1
  have hM := cmH.of hI (cm_updT hI hM.1 hk1 hP1) hS1
  exact hret0 (hM.cg (f' := upd (vF f 0 i (a 1 (58 + 14 * i + 1))) 24 (nI (0 + 1 + 1))) (a' := va_up a 14 (upd (upd (a 14) 0 (nI 11)) (0 + 1) (nI 10))) rfl rfl rfl rfl rfl) (mwEq.rf) rfl rfl ⟨rfl, rfl, rfl⟩ (rfl) dX0_voice_65
set_option maxHeartbeats 400000 in
theorem ca_voice_1_1 (f : Nat → Int32) (a : Nat → Nat → Int32) (i : Nat) (hi : i < cl (a 1 3)) (hN0 : okN (a 1 3) 5) (hkd : a 1 (58 + 14 * i + 0) = nI 1) (x0 : Int32) : CmF yX0_voice cX0_voice 5 [(0, 56, 84, 8), (57, 65, 84, 8), (66, 74, 84, 8), (75, 83, 84, 8)] 4 85 [.int (nI i), .int (nI 1), .int x0] f a (((x0 + (vF f 1 i (a 1 (58 + 14 * i + 1)) 26)) * (nI 2)) - ((nI 1) - (vF f 1 i (a 1 (58 + 14 * i + 1)) 27))) (upd (vF f 1 i (a 1 (58 + 14 * i + 1))) 24 (nI (0 + 1 + 1 + 1 + 1))) (va_up a 14 (upd (upd (upd (upd (a 14) 0 (nI 20)) (0 + 1) (nI 11)) (0 + 1 + 1) (nI 10)) (0 + 1 + 1 + 1) (nI 12))) := by
  refine CmF.ofI (by decide) rfl (Nat.le_of_ble_eq_true rfl) ?_
  intro p l e R s m args below meth c Q D dA h fc wk hd ri rt cw tx nm B S ls hx hb hml hRf hRl hRc hRs htab hts hown hK hI hB hS0 hQ hN hIm hZ hSh hM hl hret hret0
  have hl : lv_has ls 5 [(0, .ref (h 0)), (1, .int (nI i)), (2, .int (nI 1)), (3, .int x0)] := hl
  have hN2 := hN0.2
  refine lv_aload_n hx hb dX0_voice_0 rfl (lv_at hl 0 rfl) ?_
  refine lv_iload_n hx hb dX0_voice_1 rfl (lv_at hl 1 rfl) ?_
  refine lv_iload_n hx hb dX0_voice_2 rfl (lv_at hl 2 rfl) ?_
  refine lv_iconst (v := nI 0) hx hb dX0_voice_3 (by decide) ?_
  refine lv_iconst (v := nI 3) hx hb dX0_voice_4 (by decide) ?_
  refine st_callS (y := yX0_in) hx hb hml hown hts (cmX0_in (nI 1) (nI 0) (nI 3)) q330 q331 q61 q332 ndX0_in rfl (by rw [hRf]; decide) (by rw [hRl]; decide) (Nat.zero_le _) (Nat.zero_le _) hl.1 rfl (Nat.le_of_ble_eq_true rfl) dX0_voice_5 ?_
  obtain ⟨x, hx1, hx2, hx3⟩ := hQ.1.1 i hi
  refine cg_callV (y := yX0_cowAt) (b := h 0) (C := RX0) (As := [.int (nI i), .int (iI (nI 0 ≤ nI 1 ∧ nI 1 ≤ nI 3))]) hx hb hml hown hts hK hM.2.2 (ca_cowAt_ok D dA h _ _ _ _ _ _ _ _ _ _ hI i x (nI 0 ≤ nI 1 ∧ nI 1 ≤ nI 3) hN0 hi ((in_nat (by decide)).mpr ⟨_, by omega, rfl⟩) hx1) hM.1 (fun q hq => hq) (cAt.recv hK (hM.1 0 _ rfl) rfl) q508 q510 qs3 q61 q511 ndX0_cowAt rfl (by rw [hRf]; decide) (by rw [hRl]; decide) (Nat.zero_le _) (Nat.zero_le _) hl.1 rfl (Nat.le_of_ble_eq_true rfl) dX0_voice_8 ?_
  rintro _ H locs ⟨rfl, hP1⟩ hz1 hk1 hS1
  have hM := cmH.of hI hP1 hS1
  refine lv_astore (lv' := [(4, .ref x), (0, .ref (h 0)), (1, .int (nI i)), (2, .int (nI 1)), (3, .int x0)]) hx hb dX0_voice_11 hl (by decide) rfl (fun ls hl => ?_)
  refine lv_aload_n hx hb dX0_voice_13 rfl (lv_at hl 1 rfl) ?_
  refine c_get (v := .ref (h 2)) hx hb hts in_X0 hown hK (hM.1 0 _ rfl) rfl 5 (by decide) q291 rfl rfl dX0_voice_14 ?_
  refine lv_iconst (v := nI 0) hx hb dX0_voice_17 (by decide) ?_
  have nq := hK.F 15 rfl
  refine cm_put_tmany hx hb hts hown hK hI hM nq dX0_voice_18 (fun H locs hM => ?_)
  refine lv_iload_n hx hb dX0_voice_21 rfl (lv_at hl 3 rfl) ?_
  refine lv_tableIn (off := 35) (tgt := 57) hx hb dX0_voice_22 (by decide) (by decide) (by rfl) (by decide) ?_
  refine lv_aload hx hb dX0_voice_57 (lv_at hl 0 rfl) ?_
  refine lv_iload_n hx hb dX0_voice_59 rfl (lv_at hl 4 rfl) ?_
  have nq := hK.I 8 rfl
  have hO := hx3
  rw [show cl (a 1 (58 + 14 * i + 0)) = 1 by rw [hkd]; rfl] at hO
  have hxA : ¬ voA (h 2) (h 3) x := fun q => hB _ hx2 (q.elim (fun z => ⟨2, by decide, z⟩) (fun z => ⟨3, by decide, z⟩))
  have hne : h 2 ≠ h 3 := fun z => absurd (hI 2 (by decide) 3 (by decide) z) (by decide)
  have hP0 : va_P D cmCl (voWs dA (h 2) (h 3) 0 (a 14)) H := fun k q hk => by
    have h2 : k < 2 := (List.getElem?_eq_some_iff.mp hk).1
    match k, h2, hk with
    | 0, _, hk => cases hk; exact hM.1 2 _ rfl
    | 1, _, hk => cases hk; exact hM.1 3 _ rfl
  refine cg_callF (x := ⟨"MeadowMilk$Eats", "eats", "(I)I"⟩) (y := yX10_eats) (C := RX10) (A := cmA h) hx hb hml hown hts hK hM.2.2 (hK.1.1 11 _ rfl).2 (vo_eats_1_1 x (h 2) (h 3) i (a 1 (58 + 14 * i + 1)) (a 14) 0 hne hxA x0 (by omega)) ⟨hP0, hO.kept (hM.2.2.2.1 x hO.lt (hB _ hx2))⟩ (fun q hq => hq.elim (fun z => ⟨2, by decide, z⟩) (fun z => ⟨3, by decide, z⟩)) ((hO.kept (hM.2.2.2.1 x hO.lt (hB _ hx2))).recv hK rfl) q1132 q1143 q1145 q75 q1147 nq nf_eats rfl (by rw [hRf]; decide) (by rw [hRl]; decide) (Nat.zero_le _) (Nat.zero_le _) hl.1 rfl (Nat.le_of_ble_eq_true rfl) dX0_voice_60 ?_
  rintro _ H locs ⟨rfl, hP1⟩ hz1 hk1 hS1
  have hM := cmH.of hI (cm_updT hI hM.1 hk1 hP1) hS1
  exact hret0 (hM.cg (f' := upd (vF f 1 i (a 1 (58 + 14 * i + 1))) 24 (nI (0 + 1 + 1 + 1 + 1))) (a' := va_up a 14 (upd (upd (upd (upd (a 14) 0 (nI 20)) (0 + 1) (nI 11)) (0 + 1 + 1) (nI 10)) (0 + 1 + 1 + 1) (nI 12))) rfl rfl rfl rfl rfl) (mwEq.rf) rfl rfl ⟨rfl, rfl, rfl⟩ (rfl) dX0_voice_65
set_option maxHeartbeats 400000 in
theorem ca_voice_1_2 (f : Nat → Int32) (a : Nat → Nat → Int32) (i : Nat) (hi : i < cl (a 1 3)) (hN0 : okN (a 1 3) 5) (hkd : a 1 (58 + 14 * i + 0) = nI 2) (x0 : Int32) : CmF yX0_voice cX0_voice 5 [(0, 56, 84, 8), (57, 65, 84, 8), (66, 74, 84, 8), (75, 83, 84, 8)] 4 84 [.int (nI i), .int (nI 1), .int x0] f a (((x0 + (vF f 2 i (a 1 (58 + 14 * i + 1)) 26)) * (nI 3)) * (nI 2)) (upd (vF f 2 i (a 1 (58 + 14 * i + 1))) 24 (nI (0 + 1 + 1 + 1))) (va_up a 14 (upd (upd (upd (a 14) 0 (nI 11)) (0 + 1) (nI 30)) (0 + 1 + 1) (nI 10))) := by
  refine CmF.ofI (by decide) rfl (Nat.le_of_ble_eq_true rfl) ?_
  intro p l e R s m args below meth c Q D dA h fc wk hd ri rt cw tx nm B S ls hx hb hml hRf hRl hRc hRs htab hts hown hK hI hB hS0 hQ hN hIm hZ hSh hM hl hret hret0
  have hl : lv_has ls 5 [(0, .ref (h 0)), (1, .int (nI i)), (2, .int (nI 1)), (3, .int x0)] := hl
  have hN2 := hN0.2
  refine lv_aload_n hx hb dX0_voice_0 rfl (lv_at hl 0 rfl) ?_
  refine lv_iload_n hx hb dX0_voice_1 rfl (lv_at hl 1 rfl) ?_
  refine lv_iload_n hx hb dX0_voice_2 rfl (lv_at hl 2 rfl) ?_
  refine lv_iconst (v := nI 0) hx hb dX0_voice_3 (by decide) ?_
  refine lv_iconst (v := nI 3) hx hb dX0_voice_4 (by decide) ?_
  refine st_callS (y := yX0_in) hx hb hml hown hts (cmX0_in (nI 1) (nI 0) (nI 3)) q330 q331 q61 q332 ndX0_in rfl (by rw [hRf]; decide) (by rw [hRl]; decide) (Nat.zero_le _) (Nat.zero_le _) hl.1 rfl (Nat.le_of_ble_eq_true rfl) dX0_voice_5 ?_
  obtain ⟨x, hx1, hx2, hx3⟩ := hQ.1.1 i hi
  refine cg_callV (y := yX0_cowAt) (b := h 0) (C := RX0) (As := [.int (nI i), .int (iI (nI 0 ≤ nI 1 ∧ nI 1 ≤ nI 3))]) hx hb hml hown hts hK hM.2.2 (ca_cowAt_ok D dA h _ _ _ _ _ _ _ _ _ _ hI i x (nI 0 ≤ nI 1 ∧ nI 1 ≤ nI 3) hN0 hi ((in_nat (by decide)).mpr ⟨_, by omega, rfl⟩) hx1) hM.1 (fun q hq => hq) (cAt.recv hK (hM.1 0 _ rfl) rfl) q508 q510 qs3 q61 q511 ndX0_cowAt rfl (by rw [hRf]; decide) (by rw [hRl]; decide) (Nat.zero_le _) (Nat.zero_le _) hl.1 rfl (Nat.le_of_ble_eq_true rfl) dX0_voice_8 ?_
  rintro _ H locs ⟨rfl, hP1⟩ hz1 hk1 hS1
  have hM := cmH.of hI hP1 hS1
  refine lv_astore (lv' := [(4, .ref x), (0, .ref (h 0)), (1, .int (nI i)), (2, .int (nI 1)), (3, .int x0)]) hx hb dX0_voice_11 hl (by decide) rfl (fun ls hl => ?_)
  refine lv_aload_n hx hb dX0_voice_13 rfl (lv_at hl 1 rfl) ?_
  refine c_get (v := .ref (h 2)) hx hb hts in_X0 hown hK (hM.1 0 _ rfl) rfl 5 (by decide) q291 rfl rfl dX0_voice_14 ?_
  refine lv_iconst (v := nI 0) hx hb dX0_voice_17 (by decide) ?_
  have nq := hK.F 15 rfl
  refine cm_put_tmany hx hb hts hown hK hI hM nq dX0_voice_18 (fun H locs hM => ?_)
  refine lv_iload_n hx hb dX0_voice_21 rfl (lv_at hl 3 rfl) ?_
  refine lv_tableIn (off := 35) (tgt := 57) hx hb dX0_voice_22 (by decide) (by decide) (by rfl) (by decide) ?_
  refine lv_aload hx hb dX0_voice_57 (lv_at hl 0 rfl) ?_
  refine lv_iload_n hx hb dX0_voice_59 rfl (lv_at hl 4 rfl) ?_
  have nq := hK.I 9 rfl
  have hO := hx3
  rw [show cl (a 1 (58 + 14 * i + 0)) = 2 by rw [hkd]; rfl] at hO
  have hxA : ¬ voA (h 2) (h 3) x := fun q => hB _ hx2 (q.elim (fun z => ⟨2, by decide, z⟩) (fun z => ⟨3, by decide, z⟩))
  have hne : h 2 ≠ h 3 := fun z => absurd (hI 2 (by decide) 3 (by decide) z) (by decide)
  have hP0 : va_P D cmCl (voWs dA (h 2) (h 3) 0 (a 14)) H := fun k q hk => by
    have h2 : k < 2 := (List.getElem?_eq_some_iff.mp hk).1
    match k, h2, hk with
    | 0, _, hk => cases hk; exact hM.1 2 _ rfl
    | 1, _, hk => cases hk; exact hM.1 3 _ rfl
  refine cg_callF (x := ⟨"MeadowMilk$Eats", "eats", "(I)I"⟩) (y := yX9_eats) (C := RX11) (A := cmA h) hx hb hml hown hts hK hM.2.2 (hK.1.1 12 _ rfl).2 (vo_eats_0_2 x (h 2) (h 3) i (a 1 (58 + 14 * i + 1)) (a 14) 0 hne hxA x0 (by omega)) ⟨hP0, hO.kept (hM.2.2.2.1 x hO.lt (hB _ hx2))⟩ (fun q hq => hq.elim (fun z => ⟨2, by decide, z⟩) (fun z => ⟨3, by decide, z⟩)) ((hO.kept (hM.2.2.2.1 x hO.lt (hB _ hx2))).recv hK rfl) q1132 q1175 q1138 q74 q1140 nq nf_eats rfl (by rw [hRf]; decide) (by rw [hRl]; decide) (Nat.zero_le _) (Nat.zero_le _) hl.1 rfl (Nat.le_of_ble_eq_true rfl) dX0_voice_60 ?_
  rintro _ H locs ⟨rfl, hP1⟩ hz1 hk1 hS1
  have hM := cmH.of hI (cm_updT hI hM.1 hk1 hP1) hS1
  exact hret0 (hM.cg (f' := upd (vF f 2 i (a 1 (58 + 14 * i + 1))) 24 (nI (0 + 1 + 1 + 1))) (a' := va_up a 14 (upd (upd (upd (a 14) 0 (nI 11)) (0 + 1) (nI 30)) (0 + 1 + 1) (nI 10))) rfl rfl rfl rfl rfl) (mwEq.rf) rfl rfl ⟨rfl, rfl, rfl⟩ (rfl) dX0_voice_65
set_option maxHeartbeats 400000 in
theorem ca_voice_1_3 (f : Nat → Int32) (a : Nat → Nat → Int32) (i : Nat) (hi : i < cl (a 1 3)) (hN0 : okN (a 1 3) 5) (hkd : a 1 (58 + 14 * i + 0) = nI 3) (x0 : Int32) : CmF yX0_voice cX0_voice 5 [(0, 56, 84, 8), (57, 65, 84, 8), (66, 74, 84, 8), (75, 83, 84, 8)] 3 82 [.int (nI i), .int (nI 1), .int x0] f a ((x0 + (vF f 3 i (a 1 (58 + 14 * i + 1)) 26)) * (nI 2)) (upd (vF f 3 i (a 1 (58 + 14 * i + 1))) 24 (nI (0 + 1 + 1))) (va_up a 14 (upd (upd (a 14) 0 (nI 11)) (0 + 1) (nI 10))) := by
  refine CmF.ofI (by decide) rfl (Nat.le_of_ble_eq_true rfl) ?_
  intro p l e R s m args below meth c Q D dA h fc wk hd ri rt cw tx nm B S ls hx hb hml hRf hRl hRc hRs htab hts hown hK hI hB hS0 hQ hN hIm hZ hSh hM hl hret hret0
  have hl : lv_has ls 5 [(0, .ref (h 0)), (1, .int (nI i)), (2, .int (nI 1)), (3, .int x0)] := hl
  have hN2 := hN0.2
  refine lv_aload_n hx hb dX0_voice_0 rfl (lv_at hl 0 rfl) ?_
  refine lv_iload_n hx hb dX0_voice_1 rfl (lv_at hl 1 rfl) ?_
  refine lv_iload_n hx hb dX0_voice_2 rfl (lv_at hl 2 rfl) ?_
  refine lv_iconst (v := nI 0) hx hb dX0_voice_3 (by decide) ?_
  refine lv_iconst (v := nI 3) hx hb dX0_voice_4 (by decide) ?_
  refine st_callS (y := yX0_in) hx hb hml hown hts (cmX0_in (nI 1) (nI 0) (nI 3)) q330 q331 q61 q332 ndX0_in rfl (by rw [hRf]; decide) (by rw [hRl]; decide) (Nat.zero_le _) (Nat.zero_le _) hl.1 rfl (Nat.le_of_ble_eq_true rfl) dX0_voice_5 ?_
  obtain ⟨x, hx1, hx2, hx3⟩ := hQ.1.1 i hi
  refine cg_callV (y := yX0_cowAt) (b := h 0) (C := RX0) (As := [.int (nI i), .int (iI (nI 0 ≤ nI 1 ∧ nI 1 ≤ nI 3))]) hx hb hml hown hts hK hM.2.2 (ca_cowAt_ok D dA h _ _ _ _ _ _ _ _ _ _ hI i x (nI 0 ≤ nI 1 ∧ nI 1 ≤ nI 3) hN0 hi ((in_nat (by decide)).mpr ⟨_, by omega, rfl⟩) hx1) hM.1 (fun q hq => hq) (cAt.recv hK (hM.1 0 _ rfl) rfl) q508 q510 qs3 q61 q511 ndX0_cowAt rfl (by rw [hRf]; decide) (by rw [hRl]; decide) (Nat.zero_le _) (Nat.zero_le _) hl.1 rfl (Nat.le_of_ble_eq_true rfl) dX0_voice_8 ?_
  rintro _ H locs ⟨rfl, hP1⟩ hz1 hk1 hS1
  have hM := cmH.of hI hP1 hS1
  refine lv_astore (lv' := [(4, .ref x), (0, .ref (h 0)), (1, .int (nI i)), (2, .int (nI 1)), (3, .int x0)]) hx hb dX0_voice_11 hl (by decide) rfl (fun ls hl => ?_)
  refine lv_aload_n hx hb dX0_voice_13 rfl (lv_at hl 1 rfl) ?_
  refine c_get (v := .ref (h 2)) hx hb hts in_X0 hown hK (hM.1 0 _ rfl) rfl 5 (by decide) q291 rfl rfl dX0_voice_14 ?_
  refine lv_iconst (v := nI 0) hx hb dX0_voice_17 (by decide) ?_
  have nq := hK.F 15 rfl
  refine cm_put_tmany hx hb hts hown hK hI hM nq dX0_voice_18 (fun H locs hM => ?_)
  refine lv_iload_n hx hb dX0_voice_21 rfl (lv_at hl 3 rfl) ?_
  refine lv_tableIn (off := 35) (tgt := 57) hx hb dX0_voice_22 (by decide) (by decide) (by rfl) (by decide) ?_
  refine lv_aload hx hb dX0_voice_57 (lv_at hl 0 rfl) ?_
  refine lv_iload_n hx hb dX0_voice_59 rfl (lv_at hl 4 rfl) ?_
  have nq := hK.I 10 rfl
  have hO := hx3
  rw [show cl (a 1 (58 + 14 * i + 0)) = 3 by rw [hkd]; rfl] at hO
  have hxA : ¬ voA (h 2) (h 3) x := fun q => hB _ hx2 (q.elim (fun z => ⟨2, by decide, z⟩) (fun z => ⟨3, by decide, z⟩))
  have hne : h 2 ≠ h 3 := fun z => absurd (hI 2 (by decide) 3 (by decide) z) (by decide)
  have hP0 : va_P D cmCl (voWs dA (h 2) (h 3) 0 (a 14)) H := fun k q hk => by
    have h2 : k < 2 := (List.getElem?_eq_some_iff.mp hk).1
    match k, h2, hk with
    | 0, _, hk => cases hk; exact hM.1 2 _ rfl
    | 1, _, hk => cases hk; exact hM.1 3 _ rfl
  refine cg_callF (x := ⟨"MeadowMilk$Eats", "eats", "(I)I"⟩) (y := yX9_eats) (C := RX12) (A := cmA h) hx hb hml hown hts hK hM.2.2 (hK.1.1 13 _ rfl).2 (vo_eats_0_3 x (h 2) (h 3) i (a 1 (58 + 14 * i + 1)) (a 14) 0 hne hxA x0 (by omega)) ⟨hP0, hO.kept (hM.2.2.2.1 x hO.lt (hB _ hx2))⟩ (fun q hq => hq.elim (fun z => ⟨2, by decide, z⟩) (fun z => ⟨3, by decide, z⟩)) ((hO.kept (hM.2.2.2.1 x hO.lt (hB _ hx2))).recv hK rfl) q1132 q1158 q1138 q74 q1140 nq nf_eats rfl (by rw [hRf]; decide) (by rw [hRl]; decide) (Nat.zero_le _) (Nat.zero_le _) hl.1 rfl (Nat.le_of_ble_eq_true rfl) dX0_voice_60 ?_
  rintro _ H locs ⟨rfl, hP1⟩ hz1 hk1 hS1
  have hM := cmH.of hI (cm_updT hI hM.1 hk1 hP1) hS1
  exact hret0 (hM.cg (f' := upd (vF f 3 i (a 1 (58 + 14 * i + 1))) 24 (nI (0 + 1 + 1))) (a' := va_up a 14 (upd (upd (a 14) 0 (nI 11)) (0 + 1) (nI 10))) rfl rfl rfl rfl rfl) (mwEq.rf) rfl rfl ⟨rfl, rfl, rfl⟩ (rfl) dX0_voice_65
set_option maxHeartbeats 400000 in
theorem ca_voice_1_4 (f : Nat → Int32) (a : Nat → Nat → Int32) (i : Nat) (hi : i < cl (a 1 3)) (hN0 : okN (a 1 3) 5) (hkd : a 1 (58 + 14 * i + 0) = nI 4) (x0 : Int32) : CmF yX0_voice cX0_voice 5 [(0, 56, 84, 8), (57, 65, 84, 8), (66, 74, 84, 8), (75, 83, 84, 8)] 5 106 [.int (nI i), .int (nI 1), .int x0] f a ((((x0 + (nI 1)) + (vF f 4 i (a 1 (58 + 14 * i + 1)) 26)) * (nI 2)) - ((nI 1) - (vF f 4 i (a 1 (58 + 14 * i + 1)) 27))) (upd (vF f 4 i (a 1 (58 + 14 * i + 1))) 24 (nI (0 + 1 + 1 + 1 + 1 + 1))) (va_up a 14 (upd (upd (upd (upd (upd (a 14) 0 (nI 50)) (0 + 1) (nI 20)) (0 + 1 + 1) (nI 11)) (0 + 1 + 1 + 1) (nI 10)) (0 + 1 + 1 + 1 + 1) (nI 12))) := by
  refine CmF.ofI (by decide) rfl (Nat.le_of_ble_eq_true rfl) ?_
  intro p l e R s m args below meth c Q D dA h fc wk hd ri rt cw tx nm B S ls hx hb hml hRf hRl hRc hRs htab hts hown hK hI hB hS0 hQ hN hIm hZ hSh hM hl hret hret0
  have hl : lv_has ls 5 [(0, .ref (h 0)), (1, .int (nI i)), (2, .int (nI 1)), (3, .int x0)] := hl
  have hN2 := hN0.2
  refine lv_aload_n hx hb dX0_voice_0 rfl (lv_at hl 0 rfl) ?_
  refine lv_iload_n hx hb dX0_voice_1 rfl (lv_at hl 1 rfl) ?_
  refine lv_iload_n hx hb dX0_voice_2 rfl (lv_at hl 2 rfl) ?_
  refine lv_iconst (v := nI 0) hx hb dX0_voice_3 (by decide) ?_
  refine lv_iconst (v := nI 3) hx hb dX0_voice_4 (by decide) ?_
  refine st_callS (y := yX0_in) hx hb hml hown hts (cmX0_in (nI 1) (nI 0) (nI 3)) q330 q331 q61 q332 ndX0_in rfl (by rw [hRf]; decide) (by rw [hRl]; decide) (Nat.zero_le _) (Nat.zero_le _) hl.1 rfl (Nat.le_of_ble_eq_true rfl) dX0_voice_5 ?_
  obtain ⟨x, hx1, hx2, hx3⟩ := hQ.1.1 i hi
  refine cg_callV (y := yX0_cowAt) (b := h 0) (C := RX0) (As := [.int (nI i), .int (iI (nI 0 ≤ nI 1 ∧ nI 1 ≤ nI 3))]) hx hb hml hown hts hK hM.2.2 (ca_cowAt_ok D dA h _ _ _ _ _ _ _ _ _ _ hI i x (nI 0 ≤ nI 1 ∧ nI 1 ≤ nI 3) hN0 hi ((in_nat (by decide)).mpr ⟨_, by omega, rfl⟩) hx1) hM.1 (fun q hq => hq) (cAt.recv hK (hM.1 0 _ rfl) rfl) q508 q510 qs3 q61 q511 ndX0_cowAt rfl (by rw [hRf]; decide) (by rw [hRl]; decide) (Nat.zero_le _) (Nat.zero_le _) hl.1 rfl (Nat.le_of_ble_eq_true rfl) dX0_voice_8 ?_
  rintro _ H locs ⟨rfl, hP1⟩ hz1 hk1 hS1
  have hM := cmH.of hI hP1 hS1
  refine lv_astore (lv' := [(4, .ref x), (0, .ref (h 0)), (1, .int (nI i)), (2, .int (nI 1)), (3, .int x0)]) hx hb dX0_voice_11 hl (by decide) rfl (fun ls hl => ?_)
  refine lv_aload_n hx hb dX0_voice_13 rfl (lv_at hl 1 rfl) ?_
  refine c_get (v := .ref (h 2)) hx hb hts in_X0 hown hK (hM.1 0 _ rfl) rfl 5 (by decide) q291 rfl rfl dX0_voice_14 ?_
  refine lv_iconst (v := nI 0) hx hb dX0_voice_17 (by decide) ?_
  have nq := hK.F 15 rfl
  refine cm_put_tmany hx hb hts hown hK hI hM nq dX0_voice_18 (fun H locs hM => ?_)
  refine lv_iload_n hx hb dX0_voice_21 rfl (lv_at hl 3 rfl) ?_
  refine lv_tableIn (off := 35) (tgt := 57) hx hb dX0_voice_22 (by decide) (by decide) (by rfl) (by decide) ?_
  refine lv_aload hx hb dX0_voice_57 (lv_at hl 0 rfl) ?_
  refine lv_iload_n hx hb dX0_voice_59 rfl (lv_at hl 4 rfl) ?_
  have nq := hK.I 11 rfl
  have hO := hx3
  rw [show cl (a 1 (58 + 14 * i + 0)) = 4 by rw [hkd]; rfl] at hO
  have hxA : ¬ voA (h 2) (h 3) x := fun q => hB _ hx2 (q.elim (fun z => ⟨2, by decide, z⟩) (fun z => ⟨3, by decide, z⟩))
  have hne : h 2 ≠ h 3 := fun z => absurd (hI 2 (by decide) 3 (by decide) z) (by decide)
  have hP0 : va_P D cmCl (voWs dA (h 2) (h 3) 0 (a 14)) H := fun k q hk => by
    have h2 : k < 2 := (List.getElem?_eq_some_iff.mp hk).1
    match k, h2, hk with
    | 0, _, hk => cases hk; exact hM.1 2 _ rfl
    | 1, _, hk => cases hk; exact hM.1 3 _ rfl
  refine cg_callF (x := ⟨"MeadowMilk$Eats", "eats", "(I)I"⟩) (y := yX13_eats) (C := RX13) (A := cmA h) hx hb hml hown hts hK hM.2.2 (hK.1.1 14 _ rfl).2 (vo_eats_4_4 x (h 2) (h 3) i (a 1 (58 + 14 * i + 1)) (a 14) 0 hne hxA x0 (by omega)) ⟨hP0, hO.kept (hM.2.2.2.1 x hO.lt (hB _ hx2))⟩ (fun q hq => hq.elim (fun z => ⟨2, by decide, z⟩) (fun z => ⟨3, by decide, z⟩)) ((hO.kept (hM.2.2.2.1 x hO.lt (hB _ hx2))).recv hK rfl) q1132 q1161 q1163 q78 q1165 nq nf_eats rfl (by rw [hRf]; decide) (by rw [hRl]; decide) (Nat.zero_le _) (Nat.zero_le _) hl.1 rfl (Nat.le_of_ble_eq_true rfl) dX0_voice_60 ?_
  rintro _ H locs ⟨rfl, hP1⟩ hz1 hk1 hS1
  have hM := cmH.of hI (cm_updT hI hM.1 hk1 hP1) hS1
  exact hret0 (hM.cg (f' := upd (vF f 4 i (a 1 (58 + 14 * i + 1))) 24 (nI (0 + 1 + 1 + 1 + 1 + 1))) (a' := va_up a 14 (upd (upd (upd (upd (upd (a 14) 0 (nI 50)) (0 + 1) (nI 20)) (0 + 1 + 1) (nI 11)) (0 + 1 + 1 + 1) (nI 10)) (0 + 1 + 1 + 1 + 1) (nI 12))) rfl rfl rfl rfl rfl) (mwEq.rf) rfl rfl ⟨rfl, rfl, rfl⟩ (rfl) dX0_voice_65
set_option maxHeartbeats 400000 in
theorem ca_voice_1_5 (f : Nat → Int32) (a : Nat → Nat → Int32) (i : Nat) (hi : i < cl (a 1 3)) (hN0 : okN (a 1 3) 5) (hkd : a 1 (58 + 14 * i + 0) = nI 5) (x0 : Int32) : CmF yX0_voice cX0_voice 5 [(0, 56, 84, 8), (57, 65, 84, 8), (66, 74, 84, 8), (75, 83, 84, 8)] 4 84 [.int (nI i), .int (nI 1), .int x0] f a (((x0 + (vF f 5 i (a 1 (58 + 14 * i + 1)) 26)) * (nI 3)) * (nI 2)) (upd (vF f 5 i (a 1 (58 + 14 * i + 1))) 24 (nI (0 + 1 + 1 + 1))) (va_up a 14 (upd (upd (upd (a 14) 0 (nI 11)) (0 + 1) (nI 30)) (0 + 1 + 1) (nI 10))) := by
  refine CmF.ofI (by decide) rfl (Nat.le_of_ble_eq_true rfl) ?_
  intro p l e R s m args below meth c Q D dA h fc wk hd ri rt cw tx nm B S ls hx hb hml hRf hRl hRc hRs htab hts hown hK hI hB hS0 hQ hN hIm hZ hSh hM hl hret hret0
  have hl : lv_has ls 5 [(0, .ref (h 0)), (1, .int (nI i)), (2, .int (nI 1)), (3, .int x0)] := hl
  have hN2 := hN0.2
  refine lv_aload_n hx hb dX0_voice_0 rfl (lv_at hl 0 rfl) ?_
  refine lv_iload_n hx hb dX0_voice_1 rfl (lv_at hl 1 rfl) ?_
  refine lv_iload_n hx hb dX0_voice_2 rfl (lv_at hl 2 rfl) ?_
  refine lv_iconst (v := nI 0) hx hb dX0_voice_3 (by decide) ?_
  refine lv_iconst (v := nI 3) hx hb dX0_voice_4 (by decide) ?_
  refine st_callS (y := yX0_in) hx hb hml hown hts (cmX0_in (nI 1) (nI 0) (nI 3)) q330 q331 q61 q332 ndX0_in rfl (by rw [hRf]; decide) (by rw [hRl]; decide) (Nat.zero_le _) (Nat.zero_le _) hl.1 rfl (Nat.le_of_ble_eq_true rfl) dX0_voice_5 ?_
  obtain ⟨x, hx1, hx2, hx3⟩ := hQ.1.1 i hi
  refine cg_callV (y := yX0_cowAt) (b := h 0) (C := RX0) (As := [.int (nI i), .int (iI (nI 0 ≤ nI 1 ∧ nI 1 ≤ nI 3))]) hx hb hml hown hts hK hM.2.2 (ca_cowAt_ok D dA h _ _ _ _ _ _ _ _ _ _ hI i x (nI 0 ≤ nI 1 ∧ nI 1 ≤ nI 3) hN0 hi ((in_nat (by decide)).mpr ⟨_, by omega, rfl⟩) hx1) hM.1 (fun q hq => hq) (cAt.recv hK (hM.1 0 _ rfl) rfl) q508 q510 qs3 q61 q511 ndX0_cowAt rfl (by rw [hRf]; decide) (by rw [hRl]; decide) (Nat.zero_le _) (Nat.zero_le _) hl.1 rfl (Nat.le_of_ble_eq_true rfl) dX0_voice_8 ?_
  rintro _ H locs ⟨rfl, hP1⟩ hz1 hk1 hS1
  have hM := cmH.of hI hP1 hS1
  refine lv_astore (lv' := [(4, .ref x), (0, .ref (h 0)), (1, .int (nI i)), (2, .int (nI 1)), (3, .int x0)]) hx hb dX0_voice_11 hl (by decide) rfl (fun ls hl => ?_)
  refine lv_aload_n hx hb dX0_voice_13 rfl (lv_at hl 1 rfl) ?_
  refine c_get (v := .ref (h 2)) hx hb hts in_X0 hown hK (hM.1 0 _ rfl) rfl 5 (by decide) q291 rfl rfl dX0_voice_14 ?_
  refine lv_iconst (v := nI 0) hx hb dX0_voice_17 (by decide) ?_
  have nq := hK.F 15 rfl
  refine cm_put_tmany hx hb hts hown hK hI hM nq dX0_voice_18 (fun H locs hM => ?_)
  refine lv_iload_n hx hb dX0_voice_21 rfl (lv_at hl 3 rfl) ?_
  refine lv_tableIn (off := 35) (tgt := 57) hx hb dX0_voice_22 (by decide) (by decide) (by rfl) (by decide) ?_
  refine lv_aload hx hb dX0_voice_57 (lv_at hl 0 rfl) ?_
  refine lv_iload_n hx hb dX0_voice_59 rfl (lv_at hl 4 rfl) ?_
  have nq := hK.I 12 rfl
  have hO := hx3
  rw [show cl (a 1 (58 + 14 * i + 0)) = 5 by rw [hkd]; rfl] at hO
  have hxA : ¬ voA (h 2) (h 3) x := fun q => hB _ hx2 (q.elim (fun z => ⟨2, by decide, z⟩) (fun z => ⟨3, by decide, z⟩))
  have hne : h 2 ≠ h 3 := fun z => absurd (hI 2 (by decide) 3 (by decide) z) (by decide)
  have hP0 : va_P D cmCl (voWs dA (h 2) (h 3) 0 (a 14)) H := fun k q hk => by
    have h2 : k < 2 := (List.getElem?_eq_some_iff.mp hk).1
    match k, h2, hk with
    | 0, _, hk => cases hk; exact hM.1 2 _ rfl
    | 1, _, hk => cases hk; exact hM.1 3 _ rfl
  refine cg_callF (x := ⟨"MeadowMilk$Eats", "eats", "(I)I"⟩) (y := yX9_eats) (C := RX14) (A := cmA h) hx hb hml hown hts hK hM.2.2 (hK.1.1 15 _ rfl).2 (vo_eats_0_5 x (h 2) (h 3) i (a 1 (58 + 14 * i + 1)) (a 14) 0 hne hxA x0 (by omega)) ⟨hP0, hO.kept (hM.2.2.2.1 x hO.lt (hB _ hx2))⟩ (fun q hq => hq.elim (fun z => ⟨2, by decide, z⟩) (fun z => ⟨3, by decide, z⟩)) ((hO.kept (hM.2.2.2.1 x hO.lt (hB _ hx2))).recv hK rfl) q1132 q1172 q1138 q74 q1140 nq nf_eats rfl (by rw [hRf]; decide) (by rw [hRl]; decide) (Nat.zero_le _) (Nat.zero_le _) hl.1 rfl (Nat.le_of_ble_eq_true rfl) dX0_voice_60 ?_
  rintro _ H locs ⟨rfl, hP1⟩ hz1 hk1 hS1
  have hM := cmH.of hI (cm_updT hI hM.1 hk1 hP1) hS1
  exact hret0 (hM.cg (f' := upd (vF f 5 i (a 1 (58 + 14 * i + 1))) 24 (nI (0 + 1 + 1 + 1))) (a' := va_up a 14 (upd (upd (upd (a 14) 0 (nI 11)) (0 + 1) (nI 30)) (0 + 1 + 1) (nI 10))) rfl rfl rfl rfl rfl) (mwEq.rf) rfl rfl ⟨rfl, rfl, rfl⟩ (rfl) dX0_voice_65
set_option maxHeartbeats 400000 in
theorem ca_voice_1_6 (f : Nat → Int32) (a : Nat → Nat → Int32) (i : Nat) (hi : i < cl (a 1 3)) (hN0 : okN (a 1 3) 5) (hkd : a 1 (58 + 14 * i + 0) = nI 6) (x0 : Int32) : CmF yX0_voice cX0_voice 5 [(0, 56, 84, 8), (57, 65, 84, 8), (66, 74, 84, 8), (75, 83, 84, 8)] 3 82 [.int (nI i), .int (nI 1), .int x0] f a ((x0 + (vF f 6 i (a 1 (58 + 14 * i + 1)) 26)) * (nI 2)) (upd (vF f 6 i (a 1 (58 + 14 * i + 1))) 24 (nI (0 + 1 + 1))) (va_up a 14 (upd (upd (a 14) 0 (nI 11)) (0 + 1) (nI 10))) := by
  refine CmF.ofI (by decide) rfl (Nat.le_of_ble_eq_true rfl) ?_
  intro p l e R s m args below meth c Q D dA h fc wk hd ri rt cw tx nm B S ls hx hb hml hRf hRl hRc hRs htab hts hown hK hI hB hS0 hQ hN hIm hZ hSh hM hl hret hret0
  have hl : lv_has ls 5 [(0, .ref (h 0)), (1, .int (nI i)), (2, .int (nI 1)), (3, .int x0)] := hl
  have hN2 := hN0.2
  refine lv_aload_n hx hb dX0_voice_0 rfl (lv_at hl 0 rfl) ?_
  refine lv_iload_n hx hb dX0_voice_1 rfl (lv_at hl 1 rfl) ?_
  refine lv_iload_n hx hb dX0_voice_2 rfl (lv_at hl 2 rfl) ?_
  refine lv_iconst (v := nI 0) hx hb dX0_voice_3 (by decide) ?_
  refine lv_iconst (v := nI 3) hx hb dX0_voice_4 (by decide) ?_
  refine st_callS (y := yX0_in) hx hb hml hown hts (cmX0_in (nI 1) (nI 0) (nI 3)) q330 q331 q61 q332 ndX0_in rfl (by rw [hRf]; decide) (by rw [hRl]; decide) (Nat.zero_le _) (Nat.zero_le _) hl.1 rfl (Nat.le_of_ble_eq_true rfl) dX0_voice_5 ?_
  obtain ⟨x, hx1, hx2, hx3⟩ := hQ.1.1 i hi
  refine cg_callV (y := yX0_cowAt) (b := h 0) (C := RX0) (As := [.int (nI i), .int (iI (nI 0 ≤ nI 1 ∧ nI 1 ≤ nI 3))]) hx hb hml hown hts hK hM.2.2 (ca_cowAt_ok D dA h _ _ _ _ _ _ _ _ _ _ hI i x (nI 0 ≤ nI 1 ∧ nI 1 ≤ nI 3) hN0 hi ((in_nat (by decide)).mpr ⟨_, by omega, rfl⟩) hx1) hM.1 (fun q hq => hq) (cAt.recv hK (hM.1 0 _ rfl) rfl) q508 q510 qs3 q61 q511 ndX0_cowAt rfl (by rw [hRf]; decide) (by rw [hRl]; decide) (Nat.zero_le _) (Nat.zero_le _) hl.1 rfl (Nat.le_of_ble_eq_true rfl) dX0_voice_8 ?_
  rintro _ H locs ⟨rfl, hP1⟩ hz1 hk1 hS1
  have hM := cmH.of hI hP1 hS1
  refine lv_astore (lv' := [(4, .ref x), (0, .ref (h 0)), (1, .int (nI i)), (2, .int (nI 1)), (3, .int x0)]) hx hb dX0_voice_11 hl (by decide) rfl (fun ls hl => ?_)
  refine lv_aload_n hx hb dX0_voice_13 rfl (lv_at hl 1 rfl) ?_
  refine c_get (v := .ref (h 2)) hx hb hts in_X0 hown hK (hM.1 0 _ rfl) rfl 5 (by decide) q291 rfl rfl dX0_voice_14 ?_
  refine lv_iconst (v := nI 0) hx hb dX0_voice_17 (by decide) ?_
  have nq := hK.F 15 rfl
  refine cm_put_tmany hx hb hts hown hK hI hM nq dX0_voice_18 (fun H locs hM => ?_)
  refine lv_iload_n hx hb dX0_voice_21 rfl (lv_at hl 3 rfl) ?_
  refine lv_tableIn (off := 35) (tgt := 57) hx hb dX0_voice_22 (by decide) (by decide) (by rfl) (by decide) ?_
  refine lv_aload hx hb dX0_voice_57 (lv_at hl 0 rfl) ?_
  refine lv_iload_n hx hb dX0_voice_59 rfl (lv_at hl 4 rfl) ?_
  have nq := hK.I 13 rfl
  have hO := hx3
  rw [show cl (a 1 (58 + 14 * i + 0)) = 6 by rw [hkd]; rfl] at hO
  have hxA : ¬ voA (h 2) (h 3) x := fun q => hB _ hx2 (q.elim (fun z => ⟨2, by decide, z⟩) (fun z => ⟨3, by decide, z⟩))
  have hne : h 2 ≠ h 3 := fun z => absurd (hI 2 (by decide) 3 (by decide) z) (by decide)
  have hP0 : va_P D cmCl (voWs dA (h 2) (h 3) 0 (a 14)) H := fun k q hk => by
    have h2 : k < 2 := (List.getElem?_eq_some_iff.mp hk).1
    match k, h2, hk with
    | 0, _, hk => cases hk; exact hM.1 2 _ rfl
    | 1, _, hk => cases hk; exact hM.1 3 _ rfl
  refine cg_callF (x := ⟨"MeadowMilk$Eats", "eats", "(I)I"⟩) (y := yX9_eats) (C := RX15) (A := cmA h) hx hb hml hown hts hK hM.2.2 (hK.1.1 16 _ rfl).2 (vo_eats_0_6 x (h 2) (h 3) i (a 1 (58 + 14 * i + 1)) (a 14) 0 hne hxA x0 (by omega)) ⟨hP0, hO.kept (hM.2.2.2.1 x hO.lt (hB _ hx2))⟩ (fun q hq => hq.elim (fun z => ⟨2, by decide, z⟩) (fun z => ⟨3, by decide, z⟩)) ((hO.kept (hM.2.2.2.1 x hO.lt (hB _ hx2))).recv hK rfl) q1132 q1169 q1138 q74 q1140 nq nf_eats rfl (by rw [hRf]; decide) (by rw [hRl]; decide) (Nat.zero_le _) (Nat.zero_le _) hl.1 rfl (Nat.le_of_ble_eq_true rfl) dX0_voice_60 ?_
  rintro _ H locs ⟨rfl, hP1⟩ hz1 hk1 hS1
  have hM := cmH.of hI (cm_updT hI hM.1 hk1 hP1) hS1
  exact hret0 (hM.cg (f' := upd (vF f 6 i (a 1 (58 + 14 * i + 1))) 24 (nI (0 + 1 + 1))) (a' := va_up a 14 (upd (upd (a 14) 0 (nI 11)) (0 + 1) (nI 10))) rfl rfl rfl rfl rfl) (mwEq.rf) rfl rfl ⟨rfl, rfl, rfl⟩ (rfl) dX0_voice_65
set_option maxHeartbeats 400000 in
theorem ca_voice_2_0 (f : Nat → Int32) (a : Nat → Nat → Int32) (i : Nat) (hi : i < cl (a 1 3)) (hN0 : okN (a 1 3) 5) (hkd : a 1 (58 + 14 * i + 0) = nI 0) (x0 : Int32) : CmF yX0_voice cX0_voice 5 [(0, 56, 84, 8), (57, 65, 84, 8), (66, 74, 84, 8), (75, 83, 84, 8)] 3 82 [.int (nI i), .int (nI 2), .int x0] f a (x0 - (vF f 0 i (a 1 (58 + 14 * i + 1)) 27)) (upd (vF f 0 i (a 1 (58 + 14 * i + 1))) 24 (nI (0 + 1))) (va_up a 14 (upd (a 14) 0 (nI 12))) := by
  refine CmF.ofI (by decide) rfl (Nat.le_of_ble_eq_true rfl) ?_
  intro p l e R s m args below meth c Q D dA h fc wk hd ri rt cw tx nm B S ls hx hb hml hRf hRl hRc hRs htab hts hown hK hI hB hS0 hQ hN hIm hZ hSh hM hl hret hret0
  have hl : lv_has ls 5 [(0, .ref (h 0)), (1, .int (nI i)), (2, .int (nI 2)), (3, .int x0)] := hl
  have hN2 := hN0.2
  refine lv_aload_n hx hb dX0_voice_0 rfl (lv_at hl 0 rfl) ?_
  refine lv_iload_n hx hb dX0_voice_1 rfl (lv_at hl 1 rfl) ?_
  refine lv_iload_n hx hb dX0_voice_2 rfl (lv_at hl 2 rfl) ?_
  refine lv_iconst (v := nI 0) hx hb dX0_voice_3 (by decide) ?_
  refine lv_iconst (v := nI 3) hx hb dX0_voice_4 (by decide) ?_
  refine st_callS (y := yX0_in) hx hb hml hown hts (cmX0_in (nI 2) (nI 0) (nI 3)) q330 q331 q61 q332 ndX0_in rfl (by rw [hRf]; decide) (by rw [hRl]; decide) (Nat.zero_le _) (Nat.zero_le _) hl.1 rfl (Nat.le_of_ble_eq_true rfl) dX0_voice_5 ?_
  obtain ⟨x, hx1, hx2, hx3⟩ := hQ.1.1 i hi
  refine cg_callV (y := yX0_cowAt) (b := h 0) (C := RX0) (As := [.int (nI i), .int (iI (nI 0 ≤ nI 2 ∧ nI 2 ≤ nI 3))]) hx hb hml hown hts hK hM.2.2 (ca_cowAt_ok D dA h _ _ _ _ _ _ _ _ _ _ hI i x (nI 0 ≤ nI 2 ∧ nI 2 ≤ nI 3) hN0 hi ((in_nat (by decide)).mpr ⟨_, by omega, rfl⟩) hx1) hM.1 (fun q hq => hq) (cAt.recv hK (hM.1 0 _ rfl) rfl) q508 q510 qs3 q61 q511 ndX0_cowAt rfl (by rw [hRf]; decide) (by rw [hRl]; decide) (Nat.zero_le _) (Nat.zero_le _) hl.1 rfl (Nat.le_of_ble_eq_true rfl) dX0_voice_8 ?_
  rintro _ H locs ⟨rfl, hP1⟩ hz1 hk1 hS1
  have hM := cmH.of hI hP1 hS1
  refine lv_astore (lv' := [(4, .ref x), (0, .ref (h 0)), (1, .int (nI i)), (2, .int (nI 2)), (3, .int x0)]) hx hb dX0_voice_11 hl (by decide) rfl (fun ls hl => ?_)
  refine lv_aload_n hx hb dX0_voice_13 rfl (lv_at hl 1 rfl) ?_
  refine c_get (v := .ref (h 2)) hx hb hts in_X0 hown hK (hM.1 0 _ rfl) rfl 5 (by decide) q291 rfl rfl dX0_voice_14 ?_
  refine lv_iconst (v := nI 0) hx hb dX0_voice_17 (by decide) ?_
  have nq := hK.F 15 rfl
  refine cm_put_tmany hx hb hts hown hK hI hM nq dX0_voice_18 (fun H locs hM => ?_)
  refine lv_iload_n hx hb dX0_voice_21 rfl (lv_at hl 3 rfl) ?_
  refine lv_tableIn (off := 44) (tgt := 66) hx hb dX0_voice_22 (by decide) (by decide) (by rfl) (by decide) ?_
  refine lv_aload hx hb dX0_voice_66 (lv_at hl 0 rfl) ?_
  refine lv_iload_n hx hb dX0_voice_68 rfl (lv_at hl 4 rfl) ?_
  have nq := hK.I 14 rfl
  have hO := hx3
  rw [show cl (a 1 (58 + 14 * i + 0)) = 0 by rw [hkd]; rfl] at hO
  have hxA : ¬ voA (h 2) (h 3) x := fun q => hB _ hx2 (q.elim (fun z => ⟨2, by decide, z⟩) (fun z => ⟨3, by decide, z⟩))
  have hne : h 2 ≠ h 3 := fun z => absurd (hI 2 (by decide) 3 (by decide) z) (by decide)
  have hP0 : va_P D cmCl (voWs dA (h 2) (h 3) 0 (a 14)) H := fun k q hk => by
    have h2 : k < 2 := (List.getElem?_eq_some_iff.mp hk).1
    match k, h2, hk with
    | 0, _, hk => cases hk; exact hM.1 2 _ rfl
    | 1, _, hk => cases hk; exact hM.1 3 _ rfl
  refine cg_callF (x := ⟨"MeadowMilk$Knows", "knows", "(I)I"⟩) (y := yX9_knows) (C := RX9) (A := cmA h) hx hb hml hown hts hK hM.2.2 (hK.1.1 10 _ rfl).2 (vo_knows_0_0 x (h 2) (h 3) i (a 1 (58 + 14 * i + 1)) (a 14) 0 hne hxA x0 (by omega)) ⟨hP0, hO.kept (hM.2.2.2.1 x hO.lt (hB _ hx2))⟩ (fun q hq => hq.elim (fun z => ⟨2, by decide, z⟩) (fun z => ⟨3, by decide, z⟩)) ((hO.kept (hM.2.2.2.1 x hO.lt (hB _ hx2))).recv hK rfl) q1178 q1182 q1155 q74 q1156 nq nf_knows rfl (by rw [hRf]; decide) (by rw [hRl]; decide) (Nat.zero_le _) (Nat.zero_le _) hl.1 rfl (Nat.le_of_ble_eq_true rfl) dX0_voice_69 ?_
  rintro _ H locs ⟨rfl, hP1⟩ hz1 hk1 hS1
  have hM := cmH.of hI (cm_updT hI hM.1 hk1 hP1) hS1
  exact hret0 (hM.cg (f' := upd (vF f 0 i (a 1 (58 + 14 * i + 1))) 24 (nI (0 + 1))) (a' := va_up a 14 (upd (a 14) 0 (nI 12))) rfl rfl rfl rfl rfl) (mwEq.rf) rfl rfl ⟨rfl, rfl, rfl⟩ (rfl) dX0_voice_74
set_option maxHeartbeats 400000 in
theorem ca_voice_2_1 (f : Nat → Int32) (a : Nat → Nat → Int32) (i : Nat) (hi : i < cl (a 1 3)) (hN0 : okN (a 1 3) 5) (hkd : a 1 (58 + 14 * i + 0) = nI 1) (x0 : Int32) : CmF yX0_voice cX0_voice 5 [(0, 56, 84, 8), (57, 65, 84, 8), (66, 74, 84, 8), (75, 83, 84, 8)] 3 82 [.int (nI i), .int (nI 2), .int x0] f a (x0 - (vF f 1 i (a 1 (58 + 14 * i + 1)) 27)) (upd (vF f 1 i (a 1 (58 + 14 * i + 1))) 24 (nI (0 + 1))) (va_up a 14 (upd (a 14) 0 (nI 12))) := by
  refine CmF.ofI (by decide) rfl (Nat.le_of_ble_eq_true rfl) ?_
  intro p l e R s m args below meth c Q D dA h fc wk hd ri rt cw tx nm B S ls hx hb hml hRf hRl hRc hRs htab hts hown hK hI hB hS0 hQ hN hIm hZ hSh hM hl hret hret0
  have hl : lv_has ls 5 [(0, .ref (h 0)), (1, .int (nI i)), (2, .int (nI 2)), (3, .int x0)] := hl
  have hN2 := hN0.2
  refine lv_aload_n hx hb dX0_voice_0 rfl (lv_at hl 0 rfl) ?_
  refine lv_iload_n hx hb dX0_voice_1 rfl (lv_at hl 1 rfl) ?_
  refine lv_iload_n hx hb dX0_voice_2 rfl (lv_at hl 2 rfl) ?_
  refine lv_iconst (v := nI 0) hx hb dX0_voice_3 (by decide) ?_
  refine lv_iconst (v := nI 3) hx hb dX0_voice_4 (by decide) ?_
  refine st_callS (y := yX0_in) hx hb hml hown hts (cmX0_in (nI 2) (nI 0) (nI 3)) q330 q331 q61 q332 ndX0_in rfl (by rw [hRf]; decide) (by rw [hRl]; decide) (Nat.zero_le _) (Nat.zero_le _) hl.1 rfl (Nat.le_of_ble_eq_true rfl) dX0_voice_5 ?_
  obtain ⟨x, hx1, hx2, hx3⟩ := hQ.1.1 i hi
  refine cg_callV (y := yX0_cowAt) (b := h 0) (C := RX0) (As := [.int (nI i), .int (iI (nI 0 ≤ nI 2 ∧ nI 2 ≤ nI 3))]) hx hb hml hown hts hK hM.2.2 (ca_cowAt_ok D dA h _ _ _ _ _ _ _ _ _ _ hI i x (nI 0 ≤ nI 2 ∧ nI 2 ≤ nI 3) hN0 hi ((in_nat (by decide)).mpr ⟨_, by omega, rfl⟩) hx1) hM.1 (fun q hq => hq) (cAt.recv hK (hM.1 0 _ rfl) rfl) q508 q510 qs3 q61 q511 ndX0_cowAt rfl (by rw [hRf]; decide) (by rw [hRl]; decide) (Nat.zero_le _) (Nat.zero_le _) hl.1 rfl (Nat.le_of_ble_eq_true rfl) dX0_voice_8 ?_
  rintro _ H locs ⟨rfl, hP1⟩ hz1 hk1 hS1
  have hM := cmH.of hI hP1 hS1
  refine lv_astore (lv' := [(4, .ref x), (0, .ref (h 0)), (1, .int (nI i)), (2, .int (nI 2)), (3, .int x0)]) hx hb dX0_voice_11 hl (by decide) rfl (fun ls hl => ?_)
  refine lv_aload_n hx hb dX0_voice_13 rfl (lv_at hl 1 rfl) ?_
  refine c_get (v := .ref (h 2)) hx hb hts in_X0 hown hK (hM.1 0 _ rfl) rfl 5 (by decide) q291 rfl rfl dX0_voice_14 ?_
  refine lv_iconst (v := nI 0) hx hb dX0_voice_17 (by decide) ?_
  have nq := hK.F 15 rfl
  refine cm_put_tmany hx hb hts hown hK hI hM nq dX0_voice_18 (fun H locs hM => ?_)
  refine lv_iload_n hx hb dX0_voice_21 rfl (lv_at hl 3 rfl) ?_
  refine lv_tableIn (off := 44) (tgt := 66) hx hb dX0_voice_22 (by decide) (by decide) (by rfl) (by decide) ?_
  refine lv_aload hx hb dX0_voice_66 (lv_at hl 0 rfl) ?_
  refine lv_iload_n hx hb dX0_voice_68 rfl (lv_at hl 4 rfl) ?_
  have nq := hK.I 15 rfl
  have hO := hx3
  rw [show cl (a 1 (58 + 14 * i + 0)) = 1 by rw [hkd]; rfl] at hO
  have hxA : ¬ voA (h 2) (h 3) x := fun q => hB _ hx2 (q.elim (fun z => ⟨2, by decide, z⟩) (fun z => ⟨3, by decide, z⟩))
  have hne : h 2 ≠ h 3 := fun z => absurd (hI 2 (by decide) 3 (by decide) z) (by decide)
  have hP0 : va_P D cmCl (voWs dA (h 2) (h 3) 0 (a 14)) H := fun k q hk => by
    have h2 : k < 2 := (List.getElem?_eq_some_iff.mp hk).1
    match k, h2, hk with
    | 0, _, hk => cases hk; exact hM.1 2 _ rfl
    | 1, _, hk => cases hk; exact hM.1 3 _ rfl
  refine cg_callF (x := ⟨"MeadowMilk$Knows", "knows", "(I)I"⟩) (y := yX9_knows) (C := RX10) (A := cmA h) hx hb hml hown hts hK hM.2.2 (hK.1.1 11 _ rfl).2 (vo_knows_0_1 x (h 2) (h 3) i (a 1 (58 + 14 * i + 1)) (a 14) 0 hne hxA x0 (by omega)) ⟨hP0, hO.kept (hM.2.2.2.1 x hO.lt (hB _ hx2))⟩ (fun q hq => hq.elim (fun z => ⟨2, by decide, z⟩) (fun z => ⟨3, by decide, z⟩)) ((hO.kept (hM.2.2.2.1 x hO.lt (hB _ hx2))).recv hK rfl) q1178 q1186 q1155 q74 q1156 nq nf_knows rfl (by rw [hRf]; decide) (by rw [hRl]; decide) (Nat.zero_le _) (Nat.zero_le _) hl.1 rfl (Nat.le_of_ble_eq_true rfl) dX0_voice_69 ?_
  rintro _ H locs ⟨rfl, hP1⟩ hz1 hk1 hS1
  have hM := cmH.of hI (cm_updT hI hM.1 hk1 hP1) hS1
  exact hret0 (hM.cg (f' := upd (vF f 1 i (a 1 (58 + 14 * i + 1))) 24 (nI (0 + 1))) (a' := va_up a 14 (upd (a 14) 0 (nI 12))) rfl rfl rfl rfl rfl) (mwEq.rf) rfl rfl ⟨rfl, rfl, rfl⟩ (rfl) dX0_voice_74
set_option maxHeartbeats 400000 in
theorem ca_voice_2_2 (f : Nat → Int32) (a : Nat → Nat → Int32) (i : Nat) (hi : i < cl (a 1 3)) (hN0 : okN (a 1 3) 5) (hkd : a 1 (58 + 14 * i + 0) = nI 2) (x0 : Int32) : CmF yX0_voice cX0_voice 5 [(0, 56, 84, 8), (57, 65, 84, 8), (66, 74, 84, 8), (75, 83, 84, 8)] 3 82 [.int (nI i), .int (nI 2), .int x0] f a (x0 - (vF f 2 i (a 1 (58 + 14 * i + 1)) 27)) (upd (vF f 2 i (a 1 (58 + 14 * i + 1))) 24 (nI (0 + 1))) (va_up a 14 (upd (a 14) 0 (nI 12))) := by
  refine CmF.ofI (by decide) rfl (Nat.le_of_ble_eq_true rfl) ?_
  intro p l e R s m args below meth c Q D dA h fc wk hd ri rt cw tx nm B S ls hx hb hml hRf hRl hRc hRs htab hts hown hK hI hB hS0 hQ hN hIm hZ hSh hM hl hret hret0
  have hl : lv_has ls 5 [(0, .ref (h 0)), (1, .int (nI i)), (2, .int (nI 2)), (3, .int x0)] := hl
  have hN2 := hN0.2
  refine lv_aload_n hx hb dX0_voice_0 rfl (lv_at hl 0 rfl) ?_
  refine lv_iload_n hx hb dX0_voice_1 rfl (lv_at hl 1 rfl) ?_
  refine lv_iload_n hx hb dX0_voice_2 rfl (lv_at hl 2 rfl) ?_
  refine lv_iconst (v := nI 0) hx hb dX0_voice_3 (by decide) ?_
  refine lv_iconst (v := nI 3) hx hb dX0_voice_4 (by decide) ?_
  refine st_callS (y := yX0_in) hx hb hml hown hts (cmX0_in (nI 2) (nI 0) (nI 3)) q330 q331 q61 q332 ndX0_in rfl (by rw [hRf]; decide) (by rw [hRl]; decide) (Nat.zero_le _) (Nat.zero_le _) hl.1 rfl (Nat.le_of_ble_eq_true rfl) dX0_voice_5 ?_
  obtain ⟨x, hx1, hx2, hx3⟩ := hQ.1.1 i hi
  refine cg_callV (y := yX0_cowAt) (b := h 0) (C := RX0) (As := [.int (nI i), .int (iI (nI 0 ≤ nI 2 ∧ nI 2 ≤ nI 3))]) hx hb hml hown hts hK hM.2.2 (ca_cowAt_ok D dA h _ _ _ _ _ _ _ _ _ _ hI i x (nI 0 ≤ nI 2 ∧ nI 2 ≤ nI 3) hN0 hi ((in_nat (by decide)).mpr ⟨_, by omega, rfl⟩) hx1) hM.1 (fun q hq => hq) (cAt.recv hK (hM.1 0 _ rfl) rfl) q508 q510 qs3 q61 q511 ndX0_cowAt rfl (by rw [hRf]; decide) (by rw [hRl]; decide) (Nat.zero_le _) (Nat.zero_le _) hl.1 rfl (Nat.le_of_ble_eq_true rfl) dX0_voice_8 ?_
  rintro _ H locs ⟨rfl, hP1⟩ hz1 hk1 hS1
  have hM := cmH.of hI hP1 hS1
  refine lv_astore (lv' := [(4, .ref x), (0, .ref (h 0)), (1, .int (nI i)), (2, .int (nI 2)), (3, .int x0)]) hx hb dX0_voice_11 hl (by decide) rfl (fun ls hl => ?_)
  refine lv_aload_n hx hb dX0_voice_13 rfl (lv_at hl 1 rfl) ?_
  refine c_get (v := .ref (h 2)) hx hb hts in_X0 hown hK (hM.1 0 _ rfl) rfl 5 (by decide) q291 rfl rfl dX0_voice_14 ?_
  refine lv_iconst (v := nI 0) hx hb dX0_voice_17 (by decide) ?_
  have nq := hK.F 15 rfl
  refine cm_put_tmany hx hb hts hown hK hI hM nq dX0_voice_18 (fun H locs hM => ?_)
  refine lv_iload_n hx hb dX0_voice_21 rfl (lv_at hl 3 rfl) ?_
  refine lv_tableIn (off := 44) (tgt := 66) hx hb dX0_voice_22 (by decide) (by decide) (by rfl) (by decide) ?_
  refine lv_aload hx hb dX0_voice_66 (lv_at hl 0 rfl) ?_
  refine lv_iload_n hx hb dX0_voice_68 rfl (lv_at hl 4 rfl) ?_
  have nq := hK.I 16 rfl
  have hO := hx3
  rw [show cl (a 1 (58 + 14 * i + 0)) = 2 by rw [hkd]; rfl] at hO
  have hxA : ¬ voA (h 2) (h 3) x := fun q => hB _ hx2 (q.elim (fun z => ⟨2, by decide, z⟩) (fun z => ⟨3, by decide, z⟩))
  have hne : h 2 ≠ h 3 := fun z => absurd (hI 2 (by decide) 3 (by decide) z) (by decide)
  have hP0 : va_P D cmCl (voWs dA (h 2) (h 3) 0 (a 14)) H := fun k q hk => by
    have h2 : k < 2 := (List.getElem?_eq_some_iff.mp hk).1
    match k, h2, hk with
    | 0, _, hk => cases hk; exact hM.1 2 _ rfl
    | 1, _, hk => cases hk; exact hM.1 3 _ rfl
  refine cg_callF (x := ⟨"MeadowMilk$Knows", "knows", "(I)I"⟩) (y := yX9_knows) (C := RX11) (A := cmA h) hx hb hml hown hts hK hM.2.2 (hK.1.1 12 _ rfl).2 (vo_knows_0_2 x (h 2) (h 3) i (a 1 (58 + 14 * i + 1)) (a 14) 0 hne hxA x0 (by omega)) ⟨hP0, hO.kept (hM.2.2.2.1 x hO.lt (hB _ hx2))⟩ (fun q hq => hq.elim (fun z => ⟨2, by decide, z⟩) (fun z => ⟨3, by decide, z⟩)) ((hO.kept (hM.2.2.2.1 x hO.lt (hB _ hx2))).recv hK rfl) q1178 q1211 q1155 q74 q1156 nq nf_knows rfl (by rw [hRf]; decide) (by rw [hRl]; decide) (Nat.zero_le _) (Nat.zero_le _) hl.1 rfl (Nat.le_of_ble_eq_true rfl) dX0_voice_69 ?_
  rintro _ H locs ⟨rfl, hP1⟩ hz1 hk1 hS1
  have hM := cmH.of hI (cm_updT hI hM.1 hk1 hP1) hS1
  exact hret0 (hM.cg (f' := upd (vF f 2 i (a 1 (58 + 14 * i + 1))) 24 (nI (0 + 1))) (a' := va_up a 14 (upd (a 14) 0 (nI 12))) rfl rfl rfl rfl rfl) (mwEq.rf) rfl rfl ⟨rfl, rfl, rfl⟩ (rfl) dX0_voice_74
set_option maxHeartbeats 400000 in
theorem ca_voice_2_3 (f : Nat → Int32) (a : Nat → Nat → Int32) (i : Nat) (hi : i < cl (a 1 3)) (hN0 : okN (a 1 3) 5) (hkd : a 1 (58 + 14 * i + 0) = nI 3) (x0 : Int32) : CmF yX0_voice cX0_voice 5 [(0, 56, 84, 8), (57, 65, 84, 8), (66, 74, 84, 8), (75, 83, 84, 8)] 3 82 [.int (nI i), .int (nI 2), .int x0] f a (-(x0 - (vF f 3 i (a 1 (58 + 14 * i + 1)) 27))) (upd (vF f 3 i (a 1 (58 + 14 * i + 1))) 24 (nI (0 + 1 + 1))) (va_up a 14 (upd (upd (a 14) 0 (nI 40)) (0 + 1) (nI 12))) := by
  refine CmF.ofI (by decide) rfl (Nat.le_of_ble_eq_true rfl) ?_
  intro p l e R s m args below meth c Q D dA h fc wk hd ri rt cw tx nm B S ls hx hb hml hRf hRl hRc hRs htab hts hown hK hI hB hS0 hQ hN hIm hZ hSh hM hl hret hret0
  have hl : lv_has ls 5 [(0, .ref (h 0)), (1, .int (nI i)), (2, .int (nI 2)), (3, .int x0)] := hl
  have hN2 := hN0.2
  refine lv_aload_n hx hb dX0_voice_0 rfl (lv_at hl 0 rfl) ?_
  refine lv_iload_n hx hb dX0_voice_1 rfl (lv_at hl 1 rfl) ?_
  refine lv_iload_n hx hb dX0_voice_2 rfl (lv_at hl 2 rfl) ?_
  refine lv_iconst (v := nI 0) hx hb dX0_voice_3 (by decide) ?_
  refine lv_iconst (v := nI 3) hx hb dX0_voice_4 (by decide) ?_
  refine st_callS (y := yX0_in) hx hb hml hown hts (cmX0_in (nI 2) (nI 0) (nI 3)) q330 q331 q61 q332 ndX0_in rfl (by rw [hRf]; decide) (by rw [hRl]; decide) (Nat.zero_le _) (Nat.zero_le _) hl.1 rfl (Nat.le_of_ble_eq_true rfl) dX0_voice_5 ?_
  obtain ⟨x, hx1, hx2, hx3⟩ := hQ.1.1 i hi
  refine cg_callV (y := yX0_cowAt) (b := h 0) (C := RX0) (As := [.int (nI i), .int (iI (nI 0 ≤ nI 2 ∧ nI 2 ≤ nI 3))]) hx hb hml hown hts hK hM.2.2 (ca_cowAt_ok D dA h _ _ _ _ _ _ _ _ _ _ hI i x (nI 0 ≤ nI 2 ∧ nI 2 ≤ nI 3) hN0 hi ((in_nat (by decide)).mpr ⟨_, by omega, rfl⟩) hx1) hM.1 (fun q hq => hq) (cAt.recv hK (hM.1 0 _ rfl) rfl) q508 q510 qs3 q61 q511 ndX0_cowAt rfl (by rw [hRf]; decide) (by rw [hRl]; decide) (Nat.zero_le _) (Nat.zero_le _) hl.1 rfl (Nat.le_of_ble_eq_true rfl) dX0_voice_8 ?_
  rintro _ H locs ⟨rfl, hP1⟩ hz1 hk1 hS1
  have hM := cmH.of hI hP1 hS1
  refine lv_astore (lv' := [(4, .ref x), (0, .ref (h 0)), (1, .int (nI i)), (2, .int (nI 2)), (3, .int x0)]) hx hb dX0_voice_11 hl (by decide) rfl (fun ls hl => ?_)
  refine lv_aload_n hx hb dX0_voice_13 rfl (lv_at hl 1 rfl) ?_
  refine c_get (v := .ref (h 2)) hx hb hts in_X0 hown hK (hM.1 0 _ rfl) rfl 5 (by decide) q291 rfl rfl dX0_voice_14 ?_
  refine lv_iconst (v := nI 0) hx hb dX0_voice_17 (by decide) ?_
  have nq := hK.F 15 rfl
  refine cm_put_tmany hx hb hts hown hK hI hM nq dX0_voice_18 (fun H locs hM => ?_)
  refine lv_iload_n hx hb dX0_voice_21 rfl (lv_at hl 3 rfl) ?_
  refine lv_tableIn (off := 44) (tgt := 66) hx hb dX0_voice_22 (by decide) (by decide) (by rfl) (by decide) ?_
  refine lv_aload hx hb dX0_voice_66 (lv_at hl 0 rfl) ?_
  refine lv_iload_n hx hb dX0_voice_68 rfl (lv_at hl 4 rfl) ?_
  have nq := hK.I 17 rfl
  have hO := hx3
  rw [show cl (a 1 (58 + 14 * i + 0)) = 3 by rw [hkd]; rfl] at hO
  have hxA : ¬ voA (h 2) (h 3) x := fun q => hB _ hx2 (q.elim (fun z => ⟨2, by decide, z⟩) (fun z => ⟨3, by decide, z⟩))
  have hne : h 2 ≠ h 3 := fun z => absurd (hI 2 (by decide) 3 (by decide) z) (by decide)
  have hP0 : va_P D cmCl (voWs dA (h 2) (h 3) 0 (a 14)) H := fun k q hk => by
    have h2 : k < 2 := (List.getElem?_eq_some_iff.mp hk).1
    match k, h2, hk with
    | 0, _, hk => cases hk; exact hM.1 2 _ rfl
    | 1, _, hk => cases hk; exact hM.1 3 _ rfl
  refine cg_callF (x := ⟨"MeadowMilk$Knows", "knows", "(I)I"⟩) (y := yX12_knows) (C := RX12) (A := cmA h) hx hb hml hown hts hK hM.2.2 (hK.1.1 13 _ rfl).2 (vo_knows_3_3 x (h 2) (h 3) i (a 1 (58 + 14 * i + 1)) (a 14) 0 hne hxA x0 (by omega)) ⟨hP0, hO.kept (hM.2.2.2.1 x hO.lt (hB _ hx2))⟩ (fun q hq => hq.elim (fun z => ⟨2, by decide, z⟩) (fun z => ⟨3, by decide, z⟩)) ((hO.kept (hM.2.2.2.1 x hO.lt (hB _ hx2))).recv hK rfl) q1178 q1189 q1191 q77 q1193 nq nf_knows rfl (by rw [hRf]; decide) (by rw [hRl]; decide) (Nat.zero_le _) (Nat.zero_le _) hl.1 rfl (Nat.le_of_ble_eq_true rfl) dX0_voice_69 ?_
  rintro _ H locs ⟨rfl, hP1⟩ hz1 hk1 hS1
  have hM := cmH.of hI (cm_updT hI hM.1 hk1 hP1) hS1
  exact hret0 (hM.cg (f' := upd (vF f 3 i (a 1 (58 + 14 * i + 1))) 24 (nI (0 + 1 + 1))) (a' := va_up a 14 (upd (upd (a 14) 0 (nI 40)) (0 + 1) (nI 12))) rfl rfl rfl rfl rfl) (mwEq.rf) rfl rfl ⟨rfl, rfl, rfl⟩ (rfl) dX0_voice_74
set_option maxHeartbeats 400000 in
theorem ca_voice_2_4 (f : Nat → Int32) (a : Nat → Nat → Int32) (i : Nat) (hi : i < cl (a 1 3)) (hN0 : okN (a 1 3) 5) (hkd : a 1 (58 + 14 * i + 0) = nI 4) (x0 : Int32) : CmF yX0_voice cX0_voice 5 [(0, 56, 84, 8), (57, 65, 84, 8), (66, 74, 84, 8), (75, 83, 84, 8)] 3 82 [.int (nI i), .int (nI 2), .int x0] f a (x0 - (vF f 4 i (a 1 (58 + 14 * i + 1)) 27)) (upd (vF f 4 i (a 1 (58 + 14 * i + 1))) 24 (nI (0 + 1))) (va_up a 14 (upd (a 14) 0 (nI 12))) := by
  refine CmF.ofI (by decide) rfl (Nat.le_of_ble_eq_true rfl) ?_
  intro p l e R s m args below meth c Q D dA h fc wk hd ri rt cw tx nm B S ls hx hb hml hRf hRl hRc hRs htab hts hown hK hI hB hS0 hQ hN hIm hZ hSh hM hl hret hret0
  have hl : lv_has ls 5 [(0, .ref (h 0)), (1, .int (nI i)), (2, .int (nI 2)), (3, .int x0)] := hl
  have hN2 := hN0.2
  refine lv_aload_n hx hb dX0_voice_0 rfl (lv_at hl 0 rfl) ?_
  refine lv_iload_n hx hb dX0_voice_1 rfl (lv_at hl 1 rfl) ?_
  refine lv_iload_n hx hb dX0_voice_2 rfl (lv_at hl 2 rfl) ?_
  refine lv_iconst (v := nI 0) hx hb dX0_voice_3 (by decide) ?_
  refine lv_iconst (v := nI 3) hx hb dX0_voice_4 (by decide) ?_
  refine st_callS (y := yX0_in) hx hb hml hown hts (cmX0_in (nI 2) (nI 0) (nI 3)) q330 q331 q61 q332 ndX0_in rfl (by rw [hRf]; decide) (by rw [hRl]; decide) (Nat.zero_le _) (Nat.zero_le _) hl.1 rfl (Nat.le_of_ble_eq_true rfl) dX0_voice_5 ?_
  obtain ⟨x, hx1, hx2, hx3⟩ := hQ.1.1 i hi
  refine cg_callV (y := yX0_cowAt) (b := h 0) (C := RX0) (As := [.int (nI i), .int (iI (nI 0 ≤ nI 2 ∧ nI 2 ≤ nI 3))]) hx hb hml hown hts hK hM.2.2 (ca_cowAt_ok D dA h _ _ _ _ _ _ _ _ _ _ hI i x (nI 0 ≤ nI 2 ∧ nI 2 ≤ nI 3) hN0 hi ((in_nat (by decide)).mpr ⟨_, by omega, rfl⟩) hx1) hM.1 (fun q hq => hq) (cAt.recv hK (hM.1 0 _ rfl) rfl) q508 q510 qs3 q61 q511 ndX0_cowAt rfl (by rw [hRf]; decide) (by rw [hRl]; decide) (Nat.zero_le _) (Nat.zero_le _) hl.1 rfl (Nat.le_of_ble_eq_true rfl) dX0_voice_8 ?_
  rintro _ H locs ⟨rfl, hP1⟩ hz1 hk1 hS1
  have hM := cmH.of hI hP1 hS1
  refine lv_astore (lv' := [(4, .ref x), (0, .ref (h 0)), (1, .int (nI i)), (2, .int (nI 2)), (3, .int x0)]) hx hb dX0_voice_11 hl (by decide) rfl (fun ls hl => ?_)
  refine lv_aload_n hx hb dX0_voice_13 rfl (lv_at hl 1 rfl) ?_
  refine c_get (v := .ref (h 2)) hx hb hts in_X0 hown hK (hM.1 0 _ rfl) rfl 5 (by decide) q291 rfl rfl dX0_voice_14 ?_
  refine lv_iconst (v := nI 0) hx hb dX0_voice_17 (by decide) ?_
  have nq := hK.F 15 rfl
  refine cm_put_tmany hx hb hts hown hK hI hM nq dX0_voice_18 (fun H locs hM => ?_)
  refine lv_iload_n hx hb dX0_voice_21 rfl (lv_at hl 3 rfl) ?_
  refine lv_tableIn (off := 44) (tgt := 66) hx hb dX0_voice_22 (by decide) (by decide) (by rfl) (by decide) ?_
  refine lv_aload hx hb dX0_voice_66 (lv_at hl 0 rfl) ?_
  refine lv_iload_n hx hb dX0_voice_68 rfl (lv_at hl 4 rfl) ?_
  have nq := hK.I 18 rfl
  have hO := hx3
  rw [show cl (a 1 (58 + 14 * i + 0)) = 4 by rw [hkd]; rfl] at hO
  have hxA : ¬ voA (h 2) (h 3) x := fun q => hB _ hx2 (q.elim (fun z => ⟨2, by decide, z⟩) (fun z => ⟨3, by decide, z⟩))
  have hne : h 2 ≠ h 3 := fun z => absurd (hI 2 (by decide) 3 (by decide) z) (by decide)
  have hP0 : va_P D cmCl (voWs dA (h 2) (h 3) 0 (a 14)) H := fun k q hk => by
    have h2 : k < 2 := (List.getElem?_eq_some_iff.mp hk).1
    match k, h2, hk with
    | 0, _, hk => cases hk; exact hM.1 2 _ rfl
    | 1, _, hk => cases hk; exact hM.1 3 _ rfl
  refine cg_callF (x := ⟨"MeadowMilk$Knows", "knows", "(I)I"⟩) (y := yX9_knows) (C := RX13) (A := cmA h) hx hb hml hown hts hK hM.2.2 (hK.1.1 14 _ rfl).2 (vo_knows_0_4 x (h 2) (h 3) i (a 1 (58 + 14 * i + 1)) (a 14) 0 hne hxA x0 (by omega)) ⟨hP0, hO.kept (hM.2.2.2.1 x hO.lt (hB _ hx2))⟩ (fun q hq => hq.elim (fun z => ⟨2, by decide, z⟩) (fun z => ⟨3, by decide, z⟩)) ((hO.kept (hM.2.2.2.1 x hO.lt (hB _ hx2))).recv hK rfl) q1178 q1197 q1155 q74 q1156 nq nf_knows rfl (by rw [hRf]; decide) (by rw [hRl]; decide) (Nat.zero_le _) (Nat.zero_le _) hl.1 rfl (Nat.le_of_ble_eq_true rfl) dX0_voice_69 ?_
  rintro _ H locs ⟨rfl, hP1⟩ hz1 hk1 hS1
  have hM := cmH.of hI (cm_updT hI hM.1 hk1 hP1) hS1
  exact hret0 (hM.cg (f' := upd (vF f 4 i (a 1 (58 + 14 * i + 1))) 24 (nI (0 + 1))) (a' := va_up a 14 (upd (a 14) 0 (nI 12))) rfl rfl rfl rfl rfl) (mwEq.rf) rfl rfl ⟨rfl, rfl, rfl⟩ (rfl) dX0_voice_74
set_option maxHeartbeats 400000 in
theorem ca_voice_2_5 (f : Nat → Int32) (a : Nat → Nat → Int32) (i : Nat) (hi : i < cl (a 1 3)) (hN0 : okN (a 1 3) 5) (hkd : a 1 (58 + 14 * i + 0) = nI 5) (x0 : Int32) : CmF yX0_voice cX0_voice 5 [(0, 56, 84, 8), (57, 65, 84, 8), (66, 74, 84, 8), (75, 83, 84, 8)] 3 82 [.int (nI i), .int (nI 2), .int x0] f a (x0 - (vF f 5 i (a 1 (58 + 14 * i + 1)) 27)) (upd (vF f 5 i (a 1 (58 + 14 * i + 1))) 24 (nI (0 + 1))) (va_up a 14 (upd (a 14) 0 (nI 12))) := by
  refine CmF.ofI (by decide) rfl (Nat.le_of_ble_eq_true rfl) ?_
  intro p l e R s m args below meth c Q D dA h fc wk hd ri rt cw tx nm B S ls hx hb hml hRf hRl hRc hRs htab hts hown hK hI hB hS0 hQ hN hIm hZ hSh hM hl hret hret0
  have hl : lv_has ls 5 [(0, .ref (h 0)), (1, .int (nI i)), (2, .int (nI 2)), (3, .int x0)] := hl
  have hN2 := hN0.2
  refine lv_aload_n hx hb dX0_voice_0 rfl (lv_at hl 0 rfl) ?_
  refine lv_iload_n hx hb dX0_voice_1 rfl (lv_at hl 1 rfl) ?_
  refine lv_iload_n hx hb dX0_voice_2 rfl (lv_at hl 2 rfl) ?_
  refine lv_iconst (v := nI 0) hx hb dX0_voice_3 (by decide) ?_
  refine lv_iconst (v := nI 3) hx hb dX0_voice_4 (by decide) ?_
  refine st_callS (y := yX0_in) hx hb hml hown hts (cmX0_in (nI 2) (nI 0) (nI 3)) q330 q331 q61 q332 ndX0_in rfl (by rw [hRf]; decide) (by rw [hRl]; decide) (Nat.zero_le _) (Nat.zero_le _) hl.1 rfl (Nat.le_of_ble_eq_true rfl) dX0_voice_5 ?_
  obtain ⟨x, hx1, hx2, hx3⟩ := hQ.1.1 i hi
  refine cg_callV (y := yX0_cowAt) (b := h 0) (C := RX0) (As := [.int (nI i), .int (iI (nI 0 ≤ nI 2 ∧ nI 2 ≤ nI 3))]) hx hb hml hown hts hK hM.2.2 (ca_cowAt_ok D dA h _ _ _ _ _ _ _ _ _ _ hI i x (nI 0 ≤ nI 2 ∧ nI 2 ≤ nI 3) hN0 hi ((in_nat (by decide)).mpr ⟨_, by omega, rfl⟩) hx1) hM.1 (fun q hq => hq) (cAt.recv hK (hM.1 0 _ rfl) rfl) q508 q510 qs3 q61 q511 ndX0_cowAt rfl (by rw [hRf]; decide) (by rw [hRl]; decide) (Nat.zero_le _) (Nat.zero_le _) hl.1 rfl (Nat.le_of_ble_eq_true rfl) dX0_voice_8 ?_
  rintro _ H locs ⟨rfl, hP1⟩ hz1 hk1 hS1
  have hM := cmH.of hI hP1 hS1
  refine lv_astore (lv' := [(4, .ref x), (0, .ref (h 0)), (1, .int (nI i)), (2, .int (nI 2)), (3, .int x0)]) hx hb dX0_voice_11 hl (by decide) rfl (fun ls hl => ?_)
  refine lv_aload_n hx hb dX0_voice_13 rfl (lv_at hl 1 rfl) ?_
  refine c_get (v := .ref (h 2)) hx hb hts in_X0 hown hK (hM.1 0 _ rfl) rfl 5 (by decide) q291 rfl rfl dX0_voice_14 ?_
  refine lv_iconst (v := nI 0) hx hb dX0_voice_17 (by decide) ?_
  have nq := hK.F 15 rfl
  refine cm_put_tmany hx hb hts hown hK hI hM nq dX0_voice_18 (fun H locs hM => ?_)
  refine lv_iload_n hx hb dX0_voice_21 rfl (lv_at hl 3 rfl) ?_
  refine lv_tableIn (off := 44) (tgt := 66) hx hb dX0_voice_22 (by decide) (by decide) (by rfl) (by decide) ?_
  refine lv_aload hx hb dX0_voice_66 (lv_at hl 0 rfl) ?_
  refine lv_iload_n hx hb dX0_voice_68 rfl (lv_at hl 4 rfl) ?_
  have nq := hK.I 19 rfl
  have hO := hx3
  rw [show cl (a 1 (58 + 14 * i + 0)) = 5 by rw [hkd]; rfl] at hO
  have hxA : ¬ voA (h 2) (h 3) x := fun q => hB _ hx2 (q.elim (fun z => ⟨2, by decide, z⟩) (fun z => ⟨3, by decide, z⟩))
  have hne : h 2 ≠ h 3 := fun z => absurd (hI 2 (by decide) 3 (by decide) z) (by decide)
  have hP0 : va_P D cmCl (voWs dA (h 2) (h 3) 0 (a 14)) H := fun k q hk => by
    have h2 : k < 2 := (List.getElem?_eq_some_iff.mp hk).1
    match k, h2, hk with
    | 0, _, hk => cases hk; exact hM.1 2 _ rfl
    | 1, _, hk => cases hk; exact hM.1 3 _ rfl
  refine cg_callF (x := ⟨"MeadowMilk$Knows", "knows", "(I)I"⟩) (y := yX9_knows) (C := RX14) (A := cmA h) hx hb hml hown hts hK hM.2.2 (hK.1.1 15 _ rfl).2 (vo_knows_0_5 x (h 2) (h 3) i (a 1 (58 + 14 * i + 1)) (a 14) 0 hne hxA x0 (by omega)) ⟨hP0, hO.kept (hM.2.2.2.1 x hO.lt (hB _ hx2))⟩ (fun q hq => hq.elim (fun z => ⟨2, by decide, z⟩) (fun z => ⟨3, by decide, z⟩)) ((hO.kept (hM.2.2.2.1 x hO.lt (hB _ hx2))).recv hK rfl) q1178 q1208 q1155 q74 q1156 nq nf_knows rfl (by rw [hRf]; decide) (by rw [hRl]; decide) (Nat.zero_le _) (Nat.zero_le _) hl.1 rfl (Nat.le_of_ble_eq_true rfl) dX0_voice_69 ?_
  rintro _ H locs ⟨rfl, hP1⟩ hz1 hk1 hS1
  have hM := cmH.of hI (cm_updT hI hM.1 hk1 hP1) hS1
  exact hret0 (hM.cg (f' := upd (vF f 5 i (a 1 (58 + 14 * i + 1))) 24 (nI (0 + 1))) (a' := va_up a 14 (upd (a 14) 0 (nI 12))) rfl rfl rfl rfl rfl) (mwEq.rf) rfl rfl ⟨rfl, rfl, rfl⟩ (rfl) dX0_voice_74
set_option maxHeartbeats 400000 in
theorem ca_voice_2_6 (f : Nat → Int32) (a : Nat → Nat → Int32) (i : Nat) (hi : i < cl (a 1 3)) (hN0 : okN (a 1 3) 5) (hkd : a 1 (58 + 14 * i + 0) = nI 6) (x0 : Int32) : CmF yX0_voice cX0_voice 5 [(0, 56, 84, 8), (57, 65, 84, 8), (66, 74, 84, 8), (75, 83, 84, 8)] 4 84 [.int (nI i), .int (nI 2), .int x0] f a ((-(x0 - (vF f 6 i (a 1 (58 + 14 * i + 1)) 27))) ^^^ (vF f 6 i (a 1 (58 + 14 * i + 1)) 26)) (upd (vF f 6 i (a 1 (58 + 14 * i + 1))) 24 (nI (0 + 1 + 1 + 1))) (va_up a 14 (upd (upd (upd (a 14) 0 (nI 70)) (0 + 1) (nI 40)) (0 + 1 + 1) (nI 12))) := by
  refine CmF.ofI (by decide) rfl (Nat.le_of_ble_eq_true rfl) ?_
  intro p l e R s m args below meth c Q D dA h fc wk hd ri rt cw tx nm B S ls hx hb hml hRf hRl hRc hRs htab hts hown hK hI hB hS0 hQ hN hIm hZ hSh hM hl hret hret0
  have hl : lv_has ls 5 [(0, .ref (h 0)), (1, .int (nI i)), (2, .int (nI 2)), (3, .int x0)] := hl
  have hN2 := hN0.2
  refine lv_aload_n hx hb dX0_voice_0 rfl (lv_at hl 0 rfl) ?_
  refine lv_iload_n hx hb dX0_voice_1 rfl (lv_at hl 1 rfl) ?_
  refine lv_iload_n hx hb dX0_voice_2 rfl (lv_at hl 2 rfl) ?_
  refine lv_iconst (v := nI 0) hx hb dX0_voice_3 (by decide) ?_
  refine lv_iconst (v := nI 3) hx hb dX0_voice_4 (by decide) ?_
  refine st_callS (y := yX0_in) hx hb hml hown hts (cmX0_in (nI 2) (nI 0) (nI 3)) q330 q331 q61 q332 ndX0_in rfl (by rw [hRf]; decide) (by rw [hRl]; decide) (Nat.zero_le _) (Nat.zero_le _) hl.1 rfl (Nat.le_of_ble_eq_true rfl) dX0_voice_5 ?_
  obtain ⟨x, hx1, hx2, hx3⟩ := hQ.1.1 i hi
  refine cg_callV (y := yX0_cowAt) (b := h 0) (C := RX0) (As := [.int (nI i), .int (iI (nI 0 ≤ nI 2 ∧ nI 2 ≤ nI 3))]) hx hb hml hown hts hK hM.2.2 (ca_cowAt_ok D dA h _ _ _ _ _ _ _ _ _ _ hI i x (nI 0 ≤ nI 2 ∧ nI 2 ≤ nI 3) hN0 hi ((in_nat (by decide)).mpr ⟨_, by omega, rfl⟩) hx1) hM.1 (fun q hq => hq) (cAt.recv hK (hM.1 0 _ rfl) rfl) q508 q510 qs3 q61 q511 ndX0_cowAt rfl (by rw [hRf]; decide) (by rw [hRl]; decide) (Nat.zero_le _) (Nat.zero_le _) hl.1 rfl (Nat.le_of_ble_eq_true rfl) dX0_voice_8 ?_
  rintro _ H locs ⟨rfl, hP1⟩ hz1 hk1 hS1
  have hM := cmH.of hI hP1 hS1
  refine lv_astore (lv' := [(4, .ref x), (0, .ref (h 0)), (1, .int (nI i)), (2, .int (nI 2)), (3, .int x0)]) hx hb dX0_voice_11 hl (by decide) rfl (fun ls hl => ?_)
  refine lv_aload_n hx hb dX0_voice_13 rfl (lv_at hl 1 rfl) ?_
  refine c_get (v := .ref (h 2)) hx hb hts in_X0 hown hK (hM.1 0 _ rfl) rfl 5 (by decide) q291 rfl rfl dX0_voice_14 ?_
  refine lv_iconst (v := nI 0) hx hb dX0_voice_17 (by decide) ?_
  have nq := hK.F 15 rfl
  refine cm_put_tmany hx hb hts hown hK hI hM nq dX0_voice_18 (fun H locs hM => ?_)
  refine lv_iload_n hx hb dX0_voice_21 rfl (lv_at hl 3 rfl) ?_
  refine lv_tableIn (off := 44) (tgt := 66) hx hb dX0_voice_22 (by decide) (by decide) (by rfl) (by decide) ?_
  refine lv_aload hx hb dX0_voice_66 (lv_at hl 0 rfl) ?_
  refine lv_iload_n hx hb dX0_voice_68 rfl (lv_at hl 4 rfl) ?_
  have nq := hK.I 20 rfl
  have hO := hx3
  rw [show cl (a 1 (58 + 14 * i + 0)) = 6 by rw [hkd]; rfl] at hO
  have hxA : ¬ voA (h 2) (h 3) x := fun q => hB _ hx2 (q.elim (fun z => ⟨2, by decide, z⟩) (fun z => ⟨3, by decide, z⟩))
  have hne : h 2 ≠ h 3 := fun z => absurd (hI 2 (by decide) 3 (by decide) z) (by decide)
  have hP0 : va_P D cmCl (voWs dA (h 2) (h 3) 0 (a 14)) H := fun k q hk => by
    have h2 : k < 2 := (List.getElem?_eq_some_iff.mp hk).1
    match k, h2, hk with
    | 0, _, hk => cases hk; exact hM.1 2 _ rfl
    | 1, _, hk => cases hk; exact hM.1 3 _ rfl
  refine cg_callF (x := ⟨"MeadowMilk$Knows", "knows", "(I)I"⟩) (y := yX15_knows) (C := RX15) (A := cmA h) hx hb hml hown hts hK hM.2.2 (hK.1.1 16 _ rfl).2 (vo_knows_6_6 x (h 2) (h 3) i (a 1 (58 + 14 * i + 1)) (a 14) 0 hne hxA x0 (by omega)) ⟨hP0, hO.kept (hM.2.2.2.1 x hO.lt (hB _ hx2))⟩ (fun q hq => hq.elim (fun z => ⟨2, by decide, z⟩) (fun z => ⟨3, by decide, z⟩)) ((hO.kept (hM.2.2.2.1 x hO.lt (hB _ hx2))).recv hK rfl) q1178 q1200 q1202 q80 q1204 nq nf_knows rfl (by rw [hRf]; decide) (by rw [hRl]; decide) (Nat.zero_le _) (Nat.zero_le _) hl.1 rfl (Nat.le_of_ble_eq_true rfl) dX0_voice_69 ?_
  rintro _ H locs ⟨rfl, hP1⟩ hz1 hk1 hS1
  have hM := cmH.of hI (cm_updT hI hM.1 hk1 hP1) hS1
  exact hret0 (hM.cg (f' := upd (vF f 6 i (a 1 (58 + 14 * i + 1))) 24 (nI (0 + 1 + 1 + 1))) (a' := va_up a 14 (upd (upd (upd (a 14) 0 (nI 70)) (0 + 1) (nI 40)) (0 + 1 + 1) (nI 12))) rfl rfl rfl rfl rfl) (mwEq.rf) rfl rfl ⟨rfl, rfl, rfl⟩ (rfl) dX0_voice_74
set_option maxHeartbeats 400000 in
theorem ca_voice_3_0 (f : Nat → Int32) (a : Nat → Nat → Int32) (i : Nat) (hi : i < cl (a 1 3)) (hN0 : okN (a 1 3) 5) (hkd : a 1 (58 + 14 * i + 0) = nI 0) (x0 : Int32) : CmF yX0_voice cX0_voice 5 [(0, 56, 84, 8), (57, 65, 84, 8), (66, 74, 84, 8), (75, 83, 84, 8)] 4 85 [.int (nI i), .int (nI 3), .int x0] f a (((x0 + (vF f 0 i (a 1 (58 + 14 * i + 1)) 26)) * (nI 2)) ^^^ (x0 - (vF f 0 i (a 1 (58 + 14 * i + 1)) 27))) (upd (vF f 0 i (a 1 (58 + 14 * i + 1))) 24 (nI (0 + 1 + 1 + 1 + 1))) (va_up a 14 (upd (upd (upd (upd (a 14) 0 (nI 13)) (0 + 1) (nI 11)) (0 + 1 + 1) (nI 10)) (0 + 1 + 1 + 1) (nI 12))) := by
  refine CmF.ofI (by decide) rfl (Nat.le_of_ble_eq_true rfl) ?_
  intro p l e R s m args below meth c Q D dA h fc wk hd ri rt cw tx nm B S ls hx hb hml hRf hRl hRc hRs htab hts hown hK hI hB hS0 hQ hN hIm hZ hSh hM hl hret hret0
  have hl : lv_has ls 5 [(0, .ref (h 0)), (1, .int (nI i)), (2, .int (nI 3)), (3, .int x0)] := hl
  have hN2 := hN0.2
  refine lv_aload_n hx hb dX0_voice_0 rfl (lv_at hl 0 rfl) ?_
  refine lv_iload_n hx hb dX0_voice_1 rfl (lv_at hl 1 rfl) ?_
  refine lv_iload_n hx hb dX0_voice_2 rfl (lv_at hl 2 rfl) ?_
  refine lv_iconst (v := nI 0) hx hb dX0_voice_3 (by decide) ?_
  refine lv_iconst (v := nI 3) hx hb dX0_voice_4 (by decide) ?_
  refine st_callS (y := yX0_in) hx hb hml hown hts (cmX0_in (nI 3) (nI 0) (nI 3)) q330 q331 q61 q332 ndX0_in rfl (by rw [hRf]; decide) (by rw [hRl]; decide) (Nat.zero_le _) (Nat.zero_le _) hl.1 rfl (Nat.le_of_ble_eq_true rfl) dX0_voice_5 ?_
  obtain ⟨x, hx1, hx2, hx3⟩ := hQ.1.1 i hi
  refine cg_callV (y := yX0_cowAt) (b := h 0) (C := RX0) (As := [.int (nI i), .int (iI (nI 0 ≤ nI 3 ∧ nI 3 ≤ nI 3))]) hx hb hml hown hts hK hM.2.2 (ca_cowAt_ok D dA h _ _ _ _ _ _ _ _ _ _ hI i x (nI 0 ≤ nI 3 ∧ nI 3 ≤ nI 3) hN0 hi ((in_nat (by decide)).mpr ⟨_, by omega, rfl⟩) hx1) hM.1 (fun q hq => hq) (cAt.recv hK (hM.1 0 _ rfl) rfl) q508 q510 qs3 q61 q511 ndX0_cowAt rfl (by rw [hRf]; decide) (by rw [hRl]; decide) (Nat.zero_le _) (Nat.zero_le _) hl.1 rfl (Nat.le_of_ble_eq_true rfl) dX0_voice_8 ?_
  rintro _ H locs ⟨rfl, hP1⟩ hz1 hk1 hS1
  have hM := cmH.of hI hP1 hS1
  refine lv_astore (lv' := [(4, .ref x), (0, .ref (h 0)), (1, .int (nI i)), (2, .int (nI 3)), (3, .int x0)]) hx hb dX0_voice_11 hl (by decide) rfl (fun ls hl => ?_)
  refine lv_aload_n hx hb dX0_voice_13 rfl (lv_at hl 1 rfl) ?_
  refine c_get (v := .ref (h 2)) hx hb hts in_X0 hown hK (hM.1 0 _ rfl) rfl 5 (by decide) q291 rfl rfl dX0_voice_14 ?_
  refine lv_iconst (v := nI 0) hx hb dX0_voice_17 (by decide) ?_
  have nq := hK.F 15 rfl
  refine cm_put_tmany hx hb hts hown hK hI hM nq dX0_voice_18 (fun H locs hM => ?_)
  refine lv_iload_n hx hb dX0_voice_21 rfl (lv_at hl 3 rfl) ?_
  refine lv_tableOut (tgt := 75) hx hb dX0_voice_22 (by decide) (by decide) ?_
  refine lv_aload hx hb dX0_voice_75 (lv_at hl 0 rfl) ?_
  refine lv_iload_n hx hb dX0_voice_77 rfl (lv_at hl 4 rfl) ?_
  have nq := hK.I 21 rfl
  have hO := hx3
  rw [show cl (a 1 (58 + 14 * i + 0)) = 0 by rw [hkd]; rfl] at hO
  have hxA : ¬ voA (h 2) (h 3) x := fun q => hB _ hx2 (q.elim (fun z => ⟨2, by decide, z⟩) (fun z => ⟨3, by decide, z⟩))
  have hne : h 2 ≠ h 3 := fun z => absurd (hI 2 (by decide) 3 (by decide) z) (by decide)
  have hP0 : va_P D cmCl (voWs dA (h 2) (h 3) 0 (a 14)) H := fun k q hk => by
    have h2 : k < 2 := (List.getElem?_eq_some_iff.mp hk).1
    match k, h2, hk with
    | 0, _, hk => cases hk; exact hM.1 2 _ rfl
    | 1, _, hk => cases hk; exact hM.1 3 _ rfl
  refine cg_callF (x := ⟨"MeadowMilk$Tells", "tells", "(I)I"⟩) (y := yX9_tells) (C := RX9) (A := cmA h) hx hb hml hown hts hK hM.2.2 (hK.1.1 10 _ rfl).2 (vo_tells_0_0 x (h 2) (h 3) i (a 1 (58 + 14 * i + 1)) (a 14) 0 hne hxA x0 (by omega)) ⟨hP0, hO.kept (hM.2.2.2.1 x hO.lt (hB _ hx2))⟩ (fun q hq => hq.elim (fun z => ⟨2, by decide, z⟩) (fun z => ⟨3, by decide, z⟩)) ((hO.kept (hM.2.2.2.1 x hO.lt (hB _ hx2))).recv hK rfl) q1214 q1218 q1220 q74 q1222 nq nf_tells rfl (by rw [hRf]; decide) (by rw [hRl]; decide) (Nat.zero_le _) (Nat.zero_le _) hl.1 rfl (Nat.le_of_ble_eq_true rfl) dX0_voice_78 ?_
  rintro _ H locs ⟨rfl, hP1⟩ hz1 hk1 hS1
  have hM := cmH.of hI (cm_updT hI hM.1 hk1 hP1) hS1
  exact hret0 (hM.cg (f' := upd (vF f 0 i (a 1 (58 + 14 * i + 1))) 24 (nI (0 + 1 + 1 + 1 + 1))) (a' := va_up a 14 (upd (upd (upd (upd (a 14) 0 (nI 13)) (0 + 1) (nI 11)) (0 + 1 + 1) (nI 10)) (0 + 1 + 1 + 1) (nI 12))) rfl rfl rfl rfl rfl) (mwEq.rf) rfl rfl ⟨rfl, rfl, rfl⟩ (rfl) dX0_voice_83
set_option maxHeartbeats 400000 in
theorem ca_voice_3_1 (f : Nat → Int32) (a : Nat → Nat → Int32) (i : Nat) (hi : i < cl (a 1 3)) (hN0 : okN (a 1 3) 5) (hkd : a 1 (58 + 14 * i + 0) = nI 1) (x0 : Int32) : CmF yX0_voice cX0_voice 5 [(0, 56, 84, 8), (57, 65, 84, 8), (66, 74, 84, 8), (75, 83, 84, 8)] 5 107 [.int (nI i), .int (nI 3), .int x0] f a ((((x0 + (vF f 1 i (a 1 (58 + 14 * i + 1)) 26)) * (nI 2)) - ((nI 1) - (vF f 1 i (a 1 (58 + 14 * i + 1)) 27))) ^^^ (x0 - (vF f 1 i (a 1 (58 + 14 * i + 1)) 27))) (upd (vF f 1 i (a 1 (58 + 14 * i + 1))) 24 (nI (0 + 1 + 1 + 1 + 1 + 1 + 1))) (va_up a 14 (upd (upd (upd (upd (upd (upd (a 14) 0 (nI 13)) (0 + 1) (nI 20)) (0 + 1 + 1) (nI 11)) (0 + 1 + 1 + 1) (nI 10)) (0 + 1 + 1 + 1 + 1) (nI 12)) (0 + 1 + 1 + 1 + 1 + 1) (nI 12))) := by
  refine CmF.ofI (by decide) rfl (Nat.le_of_ble_eq_true rfl) ?_
  intro p l e R s m args below meth c Q D dA h fc wk hd ri rt cw tx nm B S ls hx hb hml hRf hRl hRc hRs htab hts hown hK hI hB hS0 hQ hN hIm hZ hSh hM hl hret hret0
  have hl : lv_has ls 5 [(0, .ref (h 0)), (1, .int (nI i)), (2, .int (nI 3)), (3, .int x0)] := hl
  have hN2 := hN0.2
  refine lv_aload_n hx hb dX0_voice_0 rfl (lv_at hl 0 rfl) ?_
  refine lv_iload_n hx hb dX0_voice_1 rfl (lv_at hl 1 rfl) ?_
  refine lv_iload_n hx hb dX0_voice_2 rfl (lv_at hl 2 rfl) ?_
  refine lv_iconst (v := nI 0) hx hb dX0_voice_3 (by decide) ?_
  refine lv_iconst (v := nI 3) hx hb dX0_voice_4 (by decide) ?_
  refine st_callS (y := yX0_in) hx hb hml hown hts (cmX0_in (nI 3) (nI 0) (nI 3)) q330 q331 q61 q332 ndX0_in rfl (by rw [hRf]; decide) (by rw [hRl]; decide) (Nat.zero_le _) (Nat.zero_le _) hl.1 rfl (Nat.le_of_ble_eq_true rfl) dX0_voice_5 ?_
  obtain ⟨x, hx1, hx2, hx3⟩ := hQ.1.1 i hi
  refine cg_callV (y := yX0_cowAt) (b := h 0) (C := RX0) (As := [.int (nI i), .int (iI (nI 0 ≤ nI 3 ∧ nI 3 ≤ nI 3))]) hx hb hml hown hts hK hM.2.2 (ca_cowAt_ok D dA h _ _ _ _ _ _ _ _ _ _ hI i x (nI 0 ≤ nI 3 ∧ nI 3 ≤ nI 3) hN0 hi ((in_nat (by decide)).mpr ⟨_, by omega, rfl⟩) hx1) hM.1 (fun q hq => hq) (cAt.recv hK (hM.1 0 _ rfl) rfl) q508 q510 qs3 q61 q511 ndX0_cowAt rfl (by rw [hRf]; decide) (by rw [hRl]; decide) (Nat.zero_le _) (Nat.zero_le _) hl.1 rfl (Nat.le_of_ble_eq_true rfl) dX0_voice_8 ?_
  rintro _ H locs ⟨rfl, hP1⟩ hz1 hk1 hS1
  have hM := cmH.of hI hP1 hS1
  refine lv_astore (lv' := [(4, .ref x), (0, .ref (h 0)), (1, .int (nI i)), (2, .int (nI 3)), (3, .int x0)]) hx hb dX0_voice_11 hl (by decide) rfl (fun ls hl => ?_)
  refine lv_aload_n hx hb dX0_voice_13 rfl (lv_at hl 1 rfl) ?_
  refine c_get (v := .ref (h 2)) hx hb hts in_X0 hown hK (hM.1 0 _ rfl) rfl 5 (by decide) q291 rfl rfl dX0_voice_14 ?_
  refine lv_iconst (v := nI 0) hx hb dX0_voice_17 (by decide) ?_
  have nq := hK.F 15 rfl
  refine cm_put_tmany hx hb hts hown hK hI hM nq dX0_voice_18 (fun H locs hM => ?_)
  refine lv_iload_n hx hb dX0_voice_21 rfl (lv_at hl 3 rfl) ?_
  refine lv_tableOut (tgt := 75) hx hb dX0_voice_22 (by decide) (by decide) ?_
  refine lv_aload hx hb dX0_voice_75 (lv_at hl 0 rfl) ?_
  refine lv_iload_n hx hb dX0_voice_77 rfl (lv_at hl 4 rfl) ?_
  have nq := hK.I 22 rfl
  have hO := hx3
  rw [show cl (a 1 (58 + 14 * i + 0)) = 1 by rw [hkd]; rfl] at hO
  have hxA : ¬ voA (h 2) (h 3) x := fun q => hB _ hx2 (q.elim (fun z => ⟨2, by decide, z⟩) (fun z => ⟨3, by decide, z⟩))
  have hne : h 2 ≠ h 3 := fun z => absurd (hI 2 (by decide) 3 (by decide) z) (by decide)
  have hP0 : va_P D cmCl (voWs dA (h 2) (h 3) 0 (a 14)) H := fun k q hk => by
    have h2 : k < 2 := (List.getElem?_eq_some_iff.mp hk).1
    match k, h2, hk with
    | 0, _, hk => cases hk; exact hM.1 2 _ rfl
    | 1, _, hk => cases hk; exact hM.1 3 _ rfl
  refine cg_callF (x := ⟨"MeadowMilk$Tells", "tells", "(I)I"⟩) (y := yX9_tells) (C := RX10) (A := cmA h) hx hb hml hown hts hK hM.2.2 (hK.1.1 11 _ rfl).2 (vo_tells_0_1 x (h 2) (h 3) i (a 1 (58 + 14 * i + 1)) (a 14) 0 hne hxA x0 (by omega)) ⟨hP0, hO.kept (hM.2.2.2.1 x hO.lt (hB _ hx2))⟩ (fun q hq => hq.elim (fun z => ⟨2, by decide, z⟩) (fun z => ⟨3, by decide, z⟩)) ((hO.kept (hM.2.2.2.1 x hO.lt (hB _ hx2))).recv hK rfl) q1214 q1226 q1220 q74 q1222 nq nf_tells rfl (by rw [hRf]; decide) (by rw [hRl]; decide) (Nat.zero_le _) (Nat.zero_le _) hl.1 rfl (Nat.le_of_ble_eq_true rfl) dX0_voice_78 ?_
  rintro _ H locs ⟨rfl, hP1⟩ hz1 hk1 hS1
  have hM := cmH.of hI (cm_updT hI hM.1 hk1 hP1) hS1
  exact hret0 (hM.cg (f' := upd (vF f 1 i (a 1 (58 + 14 * i + 1))) 24 (nI (0 + 1 + 1 + 1 + 1 + 1 + 1))) (a' := va_up a 14 (upd (upd (upd (upd (upd (upd (a 14) 0 (nI 13)) (0 + 1) (nI 20)) (0 + 1 + 1) (nI 11)) (0 + 1 + 1 + 1) (nI 10)) (0 + 1 + 1 + 1 + 1) (nI 12)) (0 + 1 + 1 + 1 + 1 + 1) (nI 12))) rfl rfl rfl rfl rfl) (mwEq.rf) rfl rfl ⟨rfl, rfl, rfl⟩ (rfl) dX0_voice_83
set_option maxHeartbeats 400000 in
theorem ca_voice_3_2 (f : Nat → Int32) (a : Nat → Nat → Int32) (i : Nat) (hi : i < cl (a 1 3)) (hN0 : okN (a 1 3) 5) (hkd : a 1 (58 + 14 * i + 0) = nI 2) (x0 : Int32) : CmF yX0_voice cX0_voice 5 [(0, 56, 84, 8), (57, 65, 84, 8), (66, 74, 84, 8), (75, 83, 84, 8)] 5 106 [.int (nI i), .int (nI 3), .int x0] f a ((((x0 + (vF f 2 i (a 1 (58 + 14 * i + 1)) 26)) * (nI 3)) * (nI 2)) ^^^ (x0 - (vF f 2 i (a 1 (58 + 14 * i + 1)) 27))) (upd (vF f 2 i (a 1 (58 + 14 * i + 1))) 24 (nI (0 + 1 + 1 + 1 + 1 + 1))) (va_up a 14 (upd (upd (upd (upd (upd (a 14) 0 (nI 13)) (0 + 1) (nI 11)) (0 + 1 + 1) (nI 30)) (0 + 1 + 1 + 1) (nI 10)) (0 + 1 + 1 + 1 + 1) (nI 12))) := by
  refine CmF.ofI (by decide) rfl (Nat.le_of_ble_eq_true rfl) ?_
  intro p l e R s m args below meth c Q D dA h fc wk hd ri rt cw tx nm B S ls hx hb hml hRf hRl hRc hRs htab hts hown hK hI hB hS0 hQ hN hIm hZ hSh hM hl hret hret0
  have hl : lv_has ls 5 [(0, .ref (h 0)), (1, .int (nI i)), (2, .int (nI 3)), (3, .int x0)] := hl
  have hN2 := hN0.2
  refine lv_aload_n hx hb dX0_voice_0 rfl (lv_at hl 0 rfl) ?_
  refine lv_iload_n hx hb dX0_voice_1 rfl (lv_at hl 1 rfl) ?_
  refine lv_iload_n hx hb dX0_voice_2 rfl (lv_at hl 2 rfl) ?_
  refine lv_iconst (v := nI 0) hx hb dX0_voice_3 (by decide) ?_
  refine lv_iconst (v := nI 3) hx hb dX0_voice_4 (by decide) ?_
  refine st_callS (y := yX0_in) hx hb hml hown hts (cmX0_in (nI 3) (nI 0) (nI 3)) q330 q331 q61 q332 ndX0_in rfl (by rw [hRf]; decide) (by rw [hRl]; decide) (Nat.zero_le _) (Nat.zero_le _) hl.1 rfl (Nat.le_of_ble_eq_true rfl) dX0_voice_5 ?_
  obtain ⟨x, hx1, hx2, hx3⟩ := hQ.1.1 i hi
  refine cg_callV (y := yX0_cowAt) (b := h 0) (C := RX0) (As := [.int (nI i), .int (iI (nI 0 ≤ nI 3 ∧ nI 3 ≤ nI 3))]) hx hb hml hown hts hK hM.2.2 (ca_cowAt_ok D dA h _ _ _ _ _ _ _ _ _ _ hI i x (nI 0 ≤ nI 3 ∧ nI 3 ≤ nI 3) hN0 hi ((in_nat (by decide)).mpr ⟨_, by omega, rfl⟩) hx1) hM.1 (fun q hq => hq) (cAt.recv hK (hM.1 0 _ rfl) rfl) q508 q510 qs3 q61 q511 ndX0_cowAt rfl (by rw [hRf]; decide) (by rw [hRl]; decide) (Nat.zero_le _) (Nat.zero_le _) hl.1 rfl (Nat.le_of_ble_eq_true rfl) dX0_voice_8 ?_
  rintro _ H locs ⟨rfl, hP1⟩ hz1 hk1 hS1
  have hM := cmH.of hI hP1 hS1
  refine lv_astore (lv' := [(4, .ref x), (0, .ref (h 0)), (1, .int (nI i)), (2, .int (nI 3)), (3, .int x0)]) hx hb dX0_voice_11 hl (by decide) rfl (fun ls hl => ?_)
  refine lv_aload_n hx hb dX0_voice_13 rfl (lv_at hl 1 rfl) ?_
  refine c_get (v := .ref (h 2)) hx hb hts in_X0 hown hK (hM.1 0 _ rfl) rfl 5 (by decide) q291 rfl rfl dX0_voice_14 ?_
  refine lv_iconst (v := nI 0) hx hb dX0_voice_17 (by decide) ?_
  have nq := hK.F 15 rfl
  refine cm_put_tmany hx hb hts hown hK hI hM nq dX0_voice_18 (fun H locs hM => ?_)
  refine lv_iload_n hx hb dX0_voice_21 rfl (lv_at hl 3 rfl) ?_
  refine lv_tableOut (tgt := 75) hx hb dX0_voice_22 (by decide) (by decide) ?_
  refine lv_aload hx hb dX0_voice_75 (lv_at hl 0 rfl) ?_
  refine lv_iload_n hx hb dX0_voice_77 rfl (lv_at hl 4 rfl) ?_
  have nq := hK.I 23 rfl
  have hO := hx3
  rw [show cl (a 1 (58 + 14 * i + 0)) = 2 by rw [hkd]; rfl] at hO
  have hxA : ¬ voA (h 2) (h 3) x := fun q => hB _ hx2 (q.elim (fun z => ⟨2, by decide, z⟩) (fun z => ⟨3, by decide, z⟩))
  have hne : h 2 ≠ h 3 := fun z => absurd (hI 2 (by decide) 3 (by decide) z) (by decide)
  have hP0 : va_P D cmCl (voWs dA (h 2) (h 3) 0 (a 14)) H := fun k q hk => by
    have h2 : k < 2 := (List.getElem?_eq_some_iff.mp hk).1
    match k, h2, hk with
    | 0, _, hk => cases hk; exact hM.1 2 _ rfl
    | 1, _, hk => cases hk; exact hM.1 3 _ rfl
  refine cg_callF (x := ⟨"MeadowMilk$Tells", "tells", "(I)I"⟩) (y := yX9_tells) (C := RX11) (A := cmA h) hx hb hml hown hts hK hM.2.2 (hK.1.1 12 _ rfl).2 (vo_tells_0_2 x (h 2) (h 3) i (a 1 (58 + 14 * i + 1)) (a 14) 0 hne hxA x0 (by omega)) ⟨hP0, hO.kept (hM.2.2.2.1 x hO.lt (hB _ hx2))⟩ (fun q hq => hq.elim (fun z => ⟨2, by decide, z⟩) (fun z => ⟨3, by decide, z⟩)) ((hO.kept (hM.2.2.2.1 x hO.lt (hB _ hx2))).recv hK rfl) q1214 q1261 q1220 q74 q1222 nq nf_tells rfl (by rw [hRf]; decide) (by rw [hRl]; decide) (Nat.zero_le _) (Nat.zero_le _) hl.1 rfl (Nat.le_of_ble_eq_true rfl) dX0_voice_78 ?_
  rintro _ H locs ⟨rfl, hP1⟩ hz1 hk1 hS1
  have hM := cmH.of hI (cm_updT hI hM.1 hk1 hP1) hS1
  exact hret0 (hM.cg (f' := upd (vF f 2 i (a 1 (58 + 14 * i + 1))) 24 (nI (0 + 1 + 1 + 1 + 1 + 1))) (a' := va_up a 14 (upd (upd (upd (upd (upd (a 14) 0 (nI 13)) (0 + 1) (nI 11)) (0 + 1 + 1) (nI 30)) (0 + 1 + 1 + 1) (nI 10)) (0 + 1 + 1 + 1 + 1) (nI 12))) rfl rfl rfl rfl rfl) (mwEq.rf) rfl rfl ⟨rfl, rfl, rfl⟩ (rfl) dX0_voice_83
set_option maxHeartbeats 400000 in
theorem ca_voice_3_3 (f : Nat → Int32) (a : Nat → Nat → Int32) (i : Nat) (hi : i < cl (a 1 3)) (hN0 : okN (a 1 3) 5) (hkd : a 1 (58 + 14 * i + 0) = nI 3) (x0 : Int32) : CmF yX0_voice cX0_voice 5 [(0, 56, 84, 8), (57, 65, 84, 8), (66, 74, 84, 8), (75, 83, 84, 8)] 4 85 [.int (nI i), .int (nI 3), .int x0] f a (((x0 + (vF f 3 i (a 1 (58 + 14 * i + 1)) 26)) * (nI 2)) ^^^ (-(x0 - (vF f 3 i (a 1 (58 + 14 * i + 1)) 27)))) (upd (vF f 3 i (a 1 (58 + 14 * i + 1))) 24 (nI (0 + 1 + 1 + 1 + 1 + 1))) (va_up a 14 (upd (upd (upd (upd (upd (a 14) 0 (nI 13)) (0 + 1) (nI 11)) (0 + 1 + 1) (nI 10)) (0 + 1 + 1 + 1) (nI 40)) (0 + 1 + 1 + 1 + 1) (nI 12))) := by
  refine CmF.ofI (by decide) rfl (Nat.le_of_ble_eq_true rfl) ?_
  intro p l e R s m args below meth c Q D dA h fc wk hd ri rt cw tx nm B S ls hx hb hml hRf hRl hRc hRs htab hts hown hK hI hB hS0 hQ hN hIm hZ hSh hM hl hret hret0
  have hl : lv_has ls 5 [(0, .ref (h 0)), (1, .int (nI i)), (2, .int (nI 3)), (3, .int x0)] := hl
  have hN2 := hN0.2
  refine lv_aload_n hx hb dX0_voice_0 rfl (lv_at hl 0 rfl) ?_
  refine lv_iload_n hx hb dX0_voice_1 rfl (lv_at hl 1 rfl) ?_
  refine lv_iload_n hx hb dX0_voice_2 rfl (lv_at hl 2 rfl) ?_
  refine lv_iconst (v := nI 0) hx hb dX0_voice_3 (by decide) ?_
  refine lv_iconst (v := nI 3) hx hb dX0_voice_4 (by decide) ?_
  refine st_callS (y := yX0_in) hx hb hml hown hts (cmX0_in (nI 3) (nI 0) (nI 3)) q330 q331 q61 q332 ndX0_in rfl (by rw [hRf]; decide) (by rw [hRl]; decide) (Nat.zero_le _) (Nat.zero_le _) hl.1 rfl (Nat.le_of_ble_eq_true rfl) dX0_voice_5 ?_
  obtain ⟨x, hx1, hx2, hx3⟩ := hQ.1.1 i hi
  refine cg_callV (y := yX0_cowAt) (b := h 0) (C := RX0) (As := [.int (nI i), .int (iI (nI 0 ≤ nI 3 ∧ nI 3 ≤ nI 3))]) hx hb hml hown hts hK hM.2.2 (ca_cowAt_ok D dA h _ _ _ _ _ _ _ _ _ _ hI i x (nI 0 ≤ nI 3 ∧ nI 3 ≤ nI 3) hN0 hi ((in_nat (by decide)).mpr ⟨_, by omega, rfl⟩) hx1) hM.1 (fun q hq => hq) (cAt.recv hK (hM.1 0 _ rfl) rfl) q508 q510 qs3 q61 q511 ndX0_cowAt rfl (by rw [hRf]; decide) (by rw [hRl]; decide) (Nat.zero_le _) (Nat.zero_le _) hl.1 rfl (Nat.le_of_ble_eq_true rfl) dX0_voice_8 ?_
  rintro _ H locs ⟨rfl, hP1⟩ hz1 hk1 hS1
  have hM := cmH.of hI hP1 hS1
  refine lv_astore (lv' := [(4, .ref x), (0, .ref (h 0)), (1, .int (nI i)), (2, .int (nI 3)), (3, .int x0)]) hx hb dX0_voice_11 hl (by decide) rfl (fun ls hl => ?_)
  refine lv_aload_n hx hb dX0_voice_13 rfl (lv_at hl 1 rfl) ?_
  refine c_get (v := .ref (h 2)) hx hb hts in_X0 hown hK (hM.1 0 _ rfl) rfl 5 (by decide) q291 rfl rfl dX0_voice_14 ?_
  refine lv_iconst (v := nI 0) hx hb dX0_voice_17 (by decide) ?_
  have nq := hK.F 15 rfl
  refine cm_put_tmany hx hb hts hown hK hI hM nq dX0_voice_18 (fun H locs hM => ?_)
  refine lv_iload_n hx hb dX0_voice_21 rfl (lv_at hl 3 rfl) ?_
  refine lv_tableOut (tgt := 75) hx hb dX0_voice_22 (by decide) (by decide) ?_
  refine lv_aload hx hb dX0_voice_75 (lv_at hl 0 rfl) ?_
  refine lv_iload_n hx hb dX0_voice_77 rfl (lv_at hl 4 rfl) ?_
  have nq := hK.I 24 rfl
  have hO := hx3
  rw [show cl (a 1 (58 + 14 * i + 0)) = 3 by rw [hkd]; rfl] at hO
  have hxA : ¬ voA (h 2) (h 3) x := fun q => hB _ hx2 (q.elim (fun z => ⟨2, by decide, z⟩) (fun z => ⟨3, by decide, z⟩))
  have hne : h 2 ≠ h 3 := fun z => absurd (hI 2 (by decide) 3 (by decide) z) (by decide)
  have hP0 : va_P D cmCl (voWs dA (h 2) (h 3) 0 (a 14)) H := fun k q hk => by
    have h2 : k < 2 := (List.getElem?_eq_some_iff.mp hk).1
    match k, h2, hk with
    | 0, _, hk => cases hk; exact hM.1 2 _ rfl
    | 1, _, hk => cases hk; exact hM.1 3 _ rfl
  refine cg_callF (x := ⟨"MeadowMilk$Tells", "tells", "(I)I"⟩) (y := yX9_tells) (C := RX12) (A := cmA h) hx hb hml hown hts hK hM.2.2 (hK.1.1 13 _ rfl).2 (vo_tells_0_3 x (h 2) (h 3) i (a 1 (58 + 14 * i + 1)) (a 14) 0 hne hxA x0 (by omega)) ⟨hP0, hO.kept (hM.2.2.2.1 x hO.lt (hB _ hx2))⟩ (fun q hq => hq.elim (fun z => ⟨2, by decide, z⟩) (fun z => ⟨3, by decide, z⟩)) ((hO.kept (hM.2.2.2.1 x hO.lt (hB _ hx2))).recv hK rfl) q1214 q1229 q1220 q74 q1222 nq nf_tells rfl (by rw [hRf]; decide) (by rw [hRl]; decide) (Nat.zero_le _) (Nat.zero_le _) hl.1 rfl (Nat.le_of_ble_eq_true rfl) dX0_voice_78 ?_
  rintro _ H locs ⟨rfl, hP1⟩ hz1 hk1 hS1
  have hM := cmH.of hI (cm_updT hI hM.1 hk1 hP1) hS1
  exact hret0 (hM.cg (f' := upd (vF f 3 i (a 1 (58 + 14 * i + 1))) 24 (nI (0 + 1 + 1 + 1 + 1 + 1))) (a' := va_up a 14 (upd (upd (upd (upd (upd (a 14) 0 (nI 13)) (0 + 1) (nI 11)) (0 + 1 + 1) (nI 10)) (0 + 1 + 1 + 1) (nI 40)) (0 + 1 + 1 + 1 + 1) (nI 12))) rfl rfl rfl rfl rfl) (mwEq.rf) rfl rfl ⟨rfl, rfl, rfl⟩ (rfl) dX0_voice_83
set_option maxHeartbeats 400000 in
theorem ca_voice_3_4 (f : Nat → Int32) (a : Nat → Nat → Int32) (i : Nat) (hi : i < cl (a 1 3)) (hN0 : okN (a 1 3) 5) (hkd : a 1 (58 + 14 * i + 0) = nI 4) (x0 : Int32) : CmF yX0_voice cX0_voice 5 [(0, 56, 84, 8), (57, 65, 84, 8), (66, 74, 84, 8), (75, 83, 84, 8)] 6 128 [.int (nI i), .int (nI 3), .int x0] f a (((((x0 + (nI 1)) + (vF f 4 i (a 1 (58 + 14 * i + 1)) 26)) * (nI 2)) - ((nI 1) - (vF f 4 i (a 1 (58 + 14 * i + 1)) 27))) ^^^ (x0 - (vF f 4 i (a 1 (58 + 14 * i + 1)) 27))) (upd (vF f 4 i (a 1 (58 + 14 * i + 1))) 24 (nI (0 + 1 + 1 + 1 + 1 + 1 + 1 + 1))) (va_up a 14 (upd (upd (upd (upd (upd (upd (upd (a 14) 0 (nI 13)) (0 + 1) (nI 50)) (0 + 1 + 1) (nI 20)) (0 + 1 + 1 + 1) (nI 11)) (0 + 1 + 1 + 1 + 1) (nI 10)) (0 + 1 + 1 + 1 + 1 + 1) (nI 12)) (0 + 1 + 1 + 1 + 1 + 1 + 1) (nI 12))) := by
  refine CmF.ofI (by decide) rfl (Nat.le_of_ble_eq_true rfl) ?_
  intro p l e R s m args below meth c Q D dA h fc wk hd ri rt cw tx nm B S ls hx hb hml hRf hRl hRc hRs htab hts hown hK hI hB hS0 hQ hN hIm hZ hSh hM hl hret hret0
  have hl : lv_has ls 5 [(0, .ref (h 0)), (1, .int (nI i)), (2, .int (nI 3)), (3, .int x0)] := hl
  have hN2 := hN0.2
  refine lv_aload_n hx hb dX0_voice_0 rfl (lv_at hl 0 rfl) ?_
  refine lv_iload_n hx hb dX0_voice_1 rfl (lv_at hl 1 rfl) ?_
  refine lv_iload_n hx hb dX0_voice_2 rfl (lv_at hl 2 rfl) ?_
  refine lv_iconst (v := nI 0) hx hb dX0_voice_3 (by decide) ?_
  refine lv_iconst (v := nI 3) hx hb dX0_voice_4 (by decide) ?_
  refine st_callS (y := yX0_in) hx hb hml hown hts (cmX0_in (nI 3) (nI 0) (nI 3)) q330 q331 q61 q332 ndX0_in rfl (by rw [hRf]; decide) (by rw [hRl]; decide) (Nat.zero_le _) (Nat.zero_le _) hl.1 rfl (Nat.le_of_ble_eq_true rfl) dX0_voice_5 ?_
  obtain ⟨x, hx1, hx2, hx3⟩ := hQ.1.1 i hi
  refine cg_callV (y := yX0_cowAt) (b := h 0) (C := RX0) (As := [.int (nI i), .int (iI (nI 0 ≤ nI 3 ∧ nI 3 ≤ nI 3))]) hx hb hml hown hts hK hM.2.2 (ca_cowAt_ok D dA h _ _ _ _ _ _ _ _ _ _ hI i x (nI 0 ≤ nI 3 ∧ nI 3 ≤ nI 3) hN0 hi ((in_nat (by decide)).mpr ⟨_, by omega, rfl⟩) hx1) hM.1 (fun q hq => hq) (cAt.recv hK (hM.1 0 _ rfl) rfl) q508 q510 qs3 q61 q511 ndX0_cowAt rfl (by rw [hRf]; decide) (by rw [hRl]; decide) (Nat.zero_le _) (Nat.zero_le _) hl.1 rfl (Nat.le_of_ble_eq_true rfl) dX0_voice_8 ?_
  rintro _ H locs ⟨rfl, hP1⟩ hz1 hk1 hS1
  have hM := cmH.of hI hP1 hS1
  refine lv_astore (lv' := [(4, .ref x), (0, .ref (h 0)), (1, .int (nI i)), (2, .int (nI 3)), (3, .int x0)]) hx hb dX0_voice_11 hl (by decide) rfl (fun ls hl => ?_)
  refine lv_aload_n hx hb dX0_voice_13 rfl (lv_at hl 1 rfl) ?_
  refine c_get (v := .ref (h 2)) hx hb hts in_X0 hown hK (hM.1 0 _ rfl) rfl 5 (by decide) q291 rfl rfl dX0_voice_14 ?_
  refine lv_iconst (v := nI 0) hx hb dX0_voice_17 (by decide) ?_
  have nq := hK.F 15 rfl
  refine cm_put_tmany hx hb hts hown hK hI hM nq dX0_voice_18 (fun H locs hM => ?_)
  refine lv_iload_n hx hb dX0_voice_21 rfl (lv_at hl 3 rfl) ?_
  refine lv_tableOut (tgt := 75) hx hb dX0_voice_22 (by decide) (by decide) ?_
  refine lv_aload hx hb dX0_voice_75 (lv_at hl 0 rfl) ?_
  refine lv_iload_n hx hb dX0_voice_77 rfl (lv_at hl 4 rfl) ?_
  have nq := hK.I 25 rfl
  have hO := hx3
  rw [show cl (a 1 (58 + 14 * i + 0)) = 4 by rw [hkd]; rfl] at hO
  have hxA : ¬ voA (h 2) (h 3) x := fun q => hB _ hx2 (q.elim (fun z => ⟨2, by decide, z⟩) (fun z => ⟨3, by decide, z⟩))
  have hne : h 2 ≠ h 3 := fun z => absurd (hI 2 (by decide) 3 (by decide) z) (by decide)
  have hP0 : va_P D cmCl (voWs dA (h 2) (h 3) 0 (a 14)) H := fun k q hk => by
    have h2 : k < 2 := (List.getElem?_eq_some_iff.mp hk).1
    match k, h2, hk with
    | 0, _, hk => cases hk; exact hM.1 2 _ rfl
    | 1, _, hk => cases hk; exact hM.1 3 _ rfl
  refine cg_callF (x := ⟨"MeadowMilk$Tells", "tells", "(I)I"⟩) (y := yX9_tells) (C := RX13) (A := cmA h) hx hb hml hown hts hK hM.2.2 (hK.1.1 14 _ rfl).2 (vo_tells_0_4 x (h 2) (h 3) i (a 1 (58 + 14 * i + 1)) (a 14) 0 hne hxA x0 (by omega)) ⟨hP0, hO.kept (hM.2.2.2.1 x hO.lt (hB _ hx2))⟩ (fun q hq => hq.elim (fun z => ⟨2, by decide, z⟩) (fun z => ⟨3, by decide, z⟩)) ((hO.kept (hM.2.2.2.1 x hO.lt (hB _ hx2))).recv hK rfl) q1214 q1232 q1220 q74 q1222 nq nf_tells rfl (by rw [hRf]; decide) (by rw [hRl]; decide) (Nat.zero_le _) (Nat.zero_le _) hl.1 rfl (Nat.le_of_ble_eq_true rfl) dX0_voice_78 ?_
  rintro _ H locs ⟨rfl, hP1⟩ hz1 hk1 hS1
  have hM := cmH.of hI (cm_updT hI hM.1 hk1 hP1) hS1
  exact hret0 (hM.cg (f' := upd (vF f 4 i (a 1 (58 + 14 * i + 1))) 24 (nI (0 + 1 + 1 + 1 + 1 + 1 + 1 + 1))) (a' := va_up a 14 (upd (upd (upd (upd (upd (upd (upd (a 14) 0 (nI 13)) (0 + 1) (nI 50)) (0 + 1 + 1) (nI 20)) (0 + 1 + 1 + 1) (nI 11)) (0 + 1 + 1 + 1 + 1) (nI 10)) (0 + 1 + 1 + 1 + 1 + 1) (nI 12)) (0 + 1 + 1 + 1 + 1 + 1 + 1) (nI 12))) rfl rfl rfl rfl rfl) (mwEq.rf) rfl rfl ⟨rfl, rfl, rfl⟩ (rfl) dX0_voice_83
set_option maxHeartbeats 400000 in
theorem ca_voice_3_5 (f : Nat → Int32) (a : Nat → Nat → Int32) (i : Nat) (hi : i < cl (a 1 3)) (hN0 : okN (a 1 3) 5) (hkd : a 1 (58 + 14 * i + 0) = nI 5) (x0 : Int32) : CmF yX0_voice cX0_voice 5 [(0, 56, 84, 8), (57, 65, 84, 8), (66, 74, 84, 8), (75, 83, 84, 8)] 6 128 [.int (nI i), .int (nI 3), .int x0] f a (((((x0 + (vF f 5 i (a 1 (58 + 14 * i + 1)) 26)) * (nI 3)) * (nI 2)) ^^^ (x0 - (vF f 5 i (a 1 (58 + 14 * i + 1)) 27))) - (((nI 2) + (vF f 5 i (a 1 (58 + 14 * i + 1)) 26)) * (nI 3))) (upd (vF f 5 i (a 1 (58 + 14 * i + 1))) 24 (nI (0 + 1 + 1 + 1 + 1 + 1 + 1 + 1 + 1))) (va_up a 14 (upd (upd (upd (upd (upd (upd (upd (upd (a 14) 0 (nI 60)) (0 + 1) (nI 13)) (0 + 1 + 1) (nI 11)) (0 + 1 + 1 + 1) (nI 30)) (0 + 1 + 1 + 1 + 1) (nI 10)) (0 + 1 + 1 + 1 + 1 + 1) (nI 12)) (0 + 1 + 1 + 1 + 1 + 1 + 1) (nI 30)) (0 + 1 + 1 + 1 + 1 + 1 + 1 + 1) (nI 10))) := by
  refine CmF.ofI (by decide) rfl (Nat.le_of_ble_eq_true rfl) ?_
  intro p l e R s m args below meth c Q D dA h fc wk hd ri rt cw tx nm B S ls hx hb hml hRf hRl hRc hRs htab hts hown hK hI hB hS0 hQ hN hIm hZ hSh hM hl hret hret0
  have hl : lv_has ls 5 [(0, .ref (h 0)), (1, .int (nI i)), (2, .int (nI 3)), (3, .int x0)] := hl
  have hN2 := hN0.2
  refine lv_aload_n hx hb dX0_voice_0 rfl (lv_at hl 0 rfl) ?_
  refine lv_iload_n hx hb dX0_voice_1 rfl (lv_at hl 1 rfl) ?_
  refine lv_iload_n hx hb dX0_voice_2 rfl (lv_at hl 2 rfl) ?_
  refine lv_iconst (v := nI 0) hx hb dX0_voice_3 (by decide) ?_
  refine lv_iconst (v := nI 3) hx hb dX0_voice_4 (by decide) ?_
  refine st_callS (y := yX0_in) hx hb hml hown hts (cmX0_in (nI 3) (nI 0) (nI 3)) q330 q331 q61 q332 ndX0_in rfl (by rw [hRf]; decide) (by rw [hRl]; decide) (Nat.zero_le _) (Nat.zero_le _) hl.1 rfl (Nat.le_of_ble_eq_true rfl) dX0_voice_5 ?_
  obtain ⟨x, hx1, hx2, hx3⟩ := hQ.1.1 i hi
  refine cg_callV (y := yX0_cowAt) (b := h 0) (C := RX0) (As := [.int (nI i), .int (iI (nI 0 ≤ nI 3 ∧ nI 3 ≤ nI 3))]) hx hb hml hown hts hK hM.2.2 (ca_cowAt_ok D dA h _ _ _ _ _ _ _ _ _ _ hI i x (nI 0 ≤ nI 3 ∧ nI 3 ≤ nI 3) hN0 hi ((in_nat (by decide)).mpr ⟨_, by omega, rfl⟩) hx1) hM.1 (fun q hq => hq) (cAt.recv hK (hM.1 0 _ rfl) rfl) q508 q510 qs3 q61 q511 ndX0_cowAt rfl (by rw [hRf]; decide) (by rw [hRl]; decide) (Nat.zero_le _) (Nat.zero_le _) hl.1 rfl (Nat.le_of_ble_eq_true rfl) dX0_voice_8 ?_
  rintro _ H locs ⟨rfl, hP1⟩ hz1 hk1 hS1
  have hM := cmH.of hI hP1 hS1
  refine lv_astore (lv' := [(4, .ref x), (0, .ref (h 0)), (1, .int (nI i)), (2, .int (nI 3)), (3, .int x0)]) hx hb dX0_voice_11 hl (by decide) rfl (fun ls hl => ?_)
  refine lv_aload_n hx hb dX0_voice_13 rfl (lv_at hl 1 rfl) ?_
  refine c_get (v := .ref (h 2)) hx hb hts in_X0 hown hK (hM.1 0 _ rfl) rfl 5 (by decide) q291 rfl rfl dX0_voice_14 ?_
  refine lv_iconst (v := nI 0) hx hb dX0_voice_17 (by decide) ?_
  have nq := hK.F 15 rfl
  refine cm_put_tmany hx hb hts hown hK hI hM nq dX0_voice_18 (fun H locs hM => ?_)
  refine lv_iload_n hx hb dX0_voice_21 rfl (lv_at hl 3 rfl) ?_
  refine lv_tableOut (tgt := 75) hx hb dX0_voice_22 (by decide) (by decide) ?_
  refine lv_aload hx hb dX0_voice_75 (lv_at hl 0 rfl) ?_
  refine lv_iload_n hx hb dX0_voice_77 rfl (lv_at hl 4 rfl) ?_
  have nq := hK.I 26 rfl
  have hO := hx3
  rw [show cl (a 1 (58 + 14 * i + 0)) = 5 by rw [hkd]; rfl] at hO
  have hxA : ¬ voA (h 2) (h 3) x := fun q => hB _ hx2 (q.elim (fun z => ⟨2, by decide, z⟩) (fun z => ⟨3, by decide, z⟩))
  have hne : h 2 ≠ h 3 := fun z => absurd (hI 2 (by decide) 3 (by decide) z) (by decide)
  have hP0 : va_P D cmCl (voWs dA (h 2) (h 3) 0 (a 14)) H := fun k q hk => by
    have h2 : k < 2 := (List.getElem?_eq_some_iff.mp hk).1
    match k, h2, hk with
    | 0, _, hk => cases hk; exact hM.1 2 _ rfl
    | 1, _, hk => cases hk; exact hM.1 3 _ rfl
  refine cg_callF (x := ⟨"MeadowMilk$Tells", "tells", "(I)I"⟩) (y := yX14_tells) (C := RX14) (A := cmA h) hx hb hml hown hts hK hM.2.2 (hK.1.1 15 _ rfl).2 (vo_tells_5_5 x (h 2) (h 3) i (a 1 (58 + 14 * i + 1)) (a 14) 0 hne hxA x0 (by omega)) ⟨hP0, hO.kept (hM.2.2.2.1 x hO.lt (hB _ hx2))⟩ (fun q hq => hq.elim (fun z => ⟨2, by decide, z⟩) (fun z => ⟨3, by decide, z⟩)) ((hO.kept (hM.2.2.2.1 x hO.lt (hB _ hx2))).recv hK rfl) q1214 q1248 q1250 q79 q1252 nq nf_tells rfl (by rw [hRf]; decide) (by rw [hRl]; decide) (Nat.zero_le _) (Nat.zero_le _) hl.1 rfl (Nat.le_of_ble_eq_true rfl) dX0_voice_78 ?_
  rintro _ H locs ⟨rfl, hP1⟩ hz1 hk1 hS1
  have hM := cmH.of hI (cm_updT hI hM.1 hk1 hP1) hS1
  exact hret0 (hM.cg (f' := upd (vF f 5 i (a 1 (58 + 14 * i + 1))) 24 (nI (0 + 1 + 1 + 1 + 1 + 1 + 1 + 1 + 1))) (a' := va_up a 14 (upd (upd (upd (upd (upd (upd (upd (upd (a 14) 0 (nI 60)) (0 + 1) (nI 13)) (0 + 1 + 1) (nI 11)) (0 + 1 + 1 + 1) (nI 30)) (0 + 1 + 1 + 1 + 1) (nI 10)) (0 + 1 + 1 + 1 + 1 + 1) (nI 12)) (0 + 1 + 1 + 1 + 1 + 1 + 1) (nI 30)) (0 + 1 + 1 + 1 + 1 + 1 + 1 + 1) (nI 10))) rfl rfl rfl rfl rfl) (mwEq.rf) rfl rfl ⟨rfl, rfl, rfl⟩ (rfl) dX0_voice_83
set_option maxHeartbeats 400000 in
theorem ca_voice_3_6 (f : Nat → Int32) (a : Nat → Nat → Int32) (i : Nat) (hi : i < cl (a 1 3)) (hN0 : okN (a 1 3) 5) (hkd : a 1 (58 + 14 * i + 0) = nI 6) (x0 : Int32) : CmF yX0_voice cX0_voice 5 [(0, 56, 84, 8), (57, 65, 84, 8), (66, 74, 84, 8), (75, 83, 84, 8)] 6 128 [.int (nI i), .int (nI 3), .int x0] f a (((x0 + (vF f 6 i (a 1 (58 + 14 * i + 1)) 26)) * (nI 2)) - (((x0 + (vF f 6 i (a 1 (58 + 14 * i + 1)) 26)) * (nI 2)) ^^^ ((-(x0 - (vF f 6 i (a 1 (58 + 14 * i + 1)) 27))) ^^^ (vF f 6 i (a 1 (58 + 14 * i + 1)) 26)))) (upd (vF f 6 i (a 1 (58 + 14 * i + 1))) 24 (nI (0 + 1 + 1 + 1 + 1 + 1 + 1 + 1 + 1 + 1))) (va_up a 14 (upd (upd (upd (upd (upd (upd (upd (upd (upd (a 14) 0 (nI 71)) (0 + 1) (nI 11)) (0 + 1 + 1) (nI 10)) (0 + 1 + 1 + 1) (nI 13)) (0 + 1 + 1 + 1 + 1) (nI 11)) (0 + 1 + 1 + 1 + 1 + 1) (nI 10)) (0 + 1 + 1 + 1 + 1 + 1 + 1) (nI 70)) (0 + 1 + 1 + 1 + 1 + 1 + 1 + 1) (nI 40)) (0 + 1 + 1 + 1 + 1 + 1 + 1 + 1 + 1) (nI 12))) := by
  refine CmF.ofI (by decide) rfl (Nat.le_of_ble_eq_true rfl) ?_
  intro p l e R s m args below meth c Q D dA h fc wk hd ri rt cw tx nm B S ls hx hb hml hRf hRl hRc hRs htab hts hown hK hI hB hS0 hQ hN hIm hZ hSh hM hl hret hret0
  have hl : lv_has ls 5 [(0, .ref (h 0)), (1, .int (nI i)), (2, .int (nI 3)), (3, .int x0)] := hl
  have hN2 := hN0.2
  refine lv_aload_n hx hb dX0_voice_0 rfl (lv_at hl 0 rfl) ?_
  refine lv_iload_n hx hb dX0_voice_1 rfl (lv_at hl 1 rfl) ?_
  refine lv_iload_n hx hb dX0_voice_2 rfl (lv_at hl 2 rfl) ?_
  refine lv_iconst (v := nI 0) hx hb dX0_voice_3 (by decide) ?_
  refine lv_iconst (v := nI 3) hx hb dX0_voice_4 (by decide) ?_
  refine st_callS (y := yX0_in) hx hb hml hown hts (cmX0_in (nI 3) (nI 0) (nI 3)) q330 q331 q61 q332 ndX0_in rfl (by rw [hRf]; decide) (by rw [hRl]; decide) (Nat.zero_le _) (Nat.zero_le _) hl.1 rfl (Nat.le_of_ble_eq_true rfl) dX0_voice_5 ?_
  obtain ⟨x, hx1, hx2, hx3⟩ := hQ.1.1 i hi
  refine cg_callV (y := yX0_cowAt) (b := h 0) (C := RX0) (As := [.int (nI i), .int (iI (nI 0 ≤ nI 3 ∧ nI 3 ≤ nI 3))]) hx hb hml hown hts hK hM.2.2 (ca_cowAt_ok D dA h _ _ _ _ _ _ _ _ _ _ hI i x (nI 0 ≤ nI 3 ∧ nI 3 ≤ nI 3) hN0 hi ((in_nat (by decide)).mpr ⟨_, by omega, rfl⟩) hx1) hM.1 (fun q hq => hq) (cAt.recv hK (hM.1 0 _ rfl) rfl) q508 q510 qs3 q61 q511 ndX0_cowAt rfl (by rw [hRf]; decide) (by rw [hRl]; decide) (Nat.zero_le _) (Nat.zero_le _) hl.1 rfl (Nat.le_of_ble_eq_true rfl) dX0_voice_8 ?_
  rintro _ H locs ⟨rfl, hP1⟩ hz1 hk1 hS1
  have hM := cmH.of hI hP1 hS1
  refine lv_astore (lv' := [(4, .ref x), (0, .ref (h 0)), (1, .int (nI i)), (2, .int (nI 3)), (3, .int x0)]) hx hb dX0_voice_11 hl (by decide) rfl (fun ls hl => ?_)
  refine lv_aload_n hx hb dX0_voice_13 rfl (lv_at hl 1 rfl) ?_
  refine c_get (v := .ref (h 2)) hx hb hts in_X0 hown hK (hM.1 0 _ rfl) rfl 5 (by decide) q291 rfl rfl dX0_voice_14 ?_
  refine lv_iconst (v := nI 0) hx hb dX0_voice_17 (by decide) ?_
  have nq := hK.F 15 rfl
  refine cm_put_tmany hx hb hts hown hK hI hM nq dX0_voice_18 (fun H locs hM => ?_)
  refine lv_iload_n hx hb dX0_voice_21 rfl (lv_at hl 3 rfl) ?_
  refine lv_tableOut (tgt := 75) hx hb dX0_voice_22 (by decide) (by decide) ?_
  refine lv_aload hx hb dX0_voice_75 (lv_at hl 0 rfl) ?_
  refine lv_iload_n hx hb dX0_voice_77 rfl (lv_at hl 4 rfl) ?_
  have nq := hK.I 27 rfl
  have hO := hx3
  rw [show cl (a 1 (58 + 14 * i + 0)) = 6 by rw [hkd]; rfl] at hO
  have hxA : ¬ voA (h 2) (h 3) x := fun q => hB _ hx2 (q.elim (fun z => ⟨2, by decide, z⟩) (fun z => ⟨3, by decide, z⟩))
  have hne : h 2 ≠ h 3 := fun z => absurd (hI 2 (by decide) 3 (by decide) z) (by decide)
  have hP0 : va_P D cmCl (voWs dA (h 2) (h 3) 0 (a 14)) H := fun k q hk => by
    have h2 : k < 2 := (List.getElem?_eq_some_iff.mp hk).1
    match k, h2, hk with
    | 0, _, hk => cases hk; exact hM.1 2 _ rfl
    | 1, _, hk => cases hk; exact hM.1 3 _ rfl
  refine cg_callF (x := ⟨"MeadowMilk$Tells", "tells", "(I)I"⟩) (y := yX15_tells) (C := RX15) (A := cmA h) hx hb hml hown hts hK hM.2.2 (hK.1.1 16 _ rfl).2 (vo_tells_6_6 x (h 2) (h 3) i (a 1 (58 + 14 * i + 1)) (a 14) 0 hne hxA x0 (by omega)) ⟨hP0, hO.kept (hM.2.2.2.1 x hO.lt (hB _ hx2))⟩ (fun q hq => hq.elim (fun z => ⟨2, by decide, z⟩) (fun z => ⟨3, by decide, z⟩)) ((hO.kept (hM.2.2.2.1 x hO.lt (hB _ hx2))).recv hK rfl) q1214 q1235 q1237 q80 q1239 nq nf_tells rfl (by rw [hRf]; decide) (by rw [hRl]; decide) (Nat.zero_le _) (Nat.zero_le _) hl.1 rfl (Nat.le_of_ble_eq_true rfl) dX0_voice_78 ?_
  rintro _ H locs ⟨rfl, hP1⟩ hz1 hk1 hS1
  have hM := cmH.of hI (cm_updT hI hM.1 hk1 hP1) hS1
  exact hret0 (hM.cg (f' := upd (vF f 6 i (a 1 (58 + 14 * i + 1))) 24 (nI (0 + 1 + 1 + 1 + 1 + 1 + 1 + 1 + 1 + 1))) (a' := va_up a 14 (upd (upd (upd (upd (upd (upd (upd (upd (upd (a 14) 0 (nI 71)) (0 + 1) (nI 11)) (0 + 1 + 1) (nI 10)) (0 + 1 + 1 + 1) (nI 13)) (0 + 1 + 1 + 1 + 1) (nI 11)) (0 + 1 + 1 + 1 + 1 + 1) (nI 10)) (0 + 1 + 1 + 1 + 1 + 1 + 1) (nI 70)) (0 + 1 + 1 + 1 + 1 + 1 + 1 + 1) (nI 40)) (0 + 1 + 1 + 1 + 1 + 1 + 1 + 1 + 1) (nI 12))) rfl rfl rfl rfl rfl) (mwEq.rf) rfl rfl ⟨rfl, rfl, rfl⟩ (rfl) dX0_voice_83
set_option maxHeartbeats 400000 in
theorem ca_voice_e (f : Nat → Int32) (a : Nat → Nat → Int32) (v w x0 : Int32) (he : ¬ (cowP (a 1) v ∧ (nI 0 ≤ w ∧ w ≤ nI 3))) : CmF yX0_voice cX0_voice 5 [(0, 56, 84, 8), (57, 65, 84, 8), (66, 74, 84, 8), (75, 83, 84, 8)] 3 82 [.int v, .int w, .int x0] f a (-1000000001 : Int32) f (mErr a 1) := by
  refine CmF.ofI (by decide) rfl (Nat.le_of_ble_eq_true rfl) ?_
  intro p l e R s m args below meth c Q D dA h fc wk hd ri rt cw tx nm B S ls hx hb hml hRf hRl hRc hRs htab hts hown hK hI hB hS0 hQ hN hIm hZ hSh hM hl hret hret0
  have hl : lv_has ls 5 [(0, .ref (h 0)), (1, .int v), (2, .int w), (3, .int x0)] := hl
  refine lv_aload_n hx hb dX0_voice_0 rfl (lv_at hl 0 rfl) ?_
  refine lv_iload_n hx hb dX0_voice_1 rfl (lv_at hl 1 rfl) ?_
  refine lv_iload_n hx hb dX0_voice_2 rfl (lv_at hl 2 rfl) ?_
  refine lv_iconst (v := nI 0) hx hb dX0_voice_3 (by decide) ?_
  refine lv_iconst (v := nI 3) hx hb dX0_voice_4 (by decide) ?_
  refine st_callS (y := yX0_in) hx hb hml hown hts (cmX0_in w (nI 0) (nI 3)) q330 q331 q61 q332 ndX0_in rfl (by rw [hRf]; decide) (by rw [hRl]; decide) (Nat.zero_le _) (Nat.zero_le _) hl.1 rfl (Nat.le_of_ble_eq_true rfl) dX0_voice_5 ?_
  refine cm_thr (y := yX0_cowAt) (As := [.int v, .int (iI (nI 0 ≤ w ∧ w ≤ nI 3))]) hx hb hml hown hts hK hM.2.2 (ca_cowAt_e D dA h _ _ _ _ _ _ _ _ _ _ hI v (nI 0 ≤ w ∧ w ≤ nI 3) he) hM.1 (cAt.recv hK (hM.1 0 _ rfl) rfl) (fun H1 hq => ⟨_, hq 1 _ rfl⟩) htab (hpc := 84) rfl q508 q510 qs3 q511 ndX0_cowAt rfl (by rw [hRf]; decide) (by rw [hRl]; decide) (Nat.zero_le _) (Nat.zero_le _) hl.1 rfl (Nat.le_of_ble_eq_true rfl) dX0_voice_8 (fun H locs hP1 hS1 => ?_)
  have hM := cmH.of hI hP1 hS1
  refine lv_astore (lv' := [(4, .ref (h 1)), (0, .ref (h 0)), (1, .int v), (2, .int w), (3, .int x0)]) hx hb dX0_voice_84 hl (by decide) rfl (fun ls hl => ?_)
  refine lv_aload_n hx hb dX0_voice_86 rfl (lv_at hl 1 rfl) ?_
  refine lv_aload hx hb dX0_voice_87 (lv_at hl 0 rfl) ?_
  refine cm_fin hx hb hml hown hts hK hI 1 (by decide) hM q341 (by rw [hRf]; decide) (by rw [hRl]; decide) (Nat.zero_le _) (Nat.zero_le _) hl.1 (Nat.le_of_ble_eq_true rfl) dX0_voice_89 (fun H locs hM => ?_)
  exact hret0 hM (mwEq.rf) rfl rfl ⟨rfl, rfl, rfl⟩ (by decide) dX0_voice_92
