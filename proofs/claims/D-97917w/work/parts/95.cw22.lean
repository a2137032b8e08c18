/-! errors of become, cow, sheet, hays, walked (printed by comp25.py) -/
set_option maxRecDepth 100000
theorem ndX0_isKind : yX0_isKind.cls ≠ "java/lang/invoke/MethodHandle" ∧ yX0_isKind.cls ≠ "java/lang/invoke/VarHandle" ∧ (parseMethodDescriptor yX0_isKind.desc).map (fun d => d.parameters.length) = some 1 := by decide +kernel

set_option maxHeartbeats 400000 in
theorem ca_become_e (f : Nat → Int32) (a : Nat → Nat → Int32) (v km : Int32) (he : ¬ (cowP (a 1) v ∧ (nI 0 ≤ km ∧ km ≤ nI 69))) : CmF yX0_become cX0_become 4 [(0, 39, 40, 8)] 3 82 [.int v, .int km] f a (-1000000001 : Int32) f (mErr a 1) := by
  refine CmF.ofI (by decide) rfl (Nat.le_of_ble_eq_true rfl) ?_
  intro p l e R s m args below meth c Q D dA h fc wk hd ri rt cw tx nm B S ls hx hb hml hRf hRl hRc hRs htab hts hown hK hI hB hS0 hQ hN hIm hZ hSh hM hl hret hret0
  have hl : lv_has ls 4 [(0, .ref (h 0)), (1, .int v), (2, .int km)] := hl
  refine lv_aload_n hx hb dX0_become_0 rfl (lv_at hl 0 rfl) ?_
  refine lv_iload_n hx hb dX0_become_1 rfl (lv_at hl 1 rfl) ?_
  refine lv_iload_n hx hb dX0_become_2 rfl (lv_at hl 2 rfl) ?_
  refine st_callS (y := yX0_isKind) hx hb hml hown hts (cmX0_isKind km) q399 q400 q61 q401 ndX0_isKind rfl (by rw [hRf]; decide) (by rw [hRl]; decide) (Nat.zero_le _) (Nat.zero_le _) hl.1 rfl (Nat.le_of_ble_eq_true rfl) dX0_become_3 ?_
  refine cm_thr (y := yX0_cowAt) (As := [.int v, .int (iI (nI 0 ≤ km ∧ km ≤ nI 69))]) hx hb hml hown hts hK hM.2.2 (ca_cowAt_e D dA h _ _ _ _ _ _ _ _ _ _ hI v (nI 0 ≤ km ∧ km ≤ nI 69) he) hM.1 (cAt.recv hK (hM.1 0 _ rfl) rfl) (fun H1 hq => ⟨_, hq 1 _ rfl⟩) htab (hpc := 40) rfl q508 q510 qs3 q511 ndX0_cowAt rfl (by rw [hRf]; decide) (by rw [hRl]; decide) (Nat.zero_le _) (Nat.zero_le _) hl.1 rfl (Nat.le_of_ble_eq_true rfl) dX0_become_6 (fun H locs hP1 hS1 => ?_)
  have hM := cmH.of hI hP1 hS1
  refine lv_astore_n (lv' := [(3, .ref (h 1)), (0, .ref (h 0)), (1, .int v), (2, .int km)]) hx hb dX0_become_40 rfl hl (by decide) rfl (fun ls hl => ?_)
  refine lv_aload_n hx hb dX0_become_41 rfl (lv_at hl 1 rfl) ?_
  refine lv_aload_n hx hb dX0_become_42 rfl (lv_at hl 0 rfl) ?_
  refine cm_fin hx hb hml hown hts hK hI 1 (by decide) hM q341 (by rw [hRf]; decide) (by rw [hRl]; decide) (Nat.zero_le _) (Nat.zero_le _) hl.1 (Nat.le_of_ble_eq_true rfl) dX0_become_43 (fun H locs hM => ?_)
  exact hret0 hM (mwEq.rf) rfl rfl ⟨rfl, rfl, rfl⟩ (by decide) dX0_become_46
set_option maxHeartbeats 400000 in
theorem ca_cow_f (f : Nat → Int32) (a : Nat → Nat → Int32) (km c0 : Nat) (hk : km ≤ 69) (hc : c0 < 25) (hN0 : okN (a 1 3) 5) (hi : cl (a 1 3) = 5) : CmF yX0_cow cX0_cow 4 [(0, 112, 113, 8)] 2 60 [.int (nI km), .int (nI c0)] f a (-1000000004 : Int32) f (mErr a 4) := by
  refine CmF.ofI (by decide) rfl (Nat.le_of_ble_eq_true rfl) ?_
  intro p l e R s m args below meth c Q D dA h fc wk hd ri rt cw tx nm B S ls hx hb hml hRf hRl hRc hRs htab hts hown hK hI hB hS0 hQ hN hIm hZ hSh hM hl hret hret0
  have hl : lv_has ls 4 [(0, .ref (h 0)), (1, .int (nI km)), (2, .int (nI c0))] := hl
  have hN2 := hN0.2
  refine lv_aload_n hx hb dX0_cow_0 rfl (lv_at hl 0 rfl) ?_
  refine lv_iload_n hx hb dX0_cow_1 rfl (lv_at hl 1 rfl) ?_
  refine st_callS (y := yX0_isKind) hx hb hml hown hts (cmX0_isKind (nI km)) q399 q400 q61 q401 ndX0_isKind rfl (by rw [hRf]; decide) (by rw [hRl]; decide) (Nat.zero_le _) (Nat.zero_le _) hl.1 rfl (Nat.le_of_ble_eq_true rfl) dX0_cow_2 ?_
  refine w_if_eqT (tgt := 19) hx hb dX0_cow_5 (by decide) (fun c_1 => ?_) (fun c_1 => ?_)
  · exact absurd (by first | exact (in_nat (by decide)).mpr ⟨_, by omega, rfl⟩ | exact (in_nat1 _ (by decide) (by decide)).mpr ⟨_, by omega, by omega, rfl⟩ | exact cow_in hN0 (by omega) | assumption) c_1
  · refine lv_iload_n hx hb dX0_cow_8 rfl (lv_at hl 2 rfl) ?_
    refine st_callS (y := yX0_isCell) hx hb hml hown hts (cmX0_isCell (nI c0)) q327 q328 q61 q329 ndX0_isCell rfl (by rw [hRf]; decide) (by rw [hRl]; decide) (Nat.zero_le _) (Nat.zero_le _) hl.1 rfl (Nat.le_of_ble_eq_true rfl) dX0_cow_9 ?_
    refine w_if_eqT (tgt := 19) hx hb dX0_cow_12 (by decide) (fun c_2 => ?_) (fun c_2 => ?_)
    · exact absurd (by first | exact (in_nat (by decide)).mpr ⟨_, by omega, rfl⟩ | exact (in_nat1 _ (by decide) (by decide)).mpr ⟨_, by omega, by omega, rfl⟩ | exact cow_in hN0 (by omega) | assumption) c_2
    · refine lv_iconst (v := nI 1) hx hb dX0_cow_15 (by decide) ?_
      refine lv_goto (tgt := 20) hx hb dX0_cow_16 (by decide) ?_
      refine lv_iconst (v := nI 1) hx hb dX0_cow_20 (by decide) ?_
      refine cm_n1 hx hb hml hown hts hK hI hM htab (hpc := 113) rfl q333 (by rw [hRf]; decide) (by rw [hRl]; decide) (Nat.zero_le _) (Nat.zero_le _) hl.1 (Nat.le_of_ble_eq_true rfl) dX0_cow_21 (fun locs hM => ?_)
      refine lv_aload_n hx hb dX0_cow_24 rfl (lv_at hl 0 rfl) ?_
      refine lv_aload_n hx hb dX0_cow_25 rfl (lv_at hl 0 rfl) ?_
      refine c_get (v := .ref (hm0 h 0)) hx hb hts in_X0 hown hK (hM.1 0 _ rfl) rfl 1 (by decide) q287 rfl rfl dX0_cow_26 ?_
      have nq := hK.F 1 rfl
      refine c_getN (v := .int (a 1 3)) hx hb hts in_X2 hown hK ((cm_parts hM.1).2.1 0 _ rfl) rfl 3 (by decide) nq rfl rfl dX0_cow_29 ?_
      refine w_top (nI (cl (a 1 3))) (hN0.1) ?_
      refine lv_iconst (v := nI 5) hx hb dX0_cow_32 (by decide) ?_
      refine w_icmp_geN (tgt := 40) hx hb (by omega) (by omega) dX0_cow_33 (by decide) (fun c_3 => ?_) (fun c_3 => ?_)
      · refine lv_iconst (v := nI 0) hx hb dX0_cow_40 (by decide) ?_
        refine lv_iconst (v := nI 4) hx hb dX0_cow_41 (by decide) ?_
        refine cm_n0 hx hb hml hown hts hK hI hM htab (hpc := 113) rfl q333 (by rw [hRf]; decide) (by rw [hRl]; decide) (Nat.zero_le _) (Nat.zero_le _) hl.1 (Nat.le_of_ble_eq_true rfl) dX0_cow_42 (fun H locs hM => ?_)
        refine lv_astore_n (lv' := [(3, .ref (h 1)), (0, .ref (h 0)), (1, .int (nI km)), (2, .int (nI c0))]) hx hb dX0_cow_113 rfl hl (by decide) rfl (fun ls hl => ?_)
        refine lv_aload_n hx hb dX0_cow_114 rfl (lv_at hl 1 rfl) ?_
        refine lv_aload_n hx hb dX0_cow_115 rfl (lv_at hl 0 rfl) ?_
        refine cm_fin hx hb hml hown hts hK hI 4 (by decide) hM q341 (by rw [hRf]; decide) (by rw [hRl]; decide) (Nat.zero_le _) (Nat.zero_le _) hl.1 (Nat.le_of_ble_eq_true rfl) dX0_cow_116 (fun H locs hM => ?_)
        exact hret0 hM (mwEq.rf) rfl rfl ⟨rfl, rfl, rfl⟩ (by decide) dX0_cow_119
      · exact absurd c_3 (by omega)
set_option maxHeartbeats 400000 in
theorem ca_cow_e (f : Nat → Int32) (a : Nat → Nat → Int32) (km c0 : Int32) (he : ¬ ((nI 0 ≤ km ∧ km ≤ nI 69) ∧ (nI 0 ≤ c0 ∧ c0 ≤ nI 24))) : CmF yX0_cow cX0_cow 4 [(0, 112, 113, 8)] 2 60 [.int km, .int c0] f a (-1000000001 : Int32) f (mErr a 1) := by
  refine CmF.ofI (by decide) rfl (Nat.le_of_ble_eq_true rfl) ?_
  intro p l e R s m args below meth c Q D dA h fc wk hd ri rt cw tx nm B S ls hx hb hml hRf hRl hRc hRs htab hts hown hK hI hB hS0 hQ hN hIm hZ hSh hM hl hret hret0
  have hl : lv_has ls 4 [(0, .ref (h 0)), (1, .int km), (2, .int c0)] := hl
  refine lv_aload_n hx hb dX0_cow_0 rfl (lv_at hl 0 rfl) ?_
  refine lv_iload_n hx hb dX0_cow_1 rfl (lv_at hl 1 rfl) ?_
  refine st_callS (y := yX0_isKind) hx hb hml hown hts (cmX0_isKind km) q399 q400 q61 q401 ndX0_isKind rfl (by rw [hRf]; decide) (by rw [hRl]; decide) (Nat.zero_le _) (Nat.zero_le _) hl.1 rfl (Nat.le_of_ble_eq_true rfl) dX0_cow_2 ?_
  refine w_if_eqT (tgt := 19) hx hb dX0_cow_5 (by decide) (fun c_1 => ?_) (fun c_1 => ?_)
  · refine lv_iconst (v := nI 0) hx hb dX0_cow_19 (by decide) ?_
    refine lv_iconst (v := nI 1) hx hb dX0_cow_20 (by decide) ?_
    refine cm_n0 hx hb hml hown hts hK hI hM htab (hpc := 113) rfl q333 (by rw [hRf]; decide) (by rw [hRl]; decide) (Nat.zero_le _) (Nat.zero_le _) hl.1 (Nat.le_of_ble_eq_true rfl) dX0_cow_21 (fun H locs hM => ?_)
    refine lv_astore_n (lv' := [(3, .ref (h 1)), (0, .ref (h 0)), (1, .int km), (2, .int c0)]) hx hb dX0_cow_113 rfl hl (by decide) rfl (fun ls hl => ?_)
    refine lv_aload_n hx hb dX0_cow_114 rfl (lv_at hl 1 rfl) ?_
    refine lv_aload_n hx hb dX0_cow_115 rfl (lv_at hl 0 rfl) ?_
    refine cm_fin hx hb hml hown hts hK hI 1 (by decide) hM q341 (by rw [hRf]; decide) (by rw [hRl]; decide) (Nat.zero_le _) (Nat.zero_le _) hl.1 (Nat.le_of_ble_eq_true rfl) dX0_cow_116 (fun H locs hM => ?_)
    exact hret0 hM (mwEq.rf) rfl rfl ⟨rfl, rfl, rfl⟩ (by decide) dX0_cow_119
  · refine lv_iload_n hx hb dX0_cow_8 rfl (lv_at hl 2 rfl) ?_
    refine st_callS (y := yX0_isCell) hx hb hml hown hts (cmX0_isCell c0) q327 q328 q61 q329 ndX0_isCell rfl (by rw [hRf]; decide) (by rw [hRl]; decide) (Nat.zero_le _) (Nat.zero_le _) hl.1 rfl (Nat.le_of_ble_eq_true rfl) dX0_cow_9 ?_
    refine w_if_eqT (tgt := 19) hx hb dX0_cow_12 (by decide) (fun c_2 => ?_) (fun c_2 => ?_)
    · refine lv_iconst (v := nI 0) hx hb dX0_cow_19 (by decide) ?_
      refine lv_iconst (v := nI 1) hx hb dX0_cow_20 (by decide) ?_
      refine cm_n0 hx hb hml hown hts hK hI hM htab (hpc := 113) rfl q333 (by rw [hRf]; decide) (by rw [hRl]; decide) (Nat.zero_le _) (Nat.zero_le _) hl.1 (Nat.le_of_ble_eq_true rfl) dX0_cow_21 (fun H locs hM => ?_)
      refine lv_astore_n (lv' := [(3, .ref (h 1)), (0, .ref (h 0)), (1, .int km), (2, .int c0)]) hx hb dX0_cow_113 rfl hl (by decide) rfl (fun ls hl => ?_)
      refine lv_aload_n hx hb dX0_cow_114 rfl (lv_at hl 1 rfl) ?_
      refine lv_aload_n hx hb dX0_cow_115 rfl (lv_at hl 0 rfl) ?_
      refine cm_fin hx hb hml hown hts hK hI 1 (by decide) hM q341 (by rw [hRf]; decide) (by rw [hRl]; decide) (Nat.zero_le _) (Nat.zero_le _) hl.1 (Nat.le_of_ble_eq_true rfl) dX0_cow_116 (fun H locs hM => ?_)
      exact hret0 hM (mwEq.rf) rfl rfl ⟨rfl, rfl, rfl⟩ (by decide) dX0_cow_119
    · refine lv_iconst (v := nI 1) hx hb dX0_cow_15 (by decide) ?_
      refine lv_goto (tgt := 20) hx hb dX0_cow_16 (by decide) ?_
      refine lv_iconst (v := nI 1) hx hb dX0_cow_20 (by decide) ?_
      exact absurd ⟨c_1, c_2⟩ he
theorem ndX0_isWidth : yX0_isWidth.cls ≠ "java/lang/invoke/MethodHandle" ∧ yX0_isWidth.cls ≠ "java/lang/invoke/VarHandle" ∧ (parseMethodDescriptor yX0_isWidth.desc).map (fun d => d.parameters.length) = some 1 := by decide +kernel

set_option maxHeartbeats 400000 in
theorem ca_sheet_s8 (f : Nat → Int32) (a : Nat → Nat → Int32) (sh : Nat) (hs : sh < 4) (n : Int32) (hn0 : ¬ 0 ≤ n) : CmF yX0_sheet cX0_sheet 5 [(0, 43, 127, 8), (44, 126, 127, 8)] 2 60 [.int (nI sh), .int (nI 8), .int n] f a (-1000000003 : Int32) f (mErr a 3) := by
  refine CmF.ofI (by decide) rfl (Nat.le_of_ble_eq_true rfl) ?_
  intro p l e R s m args below meth c Q D dA h fc wk hd ri rt cw tx nm B S ls hx hb hml hRf hRl hRc hRs htab hts hown hK hI hB hS0 hQ hN hIm hZ hSh hM hl hret hret0
  have hl : lv_has ls 5 [(0, .ref (h 0)), (1, .int (nI sh)), (2, .int (nI 8)), (3, .int n)] := hl
  refine lv_aload_n hx hb dX0_sheet_0 rfl (lv_at hl 0 rfl) ?_
  refine lv_iload_n hx hb dX0_sheet_1 rfl (lv_at hl 1 rfl) ?_
  refine st_callS (y := yX0_isSheet) hx hb hml hown hts (cmX0_isSheet (nI sh)) q1020 q1021 q61 q1022 ndX0_isSheet rfl (by rw [hRf]; decide) (by rw [hRl]; decide) (Nat.zero_le _) (Nat.zero_le _) hl.1 rfl (Nat.le_of_ble_eq_true rfl) dX0_sheet_2 ?_
  refine w_if_eqT (tgt := 23) hx hb dX0_sheet_5 (by decide) (fun c_1 => ?_) (fun c_1 => ?_)
  · exact absurd (by first | exact (in_nat (by decide)).mpr ⟨_, by omega, rfl⟩ | exact (in_nat1 _ (by decide) (by decide)).mpr ⟨_, by omega, by omega, rfl⟩ | exact cow_in hN0 (by omega) | assumption) c_1
  · refine lv_iload_n hx hb dX0_sheet_8 rfl (lv_at hl 2 rfl) ?_
    refine lv_if_eq (tgt := 19) hx hb dX0_sheet_9 (by decide) (fun q => absurd q (by decide)) (fun _ => ?_)
    refine lv_iload_n hx hb dX0_sheet_12 rfl (lv_at hl 2 rfl) ?_
    refine st_callS (y := yX0_isWidth) hx hb hml hown hts (cmX0_isWidth (nI 8)) q1282 q1283 q61 q1284 ndX0_isWidth rfl (by rw [hRf]; decide) (by rw [hRl]; decide) (Nat.zero_le _) (Nat.zero_le _) hl.1 rfl (Nat.le_of_ble_eq_true rfl) dX0_sheet_13 ?_
    refine w_if_eqT (tgt := 23) hx hb dX0_sheet_16 (by decide) (fun c_3 => ?_) (fun c_3 => ?_)
    · exact absurd (by decide) c_3
    · refine lv_iconst (v := nI 1) hx hb dX0_sheet_19 (by decide) ?_
      refine lv_goto (tgt := 24) hx hb dX0_sheet_20 (by decide) ?_
      refine lv_iconst (v := nI 1) hx hb dX0_sheet_24 (by decide) ?_
      refine cm_n1 hx hb hml hown hts hK hI hM htab (hpc := 127) rfl q333 (by rw [hRf]; decide) (by rw [hRl]; decide) (Nat.zero_le _) (Nat.zero_le _) hl.1 (Nat.le_of_ble_eq_true rfl) dX0_sheet_25 (fun locs hM => ?_)
      refine lv_iload_n hx hb dX0_sheet_28 rfl (lv_at hl 2 rfl) ?_
      refine lv_if_ne (tgt := 44) hx hb dX0_sheet_29 (by decide) (fun _ => ?_) (fun q => absurd q (by decide))
      refine lv_aload_n hx hb dX0_sheet_44 rfl (lv_at hl 0 rfl) ?_
      refine lv_iload_n hx hb dX0_sheet_45 rfl (lv_at hl 3 rfl) ?_
      refine lv_if_lt (tgt := 53) hx hb dX0_sheet_46 (by decide) (fun c_5 => ?_) (fun c_5 => ?_)
      · refine lv_iconst (v := nI 0) hx hb dX0_sheet_53 (by decide) ?_
        refine lv_iconst (v := nI 3) hx hb dX0_sheet_54 (by decide) ?_
        refine cm_n0 hx hb hml hown hts hK hI hM htab (hpc := 127) rfl q333 (by rw [hRf]; decide) (by rw [hRl]; decide) (Nat.zero_le _) (Nat.zero_le _) hl.1 (Nat.le_of_ble_eq_true rfl) dX0_sheet_55 (fun H locs hM => ?_)
        refine lv_astore (lv' := [(4, .ref (h 1)), (0, .ref (h 0)), (1, .int (nI sh)), (2, .int (nI 8)), (3, .int n)]) hx hb dX0_sheet_127 hl (by decide) rfl (fun ls hl => ?_)
        refine lv_aload_n hx hb dX0_sheet_129 rfl (lv_at hl 1 rfl) ?_
        refine lv_aload hx hb dX0_sheet_130 (lv_at hl 0 rfl) ?_
        refine cm_fin hx hb hml hown hts hK hI 3 (by decide) hM q341 (by rw [hRf]; decide) (by rw [hRl]; decide) (Nat.zero_le _) (Nat.zero_le _) hl.1 (Nat.le_of_ble_eq_true rfl) dX0_sheet_132 (fun H locs hM => ?_)
        exact hret0 hM (mwEq.rf) rfl rfl ⟨rfl, rfl, rfl⟩ (by decide) dX0_sheet_135
      · exact absurd (by first | exact c_5 | exact Int32.not_lt.mp c_5) hn0
set_option maxHeartbeats 400000 in
theorem ca_sheet_b8 (f : Nat → Int32) (a : Nat → Nat → Int32) (sh : Nat) (hs : sh < 4) (n : Int32) (hn0 : 0 ≤ n) (hn1 : ¬ n ≤ nI 40) : CmF yX0_sheet cX0_sheet 5 [(0, 43, 127, 8), (44, 126, 127, 8)] 2 60 [.int (nI sh), .int (nI 8), .int n] f a (-1000000001 : Int32) f (mErr a 1) := by
  refine CmF.ofI (by decide) rfl (Nat.le_of_ble_eq_true rfl) ?_
  intro p l e R s m args below meth c Q D dA h fc wk hd ri rt cw tx nm B S ls hx hb hml hRf hRl hRc hRs htab hts hown hK hI hB hS0 hQ hN hIm hZ hSh hM hl hret hret0
  have hl : lv_has ls 5 [(0, .ref (h 0)), (1, .int (nI sh)), (2, .int (nI 8)), (3, .int n)] := hl
  refine lv_aload_n hx hb dX0_sheet_0 rfl (lv_at hl 0 rfl) ?_
  refine lv_iload_n hx hb dX0_sheet_1 rfl (lv_at hl 1 rfl) ?_
  refine st_callS (y := yX0_isSheet) hx hb hml hown hts (cmX0_isSheet (nI sh)) q1020 q1021 q61 q1022 ndX0_isSheet rfl (by rw [hRf]; decide) (by rw [hRl]; decide) (Nat.zero_le _) (Nat.zero_le _) hl.1 rfl (Nat.le_of_ble_eq_true rfl) dX0_sheet_2 ?_
  refine w_if_eqT (tgt := 23) hx hb dX0_sheet_5 (by decide) (fun c_1 => ?_) (fun c_1 => ?_)
  · exact absurd (by first | exact (in_nat (by decide)).mpr ⟨_, by omega, rfl⟩ | exact (in_nat1 _ (by decide) (by decide)).mpr ⟨_, by omega, by omega, rfl⟩ | exact cow_in hN0 (by omega) | assumption) c_1
  · refine lv_iload_n hx hb dX0_sheet_8 rfl (lv_at hl 2 rfl) ?_
    refine lv_if_eq (tgt := 19) hx hb dX0_sheet_9 (by decide) (fun q => absurd q (by decide)) (fun _ => ?_)
    refine lv_iload_n hx hb dX0_sheet_12 rfl (lv_at hl 2 rfl) ?_
    refine st_callS (y := yX0_isWidth) hx hb hml hown hts (cmX0_isWidth (nI 8)) q1282 q1283 q61 q1284 ndX0_isWidth rfl (by rw [hRf]; decide) (by rw [hRl]; decide) (Nat.zero_le _) (Nat.zero_le _) hl.1 rfl (Nat.le_of_ble_eq_true rfl) dX0_sheet_13 ?_
    refine w_if_eqT (tgt := 23) hx hb dX0_sheet_16 (by decide) (fun c_3 => ?_) (fun c_3 => ?_)
    · exact absurd (by decide) c_3
    · refine lv_iconst (v := nI 1) hx hb dX0_sheet_19 (by decide) ?_
      refine lv_goto (tgt := 24) hx hb dX0_sheet_20 (by decide) ?_
      refine lv_iconst (v := nI 1) hx hb dX0_sheet_24 (by decide) ?_
      refine cm_n1 hx hb hml hown hts hK hI hM htab (hpc := 127) rfl q333 (by rw [hRf]; decide) (by rw [hRl]; decide) (Nat.zero_le _) (Nat.zero_le _) hl.1 (Nat.le_of_ble_eq_true rfl) dX0_sheet_25 (fun locs hM => ?_)
      refine lv_iload_n hx hb dX0_sheet_28 rfl (lv_at hl 2 rfl) ?_
      refine lv_if_ne (tgt := 44) hx hb dX0_sheet_29 (by decide) (fun _ => ?_) (fun q => absurd q (by decide))
      refine lv_aload_n hx hb dX0_sheet_44 rfl (lv_at hl 0 rfl) ?_
      refine lv_iload_n hx hb dX0_sheet_45 rfl (lv_at hl 3 rfl) ?_
      refine lv_if_lt (tgt := 53) hx hb dX0_sheet_46 (by decide) (fun c_5 => ?_) (fun c_5 => ?_)
      · exact absurd c_5 (Int32.not_lt.mpr hn0)
      · refine lv_iconst (v := nI 1) hx hb dX0_sheet_49 (by decide) ?_
        refine lv_goto (tgt := 54) hx hb dX0_sheet_50 (by decide) ?_
        refine lv_iconst (v := nI 3) hx hb dX0_sheet_54 (by decide) ?_
        refine cm_n1 hx hb hml hown hts hK hI hM htab (hpc := 127) rfl q333 (by rw [hRf]; decide) (by rw [hRl]; decide) (Nat.zero_le _) (Nat.zero_le _) hl.1 (Nat.le_of_ble_eq_true rfl) dX0_sheet_55 (fun locs hM => ?_)
        refine lv_aload_n hx hb dX0_sheet_58 rfl (lv_at hl 0 rfl) ?_
        refine lv_iload_n hx hb dX0_sheet_59 rfl (lv_at hl 3 rfl) ?_
        refine lv_bipush (v := nI 40) hx hb dX0_sheet_60 (by decide) ?_
        refine lv_icmp_gt (tgt := 69) hx hb dX0_sheet_62 (by decide) (fun c_6 => ?_) (fun c_6 => ?_)
        · refine lv_iconst (v := nI 0) hx hb dX0_sheet_69 (by decide) ?_
          refine lv_iconst (v := nI 1) hx hb dX0_sheet_70 (by decide) ?_
          refine cm_n0 hx hb hml hown hts hK hI hM htab (hpc := 127) rfl q333 (by rw [hRf]; decide) (by rw [hRl]; decide) (Nat.zero_le _) (Nat.zero_le _) hl.1 (Nat.le_of_ble_eq_true rfl) dX0_sheet_71 (fun H locs hM => ?_)
          refine lv_astore (lv' := [(4, .ref (h 1)), (0, .ref (h 0)), (1, .int (nI sh)), (2, .int (nI 8)), (3, .int n)]) hx hb dX0_sheet_127 hl (by decide) rfl (fun ls hl => ?_)
          refine lv_aload_n hx hb dX0_sheet_129 rfl (lv_at hl 1 rfl) ?_
          refine lv_aload hx hb dX0_sheet_130 (lv_at hl 0 rfl) ?_
          refine cm_fin hx hb hml hown hts hK hI 1 (by decide) hM q341 (by rw [hRf]; decide) (by rw [hRl]; decide) (Nat.zero_le _) (Nat.zero_le _) hl.1 (Nat.le_of_ble_eq_true rfl) dX0_sheet_132 (fun H locs hM => ?_)
          exact hret0 hM (mwEq.rf) rfl rfl ⟨rfl, rfl, rfl⟩ (by decide) dX0_sheet_135
        · exact absurd (by first | exact c_6 | exact Int32.not_lt.mp c_6) hn1
set_option maxHeartbeats 400000 in
theorem ca_sheet_s16 (f : Nat → Int32) (a : Nat → Nat → Int32) (sh : Nat) (hs : sh < 4) (n : Int32) (hn0 : ¬ 0 ≤ n) : CmF yX0_sheet cX0_sheet 5 [(0, 43, 127, 8), (44, 126, 127, 8)] 2 60 [.int (nI sh), .int (nI 16), .int n] f a (-1000000003 : Int32) f (mErr a 3) := by
  refine CmF.ofI (by decide) rfl (Nat.le_of_ble_eq_true rfl) ?_
  intro p l e R s m args below meth c Q D dA h fc wk hd ri rt cw tx nm B S ls hx hb hml hRf hRl hRc hRs htab hts hown hK hI hB hS0 hQ hN hIm hZ hSh hM hl hret hret0
  have hl : lv_has ls 5 [(0, .ref (h 0)), (1, .int (nI sh)), (2, .int (nI 16)), (3, .int n)] := hl
  refine lv_aload_n hx hb dX0_sheet_0 rfl (lv_at hl 0 rfl) ?_
  refine lv_iload_n hx hb dX0_sheet_1 rfl (lv_at hl 1 rfl) ?_
  refine st_callS (y := yX0_isSheet) hx hb hml hown hts (cmX0_isSheet (nI sh)) q1020 q1021 q61 q1022 ndX0_isSheet rfl (by rw [hRf]; decide) (by rw [hRl]; decide) (Nat.zero_le _) (Nat.zero_le _) hl.1 rfl (Nat.le_of_ble_eq_true rfl) dX0_sheet_2 ?_
  refine w_if_eqT (tgt := 23) hx hb dX0_sheet_5 (by decide) (fun c_1 => ?_) (fun c_1 => ?_)
  · exact absurd (by first | exact (in_nat (by decide)).mpr ⟨_, by omega, rfl⟩ | exact (in_nat1 _ (by decide) (by decide)).mpr ⟨_, by omega, by omega, rfl⟩ | exact cow_in hN0 (by omega) | assumption) c_1
  · refine lv_iload_n hx hb dX0_sheet_8 rfl (lv_at hl 2 rfl) ?_
    refine lv_if_eq (tgt := 19) hx hb dX0_sheet_9 (by decide) (fun q => absurd q (by decide)) (fun _ => ?_)
    refine lv_iload_n hx hb dX0_sheet_12 rfl (lv_at hl 2 rfl) ?_
    refine st_callS (y := yX0_isWidth) hx hb hml hown hts (cmX0_isWidth (nI 16)) q1282 q1283 q61 q1284 ndX0_isWidth rfl (by rw [hRf]; decide) (by rw [hRl]; decide) (Nat.zero_le _) (Nat.zero_le _) hl.1 rfl (Nat.le_of_ble_eq_true rfl) dX0_sheet_13 ?_
    refine w_if_eqT (tgt := 23) hx hb dX0_sheet_16 (by decide) (fun c_3 => ?_) (fun c_3 => ?_)
    · exact absurd (by decide) c_3
    · refine lv_iconst (v := nI 1) hx hb dX0_sheet_19 (by decide) ?_
      refine lv_goto (tgt := 24) hx hb dX0_sheet_20 (by decide) ?_
      refine lv_iconst (v := nI 1) hx hb dX0_sheet_24 (by decide) ?_
      refine cm_n1 hx hb hml hown hts hK hI hM htab (hpc := 127) rfl q333 (by rw [hRf]; decide) (by rw [hRl]; decide) (Nat.zero_le _) (Nat.zero_le _) hl.1 (Nat.le_of_ble_eq_true rfl) dX0_sheet_25 (fun locs hM => ?_)
      refine lv_iload_n hx hb dX0_sheet_28 rfl (lv_at hl 2 rfl) ?_
      refine lv_if_ne (tgt := 44) hx hb dX0_sheet_29 (by decide) (fun _ => ?_) (fun q => absurd q (by decide))
      refine lv_aload_n hx hb dX0_sheet_44 rfl (lv_at hl 0 rfl) ?_
      refine lv_iload_n hx hb dX0_sheet_45 rfl (lv_at hl 3 rfl) ?_
      refine lv_if_lt (tgt := 53) hx hb dX0_sheet_46 (by decide) (fun c_5 => ?_) (fun c_5 => ?_)
      · refine lv_iconst (v := nI 0) hx hb dX0_sheet_53 (by decide) ?_
        refine lv_iconst (v := nI 3) hx hb dX0_sheet_54 (by decide) ?_
        refine cm_n0 hx hb hml hown hts hK hI hM htab (hpc := 127) rfl q333 (by rw [hRf]; decide) (by rw [hRl]; decide) (Nat.zero_le _) (Nat.zero_le _) hl.1 (Nat.le_of_ble_eq_true rfl) dX0_sheet_55 (fun H locs hM => ?_)
        refine lv_astore (lv' := [(4, .ref (h 1)), (0, .ref (h 0)), (1, .int (nI sh)), (2, .int (nI 16)), (3, .int n)]) hx hb dX0_sheet_127 hl (by decide) rfl (fun ls hl => ?_)
        refine lv_aload_n hx hb dX0_sheet_129 rfl (lv_at hl 1 rfl) ?_
        refine lv_aload hx hb dX0_sheet_130 (lv_at hl 0 rfl) ?_
        refine cm_fin hx hb hml hown hts hK hI 3 (by decide) hM q341 (by rw [hRf]; decide) (by rw [hRl]; decide) (Nat.zero_le _) (Nat.zero_le _) hl.1 (Nat.le_of_ble_eq_true rfl) dX0_sheet_132 (fun H locs hM => ?_)
        exact hret0 hM (mwEq.rf) rfl rfl ⟨rfl, rfl, rfl⟩ (by decide) dX0_sheet_135
      · exact absurd (by first | exact c_5 | exact Int32.not_lt.mp c_5) hn0
set_option maxHeartbeats 400000 in
theorem ca_sheet_b16 (f : Nat → Int32) (a : Nat → Nat → Int32) (sh : Nat) (hs : sh < 4) (n : Int32) (hn0 : 0 ≤ n) (hn1 : ¬ n ≤ nI 40) : CmF yX0_sheet cX0_sheet 5 [(0, 43, 127, 8), (44, 126, 127, 8)] 2 60 [.int (nI sh), .int (nI 16), .int n] f a (-1000000001 : Int32) f (mErr a 1) := by
  refine CmF.ofI (by decide) rfl (Nat.le_of_ble_eq_true rfl) ?_
  intro p l e R s m args below meth c Q D dA h fc wk hd ri rt cw tx nm B S ls hx hb hml hRf hRl hRc hRs htab hts hown hK hI hB hS0 hQ hN hIm hZ hSh hM hl hret hret0
  have hl : lv_has ls 5 [(0, .ref (h 0)), (1, .int (nI sh)), (2, .int (nI 16)), (3, .int n)] := hl
  refine lv_aload_n hx hb dX0_sheet_0 rfl (lv_at hl 0 rfl) ?_
  refine lv_iload_n hx hb dX0_sheet_1 rfl (lv_at hl 1 rfl) ?_
  refine st_callS (y := yX0_isSheet) hx hb hml hown hts (cmX0_isSheet (nI sh)) q1020 q1021 q61 q1022 ndX0_isSheet rfl (by rw [hRf]; decide) (by rw [hRl]; decide) (Nat.zero_le _) (Nat.zero_le _) hl.1 rfl (Nat.le_of_ble_eq_true rfl) dX0_sheet_2 ?_
  refine w_if_eqT (tgt := 23) hx hb dX0_sheet_5 (by decide) (fun c_1 => ?_) (fun c_1 => ?_)
  · exact absurd (by first | exact (in_nat (by decide)).mpr ⟨_, by omega, rfl⟩ | exact (in_nat1 _ (by decide) (by decide)).mpr ⟨_, by omega, by omega, rfl⟩ | exact cow_in hN0 (by omega) | assumption) c_1
  · refine lv_iload_n hx hb dX0_sheet_8 rfl (lv_at hl 2 rfl) ?_
    refine lv_if_eq (tgt := 19) hx hb dX0_sheet_9 (by decide) (fun q => absurd q (by decide)) (fun _ => ?_)
    refine lv_iload_n hx hb dX0_sheet_12 rfl (lv_at hl 2 rfl) ?_
    refine st_callS (y := yX0_isWidth) hx hb hml hown hts (cmX0_isWidth (nI 16)) q1282 q1283 q61 q1284 ndX0_isWidth rfl (by rw [hRf]; decide) (by rw [hRl]; decide) (Nat.zero_le _) (Nat.zero_le _) hl.1 rfl (Nat.le_of_ble_eq_true rfl) dX0_sheet_13 ?_
    refine w_if_eqT (tgt := 23) hx hb dX0_sheet_16 (by decide) (fun c_3 => ?_) (fun c_3 => ?_)
    · exact absurd (by decide) c_3
    · refine lv_iconst (v := nI 1) hx hb dX0_sheet_19 (by decide) ?_
      refine lv_goto (tgt := 24) hx hb dX0_sheet_20 (by decide) ?_
      refine lv_iconst (v := nI 1) hx hb dX0_sheet_24 (by decide) ?_
      refine cm_n1 hx hb hml hown hts hK hI hM htab (hpc := 127) rfl q333 (by rw [hRf]; decide) (by rw [hRl]; decide) (Nat.zero_le _) (Nat.zero_le _) hl.1 (Nat.le_of_ble_eq_true rfl) dX0_sheet_25 (fun locs hM => ?_)
      refine lv_iload_n hx hb dX0_sheet_28 rfl (lv_at hl 2 rfl) ?_
      refine lv_if_ne (tgt := 44) hx hb dX0_sheet_29 (by decide) (fun _ => ?_) (fun q => absurd q (by decide))
      refine lv_aload_n hx hb dX0_sheet_44 rfl (lv_at hl 0 rfl) ?_
      refine lv_iload_n hx hb dX0_sheet_45 rfl (lv_at hl 3 rfl) ?_
      refine lv_if_lt (tgt := 53) hx hb dX0_sheet_46 (by decide) (fun c_5 => ?_) (fun c_5 => ?_)
      · exact absurd c_5 (Int32.not_lt.mpr hn0)
      · refine lv_iconst (v := nI 1) hx hb dX0_sheet_49 (by decide) ?_
        refine lv_goto (tgt := 54) hx hb dX0_sheet_50 (by decide) ?_
        refine lv_iconst (v := nI 3) hx hb dX0_sheet_54 (by decide) ?_
        refine cm_n1 hx hb hml hown hts hK hI hM htab (hpc := 127) rfl q333 (by rw [hRf]; decide) (by rw [hRl]; decide) (Nat.zero_le _) (Nat.zero_le _) hl.1 (Nat.le_of_ble_eq_true rfl) dX0_sheet_55 (fun locs hM => ?_)
        refine lv_aload_n hx hb dX0_sheet_58 rfl (lv_at hl 0 rfl) ?_
        refine lv_iload_n hx hb dX0_sheet_59 rfl (lv_at hl 3 rfl) ?_
        refine lv_bipush (v := nI 40) hx hb dX0_sheet_60 (by decide) ?_
        refine lv_icmp_gt (tgt := 69) hx hb dX0_sheet_62 (by decide) (fun c_6 => ?_) (fun c_6 => ?_)
        · refine lv_iconst (v := nI 0) hx hb dX0_sheet_69 (by decide) ?_
          refine lv_iconst (v := nI 1) hx hb dX0_sheet_70 (by decide) ?_
          refine cm_n0 hx hb hml hown hts hK hI hM htab (hpc := 127) rfl q333 (by rw [hRf]; decide) (by rw [hRl]; decide) (Nat.zero_le _) (Nat.zero_le _) hl.1 (Nat.le_of_ble_eq_true rfl) dX0_sheet_71 (fun H locs hM => ?_)
          refine lv_astore (lv' := [(4, .ref (h 1)), (0, .ref (h 0)), (1, .int (nI sh)), (2, .int (nI 16)), (3, .int n)]) hx hb dX0_sheet_127 hl (by decide) rfl (fun ls hl => ?_)
          refine lv_aload_n hx hb dX0_sheet_129 rfl (lv_at hl 1 rfl) ?_
          refine lv_aload hx hb dX0_sheet_130 (lv_at hl 0 rfl) ?_
          refine cm_fin hx hb hml hown hts hK hI 1 (by decide) hM q341 (by rw [hRf]; decide) (by rw [hRl]; decide) (Nat.zero_le _) (Nat.zero_le _) hl.1 (Nat.le_of_ble_eq_true rfl) dX0_sheet_132 (fun H locs hM => ?_)
          exact hret0 hM (mwEq.rf) rfl rfl ⟨rfl, rfl, rfl⟩ (by decide) dX0_sheet_135
        · exact absurd (by first | exact c_6 | exact Int32.not_lt.mp c_6) hn1
set_option maxHeartbeats 400000 in
theorem ca_sheet_s32 (f : Nat → Int32) (a : Nat → Nat → Int32) (sh : Nat) (hs : sh < 4) (n : Int32) (hn0 : ¬ 0 ≤ n) : CmF yX0_sheet cX0_sheet 5 [(0, 43, 127, 8), (44, 126, 127, 8)] 2 60 [.int (nI sh), .int (nI 32), .int n] f a (-1000000003 : Int32) f (mErr a 3) := by
  refine CmF.ofI (by decide) rfl (Nat.le_of_ble_eq_true rfl) ?_
  intro p l e R s m args below meth c Q D dA h fc wk hd ri rt cw tx nm B S ls hx hb hml hRf hRl hRc hRs htab hts hown hK hI hB hS0 hQ hN hIm hZ hSh hM hl hret hret0
  have hl : lv_has ls 5 [(0, .ref (h 0)), (1, .int (nI sh)), (2, .int (nI 32)), (3, .int n)] := hl
  refine lv_aload_n hx hb dX0_sheet_0 rfl (lv_at hl 0 rfl) ?_
  refine lv_iload_n hx hb dX0_sheet_1 rfl (lv_at hl 1 rfl) ?_
  refine st_callS (y := yX0_isSheet) hx hb hml hown hts (cmX0_isSheet (nI sh)) q1020 q1021 q61 q1022 ndX0_isSheet rfl (by rw [hRf]; decide) (by rw [hRl]; decide) (Nat.zero_le _) (Nat.zero_le _) hl.1 rfl (Nat.le_of_ble_eq_true rfl) dX0_sheet_2 ?_
  refine w_if_eqT (tgt := 23) hx hb dX0_sheet_5 (by decide) (fun c_1 => ?_) (fun c_1 => ?_)
  · exact absurd (by first | exact (in_nat (by decide)).mpr ⟨_, by omega, rfl⟩ | exact (in_nat1 _ (by decide) (by decide)).mpr ⟨_, by omega, by omega, rfl⟩ | exact cow_in hN0 (by omega) | assumption) c_1
  · refine lv_iload_n hx hb dX0_sheet_8 rfl (lv_at hl 2 rfl) ?_
    refine lv_if_eq (tgt := 19) hx hb dX0_sheet_9 (by decide) (fun q => absurd q (by decide)) (fun _ => ?_)
    refine lv_iload_n hx hb dX0_sheet_12 rfl (lv_at hl 2 rfl) ?_
    refine st_callS (y := yX0_isWidth) hx hb hml hown hts (cmX0_isWidth (nI 32)) q1282 q1283 q61 q1284 ndX0_isWidth rfl (by rw [hRf]; decide) (by rw [hRl]; decide) (Nat.zero_le _) (Nat.zero_le _) hl.1 rfl (Nat.le_of_ble_eq_true rfl) dX0_sheet_13 ?_
    refine w_if_eqT (tgt := 23) hx hb dX0_sheet_16 (by decide) (fun c_3 => ?_) (fun c_3 => ?_)
    · exact absurd (by decide) c_3
    · refine lv_iconst (v := nI 1) hx hb dX0_sheet_19 (by decide) ?_
      refine lv_goto (tgt := 24) hx hb dX0_sheet_20 (by decide) ?_
      refine lv_iconst (v := nI 1) hx hb dX0_sheet_24 (by decide) ?_
      refine cm_n1 hx hb hml hown hts hK hI hM htab (hpc := 127) rfl q333 (by rw [hRf]; decide) (by rw [hRl]; decide) (Nat.zero_le _) (Nat.zero_le _) hl.1 (Nat.le_of_ble_eq_true rfl) dX0_sheet_25 (fun locs hM => ?_)
      refine lv_iload_n hx hb dX0_sheet_28 rfl (lv_at hl 2 rfl) ?_
      refine lv_if_ne (tgt := 44) hx hb dX0_sheet_29 (by decide) (fun _ => ?_) (fun q => absurd q (by decide))
      refine lv_aload_n hx hb dX0_sheet_44 rfl (lv_at hl 0 rfl) ?_
      refine lv_iload_n hx hb dX0_sheet_45 rfl (lv_at hl 3 rfl) ?_
      refine lv_if_lt (tgt := 53) hx hb dX0_sheet_46 (by decide) (fun c_5 => ?_) (fun c_5 => ?_)
      · refine lv_iconst (v := nI 0) hx hb dX0_sheet_53 (by decide) ?_
        refine lv_iconst (v := nI 3) hx hb dX0_sheet_54 (by decide) ?_
        refine cm_n0 hx hb hml hown hts hK hI hM htab (hpc := 127) rfl q333 (by rw [hRf]; decide) (by rw [hRl]; decide) (Nat.zero_le _) (Nat.zero_le _) hl.1 (Nat.le_of_ble_eq_true rfl) dX0_sheet_55 (fun H locs hM => ?_)
        refine lv_astore (lv' := [(4, .ref (h 1)), (0, .ref (h 0)), (1, .int (nI sh)), (2, .int (nI 32)), (3, .int n)]) hx hb dX0_sheet_127 hl (by decide) rfl (fun ls hl => ?_)
        refine lv_aload_n hx hb dX0_sheet_129 rfl (lv_at hl 1 rfl) ?_
        refine lv_aload hx hb dX0_sheet_130 (lv_at hl 0 rfl) ?_
        refine cm_fin hx hb hml hown hts hK hI 3 (by decide) hM q341 (by rw [hRf]; decide) (by rw [hRl]; decide) (Nat.zero_le _) (Nat.zero_le _) hl.1 (Nat.le_of_ble_eq_true rfl) dX0_sheet_132 (fun H locs hM => ?_)
        exact hret0 hM (mwEq.rf) rfl rfl ⟨rfl, rfl, rfl⟩ (by decide) dX0_sheet_135
      · exact absurd (by first | exact c_5 | exact Int32.not_lt.mp c_5) hn0
set_option maxHeartbeats 400000 in
theorem ca_sheet_b32 (f : Nat → Int32) (a : Nat → Nat → Int32) (sh : Nat) (hs : sh < 4) (n : Int32) (hn0 : 0 ≤ n) (hn1 : ¬ n ≤ nI 40) : CmF yX0_sheet cX0_sheet 5 [(0, 43, 127, 8), (44, 126, 127, 8)] 2 60 [.int (nI sh), .int (nI 32), .int n] f a (-1000000001 : Int32) f (mErr a 1) := by
  refine CmF.ofI (by decide) rfl (Nat.le_of_ble_eq_true rfl) ?_
  intro p l e R s m args below meth c Q D dA h fc wk hd ri rt cw tx nm B S ls hx hb hml hRf hRl hRc hRs htab hts hown hK hI hB hS0 hQ hN hIm hZ hSh hM hl hret hret0
  have hl : lv_has ls 5 [(0, .ref (h 0)), (1, .int (nI sh)), (2, .int (nI 32)), (3, .int n)] := hl
  refine lv_aload_n hx hb dX0_sheet_0 rfl (lv_at hl 0 rfl) ?_
  refine lv_iload_n hx hb dX0_sheet_1 rfl (lv_at hl 1 rfl) ?_
  refine st_callS (y := yX0_isSheet) hx hb hml hown hts (cmX0_isSheet (nI sh)) q1020 q1021 q61 q1022 ndX0_isSheet rfl (by rw [hRf]; decide) (by rw [hRl]; decide) (Nat.zero_le _) (Nat.zero_le _) hl.1 rfl (Nat.le_of_ble_eq_true rfl) dX0_sheet_2 ?_
  refine w_if_eqT (tgt := 23) hx hb dX0_sheet_5 (by decide) (fun c_1 => ?_) (fun c_1 => ?_)
  · exact absurd (by first | exact (in_nat (by decide)).mpr ⟨_, by omega, rfl⟩ | exact (in_nat1 _ (by decide) (by decide)).mpr ⟨_, by omega, by omega, rfl⟩ | exact cow_in hN0 (by omega) | assumption) c_1
  · refine lv_iload_n hx hb dX0_sheet_8 rfl (lv_at hl 2 rfl) ?_
    refine lv_if_eq (tgt := 19) hx hb dX0_sheet_9 (by decide) (fun q => absurd q (by decide)) (fun _ => ?_)
    refine lv_iload_n hx hb dX0_sheet_12 rfl (lv_at hl 2 rfl) ?_
    refine st_callS (y := yX0_isWidth) hx hb hml hown hts (cmX0_isWidth (nI 32)) q1282 q1283 q61 q1284 ndX0_isWidth rfl (by rw [hRf]; decide) (by rw [hRl]; decide) (Nat.zero_le _) (Nat.zero_le _) hl.1 rfl (Nat.le_of_ble_eq_true rfl) dX0_sheet_13 ?_
    refine w_if_eqT (tgt := 23) hx hb dX0_sheet_16 (by decide) (fun c_3 => ?_) (fun c_3 => ?_)
    · exact absurd (by decide) c_3
    · refine lv_iconst (v := nI 1) hx hb dX0_sheet_19 (by decide) ?_
      refine lv_goto (tgt := 24) hx hb dX0_sheet_20 (by decide) ?_
      refine lv_iconst (v := nI 1) hx hb dX0_sheet_24 (by decide) ?_
      refine cm_n1 hx hb hml hown hts hK hI hM htab (hpc := 127) rfl q333 (by rw [hRf]; decide) (by rw [hRl]; decide) (Nat.zero_le _) (Nat.zero_le _) hl.1 (Nat.le_of_ble_eq_true rfl) dX0_sheet_25 (fun locs hM => ?_)
      refine lv_iload_n hx hb dX0_sheet_28 rfl (lv_at hl 2 rfl) ?_
      refine lv_if_ne (tgt := 44) hx hb dX0_sheet_29 (by decide) (fun _ => ?_) (fun q => absurd q (by decide))
      refine lv_aload_n hx hb dX0_sheet_44 rfl (lv_at hl 0 rfl) ?_
      refine lv_iload_n hx hb dX0_sheet_45 rfl (lv_at hl 3 rfl) ?_
      refine lv_if_lt (tgt := 53) hx hb dX0_sheet_46 (by decide) (fun c_5 => ?_) (fun c_5 => ?_)
      · exact absurd c_5 (Int32.not_lt.mpr hn0)
      · refine lv_iconst (v := nI 1) hx hb dX0_sheet_49 (by decide) ?_
        refine lv_goto (tgt := 54) hx hb dX0_sheet_50 (by decide) ?_
        refine lv_iconst (v := nI 3) hx hb dX0_sheet_54 (by decide) ?_
        refine cm_n1 hx hb hml hown hts hK hI hM htab (hpc := 127) rfl q333 (by rw [hRf]; decide) (by rw [hRl]; decide) (Nat.zero_le _) (Nat.zero_le _) hl.1 (Nat.le_of_ble_eq_true rfl) dX0_sheet_55 (fun locs hM => ?_)
        refine lv_aload_n hx hb dX0_sheet_58 rfl (lv_at hl 0 rfl) ?_
        refine lv_iload_n hx hb dX0_sheet_59 rfl (lv_at hl 3 rfl) ?_
        refine lv_bipush (v := nI 40) hx hb dX0_sheet_60 (by decide) ?_
        refine lv_icmp_gt (tgt := 69) hx hb dX0_sheet_62 (by decide) (fun c_6 => ?_) (fun c_6 => ?_)
        · refine lv_iconst (v := nI 0) hx hb dX0_sheet_69 (by decide) ?_
          refine lv_iconst (v := nI 1) hx hb dX0_sheet_70 (by decide) ?_
          refine cm_n0 hx hb hml hown hts hK hI hM htab (hpc := 127) rfl q333 (by rw [hRf]; decide) (by rw [hRl]; decide) (Nat.zero_le _) (Nat.zero_le _) hl.1 (Nat.le_of_ble_eq_true rfl) dX0_sheet_71 (fun H locs hM => ?_)
          refine lv_astore (lv' := [(4, .ref (h 1)), (0, .ref (h 0)), (1, .int (nI sh)), (2, .int (nI 32)), (3, .int n)]) hx hb dX0_sheet_127 hl (by decide) rfl (fun ls hl => ?_)
          refine lv_aload_n hx hb dX0_sheet_129 rfl (lv_at hl 1 rfl) ?_
          refine lv_aload hx hb dX0_sheet_130 (lv_at hl 0 rfl) ?_
          refine cm_fin hx hb hml hown hts hK hI 1 (by decide) hM q341 (by rw [hRf]; decide) (by rw [hRl]; decide) (Nat.zero_le _) (Nat.zero_le _) hl.1 (Nat.le_of_ble_eq_true rfl) dX0_sheet_132 (fun H locs hM => ?_)
          exact hret0 hM (mwEq.rf) rfl rfl ⟨rfl, rfl, rfl⟩ (by decide) dX0_sheet_135
        · exact absurd (by first | exact c_6 | exact Int32.not_lt.mp c_6) hn1
set_option maxHeartbeats 400000 in
theorem ca_sheet_e (f : Nat → Int32) (a : Nat → Nat → Int32) (sh b n : Int32) (he : ¬ ((nI 0 ≤ sh ∧ sh ≤ nI 3) ∧ (b = 0 ∨ b = nI 8 ∨ b = nI 16 ∨ b = nI 32))) : CmF yX0_sheet cX0_sheet 5 [(0, 43, 127, 8), (44, 126, 127, 8)] 2 60 [.int sh, .int b, .int n] f a (-1000000001 : Int32) f (mErr a 1) := by
  refine CmF.ofI (by decide) rfl (Nat.le_of_ble_eq_true rfl) ?_
  intro p l e R s m args below meth c Q D dA h fc wk hd ri rt cw tx nm B S ls hx hb hml hRf hRl hRc hRs htab hts hown hK hI hB hS0 hQ hN hIm hZ hSh hM hl hret hret0
  have hl : lv_has ls 5 [(0, .ref (h 0)), (1, .int sh), (2, .int b), (3, .int n)] := hl
  refine lv_aload_n hx hb dX0_sheet_0 rfl (lv_at hl 0 rfl) ?_
  refine lv_iload_n hx hb dX0_sheet_1 rfl (lv_at hl 1 rfl) ?_
  refine st_callS (y := yX0_isSheet) hx hb hml hown hts (cmX0_isSheet sh) q1020 q1021 q61 q1022 ndX0_isSheet rfl (by rw [hRf]; decide) (by rw [hRl]; decide) (Nat.zero_le _) (Nat.zero_le _) hl.1 rfl (Nat.le_of_ble_eq_true rfl) dX0_sheet_2 ?_
  refine w_if_eqT (tgt := 23) hx hb dX0_sheet_5 (by decide) (fun c_1 => ?_) (fun c_1 => ?_)
  · refine lv_iconst (v := nI 0) hx hb dX0_sheet_23 (by decide) ?_
    refine lv_iconst (v := nI 1) hx hb dX0_sheet_24 (by decide) ?_
    refine cm_n0 hx hb hml hown hts hK hI hM htab (hpc := 127) rfl q333 (by rw [hRf]; decide) (by rw [hRl]; decide) (Nat.zero_le _) (Nat.zero_le _) hl.1 (Nat.le_of_ble_eq_true rfl) dX0_sheet_25 (fun H locs hM => ?_)
    refine lv_astore (lv' := [(4, .ref (h 1)), (0, .ref (h 0)), (1, .int sh), (2, .int b), (3, .int n)]) hx hb dX0_sheet_127 hl (by decide) rfl (fun ls hl => ?_)
    refine lv_aload_n hx hb dX0_sheet_129 rfl (lv_at hl 1 rfl) ?_
    refine lv_aload hx hb dX0_sheet_130 (lv_at hl 0 rfl) ?_
    refine cm_fin hx hb hml hown hts hK hI 1 (by decide) hM q341 (by rw [hRf]; decide) (by rw [hRl]; decide) (Nat.zero_le _) (Nat.zero_le _) hl.1 (Nat.le_of_ble_eq_true rfl) dX0_sheet_132 (fun H locs hM => ?_)
    exact hret0 hM (mwEq.rf) rfl rfl ⟨rfl, rfl, rfl⟩ (by decide) dX0_sheet_135
  · refine lv_iload_n hx hb dX0_sheet_8 rfl (lv_at hl 2 rfl) ?_
    refine lv_if_eq (tgt := 19) hx hb dX0_sheet_9 (by decide) (fun c_2 => ?_) (fun c_2 => ?_)
    · refine lv_iconst (v := nI 1) hx hb dX0_sheet_19 (by decide) ?_
      refine lv_goto (tgt := 24) hx hb dX0_sheet_20 (by decide) ?_
      refine lv_iconst (v := nI 1) hx hb dX0_sheet_24 (by decide) ?_
      exact absurd ⟨c_1, Or.inl c_2⟩ he
    · refine lv_iload_n hx hb dX0_sheet_12 rfl (lv_at hl 2 rfl) ?_
      refine st_callS (y := yX0_isWidth) hx hb hml hown hts (cmX0_isWidth b) q1282 q1283 q61 q1284 ndX0_isWidth rfl (by rw [hRf]; decide) (by rw [hRl]; decide) (Nat.zero_le _) (Nat.zero_le _) hl.1 rfl (Nat.le_of_ble_eq_true rfl) dX0_sheet_13 ?_
      refine w_if_eqT (tgt := 23) hx hb dX0_sheet_16 (by decide) (fun c_3 => ?_) (fun c_3 => ?_)
      · refine lv_iconst (v := nI 0) hx hb dX0_sheet_23 (by decide) ?_
        refine lv_iconst (v := nI 1) hx hb dX0_sheet_24 (by decide) ?_
        refine cm_n0 hx hb hml hown hts hK hI hM htab (hpc := 127) rfl q333 (by rw [hRf]; decide) (by rw [hRl]; decide) (Nat.zero_le _) (Nat.zero_le _) hl.1 (Nat.le_of_ble_eq_true rfl) dX0_sheet_25 (fun H locs hM => ?_)
        refine lv_astore (lv' := [(4, .ref (h 1)), (0, .ref (h 0)), (1, .int sh), (2, .int b), (3, .int n)]) hx hb dX0_sheet_127 hl (by decide) rfl (fun ls hl => ?_)
        refine lv_aload_n hx hb dX0_sheet_129 rfl (lv_at hl 1 rfl) ?_
        refine lv_aload hx hb dX0_sheet_130 (lv_at hl 0 rfl) ?_
        refine cm_fin hx hb hml hown hts hK hI 1 (by decide) hM q341 (by rw [hRf]; decide) (by rw [hRl]; decide) (Nat.zero_le _) (Nat.zero_le _) hl.1 (Nat.le_of_ble_eq_true rfl) dX0_sheet_132 (fun H locs hM => ?_)
        exact hret0 hM (mwEq.rf) rfl rfl ⟨rfl, rfl, rfl⟩ (by decide) dX0_sheet_135
      · refine lv_iconst (v := nI 1) hx hb dX0_sheet_19 (by decide) ?_
        refine lv_goto (tgt := 24) hx hb dX0_sheet_20 (by decide) ?_
        refine lv_iconst (v := nI 1) hx hb dX0_sheet_24 (by decide) ?_
        exact absurd ⟨c_1, Or.inr c_3⟩ he
set_option maxHeartbeats 400000 in
theorem ca_hays_e (f : Nat → Int32) (a : Nat → Nat → Int32) (v w n : Int32) (he : ¬ (cowP (a 1) v ∧ (nI 0 ≤ w ∧ w ≤ nI 24) ∧ (nI 1 ≤ n ∧ n ≤ nI 30))) : CmF yX0_hays cX0_hays 5 [(0, 123, 124, 8)] 2 60 [.int v, .int w, .int n] f a (-1000000001 : Int32) f (mErr a 1) := by
  refine CmF.ofI (by decide) rfl (Nat.le_of_ble_eq_true rfl) ?_
  intro p l e R s m args below meth c Q D dA h fc wk hd ri rt cw tx nm B S ls hx hb hml hRf hRl hRc hRs htab hts hown hK hI hB hS0 hQ hN hIm hZ hSh hM hl hret hret0
  have hl : lv_has ls 5 [(0, .ref (h 0)), (1, .int v), (2, .int w), (3, .int n)] := hl
  refine lv_aload_n hx hb dX0_hays_0 rfl (lv_at hl 0 rfl) ?_
  refine lv_aload_n hx hb dX0_hays_1 rfl (lv_at hl 0 rfl) ?_
  refine lv_iload_n hx hb dX0_hays_2 rfl (lv_at hl 1 rfl) ?_
  refine rd_callV (y := yX0_isCow) hx hb hml hown hts hK (ca_isCow D dA h _ _ _ _ _ _ _ _ _ _ v) hM.1 (cAt.recv hK (hM.1 0 _ rfl) rfl) q512 q514 qs4 q61 q515 ndX0_isCow rfl (by rw [hRf]; decide) (by rw [hRl]; decide) (Nat.zero_le _) (Nat.zero_le _) hl.1 rfl (Nat.le_of_ble_eq_true rfl) dX0_hays_3 ?_
  refine w_if_eqT (tgt := 30) hx hb dX0_hays_6 (by decide) (fun c_1 => ?_) (fun c_1 => ?_)
  · refine lv_iconst (v := nI 0) hx hb dX0_hays_30 (by decide) ?_
    refine lv_iconst (v := nI 1) hx hb dX0_hays_31 (by decide) ?_
    refine cm_n0 hx hb hml hown hts hK hI hM htab (hpc := 124) rfl q333 (by rw [hRf]; decide) (by rw [hRl]; decide) (Nat.zero_le _) (Nat.zero_le _) hl.1 (Nat.le_of_ble_eq_true rfl) dX0_hays_32 (fun H locs hM => ?_)
    refine lv_astore (lv' := [(4, .ref (h 1)), (0, .ref (h 0)), (1, .int v), (2, .int w), (3, .int n)]) hx hb dX0_hays_124 hl (by decide) rfl (fun ls hl => ?_)
    refine lv_aload_n hx hb dX0_hays_126 rfl (lv_at hl 1 rfl) ?_
    refine lv_aload hx hb dX0_hays_127 (lv_at hl 0 rfl) ?_
    refine cm_fin hx hb hml hown hts hK hI 1 (by decide) hM q341 (by rw [hRf]; decide) (by rw [hRl]; decide) (Nat.zero_le _) (Nat.zero_le _) hl.1 (Nat.le_of_ble_eq_true rfl) dX0_hays_129 (fun H locs hM => ?_)
    exact hret0 hM (mwEq.rf) rfl rfl ⟨rfl, rfl, rfl⟩ (by decide) dX0_hays_132
  · refine lv_iload_n hx hb dX0_hays_9 rfl (lv_at hl 2 rfl) ?_
    refine st_callS (y := yX0_isCell) hx hb hml hown hts (cmX0_isCell w) q327 q328 q61 q329 ndX0_isCell rfl (by rw [hRf]; decide) (by rw [hRl]; decide) (Nat.zero_le _) (Nat.zero_le _) hl.1 rfl (Nat.le_of_ble_eq_true rfl) dX0_hays_10 ?_
    refine w_if_eqT (tgt := 30) hx hb dX0_hays_13 (by decide) (fun c_2 => ?_) (fun c_2 => ?_)
    · refine lv_iconst (v := nI 0) hx hb dX0_hays_30 (by decide) ?_
      refine lv_iconst (v := nI 1) hx hb dX0_hays_31 (by decide) ?_
      refine cm_n0 hx hb hml hown hts hK hI hM htab (hpc := 124) rfl q333 (by rw [hRf]; decide) (by rw [hRl]; decide) (Nat.zero_le _) (Nat.zero_le _) hl.1 (Nat.le_of_ble_eq_true rfl) dX0_hays_32 (fun H locs hM => ?_)
      refine lv_astore (lv' := [(4, .ref (h 1)), (0, .ref (h 0)), (1, .int v), (2, .int w), (3, .int n)]) hx hb dX0_hays_124 hl (by decide) rfl (fun ls hl => ?_)
      refine lv_aload_n hx hb dX0_hays_126 rfl (lv_at hl 1 rfl) ?_
      refine lv_aload hx hb dX0_hays_127 (lv_at hl 0 rfl) ?_
      refine cm_fin hx hb hml hown hts hK hI 1 (by decide) hM q341 (by rw [hRf]; decide) (by rw [hRl]; decide) (Nat.zero_le _) (Nat.zero_le _) hl.1 (Nat.le_of_ble_eq_true rfl) dX0_hays_129 (fun H locs hM => ?_)
      exact hret0 hM (mwEq.rf) rfl rfl ⟨rfl, rfl, rfl⟩ (by decide) dX0_hays_132
    · refine lv_iload_n hx hb dX0_hays_16 rfl (lv_at hl 3 rfl) ?_
      refine lv_iconst (v := nI 1) hx hb dX0_hays_17 (by decide) ?_
      refine lv_bipush (v := nI 30) hx hb dX0_hays_18 (by decide) ?_
      refine st_callS (y := yX0_in) hx hb hml hown hts (cmX0_in n (nI 1) (nI 30)) q330 q331 q61 q332 ndX0_in rfl (by rw [hRf]; decide) (by rw [hRl]; decide) (Nat.zero_le _) (Nat.zero_le _) hl.1 rfl (Nat.le_of_ble_eq_true rfl) dX0_hays_20 ?_
      refine w_if_eqT (tgt := 30) hx hb dX0_hays_23 (by decide) (fun c_3 => ?_) (fun c_3 => ?_)
      · refine lv_iconst (v := nI 0) hx hb dX0_hays_30 (by decide) ?_
        refine lv_iconst (v := nI 1) hx hb dX0_hays_31 (by decide) ?_
        refine cm_n0 hx hb hml hown hts hK hI hM htab (hpc := 124) rfl q333 (by rw [hRf]; decide) (by rw [hRl]; decide) (Nat.zero_le _) (Nat.zero_le _) hl.1 (Nat.le_of_ble_eq_true rfl) dX0_hays_32 (fun H locs hM => ?_)
        refine lv_astore (lv' := [(4, .ref (h 1)), (0, .ref (h 0)), (1, .int v), (2, .int w), (3, .int n)]) hx hb dX0_hays_124 hl (by decide) rfl (fun ls hl => ?_)
        refine lv_aload_n hx hb dX0_hays_126 rfl (lv_at hl 1 rfl) ?_
        refine lv_aload hx hb dX0_hays_127 (lv_at hl 0 rfl) ?_
        refine cm_fin hx hb hml hown hts hK hI 1 (by decide) hM q341 (by rw [hRf]; decide) (by rw [hRl]; decide) (Nat.zero_le _) (Nat.zero_le _) hl.1 (Nat.le_of_ble_eq_true rfl) dX0_hays_129 (fun H locs hM => ?_)
        exact hret0 hM (mwEq.rf) rfl rfl ⟨rfl, rfl, rfl⟩ (by decide) dX0_hays_132
      · refine lv_iconst (v := nI 1) hx hb dX0_hays_26 (by decide) ?_
        refine lv_goto (tgt := 31) hx hb dX0_hays_27 (by decide) ?_
        refine lv_iconst (v := nI 1) hx hb dX0_hays_31 (by decide) ?_
        exact absurd ⟨c_1, c_2, c_3⟩ he
set_option maxHeartbeats 400000 in
theorem ca_walked_e (f : Nat → Int32) (a : Nat → Nat → Int32) (sh w : Int32) (he : ¬ ((nI 0 ≤ sh ∧ sh ≤ nI 3) ∧ (nI 0 ≤ w ∧ w ≤ nI 1))) : CmF yX0_walked cX0_walked 8 [(0, 207, 208, 8)] 2 60 [.int sh, .int w] f a (-1000000001 : Int32) f (mErr a 1) := by
  refine CmF.ofI (by decide) rfl (Nat.le_of_ble_eq_true rfl) ?_
  intro p l e R s m args below meth c Q D dA h fc wk hd ri rt cw tx nm B S ls hx hb hml hRf hRl hRc hRs htab hts hown hK hI hB hS0 hQ hN hIm hZ hSh hM hl hret hret0
  have hl : lv_has ls 8 [(0, .ref (h 0)), (1, .int sh), (2, .int w)] := hl
  refine lv_aload_n hx hb dX0_walked_0 rfl (lv_at hl 0 rfl) ?_
  refine lv_iload_n hx hb dX0_walked_1 rfl (lv_at hl 1 rfl) ?_
  refine st_callS (y := yX0_isSheet) hx hb hml hown hts (cmX0_isSheet sh) q1020 q1021 q61 q1022 ndX0_isSheet rfl (by rw [hRf]; decide) (by rw [hRl]; decide) (Nat.zero_le _) (Nat.zero_le _) hl.1 rfl (Nat.le_of_ble_eq_true rfl) dX0_walked_2 ?_
  refine w_if_eqT (tgt := 21) hx hb dX0_walked_5 (by decide) (fun c_1 => ?_) (fun c_1 => ?_)
  · refine lv_iconst (v := nI 0) hx hb dX0_walked_21 (by decide) ?_
    refine lv_iconst (v := nI 1) hx hb dX0_walked_22 (by decide) ?_
    refine cm_n0 hx hb hml hown hts hK hI hM htab (hpc := 208) rfl q333 (by rw [hRf]; decide) (by rw [hRl]; decide) (Nat.zero_le _) (Nat.zero_le _) hl.1 (Nat.le_of_ble_eq_true rfl) dX0_walked_23 (fun H locs hM => ?_)
    refine lv_astore_n (lv' := [(3, .ref (h 1)), (0, .ref (h 0)), (1, .int sh), (2, .int w)]) hx hb dX0_walked_208 rfl hl (by decide) rfl (fun ls hl => ?_)
    refine lv_aload_n hx hb dX0_walked_209 rfl (lv_at hl 1 rfl) ?_
    refine lv_aload_n hx hb dX0_walked_210 rfl (lv_at hl 0 rfl) ?_
    refine cm_fin hx hb hml hown hts hK hI 1 (by decide) hM q341 (by rw [hRf]; decide) (by rw [hRl]; decide) (Nat.zero_le _) (Nat.zero_le _) hl.1 (Nat.le_of_ble_eq_true rfl) dX0_walked_211 (fun H locs hM => ?_)
    exact hret0 hM (mwEq.rf) rfl rfl ⟨rfl, rfl, rfl⟩ (by decide) dX0_walked_214
  · refine lv_iload_n hx hb dX0_walked_8 rfl (lv_at hl 2 rfl) ?_
    refine lv_iconst (v := nI 0) hx hb dX0_walked_9 (by decide) ?_
    refine lv_iconst (v := nI 1) hx hb dX0_walked_10 (by decide) ?_
    refine st_callS (y := yX0_in) hx hb hml hown hts (cmX0_in w (nI 0) (nI 1)) q330 q331 q61 q332 ndX0_in rfl (by rw [hRf]; decide) (by rw [hRl]; decide) (Nat.zero_le _) (Nat.zero_le _) hl.1 rfl (Nat.le_of_ble_eq_true rfl) dX0_walked_11 ?_
    refine w_if_eqT (tgt := 21) hx hb dX0_walked_14 (by decide) (fun c_2 => ?_) (fun c_2 => ?_)
    · refine lv_iconst (v := nI 0) hx hb dX0_walked_21 (by decide) ?_
      refine lv_iconst (v := nI 1) hx hb dX0_walked_22 (by decide) ?_
      refine cm_n0 hx hb hml hown hts hK hI hM htab (hpc := 208) rfl q333 (by rw [hRf]; decide) (by rw [hRl]; decide) (Nat.zero_le _) (Nat.zero_le _) hl.1 (Nat.le_of_ble_eq_true rfl) dX0_walked_23 (fun H locs hM => ?_)
      refine lv_astore_n (lv' := [(3, .ref (h 1)), (0, .ref (h 0)), (1, .int sh), (2, .int w)]) hx hb dX0_walked_208 rfl hl (by decide) rfl (fun ls hl => ?_)
      refine lv_aload_n hx hb dX0_walked_209 rfl (lv_at hl 1 rfl) ?_
      refine lv_aload_n hx hb dX0_walked_210 rfl (lv_at hl 0 rfl) ?_
      refine cm_fin hx hb hml hown hts hK hI 1 (by decide) hM q341 (by rw [hRf]; decide) (by rw [hRl]; decide) (Nat.zero_le _) (Nat.zero_le _) hl.1 (Nat.le_of_ble_eq_true rfl) dX0_walked_211 (fun H locs hM => ?_)
      exact hret0 hM (mwEq.rf) rfl rfl ⟨rfl, rfl, rfl⟩ (by decide) dX0_walked_214
    · refine lv_iconst (v := nI 1) hx hb dX0_walked_17 (by decide) ?_
      refine lv_goto (tgt := 22) hx hb dX0_walked_18 (by decide) ?_
      refine lv_iconst (v := nI 1) hx hb dX0_walked_22 (by decide) ?_
      exact absurd ⟨c_1, c_2⟩ he
set_option maxHeartbeats 400000 in
theorem ca_walked_n1 (f : Nat → Int32) (a : Nat → Nat → Int32) (sh : Nat) (hs : sh < 4) (w : Nat) (hw : w < 2) (hb0 : a 6 sh = 0) : CmF yX0_walked cX0_walked 8 [(0, 207, 208, 8)] 3 81 [.int (nI sh), .int (nI w)] f a (-1000000002 : Int32) f (mErr a 2) := by
  refine CmF.ofI (by decide) rfl (Nat.le_of_ble_eq_true rfl) ?_
  intro p l e R s m args below meth c Q D dA h fc wk hd ri rt cw tx nm B S ls hx hb hml hRf hRl hRc hRs htab hts hown hK hI hB hS0 hQ hN hIm hZ hSh hM hl hret hret0
  have hl : lv_has ls 8 [(0, .ref (h 0)), (1, .int (nI sh)), (2, .int (nI w))] := hl
  have hSh2 := hSh
  obtain ⟨ya, hinj, hall⟩ := hSh2
  have hnone : hd sh = none := ((hall sh hs).resolve_right (fun ⟨x, wi, w1, w2, w3, w4, w5, _⟩ => shB_ne wi (w5.symm.trans hb0))).2
  refine lv_aload_n hx hb dX0_walked_0 rfl (lv_at hl 0 rfl) ?_
  refine lv_iload_n hx hb dX0_walked_1 rfl (lv_at hl 1 rfl) ?_
  refine st_callS (y := yX0_isSheet) hx hb hml hown hts (cmX0_isSheet (nI sh)) q1020 q1021 q61 q1022 ndX0_isSheet rfl (by rw [hRf]; decide) (by rw [hRl]; decide) (Nat.zero_le _) (Nat.zero_le _) hl.1 rfl (Nat.le_of_ble_eq_true rfl) dX0_walked_2 ?_
  refine w_if_eqT (tgt := 21) hx hb dX0_walked_5 (by decide) (fun c_1 => ?_) (fun c_1 => ?_)
  · exact absurd (by first | exact (in_nat (by decide)).mpr ⟨_, by omega, rfl⟩ | exact (in_nat1 _ (by decide) (by decide)).mpr ⟨_, by omega, by omega, rfl⟩ | exact cow_in hN0 (by omega) | assumption) c_1
  · refine lv_iload_n hx hb dX0_walked_8 rfl (lv_at hl 2 rfl) ?_
    refine lv_iconst (v := nI 0) hx hb dX0_walked_9 (by decide) ?_
    refine lv_iconst (v := nI 1) hx hb dX0_walked_10 (by decide) ?_
    refine st_callS (y := yX0_in) hx hb hml hown hts (cmX0_in (nI w) (nI 0) (nI 1)) q330 q331 q61 q332 ndX0_in rfl (by rw [hRf]; decide) (by rw [hRl]; decide) (Nat.zero_le _) (Nat.zero_le _) hl.1 rfl (Nat.le_of_ble_eq_true rfl) dX0_walked_11 ?_
    refine w_if_eqT (tgt := 21) hx hb dX0_walked_14 (by decide) (fun c_2 => ?_) (fun c_2 => ?_)
    · exact absurd (by first | exact (in_nat (by decide)).mpr ⟨_, by omega, rfl⟩ | exact (in_nat1 _ (by decide) (by decide)).mpr ⟨_, by omega, by omega, rfl⟩ | exact cow_in hN0 (by omega) | assumption) c_2
    · refine lv_iconst (v := nI 1) hx hb dX0_walked_17 (by decide) ?_
      refine lv_goto (tgt := 22) hx hb dX0_walked_18 (by decide) ?_
      refine lv_iconst (v := nI 1) hx hb dX0_walked_22 (by decide) ?_
      refine cm_n1 hx hb hml hown hts hK hI hM htab (hpc := 208) rfl q333 (by rw [hRf]; decide) (by rw [hRl]; decide) (Nat.zero_le _) (Nat.zero_le _) hl.1 (Nat.le_of_ble_eq_true rfl) dX0_walked_23 (fun locs hM => ?_)
      refine lv_aload_n hx hb dX0_walked_26 rfl (lv_at hl 0 rfl) ?_
      refine lv_iload_n hx hb dX0_walked_27 rfl (lv_at hl 1 rfl) ?_
      refine cm_thr (y := yX0_sheetAt) (As := [.int (nI sh)]) hx hb hml hown hts hK hM.2.2 (ca_sheetAt_n D dA h _ _ _ _ _ _ _ _ _ _ hI sh hs hnone) hM.1 (cAt.recv hK (hM.1 0 _ rfl) rfl) (fun H1 hq => ⟨_, hq 1 _ rfl⟩) htab (hpc := 208) rfl q1023 q1025 qs18 q1026 ndX0_sheetAt rfl (by rw [hRf]; decide) (by rw [hRl]; decide) (Nat.zero_le _) (Nat.zero_le _) hl.1 rfl (Nat.le_of_ble_eq_true rfl) dX0_walked_28 (fun H locs hP1 hS1 => ?_)
      have hM := cmH.of hI hP1 hS1
      refine lv_astore_n (lv' := [(3, .ref (h 1)), (0, .ref (h 0)), (1, .int (nI sh)), (2, .int (nI w))]) hx hb dX0_walked_208 rfl hl (by decide) rfl (fun ls hl => ?_)
      refine lv_aload_n hx hb dX0_walked_209 rfl (lv_at hl 1 rfl) ?_
      refine lv_aload_n hx hb dX0_walked_210 rfl (lv_at hl 0 rfl) ?_
      refine cm_fin hx hb hml hown hts hK hI 2 (by decide) hM q341 (by rw [hRf]; decide) (by rw [hRl]; decide) (Nat.zero_le _) (Nat.zero_le _) hl.1 (Nat.le_of_ble_eq_true rfl) dX0_walked_211 (fun H locs hM => ?_)
      exact hret0 hM (mwEq.rf) rfl rfl ⟨rfl, rfl, rfl⟩ (by decide) dX0_walked_214
set_option maxHeartbeats 400000 in
theorem ca_walked_n2 (f : Nat → Int32) (a : Nat → Nat → Int32) (sh : Nat) (hs : sh < 4) (w : Nat) (hw : w < 2) (hb00 : ¬ a 6 sh = 0) (hz0 : a 7 sh = 0) : CmF yX0_walked cX0_walked 8 [(0, 207, 208, 8)] 3 81 [.int (nI sh), .int (nI w)] f a (-1000000002 : Int32) f (mErr a 2) := by
  refine CmF.ofI (by decide) rfl (Nat.le_of_ble_eq_true rfl) ?_
  intro p l e R s m args below meth c Q D dA h fc wk hd ri rt cw tx nm B S ls hx hb hml hRf hRl hRc hRs htab hts hown hK hI hB hS0 hQ hN hIm hZ hSh hM hl hret hret0
  have hl : lv_has ls 8 [(0, .ref (h 0)), (1, .int (nI sh)), (2, .int (nI w))] := hl
  have hs0 := hs
  have hSh2 := hSh
  obtain ⟨ya, hinj, hall⟩ := hSh2
  obtain ⟨x0, wi0, hwi0, hxd0, hxA0, hyA0, hb60, hz70, hX0, hY0⟩ := (hall sh hs0).resolve_left (fun q => hb00 q.1)
  have hz720 := hz70.2
  have hz00 : cl (a 7 sh) = 0 := by rw [hz0]; rfl
  refine lv_aload_n hx hb dX0_walked_0 rfl (lv_at hl 0 rfl) ?_
  refine lv_iload_n hx hb dX0_walked_1 rfl (lv_at hl 1 rfl) ?_
  refine st_callS (y := yX0_isSheet) hx hb hml hown hts (cmX0_isSheet (nI sh)) q1020 q1021 q61 q1022 ndX0_isSheet rfl (by rw [hRf]; decide) (by rw [hRl]; decide) (Nat.zero_le _) (Nat.zero_le _) hl.1 rfl (Nat.le_of_ble_eq_true rfl) dX0_walked_2 ?_
  refine w_if_eqT (tgt := 21) hx hb dX0_walked_5 (by decide) (fun c_1 => ?_) (fun c_1 => ?_)
  · exact absurd (by first | exact (in_nat (by decide)).mpr ⟨_, by omega, rfl⟩ | exact (in_nat1 _ (by decide) (by decide)).mpr ⟨_, by omega, by omega, rfl⟩ | exact cow_in hN0 (by omega) | assumption) c_1
  · refine lv_iload_n hx hb dX0_walked_8 rfl (lv_at hl 2 rfl) ?_
    refine lv_iconst (v := nI 0) hx hb dX0_walked_9 (by decide) ?_
    refine lv_iconst (v := nI 1) hx hb dX0_walked_10 (by decide) ?_
    refine st_callS (y := yX0_in) hx hb hml hown hts (cmX0_in (nI w) (nI 0) (nI 1)) q330 q331 q61 q332 ndX0_in rfl (by rw [hRf]; decide) (by rw [hRl]; decide) (Nat.zero_le _) (Nat.zero_le _) hl.1 rfl (Nat.le_of_ble_eq_true rfl) dX0_walked_11 ?_
    refine w_if_eqT (tgt := 21) hx hb dX0_walked_14 (by decide) (fun c_2 => ?_) (fun c_2 => ?_)
    · exact absurd (by first | exact (in_nat (by decide)).mpr ⟨_, by omega, rfl⟩ | exact (in_nat1 _ (by decide) (by decide)).mpr ⟨_, by omega, by omega, rfl⟩ | exact cow_in hN0 (by omega) | assumption) c_2
    · refine lv_iconst (v := nI 1) hx hb dX0_walked_17 (by decide) ?_
      refine lv_goto (tgt := 22) hx hb dX0_walked_18 (by decide) ?_
      refine lv_iconst (v := nI 1) hx hb dX0_walked_22 (by decide) ?_
      refine cm_n1 hx hb hml hown hts hK hI hM htab (hpc := 208) rfl q333 (by rw [hRf]; decide) (by rw [hRl]; decide) (Nat.zero_le _) (Nat.zero_le _) hl.1 (Nat.le_of_ble_eq_true rfl) dX0_walked_23 (fun locs hM => ?_)
      refine lv_aload_n hx hb dX0_walked_26 rfl (lv_at hl 0 rfl) ?_
      refine lv_iload_n hx hb dX0_walked_27 rfl (lv_at hl 1 rfl) ?_
      refine cg_callV (y := yX0_sheetAt) (b := h 0) (C := RX0) (As := [.int (nI sh)]) hx hb hml hown hts hK hM.2.2 (ca_sheetAt_ok D dA h _ _ _ _ _ _ _ _ _ _ hI sh x0 wi0 hs0 hxd0 (hS0 _ hxA0) hwi0 _) ⟨hM.1, hX0.kept (hM.2.2.2.1 x0 hX0.lt (hS0 _ hxA0))⟩ (fun q hq => hq) (cAt.recv hK (hM.1 0 _ rfl) rfl) q1023 q1025 qs18 q61 q1026 ndX0_sheetAt rfl (by rw [hRf]; decide) (by rw [hRl]; decide) (Nat.zero_le _) (Nat.zero_le _) hl.1 rfl (Nat.le_of_ble_eq_true rfl) dX0_walked_28 ?_
      rintro _ H locs ⟨rfl, hP1⟩ hz1 hk1 hS1
      have hM := cmH.of hI hP1 hS1
      refine lv_astore_n (lv' := [(3, .ref x0), (0, .ref (h 0)), (1, .int (nI sh)), (2, .int (nI w))]) hx hb dX0_walked_31 rfl hl (by decide) rfl (fun ls hl => ?_)
      refine lv_aload_n hx hb dX0_walked_32 rfl (lv_at hl 1 rfl) ?_
      refine lv_aload_n hx hb dX0_walked_33 rfl (lv_at hl 0 rfl) ?_
      refine sv_size hx hb hml hown hts hK q1028 wi0 hwi0 x0 (ya sh) (cl (a 7 sh)) (fun k => a 8 (40 * sh + k)) (hX0.kept (hM.2.2.2.1 x0 hX0.lt (hS0 _ hxA0))) (hY0.kept (hM.2.2.2.1 _ hY0.lt (hS0 _ hyA0))) (by rw [hRf]; decide) (by rw [hRl]; decide) (Nat.zero_le _) (Nat.zero_le _) hl.1 (Nat.le_of_ble_eq_true rfl) dX0_walked_34 ?_
      refine w_if_leN (tgt := 44) hx hb (by omega) dX0_walked_37 (by decide) (fun c_3 => ?_) (fun c_3 => ?_)
      · refine lv_iconst (v := nI 0) hx hb dX0_walked_44 (by decide) ?_
        refine lv_iconst (v := nI 2) hx hb dX0_walked_45 (by decide) ?_
        refine cm_n0 hx hb hml hown hts hK hI hM htab (hpc := 208) rfl q333 (by rw [hRf]; decide) (by rw [hRl]; decide) (Nat.zero_le _) (Nat.zero_le _) hl.1 (Nat.le_of_ble_eq_true rfl) dX0_walked_46 (fun H locs hM => ?_)
        refine lv_astore_n (lv' := [(3, .ref (h 1)), (0, .ref (h 0)), (1, .int (nI sh)), (2, .int (nI w))]) hx hb dX0_walked_208 rfl hl (by decide) rfl (fun ls hl => ?_)
        refine lv_aload_n hx hb dX0_walked_209 rfl (lv_at hl 1 rfl) ?_
        refine lv_aload_n hx hb dX0_walked_210 rfl (lv_at hl 0 rfl) ?_
        refine cm_fin hx hb hml hown hts hK hI 2 (by decide) hM q341 (by rw [hRf]; decide) (by rw [hRl]; decide) (Nat.zero_le _) (Nat.zero_le _) hl.1 (Nat.le_of_ble_eq_true rfl) dX0_walked_211 (fun H locs hM => ?_)
        exact hret0 hM (mwEq.rf) rfl rfl ⟨rfl, rfl, rfl⟩ (by decide) dX0_walked_214
      · exact absurd c_3 (by omega)
