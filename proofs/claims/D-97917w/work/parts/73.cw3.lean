/-! acts, 1 (printed by comp9.py) -/
set_option maxRecDepth 100000
set_option maxHeartbeats 400000 in
theorem ca_isCow (D : va_G) (dA : Nat → ClassId) (h : Nat → Nat) (f : Nat → Int32) (a : Nat → Nat → Int32) (fc : Int32) (wk : Nat → Nat → Int32) (hd : Nat → Option Nat) (ri rt : Nat → Int32) (cw tx : Nat → Nat → Option Nat) (nm : Nat → Nat → Int32) (v : Int32) : Rd D dA yX0_isCow cX0_isCow 2 (some .boolean) 1 22 (.ref (h 0) :: [.int v]) (fun H => va_P D cmCl (cmWs h dA f a fc wk hd ri rt cw tx nm) H) (some (.int (iI (cowP (a 1) v)))) := by
  refine Rd.ofZ (by decide) (own := RX0) rfl (Nat.le_of_ble_eq_true rfl) iI_n ?_
  intro p l e R s m args below meth c Q ls hx hb hml hRf hRl hts hown hK hP hl hret
  have hl : lv_has ls 2 [(0, .ref (h 0)), (1, .int v)] := hl
  refine lv_iload_n hx hb dX0_isCow_0 rfl (lv_at hl 1 rfl) ?_
  refine lv_iconst (v := nI 0) hx hb dX0_isCow_1 (by decide) ?_
  refine lv_aload_n hx hb dX0_isCow_2 rfl (lv_at hl 0 rfl) ?_
  refine c_get (v := .ref (hm0 h 0)) hx hb hts in_X0 hown hK (hP 0 _ rfl) rfl 1 (by decide) q287 rfl rfl dX0_isCow_3 ?_
  have nq := hK.F 1 rfl
  refine c_getN (v := .int (a 1 3)) hx hb hts in_X2 hown hK ((cm_parts hP).2.1 0 _ rfl) rfl 3 (by decide) nq rfl rfl dX0_isCow_6 ?_
  refine lv_iconst (v := nI 1) hx hb dX0_isCow_9 (by decide) ?_
  refine lv_isub hx hb dX0_isCow_10 ?_
  refine st_callS (y := yX0_in) hx hb hml hown hts (cmX0_in v (nI 0) ((a 1 3) - (nI 1))) q330 q331 q61 q332 ndX0_in rfl (by rw [hRf]; decide) (by rw [hRl]; decide) (Nat.zero_le _) (Nat.zero_le _) hl.1 rfl (Nat.le_of_ble_eq_true rfl) dX0_isCow_11 ?_
  exact hret (by first | rfl | (simp only [iI, nI_0, nI_one]; grind)) dX0_isCow_14
set_option maxHeartbeats 400000 in
theorem ca_isJug (D : va_G) (dA : Nat → ClassId) (h : Nat → Nat) (f : Nat → Int32) (a : Nat → Nat → Int32) (fc : Int32) (wk : Nat → Nat → Int32) (hd : Nat → Option Nat) (ri rt : Nat → Int32) (cw tx : Nat → Nat → Option Nat) (nm : Nat → Nat → Int32) (v : Int32) : Rd D dA yX0_isJug cX0_isJug 2 (some .boolean) 1 22 (.ref (h 0) :: [.int v]) (fun H => va_P D cmCl (cmWs h dA f a fc wk hd ri rt cw tx nm) H) (some (.int (iI (jugP (a 1) v)))) := by
  refine Rd.ofZ (by decide) (own := RX0) rfl (Nat.le_of_ble_eq_true rfl) iI_n ?_
  intro p l e R s m args below meth c Q ls hx hb hml hRf hRl hts hown hK hP hl hret
  have hl : lv_has ls 2 [(0, .ref (h 0)), (1, .int v)] := hl
  refine lv_iload_n hx hb dX0_isJug_0 rfl (lv_at hl 1 rfl) ?_
  refine lv_iconst (v := nI 1) hx hb dX0_isJug_1 (by decide) ?_
  refine lv_iconst (v := nI 1) hx hb dX0_isJug_2 (by decide) ?_
  refine lv_aload_n hx hb dX0_isJug_3 rfl (lv_at hl 0 rfl) ?_
  refine c_get (v := .ref (hm0 h 0)) hx hb hts in_X0 hown hK (hP 0 _ rfl) rfl 1 (by decide) q287 rfl rfl dX0_isJug_4 ?_
  have nq := hK.F 1 rfl
  refine c_getN (v := .int (a 1 3)) hx hb hts in_X2 hown hK ((cm_parts hP).2.1 0 _ rfl) rfl 3 (by decide) nq rfl rfl dX0_isJug_7 ?_
  refine lv_ishl hx hb dX0_isJug_10 ?_
  refine lv_iconst (v := nI 1) hx hb dX0_isJug_11 (by decide) ?_
  refine lv_isub hx hb dX0_isJug_12 ?_
  refine st_callS (y := yX0_in) hx hb hml hown hts (cmX0_in v (nI 1) (((nI 1) <<< ((a 1 3) &&& 31)) - (nI 1))) q330 q331 q61 q332 ndX0_in rfl (by rw [hRf]; decide) (by rw [hRl]; decide) (Nat.zero_le _) (Nat.zero_le _) hl.1 rfl (Nat.le_of_ble_eq_true rfl) dX0_isJug_13 ?_
  exact hret (by first | rfl | (simp only [iI, nI_0, nI_one]; grind)) dX0_isJug_16
set_option maxHeartbeats 400000 in
theorem ca_grows_ok (f : Nat → Int32) (a : Nat → Nat → Int32) (v : Nat) (hv : v ≤ 9) : CmF yX0_grows cX0_grows 3 [(0, 29, 30, 8)] 2 60 [.int (nI v)] f a (a 1 1) f (va_up a 1 (upd (a 1) 1 (nI v))) := by
  refine CmF.ofI (by decide) rfl (Nat.le_of_ble_eq_true rfl) ?_
  intro p l e R s m args below meth c Q D dA h fc wk hd ri rt cw tx nm B S ls hx hb hml hRf hRl hRc hRs htab hts hown hK hI hB hS0 hQ hN hIm hZ hSh hM hl hret hret0
  have hl : lv_has ls 3 [(0, .ref (h 0)), (1, .int (nI v))] := hl
  refine lv_aload_n hx hb dX0_grows_0 rfl (lv_at hl 0 rfl) ?_
  refine lv_iload_n hx hb dX0_grows_1 rfl (lv_at hl 1 rfl) ?_
  refine lv_iconst (v := nI 0) hx hb dX0_grows_2 (by decide) ?_
  refine lv_bipush (v := nI 9) hx hb dX0_grows_3 (by decide) ?_
  refine st_callS (y := yX0_in) hx hb hml hown hts (cmX0_in (nI v) (nI 0) (nI 9)) q330 q331 q61 q332 ndX0_in rfl (by rw [hRf]; decide) (by rw [hRl]; decide) (Nat.zero_le _) (Nat.zero_le _) hl.1 rfl (Nat.le_of_ble_eq_true rfl) dX0_grows_5 ?_
  refine lv_iconst (v := nI 1) hx hb dX0_grows_8 (by decide) ?_
  refine cm_need hx hb hml hown hts hK hI hM htab (hpc := 30) rfl q333 (by rw [hRf]; decide) (by rw [hRl]; decide) (Nat.zero_le _) (Nat.zero_le _) hl.1 (Nat.le_of_ble_eq_true rfl) dX0_grows_9 (fun c_1 locs hM => ?_) (fun c_1 H locs hM => ?_)
  · refine lv_aload_n hx hb dX0_grows_12 rfl (lv_at hl 0 rfl) ?_
    refine c_get (v := .ref (hm0 h 0)) hx hb hts in_X0 hown hK (hM.1 0 _ rfl) rfl 1 (by decide) q287 rfl rfl dX0_grows_13 ?_
    have nq := hK.F 6 rfl
    refine c_getN (v := .int (a 1 1)) hx hb hts in_X2 hown hK ((cm_parts hM.1).2.1 0 _ rfl) rfl 2 (by decide) nq rfl rfl dX0_grows_16 ?_
    refine lv_istore_n (lv' := [(2, .int (a 1 1)), (0, .ref (h 0)), (1, .int (nI v))]) hx hb dX0_grows_19 rfl hl (by decide) rfl (fun ls hl => ?_)
    refine lv_aload_n hx hb dX0_grows_20 rfl (lv_at hl 1 rfl) ?_
    refine c_get (v := .ref (hm0 h 0)) hx hb hts in_X0 hown hK (hM.1 0 _ rfl) rfl 1 (by decide) q287 rfl rfl dX0_grows_21 ?_
    refine lv_iload_n hx hb dX0_grows_24 rfl (lv_at hl 2 rfl) ?_
    have nq := hK.F 6 rfl
    refine cm_put_grows hx hb hts hown hK hI hM nq dX0_grows_25 (fun H locs hM => ?_)
    refine lv_iload_n hx hb dX0_grows_28 rfl (lv_at hl 0 rfl) ?_
    exact hret0 hM (mwEq_u ⟨by omega, by omega, by omega, by omega, fun w hw => ⟨by omega, by omega⟩⟩) rfl rfl ⟨rfl, rfl, rfl⟩ (rfl) dX0_grows_29
  · exact absurd (by first | exact (in_nat (by decide)).mpr ⟨_, by omega, rfl⟩ | exact (in_nat1 _ (by decide) (by decide)).mpr ⟨_, by omega, by omega, rfl⟩ | exact cow_in hN0 (by omega) | assumption) c_1
set_option maxHeartbeats 400000 in
theorem ca_grows_e (f : Nat → Int32) (a : Nat → Nat → Int32) (v : Int32) (he : ¬ (nI 0 ≤ v ∧ v ≤ nI 9)) : CmF yX0_grows cX0_grows 3 [(0, 29, 30, 8)] 2 60 [.int v] f a (-1000000001 : Int32) f (mErr a 1) := by
  refine CmF.ofI (by decide) rfl (Nat.le_of_ble_eq_true rfl) ?_
  intro p l e R s m args below meth c Q D dA h fc wk hd ri rt cw tx nm B S ls hx hb hml hRf hRl hRc hRs htab hts hown hK hI hB hS0 hQ hN hIm hZ hSh hM hl hret hret0
  have hl : lv_has ls 3 [(0, .ref (h 0)), (1, .int v)] := hl
  refine lv_aload_n hx hb dX0_grows_0 rfl (lv_at hl 0 rfl) ?_
  refine lv_iload_n hx hb dX0_grows_1 rfl (lv_at hl 1 rfl) ?_
  refine lv_iconst (v := nI 0) hx hb dX0_grows_2 (by decide) ?_
  refine lv_bipush (v := nI 9) hx hb dX0_grows_3 (by decide) ?_
  refine st_callS (y := yX0_in) hx hb hml hown hts (cmX0_in v (nI 0) (nI 9)) q330 q331 q61 q332 ndX0_in rfl (by rw [hRf]; decide) (by rw [hRl]; decide) (Nat.zero_le _) (Nat.zero_le _) hl.1 rfl (Nat.le_of_ble_eq_true rfl) dX0_grows_5 ?_
  refine lv_iconst (v := nI 1) hx hb dX0_grows_8 (by decide) ?_
  refine cm_need hx hb hml hown hts hK hI hM htab (hpc := 30) rfl q333 (by rw [hRf]; decide) (by rw [hRl]; decide) (Nat.zero_le _) (Nat.zero_le _) hl.1 (Nat.le_of_ble_eq_true rfl) dX0_grows_9 (fun c_1 locs hM => ?_) (fun c_1 H locs hM => ?_)
  · exact absurd c_1 he
  · refine lv_astore_n (lv' := [(2, .ref (h 1)), (0, .ref (h 0)), (1, .int v)]) hx hb dX0_grows_30 rfl hl (by decide) rfl (fun ls hl => ?_)
    refine lv_aload_n hx hb dX0_grows_31 rfl (lv_at hl 1 rfl) ?_
    refine lv_aload_n hx hb dX0_grows_32 rfl (lv_at hl 0 rfl) ?_
    refine cm_fin hx hb hml hown hts hK hI 1 (by decide) hM q341 (by rw [hRf]; decide) (by rw [hRl]; decide) (Nat.zero_le _) (Nat.zero_le _) hl.1 (Nat.le_of_ble_eq_true rfl) dX0_grows_33 (fun H locs hM => ?_)
    exact hret0 hM (mwEq.rf) rfl rfl ⟨rfl, rfl, rfl⟩ (by decide) dX0_grows_36
theorem ndX0_isCell : yX0_isCell.cls ≠ "java/lang/invoke/MethodHandle" ∧ yX0_isCell.cls ≠ "java/lang/invoke/VarHandle" ∧ (parseMethodDescriptor yX0_isCell.desc).map (fun d => d.parameters.length) = some 1 := by decide +kernel

set_option maxHeartbeats 400000 in
theorem ca_cell_ok0 (f : Nat → Int32) (a : Nat → Nat → Int32) (c0 v : Nat) (hc : c0 < 25) (hv : v ≤ 9) : CmF yX0_cell cX0_cell 6 [(0, 81, 82, 8)] 2 60 [.int (nI c0), .int (nI 0), .int (nI v)] f a (a 1 (8 + c0)) f (va_up a 1 (upd (a 1) (8 + c0) (nI v))) := by
  refine CmF.ofI (by decide) rfl (Nat.le_of_ble_eq_true rfl) ?_
  intro p l e R s m args below meth c Q D dA h fc wk hd ri rt cw tx nm B S ls hx hb hml hRf hRl hRc hRs htab hts hown hK hI hB hS0 hQ hN hIm hZ hSh hM hl hret hret0
  have hl : lv_has ls 6 [(0, .ref (h 0)), (1, .int (nI c0)), (2, .int (nI 0)), (3, .int (nI v))] := hl
  refine lv_aload_n hx hb dX0_cell_0 rfl (lv_at hl 0 rfl) ?_
  refine lv_iload_n hx hb dX0_cell_1 rfl (lv_at hl 1 rfl) ?_
  refine st_callS (y := yX0_isCell) hx hb hml hown hts (cmX0_isCell (nI c0)) q327 q328 q61 q329 ndX0_isCell rfl (by rw [hRf]; decide) (by rw [hRl]; decide) (Nat.zero_le _) (Nat.zero_le _) hl.1 rfl (Nat.le_of_ble_eq_true rfl) dX0_cell_2 ?_
  refine w_if_eqT (tgt := 40) hx hb dX0_cell_5 (by decide) (fun c_1 => ?_) (fun c_1 => ?_)
  · exact absurd (by first | exact (in_nat (by decide)).mpr ⟨_, by omega, rfl⟩ | exact (in_nat1 _ (by decide) (by decide)).mpr ⟨_, by omega, by omega, rfl⟩ | exact cow_in hN0 (by omega) | assumption) c_1
  · refine lv_iload_n hx hb dX0_cell_8 rfl (lv_at hl 2 rfl) ?_
    refine lv_iconst (v := nI 0) hx hb dX0_cell_9 (by decide) ?_
    refine lv_iconst (v := nI 1) hx hb dX0_cell_10 (by decide) ?_
    refine st_callS (y := yX0_in) hx hb hml hown hts (cmX0_in (nI 0) (nI 0) (nI 1)) q330 q331 q61 q332 ndX0_in rfl (by rw [hRf]; decide) (by rw [hRl]; decide) (Nat.zero_le _) (Nat.zero_le _) hl.1 rfl (Nat.le_of_ble_eq_true rfl) dX0_cell_11 ?_
    refine w_if_eqT (tgt := 40) hx hb dX0_cell_14 (by decide) (fun c_2 => ?_) (fun c_2 => ?_)
    · exact absurd (by first | exact (in_nat (by decide)).mpr ⟨_, by omega, rfl⟩ | exact (in_nat1 _ (by decide) (by decide)).mpr ⟨_, by omega, by omega, rfl⟩ | exact cow_in hN0 (by omega) | assumption) c_2
    · refine lv_iload_n hx hb dX0_cell_17 rfl (lv_at hl 3 rfl) ?_
      refine lv_iconst (v := nI 0) hx hb dX0_cell_18 (by decide) ?_
      refine lv_iload_n hx hb dX0_cell_19 rfl (lv_at hl 2 rfl) ?_
      refine lv_if_ne (tgt := 28) hx hb dX0_cell_20 (by decide) (fun q => absurd q (by decide)) (fun _ => ?_)
      refine lv_bipush (v := nI 9) hx hb dX0_cell_23 (by decide) ?_
      refine lv_goto (tgt := 30) hx hb dX0_cell_25 (by decide) ?_
      refine st_callS (y := yX0_in) hx hb hml hown hts (cmX0_in (nI v) (nI 0) (nI 9)) q330 q331 q61 q332 ndX0_in rfl (by rw [hRf]; decide) (by rw [hRl]; decide) (Nat.zero_le _) (Nat.zero_le _) hl.1 rfl (Nat.le_of_ble_eq_true rfl) dX0_cell_30 ?_
      refine w_if_eqT (tgt := 40) hx hb dX0_cell_33 (by decide) (fun c_4 => ?_) (fun c_4 => ?_)
      · exact absurd (by first | exact (in_nat (by decide)).mpr ⟨_, by omega, rfl⟩ | exact (in_nat1 _ (by decide) (by decide)).mpr ⟨_, by omega, by omega, rfl⟩ | exact cow_in hN0 (by omega) | assumption) c_4
      · refine lv_iconst (v := nI 1) hx hb dX0_cell_36 (by decide) ?_
        refine lv_goto (tgt := 41) hx hb dX0_cell_37 (by decide) ?_
        refine lv_iconst (v := nI 1) hx hb dX0_cell_41 (by decide) ?_
        refine cm_n1 hx hb hml hown hts hK hI hM htab (hpc := 82) rfl q333 (by rw [hRf]; decide) (by rw [hRl]; decide) (Nat.zero_le _) (Nat.zero_le _) hl.1 (Nat.le_of_ble_eq_true rfl) dX0_cell_42 (fun locs hM => ?_)
        refine lv_iload_n hx hb dX0_cell_45 rfl (lv_at hl 2 rfl) ?_
        refine lv_if_ne (tgt := 59) hx hb dX0_cell_46 (by decide) (fun q => absurd q (by decide)) (fun _ => ?_)
        refine lv_aload_n hx hb dX0_cell_49 rfl (lv_at hl 0 rfl) ?_
        refine c_get (v := .ref (hm0 h 0)) hx hb hts in_X0 hown hK (hM.1 0 _ rfl) rfl 1 (by decide) q287 rfl rfl dX0_cell_50 ?_
        have nq := hK.F 3 rfl
        refine c_getN (v := .ref (hm0 h 1)) hx hb hts in_X2 hown hK ((cm_parts hM.1).2.1 0 _ rfl) rfl 0 (by decide) nq rfl rfl dX0_cell_53 ?_
        refine lv_goto (tgt := 66) hx hb dX0_cell_56 (by decide) ?_
        refine lv_astore (lv' := [(4, .ref (hm0 h 1)), (0, .ref (h 0)), (1, .int (nI c0)), (2, .int (nI 0)), (3, .int (nI v))]) hx hb dX0_cell_66 hl (by decide) rfl (fun ls hl => ?_)
        refine lv_aload hx hb dX0_cell_68 (lv_at hl 0 rfl) ?_
        refine lv_iload_n hx hb dX0_cell_70 rfl (lv_at hl 2 rfl) ?_
        refine c_iald hx hb hK ((cm_parts hM.1).2.1 1 _ rfl) c0 ⟨by omega, by decide, rfl⟩ dX0_cell_71 ?_
        refine w_top (a 1 (8 + c0)) (rfl) ?_
        refine lv_istore (lv' := [(5, .int (a 1 (8 + c0))), (4, .ref (hm0 h 1)), (0, .ref (h 0)), (1, .int (nI c0)), (2, .int (nI 0)), (3, .int (nI v))]) hx hb dX0_cell_72 hl (by decide) rfl (fun ls hl => ?_)
        refine lv_aload hx hb dX0_cell_74 (lv_at hl 1 rfl) ?_
        refine lv_iload_n hx hb dX0_cell_76 rfl (lv_at hl 3 rfl) ?_
        refine lv_iload_n hx hb dX0_cell_77 rfl (lv_at hl 5 rfl) ?_
        refine cm_ast_mark hx hb hK hI hM c0 ⟨by omega, rfl⟩ dX0_cell_78 (fun H locs hM => ?_)
        refine lv_iload hx hb dX0_cell_79 (lv_at hl 0 rfl) ?_
        exact hret0 hM (mwEq_u ⟨by omega, by omega, by omega, by omega, fun w hw => ⟨by omega, by omega⟩⟩) rfl rfl ⟨rfl, rfl, rfl⟩ (rfl) dX0_cell_81
set_option maxHeartbeats 400000 in
theorem ca_cell_ok1 (f : Nat → Int32) (a : Nat → Nat → Int32) (c0 v : Nat) (hc : c0 < 25) (hv : v ≤ 99) : CmF yX0_cell cX0_cell 6 [(0, 81, 82, 8)] 2 60 [.int (nI c0), .int (nI 1), .int (nI v)] f a (a 1 (33 + c0)) f (va_up a 1 (upd (a 1) (33 + c0) (nI v))) := by
  refine CmF.ofI (by decide) rfl (Nat.le_of_ble_eq_true rfl) ?_
  intro p l e R s m args below meth c Q D dA h fc wk hd ri rt cw tx nm B S ls hx hb hml hRf hRl hRc hRs htab hts hown hK hI hB hS0 hQ hN hIm hZ hSh hM hl hret hret0
  have hl : lv_has ls 6 [(0, .ref (h 0)), (1, .int (nI c0)), (2, .int (nI 1)), (3, .int (nI v))] := hl
  refine lv_aload_n hx hb dX0_cell_0 rfl (lv_at hl 0 rfl) ?_
  refine lv_iload_n hx hb dX0_cell_1 rfl (lv_at hl 1 rfl) ?_
  refine st_callS (y := yX0_isCell) hx hb hml hown hts (cmX0_isCell (nI c0)) q327 q328 q61 q329 ndX0_isCell rfl (by rw [hRf]; decide) (by rw [hRl]; decide) (Nat.zero_le _) (Nat.zero_le _) hl.1 rfl (Nat.le_of_ble_eq_true rfl) dX0_cell_2 ?_
  refine w_if_eqT (tgt := 40) hx hb dX0_cell_5 (by decide) (fun c_1 => ?_) (fun c_1 => ?_)
  · exact absurd (by first | exact (in_nat (by decide)).mpr ⟨_, by omega, rfl⟩ | exact (in_nat1 _ (by decide) (by decide)).mpr ⟨_, by omega, by omega, rfl⟩ | exact cow_in hN0 (by omega) | assumption) c_1
  · refine lv_iload_n hx hb dX0_cell_8 rfl (lv_at hl 2 rfl) ?_
    refine lv_iconst (v := nI 0) hx hb dX0_cell_9 (by decide) ?_
    refine lv_iconst (v := nI 1) hx hb dX0_cell_10 (by decide) ?_
    refine st_callS (y := yX0_in) hx hb hml hown hts (cmX0_in (nI 1) (nI 0) (nI 1)) q330 q331 q61 q332 ndX0_in rfl (by rw [hRf]; decide) (by rw [hRl]; decide) (Nat.zero_le _) (Nat.zero_le _) hl.1 rfl (Nat.le_of_ble_eq_true rfl) dX0_cell_11 ?_
    refine w_if_eqT (tgt := 40) hx hb dX0_cell_14 (by decide) (fun c_2 => ?_) (fun c_2 => ?_)
    · exact absurd (by first | exact (in_nat (by decide)).mpr ⟨_, by omega, rfl⟩ | exact (in_nat1 _ (by decide) (by decide)).mpr ⟨_, by omega, by omega, rfl⟩ | exact cow_in hN0 (by omega) | assumption) c_2
    · refine lv_iload_n hx hb dX0_cell_17 rfl (lv_at hl 3 rfl) ?_
      refine lv_iconst (v := nI 0) hx hb dX0_cell_18 (by decide) ?_
      refine lv_iload_n hx hb dX0_cell_19 rfl (lv_at hl 2 rfl) ?_
      refine lv_if_ne (tgt := 28) hx hb dX0_cell_20 (by decide) (fun _ => ?_) (fun q => absurd q (by decide))
      refine lv_bipush (v := nI 99) hx hb dX0_cell_28 (by decide) ?_
      refine st_callS (y := yX0_in) hx hb hml hown hts (cmX0_in (nI v) (nI 0) (nI 99)) q330 q331 q61 q332 ndX0_in rfl (by rw [hRf]; decide) (by rw [hRl]; decide) (Nat.zero_le _) (Nat.zero_le _) hl.1 rfl (Nat.le_of_ble_eq_true rfl) dX0_cell_30 ?_
      refine w_if_eqT (tgt := 40) hx hb dX0_cell_33 (by decide) (fun c_4 => ?_) (fun c_4 => ?_)
      · exact absurd (by first | exact (in_nat (by decide)).mpr ⟨_, by omega, rfl⟩ | exact (in_nat1 _ (by decide) (by decide)).mpr ⟨_, by omega, by omega, rfl⟩ | exact cow_in hN0 (by omega) | assumption) c_4
      · refine lv_iconst (v := nI 1) hx hb dX0_cell_36 (by decide) ?_
        refine lv_goto (tgt := 41) hx hb dX0_cell_37 (by decide) ?_
        refine lv_iconst (v := nI 1) hx hb dX0_cell_41 (by decide) ?_
        refine cm_n1 hx hb hml hown hts hK hI hM htab (hpc := 82) rfl q333 (by rw [hRf]; decide) (by rw [hRl]; decide) (Nat.zero_le _) (Nat.zero_le _) hl.1 (Nat.le_of_ble_eq_true rfl) dX0_cell_42 (fun locs hM => ?_)
        refine lv_iload_n hx hb dX0_cell_45 rfl (lv_at hl 2 rfl) ?_
        refine lv_if_ne (tgt := 59) hx hb dX0_cell_46 (by decide) (fun _ => ?_) (fun q => absurd q (by decide))
        refine lv_aload_n hx hb dX0_cell_59 rfl (lv_at hl 0 rfl) ?_
        refine c_get (v := .ref (hm0 h 0)) hx hb hts in_X0 hown hK (hM.1 0 _ rfl) rfl 1 (by decide) q287 rfl rfl dX0_cell_60 ?_
        have nq := hK.F 4 rfl
        refine c_getN (v := .ref (hm0 h 2)) hx hb hts in_X2 hown hK ((cm_parts hM.1).2.1 0 _ rfl) rfl 1 (by decide) nq rfl rfl dX0_cell_63 ?_
        refine lv_astore (lv' := [(4, .ref (hm0 h 2)), (0, .ref (h 0)), (1, .int (nI c0)), (2, .int (nI 1)), (3, .int (nI v))]) hx hb dX0_cell_66 hl (by decide) rfl (fun ls hl => ?_)
        refine lv_aload hx hb dX0_cell_68 (lv_at hl 0 rfl) ?_
        refine lv_iload_n hx hb dX0_cell_70 rfl (lv_at hl 2 rfl) ?_
        refine c_iald hx hb hK ((cm_parts hM.1).2.1 2 _ rfl) c0 ⟨by omega, by decide, rfl⟩ dX0_cell_71 ?_
        refine w_top (a 1 (33 + c0)) (rfl) ?_
        refine lv_istore (lv' := [(5, .int (a 1 (33 + c0))), (4, .ref (hm0 h 2)), (0, .ref (h 0)), (1, .int (nI c0)), (2, .int (nI 1)), (3, .int (nI v))]) hx hb dX0_cell_72 hl (by decide) rfl (fun ls hl => ?_)
        refine lv_aload hx hb dX0_cell_74 (lv_at hl 1 rfl) ?_
        refine lv_iload_n hx hb dX0_cell_76 rfl (lv_at hl 3 rfl) ?_
        refine lv_iload_n hx hb dX0_cell_77 rfl (lv_at hl 5 rfl) ?_
        refine cm_ast_grass hx hb hK hI hM c0 ⟨by omega, rfl⟩ dX0_cell_78 (fun H locs hM => ?_)
        refine lv_iload hx hb dX0_cell_79 (lv_at hl 0 rfl) ?_
        exact hret0 hM (mwEq_u ⟨by omega, by omega, by omega, by omega, fun w hw => ⟨by omega, by omega⟩⟩) rfl rfl ⟨rfl, rfl, rfl⟩ (rfl) dX0_cell_81
set_option maxHeartbeats 400000 in
theorem ca_cell_e (f : Nat → Int32) (a : Nat → Nat → Int32) (c0 w v : Int32) (he : ¬ ((nI 0 ≤ c0 ∧ c0 ≤ nI 24) ∧ (nI 0 ≤ w ∧ w ≤ nI 1) ∧ (nI 0 ≤ v ∧ v ≤ if w = 0 then nI 9 else nI 99))) : CmF yX0_cell cX0_cell 6 [(0, 81, 82, 8)] 2 60 [.int c0, .int w, .int v] f a (-1000000001 : Int32) f (mErr a 1) := by
  refine CmF.ofI (by decide) rfl (Nat.le_of_ble_eq_true rfl) ?_
  intro p l e R s m args below meth c Q D dA h fc wk hd ri rt cw tx nm B S ls hx hb hml hRf hRl hRc hRs htab hts hown hK hI hB hS0 hQ hN hIm hZ hSh hM hl hret hret0
  have hl : lv_has ls 6 [(0, .ref (h 0)), (1, .int c0), (2, .int w), (3, .int v)] := hl
  refine lv_aload_n hx hb dX0_cell_0 rfl (lv_at hl 0 rfl) ?_
  refine lv_iload_n hx hb dX0_cell_1 rfl (lv_at hl 1 rfl) ?_
  refine st_callS (y := yX0_isCell) hx hb hml hown hts (cmX0_isCell c0) q327 q328 q61 q329 ndX0_isCell rfl (by rw [hRf]; decide) (by rw [hRl]; decide) (Nat.zero_le _) (Nat.zero_le _) hl.1 rfl (Nat.le_of_ble_eq_true rfl) dX0_cell_2 ?_
  refine w_if_eqT (tgt := 40) hx hb dX0_cell_5 (by decide) (fun c_1 => ?_) (fun c_1 => ?_)
  · refine lv_iconst (v := nI 0) hx hb dX0_cell_40 (by decide) ?_
    refine lv_iconst (v := nI 1) hx hb dX0_cell_41 (by decide) ?_
    refine cm_n0 hx hb hml hown hts hK hI hM htab (hpc := 82) rfl q333 (by rw [hRf]; decide) (by rw [hRl]; decide) (Nat.zero_le _) (Nat.zero_le _) hl.1 (Nat.le_of_ble_eq_true rfl) dX0_cell_42 (fun H locs hM => ?_)
    refine lv_astore (lv' := [(4, .ref (h 1)), (0, .ref (h 0)), (1, .int c0), (2, .int w), (3, .int v)]) hx hb dX0_cell_82 hl (by decide) rfl (fun ls hl => ?_)
    refine lv_aload_n hx hb dX0_cell_84 rfl (lv_at hl 1 rfl) ?_
    refine lv_aload hx hb dX0_cell_85 (lv_at hl 0 rfl) ?_
    refine cm_fin hx hb hml hown hts hK hI 1 (by decide) hM q341 (by rw [hRf]; decide) (by rw [hRl]; decide) (Nat.zero_le _) (Nat.zero_le _) hl.1 (Nat.le_of_ble_eq_true rfl) dX0_cell_87 (fun H locs hM => ?_)
    exact hret0 hM (mwEq.rf) rfl rfl ⟨rfl, rfl, rfl⟩ (by decide) dX0_cell_90
  · refine lv_iload_n hx hb dX0_cell_8 rfl (lv_at hl 2 rfl) ?_
    refine lv_iconst (v := nI 0) hx hb dX0_cell_9 (by decide) ?_
    refine lv_iconst (v := nI 1) hx hb dX0_cell_10 (by decide) ?_
    refine st_callS (y := yX0_in) hx hb hml hown hts (cmX0_in w (nI 0) (nI 1)) q330 q331 q61 q332 ndX0_in rfl (by rw [hRf]; decide) (by rw [hRl]; decide) (Nat.zero_le _) (Nat.zero_le _) hl.1 rfl (Nat.le_of_ble_eq_true rfl) dX0_cell_11 ?_
    refine w_if_eqT (tgt := 40) hx hb dX0_cell_14 (by decide) (fun c_2 => ?_) (fun c_2 => ?_)
    · refine lv_iconst (v := nI 0) hx hb dX0_cell_40 (by decide) ?_
      refine lv_iconst (v := nI 1) hx hb dX0_cell_41 (by decide) ?_
      refine cm_n0 hx hb hml hown hts hK hI hM htab (hpc := 82) rfl q333 (by rw [hRf]; decide) (by rw [hRl]; decide) (Nat.zero_le _) (Nat.zero_le _) hl.1 (Nat.le_of_ble_eq_true rfl) dX0_cell_42 (fun H locs hM => ?_)
      refine lv_astore (lv' := [(4, .ref (h 1)), (0, .ref (h 0)), (1, .int c0), (2, .int w), (3, .int v)]) hx hb dX0_cell_82 hl (by decide) rfl (fun ls hl => ?_)
      refine lv_aload_n hx hb dX0_cell_84 rfl (lv_at hl 1 rfl) ?_
      refine lv_aload hx hb dX0_cell_85 (lv_at hl 0 rfl) ?_
      refine cm_fin hx hb hml hown hts hK hI 1 (by decide) hM q341 (by rw [hRf]; decide) (by rw [hRl]; decide) (Nat.zero_le _) (Nat.zero_le _) hl.1 (Nat.le_of_ble_eq_true rfl) dX0_cell_87 (fun H locs hM => ?_)
      exact hret0 hM (mwEq.rf) rfl rfl ⟨rfl, rfl, rfl⟩ (by decide) dX0_cell_90
    · refine lv_iload_n hx hb dX0_cell_17 rfl (lv_at hl 3 rfl) ?_
      refine lv_iconst (v := nI 0) hx hb dX0_cell_18 (by decide) ?_
      refine lv_iload_n hx hb dX0_cell_19 rfl (lv_at hl 2 rfl) ?_
      refine lv_if_ne (tgt := 28) hx hb dX0_cell_20 (by decide) (fun c_3 => ?_) (fun c_3 => ?_)
      · refine lv_bipush (v := nI 99) hx hb dX0_cell_28 (by decide) ?_
        refine st_callS (y := yX0_in) hx hb hml hown hts (cmX0_in v (nI 0) (nI 99)) q330 q331 q61 q332 ndX0_in rfl (by rw [hRf]; decide) (by rw [hRl]; decide) (Nat.zero_le _) (Nat.zero_le _) hl.1 rfl (Nat.le_of_ble_eq_true rfl) dX0_cell_30 ?_
        refine w_if_eqT (tgt := 40) hx hb dX0_cell_33 (by decide) (fun c_4 => ?_) (fun c_4 => ?_)
        · refine lv_iconst (v := nI 0) hx hb dX0_cell_40 (by decide) ?_
          refine lv_iconst (v := nI 1) hx hb dX0_cell_41 (by decide) ?_
          refine cm_n0 hx hb hml hown hts hK hI hM htab (hpc := 82) rfl q333 (by rw [hRf]; decide) (by rw [hRl]; decide) (Nat.zero_le _) (Nat.zero_le _) hl.1 (Nat.le_of_ble_eq_true rfl) dX0_cell_42 (fun H locs hM => ?_)
          refine lv_astore (lv' := [(4, .ref (h 1)), (0, .ref (h 0)), (1, .int c0), (2, .int w), (3, .int v)]) hx hb dX0_cell_82 hl (by decide) rfl (fun ls hl => ?_)
          refine lv_aload_n hx hb dX0_cell_84 rfl (lv_at hl 1 rfl) ?_
          refine lv_aload hx hb dX0_cell_85 (lv_at hl 0 rfl) ?_
          refine cm_fin hx hb hml hown hts hK hI 1 (by decide) hM q341 (by rw [hRf]; decide) (by rw [hRl]; decide) (Nat.zero_le _) (Nat.zero_le _) hl.1 (Nat.le_of_ble_eq_true rfl) dX0_cell_87 (fun H locs hM => ?_)
          exact hret0 hM (mwEq.rf) rfl rfl ⟨rfl, rfl, rfl⟩ (by decide) dX0_cell_90
        · refine lv_iconst (v := nI 1) hx hb dX0_cell_36 (by decide) ?_
          refine lv_goto (tgt := 41) hx hb dX0_cell_37 (by decide) ?_
          refine lv_iconst (v := nI 1) hx hb dX0_cell_41 (by decide) ?_
          exact absurd ⟨c_1, c_2, by rw [if_neg c_3]; exact c_4⟩ he
      · refine lv_bipush (v := nI 9) hx hb dX0_cell_23 (by decide) ?_
        refine lv_goto (tgt := 30) hx hb dX0_cell_25 (by decide) ?_
        refine st_callS (y := yX0_in) hx hb hml hown hts (cmX0_in v (nI 0) (nI 9)) q330 q331 q61 q332 ndX0_in rfl (by rw [hRf]; decide) (by rw [hRl]; decide) (Nat.zero_le _) (Nat.zero_le _) hl.1 rfl (Nat.le_of_ble_eq_true rfl) dX0_cell_30 ?_
        refine w_if_eqT (tgt := 40) hx hb dX0_cell_33 (by decide) (fun c_5 => ?_) (fun c_5 => ?_)
        · refine lv_iconst (v := nI 0) hx hb dX0_cell_40 (by decide) ?_
          refine lv_iconst (v := nI 1) hx hb dX0_cell_41 (by decide) ?_
          refine cm_n0 hx hb hml hown hts hK hI hM htab (hpc := 82) rfl q333 (by rw [hRf]; decide) (by rw [hRl]; decide) (Nat.zero_le _) (Nat.zero_le _) hl.1 (Nat.le_of_ble_eq_true rfl) dX0_cell_42 (fun H locs hM => ?_)
          refine lv_astore (lv' := [(4, .ref (h 1)), (0, .ref (h 0)), (1, .int c0), (2, .int w), (3, .int v)]) hx hb dX0_cell_82 hl (by decide) rfl (fun ls hl => ?_)
          refine lv_aload_n hx hb dX0_cell_84 rfl (lv_at hl 1 rfl) ?_
          refine lv_aload hx hb dX0_cell_85 (lv_at hl 0 rfl) ?_
          refine cm_fin hx hb hml hown hts hK hI 1 (by decide) hM q341 (by rw [hRf]; decide) (by rw [hRl]; decide) (Nat.zero_le _) (Nat.zero_le _) hl.1 (Nat.le_of_ble_eq_true rfl) dX0_cell_87 (fun H locs hM => ?_)
          exact hret0 hM (mwEq.rf) rfl rfl ⟨rfl, rfl, rfl⟩ (by decide) dX0_cell_90
        · refine lv_iconst (v := nI 1) hx hb dX0_cell_36 (by decide) ?_
          refine lv_goto (tgt := 41) hx hb dX0_cell_37 (by decide) ?_
          refine lv_iconst (v := nI 1) hx hb dX0_cell_41 (by decide) ?_
          exact absurd ⟨c_1, c_2, by rw [if_pos c_3]; exact c_5⟩ he
theorem ndX0_isCow : yX0_isCow.cls = RX0 ∧ yX0_isCow.cls ≠ "java/lang/invoke/MethodHandle" ∧ yX0_isCow.cls ≠ "java/lang/invoke/VarHandle" ∧ (parseMethodDescriptor yX0_isCow.desc).map (fun d => d.parameters.length) = some 1 := by decide +kernel

set_option maxHeartbeats 400000 in
theorem ca_milk_ok (f : Nat → Int32) (a : Nat → Nat → Int32) (i k : Nat) (hi : i < cl (a 1 3)) (hN0 : okN (a 1 3) 5) (hq : okN (a 1 (58 + 14 * i + 3)) 10) (hk : k < cl (a 1 (58 + 14 * i + 3))) : CmF yX0_milk cX0_milk 4 [(0, 54, 55, 8)] 2 60 [.int (nI i), .int (nI k)] f a (a 1 (58 + 14 * i + (4 + k))) f a := by
  refine CmF.ofI (by decide) rfl (Nat.le_of_ble_eq_true rfl) ?_
  intro p l e R s m args below meth c Q D dA h fc wk hd ri rt cw tx nm B S ls hx hb hml hRf hRl hRc hRs htab hts hown hK hI hB hS0 hQ hN hIm hZ hSh hM hl hret hret0
  have hl : lv_has ls 4 [(0, .ref (h 0)), (1, .int (nI i)), (2, .int (nI k))] := hl
  have hN2 := hN0.2
  have hq2 := hq.2
  refine lv_aload_n hx hb dX0_milk_0 rfl (lv_at hl 0 rfl) ?_
  refine lv_aload_n hx hb dX0_milk_1 rfl (lv_at hl 0 rfl) ?_
  refine lv_iload_n hx hb dX0_milk_2 rfl (lv_at hl 1 rfl) ?_
  refine rd_callV (y := yX0_isCow) hx hb hml hown hts hK (ca_isCow D dA h _ _ _ _ _ _ _ _ _ _ (nI i)) hM.1 (cAt.recv hK (hM.1 0 _ rfl) rfl) q512 q514 qs4 q61 q515 ndX0_isCow rfl (by rw [hRf]; decide) (by rw [hRl]; decide) (Nat.zero_le _) (Nat.zero_le _) hl.1 rfl (Nat.le_of_ble_eq_true rfl) dX0_milk_3 ?_
  refine w_if_eqT (tgt := 17) hx hb dX0_milk_6 (by decide) (fun c_1 => ?_) (fun c_1 => ?_)
  · exact absurd (by first | exact (in_nat (by decide)).mpr ⟨_, by omega, rfl⟩ | exact (in_nat1 _ (by decide) (by decide)).mpr ⟨_, by omega, by omega, rfl⟩ | exact cow_in hN0 (by omega) | assumption) c_1
  · refine lv_iload_n hx hb dX0_milk_9 rfl (lv_at hl 2 rfl) ?_
    refine w_if_ltN (tgt := 17) hx hb (by omega) dX0_milk_10 (by decide) ?_
    refine lv_iconst (v := nI 1) hx hb dX0_milk_13 (by decide) ?_
    refine lv_goto (tgt := 18) hx hb dX0_milk_14 (by decide) ?_
    refine lv_iconst (v := nI 1) hx hb dX0_milk_18 (by decide) ?_
    refine cm_n1 hx hb hml hown hts hK hI hM htab (hpc := 55) rfl q333 (by rw [hRf]; decide) (by rw [hRl]; decide) (Nat.zero_le _) (Nat.zero_le _) hl.1 (Nat.le_of_ble_eq_true rfl) dX0_milk_19 (fun locs hM => ?_)
    refine lv_aload_n hx hb dX0_milk_22 rfl (lv_at hl 0 rfl) ?_
    refine lv_iload_n hx hb dX0_milk_23 rfl (lv_at hl 2 rfl) ?_
    refine lv_aload_n hx hb dX0_milk_24 rfl (lv_at hl 0 rfl) ?_
    refine c_get (v := .ref (hm0 h 0)) hx hb hts in_X0 hown hK (hM.1 0 _ rfl) rfl 1 (by decide) q287 rfl rfl dX0_milk_25 ?_
    have nq := hK.F 8 rfl
    refine c_getN (v := .ref (hm0 h 6)) hx hb hts in_X2 hown hK ((cm_parts hM.1).2.1 0 _ rfl) rfl 7 (by decide) nq rfl rfl dX0_milk_28 ?_
    refine lv_iload_n hx hb dX0_milk_31 rfl (lv_at hl 1 rfl) ?_
    refine c_iald hx hb hK ((cm_parts hM.1).2.1 6 _ rfl) i ⟨by omega, by decide, rfl⟩ dX0_milk_32 ?_
    refine w_top (a 1 (58 + 14 * i + 3)) (rfl) ?_
    refine w_top (nI (cl (a 1 (58 + 14 * i + 3)))) (hq.1) ?_
    refine w_icmp_geN (tgt := 40) hx hb (by omega) (by omega) dX0_milk_33 (by decide) (fun c_3 => ?_) (fun c_3 => ?_)
    · exact absurd c_3 (by omega)
    · refine lv_iconst (v := nI 1) hx hb dX0_milk_36 (by decide) ?_
      refine lv_goto (tgt := 41) hx hb dX0_milk_37 (by decide) ?_
      refine lv_iconst (v := nI 2) hx hb dX0_milk_41 (by decide) ?_
      refine cm_n1 hx hb hml hown hts hK hI hM htab (hpc := 55) rfl q333 (by rw [hRf]; decide) (by rw [hRl]; decide) (Nat.zero_le _) (Nat.zero_le _) hl.1 (Nat.le_of_ble_eq_true rfl) dX0_milk_42 (fun locs hM => ?_)
      refine lv_aload_n hx hb dX0_milk_45 rfl (lv_at hl 0 rfl) ?_
      refine c_get (v := .ref (hm0 h 0)) hx hb hts in_X0 hown hK (hM.1 0 _ rfl) rfl 1 (by decide) q287 rfl rfl dX0_milk_46 ?_
      refine lv_iload_n hx hb dX0_milk_49 rfl (lv_at hl 1 rfl) ?_
      refine lv_iload_n hx hb dX0_milk_50 rfl (lv_at hl 2 rfl) ?_
      refine rd_callV (y := yX2_milkAt) hx hb hml hown hts hK ((mw_milkAt (a 1) i k (by omega) (by omega)) D dA (hm0 h) _ _ _) (cm_parts hM.1).2.1 (cAt.recv hK ((cm_parts hM.1).2.1 0 _ rfl) rfl) q626 q583 q584 q66 q585 ndX2_milkAt rfl (by rw [hRf]; decide) (by rw [hRl]; decide) (Nat.zero_le _) (Nat.zero_le _) hl.1 rfl (Nat.le_of_ble_eq_true rfl) dX0_milk_51 ?_
      exact hret0 hM (mwEq.rf) rfl rfl ⟨rfl, rfl, rfl⟩ (rfl) dX0_milk_54
set_option maxHeartbeats 400000 in
theorem ca_milk_n (f : Nat → Int32) (a : Nat → Nat → Int32) (i k : Nat) (hi : i < cl (a 1 3)) (hN0 : okN (a 1 3) 5) (hq : okN (a 1 (58 + 14 * i + 3)) 10) (hk : cl (a 1 (58 + 14 * i + 3)) ≤ k) (hk2 : k < 2 ^ 31) : CmF yX0_milk cX0_milk 4 [(0, 54, 55, 8)] 2 60 [.int (nI i), .int (nI k)] f a (-1000000002 : Int32) f (mErr a 2) := by
  refine CmF.ofI (by decide) rfl (Nat.le_of_ble_eq_true rfl) ?_
  intro p l e R s m args below meth c Q D dA h fc wk hd ri rt cw tx nm B S ls hx hb hml hRf hRl hRc hRs htab hts hown hK hI hB hS0 hQ hN hIm hZ hSh hM hl hret hret0
  have hl : lv_has ls 4 [(0, .ref (h 0)), (1, .int (nI i)), (2, .int (nI k))] := hl
  have hN2 := hN0.2
  have hq2 := hq.2
  refine lv_aload_n hx hb dX0_milk_0 rfl (lv_at hl 0 rfl) ?_
  refine lv_aload_n hx hb dX0_milk_1 rfl (lv_at hl 0 rfl) ?_
  refine lv_iload_n hx hb dX0_milk_2 rfl (lv_at hl 1 rfl) ?_
  refine rd_callV (y := yX0_isCow) hx hb hml hown hts hK (ca_isCow D dA h _ _ _ _ _ _ _ _ _ _ (nI i)) hM.1 (cAt.recv hK (hM.1 0 _ rfl) rfl) q512 q514 qs4 q61 q515 ndX0_isCow rfl (by rw [hRf]; decide) (by rw [hRl]; decide) (Nat.zero_le _) (Nat.zero_le _) hl.1 rfl (Nat.le_of_ble_eq_true rfl) dX0_milk_3 ?_
  refine w_if_eqT (tgt := 17) hx hb dX0_milk_6 (by decide) (fun c_1 => ?_) (fun c_1 => ?_)
  · exact absurd (by first | exact (in_nat (by decide)).mpr ⟨_, by omega, rfl⟩ | exact (in_nat1 _ (by decide) (by decide)).mpr ⟨_, by omega, by omega, rfl⟩ | exact cow_in hN0 (by omega) | assumption) c_1
  · refine lv_iload_n hx hb dX0_milk_9 rfl (lv_at hl 2 rfl) ?_
    refine w_if_ltN (tgt := 17) hx hb (by omega) dX0_milk_10 (by decide) ?_
    refine lv_iconst (v := nI 1) hx hb dX0_milk_13 (by decide) ?_
    refine lv_goto (tgt := 18) hx hb dX0_milk_14 (by decide) ?_
    refine lv_iconst (v := nI 1) hx hb dX0_milk_18 (by decide) ?_
    refine cm_n1 hx hb hml hown hts hK hI hM htab (hpc := 55) rfl q333 (by rw [hRf]; decide) (by rw [hRl]; decide) (Nat.zero_le _) (Nat.zero_le _) hl.1 (Nat.le_of_ble_eq_true rfl) dX0_milk_19 (fun locs hM => ?_)
    refine lv_aload_n hx hb dX0_milk_22 rfl (lv_at hl 0 rfl) ?_
    refine lv_iload_n hx hb dX0_milk_23 rfl (lv_at hl 2 rfl) ?_
    refine lv_aload_n hx hb dX0_milk_24 rfl (lv_at hl 0 rfl) ?_
    refine c_get (v := .ref (hm0 h 0)) hx hb hts in_X0 hown hK (hM.1 0 _ rfl) rfl 1 (by decide) q287 rfl rfl dX0_milk_25 ?_
    have nq := hK.F 8 rfl
    refine c_getN (v := .ref (hm0 h 6)) hx hb hts in_X2 hown hK ((cm_parts hM.1).2.1 0 _ rfl) rfl 7 (by decide) nq rfl rfl dX0_milk_28 ?_
    refine lv_iload_n hx hb dX0_milk_31 rfl (lv_at hl 1 rfl) ?_
    refine c_iald hx hb hK ((cm_parts hM.1).2.1 6 _ rfl) i ⟨by omega, by decide, rfl⟩ dX0_milk_32 ?_
    refine w_top (a 1 (58 + 14 * i + 3)) (rfl) ?_
    refine w_top (nI (cl (a 1 (58 + 14 * i + 3)))) (hq.1) ?_
    refine w_icmp_geN (tgt := 40) hx hb (by omega) (by omega) dX0_milk_33 (by decide) (fun c_3 => ?_) (fun c_3 => ?_)
    · refine lv_iconst (v := nI 0) hx hb dX0_milk_40 (by decide) ?_
      refine lv_iconst (v := nI 2) hx hb dX0_milk_41 (by decide) ?_
      refine cm_n0 hx hb hml hown hts hK hI hM htab (hpc := 55) rfl q333 (by rw [hRf]; decide) (by rw [hRl]; decide) (Nat.zero_le _) (Nat.zero_le _) hl.1 (Nat.le_of_ble_eq_true rfl) dX0_milk_42 (fun H locs hM => ?_)
      refine lv_astore_n (lv' := [(3, .ref (h 1)), (0, .ref (h 0)), (1, .int (nI i)), (2, .int (nI k))]) hx hb dX0_milk_55 rfl hl (by decide) rfl (fun ls hl => ?_)
      refine lv_aload_n hx hb dX0_milk_56 rfl (lv_at hl 1 rfl) ?_
      refine lv_aload_n hx hb dX0_milk_57 rfl (lv_at hl 0 rfl) ?_
      refine cm_fin hx hb hml hown hts hK hI 2 (by decide) hM q341 (by rw [hRf]; decide) (by rw [hRl]; decide) (Nat.zero_le _) (Nat.zero_le _) hl.1 (Nat.le_of_ble_eq_true rfl) dX0_milk_58 (fun H locs hM => ?_)
      exact hret0 hM (mwEq.rf) rfl rfl ⟨rfl, rfl, rfl⟩ (by decide) dX0_milk_61
    · exact absurd c_3 (by omega)
set_option maxHeartbeats 400000 in
theorem ca_milk_e (f : Nat → Int32) (a : Nat → Nat → Int32) (v k : Int32) (he : ¬ (cowP (a 1) v ∧ 0 ≤ k)) : CmF yX0_milk cX0_milk 4 [(0, 54, 55, 8)] 2 60 [.int v, .int k] f a (-1000000001 : Int32) f (mErr a 1) := by
  refine CmF.ofI (by decide) rfl (Nat.le_of_ble_eq_true rfl) ?_
  intro p l e R s m args below meth c Q D dA h fc wk hd ri rt cw tx nm B S ls hx hb hml hRf hRl hRc hRs htab hts hown hK hI hB hS0 hQ hN hIm hZ hSh hM hl hret hret0
  have hl : lv_has ls 4 [(0, .ref (h 0)), (1, .int v), (2, .int k)] := hl
  refine lv_aload_n hx hb dX0_milk_0 rfl (lv_at hl 0 rfl) ?_
  refine lv_aload_n hx hb dX0_milk_1 rfl (lv_at hl 0 rfl) ?_
  refine lv_iload_n hx hb dX0_milk_2 rfl (lv_at hl 1 rfl) ?_
  refine rd_callV (y := yX0_isCow) hx hb hml hown hts hK (ca_isCow D dA h _ _ _ _ _ _ _ _ _ _ v) hM.1 (cAt.recv hK (hM.1 0 _ rfl) rfl) q512 q514 qs4 q61 q515 ndX0_isCow rfl (by rw [hRf]; decide) (by rw [hRl]; decide) (Nat.zero_le _) (Nat.zero_le _) hl.1 rfl (Nat.le_of_ble_eq_true rfl) dX0_milk_3 ?_
  refine w_if_eqT (tgt := 17) hx hb dX0_milk_6 (by decide) (fun c_1 => ?_) (fun c_1 => ?_)
  · refine lv_iconst (v := nI 0) hx hb dX0_milk_17 (by decide) ?_
    refine lv_iconst (v := nI 1) hx hb dX0_milk_18 (by decide) ?_
    refine cm_n0 hx hb hml hown hts hK hI hM htab (hpc := 55) rfl q333 (by rw [hRf]; decide) (by rw [hRl]; decide) (Nat.zero_le _) (Nat.zero_le _) hl.1 (Nat.le_of_ble_eq_true rfl) dX0_milk_19 (fun H locs hM => ?_)
    refine lv_astore_n (lv' := [(3, .ref (h 1)), (0, .ref (h 0)), (1, .int v), (2, .int k)]) hx hb dX0_milk_55 rfl hl (by decide) rfl (fun ls hl => ?_)
    refine lv_aload_n hx hb dX0_milk_56 rfl (lv_at hl 1 rfl) ?_
    refine lv_aload_n hx hb dX0_milk_57 rfl (lv_at hl 0 rfl) ?_
    refine cm_fin hx hb hml hown hts hK hI 1 (by decide) hM q341 (by rw [hRf]; decide) (by rw [hRl]; decide) (Nat.zero_le _) (Nat.zero_le _) hl.1 (Nat.le_of_ble_eq_true rfl) dX0_milk_58 (fun H locs hM => ?_)
    exact hret0 hM (mwEq.rf) rfl rfl ⟨rfl, rfl, rfl⟩ (by decide) dX0_milk_61
  · refine lv_iload_n hx hb dX0_milk_9 rfl (lv_at hl 2 rfl) ?_
    refine lv_if_lt (tgt := 17) hx hb dX0_milk_10 (by decide) (fun c_2 => ?_) (fun c_2 => ?_)
    · refine lv_iconst (v := nI 0) hx hb dX0_milk_17 (by decide) ?_
      refine lv_iconst (v := nI 1) hx hb dX0_milk_18 (by decide) ?_
      refine cm_n0 hx hb hml hown hts hK hI hM htab (hpc := 55) rfl q333 (by rw [hRf]; decide) (by rw [hRl]; decide) (Nat.zero_le _) (Nat.zero_le _) hl.1 (Nat.le_of_ble_eq_true rfl) dX0_milk_19 (fun H locs hM => ?_)
      refine lv_astore_n (lv' := [(3, .ref (h 1)), (0, .ref (h 0)), (1, .int v), (2, .int k)]) hx hb dX0_milk_55 rfl hl (by decide) rfl (fun ls hl => ?_)
      refine lv_aload_n hx hb dX0_milk_56 rfl (lv_at hl 1 rfl) ?_
      refine lv_aload_n hx hb dX0_milk_57 rfl (lv_at hl 0 rfl) ?_
      refine cm_fin hx hb hml hown hts hK hI 1 (by decide) hM q341 (by rw [hRf]; decide) (by rw [hRl]; decide) (Nat.zero_le _) (Nat.zero_le _) hl.1 (Nat.le_of_ble_eq_true rfl) dX0_milk_58 (fun H locs hM => ?_)
      exact hret0 hM (mwEq.rf) rfl rfl ⟨rfl, rfl, rfl⟩ (by decide) dX0_milk_61
    · refine lv_iconst (v := nI 1) hx hb dX0_milk_13 (by decide) ?_
      refine lv_goto (tgt := 18) hx hb dX0_milk_14 (by decide) ?_
      refine lv_iconst (v := nI 1) hx hb dX0_milk_18 (by decide) ?_
      exact absurd ⟨c_1, by first | exact c_2 | exact Int32.not_lt.mp c_2⟩ he
set_option maxHeartbeats 400000 in
theorem ca_put_ok (f : Nat → Int32) (a : Nat → Nat → Int32) (i c0 : Nat) (hi : i < cl (a 1 3)) (hN0 : okN (a 1 3) 5) (hc : c0 < 25) : CmF yX0_put cX0_put 4 [(0, 46, 47, 8)] 2 60 [.int (nI i), .int (nI c0)] f a (a 1 (58 + 14 * i + 2)) f (va_up a 1 (upd (a 1) (58 + 14 * i + 2) (nI c0))) := by
  refine CmF.ofI (by decide) rfl (Nat.le_of_ble_eq_true rfl) ?_
  intro p l e R s m args below meth c Q D dA h fc wk hd ri rt cw tx nm B S ls hx hb hml hRf hRl hRc hRs htab hts hown hK hI hB hS0 hQ hN hIm hZ hSh hM hl hret hret0
  have hl : lv_has ls 4 [(0, .ref (h 0)), (1, .int (nI i)), (2, .int (nI c0))] := hl
  have hN2 := hN0.2
  refine lv_aload_n hx hb dX0_put_0 rfl (lv_at hl 0 rfl) ?_
  refine lv_aload_n hx hb dX0_put_1 rfl (lv_at hl 0 rfl) ?_
  refine lv_iload_n hx hb dX0_put_2 rfl (lv_at hl 1 rfl) ?_
  refine rd_callV (y := yX0_isCow) hx hb hml hown hts hK (ca_isCow D dA h _ _ _ _ _ _ _ _ _ _ (nI i)) hM.1 (cAt.recv hK (hM.1 0 _ rfl) rfl) q512 q514 qs4 q61 q515 ndX0_isCow rfl (by rw [hRf]; decide) (by rw [hRl]; decide) (Nat.zero_le _) (Nat.zero_le _) hl.1 rfl (Nat.le_of_ble_eq_true rfl) dX0_put_3 ?_
  refine w_if_eqT (tgt := 20) hx hb dX0_put_6 (by decide) (fun c_1 => ?_) (fun c_1 => ?_)
  · exact absurd (by first | exact (in_nat (by decide)).mpr ⟨_, by omega, rfl⟩ | exact (in_nat1 _ (by decide) (by decide)).mpr ⟨_, by omega, by omega, rfl⟩ | exact cow_in hN0 (by omega) | assumption) c_1
  · refine lv_iload_n hx hb dX0_put_9 rfl (lv_at hl 2 rfl) ?_
    refine st_callS (y := yX0_isCell) hx hb hml hown hts (cmX0_isCell (nI c0)) q327 q328 q61 q329 ndX0_isCell rfl (by rw [hRf]; decide) (by rw [hRl]; decide) (Nat.zero_le _) (Nat.zero_le _) hl.1 rfl (Nat.le_of_ble_eq_true rfl) dX0_put_10 ?_
    refine w_if_eqT (tgt := 20) hx hb dX0_put_13 (by decide) (fun c_2 => ?_) (fun c_2 => ?_)
    · exact absurd (by first | exact (in_nat (by decide)).mpr ⟨_, by omega, rfl⟩ | exact (in_nat1 _ (by decide) (by decide)).mpr ⟨_, by omega, by omega, rfl⟩ | exact cow_in hN0 (by omega) | assumption) c_2
    · refine lv_iconst (v := nI 1) hx hb dX0_put_16 (by decide) ?_
      refine lv_goto (tgt := 21) hx hb dX0_put_17 (by decide) ?_
      refine lv_iconst (v := nI 1) hx hb dX0_put_21 (by decide) ?_
      refine cm_n1 hx hb hml hown hts hK hI hM htab (hpc := 47) rfl q333 (by rw [hRf]; decide) (by rw [hRl]; decide) (Nat.zero_le _) (Nat.zero_le _) hl.1 (Nat.le_of_ble_eq_true rfl) dX0_put_22 (fun locs hM => ?_)
      refine lv_aload_n hx hb dX0_put_25 rfl (lv_at hl 0 rfl) ?_
      refine c_get (v := .ref (hm0 h 0)) hx hb hts in_X0 hown hK (hM.1 0 _ rfl) rfl 1 (by decide) q287 rfl rfl dX0_put_26 ?_
      have nq := hK.F 5 rfl
      refine c_getN (v := .ref (hm0 h 4)) hx hb hts in_X2 hown hK ((cm_parts hM.1).2.1 0 _ rfl) rfl 5 (by decide) nq rfl rfl dX0_put_29 ?_
      refine lv_iload_n hx hb dX0_put_32 rfl (lv_at hl 1 rfl) ?_
      refine c_iald hx hb hK ((cm_parts hM.1).2.1 4 _ rfl) i ⟨by omega, by decide, rfl⟩ dX0_put_33 ?_
      refine w_top (a 1 (58 + 14 * i + 2)) (rfl) ?_
      refine lv_istore_n (lv' := [(3, .int (a 1 (58 + 14 * i + 2))), (0, .ref (h 0)), (1, .int (nI i)), (2, .int (nI c0))]) hx hb dX0_put_34 rfl hl (by decide) rfl (fun ls hl => ?_)
      refine lv_aload_n hx hb dX0_put_35 rfl (lv_at hl 1 rfl) ?_
      refine c_get (v := .ref (hm0 h 0)) hx hb hts in_X0 hown hK (hM.1 0 _ rfl) rfl 1 (by decide) q287 rfl rfl dX0_put_36 ?_
      have nq := hK.F 5 rfl
      refine c_getN (v := .ref (hm0 h 4)) hx hb hts in_X2 hown hK ((cm_parts hM.1).2.1 0 _ rfl) rfl 5 (by decide) nq rfl rfl dX0_put_39 ?_
      refine lv_iload_n hx hb dX0_put_42 rfl (lv_at hl 2 rfl) ?_
      refine lv_iload_n hx hb dX0_put_43 rfl (lv_at hl 3 rfl) ?_
      refine cm_ast_at hx hb hK hI hM i ⟨by omega, rfl⟩ dX0_put_44 (fun H locs hM => ?_)
      refine lv_iload_n hx hb dX0_put_45 rfl (lv_at hl 0 rfl) ?_
      exact hret0 hM (mwEq_c (by omega) (by omega) (by omega)) rfl rfl ⟨rfl, rfl, rfl⟩ (rfl) dX0_put_46
set_option maxHeartbeats 400000 in
theorem ca_put_e (f : Nat → Int32) (a : Nat → Nat → Int32) (v c0 : Int32) (he : ¬ (cowP (a 1) v ∧ (nI 0 ≤ c0 ∧ c0 ≤ nI 24))) : CmF yX0_put cX0_put 4 [(0, 46, 47, 8)] 2 60 [.int v, .int c0] f a (-1000000001 : Int32) f (mErr a 1) := by
  refine CmF.ofI (by decide) rfl (Nat.le_of_ble_eq_true rfl) ?_
  intro p l e R s m args below meth c Q D dA h fc wk hd ri rt cw tx nm B S ls hx hb hml hRf hRl hRc hRs htab hts hown hK hI hB hS0 hQ hN hIm hZ hSh hM hl hret hret0
  have hl : lv_has ls 4 [(0, .ref (h 0)), (1, .int v), (2, .int c0)] := hl
  refine lv_aload_n hx hb dX0_put_0 rfl (lv_at hl 0 rfl) ?_
  refine lv_aload_n hx hb dX0_put_1 rfl (lv_at hl 0 rfl) ?_
  refine lv_iload_n hx hb dX0_put_2 rfl (lv_at hl 1 rfl) ?_
  refine rd_callV (y := yX0_isCow) hx hb hml hown hts hK (ca_isCow D dA h _ _ _ _ _ _ _ _ _ _ v) hM.1 (cAt.recv hK (hM.1 0 _ rfl) rfl) q512 q514 qs4 q61 q515 ndX0_isCow rfl (by rw [hRf]; decide) (by rw [hRl]; decide) (Nat.zero_le _) (Nat.zero_le _) hl.1 rfl (Nat.le_of_ble_eq_true rfl) dX0_put_3 ?_
  refine w_if_eqT (tgt := 20) hx hb dX0_put_6 (by decide) (fun c_1 => ?_) (fun c_1 => ?_)
  · refine lv_iconst (v := nI 0) hx hb dX0_put_20 (by decide) ?_
    refine lv_iconst (v := nI 1) hx hb dX0_put_21 (by decide) ?_
    refine cm_n0 hx hb hml hown hts hK hI hM htab (hpc := 47) rfl q333 (by rw [hRf]; decide) (by rw [hRl]; decide) (Nat.zero_le _) (Nat.zero_le _) hl.1 (Nat.le_of_ble_eq_true rfl) dX0_put_22 (fun H locs hM => ?_)
    refine lv_astore_n (lv' := [(3, .ref (h 1)), (0, .ref (h 0)), (1, .int v), (2, .int c0)]) hx hb dX0_put_47 rfl hl (by decide) rfl (fun ls hl => ?_)
    refine lv_aload_n hx hb dX0_put_48 rfl (lv_at hl 1 rfl) ?_
    refine lv_aload_n hx hb dX0_put_49 rfl (lv_at hl 0 rfl) ?_
    refine cm_fin hx hb hml hown hts hK hI 1 (by decide) hM q341 (by rw [hRf]; decide) (by rw [hRl]; decide) (Nat.zero_le _) (Nat.zero_le _) hl.1 (Nat.le_of_ble_eq_true rfl) dX0_put_50 (fun H locs hM => ?_)
    exact hret0 hM (mwEq.rf) rfl rfl ⟨rfl, rfl, rfl⟩ (by decide) dX0_put_53
  · refine lv_iload_n hx hb dX0_put_9 rfl (lv_at hl 2 rfl) ?_
    refine st_callS (y := yX0_isCell) hx hb hml hown hts (cmX0_isCell c0) q327 q328 q61 q329 ndX0_isCell rfl (by rw [hRf]; decide) (by rw [hRl]; decide) (Nat.zero_le _) (Nat.zero_le _) hl.1 rfl (Nat.le_of_ble_eq_true rfl) dX0_put_10 ?_
    refine w_if_eqT (tgt := 20) hx hb dX0_put_13 (by decide) (fun c_2 => ?_) (fun c_2 => ?_)
    · refine lv_iconst (v := nI 0) hx hb dX0_put_20 (by decide) ?_
      refine lv_iconst (v := nI 1) hx hb dX0_put_21 (by decide) ?_
      refine cm_n0 hx hb hml hown hts hK hI hM htab (hpc := 47) rfl q333 (by rw [hRf]; decide) (by rw [hRl]; decide) (Nat.zero_le _) (Nat.zero_le _) hl.1 (Nat.le_of_ble_eq_true rfl) dX0_put_22 (fun H locs hM => ?_)
      refine lv_astore_n (lv' := [(3, .ref (h 1)), (0, .ref (h 0)), (1, .int v), (2, .int c0)]) hx hb dX0_put_47 rfl hl (by decide) rfl (fun ls hl => ?_)
      refine lv_aload_n hx hb dX0_put_48 rfl (lv_at hl 1 rfl) ?_
      refine lv_aload_n hx hb dX0_put_49 rfl (lv_at hl 0 rfl) ?_
      refine cm_fin hx hb hml hown hts hK hI 1 (by decide) hM q341 (by rw [hRf]; decide) (by rw [hRl]; decide) (Nat.zero_le _) (Nat.zero_le _) hl.1 (Nat.le_of_ble_eq_true rfl) dX0_put_50 (fun H locs hM => ?_)
      exact hret0 hM (mwEq.rf) rfl rfl ⟨rfl, rfl, rfl⟩ (by decide) dX0_put_53
    · refine lv_iconst (v := nI 1) hx hb dX0_put_16 (by decide) ?_
      refine lv_goto (tgt := 21) hx hb dX0_put_17 (by decide) ?_
      refine lv_iconst (v := nI 1) hx hb dX0_put_21 (by decide) ?_
      exact absurd ⟨c_1, c_2⟩ he
set_option maxHeartbeats 400000 in
theorem ca_dry_ok (f : Nat → Int32) (a : Nat → Nat → Int32) (i : Nat) (hi : i < cl (a 1 3)) (hN0 : okN (a 1 3) 5) : CmF yX0_dry cX0_dry 3 [(0, 31, 32, 8)] 2 60 [.int (nI i)] f a (a 1 (58 + 14 * i + 3)) f (va_up a 1 (upd (a 1) (58 + 14 * i + 3) (nI 0))) := by
  refine CmF.ofI (by decide) rfl (Nat.le_of_ble_eq_true rfl) ?_
  intro p l e R s m args below meth c Q D dA h fc wk hd ri rt cw tx nm B S ls hx hb hml hRf hRl hRc hRs htab hts hown hK hI hB hS0 hQ hN hIm hZ hSh hM hl hret hret0
  have hl : lv_has ls 3 [(0, .ref (h 0)), (1, .int (nI i))] := hl
  have hN2 := hN0.2
  refine lv_aload_n hx hb dX0_dry_0 rfl (lv_at hl 0 rfl) ?_
  refine lv_aload_n hx hb dX0_dry_1 rfl (lv_at hl 0 rfl) ?_
  refine lv_iload_n hx hb dX0_dry_2 rfl (lv_at hl 1 rfl) ?_
  refine rd_callV (y := yX0_isCow) hx hb hml hown hts hK (ca_isCow D dA h _ _ _ _ _ _ _ _ _ _ (nI i)) hM.1 (cAt.recv hK (hM.1 0 _ rfl) rfl) q512 q514 qs4 q61 q515 ndX0_isCow rfl (by rw [hRf]; decide) (by rw [hRl]; decide) (Nat.zero_le _) (Nat.zero_le _) hl.1 rfl (Nat.le_of_ble_eq_true rfl) dX0_dry_3 ?_
  refine lv_iconst (v := nI 1) hx hb dX0_dry_6 (by decide) ?_
  refine cm_need hx hb hml hown hts hK hI hM htab (hpc := 32) rfl q333 (by rw [hRf]; decide) (by rw [hRl]; decide) (Nat.zero_le _) (Nat.zero_le _) hl.1 (Nat.le_of_ble_eq_true rfl) dX0_dry_7 (fun c_1 locs hM => ?_) (fun c_1 H locs hM => ?_)
  · refine lv_aload_n hx hb dX0_dry_10 rfl (lv_at hl 0 rfl) ?_
    refine c_get (v := .ref (hm0 h 0)) hx hb hts in_X0 hown hK (hM.1 0 _ rfl) rfl 1 (by decide) q287 rfl rfl dX0_dry_11 ?_
    have nq := hK.F 8 rfl
    refine c_getN (v := .ref (hm0 h 6)) hx hb hts in_X2 hown hK ((cm_parts hM.1).2.1 0 _ rfl) rfl 7 (by decide) nq rfl rfl dX0_dry_14 ?_
    refine lv_iload_n hx hb dX0_dry_17 rfl (lv_at hl 1 rfl) ?_
    refine c_iald hx hb hK ((cm_parts hM.1).2.1 6 _ rfl) i ⟨by omega, by decide, rfl⟩ dX0_dry_18 ?_
    refine w_top (a 1 (58 + 14 * i + 3)) (rfl) ?_
    refine lv_istore_n (lv' := [(2, .int (a 1 (58 + 14 * i + 3))), (0, .ref (h 0)), (1, .int (nI i))]) hx hb dX0_dry_19 rfl hl (by decide) rfl (fun ls hl => ?_)
    refine lv_aload_n hx hb dX0_dry_20 rfl (lv_at hl 1 rfl) ?_
    refine c_get (v := .ref (hm0 h 0)) hx hb hts in_X0 hown hK (hM.1 0 _ rfl) rfl 1 (by decide) q287 rfl rfl dX0_dry_21 ?_
    have nq := hK.F 8 rfl
    refine c_getN (v := .ref (hm0 h 6)) hx hb hts in_X2 hown hK ((cm_parts hM.1).2.1 0 _ rfl) rfl 7 (by decide) nq rfl rfl dX0_dry_24 ?_
    refine lv_iload_n hx hb dX0_dry_27 rfl (lv_at hl 2 rfl) ?_
    refine lv_iconst (v := nI 0) hx hb dX0_dry_28 (by decide) ?_
    refine cm_ast_many hx hb hK hI hM i ⟨by omega, rfl⟩ dX0_dry_29 (fun H locs hM => ?_)
    refine lv_iload_n hx hb dX0_dry_30 rfl (lv_at hl 0 rfl) ?_
    exact hret0 hM (mwEq_c (by omega) (by omega) (by omega)) rfl rfl ⟨rfl, rfl, rfl⟩ (rfl) dX0_dry_31
  · exact absurd (by first | exact (in_nat (by decide)).mpr ⟨_, by omega, rfl⟩ | exact (in_nat1 _ (by decide) (by decide)).mpr ⟨_, by omega, by omega, rfl⟩ | exact cow_in hN0 (by omega) | assumption) c_1
set_option maxHeartbeats 400000 in
theorem ca_dry_e (f : Nat → Int32) (a : Nat → Nat → Int32) (v : Int32) (he : ¬ cowP (a 1) v) : CmF yX0_dry cX0_dry 3 [(0, 31, 32, 8)] 2 60 [.int v] f a (-1000000001 : Int32) f (mErr a 1) := by
  refine CmF.ofI (by decide) rfl (Nat.le_of_ble_eq_true rfl) ?_
  intro p l e R s m args below meth c Q D dA h fc wk hd ri rt cw tx nm B S ls hx hb hml hRf hRl hRc hRs htab hts hown hK hI hB hS0 hQ hN hIm hZ hSh hM hl hret hret0
  have hl : lv_has ls 3 [(0, .ref (h 0)), (1, .int v)] := hl
  refine lv_aload_n hx hb dX0_dry_0 rfl (lv_at hl 0 rfl) ?_
  refine lv_aload_n hx hb dX0_dry_1 rfl (lv_at hl 0 rfl) ?_
  refine lv_iload_n hx hb dX0_dry_2 rfl (lv_at hl 1 rfl) ?_
  refine rd_callV (y := yX0_isCow) hx hb hml hown hts hK (ca_isCow D dA h _ _ _ _ _ _ _ _ _ _ v) hM.1 (cAt.recv hK (hM.1 0 _ rfl) rfl) q512 q514 qs4 q61 q515 ndX0_isCow rfl (by rw [hRf]; decide) (by rw [hRl]; decide) (Nat.zero_le _) (Nat.zero_le _) hl.1 rfl (Nat.le_of_ble_eq_true rfl) dX0_dry_3 ?_
  refine lv_iconst (v := nI 1) hx hb dX0_dry_6 (by decide) ?_
  refine cm_need hx hb hml hown hts hK hI hM htab (hpc := 32) rfl q333 (by rw [hRf]; decide) (by rw [hRl]; decide) (Nat.zero_le _) (Nat.zero_le _) hl.1 (Nat.le_of_ble_eq_true rfl) dX0_dry_7 (fun c_1 locs hM => ?_) (fun c_1 H locs hM => ?_)
  · exact absurd c_1 he
  · refine lv_astore_n (lv' := [(2, .ref (h 1)), (0, .ref (h 0)), (1, .int v)]) hx hb dX0_dry_32 rfl hl (by decide) rfl (fun ls hl => ?_)
    refine lv_aload_n hx hb dX0_dry_33 rfl (lv_at hl 1 rfl) ?_
    refine lv_aload_n hx hb dX0_dry_34 rfl (lv_at hl 0 rfl) ?_
    refine cm_fin hx hb hml hown hts hK hI 1 (by decide) hM q341 (by rw [hRf]; decide) (by rw [hRl]; decide) (Nat.zero_le _) (Nat.zero_le _) hl.1 (Nat.le_of_ble_eq_true rfl) dX0_dry_35 (fun H locs hM => ?_)
    exact hret0 hM (mwEq.rf) rfl rfl ⟨rfl, rfl, rfl⟩ (by decide) dX0_dry_38
