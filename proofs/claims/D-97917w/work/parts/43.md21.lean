/-! the model: an asking (printed by model21.py) -/
set_option maxRecDepth 100000
/-- the fields as an asking sets them -/
def vF (f : Nat → Int32) (K i : Nat) (x : Int32) : Nat → Int32 := upd (upd (upd f 25 (nI K)) 26 (nI i)) 27 x
theorem vF_0 (f : Nat → Int32) (K i : Nat) (x : Int32) : upd (upd (upd (upd f 24 (nI 0)) 25 (nI K)) 26 (nI i)) 27 x = upd (vF f K i x) 24 (nI 0) := by
  funext k; simp only [vF, upd]; grind
theorem ndX6_voice : yX6_voice.cls = RX6 ∧ yX6_voice.cls ≠ "java/lang/invoke/MethodHandle" ∧ yX6_voice.cls ≠ "java/lang/invoke/VarHandle" ∧ (parseMethodDescriptor yX6_voice.desc).map (fun d => d.parameters.length) = some 3 := by decide +kernel
set_option maxHeartbeats 400000 in
theorem met_voice_0_0 (f : Nat → Int32) (a : Nat → Nat → Int32) (i : Nat) (hi : i < cl (a 1 3)) (hN : okN (a 1 3) 5) (hkd : a 1 (58 + 14 * i + 0) = nI 0) (x : Int32) : MdF yX6_voice cX6_voice 4 (some .int) 2 43 [.int (nI i), .int (nI 0), .int x] f a (some (.int (x + (vF f 0 i (a 1 (58 + 14 * i + 1)) 26)))) (upd (vF f 0 i (a 1 (58 + 14 * i + 1))) 24 (nI (0 + 1))) (va_up a 14 (upd (a 14) 0 (nI 10))) := by
  refine MdF.ofI (by decide) rfl (Nat.le_of_ble_eq_true rfl) ?_
  intro p l e R s m args below meth c Q D h dA ls hx hb hml hRf hRl hts hown hK hI hM hl hret
  have hl : lv_has ls 4 [(0, .ref (h 0)), (1, .int (nI i)), (2, .int (nI 0)), (3, .int x)] := hl
  have hN2 := hN.2
  refine lv_aload_n hx hb dX6_voice_0 rfl (lv_at hl 0 rfl) ?_
  refine lv_iload_n hx hb dX6_voice_1 rfl (lv_at hl 1 rfl) ?_
  refine md_callI (y := yX6_isCow) hx hb hml hown hts hK hI hM (met_isCow f a (nI i)) q1574 q1576 qs37 q1577 ndX6_isCow rfl (by rw [hRf]; decide) (by rw [hRl]; decide) hl.1 rfl (Nat.le_of_ble_eq_true rfl) dX6_voice_2 (fun H locs hM => ?_)
  refine w_if_eqT (tgt := 17) hx hb dX6_voice_5 (by decide) (fun c_1 => ?_) (fun c_1 => ?_)
  · exact absurd (by first | exact (in_nat (by decide)).mpr ⟨_, by omega, rfl⟩ | exact (in_nat1 _ (by decide) (by decide)).mpr ⟨_, by omega, by omega, rfl⟩ | exact cow_in hN (by omega) | assumption) c_1
  · refine lv_iload_n hx hb dX6_voice_8 rfl (lv_at hl 2 rfl) ?_
    refine lv_iconst (v := nI 0) hx hb dX6_voice_9 (by decide) ?_
    refine lv_iconst (v := nI 3) hx hb dX6_voice_10 (by decide) ?_
    refine st_callI (y := yX6_in) hx hb hml hown hts (met_in (nI 0) (nI 0) (nI 3)) q1482 q1483 q70 q1484 ndX6_in rfl (by rw [hRf]; decide) (by rw [hRl]; decide) ⟨Nat.zero_le _, Nat.zero_le _⟩ hl.1 rfl (Nat.le_of_ble_eq_true rfl) dX6_voice_11 ?_
    refine w_if_neT (tgt := 24) hx hb dX6_voice_14 (by decide) (fun c_2 => ?_) (fun c_2 => ?_)
    · refine lv_aload_n hx hb dX6_voice_24 rfl (lv_at hl 0 rfl) ?_
      refine lv_iconst (v := nI 0) hx hb dX6_voice_25 (by decide) ?_
      refine md_put hx hb hts hown hK hI hM 24 (by decide) q1414 rfl rfl rfl rfl rfl dX6_voice_26 (fun H locs hM => ?_)
      refine lv_aload_n hx hb dX6_voice_29 rfl (lv_at hl 0 rfl) ?_
      refine lv_aload_n hx hb dX6_voice_30 rfl (lv_at hl 0 rfl) ?_
      refine lv_iload_n hx hb dX6_voice_31 rfl (lv_at hl 1 rfl) ?_
      refine lv_iconst (v := nI 0) hx hb dX6_voice_32 (by decide) ?_
      refine md_callI (y := yX6_its) hx hb hml hown hts hK hI hM (met_its (upd f 24 (nI 0)) a i 0 (by omega)) q1557 q1559 qs35 q1560 ndX6_its rfl (by rw [hRf]; decide) (by rw [hRl]; decide) hl.1 rfl (Nat.le_of_ble_eq_true rfl) dX6_voice_33 (fun H locs hM => ?_)
      refine w_top (nI 0) (hkd) ?_
      refine md_put hx hb hts hown hK hI hM 25 (by decide) q1415 rfl rfl rfl rfl rfl dX6_voice_36 (fun H locs hM => ?_)
      refine lv_aload_n hx hb dX6_voice_39 rfl (lv_at hl 0 rfl) ?_
      refine lv_iload_n hx hb dX6_voice_40 rfl (lv_at hl 1 rfl) ?_
      refine md_put hx hb hts hown hK hI hM 26 (by decide) q1416 rfl rfl rfl rfl rfl dX6_voice_41 (fun H locs hM => ?_)
      refine lv_aload_n hx hb dX6_voice_44 rfl (lv_at hl 0 rfl) ?_
      refine lv_aload_n hx hb dX6_voice_45 rfl (lv_at hl 0 rfl) ?_
      refine lv_iload_n hx hb dX6_voice_46 rfl (lv_at hl 1 rfl) ?_
      refine lv_iconst (v := nI 1) hx hb dX6_voice_47 (by decide) ?_
      refine md_callI (y := yX6_its) hx hb hml hown hts hK hI hM (met_its (upd (upd (upd f 24 (nI 0)) 25 (nI 0)) 26 (nI i)) a i 1 (by omega)) q1557 q1559 qs35 q1560 ndX6_its rfl (by rw [hRf]; decide) (by rw [hRl]; decide) hl.1 rfl (Nat.le_of_ble_eq_true rfl) dX6_voice_48 (fun H locs hM => ?_)
      refine md_put hx hb hts hown hK hI hM 27 (by decide) q1417 rfl rfl rfl rfl rfl dX6_voice_51 (fun H locs hM => ?_)
      have hM := hM.to (a' := va_up a 14 (a 14)) rfl (va_self a 14)
      have hM := hM.to (f' := upd (vF f 0 i (a 1 (58 + 14 * i + 1))) 24 (nI 0)) (vF_0 _ _ _ _) rfl
      refine lv_iload_n hx hb dX6_voice_54 rfl (lv_at hl 2 rfl) ?_
      refine lv_tableIn (off := 25) (tgt := 80) hx hb dX6_voice_55 (by decide) (by decide) (by rfl) (by decide) ?_
      refine lv_aload_n hx hb dX6_voice_80 rfl (lv_at hl 0 rfl) ?_
      refine lv_aload_n hx hb dX6_voice_81 rfl (lv_at hl 0 rfl) ?_
      refine md_get (v := .int ((upd (vF f 0 i (a 1 (58 + 14 * i + 1))) 24 (nI 0)) 25)) hx hb hts hown hK hM 25 (by decide) q1415 rfl rfl dX6_voice_82 ?_
      refine w_top (nI 0) (rfl) ?_
      refine lv_iload_n hx hb dX6_voice_85 rfl (lv_at hl 3 rfl) ?_
      refine md_callI (y := yX6_wantsIn) hx hb hml hown hts hK hI hM (met_wantsIn_0_0 (vF f 0 i (a 1 (58 + 14 * i + 1))) a (a 14) 0 rfl x (by omega)) q1757 q1759 qs55 q1760 ndX6_wantsIn rfl (by rw [hRf]; decide) (by rw [hRl]; decide) hl.1 rfl (Nat.le_of_ble_eq_true rfl) dX6_voice_86 (fun H locs hM => ?_)
      exact hret hM (rfl) dX6_voice_89
    · exact absurd (by first | exact (in_nat (by decide)).mpr ⟨_, by omega, rfl⟩ | exact (in_nat1 _ (by decide) (by decide)).mpr ⟨_, by omega, by omega, rfl⟩ | exact cow_in hN (by omega) | assumption) c_2
set_option maxHeartbeats 400000 in
theorem met_voice_0_1 (f : Nat → Int32) (a : Nat → Nat → Int32) (i : Nat) (hi : i < cl (a 1 3)) (hN : okN (a 1 3) 5) (hkd : a 1 (58 + 14 * i + 0) = nI 1) (x : Int32) : MdF yX6_voice cX6_voice 4 (some .int) 3 65 [.int (nI i), .int (nI 0), .int x] f a (some (.int (x + (vF f 1 i (a 1 (58 + 14 * i + 1)) 26)))) (upd (vF f 1 i (a 1 (58 + 14 * i + 1))) 24 (nI (0 + 1))) (va_up a 14 (upd (a 14) 0 (nI 10))) := by
  refine MdF.ofI (by decide) rfl (Nat.le_of_ble_eq_true rfl) ?_
  intro p l e R s m args below meth c Q D h dA ls hx hb hml hRf hRl hts hown hK hI hM hl hret
  have hl : lv_has ls 4 [(0, .ref (h 0)), (1, .int (nI i)), (2, .int (nI 0)), (3, .int x)] := hl
  have hN2 := hN.2
  refine lv_aload_n hx hb dX6_voice_0 rfl (lv_at hl 0 rfl) ?_
  refine lv_iload_n hx hb dX6_voice_1 rfl (lv_at hl 1 rfl) ?_
  refine md_callI (y := yX6_isCow) hx hb hml hown hts hK hI hM (met_isCow f a (nI i)) q1574 q1576 qs37 q1577 ndX6_isCow rfl (by rw [hRf]; decide) (by rw [hRl]; decide) hl.1 rfl (Nat.le_of_ble_eq_true rfl) dX6_voice_2 (fun H locs hM => ?_)
  refine w_if_eqT (tgt := 17) hx hb dX6_voice_5 (by decide) (fun c_1 => ?_) (fun c_1 => ?_)
  · exact absurd (by first | exact (in_nat (by decide)).mpr ⟨_, by omega, rfl⟩ | exact (in_nat1 _ (by decide) (by decide)).mpr ⟨_, by omega, by omega, rfl⟩ | exact cow_in hN (by omega) | assumption) c_1
  · refine lv_iload_n hx hb dX6_voice_8 rfl (lv_at hl 2 rfl) ?_
    refine lv_iconst (v := nI 0) hx hb dX6_voice_9 (by decide) ?_
    refine lv_iconst (v := nI 3) hx hb dX6_voice_10 (by decide) ?_
    refine st_callI (y := yX6_in) hx hb hml hown hts (met_in (nI 0) (nI 0) (nI 3)) q1482 q1483 q70 q1484 ndX6_in rfl (by rw [hRf]; decide) (by rw [hRl]; decide) ⟨Nat.zero_le _, Nat.zero_le _⟩ hl.1 rfl (Nat.le_of_ble_eq_true rfl) dX6_voice_11 ?_
    refine w_if_neT (tgt := 24) hx hb dX6_voice_14 (by decide) (fun c_2 => ?_) (fun c_2 => ?_)
    · refine lv_aload_n hx hb dX6_voice_24 rfl (lv_at hl 0 rfl) ?_
      refine lv_iconst (v := nI 0) hx hb dX6_voice_25 (by decide) ?_
      refine md_put hx hb hts hown hK hI hM 24 (by decide) q1414 rfl rfl rfl rfl rfl dX6_voice_26 (fun H locs hM => ?_)
      refine lv_aload_n hx hb dX6_voice_29 rfl (lv_at hl 0 rfl) ?_
      refine lv_aload_n hx hb dX6_voice_30 rfl (lv_at hl 0 rfl) ?_
      refine lv_iload_n hx hb dX6_voice_31 rfl (lv_at hl 1 rfl) ?_
      refine lv_iconst (v := nI 0) hx hb dX6_voice_32 (by decide) ?_
      refine md_callI (y := yX6_its) hx hb hml hown hts hK hI hM (met_its (upd f 24 (nI 0)) a i 0 (by omega)) q1557 q1559 qs35 q1560 ndX6_its rfl (by rw [hRf]; decide) (by rw [hRl]; decide) hl.1 rfl (Nat.le_of_ble_eq_true rfl) dX6_voice_33 (fun H locs hM => ?_)
      refine w_top (nI 1) (hkd) ?_
      refine md_put hx hb hts hown hK hI hM 25 (by decide) q1415 rfl rfl rfl rfl rfl dX6_voice_36 (fun H locs hM => ?_)
      refine lv_aload_n hx hb dX6_voice_39 rfl (lv_at hl 0 rfl) ?_
      refine lv_iload_n hx hb dX6_voice_40 rfl (lv_at hl 1 rfl) ?_
      refine md_put hx hb hts hown hK hI hM 26 (by decide) q1416 rfl rfl rfl rfl rfl dX6_voice_41 (fun H locs hM => ?_)
      refine lv_aload_n hx hb dX6_voice_44 rfl (lv_at hl 0 rfl) ?_
      refine lv_aload_n hx hb dX6_voice_45 rfl (lv_at hl 0 rfl) ?_
      refine lv_iload_n hx hb dX6_voice_46 rfl (lv_at hl 1 rfl) ?_
      refine lv_iconst (v := nI 1) hx hb dX6_voice_47 (by decide) ?_
      refine md_callI (y := yX6_its) hx hb hml hown hts hK hI hM (met_its (upd (upd (upd f 24 (nI 0)) 25 (nI 1)) 26 (nI i)) a i 1 (by omega)) q1557 q1559 qs35 q1560 ndX6_its rfl (by rw [hRf]; decide) (by rw [hRl]; decide) hl.1 rfl (Nat.le_of_ble_eq_true rfl) dX6_voice_48 (fun H locs hM => ?_)
      refine md_put hx hb hts hown hK hI hM 27 (by decide) q1417 rfl rfl rfl rfl rfl dX6_voice_51 (fun H locs hM => ?_)
      have hM := hM.to (a' := va_up a 14 (a 14)) rfl (va_self a 14)
      have hM := hM.to (f' := upd (vF f 1 i (a 1 (58 + 14 * i + 1))) 24 (nI 0)) (vF_0 _ _ _ _) rfl
      refine lv_iload_n hx hb dX6_voice_54 rfl (lv_at hl 2 rfl) ?_
      refine lv_tableIn (off := 25) (tgt := 80) hx hb dX6_voice_55 (by decide) (by decide) (by rfl) (by decide) ?_
      refine lv_aload_n hx hb dX6_voice_80 rfl (lv_at hl 0 rfl) ?_
      refine lv_aload_n hx hb dX6_voice_81 rfl (lv_at hl 0 rfl) ?_
      refine md_get (v := .int ((upd (vF f 1 i (a 1 (58 + 14 * i + 1))) 24 (nI 0)) 25)) hx hb hts hown hK hM 25 (by decide) q1415 rfl rfl dX6_voice_82 ?_
      refine w_top (nI 1) (rfl) ?_
      refine lv_iload_n hx hb dX6_voice_85 rfl (lv_at hl 3 rfl) ?_
      refine md_callI (y := yX6_wantsIn) hx hb hml hown hts hK hI hM (met_wantsIn_1_1 (vF f 1 i (a 1 (58 + 14 * i + 1))) a (a 14) 0 rfl x (by omega)) q1757 q1759 qs55 q1760 ndX6_wantsIn rfl (by rw [hRf]; decide) (by rw [hRl]; decide) hl.1 rfl (Nat.le_of_ble_eq_true rfl) dX6_voice_86 (fun H locs hM => ?_)
      exact hret hM (rfl) dX6_voice_89
    · exact absurd (by first | exact (in_nat (by decide)).mpr ⟨_, by omega, rfl⟩ | exact (in_nat1 _ (by decide) (by decide)).mpr ⟨_, by omega, by omega, rfl⟩ | exact cow_in hN (by omega) | assumption) c_2
set_option maxHeartbeats 400000 in
theorem met_voice_0_2 (f : Nat → Int32) (a : Nat → Nat → Int32) (i : Nat) (hi : i < cl (a 1 3)) (hN : okN (a 1 3) 5) (hkd : a 1 (58 + 14 * i + 0) = nI 2) (x : Int32) : MdF yX6_voice cX6_voice 4 (some .int) 3 65 [.int (nI i), .int (nI 0), .int x] f a (some (.int ((x + (vF f 2 i (a 1 (58 + 14 * i + 1)) 26)) * (nI 3)))) (upd (vF f 2 i (a 1 (58 + 14 * i + 1))) 24 (nI (0 + 1 + 1))) (va_up a 14 (upd (upd (a 14) 0 (nI 30)) (0 + 1) (nI 10))) := by
  refine MdF.ofI (by decide) rfl (Nat.le_of_ble_eq_true rfl) ?_
  intro p l e R s m args below meth c Q D h dA ls hx hb hml hRf hRl hts hown hK hI hM hl hret
  have hl : lv_has ls 4 [(0, .ref (h 0)), (1, .int (nI i)), (2, .int (nI 0)), (3, .int x)] := hl
  have hN2 := hN.2
  refine lv_aload_n hx hb dX6_voice_0 rfl (lv_at hl 0 rfl) ?_
  refine lv_iload_n hx hb dX6_voice_1 rfl (lv_at hl 1 rfl) ?_
  refine md_callI (y := yX6_isCow) hx hb hml hown hts hK hI hM (met_isCow f a (nI i)) q1574 q1576 qs37 q1577 ndX6_isCow rfl (by rw [hRf]; decide) (by rw [hRl]; decide) hl.1 rfl (Nat.le_of_ble_eq_true rfl) dX6_voice_2 (fun H locs hM => ?_)
  refine w_if_eqT (tgt := 17) hx hb dX6_voice_5 (by decide) (fun c_1 => ?_) (fun c_1 => ?_)
  · exact absurd (by first | exact (in_nat (by decide)).mpr ⟨_, by omega, rfl⟩ | exact (in_nat1 _ (by decide) (by decide)).mpr ⟨_, by omega, by omega, rfl⟩ | exact cow_in hN (by omega) | assumption) c_1
  · refine lv_iload_n hx hb dX6_voice_8 rfl (lv_at hl 2 rfl) ?_
    refine lv_iconst (v := nI 0) hx hb dX6_voice_9 (by decide) ?_
    refine lv_iconst (v := nI 3) hx hb dX6_voice_10 (by decide) ?_
    refine st_callI (y := yX6_in) hx hb hml hown hts (met_in (nI 0) (nI 0) (nI 3)) q1482 q1483 q70 q1484 ndX6_in rfl (by rw [hRf]; decide) (by rw [hRl]; decide) ⟨Nat.zero_le _, Nat.zero_le _⟩ hl.1 rfl (Nat.le_of_ble_eq_true rfl) dX6_voice_11 ?_
    refine w_if_neT (tgt := 24) hx hb dX6_voice_14 (by decide) (fun c_2 => ?_) (fun c_2 => ?_)
    · refine lv_aload_n hx hb dX6_voice_24 rfl (lv_at hl 0 rfl) ?_
      refine lv_iconst (v := nI 0) hx hb dX6_voice_25 (by decide) ?_
      refine md_put hx hb hts hown hK hI hM 24 (by decide) q1414 rfl rfl rfl rfl rfl dX6_voice_26 (fun H locs hM => ?_)
      refine lv_aload_n hx hb dX6_voice_29 rfl (lv_at hl 0 rfl) ?_
      refine lv_aload_n hx hb dX6_voice_30 rfl (lv_at hl 0 rfl) ?_
      refine lv_iload_n hx hb dX6_voice_31 rfl (lv_at hl 1 rfl) ?_
      refine lv_iconst (v := nI 0) hx hb dX6_voice_32 (by decide) ?_
      refine md_callI (y := yX6_its) hx hb hml hown hts hK hI hM (met_its (upd f 24 (nI 0)) a i 0 (by omega)) q1557 q1559 qs35 q1560 ndX6_its rfl (by rw [hRf]; decide) (by rw [hRl]; decide) hl.1 rfl (Nat.le_of_ble_eq_true rfl) dX6_voice_33 (fun H locs hM => ?_)
      refine w_top (nI 2) (hkd) ?_
      refine md_put hx hb hts hown hK hI hM 25 (by decide) q1415 rfl rfl rfl rfl rfl dX6_voice_36 (fun H locs hM => ?_)
      refine lv_aload_n hx hb dX6_voice_39 rfl (lv_at hl 0 rfl) ?_
      refine lv_iload_n hx hb dX6_voice_40 rfl (lv_at hl 1 rfl) ?_
      refine md_put hx hb hts hown hK hI hM 26 (by decide) q1416 rfl rfl rfl rfl rfl dX6_voice_41 (fun H locs hM => ?_)
      refine lv_aload_n hx hb dX6_voice_44 rfl (lv_at hl 0 rfl) ?_
      refine lv_aload_n hx hb dX6_voice_45 rfl (lv_at hl 0 rfl) ?_
      refine lv_iload_n hx hb dX6_voice_46 rfl (lv_at hl 1 rfl) ?_
      refine lv_iconst (v := nI 1) hx hb dX6_voice_47 (by decide) ?_
      refine md_callI (y := yX6_its) hx hb hml hown hts hK hI hM (met_its (upd (upd (upd f 24 (nI 0)) 25 (nI 2)) 26 (nI i)) a i 1 (by omega)) q1557 q1559 qs35 q1560 ndX6_its rfl (by rw [hRf]; decide) (by rw [hRl]; decide) hl.1 rfl (Nat.le_of_ble_eq_true rfl) dX6_voice_48 (fun H locs hM => ?_)
      refine md_put hx hb hts hown hK hI hM 27 (by decide) q1417 rfl rfl rfl rfl rfl dX6_voice_51 (fun H locs hM => ?_)
      have hM := hM.to (a' := va_up a 14 (a 14)) rfl (va_self a 14)
      have hM := hM.to (f' := upd (vF f 2 i (a 1 (58 + 14 * i + 1))) 24 (nI 0)) (vF_0 _ _ _ _) rfl
      refine lv_iload_n hx hb dX6_voice_54 rfl (lv_at hl 2 rfl) ?_
      refine lv_tableIn (off := 25) (tgt := 80) hx hb dX6_voice_55 (by decide) (by decide) (by rfl) (by decide) ?_
      refine lv_aload_n hx hb dX6_voice_80 rfl (lv_at hl 0 rfl) ?_
      refine lv_aload_n hx hb dX6_voice_81 rfl (lv_at hl 0 rfl) ?_
      refine md_get (v := .int ((upd (vF f 2 i (a 1 (58 + 14 * i + 1))) 24 (nI 0)) 25)) hx hb hts hown hK hM 25 (by decide) q1415 rfl rfl dX6_voice_82 ?_
      refine w_top (nI 2) (rfl) ?_
      refine lv_iload_n hx hb dX6_voice_85 rfl (lv_at hl 3 rfl) ?_
      refine md_callI (y := yX6_wantsIn) hx hb hml hown hts hK hI hM (met_wantsIn_2_2 (vF f 2 i (a 1 (58 + 14 * i + 1))) a (a 14) 0 rfl x (by omega)) q1757 q1759 qs55 q1760 ndX6_wantsIn rfl (by rw [hRf]; decide) (by rw [hRl]; decide) hl.1 rfl (Nat.le_of_ble_eq_true rfl) dX6_voice_86 (fun H locs hM => ?_)
      exact hret hM (rfl) dX6_voice_89
    · exact absurd (by first | exact (in_nat (by decide)).mpr ⟨_, by omega, rfl⟩ | exact (in_nat1 _ (by decide) (by decide)).mpr ⟨_, by omega, by omega, rfl⟩ | exact cow_in hN (by omega) | assumption) c_2
set_option maxHeartbeats 400000 in
theorem met_voice_0_3 (f : Nat → Int32) (a : Nat → Nat → Int32) (i : Nat) (hi : i < cl (a 1 3)) (hN : okN (a 1 3) 5) (hkd : a 1 (58 + 14 * i + 0) = nI 3) (x : Int32) : MdF yX6_voice cX6_voice 4 (some .int) 3 65 [.int (nI i), .int (nI 0), .int x] f a (some (.int (x + (vF f 3 i (a 1 (58 + 14 * i + 1)) 26)))) (upd (vF f 3 i (a 1 (58 + 14 * i + 1))) 24 (nI (0 + 1))) (va_up a 14 (upd (a 14) 0 (nI 10))) := by
  refine MdF.ofI (by decide) rfl (Nat.le_of_ble_eq_true rfl) ?_
  intro p l e R s m args below meth c Q D h dA ls hx hb hml hRf hRl hts hown hK hI hM hl hret
  have hl : lv_has ls 4 [(0, .ref (h 0)), (1, .int (nI i)), (2, .int (nI 0)), (3, .int x)] := hl
  have hN2 := hN.2
  refine lv_aload_n hx hb dX6_voice_0 rfl (lv_at hl 0 rfl) ?_
  refine lv_iload_n hx hb dX6_voice_1 rfl (lv_at hl 1 rfl) ?_
  refine md_callI (y := yX6_isCow) hx hb hml hown hts hK hI hM (met_isCow f a (nI i)) q1574 q1576 qs37 q1577 ndX6_isCow rfl (by rw [hRf]; decide) (by rw [hRl]; decide) hl.1 rfl (Nat.le_of_ble_eq_true rfl) dX6_voice_2 (fun H locs hM => ?_)
  refine w_if_eqT (tgt := 17) hx hb dX6_voice_5 (by decide) (fun c_1 => ?_) (fun c_1 => ?_)
  · exact absurd (by first | exact (in_nat (by decide)).mpr ⟨_, by omega, rfl⟩ | exact (in_nat1 _ (by decide) (by decide)).mpr ⟨_, by omega, by omega, rfl⟩ | exact cow_in hN (by omega) | assumption) c_1
  · refine lv_iload_n hx hb dX6_voice_8 rfl (lv_at hl 2 rfl) ?_
    refine lv_iconst (v := nI 0) hx hb dX6_voice_9 (by decide) ?_
    refine lv_iconst (v := nI 3) hx hb dX6_voice_10 (by decide) ?_
    refine st_callI (y := yX6_in) hx hb hml hown hts (met_in (nI 0) (nI 0) (nI 3)) q1482 q1483 q70 q1484 ndX6_in rfl (by rw [hRf]; decide) (by rw [hRl]; decide) ⟨Nat.zero_le _, Nat.zero_le _⟩ hl.1 rfl (Nat.le_of_ble_eq_true rfl) dX6_voice_11 ?_
    refine w_if_neT (tgt := 24) hx hb dX6_voice_14 (by decide) (fun c_2 => ?_) (fun c_2 => ?_)
    · refine lv_aload_n hx hb dX6_voice_24 rfl (lv_at hl 0 rfl) ?_
      refine lv_iconst (v := nI 0) hx hb dX6_voice_25 (by decide) ?_
      refine md_put hx hb hts hown hK hI hM 24 (by decide) q1414 rfl rfl rfl rfl rfl dX6_voice_26 (fun H locs hM => ?_)
      refine lv_aload_n hx hb dX6_voice_29 rfl (lv_at hl 0 rfl) ?_
      refine lv_aload_n hx hb dX6_voice_30 rfl (lv_at hl 0 rfl) ?_
      refine lv_iload_n hx hb dX6_voice_31 rfl (lv_at hl 1 rfl) ?_
      refine lv_iconst (v := nI 0) hx hb dX6_voice_32 (by decide) ?_
      refine md_callI (y := yX6_its) hx hb hml hown hts hK hI hM (met_its (upd f 24 (nI 0)) a i 0 (by omega)) q1557 q1559 qs35 q1560 ndX6_its rfl (by rw [hRf]; decide) (by rw [hRl]; decide) hl.1 rfl (Nat.le_of_ble_eq_true rfl) dX6_voice_33 (fun H locs hM => ?_)
      refine w_top (nI 3) (hkd) ?_
      refine md_put hx hb hts hown hK hI hM 25 (by decide) q1415 rfl rfl rfl rfl rfl dX6_voice_36 (fun H locs hM => ?_)
      refine lv_aload_n hx hb dX6_voice_39 rfl (lv_at hl 0 rfl) ?_
      refine lv_iload_n hx hb dX6_voice_40 rfl (lv_at hl 1 rfl) ?_
      refine md_put hx hb hts hown hK hI hM 26 (by decide) q1416 rfl rfl rfl rfl rfl dX6_voice_41 (fun H locs hM => ?_)
      refine lv_aload_n hx hb dX6_voice_44 rfl (lv_at hl 0 rfl) ?_
      refine lv_aload_n hx hb dX6_voice_45 rfl (lv_at hl 0 rfl) ?_
      refine lv_iload_n hx hb dX6_voice_46 rfl (lv_at hl 1 rfl) ?_
      refine lv_iconst (v := nI 1) hx hb dX6_voice_47 (by decide) ?_
      refine md_callI (y := yX6_its) hx hb hml hown hts hK hI hM (met_its (upd (upd (upd f 24 (nI 0)) 25 (nI 3)) 26 (nI i)) a i 1 (by omega)) q1557 q1559 qs35 q1560 ndX6_its rfl (by rw [hRf]; decide) (by rw [hRl]; decide) hl.1 rfl (Nat.le_of_ble_eq_true rfl) dX6_voice_48 (fun H locs hM => ?_)
      refine md_put hx hb hts hown hK hI hM 27 (by decide) q1417 rfl rfl rfl rfl rfl dX6_voice_51 (fun H locs hM => ?_)
      have hM := hM.to (a' := va_up a 14 (a 14)) rfl (va_self a 14)
      have hM := hM.to (f' := upd (vF f 3 i (a 1 (58 + 14 * i + 1))) 24 (nI 0)) (vF_0 _ _ _ _) rfl
      refine lv_iload_n hx hb dX6_voice_54 rfl (lv_at hl 2 rfl) ?_
      refine lv_tableIn (off := 25) (tgt := 80) hx hb dX6_voice_55 (by decide) (by decide) (by rfl) (by decide) ?_
      refine lv_aload_n hx hb dX6_voice_80 rfl (lv_at hl 0 rfl) ?_
      refine lv_aload_n hx hb dX6_voice_81 rfl (lv_at hl 0 rfl) ?_
      refine md_get (v := .int ((upd (vF f 3 i (a 1 (58 + 14 * i + 1))) 24 (nI 0)) 25)) hx hb hts hown hK hM 25 (by decide) q1415 rfl rfl dX6_voice_82 ?_
      refine w_top (nI 3) (rfl) ?_
      refine lv_iload_n hx hb dX6_voice_85 rfl (lv_at hl 3 rfl) ?_
      refine md_callI (y := yX6_wantsIn) hx hb hml hown hts hK hI hM (met_wantsIn_3_3 (vF f 3 i (a 1 (58 + 14 * i + 1))) a (a 14) 0 rfl x (by omega)) q1757 q1759 qs55 q1760 ndX6_wantsIn rfl (by rw [hRf]; decide) (by rw [hRl]; decide) hl.1 rfl (Nat.le_of_ble_eq_true rfl) dX6_voice_86 (fun H locs hM => ?_)
      exact hret hM (rfl) dX6_voice_89
    · exact absurd (by first | exact (in_nat (by decide)).mpr ⟨_, by omega, rfl⟩ | exact (in_nat1 _ (by decide) (by decide)).mpr ⟨_, by omega, by omega, rfl⟩ | exact cow_in hN (by omega) | assumption) c_2
set_option maxHeartbeats 400000 in
theorem met_voice_0_4 (f : Nat → Int32) (a : Nat → Nat → Int32) (i : Nat) (hi : i < cl (a 1 3)) (hN : okN (a 1 3) 5) (hkd : a 1 (58 + 14 * i + 0) = nI 4) (x : Int32) : MdF yX6_voice cX6_voice 4 (some .int) 4 87 [.int (nI i), .int (nI 0), .int x] f a (some (.int (x + (vF f 4 i (a 1 (58 + 14 * i + 1)) 26)))) (upd (vF f 4 i (a 1 (58 + 14 * i + 1))) 24 (nI (0 + 1))) (va_up a 14 (upd (a 14) 0 (nI 10))) := by
  refine MdF.ofI (by decide) rfl (Nat.le_of_ble_eq_true rfl) ?_
  intro p l e R s m args below meth c Q D h dA ls hx hb hml hRf hRl hts hown hK hI hM hl hret
  have hl : lv_has ls 4 [(0, .ref (h 0)), (1, .int (nI i)), (2, .int (nI 0)), (3, .int x)] := hl
  have hN2 := hN.2
  refine lv_aload_n hx hb dX6_voice_0 rfl (lv_at hl 0 rfl) ?_
  refine lv_iload_n hx hb dX6_voice_1 rfl (lv_at hl 1 rfl) ?_
  refine md_callI (y := yX6_isCow) hx hb hml hown hts hK hI hM (met_isCow f a (nI i)) q1574 q1576 qs37 q1577 ndX6_isCow rfl (by rw [hRf]; decide) (by rw [hRl]; decide) hl.1 rfl (Nat.le_of_ble_eq_true rfl) dX6_voice_2 (fun H locs hM => ?_)
  refine w_if_eqT (tgt := 17) hx hb dX6_voice_5 (by decide) (fun c_1 => ?_) (fun c_1 => ?_)
  · exact absurd (by first | exact (in_nat (by decide)).mpr ⟨_, by omega, rfl⟩ | exact (in_nat1 _ (by decide) (by decide)).mpr ⟨_, by omega, by omega, rfl⟩ | exact cow_in hN (by omega) | assumption) c_1
  · refine lv_iload_n hx hb dX6_voice_8 rfl (lv_at hl 2 rfl) ?_
    refine lv_iconst (v := nI 0) hx hb dX6_voice_9 (by decide) ?_
    refine lv_iconst (v := nI 3) hx hb dX6_voice_10 (by decide) ?_
    refine st_callI (y := yX6_in) hx hb hml hown hts (met_in (nI 0) (nI 0) (nI 3)) q1482 q1483 q70 q1484 ndX6_in rfl (by rw [hRf]; decide) (by rw [hRl]; decide) ⟨Nat.zero_le _, Nat.zero_le _⟩ hl.1 rfl (Nat.le_of_ble_eq_true rfl) dX6_voice_11 ?_
    refine w_if_neT (tgt := 24) hx hb dX6_voice_14 (by decide) (fun c_2 => ?_) (fun c_2 => ?_)
    · refine lv_aload_n hx hb dX6_voice_24 rfl (lv_at hl 0 rfl) ?_
      refine lv_iconst (v := nI 0) hx hb dX6_voice_25 (by decide) ?_
      refine md_put hx hb hts hown hK hI hM 24 (by decide) q1414 rfl rfl rfl rfl rfl dX6_voice_26 (fun H locs hM => ?_)
      refine lv_aload_n hx hb dX6_voice_29 rfl (lv_at hl 0 rfl) ?_
      refine lv_aload_n hx hb dX6_voice_30 rfl (lv_at hl 0 rfl) ?_
      refine lv_iload_n hx hb dX6_voice_31 rfl (lv_at hl 1 rfl) ?_
      refine lv_iconst (v := nI 0) hx hb dX6_voice_32 (by decide) ?_
      refine md_callI (y := yX6_its) hx hb hml hown hts hK hI hM (met_its (upd f 24 (nI 0)) a i 0 (by omega)) q1557 q1559 qs35 q1560 ndX6_its rfl (by rw [hRf]; decide) (by rw [hRl]; decide) hl.1 rfl (Nat.le_of_ble_eq_true rfl) dX6_voice_33 (fun H locs hM => ?_)
      refine w_top (nI 4) (hkd) ?_
      refine md_put hx hb hts hown hK hI hM 25 (by decide) q1415 rfl rfl rfl rfl rfl dX6_voice_36 (fun H locs hM => ?_)
      refine lv_aload_n hx hb dX6_voice_39 rfl (lv_at hl 0 rfl) ?_
      refine lv_iload_n hx hb dX6_voice_40 rfl (lv_at hl 1 rfl) ?_
      refine md_put hx hb hts hown hK hI hM 26 (by decide) q1416 rfl rfl rfl rfl rfl dX6_voice_41 (fun H locs hM => ?_)
      refine lv_aload_n hx hb dX6_voice_44 rfl (lv_at hl 0 rfl) ?_
      refine lv_aload_n hx hb dX6_voice_45 rfl (lv_at hl 0 rfl) ?_
      refine lv_iload_n hx hb dX6_voice_46 rfl (lv_at hl 1 rfl) ?_
      refine lv_iconst (v := nI 1) hx hb dX6_voice_47 (by decide) ?_
      refine md_callI (y := yX6_its) hx hb hml hown hts hK hI hM (met_its (upd (upd (upd f 24 (nI 0)) 25 (nI 4)) 26 (nI i)) a i 1 (by omega)) q1557 q1559 qs35 q1560 ndX6_its rfl (by rw [hRf]; decide) (by rw [hRl]; decide) hl.1 rfl (Nat.le_of_ble_eq_true rfl) dX6_voice_48 (fun H locs hM => ?_)
      refine md_put hx hb hts hown hK hI hM 27 (by decide) q1417 rfl rfl rfl rfl rfl dX6_voice_51 (fun H locs hM => ?_)
      have hM := hM.to (a' := va_up a 14 (a 14)) rfl (va_self a 14)
      have hM := hM.to (f' := upd (vF f 4 i (a 1 (58 + 14 * i + 1))) 24 (nI 0)) (vF_0 _ _ _ _) rfl
      refine lv_iload_n hx hb dX6_voice_54 rfl (lv_at hl 2 rfl) ?_
      refine lv_tableIn (off := 25) (tgt := 80) hx hb dX6_voice_55 (by decide) (by decide) (by rfl) (by decide) ?_
      refine lv_aload_n hx hb dX6_voice_80 rfl (lv_at hl 0 rfl) ?_
      refine lv_aload_n hx hb dX6_voice_81 rfl (lv_at hl 0 rfl) ?_
      refine md_get (v := .int ((upd (vF f 4 i (a 1 (58 + 14 * i + 1))) 24 (nI 0)) 25)) hx hb hts hown hK hM 25 (by decide) q1415 rfl rfl dX6_voice_82 ?_
      refine w_top (nI 4) (rfl) ?_
      refine lv_iload_n hx hb dX6_voice_85 rfl (lv_at hl 3 rfl) ?_
      refine md_callI (y := yX6_wantsIn) hx hb hml hown hts hK hI hM (met_wantsIn_4_4 (vF f 4 i (a 1 (58 + 14 * i + 1))) a (a 14) 0 rfl x (by omega)) q1757 q1759 qs55 q1760 ndX6_wantsIn rfl (by rw [hRf]; decide) (by rw [hRl]; decide) hl.1 rfl (Nat.le_of_ble_eq_true rfl) dX6_voice_86 (fun H locs hM => ?_)
      exact hret hM (rfl) dX6_voice_89
    · exact absurd (by first | exact (in_nat (by decide)).mpr ⟨_, by omega, rfl⟩ | exact (in_nat1 _ (by decide) (by decide)).mpr ⟨_, by omega, by omega, rfl⟩ | exact cow_in hN (by omega) | assumption) c_2
set_option maxHeartbeats 400000 in
theorem met_voice_0_5 (f : Nat → Int32) (a : Nat → Nat → Int32) (i : Nat) (hi : i < cl (a 1 3)) (hN : okN (a 1 3) 5) (hkd : a 1 (58 + 14 * i + 0) = nI 5) (x : Int32) : MdF yX6_voice cX6_voice 4 (some .int) 4 87 [.int (nI i), .int (nI 0), .int x] f a (some (.int ((x + (vF f 5 i (a 1 (58 + 14 * i + 1)) 26)) * (nI 3)))) (upd (vF f 5 i (a 1 (58 + 14 * i + 1))) 24 (nI (0 + 1 + 1))) (va_up a 14 (upd (upd (a 14) 0 (nI 30)) (0 + 1) (nI 10))) := by
  refine MdF.ofI (by decide) rfl (Nat.le_of_ble_eq_true rfl) ?_
  intro p l e R s m args below meth c Q D h dA ls hx hb hml hRf hRl hts hown hK hI hM hl hret
  have hl : lv_has ls 4 [(0, .ref (h 0)), (1, .int (nI i)), (2, .int (nI 0)), (3, .int x)] := hl
  have hN2 := hN.2
  refine lv_aload_n hx hb dX6_voice_0 rfl (lv_at hl 0 rfl) ?_
  refine lv_iload_n hx hb dX6_voice_1 rfl (lv_at hl 1 rfl) ?_
  refine md_callI (y := yX6_isCow) hx hb hml hown hts hK hI hM (met_isCow f a (nI i)) q1574 q1576 qs37 q1577 ndX6_isCow rfl (by rw [hRf]; decide) (by rw [hRl]; decide) hl.1 rfl (Nat.le_of_ble_eq_true rfl) dX6_voice_2 (fun H locs hM => ?_)
  refine w_if_eqT (tgt := 17) hx hb dX6_voice_5 (by decide) (fun c_1 => ?_) (fun c_1 => ?_)
  · exact absurd (by first | exact (in_nat (by decide)).mpr ⟨_, by omega, rfl⟩ | exact (in_nat1 _ (by decide) (by decide)).mpr ⟨_, by omega, by omega, rfl⟩ | exact cow_in hN (by omega) | assumption) c_1
  · refine lv_iload_n hx hb dX6_voice_8 rfl (lv_at hl 2 rfl) ?_
    refine lv_iconst (v := nI 0) hx hb dX6_voice_9 (by decide) ?_
    refine lv_iconst (v := nI 3) hx hb dX6_voice_10 (by decide) ?_
    refine st_callI (y := yX6_in) hx hb hml hown hts (met_in (nI 0) (nI 0) (nI 3)) q1482 q1483 q70 q1484 ndX6_in rfl (by rw [hRf]; decide) (by rw [hRl]; decide) ⟨Nat.zero_le _, Nat.zero_le _⟩ hl.1 rfl (Nat.le_of_ble_eq_true rfl) dX6_voice_11 ?_
    refine w_if_neT (tgt := 24) hx hb dX6_voice_14 (by decide) (fun c_2 => ?_) (fun c_2 => ?_)
    · refine lv_aload_n hx hb dX6_voice_24 rfl (lv_at hl 0 rfl) ?_
      refine lv_iconst (v := nI 0) hx hb dX6_voice_25 (by decide) ?_
      refine md_put hx hb hts hown hK hI hM 24 (by decide) q1414 rfl rfl rfl rfl rfl dX6_voice_26 (fun H locs hM => ?_)
      refine lv_aload_n hx hb dX6_voice_29 rfl (lv_at hl 0 rfl) ?_
      refine lv_aload_n hx hb dX6_voice_30 rfl (lv_at hl 0 rfl) ?_
      refine lv_iload_n hx hb dX6_voice_31 rfl (lv_at hl 1 rfl) ?_
      refine lv_iconst (v := nI 0) hx hb dX6_voice_32 (by decide) ?_
      refine md_callI (y := yX6_its) hx hb hml hown hts hK hI hM (met_its (upd f 24 (nI 0)) a i 0 (by omega)) q1557 q1559 qs35 q1560 ndX6_its rfl (by rw [hRf]; decide) (by rw [hRl]; decide) hl.1 rfl (Nat.le_of_ble_eq_true rfl) dX6_voice_33 (fun H locs hM => ?_)
      refine w_top (nI 5) (hkd) ?_
      refine md_put hx hb hts hown hK hI hM 25 (by decide) q1415 rfl rfl rfl rfl rfl dX6_voice_36 (fun H locs hM => ?_)
      refine lv_aload_n hx hb dX6_voice_39 rfl (lv_at hl 0 rfl) ?_
      refine lv_iload_n hx hb dX6_voice_40 rfl (lv_at hl 1 rfl) ?_
      refine md_put hx hb hts hown hK hI hM 26 (by decide) q1416 rfl rfl rfl rfl rfl dX6_voice_41 (fun H locs hM => ?_)
      refine lv_aload_n hx hb dX6_voice_44 rfl (lv_at hl 0 rfl) ?_
      refine lv_aload_n hx hb dX6_voice_45 rfl (lv_at hl 0 rfl) ?_
      refine lv_iload_n hx hb dX6_voice_46 rfl (lv_at hl 1 rfl) ?_
      refine lv_iconst (v := nI 1) hx hb dX6_voice_47 (by decide) ?_
      refine md_callI (y := yX6_its) hx hb hml hown hts hK hI hM (met_its (upd (upd (upd f 24 (nI 0)) 25 (nI 5)) 26 (nI i)) a i 1 (by omega)) q1557 q1559 qs35 q1560 ndX6_its rfl (by rw [hRf]; decide) (by rw [hRl]; decide) hl.1 rfl (Nat.le_of_ble_eq_true rfl) dX6_voice_48 (fun H locs hM => ?_)
      refine md_put hx hb hts hown hK hI hM 27 (by decide) q1417 rfl rfl rfl rfl rfl dX6_voice_51 (fun H locs hM => ?_)
      have hM := hM.to (a' := va_up a 14 (a 14)) rfl (va_self a 14)
      have hM := hM.to (f' := upd (vF f 5 i (a 1 (58 + 14 * i + 1))) 24 (nI 0)) (vF_0 _ _ _ _) rfl
      refine lv_iload_n hx hb dX6_voice_54 rfl (lv_at hl 2 rfl) ?_
      refine lv_tableIn (off := 25) (tgt := 80) hx hb dX6_voice_55 (by decide) (by decide) (by rfl) (by decide) ?_
      refine lv_aload_n hx hb dX6_voice_80 rfl (lv_at hl 0 rfl) ?_
      refine lv_aload_n hx hb dX6_voice_81 rfl (lv_at hl 0 rfl) ?_
      refine md_get (v := .int ((upd (vF f 5 i (a 1 (58 + 14 * i + 1))) 24 (nI 0)) 25)) hx hb hts hown hK hM 25 (by decide) q1415 rfl rfl dX6_voice_82 ?_
      refine w_top (nI 5) (rfl) ?_
      refine lv_iload_n hx hb dX6_voice_85 rfl (lv_at hl 3 rfl) ?_
      refine md_callI (y := yX6_wantsIn) hx hb hml hown hts hK hI hM (met_wantsIn_5_5 (vF f 5 i (a 1 (58 + 14 * i + 1))) a (a 14) 0 rfl x (by omega)) q1757 q1759 qs55 q1760 ndX6_wantsIn rfl (by rw [hRf]; decide) (by rw [hRl]; decide) hl.1 rfl (Nat.le_of_ble_eq_true rfl) dX6_voice_86 (fun H locs hM => ?_)
      exact hret hM (rfl) dX6_voice_89
    · exact absurd (by first | exact (in_nat (by decide)).mpr ⟨_, by omega, rfl⟩ | exact (in_nat1 _ (by decide) (by decide)).mpr ⟨_, by omega, by omega, rfl⟩ | exact cow_in hN (by omega) | assumption) c_2
set_option maxHeartbeats 400000 in
theorem met_voice_0_6 (f : Nat → Int32) (a : Nat → Nat → Int32) (i : Nat) (hi : i < cl (a 1 3)) (hN : okN (a 1 3) 5) (hkd : a 1 (58 + 14 * i + 0) = nI 6) (x : Int32) : MdF yX6_voice cX6_voice 4 (some .int) 4 87 [.int (nI i), .int (nI 0), .int x] f a (some (.int (x + (vF f 6 i (a 1 (58 + 14 * i + 1)) 26)))) (upd (vF f 6 i (a 1 (58 + 14 * i + 1))) 24 (nI (0 + 1))) (va_up a 14 (upd (a 14) 0 (nI 10))) := by
  refine MdF.ofI (by decide) rfl (Nat.le_of_ble_eq_true rfl) ?_
  intro p l e R s m args below meth c Q D h dA ls hx hb hml hRf hRl hts hown hK hI hM hl hret
  have hl : lv_has ls 4 [(0, .ref (h 0)), (1, .int (nI i)), (2, .int (nI 0)), (3, .int x)] := hl
  have hN2 := hN.2
  refine lv_aload_n hx hb dX6_voice_0 rfl (lv_at hl 0 rfl) ?_
  refine lv_iload_n hx hb dX6_voice_1 rfl (lv_at hl 1 rfl) ?_
  refine md_callI (y := yX6_isCow) hx hb hml hown hts hK hI hM (met_isCow f a (nI i)) q1574 q1576 qs37 q1577 ndX6_isCow rfl (by rw [hRf]; decide) (by rw [hRl]; decide) hl.1 rfl (Nat.le_of_ble_eq_true rfl) dX6_voice_2 (fun H locs hM => ?_)
  refine w_if_eqT (tgt := 17) hx hb dX6_voice_5 (by decide) (fun c_1 => ?_) (fun c_1 => ?_)
  · exact absurd (by first | exact (in_nat (by decide)).mpr ⟨_, by omega, rfl⟩ | exact (in_nat1 _ (by decide) (by decide)).mpr ⟨_, by omega, by omega, rfl⟩ | exact cow_in hN (by omega) | assumption) c_1
  · refine lv_iload_n hx hb dX6_voice_8 rfl (lv_at hl 2 rfl) ?_
    refine lv_iconst (v := nI 0) hx hb dX6_voice_9 (by decide) ?_
    refine lv_iconst (v := nI 3) hx hb dX6_voice_10 (by decide) ?_
    refine st_callI (y := yX6_in) hx hb hml hown hts (met_in (nI 0) (nI 0) (nI 3)) q1482 q1483 q70 q1484 ndX6_in rfl (by rw [hRf]; decide) (by rw [hRl]; decide) ⟨Nat.zero_le _, Nat.zero_le _⟩ hl.1 rfl (Nat.le_of_ble_eq_true rfl) dX6_voice_11 ?_
    refine w_if_neT (tgt := 24) hx hb dX6_voice_14 (by decide) (fun c_2 => ?_) (fun c_2 => ?_)
    · refine lv_aload_n hx hb dX6_voice_24 rfl (lv_at hl 0 rfl) ?_
      refine lv_iconst (v := nI 0) hx hb dX6_voice_25 (by decide) ?_
      refine md_put hx hb hts hown hK hI hM 24 (by decide) q1414 rfl rfl rfl rfl rfl dX6_voice_26 (fun H locs hM => ?_)
      refine lv_aload_n hx hb dX6_voice_29 rfl (lv_at hl 0 rfl) ?_
      refine lv_aload_n hx hb dX6_voice_30 rfl (lv_at hl 0 rfl) ?_
      refine lv_iload_n hx hb dX6_voice_31 rfl (lv_at hl 1 rfl) ?_
      refine lv_iconst (v := nI 0) hx hb dX6_voice_32 (by decide) ?_
      refine md_callI (y := yX6_its) hx hb hml hown hts hK hI hM (met_its (upd f 24 (nI 0)) a i 0 (by omega)) q1557 q1559 qs35 q1560 ndX6_its rfl (by rw [hRf]; decide) (by rw [hRl]; decide) hl.1 rfl (Nat.le_of_ble_eq_true rfl) dX6_voice_33 (fun H locs hM => ?_)
      refine w_top (nI 6) (hkd) ?_
      refine md_put hx hb hts hown hK hI hM 25 (by decide) q1415 rfl rfl rfl rfl rfl dX6_voice_36 (fun H locs hM => ?_)
      refine lv_aload_n hx hb dX6_voice_39 rfl (lv_at hl 0 rfl) ?_
      refine lv_iload_n hx hb dX6_voice_40 rfl (lv_at hl 1 rfl) ?_
      refine md_put hx hb hts hown hK hI hM 26 (by decide) q1416 rfl rfl rfl rfl rfl dX6_voice_41 (fun H locs hM => ?_)
      refine lv_aload_n hx hb dX6_voice_44 rfl (lv_at hl 0 rfl) ?_
      refine lv_aload_n hx hb dX6_voice_45 rfl (lv_at hl 0 rfl) ?_
      refine lv_iload_n hx hb dX6_voice_46 rfl (lv_at hl 1 rfl) ?_
      refine lv_iconst (v := nI 1) hx hb dX6_voice_47 (by decide) ?_
      refine md_callI (y := yX6_its) hx hb hml hown hts hK hI hM (met_its (upd (upd (upd f 24 (nI 0)) 25 (nI 6)) 26 (nI i)) a i 1 (by omega)) q1557 q1559 qs35 q1560 ndX6_its rfl (by rw [hRf]; decide) (by rw [hRl]; decide) hl.1 rfl (Nat.le_of_ble_eq_true rfl) dX6_voice_48 (fun H locs hM => ?_)
      refine md_put hx hb hts hown hK hI hM 27 (by decide) q1417 rfl rfl rfl rfl rfl dX6_voice_51 (fun H locs hM => ?_)
      have hM := hM.to (a' := va_up a 14 (a 14)) rfl (va_self a 14)
      have hM := hM.to (f' := upd (vF f 6 i (a 1 (58 + 14 * i + 1))) 24 (nI 0)) (vF_0 _ _ _ _) rfl
      refine lv_iload_n hx hb dX6_voice_54 rfl (lv_at hl 2 rfl) ?_
      refine lv_tableIn (off := 25) (tgt := 80) hx hb dX6_voice_55 (by decide) (by decide) (by rfl) (by decide) ?_
      refine lv_aload_n hx hb dX6_voice_80 rfl (lv_at hl 0 rfl) ?_
      refine lv_aload_n hx hb dX6_voice_81 rfl (lv_at hl 0 rfl) ?_
      refine md_get (v := .int ((upd (vF f 6 i (a 1 (58 + 14 * i + 1))) 24 (nI 0)) 25)) hx hb hts hown hK hM 25 (by decide) q1415 rfl rfl dX6_voice_82 ?_
      refine w_top (nI 6) (rfl) ?_
      refine lv_iload_n hx hb dX6_voice_85 rfl (lv_at hl 3 rfl) ?_
      refine md_callI (y := yX6_wantsIn) hx hb hml hown hts hK hI hM (met_wantsIn_6_6 (vF f 6 i (a 1 (58 + 14 * i + 1))) a (a 14) 0 rfl x (by omega)) q1757 q1759 qs55 q1760 ndX6_wantsIn rfl (by rw [hRf]; decide) (by rw [hRl]; decide) hl.1 rfl (Nat.le_of_ble_eq_true rfl) dX6_voice_86 (fun H locs hM => ?_)
      exact hret hM (rfl) dX6_voice_89
    · exact absurd (by first | exact (in_nat (by decide)).mpr ⟨_, by omega, rfl⟩ | exact (in_nat1 _ (by decide) (by decide)).mpr ⟨_, by omega, by omega, rfl⟩ | exact cow_in hN (by omega) | assumption) c_2
set_option maxHeartbeats 400000 in
theorem met_voice_1_0 (f : Nat → Int32) (a : Nat → Nat → Int32) (i : Nat) (hi : i < cl (a 1 3)) (hN : okN (a 1 3) 5) (hkd : a 1 (58 + 14 * i + 0) = nI 0) (x : Int32) : MdF yX6_voice cX6_voice 4 (some .int) 3 66 [.int (nI i), .int (nI 1), .int x] f a (some (.int ((x + (vF f 0 i (a 1 (58 + 14 * i + 1)) 26)) * (nI 2)))) (upd (vF f 0 i (a 1 (58 + 14 * i + 1))) 24 (nI (0 + 1 + 1))) (va_up a 14 (upd (upd (a 14) 0 (nI 11)) (0 + 1) (nI 10))) := by
  refine MdF.ofI (by decide) rfl (Nat.le_of_ble_eq_true rfl) ?_
  intro p l e R s m args below meth c Q D h dA ls hx hb hml hRf hRl hts hown hK hI hM hl hret
  have hl : lv_has ls 4 [(0, .ref (h 0)), (1, .int (nI i)), (2, .int (nI 1)), (3, .int x)] := hl
  have hN2 := hN.2
  refine lv_aload_n hx hb dX6_voice_0 rfl (lv_at hl 0 rfl) ?_
  refine lv_iload_n hx hb dX6_voice_1 rfl (lv_at hl 1 rfl) ?_
  refine md_callI (y := yX6_isCow) hx hb hml hown hts hK hI hM (met_isCow f a (nI i)) q1574 q1576 qs37 q1577 ndX6_isCow rfl (by rw [hRf]; decide) (by rw [hRl]; decide) hl.1 rfl (Nat.le_of_ble_eq_true rfl) dX6_voice_2 (fun H locs hM => ?_)
  refine w_if_eqT (tgt := 17) hx hb dX6_voice_5 (by decide) (fun c_1 => ?_) (fun c_1 => ?_)
  · exact absurd (by first | exact (in_nat (by decide)).mpr ⟨_, by omega, rfl⟩ | exact (in_nat1 _ (by decide) (by decide)).mpr ⟨_, by omega, by omega, rfl⟩ | exact cow_in hN (by omega) | assumption) c_1
  · refine lv_iload_n hx hb dX6_voice_8 rfl (lv_at hl 2 rfl) ?_
    refine lv_iconst (v := nI 0) hx hb dX6_voice_9 (by decide) ?_
    refine lv_iconst (v := nI 3) hx hb dX6_voice_10 (by decide) ?_
    refine st_callI (y := yX6_in) hx hb hml hown hts (met_in (nI 1) (nI 0) (nI 3)) q1482 q1483 q70 q1484 ndX6_in rfl (by rw [hRf]; decide) (by rw [hRl]; decide) ⟨Nat.zero_le _, Nat.zero_le _⟩ hl.1 rfl (Nat.le_of_ble_eq_true rfl) dX6_voice_11 ?_
    refine w_if_neT (tgt := 24) hx hb dX6_voice_14 (by decide) (fun c_2 => ?_) (fun c_2 => ?_)
    · refine lv_aload_n hx hb dX6_voice_24 rfl (lv_at hl 0 rfl) ?_
      refine lv_iconst (v := nI 0) hx hb dX6_voice_25 (by decide) ?_
      refine md_put hx hb hts hown hK hI hM 24 (by decide) q1414 rfl rfl rfl rfl rfl dX6_voice_26 (fun H locs hM => ?_)
      refine lv_aload_n hx hb dX6_voice_29 rfl (lv_at hl 0 rfl) ?_
      refine lv_aload_n hx hb dX6_voice_30 rfl (lv_at hl 0 rfl) ?_
      refine lv_iload_n hx hb dX6_voice_31 rfl (lv_at hl 1 rfl) ?_
      refine lv_iconst (v := nI 0) hx hb dX6_voice_32 (by decide) ?_
      refine md_callI (y := yX6_its) hx hb hml hown hts hK hI hM (met_its (upd f 24 (nI 0)) a i 0 (by omega)) q1557 q1559 qs35 q1560 ndX6_its rfl (by rw [hRf]; decide) (by rw [hRl]; decide) hl.1 rfl (Nat.le_of_ble_eq_true rfl) dX6_voice_33 (fun H locs hM => ?_)
      refine w_top (nI 0) (hkd) ?_
      refine md_put hx hb hts hown hK hI hM 25 (by decide) q1415 rfl rfl rfl rfl rfl dX6_voice_36 (fun H locs hM => ?_)
      refine lv_aload_n hx hb dX6_voice_39 rfl (lv_at hl 0 rfl) ?_
      refine lv_iload_n hx hb dX6_voice_40 rfl (lv_at hl 1 rfl) ?_
      refine md_put hx hb hts hown hK hI hM 26 (by decide) q1416 rfl rfl rfl rfl rfl dX6_voice_41 (fun H locs hM => ?_)
      refine lv_aload_n hx hb dX6_voice_44 rfl (lv_at hl 0 rfl) ?_
      refine lv_aload_n hx hb dX6_voice_45 rfl (lv_at hl 0 rfl) ?_
      refine lv_iload_n hx hb dX6_voice_46 rfl (lv_at hl 1 rfl) ?_
      refine lv_iconst (v := nI 1) hx hb dX6_voice_47 (by decide) ?_
      refine md_callI (y := yX6_its) hx hb hml hown hts hK hI hM (met_its (upd (upd (upd f 24 (nI 0)) 25 (nI 0)) 26 (nI i)) a i 1 (by omega)) q1557 q1559 qs35 q1560 ndX6_its rfl (by rw [hRf]; decide) (by rw [hRl]; decide) hl.1 rfl (Nat.le_of_ble_eq_true rfl) dX6_voice_48 (fun H locs hM => ?_)
      refine md_put hx hb hts hown hK hI hM 27 (by decide) q1417 rfl rfl rfl rfl rfl dX6_voice_51 (fun H locs hM => ?_)
      have hM := hM.to (a' := va_up a 14 (a 14)) rfl (va_self a 14)
      have hM := hM.to (f' := upd (vF f 0 i (a 1 (58 + 14 * i + 1))) 24 (nI 0)) (vF_0 _ _ _ _) rfl
      refine lv_iload_n hx hb dX6_voice_54 rfl (lv_at hl 2 rfl) ?_
      refine lv_tableIn (off := 35) (tgt := 90) hx hb dX6_voice_55 (by decide) (by decide) (by rfl) (by decide) ?_
      refine lv_aload_n hx hb dX6_voice_90 rfl (lv_at hl 0 rfl) ?_
      refine lv_aload_n hx hb dX6_voice_91 rfl (lv_at hl 0 rfl) ?_
      refine md_get (v := .int ((upd (vF f 0 i (a 1 (58 + 14 * i + 1))) 24 (nI 0)) 25)) hx hb hts hown hK hM 25 (by decide) q1415 rfl rfl dX6_voice_92 ?_
      refine w_top (nI 0) (rfl) ?_
      refine lv_iload_n hx hb dX6_voice_95 rfl (lv_at hl 3 rfl) ?_
      refine md_callI (y := yX6_eatsIn) hx hb hml hown hts hK hI hM (met_eatsIn_0_0 (vF f 0 i (a 1 (58 + 14 * i + 1))) a (a 14) 0 rfl x (by omega)) q1765 q1767 qs57 q1768 ndX6_eatsIn rfl (by rw [hRf]; decide) (by rw [hRl]; decide) hl.1 rfl (Nat.le_of_ble_eq_true rfl) dX6_voice_96 (fun H locs hM => ?_)
      exact hret hM (rfl) dX6_voice_99
    · exact absurd (by first | exact (in_nat (by decide)).mpr ⟨_, by omega, rfl⟩ | exact (in_nat1 _ (by decide) (by decide)).mpr ⟨_, by omega, by omega, rfl⟩ | exact cow_in hN (by omega) | assumption) c_2
set_option maxHeartbeats 400000 in
theorem met_voice_1_1 (f : Nat → Int32) (a : Nat → Nat → Int32) (i : Nat) (hi : i < cl (a 1 3)) (hN : okN (a 1 3) 5) (hkd : a 1 (58 + 14 * i + 0) = nI 1) (x : Int32) : MdF yX6_voice cX6_voice 4 (some .int) 5 111 [.int (nI i), .int (nI 1), .int x] f a (some (.int (((x + (vF f 1 i (a 1 (58 + 14 * i + 1)) 26)) * (nI 2)) - ((nI 1) - (vF f 1 i (a 1 (58 + 14 * i + 1)) 27))))) (upd (vF f 1 i (a 1 (58 + 14 * i + 1))) 24 (nI (0 + 1 + 1 + 1 + 1))) (va_up a 14 (upd (upd (upd (upd (a 14) 0 (nI 20)) (0 + 1) (nI 11)) (0 + 1 + 1) (nI 10)) (0 + 1 + 1 + 1) (nI 12))) := by
  refine MdF.ofI (by decide) rfl (Nat.le_of_ble_eq_true rfl) ?_
  intro p l e R s m args below meth c Q D h dA ls hx hb hml hRf hRl hts hown hK hI hM hl hret
  have hl : lv_has ls 4 [(0, .ref (h 0)), (1, .int (nI i)), (2, .int (nI 1)), (3, .int x)] := hl
  have hN2 := hN.2
  refine lv_aload_n hx hb dX6_voice_0 rfl (lv_at hl 0 rfl) ?_
  refine lv_iload_n hx hb dX6_voice_1 rfl (lv_at hl 1 rfl) ?_
  refine md_callI (y := yX6_isCow) hx hb hml hown hts hK hI hM (met_isCow f a (nI i)) q1574 q1576 qs37 q1577 ndX6_isCow rfl (by rw [hRf]; decide) (by rw [hRl]; decide) hl.1 rfl (Nat.le_of_ble_eq_true rfl) dX6_voice_2 (fun H locs hM => ?_)
  refine w_if_eqT (tgt := 17) hx hb dX6_voice_5 (by decide) (fun c_1 => ?_) (fun c_1 => ?_)
  · exact absurd (by first | exact (in_nat (by decide)).mpr ⟨_, by omega, rfl⟩ | exact (in_nat1 _ (by decide) (by decide)).mpr ⟨_, by omega, by omega, rfl⟩ | exact cow_in hN (by omega) | assumption) c_1
  · refine lv_iload_n hx hb dX6_voice_8 rfl (lv_at hl 2 rfl) ?_
    refine lv_iconst (v := nI 0) hx hb dX6_voice_9 (by decide) ?_
    refine lv_iconst (v := nI 3) hx hb dX6_voice_10 (by decide) ?_
    refine st_callI (y := yX6_in) hx hb hml hown hts (met_in (nI 1) (nI 0) (nI 3)) q1482 q1483 q70 q1484 ndX6_in rfl (by rw [hRf]; decide) (by rw [hRl]; decide) ⟨Nat.zero_le _, Nat.zero_le _⟩ hl.1 rfl (Nat.le_of_ble_eq_true rfl) dX6_voice_11 ?_
    refine w_if_neT (tgt := 24) hx hb dX6_voice_14 (by decide) (fun c_2 => ?_) (fun c_2 => ?_)
    · refine lv_aload_n hx hb dX6_voice_24 rfl (lv_at hl 0 rfl) ?_
      refine lv_iconst (v := nI 0) hx hb dX6_voice_25 (by decide) ?_
      refine md_put hx hb hts hown hK hI hM 24 (by decide) q1414 rfl rfl rfl rfl rfl dX6_voice_26 (fun H locs hM => ?_)
      refine lv_aload_n hx hb dX6_voice_29 rfl (lv_at hl 0 rfl) ?_
      refine lv_aload_n hx hb dX6_voice_30 rfl (lv_at hl 0 rfl) ?_
      refine lv_iload_n hx hb dX6_voice_31 rfl (lv_at hl 1 rfl) ?_
      refine lv_iconst (v := nI 0) hx hb dX6_voice_32 (by decide) ?_
      refine md_callI (y := yX6_its) hx hb hml hown hts hK hI hM (met_its (upd f 24 (nI 0)) a i 0 (by omega)) q1557 q1559 qs35 q1560 ndX6_its rfl (by rw [hRf]; decide) (by rw [hRl]; decide) hl.1 rfl (Nat.le_of_ble_eq_true rfl) dX6_voice_33 (fun H locs hM => ?_)
      refine w_top (nI 1) (hkd) ?_
      refine md_put hx hb hts hown hK hI hM 25 (by decide) q1415 rfl rfl rfl rfl rfl dX6_voice_36 (fun H locs hM => ?_)
      refine lv_aload_n hx hb dX6_voice_39 rfl (lv_at hl 0 rfl) ?_
      refine lv_iload_n hx hb dX6_voice_40 rfl (lv_at hl 1 rfl) ?_
      refine md_put hx hb hts hown hK hI hM 26 (by decide) q1416 rfl rfl rfl rfl rfl dX6_voice_41 (fun H locs hM => ?_)
      refine lv_aload_n hx hb dX6_voice_44 rfl (lv_at hl 0 rfl) ?_
      refine lv_aload_n hx hb dX6_voice_45 rfl (lv_at hl 0 rfl) ?_
      refine lv_iload_n hx hb dX6_voice_46 rfl (lv_at hl 1 rfl) ?_
      refine lv_iconst (v := nI 1) hx hb dX6_voice_47 (by decide) ?_
      refine md_callI (y := yX6_its) hx hb hml hown hts hK hI hM (met_its (upd (upd (upd f 24 (nI 0)) 25 (nI 1)) 26 (nI i)) a i 1 (by omega)) q1557 q1559 qs35 q1560 ndX6_its rfl (by rw [hRf]; decide) (by rw [hRl]; decide) hl.1 rfl (Nat.le_of_ble_eq_true rfl) dX6_voice_48 (fun H locs hM => ?_)
      refine md_put hx hb hts hown hK hI hM 27 (by decide) q1417 rfl rfl rfl rfl rfl dX6_voice_51 (fun H locs hM => ?_)
      have hM := hM.to (a' := va_up a 14 (a 14)) rfl (va_self a 14)
      have hM := hM.to (f' := upd (vF f 1 i (a 1 (58 + 14 * i + 1))) 24 (nI 0)) (vF_0 _ _ _ _) rfl
      refine lv_iload_n hx hb dX6_voice_54 rfl (lv_at hl 2 rfl) ?_
      refine lv_tableIn (off := 35) (tgt := 90) hx hb dX6_voice_55 (by decide) (by decide) (by rfl) (by decide) ?_
      refine lv_aload_n hx hb dX6_voice_90 rfl (lv_at hl 0 rfl) ?_
      refine lv_aload_n hx hb dX6_voice_91 rfl (lv_at hl 0 rfl) ?_
      refine md_get (v := .int ((upd (vF f 1 i (a 1 (58 + 14 * i + 1))) 24 (nI 0)) 25)) hx hb hts hown hK hM 25 (by decide) q1415 rfl rfl dX6_voice_92 ?_
      refine w_top (nI 1) (rfl) ?_
      refine lv_iload_n hx hb dX6_voice_95 rfl (lv_at hl 3 rfl) ?_
      refine md_callI (y := yX6_eatsIn) hx hb hml hown hts hK hI hM (met_eatsIn_1_1 (vF f 1 i (a 1 (58 + 14 * i + 1))) a (a 14) 0 rfl x (by omega)) q1765 q1767 qs57 q1768 ndX6_eatsIn rfl (by rw [hRf]; decide) (by rw [hRl]; decide) hl.1 rfl (Nat.le_of_ble_eq_true rfl) dX6_voice_96 (fun H locs hM => ?_)
      exact hret hM (rfl) dX6_voice_99
    · exact absurd (by first | exact (in_nat (by decide)).mpr ⟨_, by omega, rfl⟩ | exact (in_nat1 _ (by decide) (by decide)).mpr ⟨_, by omega, by omega, rfl⟩ | exact cow_in hN (by omega) | assumption) c_2
set_option maxHeartbeats 400000 in
theorem met_voice_1_2 (f : Nat → Int32) (a : Nat → Nat → Int32) (i : Nat) (hi : i < cl (a 1 3)) (hN : okN (a 1 3) 5) (hkd : a 1 (58 + 14 * i + 0) = nI 2) (x : Int32) : MdF yX6_voice cX6_voice 4 (some .int) 5 111 [.int (nI i), .int (nI 1), .int x] f a (some (.int (((x + (vF f 2 i (a 1 (58 + 14 * i + 1)) 26)) * (nI 3)) * (nI 2)))) (upd (vF f 2 i (a 1 (58 + 14 * i + 1))) 24 (nI (0 + 1 + 1 + 1))) (va_up a 14 (upd (upd (upd (a 14) 0 (nI 11)) (0 + 1) (nI 30)) (0 + 1 + 1) (nI 10))) := by
  refine MdF.ofI (by decide) rfl (Nat.le_of_ble_eq_true rfl) ?_
  intro p l e R s m args below meth c Q D h dA ls hx hb hml hRf hRl hts hown hK hI hM hl hret
  have hl : lv_has ls 4 [(0, .ref (h 0)), (1, .int (nI i)), (2, .int (nI 1)), (3, .int x)] := hl
  have hN2 := hN.2
  refine lv_aload_n hx hb dX6_voice_0 rfl (lv_at hl 0 rfl) ?_
  refine lv_iload_n hx hb dX6_voice_1 rfl (lv_at hl 1 rfl) ?_
  refine md_callI (y := yX6_isCow) hx hb hml hown hts hK hI hM (met_isCow f a (nI i)) q1574 q1576 qs37 q1577 ndX6_isCow rfl (by rw [hRf]; decide) (by rw [hRl]; decide) hl.1 rfl (Nat.le_of_ble_eq_true rfl) dX6_voice_2 (fun H locs hM => ?_)
  refine w_if_eqT (tgt := 17) hx hb dX6_voice_5 (by decide) (fun c_1 => ?_) (fun c_1 => ?_)
  · exact absurd (by first | exact (in_nat (by decide)).mpr ⟨_, by omega, rfl⟩ | exact (in_nat1 _ (by decide) (by decide)).mpr ⟨_, by omega, by omega, rfl⟩ | exact cow_in hN (by omega) | assumption) c_1
  · refine lv_iload_n hx hb dX6_voice_8 rfl (lv_at hl 2 rfl) ?_
    refine lv_iconst (v := nI 0) hx hb dX6_voice_9 (by decide) ?_
    refine lv_iconst (v := nI 3) hx hb dX6_voice_10 (by decide) ?_
    refine st_callI (y := yX6_in) hx hb hml hown hts (met_in (nI 1) (nI 0) (nI 3)) q1482 q1483 q70 q1484 ndX6_in rfl (by rw [hRf]; decide) (by rw [hRl]; decide) ⟨Nat.zero_le _, Nat.zero_le _⟩ hl.1 rfl (Nat.le_of_ble_eq_true rfl) dX6_voice_11 ?_
    refine w_if_neT (tgt := 24) hx hb dX6_voice_14 (by decide) (fun c_2 => ?_) (fun c_2 => ?_)
    · refine lv_aload_n hx hb dX6_voice_24 rfl (lv_at hl 0 rfl) ?_
      refine lv_iconst (v := nI 0) hx hb dX6_voice_25 (by decide) ?_
      refine md_put hx hb hts hown hK hI hM 24 (by decide) q1414 rfl rfl rfl rfl rfl dX6_voice_26 (fun H locs hM => ?_)
      refine lv_aload_n hx hb dX6_voice_29 rfl (lv_at hl 0 rfl) ?_
      refine lv_aload_n hx hb dX6_voice_30 rfl (lv_at hl 0 rfl) ?_
      refine lv_iload_n hx hb dX6_voice_31 rfl (lv_at hl 1 rfl) ?_
      refine lv_iconst (v := nI 0) hx hb dX6_voice_32 (by decide) ?_
      refine md_callI (y := yX6_its) hx hb hml hown hts hK hI hM (met_its (upd f 24 (nI 0)) a i 0 (by omega)) q1557 q1559 qs35 q1560 ndX6_its rfl (by rw [hRf]; decide) (by rw [hRl]; decide) hl.1 rfl (Nat.le_of_ble_eq_true rfl) dX6_voice_33 (fun H locs hM => ?_)
      refine w_top (nI 2) (hkd) ?_
      refine md_put hx hb hts hown hK hI hM 25 (by decide) q1415 rfl rfl rfl rfl rfl dX6_voice_36 (fun H locs hM => ?_)
      refine lv_aload_n hx hb dX6_voice_39 rfl (lv_at hl 0 rfl) ?_
      refine lv_iload_n hx hb dX6_voice_40 rfl (lv_at hl 1 rfl) ?_
      refine md_put hx hb hts hown hK hI hM 26 (by decide) q1416 rfl rfl rfl rfl rfl dX6_voice_41 (fun H locs hM => ?_)
      refine lv_aload_n hx hb dX6_voice_44 rfl (lv_at hl 0 rfl) ?_
      refine lv_aload_n hx hb dX6_voice_45 rfl (lv_at hl 0 rfl) ?_
      refine lv_iload_n hx hb dX6_voice_46 rfl (lv_at hl 1 rfl) ?_
      refine lv_iconst (v := nI 1) hx hb dX6_voice_47 (by decide) ?_
      refine md_callI (y := yX6_its) hx hb hml hown hts hK hI hM (met_its (upd (upd (upd f 24 (nI 0)) 25 (nI 2)) 26 (nI i)) a i 1 (by omega)) q1557 q1559 qs35 q1560 ndX6_its rfl (by rw [hRf]; decide) (by rw [hRl]; decide) hl.1 rfl (Nat.le_of_ble_eq_true rfl) dX6_voice_48 (fun H locs hM => ?_)
      refine md_put hx hb hts hown hK hI hM 27 (by decide) q1417 rfl rfl rfl rfl rfl dX6_voice_51 (fun H locs hM => ?_)
      have hM := hM.to (a' := va_up a 14 (a 14)) rfl (va_self a 14)
      have hM := hM.to (f' := upd (vF f 2 i (a 1 (58 + 14 * i + 1))) 24 (nI 0)) (vF_0 _ _ _ _) rfl
      refine lv_iload_n hx hb dX6_voice_54 rfl (lv_at hl 2 rfl) ?_
      refine lv_tableIn (off := 35) (tgt := 90) hx hb dX6_voice_55 (by decide) (by decide) (by rfl) (by decide) ?_
      refine lv_aload_n hx hb dX6_voice_90 rfl (lv_at hl 0 rfl) ?_
      refine lv_aload_n hx hb dX6_voice_91 rfl (lv_at hl 0 rfl) ?_
      refine md_get (v := .int ((upd (vF f 2 i (a 1 (58 + 14 * i + 1))) 24 (nI 0)) 25)) hx hb hts hown hK hM 25 (by decide) q1415 rfl rfl dX6_voice_92 ?_
      refine w_top (nI 2) (rfl) ?_
      refine lv_iload_n hx hb dX6_voice_95 rfl (lv_at hl 3 rfl) ?_
      refine md_callI (y := yX6_eatsIn) hx hb hml hown hts hK hI hM (met_eatsIn_2_2 (vF f 2 i (a 1 (58 + 14 * i + 1))) a (a 14) 0 rfl x (by omega)) q1765 q1767 qs57 q1768 ndX6_eatsIn rfl (by rw [hRf]; decide) (by rw [hRl]; decide) hl.1 rfl (Nat.le_of_ble_eq_true rfl) dX6_voice_96 (fun H locs hM => ?_)
      exact hret hM (rfl) dX6_voice_99
    · exact absurd (by first | exact (in_nat (by decide)).mpr ⟨_, by omega, rfl⟩ | exact (in_nat1 _ (by decide) (by decide)).mpr ⟨_, by omega, by omega, rfl⟩ | exact cow_in hN (by omega) | assumption) c_2
set_option maxHeartbeats 400000 in
theorem met_voice_1_3 (f : Nat → Int32) (a : Nat → Nat → Int32) (i : Nat) (hi : i < cl (a 1 3)) (hN : okN (a 1 3) 5) (hkd : a 1 (58 + 14 * i + 0) = nI 3) (x : Int32) : MdF yX6_voice cX6_voice 4 (some .int) 5 111 [.int (nI i), .int (nI 1), .int x] f a (some (.int ((x + (vF f 3 i (a 1 (58 + 14 * i + 1)) 26)) * (nI 2)))) (upd (vF f 3 i (a 1 (58 + 14 * i + 1))) 24 (nI (0 + 1 + 1))) (va_up a 14 (upd (upd (a 14) 0 (nI 11)) (0 + 1) (nI 10))) := by
  refine MdF.ofI (by decide) rfl (Nat.le_of_ble_eq_true rfl) ?_
  intro p l e R s m args below meth c Q D h dA ls hx hb hml hRf hRl hts hown hK hI hM hl hret
  have hl : lv_has ls 4 [(0, .ref (h 0)), (1, .int (nI i)), (2, .int (nI 1)), (3, .int x)] := hl
  have hN2 := hN.2
  refine lv_aload_n hx hb dX6_voice_0 rfl (lv_at hl 0 rfl) ?_
  refine lv_iload_n hx hb dX6_voice_1 rfl (lv_at hl 1 rfl) ?_
  refine md_callI (y := yX6_isCow) hx hb hml hown hts hK hI hM (met_isCow f a (nI i)) q1574 q1576 qs37 q1577 ndX6_isCow rfl (by rw [hRf]; decide) (by rw [hRl]; decide) hl.1 rfl (Nat.le_of_ble_eq_true rfl) dX6_voice_2 (fun H locs hM => ?_)
  refine w_if_eqT (tgt := 17) hx hb dX6_voice_5 (by decide) (fun c_1 => ?_) (fun c_1 => ?_)
  · exact absurd (by first | exact (in_nat (by decide)).mpr ⟨_, by omega, rfl⟩ | exact (in_nat1 _ (by decide) (by decide)).mpr ⟨_, by omega, by omega, rfl⟩ | exact cow_in hN (by omega) | assumption) c_1
  · refine lv_iload_n hx hb dX6_voice_8 rfl (lv_at hl 2 rfl) ?_
    refine lv_iconst (v := nI 0) hx hb dX6_voice_9 (by decide) ?_
    refine lv_iconst (v := nI 3) hx hb dX6_voice_10 (by decide) ?_
    refine st_callI (y := yX6_in) hx hb hml hown hts (met_in (nI 1) (nI 0) (nI 3)) q1482 q1483 q70 q1484 ndX6_in rfl (by rw [hRf]; decide) (by rw [hRl]; decide) ⟨Nat.zero_le _, Nat.zero_le _⟩ hl.1 rfl (Nat.le_of_ble_eq_true rfl) dX6_voice_11 ?_
    refine w_if_neT (tgt := 24) hx hb dX6_voice_14 (by decide) (fun c_2 => ?_) (fun c_2 => ?_)
    · refine lv_aload_n hx hb dX6_voice_24 rfl (lv_at hl 0 rfl) ?_
      refine lv_iconst (v := nI 0) hx hb dX6_voice_25 (by decide) ?_
      refine md_put hx hb hts hown hK hI hM 24 (by decide) q1414 rfl rfl rfl rfl rfl dX6_voice_26 (fun H locs hM => ?_)
      refine lv_aload_n hx hb dX6_voice_29 rfl (lv_at hl 0 rfl) ?_
      refine lv_aload_n hx hb dX6_voice_30 rfl (lv_at hl 0 rfl) ?_
      refine lv_iload_n hx hb dX6_voice_31 rfl (lv_at hl 1 rfl) ?_
      refine lv_iconst (v := nI 0) hx hb dX6_voice_32 (by decide) ?_
      refine md_callI (y := yX6_its) hx hb hml hown hts hK hI hM (met_its (upd f 24 (nI 0)) a i 0 (by omega)) q1557 q1559 qs35 q1560 ndX6_its rfl (by rw [hRf]; decide) (by rw [hRl]; decide) hl.1 rfl (Nat.le_of_ble_eq_true rfl) dX6_voice_33 (fun H locs hM => ?_)
      refine w_top (nI 3) (hkd) ?_
      refine md_put hx hb hts hown hK hI hM 25 (by decide) q1415 rfl rfl rfl rfl rfl dX6_voice_36 (fun H locs hM => ?_)
      refine lv_aload_n hx hb dX6_voice_39 rfl (lv_at hl 0 rfl) ?_
      refine lv_iload_n hx hb dX6_voice_40 rfl (lv_at hl 1 rfl) ?_
      refine md_put hx hb hts hown hK hI hM 26 (by decide) q1416 rfl rfl rfl rfl rfl dX6_voice_41 (fun H locs hM => ?_)
      refine lv_aload_n hx hb dX6_voice_44 rfl (lv_at hl 0 rfl) ?_
      refine lv_aload_n hx hb dX6_voice_45 rfl (lv_at hl 0 rfl) ?_
      refine lv_iload_n hx hb dX6_voice_46 rfl (lv_at hl 1 rfl) ?_
      refine lv_iconst (v := nI 1) hx hb dX6_voice_47 (by decide) ?_
      refine md_callI (y := yX6_its) hx hb hml hown hts hK hI hM (met_its (upd (upd (upd f 24 (nI 0)) 25 (nI 3)) 26 (nI i)) a i 1 (by omega)) q1557 q1559 qs35 q1560 ndX6_its rfl (by rw [hRf]; decide) (by rw [hRl]; decide) hl.1 rfl (Nat.le_of_ble_eq_true rfl) dX6_voice_48 (fun H locs hM => ?_)
      refine md_put hx hb hts hown hK hI hM 27 (by decide) q1417 rfl rfl rfl rfl rfl dX6_voice_51 (fun H locs hM => ?_)
      have hM := hM.to (a' := va_up a 14 (a 14)) rfl (va_self a 14)
      have hM := hM.to (f' := upd (vF f 3 i (a 1 (58 + 14 * i + 1))) 24 (nI 0)) (vF_0 _ _ _ _) rfl
      refine lv_iload_n hx hb dX6_voice_54 rfl (lv_at hl 2 rfl) ?_
      refine lv_tableIn (off := 35) (tgt := 90) hx hb dX6_voice_55 (by decide) (by decide) (by rfl) (by decide) ?_
      refine lv_aload_n hx hb dX6_voice_90 rfl (lv_at hl 0 rfl) ?_
      refine lv_aload_n hx hb dX6_voice_91 rfl (lv_at hl 0 rfl) ?_
      refine md_get (v := .int ((upd (vF f 3 i (a 1 (58 + 14 * i + 1))) 24 (nI 0)) 25)) hx hb hts hown hK hM 25 (by decide) q1415 rfl rfl dX6_voice_92 ?_
      refine w_top (nI 3) (rfl) ?_
      refine lv_iload_n hx hb dX6_voice_95 rfl (lv_at hl 3 rfl) ?_
      refine md_callI (y := yX6_eatsIn) hx hb hml hown hts hK hI hM (met_eatsIn_3_3 (vF f 3 i (a 1 (58 + 14 * i + 1))) a (a 14) 0 rfl x (by omega)) q1765 q1767 qs57 q1768 ndX6_eatsIn rfl (by rw [hRf]; decide) (by rw [hRl]; decide) hl.1 rfl (Nat.le_of_ble_eq_true rfl) dX6_voice_96 (fun H locs hM => ?_)
      exact hret hM (rfl) dX6_voice_99
    · exact absurd (by first | exact (in_nat (by decide)).mpr ⟨_, by omega, rfl⟩ | exact (in_nat1 _ (by decide) (by decide)).mpr ⟨_, by omega, by omega, rfl⟩ | exact cow_in hN (by omega) | assumption) c_2
set_option maxHeartbeats 400000 in
theorem met_voice_1_4 (f : Nat → Int32) (a : Nat → Nat → Int32) (i : Nat) (hi : i < cl (a 1 3)) (hN : okN (a 1 3) 5) (hkd : a 1 (58 + 14 * i + 0) = nI 4) (x : Int32) : MdF yX6_voice cX6_voice 4 (some .int) 7 156 [.int (nI i), .int (nI 1), .int x] f a (some (.int ((((x + (nI 1)) + (vF f 4 i (a 1 (58 + 14 * i + 1)) 26)) * (nI 2)) - ((nI 1) - (vF f 4 i (a 1 (58 + 14 * i + 1)) 27))))) (upd (vF f 4 i (a 1 (58 + 14 * i + 1))) 24 (nI (0 + 1 + 1 + 1 + 1 + 1))) (va_up a 14 (upd (upd (upd (upd (upd (a 14) 0 (nI 50)) (0 + 1) (nI 20)) (0 + 1 + 1) (nI 11)) (0 + 1 + 1 + 1) (nI 10)) (0 + 1 + 1 + 1 + 1) (nI 12))) := by
  refine MdF.ofI (by decide) rfl (Nat.le_of_ble_eq_true rfl) ?_
  intro p l e R s m args below meth c Q D h dA ls hx hb hml hRf hRl hts hown hK hI hM hl hret
  have hl : lv_has ls 4 [(0, .ref (h 0)), (1, .int (nI i)), (2, .int (nI 1)), (3, .int x)] := hl
  have hN2 := hN.2
  refine lv_aload_n hx hb dX6_voice_0 rfl (lv_at hl 0 rfl) ?_
  refine lv_iload_n hx hb dX6_voice_1 rfl (lv_at hl 1 rfl) ?_
  refine md_callI (y := yX6_isCow) hx hb hml hown hts hK hI hM (met_isCow f a (nI i)) q1574 q1576 qs37 q1577 ndX6_isCow rfl (by rw [hRf]; decide) (by rw [hRl]; decide) hl.1 rfl (Nat.le_of_ble_eq_true rfl) dX6_voice_2 (fun H locs hM => ?_)
  refine w_if_eqT (tgt := 17) hx hb dX6_voice_5 (by decide) (fun c_1 => ?_) (fun c_1 => ?_)
  · exact absurd (by first | exact (in_nat (by decide)).mpr ⟨_, by omega, rfl⟩ | exact (in_nat1 _ (by decide) (by decide)).mpr ⟨_, by omega, by omega, rfl⟩ | exact cow_in hN (by omega) | assumption) c_1
  · refine lv_iload_n hx hb dX6_voice_8 rfl (lv_at hl 2 rfl) ?_
    refine lv_iconst (v := nI 0) hx hb dX6_voice_9 (by decide) ?_
    refine lv_iconst (v := nI 3) hx hb dX6_voice_10 (by decide) ?_
    refine st_callI (y := yX6_in) hx hb hml hown hts (met_in (nI 1) (nI 0) (nI 3)) q1482 q1483 q70 q1484 ndX6_in rfl (by rw [hRf]; decide) (by rw [hRl]; decide) ⟨Nat.zero_le _, Nat.zero_le _⟩ hl.1 rfl (Nat.le_of_ble_eq_true rfl) dX6_voice_11 ?_
    refine w_if_neT (tgt := 24) hx hb dX6_voice_14 (by decide) (fun c_2 => ?_) (fun c_2 => ?_)
    · refine lv_aload_n hx hb dX6_voice_24 rfl (lv_at hl 0 rfl) ?_
      refine lv_iconst (v := nI 0) hx hb dX6_voice_25 (by decide) ?_
      refine md_put hx hb hts hown hK hI hM 24 (by decide) q1414 rfl rfl rfl rfl rfl dX6_voice_26 (fun H locs hM => ?_)
      refine lv_aload_n hx hb dX6_voice_29 rfl (lv_at hl 0 rfl) ?_
      refine lv_aload_n hx hb dX6_voice_30 rfl (lv_at hl 0 rfl) ?_
      refine lv_iload_n hx hb dX6_voice_31 rfl (lv_at hl 1 rfl) ?_
      refine lv_iconst (v := nI 0) hx hb dX6_voice_32 (by decide) ?_
      refine md_callI (y := yX6_its) hx hb hml hown hts hK hI hM (met_its (upd f 24 (nI 0)) a i 0 (by omega)) q1557 q1559 qs35 q1560 ndX6_its rfl (by rw [hRf]; decide) (by rw [hRl]; decide) hl.1 rfl (Nat.le_of_ble_eq_true rfl) dX6_voice_33 (fun H locs hM => ?_)
      refine w_top (nI 4) (hkd) ?_
      refine md_put hx hb hts hown hK hI hM 25 (by decide) q1415 rfl rfl rfl rfl rfl dX6_voice_36 (fun H locs hM => ?_)
      refine lv_aload_n hx hb dX6_voice_39 rfl (lv_at hl 0 rfl) ?_
      refine lv_iload_n hx hb dX6_voice_40 rfl (lv_at hl 1 rfl) ?_
      refine md_put hx hb hts hown hK hI hM 26 (by decide) q1416 rfl rfl rfl rfl rfl dX6_voice_41 (fun H locs hM => ?_)
      refine lv_aload_n hx hb dX6_voice_44 rfl (lv_at hl 0 rfl) ?_
      refine lv_aload_n hx hb dX6_voice_45 rfl (lv_at hl 0 rfl) ?_
      refine lv_iload_n hx hb dX6_voice_46 rfl (lv_at hl 1 rfl) ?_
      refine lv_iconst (v := nI 1) hx hb dX6_voice_47 (by decide) ?_
      refine md_callI (y := yX6_its) hx hb hml hown hts hK hI hM (met_its (upd (upd (upd f 24 (nI 0)) 25 (nI 4)) 26 (nI i)) a i 1 (by omega)) q1557 q1559 qs35 q1560 ndX6_its rfl (by rw [hRf]; decide) (by rw [hRl]; decide) hl.1 rfl (Nat.le_of_ble_eq_true rfl) dX6_voice_48 (fun H locs hM => ?_)
      refine md_put hx hb hts hown hK hI hM 27 (by decide) q1417 rfl rfl rfl rfl rfl dX6_voice_51 (fun H locs hM => ?_)
      have hM := hM.to (a' := va_up a 14 (a 14)) rfl (va_self a 14)
      have hM := hM.to (f' := upd (vF f 4 i (a 1 (58 + 14 * i + 1))) 24 (nI 0)) (vF_0 _ _ _ _) rfl
      refine lv_iload_n hx hb dX6_voice_54 rfl (lv_at hl 2 rfl) ?_
      refine lv_tableIn (off := 35) (tgt := 90) hx hb dX6_voice_55 (by decide) (by decide) (by rfl) (by decide) ?_
      refine lv_aload_n hx hb dX6_voice_90 rfl (lv_at hl 0 rfl) ?_
      refine lv_aload_n hx hb dX6_voice_91 rfl (lv_at hl 0 rfl) ?_
      refine md_get (v := .int ((upd (vF f 4 i (a 1 (58 + 14 * i + 1))) 24 (nI 0)) 25)) hx hb hts hown hK hM 25 (by decide) q1415 rfl rfl dX6_voice_92 ?_
      refine w_top (nI 4) (rfl) ?_
      refine lv_iload_n hx hb dX6_voice_95 rfl (lv_at hl 3 rfl) ?_
      refine md_callI (y := yX6_eatsIn) hx hb hml hown hts hK hI hM (met_eatsIn_4_4 (vF f 4 i (a 1 (58 + 14 * i + 1))) a (a 14) 0 rfl x (by omega)) q1765 q1767 qs57 q1768 ndX6_eatsIn rfl (by rw [hRf]; decide) (by rw [hRl]; decide) hl.1 rfl (Nat.le_of_ble_eq_true rfl) dX6_voice_96 (fun H locs hM => ?_)
      exact hret hM (rfl) dX6_voice_99
    · exact absurd (by first | exact (in_nat (by decide)).mpr ⟨_, by omega, rfl⟩ | exact (in_nat1 _ (by decide) (by decide)).mpr ⟨_, by omega, by omega, rfl⟩ | exact cow_in hN (by omega) | assumption) c_2
set_option maxHeartbeats 400000 in
theorem met_voice_1_5 (f : Nat → Int32) (a : Nat → Nat → Int32) (i : Nat) (hi : i < cl (a 1 3)) (hN : okN (a 1 3) 5) (hkd : a 1 (58 + 14 * i + 0) = nI 5) (x : Int32) : MdF yX6_voice cX6_voice 4 (some .int) 7 156 [.int (nI i), .int (nI 1), .int x] f a (some (.int (((x + (vF f 5 i (a 1 (58 + 14 * i + 1)) 26)) * (nI 3)) * (nI 2)))) (upd (vF f 5 i (a 1 (58 + 14 * i + 1))) 24 (nI (0 + 1 + 1 + 1))) (va_up a 14 (upd (upd (upd (a 14) 0 (nI 11)) (0 + 1) (nI 30)) (0 + 1 + 1) (nI 10))) := by
  refine MdF.ofI (by decide) rfl (Nat.le_of_ble_eq_true rfl) ?_
  intro p l e R s m args below meth c Q D h dA ls hx hb hml hRf hRl hts hown hK hI hM hl hret
  have hl : lv_has ls 4 [(0, .ref (h 0)), (1, .int (nI i)), (2, .int (nI 1)), (3, .int x)] := hl
  have hN2 := hN.2
  refine lv_aload_n hx hb dX6_voice_0 rfl (lv_at hl 0 rfl) ?_
  refine lv_iload_n hx hb dX6_voice_1 rfl (lv_at hl 1 rfl) ?_
  refine md_callI (y := yX6_isCow) hx hb hml hown hts hK hI hM (met_isCow f a (nI i)) q1574 q1576 qs37 q1577 ndX6_isCow rfl (by rw [hRf]; decide) (by rw [hRl]; decide) hl.1 rfl (Nat.le_of_ble_eq_true rfl) dX6_voice_2 (fun H locs hM => ?_)
  refine w_if_eqT (tgt := 17) hx hb dX6_voice_5 (by decide) (fun c_1 => ?_) (fun c_1 => ?_)
  · exact absurd (by first | exact (in_nat (by decide)).mpr ⟨_, by omega, rfl⟩ | exact (in_nat1 _ (by decide) (by decide)).mpr ⟨_, by omega, by omega, rfl⟩ | exact cow_in hN (by omega) | assumption) c_1
  · refine lv_iload_n hx hb dX6_voice_8 rfl (lv_at hl 2 rfl) ?_
    refine lv_iconst (v := nI 0) hx hb dX6_voice_9 (by decide) ?_
    refine lv_iconst (v := nI 3) hx hb dX6_voice_10 (by decide) ?_
    refine st_callI (y := yX6_in) hx hb hml hown hts (met_in (nI 1) (nI 0) (nI 3)) q1482 q1483 q70 q1484 ndX6_in rfl (by rw [hRf]; decide) (by rw [hRl]; decide) ⟨Nat.zero_le _, Nat.zero_le _⟩ hl.1 rfl (Nat.le_of_ble_eq_true rfl) dX6_voice_11 ?_
    refine w_if_neT (tgt := 24) hx hb dX6_voice_14 (by decide) (fun c_2 => ?_) (fun c_2 => ?_)
    · refine lv_aload_n hx hb dX6_voice_24 rfl (lv_at hl 0 rfl) ?_
      refine lv_iconst (v := nI 0) hx hb dX6_voice_25 (by decide) ?_
      refine md_put hx hb hts hown hK hI hM 24 (by decide) q1414 rfl rfl rfl rfl rfl dX6_voice_26 (fun H locs hM => ?_)
      refine lv_aload_n hx hb dX6_voice_29 rfl (lv_at hl 0 rfl) ?_
      refine lv_aload_n hx hb dX6_voice_30 rfl (lv_at hl 0 rfl) ?_
      refine lv_iload_n hx hb dX6_voice_31 rfl (lv_at hl 1 rfl) ?_
      refine lv_iconst (v := nI 0) hx hb dX6_voice_32 (by decide) ?_
      refine md_callI (y := yX6_its) hx hb hml hown hts hK hI hM (met_its (upd f 24 (nI 0)) a i 0 (by omega)) q1557 q1559 qs35 q1560 ndX6_its rfl (by rw [hRf]; decide) (by rw [hRl]; decide) hl.1 rfl (Nat.le_of_ble_eq_true rfl) dX6_voice_33 (fun H locs hM => ?_)
      refine w_top (nI 5) (hkd) ?_
      refine md_put hx hb hts hown hK hI hM 25 (by decide) q1415 rfl rfl rfl rfl rfl dX6_voice_36 (fun H locs hM => ?_)
      refine lv_aload_n hx hb dX6_voice_39 rfl (lv_at hl 0 rfl) ?_
      refine lv_iload_n hx hb dX6_voice_40 rfl (lv_at hl 1 rfl) ?_
      refine md_put hx hb hts hown hK hI hM 26 (by decide) q1416 rfl rfl rfl rfl rfl dX6_voice_41 (fun H locs hM => ?_)
      refine lv_aload_n hx hb dX6_voice_44 rfl (lv_at hl 0 rfl) ?_
      refine lv_aload_n hx hb dX6_voice_45 rfl (lv_at hl 0 rfl) ?_
      refine lv_iload_n hx hb dX6_voice_46 rfl (lv_at hl 1 rfl) ?_
      refine lv_iconst (v := nI 1) hx hb dX6_voice_47 (by decide) ?_
      refine md_callI (y := yX6_its) hx hb hml hown hts hK hI hM (met_its (upd (upd (upd f 24 (nI 0)) 25 (nI 5)) 26 (nI i)) a i 1 (by omega)) q1557 q1559 qs35 q1560 ndX6_its rfl (by rw [hRf]; decide) (by rw [hRl]; decide) hl.1 rfl (Nat.le_of_ble_eq_true rfl) dX6_voice_48 (fun H locs hM => ?_)
      refine md_put hx hb hts hown hK hI hM 27 (by decide) q1417 rfl rfl rfl rfl rfl dX6_voice_51 (fun H locs hM => ?_)
      have hM := hM.to (a' := va_up a 14 (a 14)) rfl (va_self a 14)
      have hM := hM.to (f' := upd (vF f 5 i (a 1 (58 + 14 * i + 1))) 24 (nI 0)) (vF_0 _ _ _ _) rfl
      refine lv_iload_n hx hb dX6_voice_54 rfl (lv_at hl 2 rfl) ?_
      refine lv_tableIn (off := 35) (tgt := 90) hx hb dX6_voice_55 (by decide) (by decide) (by rfl) (by decide) ?_
      refine lv_aload_n hx hb dX6_voice_90 rfl (lv_at hl 0 rfl) ?_
      refine lv_aload_n hx hb dX6_voice_91 rfl (lv_at hl 0 rfl) ?_
      refine md_get (v := .int ((upd (vF f 5 i (a 1 (58 + 14 * i + 1))) 24 (nI 0)) 25)) hx hb hts hown hK hM 25 (by decide) q1415 rfl rfl dX6_voice_92 ?_
      refine w_top (nI 5) (rfl) ?_
      refine lv_iload_n hx hb dX6_voice_95 rfl (lv_at hl 3 rfl) ?_
      refine md_callI (y := yX6_eatsIn) hx hb hml hown hts hK hI hM (met_eatsIn_5_5 (vF f 5 i (a 1 (58 + 14 * i + 1))) a (a 14) 0 rfl x (by omega)) q1765 q1767 qs57 q1768 ndX6_eatsIn rfl (by rw [hRf]; decide) (by rw [hRl]; decide) hl.1 rfl (Nat.le_of_ble_eq_true rfl) dX6_voice_96 (fun H locs hM => ?_)
      exact hret hM (rfl) dX6_voice_99
    · exact absurd (by first | exact (in_nat (by decide)).mpr ⟨_, by omega, rfl⟩ | exact (in_nat1 _ (by decide) (by decide)).mpr ⟨_, by omega, by omega, rfl⟩ | exact cow_in hN (by omega) | assumption) c_2
set_option maxHeartbeats 400000 in
theorem met_voice_1_6 (f : Nat → Int32) (a : Nat → Nat → Int32) (i : Nat) (hi : i < cl (a 1 3)) (hN : okN (a 1 3) 5) (hkd : a 1 (58 + 14 * i + 0) = nI 6) (x : Int32) : MdF yX6_voice cX6_voice 4 (some .int) 7 156 [.int (nI i), .int (nI 1), .int x] f a (some (.int ((x + (vF f 6 i (a 1 (58 + 14 * i + 1)) 26)) * (nI 2)))) (upd (vF f 6 i (a 1 (58 + 14 * i + 1))) 24 (nI (0 + 1 + 1))) (va_up a 14 (upd (upd (a 14) 0 (nI 11)) (0 + 1) (nI 10))) := by
  refine MdF.ofI (by decide) rfl (Nat.le_of_ble_eq_true rfl) ?_
  intro p l e R s m args below meth c Q D h dA ls hx hb hml hRf hRl hts hown hK hI hM hl hret
  have hl : lv_has ls 4 [(0, .ref (h 0)), (1, .int (nI i)), (2, .int (nI 1)), (3, .int x)] := hl
  have hN2 := hN.2
  refine lv_aload_n hx hb dX6_voice_0 rfl (lv_at hl 0 rfl) ?_
  refine lv_iload_n hx hb dX6_voice_1 rfl (lv_at hl 1 rfl) ?_
  refine md_callI (y := yX6_isCow) hx hb hml hown hts hK hI hM (met_isCow f a (nI i)) q1574 q1576 qs37 q1577 ndX6_isCow rfl (by rw [hRf]; decide) (by rw [hRl]; decide) hl.1 rfl (Nat.le_of_ble_eq_true rfl) dX6_voice_2 (fun H locs hM => ?_)
  refine w_if_eqT (tgt := 17) hx hb dX6_voice_5 (by decide) (fun c_1 => ?_) (fun c_1 => ?_)
  · exact absurd (by first | exact (in_nat (by decide)).mpr ⟨_, by omega, rfl⟩ | exact (in_nat1 _ (by decide) (by decide)).mpr ⟨_, by omega, by omega, rfl⟩ | exact cow_in hN (by omega) | assumption) c_1
  · refine lv_iload_n hx hb dX6_voice_8 rfl (lv_at hl 2 rfl) ?_
    refine lv_iconst (v := nI 0) hx hb dX6_voice_9 (by decide) ?_
    refine lv_iconst (v := nI 3) hx hb dX6_voice_10 (by decide) ?_
    refine st_callI (y := yX6_in) hx hb hml hown hts (met_in (nI 1) (nI 0) (nI 3)) q1482 q1483 q70 q1484 ndX6_in rfl (by rw [hRf]; decide) (by rw [hRl]; decide) ⟨Nat.zero_le _, Nat.zero_le _⟩ hl.1 rfl (Nat.le_of_ble_eq_true rfl) dX6_voice_11 ?_
    refine w_if_neT (tgt := 24) hx hb dX6_voice_14 (by decide) (fun c_2 => ?_) (fun c_2 => ?_)
    · refine lv_aload_n hx hb dX6_voice_24 rfl (lv_at hl 0 rfl) ?_
      refine lv_iconst (v := nI 0) hx hb dX6_voice_25 (by decide) ?_
      refine md_put hx hb hts hown hK hI hM 24 (by decide) q1414 rfl rfl rfl rfl rfl dX6_voice_26 (fun H locs hM => ?_)
      refine lv_aload_n hx hb dX6_voice_29 rfl (lv_at hl 0 rfl) ?_
      refine lv_aload_n hx hb dX6_voice_30 rfl (lv_at hl 0 rfl) ?_
      refine lv_iload_n hx hb dX6_voice_31 rfl (lv_at hl 1 rfl) ?_
      refine lv_iconst (v := nI 0) hx hb dX6_voice_32 (by decide) ?_
      refine md_callI (y := yX6_its) hx hb hml hown hts hK hI hM (met_its (upd f 24 (nI 0)) a i 0 (by omega)) q1557 q1559 qs35 q1560 ndX6_its rfl (by rw [hRf]; decide) (by rw [hRl]; decide) hl.1 rfl (Nat.le_of_ble_eq_true rfl) dX6_voice_33 (fun H locs hM => ?_)
      refine w_top (nI 6) (hkd) ?_
      refine md_put hx hb hts hown hK hI hM 25 (by decide) q1415 rfl rfl rfl rfl rfl dX6_voice_36 (fun H locs hM => ?_)
      refine lv_aload_n hx hb dX6_voice_39 rfl (lv_at hl 0 rfl) ?_
      refine lv_iload_n hx hb dX6_voice_40 rfl (lv_at hl 1 rfl) ?_
      refine md_put hx hb hts hown hK hI hM 26 (by decide) q1416 rfl rfl rfl rfl rfl dX6_voice_41 (fun H locs hM => ?_)
      refine lv_aload_n hx hb dX6_voice_44 rfl (lv_at hl 0 rfl) ?_
      refine lv_aload_n hx hb dX6_voice_45 rfl (lv_at hl 0 rfl) ?_
      refine lv_iload_n hx hb dX6_voice_46 rfl (lv_at hl 1 rfl) ?_
      refine lv_iconst (v := nI 1) hx hb dX6_voice_47 (by decide) ?_
      refine md_callI (y := yX6_its) hx hb hml hown hts hK hI hM (met_its (upd (upd (upd f 24 (nI 0)) 25 (nI 6)) 26 (nI i)) a i 1 (by omega)) q1557 q1559 qs35 q1560 ndX6_its rfl (by rw [hRf]; decide) (by rw [hRl]; decide) hl.1 rfl (Nat.le_of_ble_eq_true rfl) dX6_voice_48 (fun H locs hM => ?_)
      refine md_put hx hb hts hown hK hI hM 27 (by decide) q1417 rfl rfl rfl rfl rfl dX6_voice_51 (fun H locs hM => ?_)
      have hM := hM.to (a' := va_up a 14 (a 14)) rfl (va_self a 14)
      have hM := hM.to (f' := upd (vF f 6 i (a 1 (58 + 14 * i + 1))) 24 (nI 0)) (vF_0 _ _ _ _) rfl
      refine lv_iload_n hx hb dX6_voice_54 rfl (lv_at hl 2 rfl) ?_
      refine lv_tableIn (off := 35) (tgt := 90) hx hb dX6_voice_55 (by decide) (by decide) (by rfl) (by decide) ?_
      refine lv_aload_n hx hb dX6_voice_90 rfl (lv_at hl 0 rfl) ?_
      refine lv_aload_n hx hb dX6_voice_91 rfl (lv_at hl 0 rfl) ?_
      refine md_get (v := .int ((upd (vF f 6 i (a 1 (58 + 14 * i + 1))) 24 (nI 0)) 25)) hx hb hts hown hK hM 25 (by decide) q1415 rfl rfl dX6_voice_92 ?_
      refine w_top (nI 6) (rfl) ?_
      refine lv_iload_n hx hb dX6_voice_95 rfl (lv_at hl 3 rfl) ?_
      refine md_callI (y := yX6_eatsIn) hx hb hml hown hts hK hI hM (met_eatsIn_6_6 (vF f 6 i (a 1 (58 + 14 * i + 1))) a (a 14) 0 rfl x (by omega)) q1765 q1767 qs57 q1768 ndX6_eatsIn rfl (by rw [hRf]; decide) (by rw [hRl]; decide) hl.1 rfl (Nat.le_of_ble_eq_true rfl) dX6_voice_96 (fun H locs hM => ?_)
      exact hret hM (rfl) dX6_voice_99
    · exact absurd (by first | exact (in_nat (by decide)).mpr ⟨_, by omega, rfl⟩ | exact (in_nat1 _ (by decide) (by decide)).mpr ⟨_, by omega, by omega, rfl⟩ | exact cow_in hN (by omega) | assumption) c_2
set_option maxHeartbeats 400000 in
theorem met_voice_2_0 (f : Nat → Int32) (a : Nat → Nat → Int32) (i : Nat) (hi : i < cl (a 1 3)) (hN : okN (a 1 3) 5) (hkd : a 1 (58 + 14 * i + 0) = nI 0) (x : Int32) : MdF yX6_voice cX6_voice 4 (some .int) 2 43 [.int (nI i), .int (nI 2), .int x] f a (some (.int (x - (vF f 0 i (a 1 (58 + 14 * i + 1)) 27)))) (upd (vF f 0 i (a 1 (58 + 14 * i + 1))) 24 (nI (0 + 1))) (va_up a 14 (upd (a 14) 0 (nI 12))) := by
  refine MdF.ofI (by decide) rfl (Nat.le_of_ble_eq_true rfl) ?_
  intro p l e R s m args below meth c Q D h dA ls hx hb hml hRf hRl hts hown hK hI hM hl hret
  have hl : lv_has ls 4 [(0, .ref (h 0)), (1, .int (nI i)), (2, .int (nI 2)), (3, .int x)] := hl
  have hN2 := hN.2
  refine lv_aload_n hx hb dX6_voice_0 rfl (lv_at hl 0 rfl) ?_
  refine lv_iload_n hx hb dX6_voice_1 rfl (lv_at hl 1 rfl) ?_
  refine md_callI (y := yX6_isCow) hx hb hml hown hts hK hI hM (met_isCow f a (nI i)) q1574 q1576 qs37 q1577 ndX6_isCow rfl (by rw [hRf]; decide) (by rw [hRl]; decide) hl.1 rfl (Nat.le_of_ble_eq_true rfl) dX6_voice_2 (fun H locs hM => ?_)
  refine w_if_eqT (tgt := 17) hx hb dX6_voice_5 (by decide) (fun c_1 => ?_) (fun c_1 => ?_)
  · exact absurd (by first | exact (in_nat (by decide)).mpr ⟨_, by omega, rfl⟩ | exact (in_nat1 _ (by decide) (by decide)).mpr ⟨_, by omega, by omega, rfl⟩ | exact cow_in hN (by omega) | assumption) c_1
  · refine lv_iload_n hx hb dX6_voice_8 rfl (lv_at hl 2 rfl) ?_
    refine lv_iconst (v := nI 0) hx hb dX6_voice_9 (by decide) ?_
    refine lv_iconst (v := nI 3) hx hb dX6_voice_10 (by decide) ?_
    refine st_callI (y := yX6_in) hx hb hml hown hts (met_in (nI 2) (nI 0) (nI 3)) q1482 q1483 q70 q1484 ndX6_in rfl (by rw [hRf]; decide) (by rw [hRl]; decide) ⟨Nat.zero_le _, Nat.zero_le _⟩ hl.1 rfl (Nat.le_of_ble_eq_true rfl) dX6_voice_11 ?_
    refine w_if_neT (tgt := 24) hx hb dX6_voice_14 (by decide) (fun c_2 => ?_) (fun c_2 => ?_)
    · refine lv_aload_n hx hb dX6_voice_24 rfl (lv_at hl 0 rfl) ?_
      refine lv_iconst (v := nI 0) hx hb dX6_voice_25 (by decide) ?_
      refine md_put hx hb hts hown hK hI hM 24 (by decide) q1414 rfl rfl rfl rfl rfl dX6_voice_26 (fun H locs hM => ?_)
      refine lv_aload_n hx hb dX6_voice_29 rfl (lv_at hl 0 rfl) ?_
      refine lv_aload_n hx hb dX6_voice_30 rfl (lv_at hl 0 rfl) ?_
      refine lv_iload_n hx hb dX6_voice_31 rfl (lv_at hl 1 rfl) ?_
      refine lv_iconst (v := nI 0) hx hb dX6_voice_32 (by decide) ?_
      refine md_callI (y := yX6_its) hx hb hml hown hts hK hI hM (met_its (upd f 24 (nI 0)) a i 0 (by omega)) q1557 q1559 qs35 q1560 ndX6_its rfl (by rw [hRf]; decide) (by rw [hRl]; decide) hl.1 rfl (Nat.le_of_ble_eq_true rfl) dX6_voice_33 (fun H locs hM => ?_)
      refine w_top (nI 0) (hkd) ?_
      refine md_put hx hb hts hown hK hI hM 25 (by decide) q1415 rfl rfl rfl rfl rfl dX6_voice_36 (fun H locs hM => ?_)
      refine lv_aload_n hx hb dX6_voice_39 rfl (lv_at hl 0 rfl) ?_
      refine lv_iload_n hx hb dX6_voice_40 rfl (lv_at hl 1 rfl) ?_
      refine md_put hx hb hts hown hK hI hM 26 (by decide) q1416 rfl rfl rfl rfl rfl dX6_voice_41 (fun H locs hM => ?_)
      refine lv_aload_n hx hb dX6_voice_44 rfl (lv_at hl 0 rfl) ?_
      refine lv_aload_n hx hb dX6_voice_45 rfl (lv_at hl 0 rfl) ?_
      refine lv_iload_n hx hb dX6_voice_46 rfl (lv_at hl 1 rfl) ?_
      refine lv_iconst (v := nI 1) hx hb dX6_voice_47 (by decide) ?_
      refine md_callI (y := yX6_its) hx hb hml hown hts hK hI hM (met_its (upd (upd (upd f 24 (nI 0)) 25 (nI 0)) 26 (nI i)) a i 1 (by omega)) q1557 q1559 qs35 q1560 ndX6_its rfl (by rw [hRf]; decide) (by rw [hRl]; decide) hl.1 rfl (Nat.le_of_ble_eq_true rfl) dX6_voice_48 (fun H locs hM => ?_)
      refine md_put hx hb hts hown hK hI hM 27 (by decide) q1417 rfl rfl rfl rfl rfl dX6_voice_51 (fun H locs hM => ?_)
      have hM := hM.to (a' := va_up a 14 (a 14)) rfl (va_self a 14)
      have hM := hM.to (f' := upd (vF f 0 i (a 1 (58 + 14 * i + 1))) 24 (nI 0)) (vF_0 _ _ _ _) rfl
      refine lv_iload_n hx hb dX6_voice_54 rfl (lv_at hl 2 rfl) ?_
      refine lv_tableIn (off := 45) (tgt := 100) hx hb dX6_voice_55 (by decide) (by decide) (by rfl) (by decide) ?_
      refine lv_aload_n hx hb dX6_voice_100 rfl (lv_at hl 0 rfl) ?_
      refine lv_aload_n hx hb dX6_voice_101 rfl (lv_at hl 0 rfl) ?_
      refine md_get (v := .int ((upd (vF f 0 i (a 1 (58 + 14 * i + 1))) 24 (nI 0)) 25)) hx hb hts hown hK hM 25 (by decide) q1415 rfl rfl dX6_voice_102 ?_
      refine w_top (nI 0) (rfl) ?_
      refine lv_iload_n hx hb dX6_voice_105 rfl (lv_at hl 3 rfl) ?_
      refine md_callI (y := yX6_knowsIn) hx hb hml hown hts hK hI hM (met_knowsIn_0_0 (vF f 0 i (a 1 (58 + 14 * i + 1))) a (a 14) 0 rfl x (by omega)) q1769 q1771 qs58 q1772 ndX6_knowsIn rfl (by rw [hRf]; decide) (by rw [hRl]; decide) hl.1 rfl (Nat.le_of_ble_eq_true rfl) dX6_voice_106 (fun H locs hM => ?_)
      exact hret hM (rfl) dX6_voice_109
    · exact absurd (by first | exact (in_nat (by decide)).mpr ⟨_, by omega, rfl⟩ | exact (in_nat1 _ (by decide) (by decide)).mpr ⟨_, by omega, by omega, rfl⟩ | exact cow_in hN (by omega) | assumption) c_2
set_option maxHeartbeats 400000 in
theorem met_voice_2_1 (f : Nat → Int32) (a : Nat → Nat → Int32) (i : Nat) (hi : i < cl (a 1 3)) (hN : okN (a 1 3) 5) (hkd : a 1 (58 + 14 * i + 0) = nI 1) (x : Int32) : MdF yX6_voice cX6_voice 4 (some .int) 3 65 [.int (nI i), .int (nI 2), .int x] f a (some (.int (x - (vF f 1 i (a 1 (58 + 14 * i + 1)) 27)))) (upd (vF f 1 i (a 1 (58 + 14 * i + 1))) 24 (nI (0 + 1))) (va_up a 14 (upd (a 14) 0 (nI 12))) := by
  refine MdF.ofI (by decide) rfl (Nat.le_of_ble_eq_true rfl) ?_
  intro p l e R s m args below meth c Q D h dA ls hx hb hml hRf hRl hts hown hK hI hM hl hret
  have hl : lv_has ls 4 [(0, .ref (h 0)), (1, .int (nI i)), (2, .int (nI 2)), (3, .int x)] := hl
  have hN2 := hN.2
  refine lv_aload_n hx hb dX6_voice_0 rfl (lv_at hl 0 rfl) ?_
  refine lv_iload_n hx hb dX6_voice_1 rfl (lv_at hl 1 rfl) ?_
  refine md_callI (y := yX6_isCow) hx hb hml hown hts hK hI hM (met_isCow f a (nI i)) q1574 q1576 qs37 q1577 ndX6_isCow rfl (by rw [hRf]; decide) (by rw [hRl]; decide) hl.1 rfl (Nat.le_of_ble_eq_true rfl) dX6_voice_2 (fun H locs hM => ?_)
  refine w_if_eqT (tgt := 17) hx hb dX6_voice_5 (by decide) (fun c_1 => ?_) (fun c_1 => ?_)
  · exact absurd (by first | exact (in_nat (by decide)).mpr ⟨_, by omega, rfl⟩ | exact (in_nat1 _ (by decide) (by decide)).mpr ⟨_, by omega, by omega, rfl⟩ | exact cow_in hN (by omega) | assumption) c_1
  · refine lv_iload_n hx hb dX6_voice_8 rfl (lv_at hl 2 rfl) ?_
    refine lv_iconst (v := nI 0) hx hb dX6_voice_9 (by decide) ?_
    refine lv_iconst (v := nI 3) hx hb dX6_voice_10 (by decide) ?_
    refine st_callI (y := yX6_in) hx hb hml hown hts (met_in (nI 2) (nI 0) (nI 3)) q1482 q1483 q70 q1484 ndX6_in rfl (by rw [hRf]; decide) (by rw [hRl]; decide) ⟨Nat.zero_le _, Nat.zero_le _⟩ hl.1 rfl (Nat.le_of_ble_eq_true rfl) dX6_voice_11 ?_
    refine w_if_neT (tgt := 24) hx hb dX6_voice_14 (by decide) (fun c_2 => ?_) (fun c_2 => ?_)
    · refine lv_aload_n hx hb dX6_voice_24 rfl (lv_at hl 0 rfl) ?_
      refine lv_iconst (v := nI 0) hx hb dX6_voice_25 (by decide) ?_
      refine md_put hx hb hts hown hK hI hM 24 (by decide) q1414 rfl rfl rfl rfl rfl dX6_voice_26 (fun H locs hM => ?_)
      refine lv_aload_n hx hb dX6_voice_29 rfl (lv_at hl 0 rfl) ?_
      refine lv_aload_n hx hb dX6_voice_30 rfl (lv_at hl 0 rfl) ?_
      refine lv_iload_n hx hb dX6_voice_31 rfl (lv_at hl 1 rfl) ?_
      refine lv_iconst (v := nI 0) hx hb dX6_voice_32 (by decide) ?_
      refine md_callI (y := yX6_its) hx hb hml hown hts hK hI hM (met_its (upd f 24 (nI 0)) a i 0 (by omega)) q1557 q1559 qs35 q1560 ndX6_its rfl (by rw [hRf]; decide) (by rw [hRl]; decide) hl.1 rfl (Nat.le_of_ble_eq_true rfl) dX6_voice_33 (fun H locs hM => ?_)
      refine w_top (nI 1) (hkd) ?_
      refine md_put hx hb hts hown hK hI hM 25 (by decide) q1415 rfl rfl rfl rfl rfl dX6_voice_36 (fun H locs hM => ?_)
      refine lv_aload_n hx hb dX6_voice_39 rfl (lv_at hl 0 rfl) ?_
      refine lv_iload_n hx hb dX6_voice_40 rfl (lv_at hl 1 rfl) ?_
      refine md_put hx hb hts hown hK hI hM 26 (by decide) q1416 rfl rfl rfl rfl rfl dX6_voice_41 (fun H locs hM => ?_)
      refine lv_aload_n hx hb dX6_voice_44 rfl (lv_at hl 0 rfl) ?_
      refine lv_aload_n hx hb dX6_voice_45 rfl (lv_at hl 0 rfl) ?_
      refine lv_iload_n hx hb dX6_voice_46 rfl (lv_at hl 1 rfl) ?_
      refine lv_iconst (v := nI 1) hx hb dX6_voice_47 (by decide) ?_
      refine md_callI (y := yX6_its) hx hb hml hown hts hK hI hM (met_its (upd (upd (upd f 24 (nI 0)) 25 (nI 1)) 26 (nI i)) a i 1 (by omega)) q1557 q1559 qs35 q1560 ndX6_its rfl (by rw [hRf]; decide) (by rw [hRl]; decide) hl.1 rfl (Nat.le_of_ble_eq_true rfl) dX6_voice_48 (fun H locs hM => ?_)
      refine md_put hx hb hts hown hK hI hM 27 (by decide) q1417 rfl rfl rfl rfl rfl dX6_voice_51 (fun H locs hM => ?_)
      have hM := hM.to (a' := va_up a 14 (a 14)) rfl (va_self a 14)
      have hM := hM.to (f' := upd (vF f 1 i (a 1 (58 + 14 * i + 1))) 24 (nI 0)) (vF_0 _ _ _ _) rfl
      refine lv_iload_n hx hb dX6_voice_54 rfl (lv_at hl 2 rfl) ?_
      refine lv_tableIn (off := 45) (tgt := 100) hx hb dX6_voice_55 (by decide) (by decide) (by rfl) (by decide) ?_
      refine lv_aload_n hx hb dX6_voice_100 rfl (lv_at hl 0 rfl) ?_
      refine lv_aload_n hx hb dX6_voice_101 rfl (lv_at hl 0 rfl) ?_
      refine md_get (v := .int ((upd (vF f 1 i (a 1 (58 + 14 * i + 1))) 24 (nI 0)) 25)) hx hb hts hown hK hM 25 (by decide) q1415 rfl rfl dX6_voice_102 ?_
      refine w_top (nI 1) (rfl) ?_
      refine lv_iload_n hx hb dX6_voice_105 rfl (lv_at hl 3 rfl) ?_
      refine md_callI (y := yX6_knowsIn) hx hb hml hown hts hK hI hM (met_knowsIn_1_1 (vF f 1 i (a 1 (58 + 14 * i + 1))) a (a 14) 0 rfl x (by omega)) q1769 q1771 qs58 q1772 ndX6_knowsIn rfl (by rw [hRf]; decide) (by rw [hRl]; decide) hl.1 rfl (Nat.le_of_ble_eq_true rfl) dX6_voice_106 (fun H locs hM => ?_)
      exact hret hM (rfl) dX6_voice_109
    · exact absurd (by first | exact (in_nat (by decide)).mpr ⟨_, by omega, rfl⟩ | exact (in_nat1 _ (by decide) (by decide)).mpr ⟨_, by omega, by omega, rfl⟩ | exact cow_in hN (by omega) | assumption) c_2
set_option maxHeartbeats 400000 in
theorem met_voice_2_2 (f : Nat → Int32) (a : Nat → Nat → Int32) (i : Nat) (hi : i < cl (a 1 3)) (hN : okN (a 1 3) 5) (hkd : a 1 (58 + 14 * i + 0) = nI 2) (x : Int32) : MdF yX6_voice cX6_voice 4 (some .int) 3 65 [.int (nI i), .int (nI 2), .int x] f a (some (.int (x - (vF f 2 i (a 1 (58 + 14 * i + 1)) 27)))) (upd (vF f 2 i (a 1 (58 + 14 * i + 1))) 24 (nI (0 + 1))) (va_up a 14 (upd (a 14) 0 (nI 12))) := by
  refine MdF.ofI (by decide) rfl (Nat.le_of_ble_eq_true rfl) ?_
  intro p l e R s m args below meth c Q D h dA ls hx hb hml hRf hRl hts hown hK hI hM hl hret
  have hl : lv_has ls 4 [(0, .ref (h 0)), (1, .int (nI i)), (2, .int (nI 2)), (3, .int x)] := hl
  have hN2 := hN.2
  refine lv_aload_n hx hb dX6_voice_0 rfl (lv_at hl 0 rfl) ?_
  refine lv_iload_n hx hb dX6_voice_1 rfl (lv_at hl 1 rfl) ?_
  refine md_callI (y := yX6_isCow) hx hb hml hown hts hK hI hM (met_isCow f a (nI i)) q1574 q1576 qs37 q1577 ndX6_isCow rfl (by rw [hRf]; decide) (by rw [hRl]; decide) hl.1 rfl (Nat.le_of_ble_eq_true rfl) dX6_voice_2 (fun H locs hM => ?_)
  refine w_if_eqT (tgt := 17) hx hb dX6_voice_5 (by decide) (fun c_1 => ?_) (fun c_1 => ?_)
  · exact absurd (by first | exact (in_nat (by decide)).mpr ⟨_, by omega, rfl⟩ | exact (in_nat1 _ (by decide) (by decide)).mpr ⟨_, by omega, by omega, rfl⟩ | exact cow_in hN (by omega) | assumption) c_1
  · refine lv_iload_n hx hb dX6_voice_8 rfl (lv_at hl 2 rfl) ?_
    refine lv_iconst (v := nI 0) hx hb dX6_voice_9 (by decide) ?_
    refine lv_iconst (v := nI 3) hx hb dX6_voice_10 (by decide) ?_
    refine st_callI (y := yX6_in) hx hb hml hown hts (met_in (nI 2) (nI 0) (nI 3)) q1482 q1483 q70 q1484 ndX6_in rfl (by rw [hRf]; decide) (by rw [hRl]; decide) ⟨Nat.zero_le _, Nat.zero_le _⟩ hl.1 rfl (Nat.le_of_ble_eq_true rfl) dX6_voice_11 ?_
    refine w_if_neT (tgt := 24) hx hb dX6_voice_14 (by decide) (fun c_2 => ?_) (fun c_2 => ?_)
    · refine lv_aload_n hx hb dX6_voice_24 rfl (lv_at hl 0 rfl) ?_
      refine lv_iconst (v := nI 0) hx hb dX6_voice_25 (by decide) ?_
      refine md_put hx hb hts hown hK hI hM 24 (by decide) q1414 rfl rfl rfl rfl rfl dX6_voice_26 (fun H locs hM => ?_)
      refine lv_aload_n hx hb dX6_voice_29 rfl (lv_at hl 0 rfl) ?_
      refine lv_aload_n hx hb dX6_voice_30 rfl (lv_at hl 0 rfl) ?_
      refine lv_iload_n hx hb dX6_voice_31 rfl (lv_at hl 1 rfl) ?_
      refine lv_iconst (v := nI 0) hx hb dX6_voice_32 (by decide) ?_
      refine md_callI (y := yX6_its) hx hb hml hown hts hK hI hM (met_its (upd f 24 (nI 0)) a i 0 (by omega)) q1557 q1559 qs35 q1560 ndX6_its rfl (by rw [hRf]; decide) (by rw [hRl]; decide) hl.1 rfl (Nat.le_of_ble_eq_true rfl) dX6_voice_33 (fun H locs hM => ?_)
      refine w_top (nI 2) (hkd) ?_
      refine md_put hx hb hts hown hK hI hM 25 (by decide) q1415 rfl rfl rfl rfl rfl dX6_voice_36 (fun H locs hM => ?_)
      refine lv_aload_n hx hb dX6_voice_39 rfl (lv_at hl 0 rfl) ?_
      refine lv_iload_n hx hb dX6_voice_40 rfl (lv_at hl 1 rfl) ?_
      refine md_put hx hb hts hown hK hI hM 26 (by decide) q1416 rfl rfl rfl rfl rfl dX6_voice_41 (fun H locs hM => ?_)
      refine lv_aload_n hx hb dX6_voice_44 rfl (lv_at hl 0 rfl) ?_
      refine lv_aload_n hx hb dX6_voice_45 rfl (lv_at hl 0 rfl) ?_
      refine lv_iload_n hx hb dX6_voice_46 rfl (lv_at hl 1 rfl) ?_
      refine lv_iconst (v := nI 1) hx hb dX6_voice_47 (by decide) ?_
      refine md_callI (y := yX6_its) hx hb hml hown hts hK hI hM (met_its (upd (upd (upd f 24 (nI 0)) 25 (nI 2)) 26 (nI i)) a i 1 (by omega)) q1557 q1559 qs35 q1560 ndX6_its rfl (by rw [hRf]; decide) (by rw [hRl]; decide) hl.1 rfl (Nat.le_of_ble_eq_true rfl) dX6_voice_48 (fun H locs hM => ?_)
      refine md_put hx hb hts hown hK hI hM 27 (by decide) q1417 rfl rfl rfl rfl rfl dX6_voice_51 (fun H locs hM => ?_)
      have hM := hM.to (a' := va_up a 14 (a 14)) rfl (va_self a 14)
      have hM := hM.to (f' := upd (vF f 2 i (a 1 (58 + 14 * i + 1))) 24 (nI 0)) (vF_0 _ _ _ _) rfl
      refine lv_iload_n hx hb dX6_voice_54 rfl (lv_at hl 2 rfl) ?_
      refine lv_tableIn (off := 45) (tgt := 100) hx hb dX6_voice_55 (by decide) (by decide) (by rfl) (by decide) ?_
      refine lv_aload_n hx hb dX6_voice_100 rfl (lv_at hl 0 rfl) ?_
      refine lv_aload_n hx hb dX6_voice_101 rfl (lv_at hl 0 rfl) ?_
      refine md_get (v := .int ((upd (vF f 2 i (a 1 (58 + 14 * i + 1))) 24 (nI 0)) 25)) hx hb hts hown hK hM 25 (by decide) q1415 rfl rfl dX6_voice_102 ?_
      refine w_top (nI 2) (rfl) ?_
      refine lv_iload_n hx hb dX6_voice_105 rfl (lv_at hl 3 rfl) ?_
      refine md_callI (y := yX6_knowsIn) hx hb hml hown hts hK hI hM (met_knowsIn_2_2 (vF f 2 i (a 1 (58 + 14 * i + 1))) a (a 14) 0 rfl x (by omega)) q1769 q1771 qs58 q1772 ndX6_knowsIn rfl (by rw [hRf]; decide) (by rw [hRl]; decide) hl.1 rfl (Nat.le_of_ble_eq_true rfl) dX6_voice_106 (fun H locs hM => ?_)
      exact hret hM (rfl) dX6_voice_109
    · exact absurd (by first | exact (in_nat (by decide)).mpr ⟨_, by omega, rfl⟩ | exact (in_nat1 _ (by decide) (by decide)).mpr ⟨_, by omega, by omega, rfl⟩ | exact cow_in hN (by omega) | assumption) c_2
set_option maxHeartbeats 400000 in
theorem met_voice_2_3 (f : Nat → Int32) (a : Nat → Nat → Int32) (i : Nat) (hi : i < cl (a 1 3)) (hN : okN (a 1 3) 5) (hkd : a 1 (58 + 14 * i + 0) = nI 3) (x : Int32) : MdF yX6_voice cX6_voice 4 (some .int) 3 65 [.int (nI i), .int (nI 2), .int x] f a (some (.int (-(x - (vF f 3 i (a 1 (58 + 14 * i + 1)) 27))))) (upd (vF f 3 i (a 1 (58 + 14 * i + 1))) 24 (nI (0 + 1 + 1))) (va_up a 14 (upd (upd (a 14) 0 (nI 40)) (0 + 1) (nI 12))) := by
  refine MdF.ofI (by decide) rfl (Nat.le_of_ble_eq_true rfl) ?_
  intro p l e R s m args below meth c Q D h dA ls hx hb hml hRf hRl hts hown hK hI hM hl hret
  have hl : lv_has ls 4 [(0, .ref (h 0)), (1, .int (nI i)), (2, .int (nI 2)), (3, .int x)] := hl
  have hN2 := hN.2
  refine lv_aload_n hx hb dX6_voice_0 rfl (lv_at hl 0 rfl) ?_
  refine lv_iload_n hx hb dX6_voice_1 rfl (lv_at hl 1 rfl) ?_
  refine md_callI (y := yX6_isCow) hx hb hml hown hts hK hI hM (met_isCow f a (nI i)) q1574 q1576 qs37 q1577 ndX6_isCow rfl (by rw [hRf]; decide) (by rw [hRl]; decide) hl.1 rfl (Nat.le_of_ble_eq_true rfl) dX6_voice_2 (fun H locs hM => ?_)
  refine w_if_eqT (tgt := 17) hx hb dX6_voice_5 (by decide) (fun c_1 => ?_) (fun c_1 => ?_)
  · exact absurd (by first | exact (in_nat (by decide)).mpr ⟨_, by omega, rfl⟩ | exact (in_nat1 _ (by decide) (by decide)).mpr ⟨_, by omega, by omega, rfl⟩ | exact cow_in hN (by omega) | assumption) c_1
  · refine lv_iload_n hx hb dX6_voice_8 rfl (lv_at hl 2 rfl) ?_
    refine lv_iconst (v := nI 0) hx hb dX6_voice_9 (by decide) ?_
    refine lv_iconst (v := nI 3) hx hb dX6_voice_10 (by decide) ?_
    refine st_callI (y := yX6_in) hx hb hml hown hts (met_in (nI 2) (nI 0) (nI 3)) q1482 q1483 q70 q1484 ndX6_in rfl (by rw [hRf]; decide) (by rw [hRl]; decide) ⟨Nat.zero_le _, Nat.zero_le _⟩ hl.1 rfl (Nat.le_of_ble_eq_true rfl) dX6_voice_11 ?_
    refine w_if_neT (tgt := 24) hx hb dX6_voice_14 (by decide) (fun c_2 => ?_) (fun c_2 => ?_)
    · refine lv_aload_n hx hb dX6_voice_24 rfl (lv_at hl 0 rfl) ?_
      refine lv_iconst (v := nI 0) hx hb dX6_voice_25 (by decide) ?_
      refine md_put hx hb hts hown hK hI hM 24 (by decide) q1414 rfl rfl rfl rfl rfl dX6_voice_26 (fun H locs hM => ?_)
      refine lv_aload_n hx hb dX6_voice_29 rfl (lv_at hl 0 rfl) ?_
      refine lv_aload_n hx hb dX6_voice_30 rfl (lv_at hl 0 rfl) ?_
      refine lv_iload_n hx hb dX6_voice_31 rfl (lv_at hl 1 rfl) ?_
      refine lv_iconst (v := nI 0) hx hb dX6_voice_32 (by decide) ?_
      refine md_callI (y := yX6_its) hx hb hml hown hts hK hI hM (met_its (upd f 24 (nI 0)) a i 0 (by omega)) q1557 q1559 qs35 q1560 ndX6_its rfl (by rw [hRf]; decide) (by rw [hRl]; decide) hl.1 rfl (Nat.le_of_ble_eq_true rfl) dX6_voice_33 (fun H locs hM => ?_)
      refine w_top (nI 3) (hkd) ?_
      refine md_put hx hb hts hown hK hI hM 25 (by decide) q1415 rfl rfl rfl rfl rfl dX6_voice_36 (fun H locs hM => ?_)
      refine lv_aload_n hx hb dX6_voice_39 rfl (lv_at hl 0 rfl) ?_
      refine lv_iload_n hx hb dX6_voice_40 rfl (lv_at hl 1 rfl) ?_
      refine md_put hx hb hts hown hK hI hM 26 (by decide) q1416 rfl rfl rfl rfl rfl dX6_voice_41 (fun H locs hM => ?_)
      refine lv_aload_n hx hb dX6_voice_44 rfl (lv_at hl 0 rfl) ?_
      refine lv_aload_n hx hb dX6_voice_45 rfl (lv_at hl 0 rfl) ?_
      refine lv_iload_n hx hb dX6_voice_46 rfl (lv_at hl 1 rfl) ?_
      refine lv_iconst (v := nI 1) hx hb dX6_voice_47 (by decide) ?_
      refine md_callI (y := yX6_its) hx hb hml hown hts hK hI hM (met_its (upd (upd (upd f 24 (nI 0)) 25 (nI 3)) 26 (nI i)) a i 1 (by omega)) q1557 q1559 qs35 q1560 ndX6_its rfl (by rw [hRf]; decide) (by rw [hRl]; decide) hl.1 rfl (Nat.le_of_ble_eq_true rfl) dX6_voice_48 (fun H locs hM => ?_)
      refine md_put hx hb hts hown hK hI hM 27 (by decide) q1417 rfl rfl rfl rfl rfl dX6_voice_51 (fun H locs hM => ?_)
      have hM := hM.to (a' := va_up a 14 (a 14)) rfl (va_self a 14)
      have hM := hM.to (f' := upd (vF f 3 i (a 1 (58 + 14 * i + 1))) 24 (nI 0)) (vF_0 _ _ _ _) rfl
      refine lv_iload_n hx hb dX6_voice_54 rfl (lv_at hl 2 rfl) ?_
      refine lv_tableIn (off := 45) (tgt := 100) hx hb dX6_voice_55 (by decide) (by decide) (by rfl) (by decide) ?_
      refine lv_aload_n hx hb dX6_voice_100 rfl (lv_at hl 0 rfl) ?_
      refine lv_aload_n hx hb dX6_voice_101 rfl (lv_at hl 0 rfl) ?_
      refine md_get (v := .int ((upd (vF f 3 i (a 1 (58 + 14 * i + 1))) 24 (nI 0)) 25)) hx hb hts hown hK hM 25 (by decide) q1415 rfl rfl dX6_voice_102 ?_
      refine w_top (nI 3) (rfl) ?_
      refine lv_iload_n hx hb dX6_voice_105 rfl (lv_at hl 3 rfl) ?_
      refine md_callI (y := yX6_knowsIn) hx hb hml hown hts hK hI hM (met_knowsIn_3_3 (vF f 3 i (a 1 (58 + 14 * i + 1))) a (a 14) 0 rfl x (by omega)) q1769 q1771 qs58 q1772 ndX6_knowsIn rfl (by rw [hRf]; decide) (by rw [hRl]; decide) hl.1 rfl (Nat.le_of_ble_eq_true rfl) dX6_voice_106 (fun H locs hM => ?_)
      exact hret hM (rfl) dX6_voice_109
    · exact absurd (by first | exact (in_nat (by decide)).mpr ⟨_, by omega, rfl⟩ | exact (in_nat1 _ (by decide) (by decide)).mpr ⟨_, by omega, by omega, rfl⟩ | exact cow_in hN (by omega) | assumption) c_2
set_option maxHeartbeats 400000 in
theorem met_voice_2_4 (f : Nat → Int32) (a : Nat → Nat → Int32) (i : Nat) (hi : i < cl (a 1 3)) (hN : okN (a 1 3) 5) (hkd : a 1 (58 + 14 * i + 0) = nI 4) (x : Int32) : MdF yX6_voice cX6_voice 4 (some .int) 4 87 [.int (nI i), .int (nI 2), .int x] f a (some (.int (x - (vF f 4 i (a 1 (58 + 14 * i + 1)) 27)))) (upd (vF f 4 i (a 1 (58 + 14 * i + 1))) 24 (nI (0 + 1))) (va_up a 14 (upd (a 14) 0 (nI 12))) := by
  refine MdF.ofI (by decide) rfl (Nat.le_of_ble_eq_true rfl) ?_
  intro p l e R s m args below meth c Q D h dA ls hx hb hml hRf hRl hts hown hK hI hM hl hret
  have hl : lv_has ls 4 [(0, .ref (h 0)), (1, .int (nI i)), (2, .int (nI 2)), (3, .int x)] := hl
  have hN2 := hN.2
  refine lv_aload_n hx hb dX6_voice_0 rfl (lv_at hl 0 rfl) ?_
  refine lv_iload_n hx hb dX6_voice_1 rfl (lv_at hl 1 rfl) ?_
  refine md_callI (y := yX6_isCow) hx hb hml hown hts hK hI hM (met_isCow f a (nI i)) q1574 q1576 qs37 q1577 ndX6_isCow rfl (by rw [hRf]; decide) (by rw [hRl]; decide) hl.1 rfl (Nat.le_of_ble_eq_true rfl) dX6_voice_2 (fun H locs hM => ?_)
  refine w_if_eqT (tgt := 17) hx hb dX6_voice_5 (by decide) (fun c_1 => ?_) (fun c_1 => ?_)
  · exact absurd (by first | exact (in_nat (by decide)).mpr ⟨_, by omega, rfl⟩ | exact (in_nat1 _ (by decide) (by decide)).mpr ⟨_, by omega, by omega, rfl⟩ | exact cow_in hN (by omega) | assumption) c_1
  · refine lv_iload_n hx hb dX6_voice_8 rfl (lv_at hl 2 rfl) ?_
    refine lv_iconst (v := nI 0) hx hb dX6_voice_9 (by decide) ?_
    refine lv_iconst (v := nI 3) hx hb dX6_voice_10 (by decide) ?_
    refine st_callI (y := yX6_in) hx hb hml hown hts (met_in (nI 2) (nI 0) (nI 3)) q1482 q1483 q70 q1484 ndX6_in rfl (by rw [hRf]; decide) (by rw [hRl]; decide) ⟨Nat.zero_le _, Nat.zero_le _⟩ hl.1 rfl (Nat.le_of_ble_eq_true rfl) dX6_voice_11 ?_
    refine w_if_neT (tgt := 24) hx hb dX6_voice_14 (by decide) (fun c_2 => ?_) (fun c_2 => ?_)
    · refine lv_aload_n hx hb dX6_voice_24 rfl (lv_at hl 0 rfl) ?_
      refine lv_iconst (v := nI 0) hx hb dX6_voice_25 (by decide) ?_
      refine md_put hx hb hts hown hK hI hM 24 (by decide) q1414 rfl rfl rfl rfl rfl dX6_voice_26 (fun H locs hM => ?_)
      refine lv_aload_n hx hb dX6_voice_29 rfl (lv_at hl 0 rfl) ?_
      refine lv_aload_n hx hb dX6_voice_30 rfl (lv_at hl 0 rfl) ?_
      refine lv_iload_n hx hb dX6_voice_31 rfl (lv_at hl 1 rfl) ?_
      refine lv_iconst (v := nI 0) hx hb dX6_voice_32 (by decide) ?_
      refine md_callI (y := yX6_its) hx hb hml hown hts hK hI hM (met_its (upd f 24 (nI 0)) a i 0 (by omega)) q1557 q1559 qs35 q1560 ndX6_its rfl (by rw [hRf]; decide) (by rw [hRl]; decide) hl.1 rfl (Nat.le_of_ble_eq_true rfl) dX6_voice_33 (fun H locs hM => ?_)
      refine w_top (nI 4) (hkd) ?_
      refine md_put hx hb hts hown hK hI hM 25 (by decide) q1415 rfl rfl rfl rfl rfl dX6_voice_36 (fun H locs hM => ?_)
      refine lv_aload_n hx hb dX6_voice_39 rfl (lv_at hl 0 rfl) ?_
      refine lv_iload_n hx hb dX6_voice_40 rfl (lv_at hl 1 rfl) ?_
      refine md_put hx hb hts hown hK hI hM 26 (by decide) q1416 rfl rfl rfl rfl rfl dX6_voice_41 (fun H locs hM => ?_)
      refine lv_aload_n hx hb dX6_voice_44 rfl (lv_at hl 0 rfl) ?_
      refine lv_aload_n hx hb dX6_voice_45 rfl (lv_at hl 0 rfl) ?_
      refine lv_iload_n hx hb dX6_voice_46 rfl (lv_at hl 1 rfl) ?_
      refine lv_iconst (v := nI 1) hx hb dX6_voice_47 (by decide) ?_
      refine md_callI (y := yX6_its) hx hb hml hown hts hK hI hM (met_its (upd (upd (upd f 24 (nI 0)) 25 (nI 4)) 26 (nI i)) a i 1 (by omega)) q1557 q1559 qs35 q1560 ndX6_its rfl (by rw [hRf]; decide) (by rw [hRl]; decide) hl.1 rfl (Nat.le_of_ble_eq_true rfl) dX6_voice_48 (fun H locs hM => ?_)
      refine md_put hx hb hts hown hK hI hM 27 (by decide) q1417 rfl rfl rfl rfl rfl dX6_voice_51 (fun H locs hM => ?_)
      have hM := hM.to (a' := va_up a 14 (a 14)) rfl (va_self a 14)
      have hM := hM.to (f' := upd (vF f 4 i (a 1 (58 + 14 * i + 1))) 24 (nI 0)) (vF_0 _ _ _ _) rfl
      refine lv_iload_n hx hb dX6_voice_54 rfl (lv_at hl 2 rfl) ?_
      refine lv_tableIn (off := 45) (tgt := 100) hx hb dX6_voice_55 (by decide) (by decide) (by rfl) (by decide) ?_
      refine lv_aload_n hx hb dX6_voice_100 rfl (lv_at hl 0 rfl) ?_
      refine lv_aload_n hx hb dX6_voice_101 rfl (lv_at hl 0 rfl) ?_
      refine md_get (v := .int ((upd (vF f 4 i (a 1 (58 + 14 * i + 1))) 24 (nI 0)) 25)) hx hb hts hown hK hM 25 (by decide) q1415 rfl rfl dX6_voice_102 ?_
      refine w_top (nI 4) (rfl) ?_
      refine lv_iload_n hx hb dX6_voice_105 rfl (lv_at hl 3 rfl) ?_
      refine md_callI (y := yX6_knowsIn) hx hb hml hown hts hK hI hM (met_knowsIn_4_4 (vF f 4 i (a 1 (58 + 14 * i + 1))) a (a 14) 0 rfl x (by omega)) q1769 q1771 qs58 q1772 ndX6_knowsIn rfl (by rw [hRf]; decide) (by rw [hRl]; decide) hl.1 rfl (Nat.le_of_ble_eq_true rfl) dX6_voice_106 (fun H locs hM => ?_)
      exact hret hM (rfl) dX6_voice_109
    · exact absurd (by first | exact (in_nat (by decide)).mpr ⟨_, by omega, rfl⟩ | exact (in_nat1 _ (by decide) (by decide)).mpr ⟨_, by omega, by omega, rfl⟩ | exact cow_in hN (by omega) | assumption) c_2
set_option maxHeartbeats 400000 in
theorem met_voice_2_5 (f : Nat → Int32) (a : Nat → Nat → Int32) (i : Nat) (hi : i < cl (a 1 3)) (hN : okN (a 1 3) 5) (hkd : a 1 (58 + 14 * i + 0) = nI 5) (x : Int32) : MdF yX6_voice cX6_voice 4 (some .int) 4 87 [.int (nI i), .int (nI 2), .int x] f a (some (.int (x - (vF f 5 i (a 1 (58 + 14 * i + 1)) 27)))) (upd (vF f 5 i (a 1 (58 + 14 * i + 1))) 24 (nI (0 + 1))) (va_up a 14 (upd (a 14) 0 (nI 12))) := by
  refine MdF.ofI (by decide) rfl (Nat.le_of_ble_eq_true rfl) ?_
  intro p l e R s m args below meth c Q D h dA ls hx hb hml hRf hRl hts hown hK hI hM hl hret
  have hl : lv_has ls 4 [(0, .ref (h 0)), (1, .int (nI i)), (2, .int (nI 2)), (3, .int x)] := hl
  have hN2 := hN.2
  refine lv_aload_n hx hb dX6_voice_0 rfl (lv_at hl 0 rfl) ?_
  refine lv_iload_n hx hb dX6_voice_1 rfl (lv_at hl 1 rfl) ?_
  refine md_callI (y := yX6_isCow) hx hb hml hown hts hK hI hM (met_isCow f a (nI i)) q1574 q1576 qs37 q1577 ndX6_isCow rfl (by rw [hRf]; decide) (by rw [hRl]; decide) hl.1 rfl (Nat.le_of_ble_eq_true rfl) dX6_voice_2 (fun H locs hM => ?_)
  refine w_if_eqT (tgt := 17) hx hb dX6_voice_5 (by decide) (fun c_1 => ?_) (fun c_1 => ?_)
  · exact absurd (by first | exact (in_nat (by decide)).mpr ⟨_, by omega, rfl⟩ | exact (in_nat1 _ (by decide) (by decide)).mpr ⟨_, by omega, by omega, rfl⟩ | exact cow_in hN (by omega) | assumption) c_1
  · refine lv_iload_n hx hb dX6_voice_8 rfl (lv_at hl 2 rfl) ?_
    refine lv_iconst (v := nI 0) hx hb dX6_voice_9 (by decide) ?_
    refine lv_iconst (v := nI 3) hx hb dX6_voice_10 (by decide) ?_
    refine st_callI (y := yX6_in) hx hb hml hown hts (met_in (nI 2) (nI 0) (nI 3)) q1482 q1483 q70 q1484 ndX6_in rfl (by rw [hRf]; decide) (by rw [hRl]; decide) ⟨Nat.zero_le _, Nat.zero_le _⟩ hl.1 rfl (Nat.le_of_ble_eq_true rfl) dX6_voice_11 ?_
    refine w_if_neT (tgt := 24) hx hb dX6_voice_14 (by decide) (fun c_2 => ?_) (fun c_2 => ?_)
    · refine lv_aload_n hx hb dX6_voice_24 rfl (lv_at hl 0 rfl) ?_
      refine lv_iconst (v := nI 0) hx hb dX6_voice_25 (by decide) ?_
      refine md_put hx hb hts hown hK hI hM 24 (by decide) q1414 rfl rfl rfl rfl rfl dX6_voice_26 (fun H locs hM => ?_)
      refine lv_aload_n hx hb dX6_voice_29 rfl (lv_at hl 0 rfl) ?_
      refine lv_aload_n hx hb dX6_voice_30 rfl (lv_at hl 0 rfl) ?_
      refine lv_iload_n hx hb dX6_voice_31 rfl (lv_at hl 1 rfl) ?_
      refine lv_iconst (v := nI 0) hx hb dX6_voice_32 (by decide) ?_
      refine md_callI (y := yX6_its) hx hb hml hown hts hK hI hM (met_its (upd f 24 (nI 0)) a i 0 (by omega)) q1557 q1559 qs35 q1560 ndX6_its rfl (by rw [hRf]; decide) (by rw [hRl]; decide) hl.1 rfl (Nat.le_of_ble_eq_true rfl) dX6_voice_33 (fun H locs hM => ?_)
      refine w_top (nI 5) (hkd) ?_
      refine md_put hx hb hts hown hK hI hM 25 (by decide) q1415 rfl rfl rfl rfl rfl dX6_voice_36 (fun H locs hM => ?_)
      refine lv_aload_n hx hb dX6_voice_39 rfl (lv_at hl 0 rfl) ?_
      refine lv_iload_n hx hb dX6_voice_40 rfl (lv_at hl 1 rfl) ?_
      refine md_put hx hb hts hown hK hI hM 26 (by decide) q1416 rfl rfl rfl rfl rfl dX6_voice_41 (fun H locs hM => ?_)
      refine lv_aload_n hx hb dX6_voice_44 rfl (lv_at hl 0 rfl) ?_
      refine lv_aload_n hx hb dX6_voice_45 rfl (lv_at hl 0 rfl) ?_
      refine lv_iload_n hx hb dX6_voice_46 rfl (lv_at hl 1 rfl) ?_
      refine lv_iconst (v := nI 1) hx hb dX6_voice_47 (by decide) ?_
      refine md_callI (y := yX6_its) hx hb hml hown hts hK hI hM (met_its (upd (upd (upd f 24 (nI 0)) 25 (nI 5)) 26 (nI i)) a i 1 (by omega)) q1557 q1559 qs35 q1560 ndX6_its rfl (by rw [hRf]; decide) (by rw [hRl]; decide) hl.1 rfl (Nat.le_of_ble_eq_true rfl) dX6_voice_48 (fun H locs hM => ?_)
      refine md_put hx hb hts hown hK hI hM 27 (by decide) q1417 rfl rfl rfl rfl rfl dX6_voice_51 (fun H locs hM => ?_)
      have hM := hM.to (a' := va_up a 14 (a 14)) rfl (va_self a 14)
      have hM := hM.to (f' := upd (vF f 5 i (a 1 (58 + 14 * i + 1))) 24 (nI 0)) (vF_0 _ _ _ _) rfl
      refine lv_iload_n hx hb dX6_voice_54 rfl (lv_at hl 2 rfl) ?_
      refine lv_tableIn (off := 45) (tgt := 100) hx hb dX6_voice_55 (by decide) (by decide) (by rfl) (by decide) ?_
      refine lv_aload_n hx hb dX6_voice_100 rfl (lv_at hl 0 rfl) ?_
      refine lv_aload_n hx hb dX6_voice_101 rfl (lv_at hl 0 rfl) ?_
      refine md_get (v := .int ((upd (vF f 5 i (a 1 (58 + 14 * i + 1))) 24 (nI 0)) 25)) hx hb hts hown hK hM 25 (by decide) q1415 rfl rfl dX6_voice_102 ?_
      refine w_top (nI 5) (rfl) ?_
      refine lv_iload_n hx hb dX6_voice_105 rfl (lv_at hl 3 rfl) ?_
      refine md_callI (y := yX6_knowsIn) hx hb hml hown hts hK hI hM (met_knowsIn_5_5 (vF f 5 i (a 1 (58 + 14 * i + 1))) a (a 14) 0 rfl x (by omega)) q1769 q1771 qs58 q1772 ndX6_knowsIn rfl (by rw [hRf]; decide) (by rw [hRl]; decide) hl.1 rfl (Nat.le_of_ble_eq_true rfl) dX6_voice_106 (fun H locs hM => ?_)
      exact hret hM (rfl) dX6_voice_109
    · exact absurd (by first | exact (in_nat (by decide)).mpr ⟨_, by omega, rfl⟩ | exact (in_nat1 _ (by decide) (by decide)).mpr ⟨_, by omega, by omega, rfl⟩ | exact cow_in hN (by omega) | assumption) c_2
set_option maxHeartbeats 400000 in
theorem met_voice_2_6 (f : Nat → Int32) (a : Nat → Nat → Int32) (i : Nat) (hi : i < cl (a 1 3)) (hN : okN (a 1 3) 5) (hkd : a 1 (58 + 14 * i + 0) = nI 6) (x : Int32) : MdF yX6_voice cX6_voice 4 (some .int) 4 87 [.int (nI i), .int (nI 2), .int x] f a (some (.int ((-(x - (vF f 6 i (a 1 (58 + 14 * i + 1)) 27))) ^^^ (vF f 6 i (a 1 (58 + 14 * i + 1)) 26)))) (upd (vF f 6 i (a 1 (58 + 14 * i + 1))) 24 (nI (0 + 1 + 1 + 1))) (va_up a 14 (upd (upd (upd (a 14) 0 (nI 70)) (0 + 1) (nI 40)) (0 + 1 + 1) (nI 12))) := by
  refine MdF.ofI (by decide) rfl (Nat.le_of_ble_eq_true rfl) ?_
  intro p l e R s m args below meth c Q D h dA ls hx hb hml hRf hRl hts hown hK hI hM hl hret
  have hl : lv_has ls 4 [(0, .ref (h 0)), (1, .int (nI i)), (2, .int (nI 2)), (3, .int x)] := hl
  have hN2 := hN.2
  refine lv_aload_n hx hb dX6_voice_0 rfl (lv_at hl 0 rfl) ?_
  refine lv_iload_n hx hb dX6_voice_1 rfl (lv_at hl 1 rfl) ?_
  refine md_callI (y := yX6_isCow) hx hb hml hown hts hK hI hM (met_isCow f a (nI i)) q1574 q1576 qs37 q1577 ndX6_isCow rfl (by rw [hRf]; decide) (by rw [hRl]; decide) hl.1 rfl (Nat.le_of_ble_eq_true rfl) dX6_voice_2 (fun H locs hM => ?_)
  refine w_if_eqT (tgt := 17) hx hb dX6_voice_5 (by decide) (fun c_1 => ?_) (fun c_1 => ?_)
  · exact absurd (by first | exact (in_nat (by decide)).mpr ⟨_, by omega, rfl⟩ | exact (in_nat1 _ (by decide) (by decide)).mpr ⟨_, by omega, by omega, rfl⟩ | exact cow_in hN (by omega) | assumption) c_1
  · refine lv_iload_n hx hb dX6_voice_8 rfl (lv_at hl 2 rfl) ?_
    refine lv_iconst (v := nI 0) hx hb dX6_voice_9 (by decide) ?_
    refine lv_iconst (v := nI 3) hx hb dX6_voice_10 (by decide) ?_
    refine st_callI (y := yX6_in) hx hb hml hown hts (met_in (nI 2) (nI 0) (nI 3)) q1482 q1483 q70 q1484 ndX6_in rfl (by rw [hRf]; decide) (by rw [hRl]; decide) ⟨Nat.zero_le _, Nat.zero_le _⟩ hl.1 rfl (Nat.le_of_ble_eq_true rfl) dX6_voice_11 ?_
    refine w_if_neT (tgt := 24) hx hb dX6_voice_14 (by decide) (fun c_2 => ?_) (fun c_2 => ?_)
    · refine lv_aload_n hx hb dX6_voice_24 rfl (lv_at hl 0 rfl) ?_
      refine lv_iconst (v := nI 0) hx hb dX6_voice_25 (by decide) ?_
      refine md_put hx hb hts hown hK hI hM 24 (by decide) q1414 rfl rfl rfl rfl rfl dX6_voice_26 (fun H locs hM => ?_)
      refine lv_aload_n hx hb dX6_voice_29 rfl (lv_at hl 0 rfl) ?_
      refine lv_aload_n hx hb dX6_voice_30 rfl (lv_at hl 0 rfl) ?_
      refine lv_iload_n hx hb dX6_voice_31 rfl (lv_at hl 1 rfl) ?_
      refine lv_iconst (v := nI 0) hx hb dX6_voice_32 (by decide) ?_
      refine md_callI (y := yX6_its) hx hb hml hown hts hK hI hM (met_its (upd f 24 (nI 0)) a i 0 (by omega)) q1557 q1559 qs35 q1560 ndX6_its rfl (by rw [hRf]; decide) (by rw [hRl]; decide) hl.1 rfl (Nat.le_of_ble_eq_true rfl) dX6_voice_33 (fun H locs hM => ?_)
      refine w_top (nI 6) (hkd) ?_
      refine md_put hx hb hts hown hK hI hM 25 (by decide) q1415 rfl rfl rfl rfl rfl dX6_voice_36 (fun H locs hM => ?_)
      refine lv_aload_n hx hb dX6_voice_39 rfl (lv_at hl 0 rfl) ?_
      refine lv_iload_n hx hb dX6_voice_40 rfl (lv_at hl 1 rfl) ?_
      refine md_put hx hb hts hown hK hI hM 26 (by decide) q1416 rfl rfl rfl rfl rfl dX6_voice_41 (fun H locs hM => ?_)
      refine lv_aload_n hx hb dX6_voice_44 rfl (lv_at hl 0 rfl) ?_
      refine lv_aload_n hx hb dX6_voice_45 rfl (lv_at hl 0 rfl) ?_
      refine lv_iload_n hx hb dX6_voice_46 rfl (lv_at hl 1 rfl) ?_
      refine lv_iconst (v := nI 1) hx hb dX6_voice_47 (by decide) ?_
      refine md_callI (y := yX6_its) hx hb hml hown hts hK hI hM (met_its (upd (upd (upd f 24 (nI 0)) 25 (nI 6)) 26 (nI i)) a i 1 (by omega)) q1557 q1559 qs35 q1560 ndX6_its rfl (by rw [hRf]; decide) (by rw [hRl]; decide) hl.1 rfl (Nat.le_of_ble_eq_true rfl) dX6_voice_48 (fun H locs hM => ?_)
      refine md_put hx hb hts hown hK hI hM 27 (by decide) q1417 rfl rfl rfl rfl rfl dX6_voice_51 (fun H locs hM => ?_)
      have hM := hM.to (a' := va_up a 14 (a 14)) rfl (va_self a 14)
      have hM := hM.to (f' := upd (vF f 6 i (a 1 (58 + 14 * i + 1))) 24 (nI 0)) (vF_0 _ _ _ _) rfl
      refine lv_iload_n hx hb dX6_voice_54 rfl (lv_at hl 2 rfl) ?_
      refine lv_tableIn (off := 45) (tgt := 100) hx hb dX6_voice_55 (by decide) (by decide) (by rfl) (by decide) ?_
      refine lv_aload_n hx hb dX6_voice_100 rfl (lv_at hl 0 rfl) ?_
      refine lv_aload_n hx hb dX6_voice_101 rfl (lv_at hl 0 rfl) ?_
      refine md_get (v := .int ((upd (vF f 6 i (a 1 (58 + 14 * i + 1))) 24 (nI 0)) 25)) hx hb hts hown hK hM 25 (by decide) q1415 rfl rfl dX6_voice_102 ?_
      refine w_top (nI 6) (rfl) ?_
      refine lv_iload_n hx hb dX6_voice_105 rfl (lv_at hl 3 rfl) ?_
      refine md_callI (y := yX6_knowsIn) hx hb hml hown hts hK hI hM (met_knowsIn_6_6 (vF f 6 i (a 1 (58 + 14 * i + 1))) a (a 14) 0 rfl x (by omega)) q1769 q1771 qs58 q1772 ndX6_knowsIn rfl (by rw [hRf]; decide) (by rw [hRl]; decide) hl.1 rfl (Nat.le_of_ble_eq_true rfl) dX6_voice_106 (fun H locs hM => ?_)
      exact hret hM (rfl) dX6_voice_109
    · exact absurd (by first | exact (in_nat (by decide)).mpr ⟨_, by omega, rfl⟩ | exact (in_nat1 _ (by decide) (by decide)).mpr ⟨_, by omega, by omega, rfl⟩ | exact cow_in hN (by omega) | assumption) c_2
set_option maxHeartbeats 400000 in
theorem met_voice_3_0 (f : Nat → Int32) (a : Nat → Nat → Int32) (i : Nat) (hi : i < cl (a 1 3)) (hN : okN (a 1 3) 5) (hkd : a 1 (58 + 14 * i + 0) = nI 0) (x : Int32) : MdF yX6_voice cX6_voice 4 (some .int) 4 89 [.int (nI i), .int (nI 3), .int x] f a (some (.int (((x + (vF f 0 i (a 1 (58 + 14 * i + 1)) 26)) * (nI 2)) ^^^ (x - (vF f 0 i (a 1 (58 + 14 * i + 1)) 27))))) (upd (vF f 0 i (a 1 (58 + 14 * i + 1))) 24 (nI (0 + 1 + 1 + 1 + 1))) (va_up a 14 (upd (upd (upd (upd (a 14) 0 (nI 13)) (0 + 1) (nI 11)) (0 + 1 + 1) (nI 10)) (0 + 1 + 1 + 1) (nI 12))) := by
  refine MdF.ofI (by decide) rfl (Nat.le_of_ble_eq_true rfl) ?_
  intro p l e R s m args below meth c Q D h dA ls hx hb hml hRf hRl hts hown hK hI hM hl hret
  have hl : lv_has ls 4 [(0, .ref (h 0)), (1, .int (nI i)), (2, .int (nI 3)), (3, .int x)] := hl
  have hN2 := hN.2
  refine lv_aload_n hx hb dX6_voice_0 rfl (lv_at hl 0 rfl) ?_
  refine lv_iload_n hx hb dX6_voice_1 rfl (lv_at hl 1 rfl) ?_
  refine md_callI (y := yX6_isCow) hx hb hml hown hts hK hI hM (met_isCow f a (nI i)) q1574 q1576 qs37 q1577 ndX6_isCow rfl (by rw [hRf]; decide) (by rw [hRl]; decide) hl.1 rfl (Nat.le_of_ble_eq_true rfl) dX6_voice_2 (fun H locs hM => ?_)
  refine w_if_eqT (tgt := 17) hx hb dX6_voice_5 (by decide) (fun c_1 => ?_) (fun c_1 => ?_)
  · exact absurd (by first | exact (in_nat (by decide)).mpr ⟨_, by omega, rfl⟩ | exact (in_nat1 _ (by decide) (by decide)).mpr ⟨_, by omega, by omega, rfl⟩ | exact cow_in hN (by omega) | assumption) c_1
  · refine lv_iload_n hx hb dX6_voice_8 rfl (lv_at hl 2 rfl) ?_
    refine lv_iconst (v := nI 0) hx hb dX6_voice_9 (by decide) ?_
    refine lv_iconst (v := nI 3) hx hb dX6_voice_10 (by decide) ?_
    refine st_callI (y := yX6_in) hx hb hml hown hts (met_in (nI 3) (nI 0) (nI 3)) q1482 q1483 q70 q1484 ndX6_in rfl (by rw [hRf]; decide) (by rw [hRl]; decide) ⟨Nat.zero_le _, Nat.zero_le _⟩ hl.1 rfl (Nat.le_of_ble_eq_true rfl) dX6_voice_11 ?_
    refine w_if_neT (tgt := 24) hx hb dX6_voice_14 (by decide) (fun c_2 => ?_) (fun c_2 => ?_)
    · refine lv_aload_n hx hb dX6_voice_24 rfl (lv_at hl 0 rfl) ?_
      refine lv_iconst (v := nI 0) hx hb dX6_voice_25 (by decide) ?_
      refine md_put hx hb hts hown hK hI hM 24 (by decide) q1414 rfl rfl rfl rfl rfl dX6_voice_26 (fun H locs hM => ?_)
      refine lv_aload_n hx hb dX6_voice_29 rfl (lv_at hl 0 rfl) ?_
      refine lv_aload_n hx hb dX6_voice_30 rfl (lv_at hl 0 rfl) ?_
      refine lv_iload_n hx hb dX6_voice_31 rfl (lv_at hl 1 rfl) ?_
      refine lv_iconst (v := nI 0) hx hb dX6_voice_32 (by decide) ?_
      refine md_callI (y := yX6_its) hx hb hml hown hts hK hI hM (met_its (upd f 24 (nI 0)) a i 0 (by omega)) q1557 q1559 qs35 q1560 ndX6_its rfl (by rw [hRf]; decide) (by rw [hRl]; decide) hl.1 rfl (Nat.le_of_ble_eq_true rfl) dX6_voice_33 (fun H locs hM => ?_)
      refine w_top (nI 0) (hkd) ?_
      refine md_put hx hb hts hown hK hI hM 25 (by decide) q1415 rfl rfl rfl rfl rfl dX6_voice_36 (fun H locs hM => ?_)
      refine lv_aload_n hx hb dX6_voice_39 rfl (lv_at hl 0 rfl) ?_
      refine lv_iload_n hx hb dX6_voice_40 rfl (lv_at hl 1 rfl) ?_
      refine md_put hx hb hts hown hK hI hM 26 (by decide) q1416 rfl rfl rfl rfl rfl dX6_voice_41 (fun H locs hM => ?_)
      refine lv_aload_n hx hb dX6_voice_44 rfl (lv_at hl 0 rfl) ?_
      refine lv_aload_n hx hb dX6_voice_45 rfl (lv_at hl 0 rfl) ?_
      refine lv_iload_n hx hb dX6_voice_46 rfl (lv_at hl 1 rfl) ?_
      refine lv_iconst (v := nI 1) hx hb dX6_voice_47 (by decide) ?_
      refine md_callI (y := yX6_its) hx hb hml hown hts hK hI hM (met_its (upd (upd (upd f 24 (nI 0)) 25 (nI 0)) 26 (nI i)) a i 1 (by omega)) q1557 q1559 qs35 q1560 ndX6_its rfl (by rw [hRf]; decide) (by rw [hRl]; decide) hl.1 rfl (Nat.le_of_ble_eq_true rfl) dX6_voice_48 (fun H locs hM => ?_)
      refine md_put hx hb hts hown hK hI hM 27 (by decide) q1417 rfl rfl rfl rfl rfl dX6_voice_51 (fun H locs hM => ?_)
      have hM := hM.to (a' := va_up a 14 (a 14)) rfl (va_self a 14)
      have hM := hM.to (f' := upd (vF f 0 i (a 1 (58 + 14 * i + 1))) 24 (nI 0)) (vF_0 _ _ _ _) rfl
      refine lv_iload_n hx hb dX6_voice_54 rfl (lv_at hl 2 rfl) ?_
      refine lv_tableOut (tgt := 110) hx hb dX6_voice_55 (by decide) (by decide) ?_
      refine lv_aload_n hx hb dX6_voice_110 rfl (lv_at hl 0 rfl) ?_
      refine lv_aload_n hx hb dX6_voice_111 rfl (lv_at hl 0 rfl) ?_
      refine md_get (v := .int ((upd (vF f 0 i (a 1 (58 + 14 * i + 1))) 24 (nI 0)) 25)) hx hb hts hown hK hM 25 (by decide) q1415 rfl rfl dX6_voice_112 ?_
      refine w_top (nI 0) (rfl) ?_
      refine lv_iload_n hx hb dX6_voice_115 rfl (lv_at hl 3 rfl) ?_
      refine md_callI (y := yX6_tellsIn) hx hb hml hown hts hK hI hM (met_tellsIn_0_0 (vF f 0 i (a 1 (58 + 14 * i + 1))) a (a 14) 0 rfl x (by omega)) q1773 q1775 qs59 q1776 ndX6_tellsIn rfl (by rw [hRf]; decide) (by rw [hRl]; decide) hl.1 rfl (Nat.le_of_ble_eq_true rfl) dX6_voice_116 (fun H locs hM => ?_)
      exact hret hM (rfl) dX6_voice_119
    · exact absurd (by first | exact (in_nat (by decide)).mpr ⟨_, by omega, rfl⟩ | exact (in_nat1 _ (by decide) (by decide)).mpr ⟨_, by omega, by omega, rfl⟩ | exact cow_in hN (by omega) | assumption) c_2
set_option maxHeartbeats 400000 in
theorem met_voice_3_1 (f : Nat → Int32) (a : Nat → Nat → Int32) (i : Nat) (hi : i < cl (a 1 3)) (hN : okN (a 1 3) 5) (hkd : a 1 (58 + 14 * i + 0) = nI 1) (x : Int32) : MdF yX6_voice cX6_voice 4 (some .int) 7 157 [.int (nI i), .int (nI 3), .int x] f a (some (.int ((((x + (vF f 1 i (a 1 (58 + 14 * i + 1)) 26)) * (nI 2)) - ((nI 1) - (vF f 1 i (a 1 (58 + 14 * i + 1)) 27))) ^^^ (x - (vF f 1 i (a 1 (58 + 14 * i + 1)) 27))))) (upd (vF f 1 i (a 1 (58 + 14 * i + 1))) 24 (nI (0 + 1 + 1 + 1 + 1 + 1 + 1))) (va_up a 14 (upd (upd (upd (upd (upd (upd (a 14) 0 (nI 13)) (0 + 1) (nI 20)) (0 + 1 + 1) (nI 11)) (0 + 1 + 1 + 1) (nI 10)) (0 + 1 + 1 + 1 + 1) (nI 12)) (0 + 1 + 1 + 1 + 1 + 1) (nI 12))) := by
  refine MdF.ofI (by decide) rfl (Nat.le_of_ble_eq_true rfl) ?_
  intro p l e R s m args below meth c Q D h dA ls hx hb hml hRf hRl hts hown hK hI hM hl hret
  have hl : lv_has ls 4 [(0, .ref (h 0)), (1, .int (nI i)), (2, .int (nI 3)), (3, .int x)] := hl
  have hN2 := hN.2
  refine lv_aload_n hx hb dX6_voice_0 rfl (lv_at hl 0 rfl) ?_
  refine lv_iload_n hx hb dX6_voice_1 rfl (lv_at hl 1 rfl) ?_
  refine md_callI (y := yX6_isCow) hx hb hml hown hts hK hI hM (met_isCow f a (nI i)) q1574 q1576 qs37 q1577 ndX6_isCow rfl (by rw [hRf]; decide) (by rw [hRl]; decide) hl.1 rfl (Nat.le_of_ble_eq_true rfl) dX6_voice_2 (fun H locs hM => ?_)
  refine w_if_eqT (tgt := 17) hx hb dX6_voice_5 (by decide) (fun c_1 => ?_) (fun c_1 => ?_)
  · exact absurd (by first | exact (in_nat (by decide)).mpr ⟨_, by omega, rfl⟩ | exact (in_nat1 _ (by decide) (by decide)).mpr ⟨_, by omega, by omega, rfl⟩ | exact cow_in hN (by omega) | assumption) c_1
  · refine lv_iload_n hx hb dX6_voice_8 rfl (lv_at hl 2 rfl) ?_
    refine lv_iconst (v := nI 0) hx hb dX6_voice_9 (by decide) ?_
    refine lv_iconst (v := nI 3) hx hb dX6_voice_10 (by decide) ?_
    refine st_callI (y := yX6_in) hx hb hml hown hts (met_in (nI 3) (nI 0) (nI 3)) q1482 q1483 q70 q1484 ndX6_in rfl (by rw [hRf]; decide) (by rw [hRl]; decide) ⟨Nat.zero_le _, Nat.zero_le _⟩ hl.1 rfl (Nat.le_of_ble_eq_true rfl) dX6_voice_11 ?_
    refine w_if_neT (tgt := 24) hx hb dX6_voice_14 (by decide) (fun c_2 => ?_) (fun c_2 => ?_)
    · refine lv_aload_n hx hb dX6_voice_24 rfl (lv_at hl 0 rfl) ?_
      refine lv_iconst (v := nI 0) hx hb dX6_voice_25 (by decide) ?_
      refine md_put hx hb hts hown hK hI hM 24 (by decide) q1414 rfl rfl rfl rfl rfl dX6_voice_26 (fun H locs hM => ?_)
      refine lv_aload_n hx hb dX6_voice_29 rfl (lv_at hl 0 rfl) ?_
      refine lv_aload_n hx hb dX6_voice_30 rfl (lv_at hl 0 rfl) ?_
      refine lv_iload_n hx hb dX6_voice_31 rfl (lv_at hl 1 rfl) ?_
      refine lv_iconst (v := nI 0) hx hb dX6_voice_32 (by decide) ?_
      refine md_callI (y := yX6_its) hx hb hml hown hts hK hI hM (met_its (upd f 24 (nI 0)) a i 0 (by omega)) q1557 q1559 qs35 q1560 ndX6_its rfl (by rw [hRf]; decide) (by rw [hRl]; decide) hl.1 rfl (Nat.le_of_ble_eq_true rfl) dX6_voice_33 (fun H locs hM => ?_)
      refine w_top (nI 1) (hkd) ?_
      refine md_put hx hb hts hown hK hI hM 25 (by decide) q1415 rfl rfl rfl rfl rfl dX6_voice_36 (fun H locs hM => ?_)
      refine lv_aload_n hx hb dX6_voice_39 rfl (lv_at hl 0 rfl) ?_
      refine lv_iload_n hx hb dX6_voice_40 rfl (lv_at hl 1 rfl) ?_
      refine md_put hx hb hts hown hK hI hM 26 (by decide) q1416 rfl rfl rfl rfl rfl dX6_voice_41 (fun H locs hM => ?_)
      refine lv_aload_n hx hb dX6_voice_44 rfl (lv_at hl 0 rfl) ?_
      refine lv_aload_n hx hb dX6_voice_45 rfl (lv_at hl 0 rfl) ?_
      refine lv_iload_n hx hb dX6_voice_46 rfl (lv_at hl 1 rfl) ?_
      refine lv_iconst (v := nI 1) hx hb dX6_voice_47 (by decide) ?_
      refine md_callI (y := yX6_its) hx hb hml hown hts hK hI hM (met_its (upd (upd (upd f 24 (nI 0)) 25 (nI 1)) 26 (nI i)) a i 1 (by omega)) q1557 q1559 qs35 q1560 ndX6_its rfl (by rw [hRf]; decide) (by rw [hRl]; decide) hl.1 rfl (Nat.le_of_ble_eq_true rfl) dX6_voice_48 (fun H locs hM => ?_)
      refine md_put hx hb hts hown hK hI hM 27 (by decide) q1417 rfl rfl rfl rfl rfl dX6_voice_51 (fun H locs hM => ?_)
      have hM := hM.to (a' := va_up a 14 (a 14)) rfl (va_self a 14)
      have hM := hM.to (f' := upd (vF f 1 i (a 1 (58 + 14 * i + 1))) 24 (nI 0)) (vF_0 _ _ _ _) rfl
      refine lv_iload_n hx hb dX6_voice_54 rfl (lv_at hl 2 rfl) ?_
      refine lv_tableOut (tgt := 110) hx hb dX6_voice_55 (by decide) (by decide) ?_
      refine lv_aload_n hx hb dX6_voice_110 rfl (lv_at hl 0 rfl) ?_
      refine lv_aload_n hx hb dX6_voice_111 rfl (lv_at hl 0 rfl) ?_
      refine md_get (v := .int ((upd (vF f 1 i (a 1 (58 + 14 * i + 1))) 24 (nI 0)) 25)) hx hb hts hown hK hM 25 (by decide) q1415 rfl rfl dX6_voice_112 ?_
      refine w_top (nI 1) (rfl) ?_
      refine lv_iload_n hx hb dX6_voice_115 rfl (lv_at hl 3 rfl) ?_
      refine md_callI (y := yX6_tellsIn) hx hb hml hown hts hK hI hM (met_tellsIn_1_1 (vF f 1 i (a 1 (58 + 14 * i + 1))) a (a 14) 0 rfl x (by omega)) q1773 q1775 qs59 q1776 ndX6_tellsIn rfl (by rw [hRf]; decide) (by rw [hRl]; decide) hl.1 rfl (Nat.le_of_ble_eq_true rfl) dX6_voice_116 (fun H locs hM => ?_)
      exact hret hM (rfl) dX6_voice_119
    · exact absurd (by first | exact (in_nat (by decide)).mpr ⟨_, by omega, rfl⟩ | exact (in_nat1 _ (by decide) (by decide)).mpr ⟨_, by omega, by omega, rfl⟩ | exact cow_in hN (by omega) | assumption) c_2
set_option maxHeartbeats 400000 in
theorem met_voice_3_2 (f : Nat → Int32) (a : Nat → Nat → Int32) (i : Nat) (hi : i < cl (a 1 3)) (hN : okN (a 1 3) 5) (hkd : a 1 (58 + 14 * i + 0) = nI 2) (x : Int32) : MdF yX6_voice cX6_voice 4 (some .int) 7 157 [.int (nI i), .int (nI 3), .int x] f a (some (.int ((((x + (vF f 2 i (a 1 (58 + 14 * i + 1)) 26)) * (nI 3)) * (nI 2)) ^^^ (x - (vF f 2 i (a 1 (58 + 14 * i + 1)) 27))))) (upd (vF f 2 i (a 1 (58 + 14 * i + 1))) 24 (nI (0 + 1 + 1 + 1 + 1 + 1))) (va_up a 14 (upd (upd (upd (upd (upd (a 14) 0 (nI 13)) (0 + 1) (nI 11)) (0 + 1 + 1) (nI 30)) (0 + 1 + 1 + 1) (nI 10)) (0 + 1 + 1 + 1 + 1) (nI 12))) := by
  refine MdF.ofI (by decide) rfl (Nat.le_of_ble_eq_true rfl) ?_
  intro p l e R s m args below meth c Q D h dA ls hx hb hml hRf hRl hts hown hK hI hM hl hret
  have hl : lv_has ls 4 [(0, .ref (h 0)), (1, .int (nI i)), (2, .int (nI 3)), (3, .int x)] := hl
  have hN2 := hN.2
  refine lv_aload_n hx hb dX6_voice_0 rfl (lv_at hl 0 rfl) ?_
  refine lv_iload_n hx hb dX6_voice_1 rfl (lv_at hl 1 rfl) ?_
  refine md_callI (y := yX6_isCow) hx hb hml hown hts hK hI hM (met_isCow f a (nI i)) q1574 q1576 qs37 q1577 ndX6_isCow rfl (by rw [hRf]; decide) (by rw [hRl]; decide) hl.1 rfl (Nat.le_of_ble_eq_true rfl) dX6_voice_2 (fun H locs hM => ?_)
  refine w_if_eqT (tgt := 17) hx hb dX6_voice_5 (by decide) (fun c_1 => ?_) (fun c_1 => ?_)
  · exact absurd (by first | exact (in_nat (by decide)).mpr ⟨_, by omega, rfl⟩ | exact (in_nat1 _ (by decide) (by decide)).mpr ⟨_, by omega, by omega, rfl⟩ | exact cow_in hN (by omega) | assumption) c_1
  · refine lv_iload_n hx hb dX6_voice_8 rfl (lv_at hl 2 rfl) ?_
    refine lv_iconst (v := nI 0) hx hb dX6_voice_9 (by decide) ?_
    refine lv_iconst (v := nI 3) hx hb dX6_voice_10 (by decide) ?_
    refine st_callI (y := yX6_in) hx hb hml hown hts (met_in (nI 3) (nI 0) (nI 3)) q1482 q1483 q70 q1484 ndX6_in rfl (by rw [hRf]; decide) (by rw [hRl]; decide) ⟨Nat.zero_le _, Nat.zero_le _⟩ hl.1 rfl (Nat.le_of_ble_eq_true rfl) dX6_voice_11 ?_
    refine w_if_neT (tgt := 24) hx hb dX6_voice_14 (by decide) (fun c_2 => ?_) (fun c_2 => ?_)
    · refine lv_aload_n hx hb dX6_voice_24 rfl (lv_at hl 0 rfl) ?_
      refine lv_iconst (v := nI 0) hx hb dX6_voice_25 (by decide) ?_
      refine md_put hx hb hts hown hK hI hM 24 (by decide) q1414 rfl rfl rfl rfl rfl dX6_voice_26 (fun H locs hM => ?_)
      refine lv_aload_n hx hb dX6_voice_29 rfl (lv_at hl 0 rfl) ?_
      refine lv_aload_n hx hb dX6_voice_30 rfl (lv_at hl 0 rfl) ?_
      refine lv_iload_n hx hb dX6_voice_31 rfl (lv_at hl 1 rfl) ?_
      refine lv_iconst (v := nI 0) hx hb dX6_voice_32 (by decide) ?_
      refine md_callI (y := yX6_its) hx hb hml hown hts hK hI hM (met_its (upd f 24 (nI 0)) a i 0 (by omega)) q1557 q1559 qs35 q1560 ndX6_its rfl (by rw [hRf]; decide) (by rw [hRl]; decide) hl.1 rfl (Nat.le_of_ble_eq_true rfl) dX6_voice_33 (fun H locs hM => ?_)
      refine w_top (nI 2) (hkd) ?_
      refine md_put hx hb hts hown hK hI hM 25 (by decide) q1415 rfl rfl rfl rfl rfl dX6_voice_36 (fun H locs hM => ?_)
      refine lv_aload_n hx hb dX6_voice_39 rfl (lv_at hl 0 rfl) ?_
      refine lv_iload_n hx hb dX6_voice_40 rfl (lv_at hl 1 rfl) ?_
      refine md_put hx hb hts hown hK hI hM 26 (by decide) q1416 rfl rfl rfl rfl rfl dX6_voice_41 (fun H locs hM => ?_)
      refine lv_aload_n hx hb dX6_voice_44 rfl (lv_at hl 0 rfl) ?_
      refine lv_aload_n hx hb dX6_voice_45 rfl (lv_at hl 0 rfl) ?_
      refine lv_iload_n hx hb dX6_voice_46 rfl (lv_at hl 1 rfl) ?_
      refine lv_iconst (v := nI 1) hx hb dX6_voice_47 (by decide) ?_
      refine md_callI (y := yX6_its) hx hb hml hown hts hK hI hM (met_its (upd (upd (upd f 24 (nI 0)) 25 (nI 2)) 26 (nI i)) a i 1 (by omega)) q1557 q1559 qs35 q1560 ndX6_its rfl (by rw [hRf]; decide) (by rw [hRl]; decide) hl.1 rfl (Nat.le_of_ble_eq_true rfl) dX6_voice_48 (fun H locs hM => ?_)
      refine md_put hx hb hts hown hK hI hM 27 (by decide) q1417 rfl rfl rfl rfl rfl dX6_voice_51 (fun H locs hM => ?_)
      have hM := hM.to (a' := va_up a 14 (a 14)) rfl (va_self a 14)
      have hM := hM.to (f' := upd (vF f 2 i (a 1 (58 + 14 * i + 1))) 24 (nI 0)) (vF_0 _ _ _ _) rfl
      refine lv_iload_n hx hb dX6_voice_54 rfl (lv_at hl 2 rfl) ?_
      refine lv_tableOut (tgt := 110) hx hb dX6_voice_55 (by decide) (by decide) ?_
      refine lv_aload_n hx hb dX6_voice_110 rfl (lv_at hl 0 rfl) ?_
      refine lv_aload_n hx hb dX6_voice_111 rfl (lv_at hl 0 rfl) ?_
      refine md_get (v := .int ((upd (vF f 2 i (a 1 (58 + 14 * i + 1))) 24 (nI 0)) 25)) hx hb hts hown hK hM 25 (by decide) q1415 rfl rfl dX6_voice_112 ?_
      refine w_top (nI 2) (rfl) ?_
      refine lv_iload_n hx hb dX6_voice_115 rfl (lv_at hl 3 rfl) ?_
      refine md_callI (y := yX6_tellsIn) hx hb hml hown hts hK hI hM (met_tellsIn_2_2 (vF f 2 i (a 1 (58 + 14 * i + 1))) a (a 14) 0 rfl x (by omega)) q1773 q1775 qs59 q1776 ndX6_tellsIn rfl (by rw [hRf]; decide) (by rw [hRl]; decide) hl.1 rfl (Nat.le_of_ble_eq_true rfl) dX6_voice_116 (fun H locs hM => ?_)
      exact hret hM (rfl) dX6_voice_119
    · exact absurd (by first | exact (in_nat (by decide)).mpr ⟨_, by omega, rfl⟩ | exact (in_nat1 _ (by decide) (by decide)).mpr ⟨_, by omega, by omega, rfl⟩ | exact cow_in hN (by omega) | assumption) c_2
set_option maxHeartbeats 400000 in
theorem met_voice_3_3 (f : Nat → Int32) (a : Nat → Nat → Int32) (i : Nat) (hi : i < cl (a 1 3)) (hN : okN (a 1 3) 5) (hkd : a 1 (58 + 14 * i + 0) = nI 3) (x : Int32) : MdF yX6_voice cX6_voice 4 (some .int) 7 157 [.int (nI i), .int (nI 3), .int x] f a (some (.int (((x + (vF f 3 i (a 1 (58 + 14 * i + 1)) 26)) * (nI 2)) ^^^ (-(x - (vF f 3 i (a 1 (58 + 14 * i + 1)) 27)))))) (upd (vF f 3 i (a 1 (58 + 14 * i + 1))) 24 (nI (0 + 1 + 1 + 1 + 1 + 1))) (va_up a 14 (upd (upd (upd (upd (upd (a 14) 0 (nI 13)) (0 + 1) (nI 11)) (0 + 1 + 1) (nI 10)) (0 + 1 + 1 + 1) (nI 40)) (0 + 1 + 1 + 1 + 1) (nI 12))) := by
  refine MdF.ofI (by decide) rfl (Nat.le_of_ble_eq_true rfl) ?_
  intro p l e R s m args below meth c Q D h dA ls hx hb hml hRf hRl hts hown hK hI hM hl hret
  have hl : lv_has ls 4 [(0, .ref (h 0)), (1, .int (nI i)), (2, .int (nI 3)), (3, .int x)] := hl
  have hN2 := hN.2
  refine lv_aload_n hx hb dX6_voice_0 rfl (lv_at hl 0 rfl) ?_
  refine lv_iload_n hx hb dX6_voice_1 rfl (lv_at hl 1 rfl) ?_
  refine md_callI (y := yX6_isCow) hx hb hml hown hts hK hI hM (met_isCow f a (nI i)) q1574 q1576 qs37 q1577 ndX6_isCow rfl (by rw [hRf]; decide) (by rw [hRl]; decide) hl.1 rfl (Nat.le_of_ble_eq_true rfl) dX6_voice_2 (fun H locs hM => ?_)
  refine w_if_eqT (tgt := 17) hx hb dX6_voice_5 (by decide) (fun c_1 => ?_) (fun c_1 => ?_)
  · exact absurd (by first | exact (in_nat (by decide)).mpr ⟨_, by omega, rfl⟩ | exact (in_nat1 _ (by decide) (by decide)).mpr ⟨_, by omega, by omega, rfl⟩ | exact cow_in hN (by omega) | assumption) c_1
  · refine lv_iload_n hx hb dX6_voice_8 rfl (lv_at hl 2 rfl) ?_
    refine lv_iconst (v := nI 0) hx hb dX6_voice_9 (by decide) ?_
    refine lv_iconst (v := nI 3) hx hb dX6_voice_10 (by decide) ?_
    refine st_callI (y := yX6_in) hx hb hml hown hts (met_in (nI 3) (nI 0) (nI 3)) q1482 q1483 q70 q1484 ndX6_in rfl (by rw [hRf]; decide) (by rw [hRl]; decide) ⟨Nat.zero_le _, Nat.zero_le _⟩ hl.1 rfl (Nat.le_of_ble_eq_true rfl) dX6_voice_11 ?_
    refine w_if_neT (tgt := 24) hx hb dX6_voice_14 (by decide) (fun c_2 => ?_) (fun c_2 => ?_)
    · refine lv_aload_n hx hb dX6_voice_24 rfl (lv_at hl 0 rfl) ?_
      refine lv_iconst (v := nI 0) hx hb dX6_voice_25 (by decide) ?_
      refine md_put hx hb hts hown hK hI hM 24 (by decide) q1414 rfl rfl rfl rfl rfl dX6_voice_26 (fun H locs hM => ?_)
      refine lv_aload_n hx hb dX6_voice_29 rfl (lv_at hl 0 rfl) ?_
      refine lv_aload_n hx hb dX6_voice_30 rfl (lv_at hl 0 rfl) ?_
      refine lv_iload_n hx hb dX6_voice_31 rfl (lv_at hl 1 rfl) ?_
      refine lv_iconst (v := nI 0) hx hb dX6_voice_32 (by decide) ?_
      refine md_callI (y := yX6_its) hx hb hml hown hts hK hI hM (met_its (upd f 24 (nI 0)) a i 0 (by omega)) q1557 q1559 qs35 q1560 ndX6_its rfl (by rw [hRf]; decide) (by rw [hRl]; decide) hl.1 rfl (Nat.le_of_ble_eq_true rfl) dX6_voice_33 (fun H locs hM => ?_)
      refine w_top (nI 3) (hkd) ?_
      refine md_put hx hb hts hown hK hI hM 25 (by decide) q1415 rfl rfl rfl rfl rfl dX6_voice_36 (fun H locs hM => ?_)
      refine lv_aload_n hx hb dX6_voice_39 rfl (lv_at hl 0 rfl) ?_
      refine lv_iload_n hx hb dX6_voice_40 rfl (lv_at hl 1 rfl) ?_
      refine md_put hx hb hts hown hK hI hM 26 (by decide) q1416 rfl rfl rfl rfl rfl dX6_voice_41 (fun H locs hM => ?_)
      refine lv_aload_n hx hb dX6_voice_44 rfl (lv_at hl 0 rfl) ?_
      refine lv_aload_n hx hb dX6_voice_45 rfl (lv_at hl 0 rfl) ?_
      refine lv_iload_n hx hb dX6_voice_46 rfl (lv_at hl 1 rfl) ?_
      refine lv_iconst (v := nI 1) hx hb dX6_voice_47 (by decide) ?_
      refine md_callI (y := yX6_its) hx hb hml hown hts hK hI hM (met_its (upd (upd (upd f 24 (nI 0)) 25 (nI 3)) 26 (nI i)) a i 1 (by omega)) q1557 q1559 qs35 q1560 ndX6_its rfl (by rw [hRf]; decide) (by rw [hRl]; decide) hl.1 rfl (Nat.le_of_ble_eq_true rfl) dX6_voice_48 (fun H locs hM => ?_)
      refine md_put hx hb hts hown hK hI hM 27 (by decide) q1417 rfl rfl rfl rfl rfl dX6_voice_51 (fun H locs hM => ?_)
      have hM := hM.to (a' := va_up a 14 (a 14)) rfl (va_self a 14)
      have hM := hM.to (f' := upd (vF f 3 i (a 1 (58 + 14 * i + 1))) 24 (nI 0)) (vF_0 _ _ _ _) rfl
      refine lv_iload_n hx hb dX6_voice_54 rfl (lv_at hl 2 rfl) ?_
      refine lv_tableOut (tgt := 110) hx hb dX6_voice_55 (by decide) (by decide) ?_
      refine lv_aload_n hx hb dX6_voice_110 rfl (lv_at hl 0 rfl) ?_
      refine lv_aload_n hx hb dX6_voice_111 rfl (lv_at hl 0 rfl) ?_
      refine md_get (v := .int ((upd (vF f 3 i (a 1 (58 + 14 * i + 1))) 24 (nI 0)) 25)) hx hb hts hown hK hM 25 (by decide) q1415 rfl rfl dX6_voice_112 ?_
      refine w_top (nI 3) (rfl) ?_
      refine lv_iload_n hx hb dX6_voice_115 rfl (lv_at hl 3 rfl) ?_
      refine md_callI (y := yX6_tellsIn) hx hb hml hown hts hK hI hM (met_tellsIn_3_3 (vF f 3 i (a 1 (58 + 14 * i + 1))) a (a 14) 0 rfl x (by omega)) q1773 q1775 qs59 q1776 ndX6_tellsIn rfl (by rw [hRf]; decide) (by rw [hRl]; decide) hl.1 rfl (Nat.le_of_ble_eq_true rfl) dX6_voice_116 (fun H locs hM => ?_)
      exact hret hM (rfl) dX6_voice_119
    · exact absurd (by first | exact (in_nat (by decide)).mpr ⟨_, by omega, rfl⟩ | exact (in_nat1 _ (by decide) (by decide)).mpr ⟨_, by omega, by omega, rfl⟩ | exact cow_in hN (by omega) | assumption) c_2
set_option maxHeartbeats 400000 in
theorem met_voice_3_4 (f : Nat → Int32) (a : Nat → Nat → Int32) (i : Nat) (hi : i < cl (a 1 3)) (hN : okN (a 1 3) 5) (hkd : a 1 (58 + 14 * i + 0) = nI 4) (x : Int32) : MdF yX6_voice cX6_voice 4 (some .int) 10 225 [.int (nI i), .int (nI 3), .int x] f a (some (.int (((((x + (nI 1)) + (vF f 4 i (a 1 (58 + 14 * i + 1)) 26)) * (nI 2)) - ((nI 1) - (vF f 4 i (a 1 (58 + 14 * i + 1)) 27))) ^^^ (x - (vF f 4 i (a 1 (58 + 14 * i + 1)) 27))))) (upd (vF f 4 i (a 1 (58 + 14 * i + 1))) 24 (nI (0 + 1 + 1 + 1 + 1 + 1 + 1 + 1))) (va_up a 14 (upd (upd (upd (upd (upd (upd (upd (a 14) 0 (nI 13)) (0 + 1) (nI 50)) (0 + 1 + 1) (nI 20)) (0 + 1 + 1 + 1) (nI 11)) (0 + 1 + 1 + 1 + 1) (nI 10)) (0 + 1 + 1 + 1 + 1 + 1) (nI 12)) (0 + 1 + 1 + 1 + 1 + 1 + 1) (nI 12))) := by
  refine MdF.ofI (by decide) rfl (Nat.le_of_ble_eq_true rfl) ?_
  intro p l e R s m args below meth c Q D h dA ls hx hb hml hRf hRl hts hown hK hI hM hl hret
  have hl : lv_has ls 4 [(0, .ref (h 0)), (1, .int (nI i)), (2, .int (nI 3)), (3, .int x)] := hl
  have hN2 := hN.2
  refine lv_aload_n hx hb dX6_voice_0 rfl (lv_at hl 0 rfl) ?_
  refine lv_iload_n hx hb dX6_voice_1 rfl (lv_at hl 1 rfl) ?_
  refine md_callI (y := yX6_isCow) hx hb hml hown hts hK hI hM (met_isCow f a (nI i)) q1574 q1576 qs37 q1577 ndX6_isCow rfl (by rw [hRf]; decide) (by rw [hRl]; decide) hl.1 rfl (Nat.le_of_ble_eq_true rfl) dX6_voice_2 (fun H locs hM => ?_)
  refine w_if_eqT (tgt := 17) hx hb dX6_voice_5 (by decide) (fun c_1 => ?_) (fun c_1 => ?_)
  · exact absurd (by first | exact (in_nat (by decide)).mpr ⟨_, by omega, rfl⟩ | exact (in_nat1 _ (by decide) (by decide)).mpr ⟨_, by omega, by omega, rfl⟩ | exact cow_in hN (by omega) | assumption) c_1
  · refine lv_iload_n hx hb dX6_voice_8 rfl (lv_at hl 2 rfl) ?_
    refine lv_iconst (v := nI 0) hx hb dX6_voice_9 (by decide) ?_
    refine lv_iconst (v := nI 3) hx hb dX6_voice_10 (by decide) ?_
    refine st_callI (y := yX6_in) hx hb hml hown hts (met_in (nI 3) (nI 0) (nI 3)) q1482 q1483 q70 q1484 ndX6_in rfl (by rw [hRf]; decide) (by rw [hRl]; decide) ⟨Nat.zero_le _, Nat.zero_le _⟩ hl.1 rfl (Nat.le_of_ble_eq_true rfl) dX6_voice_11 ?_
    refine w_if_neT (tgt := 24) hx hb dX6_voice_14 (by decide) (fun c_2 => ?_) (fun c_2 => ?_)
    · refine lv_aload_n hx hb dX6_voice_24 rfl (lv_at hl 0 rfl) ?_
      refine lv_iconst (v := nI 0) hx hb dX6_voice_25 (by decide) ?_
      refine md_put hx hb hts hown hK hI hM 24 (by decide) q1414 rfl rfl rfl rfl rfl dX6_voice_26 (fun H locs hM => ?_)
      refine lv_aload_n hx hb dX6_voice_29 rfl (lv_at hl 0 rfl) ?_
      refine lv_aload_n hx hb dX6_voice_30 rfl (lv_at hl 0 rfl) ?_
      refine lv_iload_n hx hb dX6_voice_31 rfl (lv_at hl 1 rfl) ?_
      refine lv_iconst (v := nI 0) hx hb dX6_voice_32 (by decide) ?_
      refine md_callI (y := yX6_its) hx hb hml hown hts hK hI hM (met_its (upd f 24 (nI 0)) a i 0 (by omega)) q1557 q1559 qs35 q1560 ndX6_its rfl (by rw [hRf]; decide) (by rw [hRl]; decide) hl.1 rfl (Nat.le_of_ble_eq_true rfl) dX6_voice_33 (fun H locs hM => ?_)
      refine w_top (nI 4) (hkd) ?_
      refine md_put hx hb hts hown hK hI hM 25 (by decide) q1415 rfl rfl rfl rfl rfl dX6_voice_36 (fun H locs hM => ?_)
      refine lv_aload_n hx hb dX6_voice_39 rfl (lv_at hl 0 rfl) ?_
      refine lv_iload_n hx hb dX6_voice_40 rfl (lv_at hl 1 rfl) ?_
      refine md_put hx hb hts hown hK hI hM 26 (by decide) q1416 rfl rfl rfl rfl rfl dX6_voice_41 (fun H locs hM => ?_)
      refine lv_aload_n hx hb dX6_voice_44 rfl (lv_at hl 0 rfl) ?_
      refine lv_aload_n hx hb dX6_voice_45 rfl (lv_at hl 0 rfl) ?_
      refine lv_iload_n hx hb dX6_voice_46 rfl (lv_at hl 1 rfl) ?_
      refine lv_iconst (v := nI 1) hx hb dX6_voice_47 (by decide) ?_
      refine md_callI (y := yX6_its) hx hb hml hown hts hK hI hM (met_its (upd (upd (upd f 24 (nI 0)) 25 (nI 4)) 26 (nI i)) a i 1 (by omega)) q1557 q1559 qs35 q1560 ndX6_its rfl (by rw [hRf]; decide) (by rw [hRl]; decide) hl.1 rfl (Nat.le_of_ble_eq_true rfl) dX6_voice_48 (fun H locs hM => ?_)
      refine md_put hx hb hts hown hK hI hM 27 (by decide) q1417 rfl rfl rfl rfl rfl dX6_voice_51 (fun H locs hM => ?_)
      have hM := hM.to (a' := va_up a 14 (a 14)) rfl (va_self a 14)
      have hM := hM.to (f' := upd (vF f 4 i (a 1 (58 + 14 * i + 1))) 24 (nI 0)) (vF_0 _ _ _ _) rfl
      refine lv_iload_n hx hb dX6_voice_54 rfl (lv_at hl 2 rfl) ?_
      refine lv_tableOut (tgt := 110) hx hb dX6_voice_55 (by decide) (by decide) ?_
      refine lv_aload_n hx hb dX6_voice_110 rfl (lv_at hl 0 rfl) ?_
      refine lv_aload_n hx hb dX6_voice_111 rfl (lv_at hl 0 rfl) ?_
      refine md_get (v := .int ((upd (vF f 4 i (a 1 (58 + 14 * i + 1))) 24 (nI 0)) 25)) hx hb hts hown hK hM 25 (by decide) q1415 rfl rfl dX6_voice_112 ?_
      refine w_top (nI 4) (rfl) ?_
      refine lv_iload_n hx hb dX6_voice_115 rfl (lv_at hl 3 rfl) ?_
      refine md_callI (y := yX6_tellsIn) hx hb hml hown hts hK hI hM (met_tellsIn_4_4 (vF f 4 i (a 1 (58 + 14 * i + 1))) a (a 14) 0 rfl x (by omega)) q1773 q1775 qs59 q1776 ndX6_tellsIn rfl (by rw [hRf]; decide) (by rw [hRl]; decide) hl.1 rfl (Nat.le_of_ble_eq_true rfl) dX6_voice_116 (fun H locs hM => ?_)
      exact hret hM (rfl) dX6_voice_119
    · exact absurd (by first | exact (in_nat (by decide)).mpr ⟨_, by omega, rfl⟩ | exact (in_nat1 _ (by decide) (by decide)).mpr ⟨_, by omega, by omega, rfl⟩ | exact cow_in hN (by omega) | assumption) c_2
set_option maxHeartbeats 400000 in
theorem met_voice_3_5 (f : Nat → Int32) (a : Nat → Nat → Int32) (i : Nat) (hi : i < cl (a 1 3)) (hN : okN (a 1 3) 5) (hkd : a 1 (58 + 14 * i + 0) = nI 5) (x : Int32) : MdF yX6_voice cX6_voice 4 (some .int) 10 225 [.int (nI i), .int (nI 3), .int x] f a (some (.int (((((x + (vF f 5 i (a 1 (58 + 14 * i + 1)) 26)) * (nI 3)) * (nI 2)) ^^^ (x - (vF f 5 i (a 1 (58 + 14 * i + 1)) 27))) - (((nI 2) + (vF f 5 i (a 1 (58 + 14 * i + 1)) 26)) * (nI 3))))) (upd (vF f 5 i (a 1 (58 + 14 * i + 1))) 24 (nI (0 + 1 + 1 + 1 + 1 + 1 + 1 + 1 + 1))) (va_up a 14 (upd (upd (upd (upd (upd (upd (upd (upd (a 14) 0 (nI 60)) (0 + 1) (nI 13)) (0 + 1 + 1) (nI 11)) (0 + 1 + 1 + 1) (nI 30)) (0 + 1 + 1 + 1 + 1) (nI 10)) (0 + 1 + 1 + 1 + 1 + 1) (nI 12)) (0 + 1 + 1 + 1 + 1 + 1 + 1) (nI 30)) (0 + 1 + 1 + 1 + 1 + 1 + 1 + 1) (nI 10))) := by
  refine MdF.ofI (by decide) rfl (Nat.le_of_ble_eq_true rfl) ?_
  intro p l e R s m args below meth c Q D h dA ls hx hb hml hRf hRl hts hown hK hI hM hl hret
  have hl : lv_has ls 4 [(0, .ref (h 0)), (1, .int (nI i)), (2, .int (nI 3)), (3, .int x)] := hl
  have hN2 := hN.2
  refine lv_aload_n hx hb dX6_voice_0 rfl (lv_at hl 0 rfl) ?_
  refine lv_iload_n hx hb dX6_voice_1 rfl (lv_at hl 1 rfl) ?_
  refine md_callI (y := yX6_isCow) hx hb hml hown hts hK hI hM (met_isCow f a (nI i)) q1574 q1576 qs37 q1577 ndX6_isCow rfl (by rw [hRf]; decide) (by rw [hRl]; decide) hl.1 rfl (Nat.le_of_ble_eq_true rfl) dX6_voice_2 (fun H locs hM => ?_)
  refine w_if_eqT (tgt := 17) hx hb dX6_voice_5 (by decide) (fun c_1 => ?_) (fun c_1 => ?_)
  · exact absurd (by first | exact (in_nat (by decide)).mpr ⟨_, by omega, rfl⟩ | exact (in_nat1 _ (by decide) (by decide)).mpr ⟨_, by omega, by omega, rfl⟩ | exact cow_in hN (by omega) | assumption) c_1
  · refine lv_iload_n hx hb dX6_voice_8 rfl (lv_at hl 2 rfl) ?_
    refine lv_iconst (v := nI 0) hx hb dX6_voice_9 (by decide) ?_
    refine lv_iconst (v := nI 3) hx hb dX6_voice_10 (by decide) ?_
    refine st_callI (y := yX6_in) hx hb hml hown hts (met_in (nI 3) (nI 0) (nI 3)) q1482 q1483 q70 q1484 ndX6_in rfl (by rw [hRf]; decide) (by rw [hRl]; decide) ⟨Nat.zero_le _, Nat.zero_le _⟩ hl.1 rfl (Nat.le_of_ble_eq_true rfl) dX6_voice_11 ?_
    refine w_if_neT (tgt := 24) hx hb dX6_voice_14 (by decide) (fun c_2 => ?_) (fun c_2 => ?_)
    · refine lv_aload_n hx hb dX6_voice_24 rfl (lv_at hl 0 rfl) ?_
      refine lv_iconst (v := nI 0) hx hb dX6_voice_25 (by decide) ?_
      refine md_put hx hb hts hown hK hI hM 24 (by decide) q1414 rfl rfl rfl rfl rfl dX6_voice_26 (fun H locs hM => ?_)
      refine lv_aload_n hx hb dX6_voice_29 rfl (lv_at hl 0 rfl) ?_
      refine lv_aload_n hx hb dX6_voice_30 rfl (lv_at hl 0 rfl) ?_
      refine lv_iload_n hx hb dX6_voice_31 rfl (lv_at hl 1 rfl) ?_
      refine lv_iconst (v := nI 0) hx hb dX6_voice_32 (by decide) ?_
      refine md_callI (y := yX6_its) hx hb hml hown hts hK hI hM (met_its (upd f 24 (nI 0)) a i 0 (by omega)) q1557 q1559 qs35 q1560 ndX6_its rfl (by rw [hRf]; decide) (by rw [hRl]; decide) hl.1 rfl (Nat.le_of_ble_eq_true rfl) dX6_voice_33 (fun H locs hM => ?_)
      refine w_top (nI 5) (hkd) ?_
      refine md_put hx hb hts hown hK hI hM 25 (by decide) q1415 rfl rfl rfl rfl rfl dX6_voice_36 (fun H locs hM => ?_)
      refine lv_aload_n hx hb dX6_voice_39 rfl (lv_at hl 0 rfl) ?_
      refine lv_iload_n hx hb dX6_voice_40 rfl (lv_at hl 1 rfl) ?_
      refine md_put hx hb hts hown hK hI hM 26 (by decide) q1416 rfl rfl rfl rfl rfl dX6_voice_41 (fun H locs hM => ?_)
      refine lv_aload_n hx hb dX6_voice_44 rfl (lv_at hl 0 rfl) ?_
      refine lv_aload_n hx hb dX6_voice_45 rfl (lv_at hl 0 rfl) ?_
      refine lv_iload_n hx hb dX6_voice_46 rfl (lv_at hl 1 rfl) ?_
      refine lv_iconst (v := nI 1) hx hb dX6_voice_47 (by decide) ?_
      refine md_callI (y := yX6_its) hx hb hml hown hts hK hI hM (met_its (upd (upd (upd f 24 (nI 0)) 25 (nI 5)) 26 (nI i)) a i 1 (by omega)) q1557 q1559 qs35 q1560 ndX6_its rfl (by rw [hRf]; decide) (by rw [hRl]; decide) hl.1 rfl (Nat.le_of_ble_eq_true rfl) dX6_voice_48 (fun H locs hM => ?_)
      refine md_put hx hb hts hown hK hI hM 27 (by decide) q1417 rfl rfl rfl rfl rfl dX6_voice_51 (fun H locs hM => ?_)
      have hM := hM.to (a' := va_up a 14 (a 14)) rfl (va_self a 14)
      have hM := hM.to (f' := upd (vF f 5 i (a 1 (58 + 14 * i + 1))) 24 (nI 0)) (vF_0 _ _ _ _) rfl
      refine lv_iload_n hx hb dX6_voice_54 rfl (lv_at hl 2 rfl) ?_
      refine lv_tableOut (tgt := 110) hx hb dX6_voice_55 (by decide) (by decide) ?_
      refine lv_aload_n hx hb dX6_voice_110 rfl (lv_at hl 0 rfl) ?_
      refine lv_aload_n hx hb dX6_voice_111 rfl (lv_at hl 0 rfl) ?_
      refine md_get (v := .int ((upd (vF f 5 i (a 1 (58 + 14 * i + 1))) 24 (nI 0)) 25)) hx hb hts hown hK hM 25 (by decide) q1415 rfl rfl dX6_voice_112 ?_
      refine w_top (nI 5) (rfl) ?_
      refine lv_iload_n hx hb dX6_voice_115 rfl (lv_at hl 3 rfl) ?_
      refine md_callI (y := yX6_tellsIn) hx hb hml hown hts hK hI hM (met_tellsIn_5_5 (vF f 5 i (a 1 (58 + 14 * i + 1))) a (a 14) 0 rfl x (by omega)) q1773 q1775 qs59 q1776 ndX6_tellsIn rfl (by rw [hRf]; decide) (by rw [hRl]; decide) hl.1 rfl (Nat.le_of_ble_eq_true rfl) dX6_voice_116 (fun H locs hM => ?_)
      exact hret hM (rfl) dX6_voice_119
    · exact absurd (by first | exact (in_nat (by decide)).mpr ⟨_, by omega, rfl⟩ | exact (in_nat1 _ (by decide) (by decide)).mpr ⟨_, by omega, by omega, rfl⟩ | exact cow_in hN (by omega) | assumption) c_2
set_option maxHeartbeats 400000 in
theorem met_voice_3_6 (f : Nat → Int32) (a : Nat → Nat → Int32) (i : Nat) (hi : i < cl (a 1 3)) (hN : okN (a 1 3) 5) (hkd : a 1 (58 + 14 * i + 0) = nI 6) (x : Int32) : MdF yX6_voice cX6_voice 4 (some .int) 10 225 [.int (nI i), .int (nI 3), .int x] f a (some (.int (((x + (vF f 6 i (a 1 (58 + 14 * i + 1)) 26)) * (nI 2)) - (((x + (vF f 6 i (a 1 (58 + 14 * i + 1)) 26)) * (nI 2)) ^^^ ((-(x - (vF f 6 i (a 1 (58 + 14 * i + 1)) 27))) ^^^ (vF f 6 i (a 1 (58 + 14 * i + 1)) 26)))))) (upd (vF f 6 i (a 1 (58 + 14 * i + 1))) 24 (nI (0 + 1 + 1 + 1 + 1 + 1 + 1 + 1 + 1 + 1))) (va_up a 14 (upd (upd (upd (upd (upd (upd (upd (upd (upd (a 14) 0 (nI 71)) (0 + 1) (nI 11)) (0 + 1 + 1) (nI 10)) (0 + 1 + 1 + 1) (nI 13)) (0 + 1 + 1 + 1 + 1) (nI 11)) (0 + 1 + 1 + 1 + 1 + 1) (nI 10)) (0 + 1 + 1 + 1 + 1 + 1 + 1) (nI 70)) (0 + 1 + 1 + 1 + 1 + 1 + 1 + 1) (nI 40)) (0 + 1 + 1 + 1 + 1 + 1 + 1 + 1 + 1) (nI 12))) := by
  refine MdF.ofI (by decide) rfl (Nat.le_of_ble_eq_true rfl) ?_
  intro p l e R s m args below meth c Q D h dA ls hx hb hml hRf hRl hts hown hK hI hM hl hret
  have hl : lv_has ls 4 [(0, .ref (h 0)), (1, .int (nI i)), (2, .int (nI 3)), (3, .int x)] := hl
  have hN2 := hN.2
  refine lv_aload_n hx hb dX6_voice_0 rfl (lv_at hl 0 rfl) ?_
  refine lv_iload_n hx hb dX6_voice_1 rfl (lv_at hl 1 rfl) ?_
  refine md_callI (y := yX6_isCow) hx hb hml hown hts hK hI hM (met_isCow f a (nI i)) q1574 q1576 qs37 q1577 ndX6_isCow rfl (by rw [hRf]; decide) (by rw [hRl]; decide) hl.1 rfl (Nat.le_of_ble_eq_true rfl) dX6_voice_2 (fun H locs hM => ?_)
  refine w_if_eqT (tgt := 17) hx hb dX6_voice_5 (by decide) (fun c_1 => ?_) (fun c_1 => ?_)
  · exact absurd (by first | exact (in_nat (by decide)).mpr ⟨_, by omega, rfl⟩ | exact (in_nat1 _ (by decide) (by decide)).mpr ⟨_, by omega, by omega, rfl⟩ | exact cow_in hN (by omega) | assumption) c_1
  · refine lv_iload_n hx hb dX6_voice_8 rfl (lv_at hl 2 rfl) ?_
    refine lv_iconst (v := nI 0) hx hb dX6_voice_9 (by decide) ?_
    refine lv_iconst (v := nI 3) hx hb dX6_voice_10 (by decide) ?_
    refine st_callI (y := yX6_in) hx hb hml hown hts (met_in (nI 3) (nI 0) (nI 3)) q1482 q1483 q70 q1484 ndX6_in rfl (by rw [hRf]; decide) (by rw [hRl]; decide) ⟨Nat.zero_le _, Nat.zero_le _⟩ hl.1 rfl (Nat.le_of_ble_eq_true rfl) dX6_voice_11 ?_
    refine w_if_neT (tgt := 24) hx hb dX6_voice_14 (by decide) (fun c_2 => ?_) (fun c_2 => ?_)
    · refine lv_aload_n hx hb dX6_voice_24 rfl (lv_at hl 0 rfl) ?_
      refine lv_iconst (v := nI 0) hx hb dX6_voice_25 (by decide) ?_
      refine md_put hx hb hts hown hK hI hM 24 (by decide) q1414 rfl rfl rfl rfl rfl dX6_voice_26 (fun H locs hM => ?_)
      refine lv_aload_n hx hb dX6_voice_29 rfl (lv_at hl 0 rfl) ?_
      refine lv_aload_n hx hb dX6_voice_30 rfl (lv_at hl 0 rfl) ?_
      refine lv_iload_n hx hb dX6_voice_31 rfl (lv_at hl 1 rfl) ?_
      refine lv_iconst (v := nI 0) hx hb dX6_voice_32 (by decide) ?_
      refine md_callI (y := yX6_its) hx hb hml hown hts hK hI hM (met_its (upd f 24 (nI 0)) a i 0 (by omega)) q1557 q1559 qs35 q1560 ndX6_its rfl (by rw [hRf]; decide) (by rw [hRl]; decide) hl.1 rfl (Nat.le_of_ble_eq_true rfl) dX6_voice_33 (fun H locs hM => ?_)
      refine w_top (nI 6) (hkd) ?_
      refine md_put hx hb hts hown hK hI hM 25 (by decide) q1415 rfl rfl rfl rfl rfl dX6_voice_36 (fun H locs hM => ?_)
      refine lv_aload_n hx hb dX6_voice_39 rfl (lv_at hl 0 rfl) ?_
      refine lv_iload_n hx hb dX6_voice_40 rfl (lv_at hl 1 rfl) ?_
      refine md_put hx hb hts hown hK hI hM 26 (by decide) q1416 rfl rfl rfl rfl rfl dX6_voice_41 (fun H locs hM => ?_)
      refine lv_aload_n hx hb dX6_voice_44 rfl (lv_at hl 0 rfl) ?_
      refine lv_aload_n hx hb dX6_voice_45 rfl (lv_at hl 0 rfl) ?_
      refine lv_iload_n hx hb dX6_voice_46 rfl (lv_at hl 1 rfl) ?_
      refine lv_iconst (v := nI 1) hx hb dX6_voice_47 (by decide) ?_
      refine md_callI (y := yX6_its) hx hb hml hown hts hK hI hM (met_its (upd (upd (upd f 24 (nI 0)) 25 (nI 6)) 26 (nI i)) a i 1 (by omega)) q1557 q1559 qs35 q1560 ndX6_its rfl (by rw [hRf]; decide) (by rw [hRl]; decide) hl.1 rfl (Nat.le_of_ble_eq_true rfl) dX6_voice_48 (fun H locs hM => ?_)
      refine md_put hx hb hts hown hK hI hM 27 (by decide) q1417 rfl rfl rfl rfl rfl dX6_voice_51 (fun H locs hM => ?_)
      have hM := hM.to (a' := va_up a 14 (a 14)) rfl (va_self a 14)
      have hM := hM.to (f' := upd (vF f 6 i (a 1 (58 + 14 * i + 1))) 24 (nI 0)) (vF_0 _ _ _ _) rfl
      refine lv_iload_n hx hb dX6_voice_54 rfl (lv_at hl 2 rfl) ?_
      refine lv_tableOut (tgt := 110) hx hb dX6_voice_55 (by decide) (by decide) ?_
      refine lv_aload_n hx hb dX6_voice_110 rfl (lv_at hl 0 rfl) ?_
      refine lv_aload_n hx hb dX6_voice_111 rfl (lv_at hl 0 rfl) ?_
      refine md_get (v := .int ((upd (vF f 6 i (a 1 (58 + 14 * i + 1))) 24 (nI 0)) 25)) hx hb hts hown hK hM 25 (by decide) q1415 rfl rfl dX6_voice_112 ?_
      refine w_top (nI 6) (rfl) ?_
      refine lv_iload_n hx hb dX6_voice_115 rfl (lv_at hl 3 rfl) ?_
      refine md_callI (y := yX6_tellsIn) hx hb hml hown hts hK hI hM (met_tellsIn_6_6 (vF f 6 i (a 1 (58 + 14 * i + 1))) a (a 14) 0 rfl x (by omega)) q1773 q1775 qs59 q1776 ndX6_tellsIn rfl (by rw [hRf]; decide) (by rw [hRl]; decide) hl.1 rfl (Nat.le_of_ble_eq_true rfl) dX6_voice_116 (fun H locs hM => ?_)
      exact hret hM (rfl) dX6_voice_119
    · exact absurd (by first | exact (in_nat (by decide)).mpr ⟨_, by omega, rfl⟩ | exact (in_nat1 _ (by decide) (by decide)).mpr ⟨_, by omega, by omega, rfl⟩ | exact cow_in hN (by omega) | assumption) c_2
set_option maxHeartbeats 400000 in
theorem met_voice_e (f : Nat → Int32) (a : Nat → Nat → Int32) (v w x : Int32) (he : ¬ (cowP (a 1) v ∧ (nI 0 ≤ w ∧ w ≤ nI 3))) : MdF yX6_voice cX6_voice 4 (some .int) 2 43 [.int v, .int w, .int x] f a (some (.int (-1000000001 : Int32))) f (mErr a 1) := by
  refine MdF.ofI (by decide) rfl (Nat.le_of_ble_eq_true rfl) ?_
  intro p l e R s m args below meth c Q D h dA ls hx hb hml hRf hRl hts hown hK hI hM hl hret
  have hl : lv_has ls 4 [(0, .ref (h 0)), (1, .int v), (2, .int w), (3, .int x)] := hl
  refine lv_aload_n hx hb dX6_voice_0 rfl (lv_at hl 0 rfl) ?_
  refine lv_iload_n hx hb dX6_voice_1 rfl (lv_at hl 1 rfl) ?_
  refine md_callI (y := yX6_isCow) hx hb hml hown hts hK hI hM (met_isCow f a v) q1574 q1576 qs37 q1577 ndX6_isCow rfl (by rw [hRf]; decide) (by rw [hRl]; decide) hl.1 rfl (Nat.le_of_ble_eq_true rfl) dX6_voice_2 (fun H locs hM => ?_)
  refine w_if_eqT (tgt := 17) hx hb dX6_voice_5 (by decide) (fun c_1 => ?_) (fun c_1 => ?_)
  · refine lv_aload_n hx hb dX6_voice_17 rfl (lv_at hl 0 rfl) ?_
    refine lv_ldc hx hb hown (hts _ q1485) dX6_voice_18 ?_
    refine md_callI (y := yX6_errs) hx hb hml hown hts hK hI hM (met_errs f a (-1000000001 : Int32) 1 (by decide) (by decide)) q1486 q1488 qs21 q1489 ndX6_errs rfl (by rw [hRf]; decide) (by rw [hRl]; decide) hl.1 rfl (Nat.le_of_ble_eq_true rfl) dX6_voice_20 (fun H locs hM => ?_)
    exact hret hM (by first | rfl | (simp only [iI, nI_0, nI_one]; grind)) dX6_voice_23
  · refine lv_iload_n hx hb dX6_voice_8 rfl (lv_at hl 2 rfl) ?_
    refine lv_iconst (v := nI 0) hx hb dX6_voice_9 (by decide) ?_
    refine lv_iconst (v := nI 3) hx hb dX6_voice_10 (by decide) ?_
    refine st_callI (y := yX6_in) hx hb hml hown hts (met_in w (nI 0) (nI 3)) q1482 q1483 q70 q1484 ndX6_in rfl (by rw [hRf]; decide) (by rw [hRl]; decide) ⟨Nat.zero_le _, Nat.zero_le _⟩ hl.1 rfl (Nat.le_of_ble_eq_true rfl) dX6_voice_11 ?_
    refine w_if_neT (tgt := 24) hx hb dX6_voice_14 (by decide) (fun c_2 => ?_) (fun c_2 => ?_)
    · exact absurd ⟨c_1, c_2⟩ he
    · refine lv_aload_n hx hb dX6_voice_17 rfl (lv_at hl 0 rfl) ?_
      refine lv_ldc hx hb hown (hts _ q1485) dX6_voice_18 ?_
      refine md_callI (y := yX6_errs) hx hb hml hown hts hK hI hM (met_errs f a (-1000000001 : Int32) 1 (by decide) (by decide)) q1486 q1488 qs21 q1489 ndX6_errs rfl (by rw [hRf]; decide) (by rw [hRl]; decide) hl.1 rfl (Nat.le_of_ble_eq_true rfl) dX6_voice_20 (fun H locs hM => ?_)
      exact hret hM (by first | rfl | (simp only [iI, nI_0, nI_one]; grind)) dX6_voice_23
