/-! the model: acts, 1 (printed by model8.py) -/
set_option maxRecDepth 100000
abbrev cowP (r : Nat → Int32) (v : Int32) : Prop := nI 0 ≤ v ∧ v ≤ (r 3) - nI 1
theorem cow_in {r : Nat → Int32} {i : Nat} (hN : okN (r 3) 5) (h : i < cl (r 3)) : nI 0 ≤ nI i ∧ nI i ≤ (r 3) - nI 1 := by
  obtain ⟨h1, h2⟩ := hN
  rw [h1, pk_sub (by omega)]
  exact ⟨nI_le (Nat.zero_le _) (by omega), nI_le (by omega) (by omega)⟩
theorem cow_of {r : Nat → Int32} {v : Int32} (hN : okN (r 3) 5) (h : cowP r v) : ∃ i, i < cl (r 3) ∧ v = nI i := by
  obtain ⟨h1, h2⟩ := hN
  obtain ⟨g1, g2⟩ := h
  by_cases h0 : cl (r 3) = 0
  · rw [h1, h0] at g2
    have : nI 0 ≤ nI 0 - nI 1 := Int32.le_trans g1 g2
    exact absurd this (by decide)
  · rw [h1, pk_sub (by omega)] at g2
    obtain ⟨k, hk, e⟩ := (in_nat (by omega)).mp ⟨g1, g2⟩
    exact ⟨k, by omega, e⟩
theorem ndX6_grows : yX6_grows.cls = RX6 ∧ yX6_grows.cls ≠ "java/lang/invoke/MethodHandle" ∧ yX6_grows.cls ≠ "java/lang/invoke/VarHandle" ∧ (parseMethodDescriptor yX6_grows.desc).map (fun d => d.parameters.length) = some 1 := by decide +kernel
set_option maxHeartbeats 400000 in
theorem met_grows_ok (f : Nat → Int32) (a : Nat → Nat → Int32) (v : Nat) (hv : v ≤ 9) : MdF yX6_grows cX6_grows 3 (some .int) 1 22 [.int (nI v)] f a (some (.int (a 1 1))) f (va_up a 1 (upd (a 1) 1 (nI v))) := by
  refine MdF.ofI (by decide) rfl (Nat.le_of_ble_eq_true rfl) ?_
  intro p l e R s m args below meth c Q D h dA ls hx hb hml hRf hRl hts hown hK hI hM hl hret
  have hl : lv_has ls 3 [(0, .ref (h 0)), (1, .int (nI v))] := hl
  refine lv_iload_n hx hb dX6_grows_0 rfl (lv_at hl 1 rfl) ?_
  refine lv_iconst (v := nI 0) hx hb dX6_grows_1 (by decide) ?_
  refine lv_bipush (v := nI 9) hx hb dX6_grows_2 (by decide) ?_
  refine st_callI (y := yX6_in) hx hb hml hown hts (met_in (nI v) (nI 0) (nI 9)) q1482 q1483 q70 q1484 ndX6_in rfl (by rw [hRf]; decide) (by rw [hRl]; decide) ⟨Nat.zero_le _, Nat.zero_le _⟩ hl.1 rfl (Nat.le_of_ble_eq_true rfl) dX6_grows_4 ?_
  refine w_if_neT (tgt := 17) hx hb dX6_grows_7 (by decide) (fun c_1 => ?_) (fun c_1 => ?_)
  · refine lv_aload_n hx hb dX6_grows_17 rfl (lv_at hl 0 rfl) ?_
    refine md_get (v := .ref (h 1)) hx hb hts hown hK hM 0 (by decide) q1390 rfl rfl dX6_grows_18 ?_
    refine lv_iconst (v := nI 1) hx hb dX6_grows_21 (by decide) ?_
    refine md_iald hx hb hK hM 1 rfl 1 ⟨by omega, by decide, rfl⟩ dX6_grows_22 ?_
    refine lv_istore_n (lv' := [(2, .int (a 1 1)), (0, .ref (h 0)), (1, .int (nI v))]) hx hb dX6_grows_23 rfl hl (by decide) rfl (fun ls hl => ?_)
    refine lv_aload_n hx hb dX6_grows_24 rfl (lv_at hl 1 rfl) ?_
    refine md_get (v := .ref (h 1)) hx hb hts hown hK hM 0 (by decide) q1390 rfl rfl dX6_grows_25 ?_
    refine lv_iconst (v := nI 1) hx hb dX6_grows_28 (by decide) ?_
    refine lv_iload_n hx hb dX6_grows_29 rfl (lv_at hl 2 rfl) ?_
    refine md_iast hx hb hK hI hM 1 rfl 1 ⟨by omega, by decide, rfl⟩ rfl dX6_grows_30 (fun H locs hM => ?_)
    refine lv_iload_n hx hb dX6_grows_31 rfl (lv_at hl 0 rfl) ?_
    exact hret hM (by first | rfl | (simp only [iI, nI_0, nI_one]; grind)) dX6_grows_32
  · exact absurd (by first | exact (in_nat (by decide)).mpr ⟨_, by omega, rfl⟩ | exact (in_nat1 _ (by decide) (by decide)).mpr ⟨_, by omega, by omega, rfl⟩ | exact cow_in hN (by omega) | assumption) c_1
set_option maxHeartbeats 400000 in
theorem met_grows_e (f : Nat → Int32) (a : Nat → Nat → Int32) (v : Int32) (he : ¬ (nI 0 ≤ v ∧ v ≤ nI 9)) : MdF yX6_grows cX6_grows 3 (some .int) 1 22 [.int v] f a (some (.int (-1000000001 : Int32))) f (mErr a 1) := by
  refine MdF.ofI (by decide) rfl (Nat.le_of_ble_eq_true rfl) ?_
  intro p l e R s m args below meth c Q D h dA ls hx hb hml hRf hRl hts hown hK hI hM hl hret
  have hl : lv_has ls 3 [(0, .ref (h 0)), (1, .int v)] := hl
  refine lv_iload_n hx hb dX6_grows_0 rfl (lv_at hl 1 rfl) ?_
  refine lv_iconst (v := nI 0) hx hb dX6_grows_1 (by decide) ?_
  refine lv_bipush (v := nI 9) hx hb dX6_grows_2 (by decide) ?_
  refine st_callI (y := yX6_in) hx hb hml hown hts (met_in v (nI 0) (nI 9)) q1482 q1483 q70 q1484 ndX6_in rfl (by rw [hRf]; decide) (by rw [hRl]; decide) ⟨Nat.zero_le _, Nat.zero_le _⟩ hl.1 rfl (Nat.le_of_ble_eq_true rfl) dX6_grows_4 ?_
  refine w_if_neT (tgt := 17) hx hb dX6_grows_7 (by decide) (fun c_1 => ?_) (fun c_1 => ?_)
  · exact absurd c_1 he
  · refine lv_aload_n hx hb dX6_grows_10 rfl (lv_at hl 0 rfl) ?_
    refine lv_ldc hx hb hown (hts _ q1485) dX6_grows_11 ?_
    refine md_callI (y := yX6_errs) hx hb hml hown hts hK hI hM (met_errs f a (-1000000001 : Int32) 1 (by decide) (by decide)) q1486 q1488 qs21 q1489 ndX6_errs rfl (by rw [hRf]; decide) (by rw [hRl]; decide) hl.1 rfl (Nat.le_of_ble_eq_true rfl) dX6_grows_13 (fun H locs hM => ?_)
    exact hret hM (by first | rfl | (simp only [iI, nI_0, nI_one]; grind)) dX6_grows_16
theorem ndX6_cell : yX6_cell.cls = RX6 ∧ yX6_cell.cls ≠ "java/lang/invoke/MethodHandle" ∧ yX6_cell.cls ≠ "java/lang/invoke/VarHandle" ∧ (parseMethodDescriptor yX6_cell.desc).map (fun d => d.parameters.length) = some 3 := by decide +kernel
set_option maxHeartbeats 400000 in
theorem met_cell_ok0 (f : Nat → Int32) (a : Nat → Nat → Int32) (c0 v : Nat) (hc : c0 < 25) (hv : v ≤ 9) : MdF yX6_cell cX6_cell 6 (some .int) 2 42 [.int (nI c0), .int (nI 0), .int (nI v)] f a (some (.int (a 1 (8 + c0)))) f (va_up a 1 (upd (a 1) (8 + c0) (nI v))) := by
  refine MdF.ofI (by decide) rfl (Nat.le_of_ble_eq_true rfl) ?_
  intro p l e R s m args below meth c Q D h dA ls hx hb hml hRf hRl hts hown hK hI hM hl hret
  have hl : lv_has ls 6 [(0, .ref (h 0)), (1, .int (nI c0)), (2, .int (nI 0)), (3, .int (nI v))] := hl
  refine lv_iload_n hx hb dX6_cell_0 rfl (lv_at hl 1 rfl) ?_
  refine st_callI (y := yX6_isCell) hx hb hml hown hts (met_isCell (nI c0)) q1479 q1480 q70 q1481 ndX6_isCell rfl (by rw [hRf]; decide) (by rw [hRl]; decide) ⟨Nat.zero_le _, Nat.zero_le _⟩ hl.1 rfl (Nat.le_of_ble_eq_true rfl) dX6_cell_1 ?_
  refine w_if_eqT (tgt := 35) hx hb dX6_cell_4 (by decide) (fun c_1 => ?_) (fun c_1 => ?_)
  · exact absurd (by first | exact (in_nat (by decide)).mpr ⟨_, by omega, rfl⟩ | exact (in_nat1 _ (by decide) (by decide)).mpr ⟨_, by omega, by omega, rfl⟩ | exact cow_in hN (by omega) | assumption) c_1
  · refine lv_iload_n hx hb dX6_cell_7 rfl (lv_at hl 2 rfl) ?_
    refine lv_iconst (v := nI 0) hx hb dX6_cell_8 (by decide) ?_
    refine lv_iconst (v := nI 1) hx hb dX6_cell_9 (by decide) ?_
    refine st_callI (y := yX6_in) hx hb hml hown hts (met_in (nI 0) (nI 0) (nI 1)) q1482 q1483 q70 q1484 ndX6_in rfl (by rw [hRf]; decide) (by rw [hRl]; decide) ⟨Nat.zero_le _, Nat.zero_le _⟩ hl.1 rfl (Nat.le_of_ble_eq_true rfl) dX6_cell_10 ?_
    refine w_if_eqT (tgt := 35) hx hb dX6_cell_13 (by decide) (fun c_2 => ?_) (fun c_2 => ?_)
    · exact absurd (by first | exact (in_nat (by decide)).mpr ⟨_, by omega, rfl⟩ | exact (in_nat1 _ (by decide) (by decide)).mpr ⟨_, by omega, by omega, rfl⟩ | exact cow_in hN (by omega) | assumption) c_2
    · refine lv_iload_n hx hb dX6_cell_16 rfl (lv_at hl 3 rfl) ?_
      refine lv_iconst (v := nI 0) hx hb dX6_cell_17 (by decide) ?_
      refine lv_iload_n hx hb dX6_cell_18 rfl (lv_at hl 2 rfl) ?_
      refine lv_if_ne (tgt := 27) hx hb dX6_cell_19 (by decide) (fun q => absurd q (by decide)) (fun _ => ?_)
      refine lv_bipush (v := nI 9) hx hb dX6_cell_22 (by decide) ?_
      refine lv_goto (tgt := 29) hx hb dX6_cell_24 (by decide) ?_
      refine st_callI (y := yX6_in) hx hb hml hown hts (met_in (nI v) (nI 0) (nI 9)) q1482 q1483 q70 q1484 ndX6_in rfl (by rw [hRf]; decide) (by rw [hRl]; decide) ⟨Nat.zero_le _, Nat.zero_le _⟩ hl.1 rfl (Nat.le_of_ble_eq_true rfl) dX6_cell_29 ?_
      refine w_if_neT (tgt := 42) hx hb dX6_cell_32 (by decide) (fun c_4 => ?_) (fun c_4 => ?_)
      · refine lv_iload_n hx hb dX6_cell_42 rfl (lv_at hl 2 rfl) ?_
        refine lv_if_ne (tgt := 51) hx hb dX6_cell_43 (by decide) (fun q => absurd q (by decide)) (fun _ => ?_)
        refine lv_bipush (v := nI 8) hx hb dX6_cell_46 (by decide) ?_
        refine lv_goto (tgt := 53) hx hb dX6_cell_48 (by decide) ?_
        refine lv_iload_n hx hb dX6_cell_53 rfl (lv_at hl 1 rfl) ?_
        refine w_iaddN hx hb dX6_cell_54 ?_
        refine lv_istore (lv' := [(4, .int (nI (8 + c0))), (0, .ref (h 0)), (1, .int (nI c0)), (2, .int (nI 0)), (3, .int (nI v))]) hx hb dX6_cell_55 hl (by decide) rfl (fun ls hl => ?_)
        refine lv_aload_n hx hb dX6_cell_57 rfl (lv_at hl 1 rfl) ?_
        refine md_get (v := .ref (h 1)) hx hb hts hown hK hM 0 (by decide) q1390 rfl rfl dX6_cell_58 ?_
        refine lv_iload hx hb dX6_cell_61 (lv_at hl 0 rfl) ?_
        refine md_iald hx hb hK hM 1 rfl (8 + c0) ⟨by omega, by decide, rfl⟩ dX6_cell_63 ?_
        refine lv_istore (lv' := [(5, .int (a 1 (8 + c0))), (4, .int (nI (8 + c0))), (0, .ref (h 0)), (1, .int (nI c0)), (2, .int (nI 0)), (3, .int (nI v))]) hx hb dX6_cell_64 hl (by decide) rfl (fun ls hl => ?_)
        refine lv_aload_n hx hb dX6_cell_66 rfl (lv_at hl 2 rfl) ?_
        refine md_get (v := .ref (h 1)) hx hb hts hown hK hM 0 (by decide) q1390 rfl rfl dX6_cell_67 ?_
        refine lv_iload hx hb dX6_cell_70 (lv_at hl 1 rfl) ?_
        refine lv_iload_n hx hb dX6_cell_72 rfl (lv_at hl 5 rfl) ?_
        refine md_iast hx hb hK hI hM 1 rfl (8 + c0) ⟨by omega, by decide, rfl⟩ rfl dX6_cell_73 (fun H locs hM => ?_)
        refine lv_iload hx hb dX6_cell_74 (lv_at hl 0 rfl) ?_
        exact hret hM (by first | rfl | (simp only [iI, nI_0, nI_one]; grind)) dX6_cell_76
      · exact absurd (by first | exact (in_nat (by decide)).mpr ⟨_, by omega, rfl⟩ | exact (in_nat1 _ (by decide) (by decide)).mpr ⟨_, by omega, by omega, rfl⟩ | exact cow_in hN (by omega) | assumption) c_4
set_option maxHeartbeats 400000 in
theorem met_cell_ok1 (f : Nat → Int32) (a : Nat → Nat → Int32) (c0 v : Nat) (hc : c0 < 25) (hv : v ≤ 99) : MdF yX6_cell cX6_cell 6 (some .int) 2 42 [.int (nI c0), .int (nI 1), .int (nI v)] f a (some (.int (a 1 (33 + c0)))) f (va_up a 1 (upd (a 1) (33 + c0) (nI v))) := by
  refine MdF.ofI (by decide) rfl (Nat.le_of_ble_eq_true rfl) ?_
  intro p l e R s m args below meth c Q D h dA ls hx hb hml hRf hRl hts hown hK hI hM hl hret
  have hl : lv_has ls 6 [(0, .ref (h 0)), (1, .int (nI c0)), (2, .int (nI 1)), (3, .int (nI v))] := hl
  refine lv_iload_n hx hb dX6_cell_0 rfl (lv_at hl 1 rfl) ?_
  refine st_callI (y := yX6_isCell) hx hb hml hown hts (met_isCell (nI c0)) q1479 q1480 q70 q1481 ndX6_isCell rfl (by rw [hRf]; decide) (by rw [hRl]; decide) ⟨Nat.zero_le _, Nat.zero_le _⟩ hl.1 rfl (Nat.le_of_ble_eq_true rfl) dX6_cell_1 ?_
  refine w_if_eqT (tgt := 35) hx hb dX6_cell_4 (by decide) (fun c_1 => ?_) (fun c_1 => ?_)
  · exact absurd (by first | exact (in_nat (by decide)).mpr ⟨_, by omega, rfl⟩ | exact (in_nat1 _ (by decide) (by decide)).mpr ⟨_, by omega, by omega, rfl⟩ | exact cow_in hN (by omega) | assumption) c_1
  · refine lv_iload_n hx hb dX6_cell_7 rfl (lv_at hl 2 rfl) ?_
    refine lv_iconst (v := nI 0) hx hb dX6_cell_8 (by decide) ?_
    refine lv_iconst (v := nI 1) hx hb dX6_cell_9 (by decide) ?_
    refine st_callI (y := yX6_in) hx hb hml hown hts (met_in (nI 1) (nI 0) (nI 1)) q1482 q1483 q70 q1484 ndX6_in rfl (by rw [hRf]; decide) (by rw [hRl]; decide) ⟨Nat.zero_le _, Nat.zero_le _⟩ hl.1 rfl (Nat.le_of_ble_eq_true rfl) dX6_cell_10 ?_
    refine w_if_eqT (tgt := 35) hx hb dX6_cell_13 (by decide) (fun c_2 => ?_) (fun c_2 => ?_)
    · exact absurd (by first | exact (in_nat (by decide)).mpr ⟨_, by omega, rfl⟩ | exact (in_nat1 _ (by decide) (by decide)).mpr ⟨_, by omega, by omega, rfl⟩ | exact cow_in hN (by omega) | assumption) c_2
    · refine lv_iload_n hx hb dX6_cell_16 rfl (lv_at hl 3 rfl) ?_
      refine lv_iconst (v := nI 0) hx hb dX6_cell_17 (by decide) ?_
      refine lv_iload_n hx hb dX6_cell_18 rfl (lv_at hl 2 rfl) ?_
      refine lv_if_ne (tgt := 27) hx hb dX6_cell_19 (by decide) (fun _ => ?_) (fun q => absurd q (by decide))
      refine lv_bipush (v := nI 99) hx hb dX6_cell_27 (by decide) ?_
      refine st_callI (y := yX6_in) hx hb hml hown hts (met_in (nI v) (nI 0) (nI 99)) q1482 q1483 q70 q1484 ndX6_in rfl (by rw [hRf]; decide) (by rw [hRl]; decide) ⟨Nat.zero_le _, Nat.zero_le _⟩ hl.1 rfl (Nat.le_of_ble_eq_true rfl) dX6_cell_29 ?_
      refine w_if_neT (tgt := 42) hx hb dX6_cell_32 (by decide) (fun c_4 => ?_) (fun c_4 => ?_)
      · refine lv_iload_n hx hb dX6_cell_42 rfl (lv_at hl 2 rfl) ?_
        refine lv_if_ne (tgt := 51) hx hb dX6_cell_43 (by decide) (fun _ => ?_) (fun q => absurd q (by decide))
        refine lv_bipush (v := nI 33) hx hb dX6_cell_51 (by decide) ?_
        refine lv_iload_n hx hb dX6_cell_53 rfl (lv_at hl 1 rfl) ?_
        refine w_iaddN hx hb dX6_cell_54 ?_
        refine lv_istore (lv' := [(4, .int (nI (33 + c0))), (0, .ref (h 0)), (1, .int (nI c0)), (2, .int (nI 1)), (3, .int (nI v))]) hx hb dX6_cell_55 hl (by decide) rfl (fun ls hl => ?_)
        refine lv_aload_n hx hb dX6_cell_57 rfl (lv_at hl 1 rfl) ?_
        refine md_get (v := .ref (h 1)) hx hb hts hown hK hM 0 (by decide) q1390 rfl rfl dX6_cell_58 ?_
        refine lv_iload hx hb dX6_cell_61 (lv_at hl 0 rfl) ?_
        refine md_iald hx hb hK hM 1 rfl (33 + c0) ⟨by omega, by decide, rfl⟩ dX6_cell_63 ?_
        refine lv_istore (lv' := [(5, .int (a 1 (33 + c0))), (4, .int (nI (33 + c0))), (0, .ref (h 0)), (1, .int (nI c0)), (2, .int (nI 1)), (3, .int (nI v))]) hx hb dX6_cell_64 hl (by decide) rfl (fun ls hl => ?_)
        refine lv_aload_n hx hb dX6_cell_66 rfl (lv_at hl 2 rfl) ?_
        refine md_get (v := .ref (h 1)) hx hb hts hown hK hM 0 (by decide) q1390 rfl rfl dX6_cell_67 ?_
        refine lv_iload hx hb dX6_cell_70 (lv_at hl 1 rfl) ?_
        refine lv_iload_n hx hb dX6_cell_72 rfl (lv_at hl 5 rfl) ?_
        refine md_iast hx hb hK hI hM 1 rfl (33 + c0) ⟨by omega, by decide, rfl⟩ rfl dX6_cell_73 (fun H locs hM => ?_)
        refine lv_iload hx hb dX6_cell_74 (lv_at hl 0 rfl) ?_
        exact hret hM (by first | rfl | (simp only [iI, nI_0, nI_one]; grind)) dX6_cell_76
      · exact absurd (by first | exact (in_nat (by decide)).mpr ⟨_, by omega, rfl⟩ | exact (in_nat1 _ (by decide) (by decide)).mpr ⟨_, by omega, by omega, rfl⟩ | exact cow_in hN (by omega) | assumption) c_4
set_option maxHeartbeats 400000 in
theorem met_cell_e (f : Nat → Int32) (a : Nat → Nat → Int32) (c0 w v : Int32) (he : ¬ ((nI 0 ≤ c0 ∧ c0 ≤ nI 24) ∧ (nI 0 ≤ w ∧ w ≤ nI 1) ∧ (nI 0 ≤ v ∧ v ≤ if w = 0 then nI 9 else nI 99))) : MdF yX6_cell cX6_cell 6 (some .int) 2 42 [.int c0, .int w, .int v] f a (some (.int (-1000000001 : Int32))) f (mErr a 1) := by
  refine MdF.ofI (by decide) rfl (Nat.le_of_ble_eq_true rfl) ?_
  intro p l e R s m args below meth c Q D h dA ls hx hb hml hRf hRl hts hown hK hI hM hl hret
  have hl : lv_has ls 6 [(0, .ref (h 0)), (1, .int c0), (2, .int w), (3, .int v)] := hl
  refine lv_iload_n hx hb dX6_cell_0 rfl (lv_at hl 1 rfl) ?_
  refine st_callI (y := yX6_isCell) hx hb hml hown hts (met_isCell c0) q1479 q1480 q70 q1481 ndX6_isCell rfl (by rw [hRf]; decide) (by rw [hRl]; decide) ⟨Nat.zero_le _, Nat.zero_le _⟩ hl.1 rfl (Nat.le_of_ble_eq_true rfl) dX6_cell_1 ?_
  refine w_if_eqT (tgt := 35) hx hb dX6_cell_4 (by decide) (fun c_1 => ?_) (fun c_1 => ?_)
  · refine lv_aload_n hx hb dX6_cell_35 rfl (lv_at hl 0 rfl) ?_
    refine lv_ldc hx hb hown (hts _ q1485) dX6_cell_36 ?_
    refine md_callI (y := yX6_errs) hx hb hml hown hts hK hI hM (met_errs f a (-1000000001 : Int32) 1 (by decide) (by decide)) q1486 q1488 qs21 q1489 ndX6_errs rfl (by rw [hRf]; decide) (by rw [hRl]; decide) hl.1 rfl (Nat.le_of_ble_eq_true rfl) dX6_cell_38 (fun H locs hM => ?_)
    exact hret hM (by first | rfl | (simp only [iI, nI_0, nI_one]; grind)) dX6_cell_41
  · refine lv_iload_n hx hb dX6_cell_7 rfl (lv_at hl 2 rfl) ?_
    refine lv_iconst (v := nI 0) hx hb dX6_cell_8 (by decide) ?_
    refine lv_iconst (v := nI 1) hx hb dX6_cell_9 (by decide) ?_
    refine st_callI (y := yX6_in) hx hb hml hown hts (met_in w (nI 0) (nI 1)) q1482 q1483 q70 q1484 ndX6_in rfl (by rw [hRf]; decide) (by rw [hRl]; decide) ⟨Nat.zero_le _, Nat.zero_le _⟩ hl.1 rfl (Nat.le_of_ble_eq_true rfl) dX6_cell_10 ?_
    refine w_if_eqT (tgt := 35) hx hb dX6_cell_13 (by decide) (fun c_2 => ?_) (fun c_2 => ?_)
    · refine lv_aload_n hx hb dX6_cell_35 rfl (lv_at hl 0 rfl) ?_
      refine lv_ldc hx hb hown (hts _ q1485) dX6_cell_36 ?_
      refine md_callI (y := yX6_errs) hx hb hml hown hts hK hI hM (met_errs f a (-1000000001 : Int32) 1 (by decide) (by decide)) q1486 q1488 qs21 q1489 ndX6_errs rfl (by rw [hRf]; decide) (by rw [hRl]; decide) hl.1 rfl (Nat.le_of_ble_eq_true rfl) dX6_cell_38 (fun H locs hM => ?_)
      exact hret hM (by first | rfl | (simp only [iI, nI_0, nI_one]; grind)) dX6_cell_41
    · refine lv_iload_n hx hb dX6_cell_16 rfl (lv_at hl 3 rfl) ?_
      refine lv_iconst (v := nI 0) hx hb dX6_cell_17 (by decide) ?_
      refine lv_iload_n hx hb dX6_cell_18 rfl (lv_at hl 2 rfl) ?_
      refine lv_if_ne (tgt := 27) hx hb dX6_cell_19 (by decide) (fun c_3 => ?_) (fun c_3 => ?_)
      · refine lv_bipush (v := nI 99) hx hb dX6_cell_27 (by decide) ?_
        refine st_callI (y := yX6_in) hx hb hml hown hts (met_in v (nI 0) (nI 99)) q1482 q1483 q70 q1484 ndX6_in rfl (by rw [hRf]; decide) (by rw [hRl]; decide) ⟨Nat.zero_le _, Nat.zero_le _⟩ hl.1 rfl (Nat.le_of_ble_eq_true rfl) dX6_cell_29 ?_
        refine w_if_neT (tgt := 42) hx hb dX6_cell_32 (by decide) (fun c_4 => ?_) (fun c_4 => ?_)
        · exact absurd ⟨c_1, c_2, by rw [if_neg c_3]; exact c_4⟩ he
        · refine lv_aload_n hx hb dX6_cell_35 rfl (lv_at hl 0 rfl) ?_
          refine lv_ldc hx hb hown (hts _ q1485) dX6_cell_36 ?_
          refine md_callI (y := yX6_errs) hx hb hml hown hts hK hI hM (met_errs f a (-1000000001 : Int32) 1 (by decide) (by decide)) q1486 q1488 qs21 q1489 ndX6_errs rfl (by rw [hRf]; decide) (by rw [hRl]; decide) hl.1 rfl (Nat.le_of_ble_eq_true rfl) dX6_cell_38 (fun H locs hM => ?_)
          exact hret hM (by first | rfl | (simp only [iI, nI_0, nI_one]; grind)) dX6_cell_41
      · refine lv_bipush (v := nI 9) hx hb dX6_cell_22 (by decide) ?_
        refine lv_goto (tgt := 29) hx hb dX6_cell_24 (by decide) ?_
        refine st_callI (y := yX6_in) hx hb hml hown hts (met_in v (nI 0) (nI 9)) q1482 q1483 q70 q1484 ndX6_in rfl (by rw [hRf]; decide) (by rw [hRl]; decide) ⟨Nat.zero_le _, Nat.zero_le _⟩ hl.1 rfl (Nat.le_of_ble_eq_true rfl) dX6_cell_29 ?_
        refine w_if_neT (tgt := 42) hx hb dX6_cell_32 (by decide) (fun c_5 => ?_) (fun c_5 => ?_)
        · exact absurd ⟨c_1, c_2, by rw [if_pos c_3]; exact c_5⟩ he
        · refine lv_aload_n hx hb dX6_cell_35 rfl (lv_at hl 0 rfl) ?_
          refine lv_ldc hx hb hown (hts _ q1485) dX6_cell_36 ?_
          refine md_callI (y := yX6_errs) hx hb hml hown hts hK hI hM (met_errs f a (-1000000001 : Int32) 1 (by decide) (by decide)) q1486 q1488 qs21 q1489 ndX6_errs rfl (by rw [hRf]; decide) (by rw [hRl]; decide) hl.1 rfl (Nat.le_of_ble_eq_true rfl) dX6_cell_38 (fun H locs hM => ?_)
          exact hret hM (by first | rfl | (simp only [iI, nI_0, nI_one]; grind)) dX6_cell_41
theorem ndX6_milk : yX6_milk.cls = RX6 ∧ yX6_milk.cls ≠ "java/lang/invoke/MethodHandle" ∧ yX6_milk.cls ≠ "java/lang/invoke/VarHandle" ∧ (parseMethodDescriptor yX6_milk.desc).map (fun d => d.parameters.length) = some 2 := by decide +kernel
set_option maxHeartbeats 400000 in
theorem met_milk_ok (f : Nat → Int32) (a : Nat → Nat → Int32) (i k : Nat) (hi : i < cl (a 1 3)) (hN : okN (a 1 3) 5) (hq : okN (a 1 (58 + 14 * i + 3)) 10) (hk : k < cl (a 1 (58 + 14 * i + 3))) : MdF yX6_milk cX6_milk 3 (some .int) 2 43 [.int (nI i), .int (nI k)] f a (some (.int (a 1 (58 + 14 * i + (4 + k))))) f a := by
  refine MdF.ofI (by decide) rfl (Nat.le_of_ble_eq_true rfl) ?_
  intro p l e R s m args below meth c Q D h dA ls hx hb hml hRf hRl hts hown hK hI hM hl hret
  have hl : lv_has ls 3 [(0, .ref (h 0)), (1, .int (nI i)), (2, .int (nI k))] := hl
  have hN2 := hN.2
  have hq2 := hq.2
  refine lv_aload_n hx hb dX6_milk_0 rfl (lv_at hl 0 rfl) ?_
  refine lv_iload_n hx hb dX6_milk_1 rfl (lv_at hl 1 rfl) ?_
  refine md_callI (y := yX6_isCow) hx hb hml hown hts hK hI hM (met_isCow f a (nI i)) q1574 q1576 qs37 q1577 ndX6_isCow rfl (by rw [hRf]; decide) (by rw [hRl]; decide) hl.1 rfl (Nat.le_of_ble_eq_true rfl) dX6_milk_2 (fun H locs hM => ?_)
  refine w_if_eqT (tgt := 12) hx hb dX6_milk_5 (by decide) (fun c_1 => ?_) (fun c_1 => ?_)
  · exact absurd (by first | exact (in_nat (by decide)).mpr ⟨_, by omega, rfl⟩ | exact (in_nat1 _ (by decide) (by decide)).mpr ⟨_, by omega, by omega, rfl⟩ | exact cow_in hN (by omega) | assumption) c_1
  · refine lv_iload_n hx hb dX6_milk_8 rfl (lv_at hl 2 rfl) ?_
    refine w_if_geN (tgt := 19) hx hb (by omega) dX6_milk_9 (by decide) ?_
    refine lv_iload_n hx hb dX6_milk_19 rfl (lv_at hl 2 rfl) ?_
    refine lv_aload_n hx hb dX6_milk_20 rfl (lv_at hl 0 rfl) ?_
    refine lv_iload_n hx hb dX6_milk_21 rfl (lv_at hl 1 rfl) ?_
    refine lv_iconst (v := nI 3) hx hb dX6_milk_22 (by decide) ?_
    refine md_callI (y := yX6_its) hx hb hml hown hts hK hI hM (met_its f a i 3 (by omega)) q1557 q1559 qs35 q1560 ndX6_its rfl (by rw [hRf]; decide) (by rw [hRl]; decide) hl.1 rfl (Nat.le_of_ble_eq_true rfl) dX6_milk_23 (fun H locs hM => ?_)
    refine w_top (nI (cl (a 1 (58 + 14 * i + 3)))) (hq.1) ?_
    refine w_icmp_geN (tgt := 40) hx hb (by omega) (by omega) dX6_milk_26 (by decide) (fun c_3 => ?_) (fun c_3 => ?_)
    · exact absurd c_3 (by omega)
    · refine lv_aload_n hx hb dX6_milk_29 rfl (lv_at hl 0 rfl) ?_
      refine lv_iload_n hx hb dX6_milk_30 rfl (lv_at hl 1 rfl) ?_
      refine lv_iconst (v := nI 4) hx hb dX6_milk_31 (by decide) ?_
      refine lv_iload_n hx hb dX6_milk_32 rfl (lv_at hl 2 rfl) ?_
      refine w_iaddN hx hb dX6_milk_33 ?_
      refine md_callI (y := yX6_its) hx hb hml hown hts hK hI hM (met_its f a i (4 + k) (by omega)) q1557 q1559 qs35 q1560 ndX6_its rfl (by rw [hRf]; decide) (by rw [hRl]; decide) hl.1 rfl (Nat.le_of_ble_eq_true rfl) dX6_milk_34 (fun H locs hM => ?_)
      refine lv_goto (tgt := 46) hx hb dX6_milk_37 (by decide) ?_
      exact hret hM (by first | rfl | (simp only [iI, nI_0, nI_one]; grind)) dX6_milk_46
set_option maxHeartbeats 400000 in
theorem met_milk_n (f : Nat → Int32) (a : Nat → Nat → Int32) (i k : Nat) (hi : i < cl (a 1 3)) (hN : okN (a 1 3) 5) (hq : okN (a 1 (58 + 14 * i + 3)) 10) (hk : cl (a 1 (58 + 14 * i + 3)) ≤ k) (hk2 : k < 2 ^ 31) : MdF yX6_milk cX6_milk 3 (some .int) 2 43 [.int (nI i), .int (nI k)] f a (some (.int (-1000000002 : Int32))) f (mErr a 2) := by
  refine MdF.ofI (by decide) rfl (Nat.le_of_ble_eq_true rfl) ?_
  intro p l e R s m args below meth c Q D h dA ls hx hb hml hRf hRl hts hown hK hI hM hl hret
  have hl : lv_has ls 3 [(0, .ref (h 0)), (1, .int (nI i)), (2, .int (nI k))] := hl
  have hN2 := hN.2
  have hq2 := hq.2
  refine lv_aload_n hx hb dX6_milk_0 rfl (lv_at hl 0 rfl) ?_
  refine lv_iload_n hx hb dX6_milk_1 rfl (lv_at hl 1 rfl) ?_
  refine md_callI (y := yX6_isCow) hx hb hml hown hts hK hI hM (met_isCow f a (nI i)) q1574 q1576 qs37 q1577 ndX6_isCow rfl (by rw [hRf]; decide) (by rw [hRl]; decide) hl.1 rfl (Nat.le_of_ble_eq_true rfl) dX6_milk_2 (fun H locs hM => ?_)
  refine w_if_eqT (tgt := 12) hx hb dX6_milk_5 (by decide) (fun c_1 => ?_) (fun c_1 => ?_)
  · exact absurd (by first | exact (in_nat (by decide)).mpr ⟨_, by omega, rfl⟩ | exact (in_nat1 _ (by decide) (by decide)).mpr ⟨_, by omega, by omega, rfl⟩ | exact cow_in hN (by omega) | assumption) c_1
  · refine lv_iload_n hx hb dX6_milk_8 rfl (lv_at hl 2 rfl) ?_
    refine w_if_geN (tgt := 19) hx hb (by omega) dX6_milk_9 (by decide) ?_
    refine lv_iload_n hx hb dX6_milk_19 rfl (lv_at hl 2 rfl) ?_
    refine lv_aload_n hx hb dX6_milk_20 rfl (lv_at hl 0 rfl) ?_
    refine lv_iload_n hx hb dX6_milk_21 rfl (lv_at hl 1 rfl) ?_
    refine lv_iconst (v := nI 3) hx hb dX6_milk_22 (by decide) ?_
    refine md_callI (y := yX6_its) hx hb hml hown hts hK hI hM (met_its f a i 3 (by omega)) q1557 q1559 qs35 q1560 ndX6_its rfl (by rw [hRf]; decide) (by rw [hRl]; decide) hl.1 rfl (Nat.le_of_ble_eq_true rfl) dX6_milk_23 (fun H locs hM => ?_)
    refine w_top (nI (cl (a 1 (58 + 14 * i + 3)))) (hq.1) ?_
    refine w_icmp_geN (tgt := 40) hx hb (by omega) (by omega) dX6_milk_26 (by decide) (fun c_3 => ?_) (fun c_3 => ?_)
    · refine lv_aload_n hx hb dX6_milk_40 rfl (lv_at hl 0 rfl) ?_
      refine lv_ldc hx hb hown (hts _ q1605) dX6_milk_41 ?_
      refine md_callI (y := yX6_errs) hx hb hml hown hts hK hI hM (met_errs f a (-1000000002 : Int32) 2 (by decide) (by decide)) q1486 q1488 qs21 q1489 ndX6_errs rfl (by rw [hRf]; decide) (by rw [hRl]; decide) hl.1 rfl (Nat.le_of_ble_eq_true rfl) dX6_milk_43 (fun H locs hM => ?_)
      exact hret hM (by first | rfl | (simp only [iI, nI_0, nI_one]; grind)) dX6_milk_46
    · exact absurd c_3 (by omega)
set_option maxHeartbeats 400000 in
theorem met_milk_e (f : Nat → Int32) (a : Nat → Nat → Int32) (v k : Int32) (he : ¬ (cowP (a 1) v ∧ 0 ≤ k)) : MdF yX6_milk cX6_milk 3 (some .int) 2 43 [.int v, .int k] f a (some (.int (-1000000001 : Int32))) f (mErr a 1) := by
  refine MdF.ofI (by decide) rfl (Nat.le_of_ble_eq_true rfl) ?_
  intro p l e R s m args below meth c Q D h dA ls hx hb hml hRf hRl hts hown hK hI hM hl hret
  have hl : lv_has ls 3 [(0, .ref (h 0)), (1, .int v), (2, .int k)] := hl
  refine lv_aload_n hx hb dX6_milk_0 rfl (lv_at hl 0 rfl) ?_
  refine lv_iload_n hx hb dX6_milk_1 rfl (lv_at hl 1 rfl) ?_
  refine md_callI (y := yX6_isCow) hx hb hml hown hts hK hI hM (met_isCow f a v) q1574 q1576 qs37 q1577 ndX6_isCow rfl (by rw [hRf]; decide) (by rw [hRl]; decide) hl.1 rfl (Nat.le_of_ble_eq_true rfl) dX6_milk_2 (fun H locs hM => ?_)
  refine w_if_eqT (tgt := 12) hx hb dX6_milk_5 (by decide) (fun c_1 => ?_) (fun c_1 => ?_)
  · refine lv_aload_n hx hb dX6_milk_12 rfl (lv_at hl 0 rfl) ?_
    refine lv_ldc hx hb hown (hts _ q1485) dX6_milk_13 ?_
    refine md_callI (y := yX6_errs) hx hb hml hown hts hK hI hM (met_errs f a (-1000000001 : Int32) 1 (by decide) (by decide)) q1486 q1488 qs21 q1489 ndX6_errs rfl (by rw [hRf]; decide) (by rw [hRl]; decide) hl.1 rfl (Nat.le_of_ble_eq_true rfl) dX6_milk_15 (fun H locs hM => ?_)
    exact hret hM (by first | rfl | (simp only [iI, nI_0, nI_one]; grind)) dX6_milk_18
  · refine lv_iload_n hx hb dX6_milk_8 rfl (lv_at hl 2 rfl) ?_
    refine lv_if_ge (tgt := 19) hx hb dX6_milk_9 (by decide) (fun c_2 => ?_) (fun c_2 => ?_)
    · exact absurd ⟨c_1, c_2⟩ he
    · refine lv_aload_n hx hb dX6_milk_12 rfl (lv_at hl 0 rfl) ?_
      refine lv_ldc hx hb hown (hts _ q1485) dX6_milk_13 ?_
      refine md_callI (y := yX6_errs) hx hb hml hown hts hK hI hM (met_errs f a (-1000000001 : Int32) 1 (by decide) (by decide)) q1486 q1488 qs21 q1489 ndX6_errs rfl (by rw [hRf]; decide) (by rw [hRl]; decide) hl.1 rfl (Nat.le_of_ble_eq_true rfl) dX6_milk_15 (fun H locs hM => ?_)
      exact hret hM (by first | rfl | (simp only [iI, nI_0, nI_one]; grind)) dX6_milk_18
theorem ndX6_become : yX6_become.cls = RX6 ∧ yX6_become.cls ≠ "java/lang/invoke/MethodHandle" ∧ yX6_become.cls ≠ "java/lang/invoke/VarHandle" ∧ (parseMethodDescriptor yX6_become.desc).map (fun d => d.parameters.length) = some 2 := by decide +kernel
set_option maxHeartbeats 400000 in
theorem met_become_ok (f : Nat → Int32) (a : Nat → Nat → Int32) (i km : Nat) (hi : i < cl (a 1 3)) (hN : okN (a 1 3) 5) (hk : km ≤ 69) : MdF yX6_become cX6_become 4 (some .int) 2 43 [.int (nI i), .int (nI km)] f a (some (.int (a 1 (58 + 14 * i + 0)))) f (va_up a 1 (upd (upd (a 1) (58 + 14 * i + 0) (nI (km / 10))) (58 + 14 * i + 1) (nI (km % 10)))) := by
  refine MdF.ofI (by decide) rfl (Nat.le_of_ble_eq_true rfl) ?_
  intro p l e R s m args below meth c Q D h dA ls hx hb hml hRf hRl hts hown hK hI hM hl hret
  have hl : lv_has ls 4 [(0, .ref (h 0)), (1, .int (nI i)), (2, .int (nI km))] := hl
  have hN2 := hN.2
  refine lv_aload_n hx hb dX6_become_0 rfl (lv_at hl 0 rfl) ?_
  refine lv_iload_n hx hb dX6_become_1 rfl (lv_at hl 1 rfl) ?_
  refine md_callI (y := yX6_isCow) hx hb hml hown hts hK hI hM (met_isCow f a (nI i)) q1574 q1576 qs37 q1577 ndX6_isCow rfl (by rw [hRf]; decide) (by rw [hRl]; decide) hl.1 rfl (Nat.le_of_ble_eq_true rfl) dX6_become_2 (fun H locs hM => ?_)
  refine w_if_eqT (tgt := 18) hx hb dX6_become_5 (by decide) (fun c_1 => ?_) (fun c_1 => ?_)
  · exact absurd (by first | exact (in_nat (by decide)).mpr ⟨_, by omega, rfl⟩ | exact (in_nat1 _ (by decide) (by decide)).mpr ⟨_, by omega, by omega, rfl⟩ | exact cow_in hN (by omega) | assumption) c_1
  · refine lv_iload_n hx hb dX6_become_8 rfl (lv_at hl 2 rfl) ?_
    refine lv_iconst (v := nI 0) hx hb dX6_become_9 (by decide) ?_
    refine lv_bipush (v := nI 69) hx hb dX6_become_10 (by decide) ?_
    refine st_callI (y := yX6_in) hx hb hml hown hts (met_in (nI km) (nI 0) (nI 69)) q1482 q1483 q70 q1484 ndX6_in rfl (by rw [hRf]; decide) (by rw [hRl]; decide) ⟨Nat.zero_le _, Nat.zero_le _⟩ hl.1 rfl (Nat.le_of_ble_eq_true rfl) dX6_become_12 ?_
    refine w_if_neT (tgt := 25) hx hb dX6_become_15 (by decide) (fun c_2 => ?_) (fun c_2 => ?_)
    · refine lv_aload_n hx hb dX6_become_25 rfl (lv_at hl 0 rfl) ?_
      refine lv_iload_n hx hb dX6_become_26 rfl (lv_at hl 1 rfl) ?_
      refine lv_iconst (v := nI 0) hx hb dX6_become_27 (by decide) ?_
      refine md_callI (y := yX6_its) hx hb hml hown hts hK hI hM (met_its f a i 0 (by omega)) q1557 q1559 qs35 q1560 ndX6_its rfl (by rw [hRf]; decide) (by rw [hRl]; decide) hl.1 rfl (Nat.le_of_ble_eq_true rfl) dX6_become_28 (fun H locs hM => ?_)
      refine lv_istore_n (lv' := [(3, .int (a 1 (58 + 14 * i + 0))), (0, .ref (h 0)), (1, .int (nI i)), (2, .int (nI km))]) hx hb dX6_become_31 rfl hl (by decide) rfl (fun ls hl => ?_)
      refine lv_aload_n hx hb dX6_become_32 rfl (lv_at hl 1 rfl) ?_
      refine lv_iload_n hx hb dX6_become_33 rfl (lv_at hl 2 rfl) ?_
      refine lv_iconst (v := nI 0) hx hb dX6_become_34 (by decide) ?_
      refine lv_iload_n hx hb dX6_become_35 rfl (lv_at hl 3 rfl) ?_
      refine lv_bipush (v := nI 10) hx hb dX6_become_36 (by decide) ?_
      refine w_idivN hx hb (by omega) (by omega) (by omega) dX6_become_38 ?_
      refine md_callV (y := yX6_puts) hx hb hml hown hts hK hI hM (met_puts f a i 0 (nI (km / 10)) (by omega)) q1566 q1568 qs36 q1569 ndX6_puts rfl (by rw [hRf]; decide) (by rw [hRl]; decide) hl.1 rfl (Nat.le_of_ble_eq_true rfl) dX6_become_39 (fun H locs hM => ?_)
      have hM := hM.to (a' := va_up a 1 (upd (a 1) (58 + 14 * i + 0) (nI (km / 10)))) rfl (rfl)
      refine lv_aload_n hx hb dX6_become_42 rfl (lv_at hl 1 rfl) ?_
      refine lv_iload_n hx hb dX6_become_43 rfl (lv_at hl 2 rfl) ?_
      refine lv_iconst (v := nI 1) hx hb dX6_become_44 (by decide) ?_
      refine lv_iload_n hx hb dX6_become_45 rfl (lv_at hl 3 rfl) ?_
      refine lv_bipush (v := nI 10) hx hb dX6_become_46 (by decide) ?_
      refine w_iremN hx hb (by omega) (by omega) (by omega) dX6_become_48 ?_
      refine md_callV (y := yX6_puts) hx hb hml hown hts hK hI hM (met_puts f (va_up a 1 (upd (a 1) (58 + 14 * i + 0) (nI (km / 10)))) i 1 (nI (km % 10)) (by omega)) q1566 q1568 qs36 q1569 ndX6_puts rfl (by rw [hRf]; decide) (by rw [hRl]; decide) hl.1 rfl (Nat.le_of_ble_eq_true rfl) dX6_become_49 (fun H locs hM => ?_)
      have hM := hM.to (a' := va_up a 1 (upd (upd (a 1) (58 + 14 * i + 0) (nI (km / 10))) (58 + 14 * i + 1) (nI (km % 10)))) rfl (va_uu a 1 _ _)
      refine lv_iload_n hx hb dX6_become_52 rfl (lv_at hl 0 rfl) ?_
      exact hret hM (by first | rfl | (simp only [iI, nI_0, nI_one]; grind)) dX6_become_53
    · exact absurd (by first | exact (in_nat (by decide)).mpr ⟨_, by omega, rfl⟩ | exact (in_nat1 _ (by decide) (by decide)).mpr ⟨_, by omega, by omega, rfl⟩ | exact cow_in hN (by omega) | assumption) c_2
set_option maxHeartbeats 400000 in
theorem met_become_e (f : Nat → Int32) (a : Nat → Nat → Int32) (v km : Int32) (he : ¬ (cowP (a 1) v ∧ (nI 0 ≤ km ∧ km ≤ nI 69))) : MdF yX6_become cX6_become 4 (some .int) 2 43 [.int v, .int km] f a (some (.int (-1000000001 : Int32))) f (mErr a 1) := by
  refine MdF.ofI (by decide) rfl (Nat.le_of_ble_eq_true rfl) ?_
  intro p l e R s m args below meth c Q D h dA ls hx hb hml hRf hRl hts hown hK hI hM hl hret
  have hl : lv_has ls 4 [(0, .ref (h 0)), (1, .int v), (2, .int km)] := hl
  refine lv_aload_n hx hb dX6_become_0 rfl (lv_at hl 0 rfl) ?_
  refine lv_iload_n hx hb dX6_become_1 rfl (lv_at hl 1 rfl) ?_
  refine md_callI (y := yX6_isCow) hx hb hml hown hts hK hI hM (met_isCow f a v) q1574 q1576 qs37 q1577 ndX6_isCow rfl (by rw [hRf]; decide) (by rw [hRl]; decide) hl.1 rfl (Nat.le_of_ble_eq_true rfl) dX6_become_2 (fun H locs hM => ?_)
  refine w_if_eqT (tgt := 18) hx hb dX6_become_5 (by decide) (fun c_1 => ?_) (fun c_1 => ?_)
  · refine lv_aload_n hx hb dX6_become_18 rfl (lv_at hl 0 rfl) ?_
    refine lv_ldc hx hb hown (hts _ q1485) dX6_become_19 ?_
    refine md_callI (y := yX6_errs) hx hb hml hown hts hK hI hM (met_errs f a (-1000000001 : Int32) 1 (by decide) (by decide)) q1486 q1488 qs21 q1489 ndX6_errs rfl (by rw [hRf]; decide) (by rw [hRl]; decide) hl.1 rfl (Nat.le_of_ble_eq_true rfl) dX6_become_21 (fun H locs hM => ?_)
    exact hret hM (by first | rfl | (simp only [iI, nI_0, nI_one]; grind)) dX6_become_24
  · refine lv_iload_n hx hb dX6_become_8 rfl (lv_at hl 2 rfl) ?_
    refine lv_iconst (v := nI 0) hx hb dX6_become_9 (by decide) ?_
    refine lv_bipush (v := nI 69) hx hb dX6_become_10 (by decide) ?_
    refine st_callI (y := yX6_in) hx hb hml hown hts (met_in km (nI 0) (nI 69)) q1482 q1483 q70 q1484 ndX6_in rfl (by rw [hRf]; decide) (by rw [hRl]; decide) ⟨Nat.zero_le _, Nat.zero_le _⟩ hl.1 rfl (Nat.le_of_ble_eq_true rfl) dX6_become_12 ?_
    refine w_if_neT (tgt := 25) hx hb dX6_become_15 (by decide) (fun c_2 => ?_) (fun c_2 => ?_)
    · exact absurd ⟨c_1, c_2⟩ he
    · refine lv_aload_n hx hb dX6_become_18 rfl (lv_at hl 0 rfl) ?_
      refine lv_ldc hx hb hown (hts _ q1485) dX6_become_19 ?_
      refine md_callI (y := yX6_errs) hx hb hml hown hts hK hI hM (met_errs f a (-1000000001 : Int32) 1 (by decide) (by decide)) q1486 q1488 qs21 q1489 ndX6_errs rfl (by rw [hRf]; decide) (by rw [hRl]; decide) hl.1 rfl (Nat.le_of_ble_eq_true rfl) dX6_become_21 (fun H locs hM => ?_)
      exact hret hM (by first | rfl | (simp only [iI, nI_0, nI_one]; grind)) dX6_become_24
theorem ndX6_put : yX6_put.cls = RX6 ∧ yX6_put.cls ≠ "java/lang/invoke/MethodHandle" ∧ yX6_put.cls ≠ "java/lang/invoke/VarHandle" ∧ (parseMethodDescriptor yX6_put.desc).map (fun d => d.parameters.length) = some 2 := by decide +kernel
set_option maxHeartbeats 400000 in
theorem met_put_ok (f : Nat → Int32) (a : Nat → Nat → Int32) (i c0 : Nat) (hi : i < cl (a 1 3)) (hN : okN (a 1 3) 5) (hc : c0 < 25) : MdF yX6_put cX6_put 4 (some .int) 2 43 [.int (nI i), .int (nI c0)] f a (some (.int (a 1 (58 + 14 * i + 2)))) f (va_up a 1 (upd (a 1) (58 + 14 * i + 2) (nI c0))) := by
  refine MdF.ofI (by decide) rfl (Nat.le_of_ble_eq_true rfl) ?_
  intro p l e R s m args below meth c Q D h dA ls hx hb hml hRf hRl hts hown hK hI hM hl hret
  have hl : lv_has ls 4 [(0, .ref (h 0)), (1, .int (nI i)), (2, .int (nI c0))] := hl
  have hN2 := hN.2
  refine lv_aload_n hx hb dX6_put_0 rfl (lv_at hl 0 rfl) ?_
  refine lv_iload_n hx hb dX6_put_1 rfl (lv_at hl 1 rfl) ?_
  refine md_callI (y := yX6_isCow) hx hb hml hown hts hK hI hM (met_isCow f a (nI i)) q1574 q1576 qs37 q1577 ndX6_isCow rfl (by rw [hRf]; decide) (by rw [hRl]; decide) hl.1 rfl (Nat.le_of_ble_eq_true rfl) dX6_put_2 (fun H locs hM => ?_)
  refine w_if_eqT (tgt := 15) hx hb dX6_put_5 (by decide) (fun c_1 => ?_) (fun c_1 => ?_)
  · exact absurd (by first | exact (in_nat (by decide)).mpr ⟨_, by omega, rfl⟩ | exact (in_nat1 _ (by decide) (by decide)).mpr ⟨_, by omega, by omega, rfl⟩ | exact cow_in hN (by omega) | assumption) c_1
  · refine lv_iload_n hx hb dX6_put_8 rfl (lv_at hl 2 rfl) ?_
    refine st_callI (y := yX6_isCell) hx hb hml hown hts (met_isCell (nI c0)) q1479 q1480 q70 q1481 ndX6_isCell rfl (by rw [hRf]; decide) (by rw [hRl]; decide) ⟨Nat.zero_le _, Nat.zero_le _⟩ hl.1 rfl (Nat.le_of_ble_eq_true rfl) dX6_put_9 ?_
    refine w_if_neT (tgt := 22) hx hb dX6_put_12 (by decide) (fun c_2 => ?_) (fun c_2 => ?_)
    · refine lv_aload_n hx hb dX6_put_22 rfl (lv_at hl 0 rfl) ?_
      refine lv_iload_n hx hb dX6_put_23 rfl (lv_at hl 1 rfl) ?_
      refine lv_iconst (v := nI 2) hx hb dX6_put_24 (by decide) ?_
      refine md_callI (y := yX6_its) hx hb hml hown hts hK hI hM (met_its f a i 2 (by omega)) q1557 q1559 qs35 q1560 ndX6_its rfl (by rw [hRf]; decide) (by rw [hRl]; decide) hl.1 rfl (Nat.le_of_ble_eq_true rfl) dX6_put_25 (fun H locs hM => ?_)
      refine lv_istore_n (lv' := [(3, .int (a 1 (58 + 14 * i + 2))), (0, .ref (h 0)), (1, .int (nI i)), (2, .int (nI c0))]) hx hb dX6_put_28 rfl hl (by decide) rfl (fun ls hl => ?_)
      refine lv_aload_n hx hb dX6_put_29 rfl (lv_at hl 1 rfl) ?_
      refine lv_iload_n hx hb dX6_put_30 rfl (lv_at hl 2 rfl) ?_
      refine lv_iconst (v := nI 2) hx hb dX6_put_31 (by decide) ?_
      refine lv_iload_n hx hb dX6_put_32 rfl (lv_at hl 3 rfl) ?_
      refine md_callV (y := yX6_puts) hx hb hml hown hts hK hI hM (met_puts f a i 2 (nI c0) (by omega)) q1566 q1568 qs36 q1569 ndX6_puts rfl (by rw [hRf]; decide) (by rw [hRl]; decide) hl.1 rfl (Nat.le_of_ble_eq_true rfl) dX6_put_33 (fun H locs hM => ?_)
      have hM := hM.to (a' := va_up a 1 (upd (a 1) (58 + 14 * i + 2) (nI c0))) rfl (rfl)
      refine lv_iload_n hx hb dX6_put_36 rfl (lv_at hl 0 rfl) ?_
      exact hret hM (by first | rfl | (simp only [iI, nI_0, nI_one]; grind)) dX6_put_37
    · exact absurd (by first | exact (in_nat (by decide)).mpr ⟨_, by omega, rfl⟩ | exact (in_nat1 _ (by decide) (by decide)).mpr ⟨_, by omega, by omega, rfl⟩ | exact cow_in hN (by omega) | assumption) c_2
set_option maxHeartbeats 400000 in
theorem met_put_e (f : Nat → Int32) (a : Nat → Nat → Int32) (v c0 : Int32) (he : ¬ (cowP (a 1) v ∧ (nI 0 ≤ c0 ∧ c0 ≤ nI 24))) : MdF yX6_put cX6_put 4 (some .int) 2 43 [.int v, .int c0] f a (some (.int (-1000000001 : Int32))) f (mErr a 1) := by
  refine MdF.ofI (by decide) rfl (Nat.le_of_ble_eq_true rfl) ?_
  intro p l e R s m args below meth c Q D h dA ls hx hb hml hRf hRl hts hown hK hI hM hl hret
  have hl : lv_has ls 4 [(0, .ref (h 0)), (1, .int v), (2, .int c0)] := hl
  refine lv_aload_n hx hb dX6_put_0 rfl (lv_at hl 0 rfl) ?_
  refine lv_iload_n hx hb dX6_put_1 rfl (lv_at hl 1 rfl) ?_
  refine md_callI (y := yX6_isCow) hx hb hml hown hts hK hI hM (met_isCow f a v) q1574 q1576 qs37 q1577 ndX6_isCow rfl (by rw [hRf]; decide) (by rw [hRl]; decide) hl.1 rfl (Nat.le_of_ble_eq_true rfl) dX6_put_2 (fun H locs hM => ?_)
  refine w_if_eqT (tgt := 15) hx hb dX6_put_5 (by decide) (fun c_1 => ?_) (fun c_1 => ?_)
  · refine lv_aload_n hx hb dX6_put_15 rfl (lv_at hl 0 rfl) ?_
    refine lv_ldc hx hb hown (hts _ q1485) dX6_put_16 ?_
    refine md_callI (y := yX6_errs) hx hb hml hown hts hK hI hM (met_errs f a (-1000000001 : Int32) 1 (by decide) (by decide)) q1486 q1488 qs21 q1489 ndX6_errs rfl (by rw [hRf]; decide) (by rw [hRl]; decide) hl.1 rfl (Nat.le_of_ble_eq_true rfl) dX6_put_18 (fun H locs hM => ?_)
    exact hret hM (by first | rfl | (simp only [iI, nI_0, nI_one]; grind)) dX6_put_21
  · refine lv_iload_n hx hb dX6_put_8 rfl (lv_at hl 2 rfl) ?_
    refine st_callI (y := yX6_isCell) hx hb hml hown hts (met_isCell c0) q1479 q1480 q70 q1481 ndX6_isCell rfl (by rw [hRf]; decide) (by rw [hRl]; decide) ⟨Nat.zero_le _, Nat.zero_le _⟩ hl.1 rfl (Nat.le_of_ble_eq_true rfl) dX6_put_9 ?_
    refine w_if_neT (tgt := 22) hx hb dX6_put_12 (by decide) (fun c_2 => ?_) (fun c_2 => ?_)
    · exact absurd ⟨c_1, c_2⟩ he
    · refine lv_aload_n hx hb dX6_put_15 rfl (lv_at hl 0 rfl) ?_
      refine lv_ldc hx hb hown (hts _ q1485) dX6_put_16 ?_
      refine md_callI (y := yX6_errs) hx hb hml hown hts hK hI hM (met_errs f a (-1000000001 : Int32) 1 (by decide) (by decide)) q1486 q1488 qs21 q1489 ndX6_errs rfl (by rw [hRf]; decide) (by rw [hRl]; decide) hl.1 rfl (Nat.le_of_ble_eq_true rfl) dX6_put_18 (fun H locs hM => ?_)
      exact hret hM (by first | rfl | (simp only [iI, nI_0, nI_one]; grind)) dX6_put_21
theorem ndX6_dry : yX6_dry.cls = RX6 ∧ yX6_dry.cls ≠ "java/lang/invoke/MethodHandle" ∧ yX6_dry.cls ≠ "java/lang/invoke/VarHandle" ∧ (parseMethodDescriptor yX6_dry.desc).map (fun d => d.parameters.length) = some 1 := by decide +kernel
set_option maxHeartbeats 400000 in
theorem met_dry_ok (f : Nat → Int32) (a : Nat → Nat → Int32) (i : Nat) (hi : i < cl (a 1 3)) (hN : okN (a 1 3) 5) : MdF yX6_dry cX6_dry 3 (some .int) 2 43 [.int (nI i)] f a (some (.int (a 1 (58 + 14 * i + 3)))) f (va_up a 1 (upd (a 1) (58 + 14 * i + 3) (nI 0))) := by
  refine MdF.ofI (by decide) rfl (Nat.le_of_ble_eq_true rfl) ?_
  intro p l e R s m args below meth c Q D h dA ls hx hb hml hRf hRl hts hown hK hI hM hl hret
  have hl : lv_has ls 3 [(0, .ref (h 0)), (1, .int (nI i))] := hl
  have hN2 := hN.2
  refine lv_aload_n hx hb dX6_dry_0 rfl (lv_at hl 0 rfl) ?_
  refine lv_iload_n hx hb dX6_dry_1 rfl (lv_at hl 1 rfl) ?_
  refine md_callI (y := yX6_isCow) hx hb hml hown hts hK hI hM (met_isCow f a (nI i)) q1574 q1576 qs37 q1577 ndX6_isCow rfl (by rw [hRf]; decide) (by rw [hRl]; decide) hl.1 rfl (Nat.le_of_ble_eq_true rfl) dX6_dry_2 (fun H locs hM => ?_)
  refine w_if_neT (tgt := 15) hx hb dX6_dry_5 (by decide) (fun c_1 => ?_) (fun c_1 => ?_)
  · refine lv_aload_n hx hb dX6_dry_15 rfl (lv_at hl 0 rfl) ?_
    refine lv_iload_n hx hb dX6_dry_16 rfl (lv_at hl 1 rfl) ?_
    refine lv_iconst (v := nI 3) hx hb dX6_dry_17 (by decide) ?_
    refine md_callI (y := yX6_its) hx hb hml hown hts hK hI hM (met_its f a i 3 (by omega)) q1557 q1559 qs35 q1560 ndX6_its rfl (by rw [hRf]; decide) (by rw [hRl]; decide) hl.1 rfl (Nat.le_of_ble_eq_true rfl) dX6_dry_18 (fun H locs hM => ?_)
    refine lv_istore_n (lv' := [(2, .int (a 1 (58 + 14 * i + 3))), (0, .ref (h 0)), (1, .int (nI i))]) hx hb dX6_dry_21 rfl hl (by decide) rfl (fun ls hl => ?_)
    refine lv_aload_n hx hb dX6_dry_22 rfl (lv_at hl 1 rfl) ?_
    refine lv_iload_n hx hb dX6_dry_23 rfl (lv_at hl 2 rfl) ?_
    refine lv_iconst (v := nI 3) hx hb dX6_dry_24 (by decide) ?_
    refine lv_iconst (v := nI 0) hx hb dX6_dry_25 (by decide) ?_
    refine md_callV (y := yX6_puts) hx hb hml hown hts hK hI hM (met_puts f a i 3 (nI 0) (by omega)) q1566 q1568 qs36 q1569 ndX6_puts rfl (by rw [hRf]; decide) (by rw [hRl]; decide) hl.1 rfl (Nat.le_of_ble_eq_true rfl) dX6_dry_26 (fun H locs hM => ?_)
    have hM := hM.to (a' := va_up a 1 (upd (a 1) (58 + 14 * i + 3) (nI 0))) rfl (rfl)
    refine lv_iload_n hx hb dX6_dry_29 rfl (lv_at hl 0 rfl) ?_
    exact hret hM (by first | rfl | (simp only [iI, nI_0, nI_one]; grind)) dX6_dry_30
  · exact absurd (by first | exact (in_nat (by decide)).mpr ⟨_, by omega, rfl⟩ | exact (in_nat1 _ (by decide) (by decide)).mpr ⟨_, by omega, by omega, rfl⟩ | exact cow_in hN (by omega) | assumption) c_1
set_option maxHeartbeats 400000 in
theorem met_dry_e (f : Nat → Int32) (a : Nat → Nat → Int32) (v : Int32) (he : ¬ cowP (a 1) v) : MdF yX6_dry cX6_dry 3 (some .int) 2 43 [.int v] f a (some (.int (-1000000001 : Int32))) f (mErr a 1) := by
  refine MdF.ofI (by decide) rfl (Nat.le_of_ble_eq_true rfl) ?_
  intro p l e R s m args below meth c Q D h dA ls hx hb hml hRf hRl hts hown hK hI hM hl hret
  have hl : lv_has ls 3 [(0, .ref (h 0)), (1, .int v)] := hl
  refine lv_aload_n hx hb dX6_dry_0 rfl (lv_at hl 0 rfl) ?_
  refine lv_iload_n hx hb dX6_dry_1 rfl (lv_at hl 1 rfl) ?_
  refine md_callI (y := yX6_isCow) hx hb hml hown hts hK hI hM (met_isCow f a v) q1574 q1576 qs37 q1577 ndX6_isCow rfl (by rw [hRf]; decide) (by rw [hRl]; decide) hl.1 rfl (Nat.le_of_ble_eq_true rfl) dX6_dry_2 (fun H locs hM => ?_)
  refine w_if_neT (tgt := 15) hx hb dX6_dry_5 (by decide) (fun c_1 => ?_) (fun c_1 => ?_)
  · exact absurd c_1 he
  · refine lv_aload_n hx hb dX6_dry_8 rfl (lv_at hl 0 rfl) ?_
    refine lv_ldc hx hb hown (hts _ q1485) dX6_dry_9 ?_
    refine md_callI (y := yX6_errs) hx hb hml hown hts hK hI hM (met_errs f a (-1000000001 : Int32) 1 (by decide) (by decide)) q1486 q1488 qs21 q1489 ndX6_errs rfl (by rw [hRf]; decide) (by rw [hRl]; decide) hl.1 rfl (Nat.le_of_ble_eq_true rfl) dX6_dry_11 (fun H locs hM => ?_)
    exact hret hM (by first | rfl | (simp only [iI, nI_0, nI_one]; grind)) dX6_dry_14
