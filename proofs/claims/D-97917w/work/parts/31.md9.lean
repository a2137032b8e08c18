/-! the model: acts, 2 (printed by model9.py) -/
set_option maxRecDepth 100000
def cowA (r : Nat → Int32) (km c0 : Nat) : Nat → Int32 := upd (upd (upd (upd (upd r (58 + 14 * cl (r 3) + 0) (nI (km / 10))) (58 + 14 * cl (r 3) + 1) (nI (km % 10))) (58 + 14 * cl (r 3) + 2) (nI c0)) (58 + 14 * cl (r 3) + 3) (nI 0)) 3 (nI (cl (r 3) + 1))
theorem ndX6_cow : yX6_cow.cls = RX6 ∧ yX6_cow.cls ≠ "java/lang/invoke/MethodHandle" ∧ yX6_cow.cls ≠ "java/lang/invoke/VarHandle" ∧ (parseMethodDescriptor yX6_cow.desc).map (fun d => d.parameters.length) = some 2 := by decide +kernel
set_option maxHeartbeats 400000 in
theorem met_cow_ok (f : Nat → Int32) (a : Nat → Nat → Int32) (km c0 : Nat) (hk : km ≤ 69) (hc : c0 < 25) (hN : okN (a 1 3) 5) (hi : cl (a 1 3) < 5) : MdF yX6_cow cX6_cow 4 (some .int) 2 42 [.int (nI km), .int (nI c0)] f a (some (.int (nI (cl (a 1 3))))) f (va_up a 1 (cowA (a 1) km c0)) := by
  refine MdF.ofI (by decide) rfl (Nat.le_of_ble_eq_true rfl) ?_
  intro p l e R s m args below meth c Q D h dA ls hx hb hml hRf hRl hts hown hK hI hM hl hret
  have hl : lv_has ls 4 [(0, .ref (h 0)), (1, .int (nI km)), (2, .int (nI c0))] := hl
  have hN2 := hN.2
  refine lv_iload_n hx hb dX6_cow_0 rfl (lv_at hl 1 rfl) ?_
  refine lv_iconst (v := nI 0) hx hb dX6_cow_1 (by decide) ?_
  refine lv_bipush (v := nI 69) hx hb dX6_cow_2 (by decide) ?_
  refine st_callI (y := yX6_in) hx hb hml hown hts (met_in (nI km) (nI 0) (nI 69)) q1482 q1483 q70 q1484 ndX6_in rfl (by rw [hRf]; decide) (by rw [hRl]; decide) ⟨Nat.zero_le _, Nat.zero_le _⟩ hl.1 rfl (Nat.le_of_ble_eq_true rfl) dX6_cow_4 ?_
  refine w_if_eqT (tgt := 17) hx hb dX6_cow_7 (by decide) (fun c_1 => ?_) (fun c_1 => ?_)
  · exact absurd (by first | exact (in_nat (by decide)).mpr ⟨_, by omega, rfl⟩ | exact (in_nat1 _ (by decide) (by decide)).mpr ⟨_, by omega, by omega, rfl⟩ | exact cow_in hN (by omega) | assumption) c_1
  · refine lv_iload_n hx hb dX6_cow_10 rfl (lv_at hl 2 rfl) ?_
    refine st_callI (y := yX6_isCell) hx hb hml hown hts (met_isCell (nI c0)) q1479 q1480 q70 q1481 ndX6_isCell rfl (by rw [hRf]; decide) (by rw [hRl]; decide) ⟨Nat.zero_le _, Nat.zero_le _⟩ hl.1 rfl (Nat.le_of_ble_eq_true rfl) dX6_cow_11 ?_
    refine w_if_neT (tgt := 24) hx hb dX6_cow_14 (by decide) (fun c_2 => ?_) (fun c_2 => ?_)
    · refine lv_aload_n hx hb dX6_cow_24 rfl (lv_at hl 0 rfl) ?_
      refine md_get (v := .ref (h 1)) hx hb hts hown hK hM 0 (by decide) q1390 rfl rfl dX6_cow_25 ?_
      refine lv_iconst (v := nI 3) hx hb dX6_cow_28 (by decide) ?_
      refine md_iald hx hb hK hM 1 rfl 3 ⟨by omega, by decide, rfl⟩ dX6_cow_29 ?_
      refine w_top (nI (cl (a 1 3))) (hN.1) ?_
      refine lv_iconst (v := nI 5) hx hb dX6_cow_30 (by decide) ?_
      refine w_icmp_neN (tgt := 41) hx hb (by omega) (by omega) dX6_cow_31 (by decide) (fun c_3 => ?_) (fun c_3 => ?_)
      · refine lv_aload_n hx hb dX6_cow_41 rfl (lv_at hl 0 rfl) ?_
        refine md_get (v := .ref (h 1)) hx hb hts hown hK hM 0 (by decide) q1390 rfl rfl dX6_cow_42 ?_
        refine lv_iconst (v := nI 3) hx hb dX6_cow_45 (by decide) ?_
        refine md_iald hx hb hK hM 1 rfl 3 ⟨by omega, by decide, rfl⟩ dX6_cow_46 ?_
        refine w_top (nI (cl (a 1 3))) (hN.1) ?_
        refine lv_istore_n (lv' := [(3, .int (nI (cl (a 1 3)))), (0, .ref (h 0)), (1, .int (nI km)), (2, .int (nI c0))]) hx hb dX6_cow_47 rfl hl (by decide) rfl (fun ls hl => ?_)
        refine lv_aload_n hx hb dX6_cow_48 rfl (lv_at hl 1 rfl) ?_
        refine lv_iload_n hx hb dX6_cow_49 rfl (lv_at hl 0 rfl) ?_
        refine lv_iconst (v := nI 0) hx hb dX6_cow_50 (by decide) ?_
        refine lv_iload_n hx hb dX6_cow_51 rfl (lv_at hl 2 rfl) ?_
        refine lv_bipush (v := nI 10) hx hb dX6_cow_52 (by decide) ?_
        refine w_idivN hx hb (by omega) (by omega) (by omega) dX6_cow_54 ?_
        refine md_callV (y := yX6_puts) hx hb hml hown hts hK hI hM (met_puts f a (cl (a 1 3)) 0 (nI (km / 10)) (by omega)) q1566 q1568 qs36 q1569 ndX6_puts rfl (by rw [hRf]; decide) (by rw [hRl]; decide) hl.1 rfl (Nat.le_of_ble_eq_true rfl) dX6_cow_55 (fun H locs hM => ?_)
        have hM := hM.to (a' := va_up a 1 (upd (a 1) (58 + 14 * (cl (a 1 3)) + 0) (nI (km / 10)))) rfl (rfl)
        refine lv_aload_n hx hb dX6_cow_58 rfl (lv_at hl 1 rfl) ?_
        refine lv_iload_n hx hb dX6_cow_59 rfl (lv_at hl 0 rfl) ?_
        refine lv_iconst (v := nI 1) hx hb dX6_cow_60 (by decide) ?_
        refine lv_iload_n hx hb dX6_cow_61 rfl (lv_at hl 2 rfl) ?_
        refine lv_bipush (v := nI 10) hx hb dX6_cow_62 (by decide) ?_
        refine w_iremN hx hb (by omega) (by omega) (by omega) dX6_cow_64 ?_
        refine md_callV (y := yX6_puts) hx hb hml hown hts hK hI hM (met_puts f (va_up a 1 (upd (a 1) (58 + 14 * (cl (a 1 3)) + 0) (nI (km / 10)))) (cl (a 1 3)) 1 (nI (km % 10)) (by omega)) q1566 q1568 qs36 q1569 ndX6_puts rfl (by rw [hRf]; decide) (by rw [hRl]; decide) hl.1 rfl (Nat.le_of_ble_eq_true rfl) dX6_cow_65 (fun H locs hM => ?_)
        have hM := hM.to (a' := va_up a 1 (upd (upd (a 1) (58 + 14 * (cl (a 1 3)) + 0) (nI (km / 10))) (58 + 14 * (cl (a 1 3)) + 1) (nI (km % 10)))) rfl (va_uu a 1 _ _)
        refine lv_aload_n hx hb dX6_cow_68 rfl (lv_at hl 1 rfl) ?_
        refine lv_iload_n hx hb dX6_cow_69 rfl (lv_at hl 0 rfl) ?_
        refine lv_iconst (v := nI 2) hx hb dX6_cow_70 (by decide) ?_
        refine lv_iload_n hx hb dX6_cow_71 rfl (lv_at hl 3 rfl) ?_
        refine md_callV (y := yX6_puts) hx hb hml hown hts hK hI hM (met_puts f (va_up a 1 (upd (upd (a 1) (58 + 14 * (cl (a 1 3)) + 0) (nI (km / 10))) (58 + 14 * (cl (a 1 3)) + 1) (nI (km % 10)))) (cl (a 1 3)) 2 (nI c0) (by omega)) q1566 q1568 qs36 q1569 ndX6_puts rfl (by rw [hRf]; decide) (by rw [hRl]; decide) hl.1 rfl (Nat.le_of_ble_eq_true rfl) dX6_cow_72 (fun H locs hM => ?_)
        have hM := hM.to (a' := va_up a 1 (upd (upd (upd (a 1) (58 + 14 * (cl (a 1 3)) + 0) (nI (km / 10))) (58 + 14 * (cl (a 1 3)) + 1) (nI (km % 10))) (58 + 14 * (cl (a 1 3)) + 2) (nI c0))) rfl (va_uu a 1 _ _)
        refine lv_aload_n hx hb dX6_cow_75 rfl (lv_at hl 1 rfl) ?_
        refine lv_iload_n hx hb dX6_cow_76 rfl (lv_at hl 0 rfl) ?_
        refine lv_iconst (v := nI 3) hx hb dX6_cow_77 (by decide) ?_
        refine lv_iconst (v := nI 0) hx hb dX6_cow_78 (by decide) ?_
        refine md_callV (y := yX6_puts) hx hb hml hown hts hK hI hM (met_puts f (va_up a 1 (upd (upd (upd (a 1) (58 + 14 * (cl (a 1 3)) + 0) (nI (km / 10))) (58 + 14 * (cl (a 1 3)) + 1) (nI (km % 10))) (58 + 14 * (cl (a 1 3)) + 2) (nI c0))) (cl (a 1 3)) 3 (nI 0) (by omega)) q1566 q1568 qs36 q1569 ndX6_puts rfl (by rw [hRf]; decide) (by rw [hRl]; decide) hl.1 rfl (Nat.le_of_ble_eq_true rfl) dX6_cow_79 (fun H locs hM => ?_)
        have hM := hM.to (a' := va_up a 1 (upd (upd (upd (upd (a 1) (58 + 14 * (cl (a 1 3)) + 0) (nI (km / 10))) (58 + 14 * (cl (a 1 3)) + 1) (nI (km % 10))) (58 + 14 * (cl (a 1 3)) + 2) (nI c0)) (58 + 14 * (cl (a 1 3)) + 3) (nI 0))) rfl (va_uu a 1 _ _)
        refine lv_aload_n hx hb dX6_cow_82 rfl (lv_at hl 1 rfl) ?_
        refine md_get (v := .ref (h 1)) hx hb hts hown hK hM 0 (by decide) q1390 rfl rfl dX6_cow_83 ?_
        refine lv_iconst (v := nI 3) hx hb dX6_cow_86 (by decide) ?_
        refine lv_dup2_11 hx hb dX6_cow_87 rfl rfl ?_
        refine md_iald hx hb hK hM 1 rfl 3 ⟨by omega, by decide, rfl⟩ dX6_cow_88 ?_
        refine w_top ((upd (upd (upd (upd (a 1) (58 + 14 * (cl (a 1 3)) + 0) (nI (km / 10))) (58 + 14 * (cl (a 1 3)) + 1) (nI (km % 10))) (58 + 14 * (cl (a 1 3)) + 2) (nI c0)) (58 + 14 * (cl (a 1 3)) + 3) (nI 0)) 3) (by rw [va_us]) ?_
        refine w_top (nI (cl (a 1 3))) (by rw [pk_un (by omega), pk_un (by omega), pk_un (by omega), pk_un (by omega)]; exact hN.1) ?_
        refine lv_iconst (v := nI 1) hx hb dX6_cow_89 (by decide) ?_
        refine w_iaddN hx hb dX6_cow_90 ?_
        refine md_iast hx hb hK hI hM 1 rfl 3 ⟨by omega, by decide, rfl⟩ rfl dX6_cow_91 (fun H locs hM => ?_)
        have hM := hM.to (a' := va_up a 1 (upd (upd (upd (upd (upd (a 1) (58 + 14 * (cl (a 1 3)) + 0) (nI (km / 10))) (58 + 14 * (cl (a 1 3)) + 1) (nI (km % 10))) (58 + 14 * (cl (a 1 3)) + 2) (nI c0)) (58 + 14 * (cl (a 1 3)) + 3) (nI 0)) 3 (nI ((cl (a 1 3)) + 1)))) rfl (va_uu a 1 _ _)
        refine lv_iload_n hx hb dX6_cow_92 rfl (lv_at hl 0 rfl) ?_
        exact hret hM (by first | rfl | (simp only [iI, nI_0, nI_one]; grind)) dX6_cow_93
      · exact absurd c_3 (by omega)
    · exact absurd (by first | exact (in_nat (by decide)).mpr ⟨_, by omega, rfl⟩ | exact (in_nat1 _ (by decide) (by decide)).mpr ⟨_, by omega, by omega, rfl⟩ | exact cow_in hN (by omega) | assumption) c_2
set_option maxHeartbeats 400000 in
theorem met_cow_f (f : Nat → Int32) (a : Nat → Nat → Int32) (km c0 : Nat) (hk : km ≤ 69) (hc : c0 < 25) (hN : okN (a 1 3) 5) (hi : cl (a 1 3) = 5) : MdF yX6_cow cX6_cow 4 (some .int) 2 42 [.int (nI km), .int (nI c0)] f a (some (.int (-1000000004 : Int32))) f (mErr a 4) := by
  refine MdF.ofI (by decide) rfl (Nat.le_of_ble_eq_true rfl) ?_
  intro p l e R s m args below meth c Q D h dA ls hx hb hml hRf hRl hts hown hK hI hM hl hret
  have hl : lv_has ls 4 [(0, .ref (h 0)), (1, .int (nI km)), (2, .int (nI c0))] := hl
  have hN2 := hN.2
  refine lv_iload_n hx hb dX6_cow_0 rfl (lv_at hl 1 rfl) ?_
  refine lv_iconst (v := nI 0) hx hb dX6_cow_1 (by decide) ?_
  refine lv_bipush (v := nI 69) hx hb dX6_cow_2 (by decide) ?_
  refine st_callI (y := yX6_in) hx hb hml hown hts (met_in (nI km) (nI 0) (nI 69)) q1482 q1483 q70 q1484 ndX6_in rfl (by rw [hRf]; decide) (by rw [hRl]; decide) ⟨Nat.zero_le _, Nat.zero_le _⟩ hl.1 rfl (Nat.le_of_ble_eq_true rfl) dX6_cow_4 ?_
  refine w_if_eqT (tgt := 17) hx hb dX6_cow_7 (by decide) (fun c_1 => ?_) (fun c_1 => ?_)
  · exact absurd (by first | exact (in_nat (by decide)).mpr ⟨_, by omega, rfl⟩ | exact (in_nat1 _ (by decide) (by decide)).mpr ⟨_, by omega, by omega, rfl⟩ | exact cow_in hN (by omega) | assumption) c_1
  · refine lv_iload_n hx hb dX6_cow_10 rfl (lv_at hl 2 rfl) ?_
    refine st_callI (y := yX6_isCell) hx hb hml hown hts (met_isCell (nI c0)) q1479 q1480 q70 q1481 ndX6_isCell rfl (by rw [hRf]; decide) (by rw [hRl]; decide) ⟨Nat.zero_le _, Nat.zero_le _⟩ hl.1 rfl (Nat.le_of_ble_eq_true rfl) dX6_cow_11 ?_
    refine w_if_neT (tgt := 24) hx hb dX6_cow_14 (by decide) (fun c_2 => ?_) (fun c_2 => ?_)
    · refine lv_aload_n hx hb dX6_cow_24 rfl (lv_at hl 0 rfl) ?_
      refine md_get (v := .ref (h 1)) hx hb hts hown hK hM 0 (by decide) q1390 rfl rfl dX6_cow_25 ?_
      refine lv_iconst (v := nI 3) hx hb dX6_cow_28 (by decide) ?_
      refine md_iald hx hb hK hM 1 rfl 3 ⟨by omega, by decide, rfl⟩ dX6_cow_29 ?_
      refine w_top (nI (cl (a 1 3))) (hN.1) ?_
      refine lv_iconst (v := nI 5) hx hb dX6_cow_30 (by decide) ?_
      refine w_icmp_neN (tgt := 41) hx hb (by omega) (by omega) dX6_cow_31 (by decide) (fun c_3 => ?_) (fun c_3 => ?_)
      · exact absurd hi c_3
      · refine lv_aload_n hx hb dX6_cow_34 rfl (lv_at hl 0 rfl) ?_
        refine lv_ldc hx hb hown (hts _ q1565) dX6_cow_35 ?_
        refine md_callI (y := yX6_errs) hx hb hml hown hts hK hI hM (met_errs f a (-1000000004 : Int32) 4 (by decide) (by decide)) q1486 q1488 qs21 q1489 ndX6_errs rfl (by rw [hRf]; decide) (by rw [hRl]; decide) hl.1 rfl (Nat.le_of_ble_eq_true rfl) dX6_cow_37 (fun H locs hM => ?_)
        exact hret hM (by first | rfl | (simp only [iI, nI_0, nI_one]; grind)) dX6_cow_40
    · exact absurd (by first | exact (in_nat (by decide)).mpr ⟨_, by omega, rfl⟩ | exact (in_nat1 _ (by decide) (by decide)).mpr ⟨_, by omega, by omega, rfl⟩ | exact cow_in hN (by omega) | assumption) c_2
set_option maxHeartbeats 400000 in
theorem met_cow_e (f : Nat → Int32) (a : Nat → Nat → Int32) (km c0 : Int32) (he : ¬ ((nI 0 ≤ km ∧ km ≤ nI 69) ∧ (nI 0 ≤ c0 ∧ c0 ≤ nI 24))) : MdF yX6_cow cX6_cow 4 (some .int) 2 42 [.int km, .int c0] f a (some (.int (-1000000001 : Int32))) f (mErr a 1) := by
  refine MdF.ofI (by decide) rfl (Nat.le_of_ble_eq_true rfl) ?_
  intro p l e R s m args below meth c Q D h dA ls hx hb hml hRf hRl hts hown hK hI hM hl hret
  have hl : lv_has ls 4 [(0, .ref (h 0)), (1, .int km), (2, .int c0)] := hl
  refine lv_iload_n hx hb dX6_cow_0 rfl (lv_at hl 1 rfl) ?_
  refine lv_iconst (v := nI 0) hx hb dX6_cow_1 (by decide) ?_
  refine lv_bipush (v := nI 69) hx hb dX6_cow_2 (by decide) ?_
  refine st_callI (y := yX6_in) hx hb hml hown hts (met_in km (nI 0) (nI 69)) q1482 q1483 q70 q1484 ndX6_in rfl (by rw [hRf]; decide) (by rw [hRl]; decide) ⟨Nat.zero_le _, Nat.zero_le _⟩ hl.1 rfl (Nat.le_of_ble_eq_true rfl) dX6_cow_4 ?_
  refine w_if_eqT (tgt := 17) hx hb dX6_cow_7 (by decide) (fun c_1 => ?_) (fun c_1 => ?_)
  · refine lv_aload_n hx hb dX6_cow_17 rfl (lv_at hl 0 rfl) ?_
    refine lv_ldc hx hb hown (hts _ q1485) dX6_cow_18 ?_
    refine md_callI (y := yX6_errs) hx hb hml hown hts hK hI hM (met_errs f a (-1000000001 : Int32) 1 (by decide) (by decide)) q1486 q1488 qs21 q1489 ndX6_errs rfl (by rw [hRf]; decide) (by rw [hRl]; decide) hl.1 rfl (Nat.le_of_ble_eq_true rfl) dX6_cow_20 (fun H locs hM => ?_)
    exact hret hM (by first | rfl | (simp only [iI, nI_0, nI_one]; grind)) dX6_cow_23
  · refine lv_iload_n hx hb dX6_cow_10 rfl (lv_at hl 2 rfl) ?_
    refine st_callI (y := yX6_isCell) hx hb hml hown hts (met_isCell c0) q1479 q1480 q70 q1481 ndX6_isCell rfl (by rw [hRf]; decide) (by rw [hRl]; decide) ⟨Nat.zero_le _, Nat.zero_le _⟩ hl.1 rfl (Nat.le_of_ble_eq_true rfl) dX6_cow_11 ?_
    refine w_if_neT (tgt := 24) hx hb dX6_cow_14 (by decide) (fun c_2 => ?_) (fun c_2 => ?_)
    · exact absurd ⟨c_1, c_2⟩ he
    · refine lv_aload_n hx hb dX6_cow_17 rfl (lv_at hl 0 rfl) ?_
      refine lv_ldc hx hb hown (hts _ q1485) dX6_cow_18 ?_
      refine md_callI (y := yX6_errs) hx hb hml hown hts hK hI hM (met_errs f a (-1000000001 : Int32) 1 (by decide) (by decide)) q1486 q1488 qs21 q1489 ndX6_errs rfl (by rw [hRf]; decide) (by rw [hRl]; decide) hl.1 rfl (Nat.le_of_ble_eq_true rfl) dX6_cow_20 (fun H locs hM => ?_)
      exact hret hM (by first | rfl | (simp only [iI, nI_0, nI_one]; grind)) dX6_cow_23
theorem ndX6_ofCow : yX6_ofCow.cls = RX6 ∧ yX6_ofCow.cls ≠ "java/lang/invoke/MethodHandle" ∧ yX6_ofCow.cls ≠ "java/lang/invoke/VarHandle" ∧ (parseMethodDescriptor yX6_ofCow.desc).map (fun d => d.parameters.length) = some 2 := by decide +kernel
set_option maxHeartbeats 400000 in
theorem met_ofCow_ok (f : Nat → Int32) (a : Nat → Nat → Int32) (i : Nat) (hi : i < cl (a 1 3)) (hN : okN (a 1 3) 5) (w : Nat) (hw : w < 4) : MdF yX6_ofCow cX6_ofCow 3 (some .int) 2 43 [.int (nI i), .int (nI w)] f a (some (.int (a 1 (58 + 14 * i + w)))) f a := by
  refine MdF.ofI (by decide) rfl (Nat.le_of_ble_eq_true rfl) ?_
  intro p l e R s m args below meth c Q D h dA ls hx hb hml hRf hRl hts hown hK hI hM hl hret
  have hl : lv_has ls 3 [(0, .ref (h 0)), (1, .int (nI i)), (2, .int (nI w))] := hl
  have hN2 := hN.2
  refine lv_aload_n hx hb dX6_ofCow_0 rfl (lv_at hl 0 rfl) ?_
  refine lv_iload_n hx hb dX6_ofCow_1 rfl (lv_at hl 1 rfl) ?_
  refine md_callI (y := yX6_isCow) hx hb hml hown hts hK hI hM (met_isCow f a (nI i)) q1574 q1576 qs37 q1577 ndX6_isCow rfl (by rw [hRf]; decide) (by rw [hRl]; decide) hl.1 rfl (Nat.le_of_ble_eq_true rfl) dX6_ofCow_2 (fun H locs hM => ?_)
  refine w_if_eqT (tgt := 18) hx hb dX6_ofCow_5 (by decide) (fun c_1 => ?_) (fun c_1 => ?_)
  · exact absurd (by first | exact (in_nat (by decide)).mpr ⟨_, by omega, rfl⟩ | exact (in_nat1 _ (by decide) (by decide)).mpr ⟨_, by omega, by omega, rfl⟩ | exact cow_in hN (by omega) | assumption) c_1
  · refine lv_iload_n hx hb dX6_ofCow_8 rfl (lv_at hl 2 rfl) ?_
    refine lv_iconst (v := nI 0) hx hb dX6_ofCow_9 (by decide) ?_
    refine lv_bipush (v := nI 6) hx hb dX6_ofCow_10 (by decide) ?_
    refine st_callI (y := yX6_in) hx hb hml hown hts (met_in (nI w) (nI 0) (nI 6)) q1482 q1483 q70 q1484 ndX6_in rfl (by rw [hRf]; decide) (by rw [hRl]; decide) ⟨Nat.zero_le _, Nat.zero_le _⟩ hl.1 rfl (Nat.le_of_ble_eq_true rfl) dX6_ofCow_12 ?_
    refine w_if_neT (tgt := 25) hx hb dX6_ofCow_15 (by decide) (fun c_2 => ?_) (fun c_2 => ?_)
    · refine lv_iload_n hx hb dX6_ofCow_25 rfl (lv_at hl 2 rfl) ?_
      by_cases c_3 : w = 4
      · exact absurd c_3 (by omega)
      · skip
        by_cases c_4 : w = 5
        · exact absurd c_4 (by omega)
        · skip
          by_cases c_5 : w = 6
          · exact absurd c_5 (by omega)
          · skip
            refine lv_tableOut (tgt := 76) hx hb dX6_ofCow_26 (w_tout 4 3 (by decide) (fun k hk => by intro q; have := (nI_eq (by omega) (by omega)).mp q; omega)) (by decide) ?_
            refine lv_aload_n hx hb dX6_ofCow_76 rfl (lv_at hl 0 rfl) ?_
            refine lv_iload_n hx hb dX6_ofCow_77 rfl (lv_at hl 1 rfl) ?_
            refine lv_iload_n hx hb dX6_ofCow_78 rfl (lv_at hl 2 rfl) ?_
            refine md_callI (y := yX6_its) hx hb hml hown hts hK hI hM (met_its f a i w (by omega)) q1557 q1559 qs35 q1560 ndX6_its rfl (by rw [hRf]; decide) (by rw [hRl]; decide) hl.1 rfl (Nat.le_of_ble_eq_true rfl) dX6_ofCow_79 (fun H locs hM => ?_)
            exact hret hM (by first | rfl | (simp only [iI, nI_0, nI_one]; grind)) dX6_ofCow_82
    · exact absurd (by first | exact (in_nat (by decide)).mpr ⟨_, by omega, rfl⟩ | exact (in_nat1 _ (by decide) (by decide)).mpr ⟨_, by omega, by omega, rfl⟩ | exact cow_in hN (by omega) | assumption) c_2
set_option maxHeartbeats 400000 in
theorem met_ofCow_ok4 (f : Nat → Int32) (a : Nat → Nat → Int32) (i : Nat) (hi : i < cl (a 1 3)) (hN : okN (a 1 3) 5)  : MdF yX6_ofCow cX6_ofCow 3 (some .int) 2 45 [.int (nI i), .int (nI 4)] f a (some (.int (eatF (a 1 (58 + 14 * i + 0)) (a 1 (58 + 14 * i + 1))))) f a := by
  refine MdF.ofI (by decide) rfl (Nat.le_of_ble_eq_true rfl) ?_
  intro p l e R s m args below meth c Q D h dA ls hx hb hml hRf hRl hts hown hK hI hM hl hret
  have hl : lv_has ls 3 [(0, .ref (h 0)), (1, .int (nI i)), (2, .int (nI 4))] := hl
  have hN2 := hN.2
  refine lv_aload_n hx hb dX6_ofCow_0 rfl (lv_at hl 0 rfl) ?_
  refine lv_iload_n hx hb dX6_ofCow_1 rfl (lv_at hl 1 rfl) ?_
  refine md_callI (y := yX6_isCow) hx hb hml hown hts hK hI hM (met_isCow f a (nI i)) q1574 q1576 qs37 q1577 ndX6_isCow rfl (by rw [hRf]; decide) (by rw [hRl]; decide) hl.1 rfl (Nat.le_of_ble_eq_true rfl) dX6_ofCow_2 (fun H locs hM => ?_)
  refine w_if_eqT (tgt := 18) hx hb dX6_ofCow_5 (by decide) (fun c_1 => ?_) (fun c_1 => ?_)
  · exact absurd (by first | exact (in_nat (by decide)).mpr ⟨_, by omega, rfl⟩ | exact (in_nat1 _ (by decide) (by decide)).mpr ⟨_, by omega, by omega, rfl⟩ | exact cow_in hN (by omega) | assumption) c_1
  · refine lv_iload_n hx hb dX6_ofCow_8 rfl (lv_at hl 2 rfl) ?_
    refine lv_iconst (v := nI 0) hx hb dX6_ofCow_9 (by decide) ?_
    refine lv_bipush (v := nI 6) hx hb dX6_ofCow_10 (by decide) ?_
    refine st_callI (y := yX6_in) hx hb hml hown hts (met_in (nI 4) (nI 0) (nI 6)) q1482 q1483 q70 q1484 ndX6_in rfl (by rw [hRf]; decide) (by rw [hRl]; decide) ⟨Nat.zero_le _, Nat.zero_le _⟩ hl.1 rfl (Nat.le_of_ble_eq_true rfl) dX6_ofCow_12 ?_
    refine w_if_neT (tgt := 25) hx hb dX6_ofCow_15 (by decide) (fun c_2 => ?_) (fun c_2 => ?_)
    · refine lv_iload_n hx hb dX6_ofCow_25 rfl (lv_at hl 2 rfl) ?_
      refine lv_tableIn (off := 26) (tgt := 52) hx hb dX6_ofCow_26 (by decide) (by decide) (by rfl) (by decide) ?_
      refine lv_aload_n hx hb dX6_ofCow_52 rfl (lv_at hl 0 rfl) ?_
      refine lv_iload_n hx hb dX6_ofCow_53 rfl (lv_at hl 1 rfl) ?_
      refine md_callI (y := yX6_eatsOf) hx hb hml hown hts hK hI hM (met_eatsOf f a i (by omega)) q1578 q1580 qs38 q1581 ndX6_eatsOf rfl (by rw [hRf]; decide) (by rw [hRl]; decide) hl.1 rfl (Nat.le_of_ble_eq_true rfl) dX6_ofCow_54 (fun H locs hM => ?_)
      exact hret hM (by first | rfl | (simp only [iI, nI_0, nI_one]; grind)) dX6_ofCow_57
    · exact absurd (by first | exact (in_nat (by decide)).mpr ⟨_, by omega, rfl⟩ | exact (in_nat1 _ (by decide) (by decide)).mpr ⟨_, by omega, by omega, rfl⟩ | exact cow_in hN (by omega) | assumption) c_2
set_option maxHeartbeats 400000 in
theorem met_ofCow_ok5 (f : Nat → Int32) (a : Nat → Nat → Int32) (i : Nat) (hi : i < cl (a 1 3)) (hN : okN (a 1 3) 5)  : MdF yX6_ofCow cX6_ofCow 3 (some .int) 2 44 [.int (nI i), .int (nI 5)] f a (some (.int (spanF (a 1 (58 + 14 * i + 0)) (a 1 (58 + 14 * i + 1))))) f a := by
  refine MdF.ofI (by decide) rfl (Nat.le_of_ble_eq_true rfl) ?_
  intro p l e R s m args below meth c Q D h dA ls hx hb hml hRf hRl hts hown hK hI hM hl hret
  have hl : lv_has ls 3 [(0, .ref (h 0)), (1, .int (nI i)), (2, .int (nI 5))] := hl
  have hN2 := hN.2
  refine lv_aload_n hx hb dX6_ofCow_0 rfl (lv_at hl 0 rfl) ?_
  refine lv_iload_n hx hb dX6_ofCow_1 rfl (lv_at hl 1 rfl) ?_
  refine md_callI (y := yX6_isCow) hx hb hml hown hts hK hI hM (met_isCow f a (nI i)) q1574 q1576 qs37 q1577 ndX6_isCow rfl (by rw [hRf]; decide) (by rw [hRl]; decide) hl.1 rfl (Nat.le_of_ble_eq_true rfl) dX6_ofCow_2 (fun H locs hM => ?_)
  refine w_if_eqT (tgt := 18) hx hb dX6_ofCow_5 (by decide) (fun c_1 => ?_) (fun c_1 => ?_)
  · exact absurd (by first | exact (in_nat (by decide)).mpr ⟨_, by omega, rfl⟩ | exact (in_nat1 _ (by decide) (by decide)).mpr ⟨_, by omega, by omega, rfl⟩ | exact cow_in hN (by omega) | assumption) c_1
  · refine lv_iload_n hx hb dX6_ofCow_8 rfl (lv_at hl 2 rfl) ?_
    refine lv_iconst (v := nI 0) hx hb dX6_ofCow_9 (by decide) ?_
    refine lv_bipush (v := nI 6) hx hb dX6_ofCow_10 (by decide) ?_
    refine st_callI (y := yX6_in) hx hb hml hown hts (met_in (nI 5) (nI 0) (nI 6)) q1482 q1483 q70 q1484 ndX6_in rfl (by rw [hRf]; decide) (by rw [hRl]; decide) ⟨Nat.zero_le _, Nat.zero_le _⟩ hl.1 rfl (Nat.le_of_ble_eq_true rfl) dX6_ofCow_12 ?_
    refine w_if_neT (tgt := 25) hx hb dX6_ofCow_15 (by decide) (fun c_2 => ?_) (fun c_2 => ?_)
    · refine lv_iload_n hx hb dX6_ofCow_25 rfl (lv_at hl 2 rfl) ?_
      refine lv_tableIn (off := 32) (tgt := 58) hx hb dX6_ofCow_26 (by decide) (by decide) (by rfl) (by decide) ?_
      refine lv_aload_n hx hb dX6_ofCow_58 rfl (lv_at hl 0 rfl) ?_
      refine lv_iload_n hx hb dX6_ofCow_59 rfl (lv_at hl 1 rfl) ?_
      refine md_callI (y := yX6_spanOf) hx hb hml hown hts hK hI hM (met_spanOf f a i (by omega)) q1582 q1584 qs39 q1585 ndX6_spanOf rfl (by rw [hRf]; decide) (by rw [hRl]; decide) hl.1 rfl (Nat.le_of_ble_eq_true rfl) dX6_ofCow_60 (fun H locs hM => ?_)
      exact hret hM (by first | rfl | (simp only [iI, nI_0, nI_one]; grind)) dX6_ofCow_63
    · exact absurd (by first | exact (in_nat (by decide)).mpr ⟨_, by omega, rfl⟩ | exact (in_nat1 _ (by decide) (by decide)).mpr ⟨_, by omega, by omega, rfl⟩ | exact cow_in hN (by omega) | assumption) c_2
set_option maxHeartbeats 400000 in
theorem met_ofCow_ok6 (f : Nat → Int32) (a : Nat → Nat → Int32) (i : Nat) (hi : i < cl (a 1 3)) (hN : okN (a 1 3) 5) (hR : okR (a 1)) : MdX yX6_ofCow cX6_ofCow 3 (some .int) 44 1117 [.int (nI i), .int (nI 6)] f a (some (.int (nI (wayS (a 1) i (cl (a 1 (58 + 14 * i + 2))) 4).1))) a := by
  refine MdX.ofI (by decide) rfl (Nat.le_of_ble_eq_true rfl) ?_
  intro p l e R s m args below meth c Q D h dA ls hx hb hml hRf hRl hts hown hK hI hM hl hret
  have hl : lv_has ls 3 [(0, .ref (h 0)), (1, .int (nI i)), (2, .int (nI 6))] := hl
  have hN2 := hN.2
  obtain ⟨hc0, hc1, hat, hc3, hc4⟩ := hR.2.2.2.2.2.1 i (by omega)
  have hat2 := hat.2
  refine lv_aload_n hx hb dX6_ofCow_0 rfl (lv_at hl 0 rfl) ?_
  refine lv_iload_n hx hb dX6_ofCow_1 rfl (lv_at hl 1 rfl) ?_
  refine md_callI (y := yX6_isCow) hx hb hml hown hts hK hI hM (met_isCow f a (nI i)) q1574 q1576 qs37 q1577 ndX6_isCow rfl (by rw [hRf]; decide) (by rw [hRl]; decide) hl.1 rfl (Nat.le_of_ble_eq_true rfl) dX6_ofCow_2 (fun H locs hM => ?_)
  refine w_if_eqT (tgt := 18) hx hb dX6_ofCow_5 (by decide) (fun c_1 => ?_) (fun c_1 => ?_)
  · exact absurd (by first | exact (in_nat (by decide)).mpr ⟨_, by omega, rfl⟩ | exact (in_nat1 _ (by decide) (by decide)).mpr ⟨_, by omega, by omega, rfl⟩ | exact cow_in hN (by omega) | assumption) c_1
  · refine lv_iload_n hx hb dX6_ofCow_8 rfl (lv_at hl 2 rfl) ?_
    refine lv_iconst (v := nI 0) hx hb dX6_ofCow_9 (by decide) ?_
    refine lv_bipush (v := nI 6) hx hb dX6_ofCow_10 (by decide) ?_
    refine st_callI (y := yX6_in) hx hb hml hown hts (met_in (nI 6) (nI 0) (nI 6)) q1482 q1483 q70 q1484 ndX6_in rfl (by rw [hRf]; decide) (by rw [hRl]; decide) ⟨Nat.zero_le _, Nat.zero_le _⟩ hl.1 rfl (Nat.le_of_ble_eq_true rfl) dX6_ofCow_12 ?_
    refine w_if_neT (tgt := 25) hx hb dX6_ofCow_15 (by decide) (fun c_2 => ?_) (fun c_2 => ?_)
    · refine lv_iload_n hx hb dX6_ofCow_25 rfl (lv_at hl 2 rfl) ?_
      refine lv_tableIn (off := 38) (tgt := 64) hx hb dX6_ofCow_26 (by decide) (by decide) (by rfl) (by decide) ?_
      refine lv_aload_n hx hb dX6_ofCow_64 rfl (lv_at hl 0 rfl) ?_
      refine lv_iload_n hx hb dX6_ofCow_65 rfl (lv_at hl 1 rfl) ?_
      refine lv_aload_n hx hb dX6_ofCow_66 rfl (lv_at hl 0 rfl) ?_
      refine lv_iload_n hx hb dX6_ofCow_67 rfl (lv_at hl 1 rfl) ?_
      refine lv_iconst (v := nI 2) hx hb dX6_ofCow_68 (by decide) ?_
      refine md_callI (y := yX6_its) hx hb hml hown hts hK hI hM (met_its f a i 2 (by omega)) q1557 q1559 qs35 q1560 ndX6_its rfl (by rw [hRf]; decide) (by rw [hRl]; decide) hl.1 rfl (Nat.le_of_ble_eq_true rfl) dX6_ofCow_69 (fun H locs hM => ?_)
      refine w_top (nI (cl (a 1 (58 + 14 * i + 2)))) (hat.1) ?_
      refine md_callXI (y := yX6_wayFrom) hx hb hml hown hts hK hI hM (met_wayFrom f a i (cl (a 1 (58 + 14 * i + 2))) (by omega) (by omega) hR.1 hc3) q1586 q1588 qs40 q1589 ndX6_wayFrom rfl (by rw [hRf]; decide) (by rw [hRl]; decide) hl.1 rfl (Nat.le_of_ble_eq_true rfl) dX6_ofCow_72 (fun H locs f_3 hf_3 hM => ?_)
      have ef_3 : fE f f_3 := fE.rf.tr hf_3
      exact hret ef_3 hM (by first | rfl | (simp only [iI, nI_0, nI_one]; grind)) dX6_ofCow_75
    · exact absurd (by first | exact (in_nat (by decide)).mpr ⟨_, by omega, rfl⟩ | exact (in_nat1 _ (by decide) (by decide)).mpr ⟨_, by omega, by omega, rfl⟩ | exact cow_in hN (by omega) | assumption) c_2
set_option maxHeartbeats 400000 in
theorem met_ofCow_e (f : Nat → Int32) (a : Nat → Nat → Int32) (v w : Int32) (he : ¬ (cowP (a 1) v ∧ (nI 0 ≤ w ∧ w ≤ nI 6))) : MdF yX6_ofCow cX6_ofCow 3 (some .int) 2 43 [.int v, .int w] f a (some (.int (-1000000001 : Int32))) f (mErr a 1) := by
  refine MdF.ofI (by decide) rfl (Nat.le_of_ble_eq_true rfl) ?_
  intro p l e R s m args below meth c Q D h dA ls hx hb hml hRf hRl hts hown hK hI hM hl hret
  have hl : lv_has ls 3 [(0, .ref (h 0)), (1, .int v), (2, .int w)] := hl
  refine lv_aload_n hx hb dX6_ofCow_0 rfl (lv_at hl 0 rfl) ?_
  refine lv_iload_n hx hb dX6_ofCow_1 rfl (lv_at hl 1 rfl) ?_
  refine md_callI (y := yX6_isCow) hx hb hml hown hts hK hI hM (met_isCow f a v) q1574 q1576 qs37 q1577 ndX6_isCow rfl (by rw [hRf]; decide) (by rw [hRl]; decide) hl.1 rfl (Nat.le_of_ble_eq_true rfl) dX6_ofCow_2 (fun H locs hM => ?_)
  refine w_if_eqT (tgt := 18) hx hb dX6_ofCow_5 (by decide) (fun c_1 => ?_) (fun c_1 => ?_)
  · refine lv_aload_n hx hb dX6_ofCow_18 rfl (lv_at hl 0 rfl) ?_
    refine lv_ldc hx hb hown (hts _ q1485) dX6_ofCow_19 ?_
    refine md_callI (y := yX6_errs) hx hb hml hown hts hK hI hM (met_errs f a (-1000000001 : Int32) 1 (by decide) (by decide)) q1486 q1488 qs21 q1489 ndX6_errs rfl (by rw [hRf]; decide) (by rw [hRl]; decide) hl.1 rfl (Nat.le_of_ble_eq_true rfl) dX6_ofCow_21 (fun H locs hM => ?_)
    exact hret hM (by first | rfl | (simp only [iI, nI_0, nI_one]; grind)) dX6_ofCow_24
  · refine lv_iload_n hx hb dX6_ofCow_8 rfl (lv_at hl 2 rfl) ?_
    refine lv_iconst (v := nI 0) hx hb dX6_ofCow_9 (by decide) ?_
    refine lv_bipush (v := nI 6) hx hb dX6_ofCow_10 (by decide) ?_
    refine st_callI (y := yX6_in) hx hb hml hown hts (met_in w (nI 0) (nI 6)) q1482 q1483 q70 q1484 ndX6_in rfl (by rw [hRf]; decide) (by rw [hRl]; decide) ⟨Nat.zero_le _, Nat.zero_le _⟩ hl.1 rfl (Nat.le_of_ble_eq_true rfl) dX6_ofCow_12 ?_
    refine w_if_neT (tgt := 25) hx hb dX6_ofCow_15 (by decide) (fun c_2 => ?_) (fun c_2 => ?_)
    · exact absurd ⟨c_1, c_2⟩ he
    · refine lv_aload_n hx hb dX6_ofCow_18 rfl (lv_at hl 0 rfl) ?_
      refine lv_ldc hx hb hown (hts _ q1485) dX6_ofCow_19 ?_
      refine md_callI (y := yX6_errs) hx hb hml hown hts hK hI hM (met_errs f a (-1000000001 : Int32) 1 (by decide) (by decide)) q1486 q1488 qs21 q1489 ndX6_errs rfl (by rw [hRf]; decide) (by rw [hRl]; decide) hl.1 rfl (Nat.le_of_ble_eq_true rfl) dX6_ofCow_21 (fun H locs hM => ?_)
      exact hret hM (by first | rfl | (simp only [iI, nI_0, nI_one]; grind)) dX6_ofCow_24
theorem ndX6_law : yX6_law.cls = RX6 ∧ yX6_law.cls ≠ "java/lang/invoke/MethodHandle" ∧ yX6_law.cls ≠ "java/lang/invoke/VarHandle" ∧ (parseMethodDescriptor yX6_law.desc).map (fun d => d.parameters.length) = some 4 := by decide +kernel
set_option maxHeartbeats 400000 in
theorem met_law_ok (f : Nat → Int32) (a : Nat → Nat → Int32) (u : Nat) (hu : u < 2) (x y z : Int32) (hT : okT (a 1)) : MdX yX6_law cX6_law 5 (some .int) 41 1043 [.int (nI u), .int x, .int y, .int z] f a (some (.int (lawV a u x y z))) a := by
  refine MdX.ofI (by decide) rfl (Nat.le_of_ble_eq_true rfl) ?_
  intro p l e R s m args below meth c Q D h dA ls hx hb hml hRf hRl hts hown hK hI hM hl hret
  have hl : lv_has ls 5 [(0, .ref (h 0)), (1, .int (nI u)), (2, .int x), (3, .int y), (4, .int z)] := hl
  refine lv_iload_n hx hb dX6_law_0 rfl (lv_at hl 1 rfl) ?_
  refine lv_iconst (v := nI 0) hx hb dX6_law_1 (by decide) ?_
  refine lv_iconst (v := nI 1) hx hb dX6_law_2 (by decide) ?_
  refine st_callI (y := yX6_in) hx hb hml hown hts (met_in (nI u) (nI 0) (nI 1)) q1482 q1483 q70 q1484 ndX6_in rfl (by rw [hRf]; decide) (by rw [hRl]; decide) ⟨Nat.zero_le _, Nat.zero_le _⟩ hl.1 rfl (Nat.le_of_ble_eq_true rfl) dX6_law_3 ?_
  refine w_if_eqT (tgt := 21) hx hb dX6_law_6 (by decide) (fun c_1 => ?_) (fun c_1 => ?_)
  · exact absurd (by first | exact (in_nat (by decide)).mpr ⟨_, by omega, rfl⟩ | exact (in_nat1 _ (by decide) (by decide)).mpr ⟨_, by omega, by omega, rfl⟩ | exact cow_in hN (by omega) | assumption) c_1
  · refine lv_aload_n hx hb dX6_law_9 rfl (lv_at hl 0 rfl) ?_
    refine lv_iload_n hx hb dX6_law_10 rfl (lv_at hl 1 rfl) ?_
    refine lv_iload_n hx hb dX6_law_11 rfl (lv_at hl 2 rfl) ?_
    refine lv_iload_n hx hb dX6_law_12 rfl (lv_at hl 3 rfl) ?_
    refine lv_iload hx hb dX6_law_13 (lv_at hl 4 rfl) ?_
    refine md_callXI (y := yX6_lawOf) hx hb hml hown hts hK hI hM (met_lawOf f a u (by omega) x y z (hT)) q1503 q1505 qs23 q1506 ndX6_lawOf rfl (by rw [hRf]; decide) (by rw [hRl]; decide) hl.1 rfl (Nat.le_of_ble_eq_true rfl) dX6_law_15 (fun H locs f_2 hf_2 hM => ?_)
    have ef_2 : fE f f_2 := fE.rf.tr hf_2
    refine lv_goto (tgt := 27) hx hb dX6_law_18 (by decide) ?_
    exact hret ef_2 hM (by first | rfl | (simp only [iI, nI_0, nI_one]; grind)) dX6_law_27
set_option maxHeartbeats 400000 in
theorem met_law_e (f : Nat → Int32) (a : Nat → Nat → Int32) (u x y z : Int32) (he : ¬ (nI 0 ≤ u ∧ u ≤ nI 1)) : MdF yX6_law cX6_law 5 (some .int) 1 22 [.int u, .int x, .int y, .int z] f a (some (.int (-1000000001 : Int32))) f (mErr a 1) := by
  refine MdF.ofI (by decide) rfl (Nat.le_of_ble_eq_true rfl) ?_
  intro p l e R s m args below meth c Q D h dA ls hx hb hml hRf hRl hts hown hK hI hM hl hret
  have hl : lv_has ls 5 [(0, .ref (h 0)), (1, .int u), (2, .int x), (3, .int y), (4, .int z)] := hl
  refine lv_iload_n hx hb dX6_law_0 rfl (lv_at hl 1 rfl) ?_
  refine lv_iconst (v := nI 0) hx hb dX6_law_1 (by decide) ?_
  refine lv_iconst (v := nI 1) hx hb dX6_law_2 (by decide) ?_
  refine st_callI (y := yX6_in) hx hb hml hown hts (met_in u (nI 0) (nI 1)) q1482 q1483 q70 q1484 ndX6_in rfl (by rw [hRf]; decide) (by rw [hRl]; decide) ⟨Nat.zero_le _, Nat.zero_le _⟩ hl.1 rfl (Nat.le_of_ble_eq_true rfl) dX6_law_3 ?_
  refine w_if_eqT (tgt := 21) hx hb dX6_law_6 (by decide) (fun c_1 => ?_) (fun c_1 => ?_)
  · refine lv_aload_n hx hb dX6_law_21 rfl (lv_at hl 0 rfl) ?_
    refine lv_ldc hx hb hown (hts _ q1485) dX6_law_22 ?_
    refine md_callI (y := yX6_errs) hx hb hml hown hts hK hI hM (met_errs f a (-1000000001 : Int32) 1 (by decide) (by decide)) q1486 q1488 qs21 q1489 ndX6_errs rfl (by rw [hRf]; decide) (by rw [hRl]; decide) hl.1 rfl (Nat.le_of_ble_eq_true rfl) dX6_law_24 (fun H locs hM => ?_)
    exact hret hM (by first | rfl | (simp only [iI, nI_0, nI_one]; grind)) dX6_law_27
  · exact absurd c_1 he
theorem ndX6_days : yX6_days.cls = RX6 ∧ yX6_days.cls ≠ "java/lang/invoke/MethodHandle" ∧ yX6_days.cls ≠ "java/lang/invoke/VarHandle" ∧ (parseMethodDescriptor yX6_days.desc).map (fun d => d.parameters.length) = some 1 := by decide +kernel
set_option maxHeartbeats 400000 in
theorem met_days_ok (f : Nat → Int32) (a : Nat → Nat → Int32) (n : Nat) (h1 : 1 ≤ n) (h2 : n ≤ 100) (hd : a 1 0 + nI n ≤ nI 9999) (hR : okR (a 1)) : MdX yX6_days cX6_days 2 (some .int) 47 1184 [.int (nI n)] f a (some (.int (sumG (dayI (a 1) n) 25))) (va_up a 1 (dayI (a 1) n)) := by
  refine MdX.ofI (by decide) rfl (Nat.le_of_ble_eq_true rfl) ?_
  intro p l e R s m args below meth c Q D h dA ls hx hb hml hRf hRl hts hown hK hI hM hl hret
  have hl : lv_has ls 2 [(0, .ref (h 0)), (1, .int (nI n))] := hl
  refine lv_iload_n hx hb dX6_days_0 rfl (lv_at hl 1 rfl) ?_
  refine lv_iconst (v := nI 1) hx hb dX6_days_1 (by decide) ?_
  refine lv_bipush (v := nI 100) hx hb dX6_days_2 (by decide) ?_
  refine st_callI (y := yX6_in) hx hb hml hown hts (met_in (nI n) (nI 1) (nI 100)) q1482 q1483 q70 q1484 ndX6_in rfl (by rw [hRf]; decide) (by rw [hRl]; decide) ⟨Nat.zero_le _, Nat.zero_le _⟩ hl.1 rfl (Nat.le_of_ble_eq_true rfl) dX6_days_4 ?_
  refine w_if_neT (tgt := 17) hx hb dX6_days_7 (by decide) (fun c_1 => ?_) (fun c_1 => ?_)
  · refine lv_aload_n hx hb dX6_days_17 rfl (lv_at hl 0 rfl) ?_
    refine md_get (v := .ref (h 1)) hx hb hts hown hK hM 0 (by decide) q1390 rfl rfl dX6_days_18 ?_
    refine lv_iconst (v := nI 0) hx hb dX6_days_21 (by decide) ?_
    refine md_iald hx hb hK hM 1 rfl 0 ⟨by omega, by decide, rfl⟩ dX6_days_22 ?_
    refine lv_iload_n hx hb dX6_days_23 rfl (lv_at hl 1 rfl) ?_
    refine lv_iadd hx hb dX6_days_24 ?_
    refine lv_sipush (v := nI 9999) hx hb dX6_days_25 (by decide) ?_
    refine lv_icmp_le (tgt := 38) hx hb dX6_days_28 (by decide) (fun c_2 => ?_) (fun c_2 => ?_)
    · refine lv_aload_n hx hb dX6_days_38 rfl (lv_at hl 0 rfl) ?_
      refine lv_iload_n hx hb dX6_days_39 rfl (lv_at hl 1 rfl) ?_
      refine md_callXV (y := yX6_passes) hx hb hml hown hts hK hI hM (met_passes f a n (by omega) hR) q1648 q1650 qs44 q1651 ndX6_passes rfl (by rw [hRf]; decide) (by rw [hRl]; decide) hl.1 rfl (Nat.le_of_ble_eq_true rfl) dX6_days_40 (fun H locs f_3 hf_3 hM => ?_)
      have ef_3 : fE f f_3 := fE.rf.tr hf_3
      refine lv_aload_n hx hb dX6_days_43 rfl (lv_at hl 0 rfl) ?_
      refine md_callI (y := yX6_grassOfAll) hx hb hml hown hts hK hI hM (met_grassOfAll f_3 (va_up a 1 (dayI (a 1) n))) q1660 q1662 qs47 q1663 ndX6_grassOfAll rfl (by rw [hRf]; decide) (by rw [hRl]; decide) hl.1 rfl (Nat.le_of_ble_eq_true rfl) dX6_days_44 (fun H locs hM => ?_)
      refine w_top (sumG (dayI (a 1) n) 25) (by rw [va_us]) ?_
      exact hret ef_3 hM (by first | rfl | (simp only [iI, nI_0, nI_one]; grind)) dX6_days_47
    · exact absurd hd c_2
  · exact absurd (by first | exact (in_nat (by decide)).mpr ⟨_, by omega, rfl⟩ | exact (in_nat1 _ (by decide) (by decide)).mpr ⟨_, by omega, by omega, rfl⟩ | exact cow_in hN (by omega) | assumption) c_1
set_option maxHeartbeats 400000 in
theorem met_days_s (f : Nat → Int32) (a : Nat → Nat → Int32) (n : Nat) (h1 : 1 ≤ n) (h2 : n ≤ 100) (hd : ¬ a 1 0 + nI n ≤ nI 9999) : MdF yX6_days cX6_days 2 (some .int) 1 22 [.int (nI n)] f a (some (.int (-1000000003 : Int32))) f (mErr a 3) := by
  refine MdF.ofI (by decide) rfl (Nat.le_of_ble_eq_true rfl) ?_
  intro p l e R s m args below meth c Q D h dA ls hx hb hml hRf hRl hts hown hK hI hM hl hret
  have hl : lv_has ls 2 [(0, .ref (h 0)), (1, .int (nI n))] := hl
  refine lv_iload_n hx hb dX6_days_0 rfl (lv_at hl 1 rfl) ?_
  refine lv_iconst (v := nI 1) hx hb dX6_days_1 (by decide) ?_
  refine lv_bipush (v := nI 100) hx hb dX6_days_2 (by decide) ?_
  refine st_callI (y := yX6_in) hx hb hml hown hts (met_in (nI n) (nI 1) (nI 100)) q1482 q1483 q70 q1484 ndX6_in rfl (by rw [hRf]; decide) (by rw [hRl]; decide) ⟨Nat.zero_le _, Nat.zero_le _⟩ hl.1 rfl (Nat.le_of_ble_eq_true rfl) dX6_days_4 ?_
  refine w_if_neT (tgt := 17) hx hb dX6_days_7 (by decide) (fun c_1 => ?_) (fun c_1 => ?_)
  · refine lv_aload_n hx hb dX6_days_17 rfl (lv_at hl 0 rfl) ?_
    refine md_get (v := .ref (h 1)) hx hb hts hown hK hM 0 (by decide) q1390 rfl rfl dX6_days_18 ?_
    refine lv_iconst (v := nI 0) hx hb dX6_days_21 (by decide) ?_
    refine md_iald hx hb hK hM 1 rfl 0 ⟨by omega, by decide, rfl⟩ dX6_days_22 ?_
    refine lv_iload_n hx hb dX6_days_23 rfl (lv_at hl 1 rfl) ?_
    refine lv_iadd hx hb dX6_days_24 ?_
    refine lv_sipush (v := nI 9999) hx hb dX6_days_25 (by decide) ?_
    refine lv_icmp_le (tgt := 38) hx hb dX6_days_28 (by decide) (fun c_2 => ?_) (fun c_2 => ?_)
    · exact absurd c_2 hd
    · refine lv_aload_n hx hb dX6_days_31 rfl (lv_at hl 0 rfl) ?_
      refine lv_ldc hx hb hown (hts _ q1647) dX6_days_32 ?_
      refine md_callI (y := yX6_errs) hx hb hml hown hts hK hI hM (met_errs f a (-1000000003 : Int32) 3 (by decide) (by decide)) q1486 q1488 qs21 q1489 ndX6_errs rfl (by rw [hRf]; decide) (by rw [hRl]; decide) hl.1 rfl (Nat.le_of_ble_eq_true rfl) dX6_days_34 (fun H locs hM => ?_)
      exact hret hM (by first | rfl | (simp only [iI, nI_0, nI_one]; grind)) dX6_days_37
  · exact absurd (by first | exact (in_nat (by decide)).mpr ⟨_, by omega, rfl⟩ | exact (in_nat1 _ (by decide) (by decide)).mpr ⟨_, by omega, by omega, rfl⟩ | exact cow_in hN (by omega) | assumption) c_1
set_option maxHeartbeats 400000 in
theorem met_days_e (f : Nat → Int32) (a : Nat → Nat → Int32) (n : Int32) (he : ¬ (nI 1 ≤ n ∧ n ≤ nI 100)) : MdF yX6_days cX6_days 2 (some .int) 1 22 [.int n] f a (some (.int (-1000000001 : Int32))) f (mErr a 1) := by
  refine MdF.ofI (by decide) rfl (Nat.le_of_ble_eq_true rfl) ?_
  intro p l e R s m args below meth c Q D h dA ls hx hb hml hRf hRl hts hown hK hI hM hl hret
  have hl : lv_has ls 2 [(0, .ref (h 0)), (1, .int n)] := hl
  refine lv_iload_n hx hb dX6_days_0 rfl (lv_at hl 1 rfl) ?_
  refine lv_iconst (v := nI 1) hx hb dX6_days_1 (by decide) ?_
  refine lv_bipush (v := nI 100) hx hb dX6_days_2 (by decide) ?_
  refine st_callI (y := yX6_in) hx hb hml hown hts (met_in n (nI 1) (nI 100)) q1482 q1483 q70 q1484 ndX6_in rfl (by rw [hRf]; decide) (by rw [hRl]; decide) ⟨Nat.zero_le _, Nat.zero_le _⟩ hl.1 rfl (Nat.le_of_ble_eq_true rfl) dX6_days_4 ?_
  refine w_if_neT (tgt := 17) hx hb dX6_days_7 (by decide) (fun c_1 => ?_) (fun c_1 => ?_)
  · exact absurd c_1 he
  · refine lv_aload_n hx hb dX6_days_10 rfl (lv_at hl 0 rfl) ?_
    refine lv_ldc hx hb hown (hts _ q1485) dX6_days_11 ?_
    refine md_callI (y := yX6_errs) hx hb hml hown hts hK hI hM (met_errs f a (-1000000001 : Int32) 1 (by decide) (by decide)) q1486 q1488 qs21 q1489 ndX6_errs rfl (by rw [hRf]; decide) (by rw [hRl]; decide) hl.1 rfl (Nat.le_of_ble_eq_true rfl) dX6_days_13 (fun H locs hM => ?_)
    exact hret hM (by first | rfl | (simp only [iI, nI_0, nI_one]; grind)) dX6_days_16
theorem ndX6_taste : yX6_taste.cls = RX6 ∧ yX6_taste.cls ≠ "java/lang/invoke/MethodHandle" ∧ yX6_taste.cls ≠ "java/lang/invoke/VarHandle" ∧ (parseMethodDescriptor yX6_taste.desc).map (fun d => d.parameters.length) = some 2 := by decide +kernel
set_option maxHeartbeats 400000 in
theorem met_taste_ok (f : Nat → Int32) (a : Nat → Nat → Int32) (g : Int32) (hg : jugP (a 1) g) (c0 : Nat) (hc : c0 < 25) (hR : okR (a 1)) : MdX yX6_taste cX6_taste 3 (some .int) 42 1070 [.int g, .int (nI c0)] f a (some (.int (tasR (a 1) g c0))) a := by
  refine MdX.ofI (by decide) rfl (Nat.le_of_ble_eq_true rfl) ?_
  intro p l e R s m args below meth c Q D h dA ls hx hb hml hRf hRl hts hown hK hI hM hl hret
  have hl : lv_has ls 3 [(0, .ref (h 0)), (1, .int g), (2, .int (nI c0))] := hl
  refine lv_aload_n hx hb dX6_taste_0 rfl (lv_at hl 0 rfl) ?_
  refine lv_iload_n hx hb dX6_taste_1 rfl (lv_at hl 1 rfl) ?_
  refine md_callI (y := yX6_isJug) hx hb hml hown hts hK hI hM (met_isJug f a g) q1677 q1679 qs49 q1680 ndX6_isJug rfl (by rw [hRf]; decide) (by rw [hRl]; decide) hl.1 rfl (Nat.le_of_ble_eq_true rfl) dX6_taste_2 (fun H locs hM => ?_)
  refine w_if_eqT (tgt := 24) hx hb dX6_taste_5 (by decide) (fun c_1 => ?_) (fun c_1 => ?_)
  · exact absurd (by first | exact (in_nat (by decide)).mpr ⟨_, by omega, rfl⟩ | exact (in_nat1 _ (by decide) (by decide)).mpr ⟨_, by omega, by omega, rfl⟩ | exact cow_in hN (by omega) | assumption) c_1
  · refine lv_iload_n hx hb dX6_taste_8 rfl (lv_at hl 2 rfl) ?_
    refine st_callI (y := yX6_isCell) hx hb hml hown hts (met_isCell (nI c0)) q1479 q1480 q70 q1481 ndX6_isCell rfl (by rw [hRf]; decide) (by rw [hRl]; decide) ⟨Nat.zero_le _, Nat.zero_le _⟩ hl.1 rfl (Nat.le_of_ble_eq_true rfl) dX6_taste_9 ?_
    refine w_if_eqT (tgt := 24) hx hb dX6_taste_12 (by decide) (fun c_2 => ?_) (fun c_2 => ?_)
    · exact absurd (by first | exact (in_nat (by decide)).mpr ⟨_, by omega, rfl⟩ | exact (in_nat1 _ (by decide) (by decide)).mpr ⟨_, by omega, by omega, rfl⟩ | exact cow_in hN (by omega) | assumption) c_2
    · refine lv_aload_n hx hb dX6_taste_15 rfl (lv_at hl 0 rfl) ?_
      refine lv_iload_n hx hb dX6_taste_16 rfl (lv_at hl 1 rfl) ?_
      refine lv_iload_n hx hb dX6_taste_17 rfl (lv_at hl 2 rfl) ?_
      refine md_callXI (y := yX6_tasteOf) hx hb hml hown hts hK hI hM (met_tasteOf f a g c0 (by omega) hR) q1681 q1683 qs50 q1684 ndX6_tasteOf rfl (by rw [hRf]; decide) (by rw [hRl]; decide) hl.1 rfl (Nat.le_of_ble_eq_true rfl) dX6_taste_18 (fun H locs f_3 hf_3 hM => ?_)
      have ef_3 : fE f f_3 := fE.rf.tr hf_3
      refine lv_goto (tgt := 30) hx hb dX6_taste_21 (by decide) ?_
      exact hret ef_3 hM (by first | rfl | (simp only [iI, nI_0, nI_one]; grind)) dX6_taste_30
set_option maxHeartbeats 400000 in
theorem met_taste_e (f : Nat → Int32) (a : Nat → Nat → Int32) (g c0 : Int32) (he : ¬ (jugP (a 1) g ∧ (nI 0 ≤ c0 ∧ c0 ≤ nI 24))) : MdF yX6_taste cX6_taste 3 (some .int) 2 43 [.int g, .int c0] f a (some (.int (-1000000001 : Int32))) f (mErr a 1) := by
  refine MdF.ofI (by decide) rfl (Nat.le_of_ble_eq_true rfl) ?_
  intro p l e R s m args below meth c Q D h dA ls hx hb hml hRf hRl hts hown hK hI hM hl hret
  have hl : lv_has ls 3 [(0, .ref (h 0)), (1, .int g), (2, .int c0)] := hl
  refine lv_aload_n hx hb dX6_taste_0 rfl (lv_at hl 0 rfl) ?_
  refine lv_iload_n hx hb dX6_taste_1 rfl (lv_at hl 1 rfl) ?_
  refine md_callI (y := yX6_isJug) hx hb hml hown hts hK hI hM (met_isJug f a g) q1677 q1679 qs49 q1680 ndX6_isJug rfl (by rw [hRf]; decide) (by rw [hRl]; decide) hl.1 rfl (Nat.le_of_ble_eq_true rfl) dX6_taste_2 (fun H locs hM => ?_)
  refine w_if_eqT (tgt := 24) hx hb dX6_taste_5 (by decide) (fun c_1 => ?_) (fun c_1 => ?_)
  · refine lv_aload_n hx hb dX6_taste_24 rfl (lv_at hl 0 rfl) ?_
    refine lv_ldc hx hb hown (hts _ q1485) dX6_taste_25 ?_
    refine md_callI (y := yX6_errs) hx hb hml hown hts hK hI hM (met_errs f a (-1000000001 : Int32) 1 (by decide) (by decide)) q1486 q1488 qs21 q1489 ndX6_errs rfl (by rw [hRf]; decide) (by rw [hRl]; decide) hl.1 rfl (Nat.le_of_ble_eq_true rfl) dX6_taste_27 (fun H locs hM => ?_)
    exact hret hM (by first | rfl | (simp only [iI, nI_0, nI_one]; grind)) dX6_taste_30
  · refine lv_iload_n hx hb dX6_taste_8 rfl (lv_at hl 2 rfl) ?_
    refine st_callI (y := yX6_isCell) hx hb hml hown hts (met_isCell c0) q1479 q1480 q70 q1481 ndX6_isCell rfl (by rw [hRf]; decide) (by rw [hRl]; decide) ⟨Nat.zero_le _, Nat.zero_le _⟩ hl.1 rfl (Nat.le_of_ble_eq_true rfl) dX6_taste_9 ?_
    refine w_if_eqT (tgt := 24) hx hb dX6_taste_12 (by decide) (fun c_2 => ?_) (fun c_2 => ?_)
    · refine lv_aload_n hx hb dX6_taste_24 rfl (lv_at hl 0 rfl) ?_
      refine lv_ldc hx hb hown (hts _ q1485) dX6_taste_25 ?_
      refine md_callI (y := yX6_errs) hx hb hml hown hts hK hI hM (met_errs f a (-1000000001 : Int32) 1 (by decide) (by decide)) q1486 q1488 qs21 q1489 ndX6_errs rfl (by rw [hRf]; decide) (by rw [hRl]; decide) hl.1 rfl (Nat.le_of_ble_eq_true rfl) dX6_taste_27 (fun H locs hM => ?_)
      exact hret hM (by first | rfl | (simp only [iI, nI_0, nI_one]; grind)) dX6_taste_30
    · exact absurd ⟨c_1, c_2⟩ he
theorem ndX6_known : yX6_known.cls = RX6 ∧ yX6_known.cls ≠ "java/lang/invoke/MethodHandle" ∧ yX6_known.cls ≠ "java/lang/invoke/VarHandle" ∧ (parseMethodDescriptor yX6_known.desc).map (fun d => d.parameters.length) = some 2 := by decide +kernel
set_option maxHeartbeats 400000 in
theorem met_known_ok (f : Nat → Int32) (a : Nat → Nat → Int32) (g : Int32) (hg : jugP (a 1) g) (n : Nat) (hn : n ≤ 100) (hR : okR (a 1)) : MdX yX6_known cX6_known 4 (some .int) 47 1184 [.int g, .int (nI n)] f a (some (.int (knS (dayI (a 1) n) g 25))) (va_up a 3 (a 1)) := by
  refine MdX.ofI (by decide) rfl (Nat.le_of_ble_eq_true rfl) ?_
  intro p l e R s m args below meth c Q D h dA ls hx hb hml hRf hRl hts hown hK hI hM hl hret
  have hl : lv_has ls 4 [(0, .ref (h 0)), (1, .int g), (2, .int (nI n))] := hl
  refine lv_aload_n hx hb dX6_known_0 rfl (lv_at hl 0 rfl) ?_
  refine lv_iload_n hx hb dX6_known_1 rfl (lv_at hl 1 rfl) ?_
  refine md_callI (y := yX6_isJug) hx hb hml hown hts hK hI hM (met_isJug f a g) q1677 q1679 qs49 q1680 ndX6_isJug rfl (by rw [hRf]; decide) (by rw [hRl]; decide) hl.1 rfl (Nat.le_of_ble_eq_true rfl) dX6_known_2 (fun H locs hM => ?_)
  refine w_if_eqT (tgt := 18) hx hb dX6_known_5 (by decide) (fun c_1 => ?_) (fun c_1 => ?_)
  · exact absurd (by first | exact (in_nat (by decide)).mpr ⟨_, by omega, rfl⟩ | exact (in_nat1 _ (by decide) (by decide)).mpr ⟨_, by omega, by omega, rfl⟩ | exact cow_in hN (by omega) | assumption) c_1
  · refine lv_iload_n hx hb dX6_known_8 rfl (lv_at hl 2 rfl) ?_
    refine lv_iconst (v := nI 0) hx hb dX6_known_9 (by decide) ?_
    refine lv_bipush (v := nI 100) hx hb dX6_known_10 (by decide) ?_
    refine st_callI (y := yX6_in) hx hb hml hown hts (met_in (nI n) (nI 0) (nI 100)) q1482 q1483 q70 q1484 ndX6_in rfl (by rw [hRf]; decide) (by rw [hRl]; decide) ⟨Nat.zero_le _, Nat.zero_le _⟩ hl.1 rfl (Nat.le_of_ble_eq_true rfl) dX6_known_12 ?_
    refine w_if_neT (tgt := 25) hx hb dX6_known_15 (by decide) (fun c_2 => ?_) (fun c_2 => ?_)
    · refine lv_aload_n hx hb dX6_known_25 rfl (lv_at hl 0 rfl) ?_
      refine lv_aload_n hx hb dX6_known_26 rfl (lv_at hl 0 rfl) ?_
      refine md_get (v := .ref (h 1)) hx hb hts hown hK hM 0 (by decide) q1390 rfl rfl dX6_known_27 ?_
      refine lv_aload_n hx hb dX6_known_30 rfl (lv_at hl 0 rfl) ?_
      refine md_get (v := .ref (h 3)) hx hb hts hown hK hM 2 (by decide) q1392 rfl rfl dX6_known_31 ?_
      refine md_callG (y := yX6_moveAll) hx hb hml hown hts hK hI hM (met_moveAll_1_3 f a) q1639 q1641 qs43 q1642 ndX6_moveAll rfl (by rw [hRf]; decide) (by rw [hRl]; decide) hl.1 rfl (Nat.le_of_ble_eq_true rfl) dX6_known_34 (fun H locs hM => ?_)
      refine lv_aload_n hx hb dX6_known_37 rfl (lv_at hl 0 rfl) ?_
      refine lv_iload_n hx hb dX6_known_38 rfl (lv_at hl 2 rfl) ?_
      refine md_callXV (y := yX6_passes) hx hb hml hown hts hK hI hM (met_passes f (va_up a 3 (a 1)) n (by omega) hR) q1648 q1650 qs44 q1651 ndX6_passes rfl (by rw [hRf]; decide) (by rw [hRl]; decide) hl.1 rfl (Nat.le_of_ble_eq_true rfl) dX6_known_39 (fun H locs f_3 hf_3 hM => ?_)
      have ef_3 : fE f f_3 := fE.rf.tr hf_3
      have hM := hM.to (a' := va_up (va_up a 3 (a 1)) 1 (dayI (a 1) n)) rfl (rfl)
      refine lv_aload_n hx hb dX6_known_42 rfl (lv_at hl 0 rfl) ?_
      refine lv_iload_n hx hb dX6_known_43 rfl (lv_at hl 1 rfl) ?_
      refine md_callXI (y := yX6_knownBy) hx hb hml hown hts hK hI hM (met_knownBy f_3 (va_up (va_up a 3 (a 1)) 1 (dayI (a 1) n)) g (by rw [va_us]; exact okR_dayI hR n)) q1693 q1695 qs52 q1696 ndX6_knownBy rfl (by rw [hRf]; decide) (by rw [hRl]; decide) hl.1 rfl (Nat.le_of_ble_eq_true rfl) dX6_known_44 (fun H locs f_4 hf_4 hM => ?_)
      have ef_4 : fE f f_4 := ef_3.tr hf_4
      refine w_top (knS (dayI (a 1) n) g 25) (by rw [va_us]) ?_
      refine lv_istore_n (lv' := [(3, .int (knS (dayI (a 1) n) g 25)), (0, .ref (h 0)), (1, .int g), (2, .int (nI n))]) hx hb dX6_known_47 rfl hl (by decide) rfl (fun ls hl => ?_)
      refine lv_aload_n hx hb dX6_known_48 rfl (lv_at hl 1 rfl) ?_
      refine lv_aload_n hx hb dX6_known_49 rfl (lv_at hl 1 rfl) ?_
      refine md_get (v := .ref (h 3)) hx hb hts hown hK hM 2 (by decide) q1392 rfl rfl dX6_known_50 ?_
      refine lv_aload_n hx hb dX6_known_53 rfl (lv_at hl 1 rfl) ?_
      refine md_get (v := .ref (h 1)) hx hb hts hown hK hM 0 (by decide) q1390 rfl rfl dX6_known_54 ?_
      refine md_callG (y := yX6_moveAll) hx hb hml hown hts hK hI hM (met_moveAll_3_1 f_4 (va_up (va_up a 3 (a 1)) 1 (dayI (a 1) n))) q1639 q1641 qs43 q1642 ndX6_moveAll rfl (by rw [hRf]; decide) (by rw [hRl]; decide) hl.1 rfl (Nat.le_of_ble_eq_true rfl) dX6_known_57 (fun H locs hM => ?_)
      refine lv_iload_n hx hb dX6_known_60 rfl (lv_at hl 0 rfl) ?_
      exact hret ef_4 (hM.to rfl (va_c3 rfl)) (by first | rfl | (simp only [iI, nI_0, nI_one]; grind)) dX6_known_61
    · exact absurd (by first | exact (in_nat (by decide)).mpr ⟨_, by omega, rfl⟩ | exact (in_nat1 _ (by decide) (by decide)).mpr ⟨_, by omega, by omega, rfl⟩ | exact cow_in hN (by omega) | assumption) c_2
set_option maxHeartbeats 400000 in
theorem met_known_e (f : Nat → Int32) (a : Nat → Nat → Int32) (g n : Int32) (he : ¬ (jugP (a 1) g ∧ (nI 0 ≤ n ∧ n ≤ nI 100))) : MdF yX6_known cX6_known 4 (some .int) 2 43 [.int g, .int n] f a (some (.int (-1000000001 : Int32))) f (mErr a 1) := by
  refine MdF.ofI (by decide) rfl (Nat.le_of_ble_eq_true rfl) ?_
  intro p l e R s m args below meth c Q D h dA ls hx hb hml hRf hRl hts hown hK hI hM hl hret
  have hl : lv_has ls 4 [(0, .ref (h 0)), (1, .int g), (2, .int n)] := hl
  refine lv_aload_n hx hb dX6_known_0 rfl (lv_at hl 0 rfl) ?_
  refine lv_iload_n hx hb dX6_known_1 rfl (lv_at hl 1 rfl) ?_
  refine md_callI (y := yX6_isJug) hx hb hml hown hts hK hI hM (met_isJug f a g) q1677 q1679 qs49 q1680 ndX6_isJug rfl (by rw [hRf]; decide) (by rw [hRl]; decide) hl.1 rfl (Nat.le_of_ble_eq_true rfl) dX6_known_2 (fun H locs hM => ?_)
  refine w_if_eqT (tgt := 18) hx hb dX6_known_5 (by decide) (fun c_1 => ?_) (fun c_1 => ?_)
  · refine lv_aload_n hx hb dX6_known_18 rfl (lv_at hl 0 rfl) ?_
    refine lv_ldc hx hb hown (hts _ q1485) dX6_known_19 ?_
    refine md_callI (y := yX6_errs) hx hb hml hown hts hK hI hM (met_errs f a (-1000000001 : Int32) 1 (by decide) (by decide)) q1486 q1488 qs21 q1489 ndX6_errs rfl (by rw [hRf]; decide) (by rw [hRl]; decide) hl.1 rfl (Nat.le_of_ble_eq_true rfl) dX6_known_21 (fun H locs hM => ?_)
    exact hret hM (by first | rfl | (simp only [iI, nI_0, nI_one]; grind)) dX6_known_24
  · refine lv_iload_n hx hb dX6_known_8 rfl (lv_at hl 2 rfl) ?_
    refine lv_iconst (v := nI 0) hx hb dX6_known_9 (by decide) ?_
    refine lv_bipush (v := nI 100) hx hb dX6_known_10 (by decide) ?_
    refine st_callI (y := yX6_in) hx hb hml hown hts (met_in n (nI 0) (nI 100)) q1482 q1483 q70 q1484 ndX6_in rfl (by rw [hRf]; decide) (by rw [hRl]; decide) ⟨Nat.zero_le _, Nat.zero_le _⟩ hl.1 rfl (Nat.le_of_ble_eq_true rfl) dX6_known_12 ?_
    refine w_if_neT (tgt := 25) hx hb dX6_known_15 (by decide) (fun c_2 => ?_) (fun c_2 => ?_)
    · exact absurd ⟨c_1, c_2⟩ he
    · refine lv_aload_n hx hb dX6_known_18 rfl (lv_at hl 0 rfl) ?_
      refine lv_ldc hx hb hown (hts _ q1485) dX6_known_19 ?_
      refine md_callI (y := yX6_errs) hx hb hml hown hts hK hI hM (met_errs f a (-1000000001 : Int32) 1 (by decide) (by decide)) q1486 q1488 qs21 q1489 ndX6_errs rfl (by rw [hRf]; decide) (by rw [hRl]; decide) hl.1 rfl (Nat.le_of_ble_eq_true rfl) dX6_known_21 (fun H locs hM => ?_)
      exact hret hM (by first | rfl | (simp only [iI, nI_0, nI_one]; grind)) dX6_known_24
theorem ndX6_comes : yX6_comes.cls = RX6 ∧ yX6_comes.cls ≠ "java/lang/invoke/MethodHandle" ∧ yX6_comes.cls ≠ "java/lang/invoke/VarHandle" ∧ (parseMethodDescriptor yX6_comes.desc).map (fun d => d.parameters.length) = some 2 := by decide +kernel
set_option maxHeartbeats 400000 in
theorem met_comes_ok (f : Nat → Int32) (a : Nat → Nat → Int32) (g : Int32) (hg : jugP (a 1) g) (c0 : Nat) (hc : c0 < 25) (hR : okR (a 1)) (hf : fdN (a 1) g c0 true 101 0 ≤ 100) : MdX yX6_comes cX6_comes 4 (some .int) 47 1186 [.int g, .int (nI c0)] f a (some (.int (nI (fdN (a 1) g c0 true 101 0)))) (va_up a 3 (a 1)) := by
  refine MdX.ofI (by decide) rfl (Nat.le_of_ble_eq_true rfl) ?_
  intro p l e R s m args below meth c Q D h dA ls hx hb hml hRf hRl hts hown hK hI hM hl hret
  have hl : lv_has ls 4 [(0, .ref (h 0)), (1, .int g), (2, .int (nI c0))] := hl
  have hfd := fdN_le (a 1) g c0 true 101 0
  refine lv_aload_n hx hb dX6_comes_0 rfl (lv_at hl 0 rfl) ?_
  refine lv_iload_n hx hb dX6_comes_1 rfl (lv_at hl 1 rfl) ?_
  refine md_callI (y := yX6_isJug) hx hb hml hown hts hK hI hM (met_isJug f a g) q1677 q1679 qs49 q1680 ndX6_isJug rfl (by rw [hRf]; decide) (by rw [hRl]; decide) hl.1 rfl (Nat.le_of_ble_eq_true rfl) dX6_comes_2 (fun H locs hM => ?_)
  refine w_if_eqT (tgt := 15) hx hb dX6_comes_5 (by decide) (fun c_1 => ?_) (fun c_1 => ?_)
  · exact absurd (by first | exact (in_nat (by decide)).mpr ⟨_, by omega, rfl⟩ | exact (in_nat1 _ (by decide) (by decide)).mpr ⟨_, by omega, by omega, rfl⟩ | exact cow_in hN (by omega) | assumption) c_1
  · refine lv_iload_n hx hb dX6_comes_8 rfl (lv_at hl 2 rfl) ?_
    refine st_callI (y := yX6_isCell) hx hb hml hown hts (met_isCell (nI c0)) q1479 q1480 q70 q1481 ndX6_isCell rfl (by rw [hRf]; decide) (by rw [hRl]; decide) ⟨Nat.zero_le _, Nat.zero_le _⟩ hl.1 rfl (Nat.le_of_ble_eq_true rfl) dX6_comes_9 ?_
    refine w_if_neT (tgt := 22) hx hb dX6_comes_12 (by decide) (fun c_2 => ?_) (fun c_2 => ?_)
    · refine lv_aload_n hx hb dX6_comes_22 rfl (lv_at hl 0 rfl) ?_
      refine lv_iload_n hx hb dX6_comes_23 rfl (lv_at hl 1 rfl) ?_
      refine lv_iload_n hx hb dX6_comes_24 rfl (lv_at hl 2 rfl) ?_
      refine lv_iconst (v := nI 1) hx hb dX6_comes_25 (by decide) ?_
      refine md_callXI (y := yX6_firstDay) hx hb hml hown hts hK hI hM (met_firstDay1 f a g c0 (by omega) hR) q1701 q1703 qs53 q1704 ndX6_firstDay rfl (by rw [hRf]; decide) (by rw [hRl]; decide) hl.1 rfl (Nat.le_of_ble_eq_true rfl) dX6_comes_26 (fun H locs f_3 hf_3 hM => ?_)
      have ef_3 : fE f f_3 := fE.rf.tr hf_3
      refine lv_istore_n (lv' := [(3, .int (nI (fdN (a 1) g c0 true 101 0))), (0, .ref (h 0)), (1, .int g), (2, .int (nI c0))]) hx hb dX6_comes_29 rfl hl (by decide) rfl (fun ls hl => ?_)
      refine lv_iload_n hx hb dX6_comes_30 rfl (lv_at hl 0 rfl) ?_
      refine lv_bipush (v := nI 100) hx hb dX6_comes_31 (by decide) ?_
      refine w_icmp_leN (tgt := 45) hx hb (by omega) (by omega) dX6_comes_33 (by decide) (fun c_4 => ?_) (fun c_4 => ?_)
      · refine lv_iload_n hx hb dX6_comes_45 rfl (lv_at hl 0 rfl) ?_
        exact hret ef_3 hM (by first | rfl | (simp only [iI, nI_0, nI_one]; grind)) dX6_comes_46
      · exact absurd c_4 (by omega)
    · exact absurd (by first | exact (in_nat (by decide)).mpr ⟨_, by omega, rfl⟩ | exact (in_nat1 _ (by decide) (by decide)).mpr ⟨_, by omega, by omega, rfl⟩ | exact cow_in hN (by omega) | assumption) c_2
set_option maxHeartbeats 400000 in
theorem met_comes_n (f : Nat → Int32) (a : Nat → Nat → Int32) (g : Int32) (hg : jugP (a 1) g) (c0 : Nat) (hc : c0 < 25) (hR : okR (a 1)) (hf : ¬ fdN (a 1) g c0 true 101 0 ≤ 100) : MdX yX6_comes cX6_comes 4 (some .int) 47 1186 [.int g, .int (nI c0)] f a (some (.int (-1000000002 : Int32))) (mErr (va_up a 3 (a 1)) 2) := by
  refine MdX.ofI (by decide) rfl (Nat.le_of_ble_eq_true rfl) ?_
  intro p l e R s m args below meth c Q D h dA ls hx hb hml hRf hRl hts hown hK hI hM hl hret
  have hl : lv_has ls 4 [(0, .ref (h 0)), (1, .int g), (2, .int (nI c0))] := hl
  have hfd := fdN_le (a 1) g c0 true 101 0
  refine lv_aload_n hx hb dX6_comes_0 rfl (lv_at hl 0 rfl) ?_
  refine lv_iload_n hx hb dX6_comes_1 rfl (lv_at hl 1 rfl) ?_
  refine md_callI (y := yX6_isJug) hx hb hml hown hts hK hI hM (met_isJug f a g) q1677 q1679 qs49 q1680 ndX6_isJug rfl (by rw [hRf]; decide) (by rw [hRl]; decide) hl.1 rfl (Nat.le_of_ble_eq_true rfl) dX6_comes_2 (fun H locs hM => ?_)
  refine w_if_eqT (tgt := 15) hx hb dX6_comes_5 (by decide) (fun c_1 => ?_) (fun c_1 => ?_)
  · exact absurd (by first | exact (in_nat (by decide)).mpr ⟨_, by omega, rfl⟩ | exact (in_nat1 _ (by decide) (by decide)).mpr ⟨_, by omega, by omega, rfl⟩ | exact cow_in hN (by omega) | assumption) c_1
  · refine lv_iload_n hx hb dX6_comes_8 rfl (lv_at hl 2 rfl) ?_
    refine st_callI (y := yX6_isCell) hx hb hml hown hts (met_isCell (nI c0)) q1479 q1480 q70 q1481 ndX6_isCell rfl (by rw [hRf]; decide) (by rw [hRl]; decide) ⟨Nat.zero_le _, Nat.zero_le _⟩ hl.1 rfl (Nat.le_of_ble_eq_true rfl) dX6_comes_9 ?_
    refine w_if_neT (tgt := 22) hx hb dX6_comes_12 (by decide) (fun c_2 => ?_) (fun c_2 => ?_)
    · refine lv_aload_n hx hb dX6_comes_22 rfl (lv_at hl 0 rfl) ?_
      refine lv_iload_n hx hb dX6_comes_23 rfl (lv_at hl 1 rfl) ?_
      refine lv_iload_n hx hb dX6_comes_24 rfl (lv_at hl 2 rfl) ?_
      refine lv_iconst (v := nI 1) hx hb dX6_comes_25 (by decide) ?_
      refine md_callXI (y := yX6_firstDay) hx hb hml hown hts hK hI hM (met_firstDay1 f a g c0 (by omega) hR) q1701 q1703 qs53 q1704 ndX6_firstDay rfl (by rw [hRf]; decide) (by rw [hRl]; decide) hl.1 rfl (Nat.le_of_ble_eq_true rfl) dX6_comes_26 (fun H locs f_3 hf_3 hM => ?_)
      have ef_3 : fE f f_3 := fE.rf.tr hf_3
      refine lv_istore_n (lv' := [(3, .int (nI (fdN (a 1) g c0 true 101 0))), (0, .ref (h 0)), (1, .int g), (2, .int (nI c0))]) hx hb dX6_comes_29 rfl hl (by decide) rfl (fun ls hl => ?_)
      refine lv_iload_n hx hb dX6_comes_30 rfl (lv_at hl 0 rfl) ?_
      refine lv_bipush (v := nI 100) hx hb dX6_comes_31 (by decide) ?_
      refine w_icmp_leN (tgt := 45) hx hb (by omega) (by omega) dX6_comes_33 (by decide) (fun c_4 => ?_) (fun c_4 => ?_)
      · exact absurd c_4 hf
      · refine lv_aload_n hx hb dX6_comes_36 rfl (lv_at hl 1 rfl) ?_
        refine lv_ldc hx hb hown (hts _ q1605) dX6_comes_37 ?_
        refine md_callI (y := yX6_errs) hx hb hml hown hts hK hI hM (met_errs f_3 (va_up a 3 (a 1)) (-1000000002 : Int32) 2 (by decide) (by decide)) q1486 q1488 qs21 q1489 ndX6_errs rfl (by rw [hRf]; decide) (by rw [hRl]; decide) hl.1 rfl (Nat.le_of_ble_eq_true rfl) dX6_comes_39 (fun H locs hM => ?_)
        refine lv_goto (tgt := 46) hx hb dX6_comes_42 (by decide) ?_
        exact hret ef_3 hM (by first | rfl | (simp only [iI, nI_0, nI_one]; grind)) dX6_comes_46
    · exact absurd (by first | exact (in_nat (by decide)).mpr ⟨_, by omega, rfl⟩ | exact (in_nat1 _ (by decide) (by decide)).mpr ⟨_, by omega, by omega, rfl⟩ | exact cow_in hN (by omega) | assumption) c_2
set_option maxHeartbeats 400000 in
theorem met_comes_e (f : Nat → Int32) (a : Nat → Nat → Int32) (g c0 : Int32) (he : ¬ (jugP (a 1) g ∧ (nI 0 ≤ c0 ∧ c0 ≤ nI 24))) : MdF yX6_comes cX6_comes 4 (some .int) 2 43 [.int g, .int c0] f a (some (.int (-1000000001 : Int32))) f (mErr a 1) := by
  refine MdF.ofI (by decide) rfl (Nat.le_of_ble_eq_true rfl) ?_
  intro p l e R s m args below meth c Q D h dA ls hx hb hml hRf hRl hts hown hK hI hM hl hret
  have hl : lv_has ls 4 [(0, .ref (h 0)), (1, .int g), (2, .int c0)] := hl
  refine lv_aload_n hx hb dX6_comes_0 rfl (lv_at hl 0 rfl) ?_
  refine lv_iload_n hx hb dX6_comes_1 rfl (lv_at hl 1 rfl) ?_
  refine md_callI (y := yX6_isJug) hx hb hml hown hts hK hI hM (met_isJug f a g) q1677 q1679 qs49 q1680 ndX6_isJug rfl (by rw [hRf]; decide) (by rw [hRl]; decide) hl.1 rfl (Nat.le_of_ble_eq_true rfl) dX6_comes_2 (fun H locs hM => ?_)
  refine w_if_eqT (tgt := 15) hx hb dX6_comes_5 (by decide) (fun c_1 => ?_) (fun c_1 => ?_)
  · refine lv_aload_n hx hb dX6_comes_15 rfl (lv_at hl 0 rfl) ?_
    refine lv_ldc hx hb hown (hts _ q1485) dX6_comes_16 ?_
    refine md_callI (y := yX6_errs) hx hb hml hown hts hK hI hM (met_errs f a (-1000000001 : Int32) 1 (by decide) (by decide)) q1486 q1488 qs21 q1489 ndX6_errs rfl (by rw [hRf]; decide) (by rw [hRl]; decide) hl.1 rfl (Nat.le_of_ble_eq_true rfl) dX6_comes_18 (fun H locs hM => ?_)
    exact hret hM (by first | rfl | (simp only [iI, nI_0, nI_one]; grind)) dX6_comes_21
  · refine lv_iload_n hx hb dX6_comes_8 rfl (lv_at hl 2 rfl) ?_
    refine st_callI (y := yX6_isCell) hx hb hml hown hts (met_isCell c0) q1479 q1480 q70 q1481 ndX6_isCell rfl (by rw [hRf]; decide) (by rw [hRl]; decide) ⟨Nat.zero_le _, Nat.zero_le _⟩ hl.1 rfl (Nat.le_of_ble_eq_true rfl) dX6_comes_9 ?_
    refine w_if_neT (tgt := 22) hx hb dX6_comes_12 (by decide) (fun c_2 => ?_) (fun c_2 => ?_)
    · exact absurd ⟨c_1, c_2⟩ he
    · refine lv_aload_n hx hb dX6_comes_15 rfl (lv_at hl 0 rfl) ?_
      refine lv_ldc hx hb hown (hts _ q1485) dX6_comes_16 ?_
      refine md_callI (y := yX6_errs) hx hb hml hown hts hK hI hM (met_errs f a (-1000000001 : Int32) 1 (by decide) (by decide)) q1486 q1488 qs21 q1489 ndX6_errs rfl (by rw [hRf]; decide) (by rw [hRl]; decide) hl.1 rfl (Nat.le_of_ble_eq_true rfl) dX6_comes_18 (fun H locs hM => ?_)
      exact hret hM (by first | rfl | (simp only [iI, nI_0, nI_one]; grind)) dX6_comes_21
theorem ndX6_lost : yX6_lost.cls = RX6 ∧ yX6_lost.cls ≠ "java/lang/invoke/MethodHandle" ∧ yX6_lost.cls ≠ "java/lang/invoke/VarHandle" ∧ (parseMethodDescriptor yX6_lost.desc).map (fun d => d.parameters.length) = some 2 := by decide +kernel
set_option maxHeartbeats 400000 in
theorem met_lost_ok (f : Nat → Int32) (a : Nat → Nat → Int32) (g : Int32) (hg : jugP (a 1) g) (c0 : Nat) (hc : c0 < 25) (hR : okR (a 1)) (hf : fdN (a 1) g c0 false 101 0 ≤ 100) : MdX yX6_lost cX6_lost 4 (some .int) 47 1186 [.int g, .int (nI c0)] f a (some (.int (nI (fdN (a 1) g c0 false 101 0)))) (va_up a 3 (a 1)) := by
  refine MdX.ofI (by decide) rfl (Nat.le_of_ble_eq_true rfl) ?_
  intro p l e R s m args below meth c Q D h dA ls hx hb hml hRf hRl hts hown hK hI hM hl hret
  have hl : lv_has ls 4 [(0, .ref (h 0)), (1, .int g), (2, .int (nI c0))] := hl
  have hfd := fdN_le (a 1) g c0 false 101 0
  refine lv_aload_n hx hb dX6_lost_0 rfl (lv_at hl 0 rfl) ?_
  refine lv_iload_n hx hb dX6_lost_1 rfl (lv_at hl 1 rfl) ?_
  refine md_callI (y := yX6_isJug) hx hb hml hown hts hK hI hM (met_isJug f a g) q1677 q1679 qs49 q1680 ndX6_isJug rfl (by rw [hRf]; decide) (by rw [hRl]; decide) hl.1 rfl (Nat.le_of_ble_eq_true rfl) dX6_lost_2 (fun H locs hM => ?_)
  refine w_if_eqT (tgt := 15) hx hb dX6_lost_5 (by decide) (fun c_1 => ?_) (fun c_1 => ?_)
  · exact absurd (by first | exact (in_nat (by decide)).mpr ⟨_, by omega, rfl⟩ | exact (in_nat1 _ (by decide) (by decide)).mpr ⟨_, by omega, by omega, rfl⟩ | exact cow_in hN (by omega) | assumption) c_1
  · refine lv_iload_n hx hb dX6_lost_8 rfl (lv_at hl 2 rfl) ?_
    refine st_callI (y := yX6_isCell) hx hb hml hown hts (met_isCell (nI c0)) q1479 q1480 q70 q1481 ndX6_isCell rfl (by rw [hRf]; decide) (by rw [hRl]; decide) ⟨Nat.zero_le _, Nat.zero_le _⟩ hl.1 rfl (Nat.le_of_ble_eq_true rfl) dX6_lost_9 ?_
    refine w_if_neT (tgt := 22) hx hb dX6_lost_12 (by decide) (fun c_2 => ?_) (fun c_2 => ?_)
    · refine lv_aload_n hx hb dX6_lost_22 rfl (lv_at hl 0 rfl) ?_
      refine lv_iload_n hx hb dX6_lost_23 rfl (lv_at hl 1 rfl) ?_
      refine lv_iload_n hx hb dX6_lost_24 rfl (lv_at hl 2 rfl) ?_
      refine lv_iconst (v := nI 0) hx hb dX6_lost_25 (by decide) ?_
      refine md_callXI (y := yX6_firstDay) hx hb hml hown hts hK hI hM (met_firstDay0 f a g c0 (by omega) hR) q1701 q1703 qs53 q1704 ndX6_firstDay rfl (by rw [hRf]; decide) (by rw [hRl]; decide) hl.1 rfl (Nat.le_of_ble_eq_true rfl) dX6_lost_26 (fun H locs f_3 hf_3 hM => ?_)
      have ef_3 : fE f f_3 := fE.rf.tr hf_3
      refine lv_istore_n (lv' := [(3, .int (nI (fdN (a 1) g c0 false 101 0))), (0, .ref (h 0)), (1, .int g), (2, .int (nI c0))]) hx hb dX6_lost_29 rfl hl (by decide) rfl (fun ls hl => ?_)
      refine lv_iload_n hx hb dX6_lost_30 rfl (lv_at hl 0 rfl) ?_
      refine lv_bipush (v := nI 100) hx hb dX6_lost_31 (by decide) ?_
      refine w_icmp_leN (tgt := 45) hx hb (by omega) (by omega) dX6_lost_33 (by decide) (fun c_4 => ?_) (fun c_4 => ?_)
      · refine lv_iload_n hx hb dX6_lost_45 rfl (lv_at hl 0 rfl) ?_
        exact hret ef_3 hM (by first | rfl | (simp only [iI, nI_0, nI_one]; grind)) dX6_lost_46
      · exact absurd c_4 (by omega)
    · exact absurd (by first | exact (in_nat (by decide)).mpr ⟨_, by omega, rfl⟩ | exact (in_nat1 _ (by decide) (by decide)).mpr ⟨_, by omega, by omega, rfl⟩ | exact cow_in hN (by omega) | assumption) c_2
set_option maxHeartbeats 400000 in
theorem met_lost_n (f : Nat → Int32) (a : Nat → Nat → Int32) (g : Int32) (hg : jugP (a 1) g) (c0 : Nat) (hc : c0 < 25) (hR : okR (a 1)) (hf : ¬ fdN (a 1) g c0 false 101 0 ≤ 100) : MdX yX6_lost cX6_lost 4 (some .int) 47 1186 [.int g, .int (nI c0)] f a (some (.int (-1000000002 : Int32))) (mErr (va_up a 3 (a 1)) 2) := by
  refine MdX.ofI (by decide) rfl (Nat.le_of_ble_eq_true rfl) ?_
  intro p l e R s m args below meth c Q D h dA ls hx hb hml hRf hRl hts hown hK hI hM hl hret
  have hl : lv_has ls 4 [(0, .ref (h 0)), (1, .int g), (2, .int (nI c0))] := hl
  have hfd := fdN_le (a 1) g c0 false 101 0
  refine lv_aload_n hx hb dX6_lost_0 rfl (lv_at hl 0 rfl) ?_
  refine lv_iload_n hx hb dX6_lost_1 rfl (lv_at hl 1 rfl) ?_
  refine md_callI (y := yX6_isJug) hx hb hml hown hts hK hI hM (met_isJug f a g) q1677 q1679 qs49 q1680 ndX6_isJug rfl (by rw [hRf]; decide) (by rw [hRl]; decide) hl.1 rfl (Nat.le_of_ble_eq_true rfl) dX6_lost_2 (fun H locs hM => ?_)
  refine w_if_eqT (tgt := 15) hx hb dX6_lost_5 (by decide) (fun c_1 => ?_) (fun c_1 => ?_)
  · exact absurd (by first | exact (in_nat (by decide)).mpr ⟨_, by omega, rfl⟩ | exact (in_nat1 _ (by decide) (by decide)).mpr ⟨_, by omega, by omega, rfl⟩ | exact cow_in hN (by omega) | assumption) c_1
  · refine lv_iload_n hx hb dX6_lost_8 rfl (lv_at hl 2 rfl) ?_
    refine st_callI (y := yX6_isCell) hx hb hml hown hts (met_isCell (nI c0)) q1479 q1480 q70 q1481 ndX6_isCell rfl (by rw [hRf]; decide) (by rw [hRl]; decide) ⟨Nat.zero_le _, Nat.zero_le _⟩ hl.1 rfl (Nat.le_of_ble_eq_true rfl) dX6_lost_9 ?_
    refine w_if_neT (tgt := 22) hx hb dX6_lost_12 (by decide) (fun c_2 => ?_) (fun c_2 => ?_)
    · refine lv_aload_n hx hb dX6_lost_22 rfl (lv_at hl 0 rfl) ?_
      refine lv_iload_n hx hb dX6_lost_23 rfl (lv_at hl 1 rfl) ?_
      refine lv_iload_n hx hb dX6_lost_24 rfl (lv_at hl 2 rfl) ?_
      refine lv_iconst (v := nI 0) hx hb dX6_lost_25 (by decide) ?_
      refine md_callXI (y := yX6_firstDay) hx hb hml hown hts hK hI hM (met_firstDay0 f a g c0 (by omega) hR) q1701 q1703 qs53 q1704 ndX6_firstDay rfl (by rw [hRf]; decide) (by rw [hRl]; decide) hl.1 rfl (Nat.le_of_ble_eq_true rfl) dX6_lost_26 (fun H locs f_3 hf_3 hM => ?_)
      have ef_3 : fE f f_3 := fE.rf.tr hf_3
      refine lv_istore_n (lv' := [(3, .int (nI (fdN (a 1) g c0 false 101 0))), (0, .ref (h 0)), (1, .int g), (2, .int (nI c0))]) hx hb dX6_lost_29 rfl hl (by decide) rfl (fun ls hl => ?_)
      refine lv_iload_n hx hb dX6_lost_30 rfl (lv_at hl 0 rfl) ?_
      refine lv_bipush (v := nI 100) hx hb dX6_lost_31 (by decide) ?_
      refine w_icmp_leN (tgt := 45) hx hb (by omega) (by omega) dX6_lost_33 (by decide) (fun c_4 => ?_) (fun c_4 => ?_)
      · exact absurd c_4 hf
      · refine lv_aload_n hx hb dX6_lost_36 rfl (lv_at hl 1 rfl) ?_
        refine lv_ldc hx hb hown (hts _ q1605) dX6_lost_37 ?_
        refine md_callI (y := yX6_errs) hx hb hml hown hts hK hI hM (met_errs f_3 (va_up a 3 (a 1)) (-1000000002 : Int32) 2 (by decide) (by decide)) q1486 q1488 qs21 q1489 ndX6_errs rfl (by rw [hRf]; decide) (by rw [hRl]; decide) hl.1 rfl (Nat.le_of_ble_eq_true rfl) dX6_lost_39 (fun H locs hM => ?_)
        refine lv_goto (tgt := 46) hx hb dX6_lost_42 (by decide) ?_
        exact hret ef_3 hM (by first | rfl | (simp only [iI, nI_0, nI_one]; grind)) dX6_lost_46
    · exact absurd (by first | exact (in_nat (by decide)).mpr ⟨_, by omega, rfl⟩ | exact (in_nat1 _ (by decide) (by decide)).mpr ⟨_, by omega, by omega, rfl⟩ | exact cow_in hN (by omega) | assumption) c_2
set_option maxHeartbeats 400000 in
theorem met_lost_e (f : Nat → Int32) (a : Nat → Nat → Int32) (g c0 : Int32) (he : ¬ (jugP (a 1) g ∧ (nI 0 ≤ c0 ∧ c0 ≤ nI 24))) : MdF yX6_lost cX6_lost 4 (some .int) 2 43 [.int g, .int c0] f a (some (.int (-1000000001 : Int32))) f (mErr a 1) := by
  refine MdF.ofI (by decide) rfl (Nat.le_of_ble_eq_true rfl) ?_
  intro p l e R s m args below meth c Q D h dA ls hx hb hml hRf hRl hts hown hK hI hM hl hret
  have hl : lv_has ls 4 [(0, .ref (h 0)), (1, .int g), (2, .int c0)] := hl
  refine lv_aload_n hx hb dX6_lost_0 rfl (lv_at hl 0 rfl) ?_
  refine lv_iload_n hx hb dX6_lost_1 rfl (lv_at hl 1 rfl) ?_
  refine md_callI (y := yX6_isJug) hx hb hml hown hts hK hI hM (met_isJug f a g) q1677 q1679 qs49 q1680 ndX6_isJug rfl (by rw [hRf]; decide) (by rw [hRl]; decide) hl.1 rfl (Nat.le_of_ble_eq_true rfl) dX6_lost_2 (fun H locs hM => ?_)
  refine w_if_eqT (tgt := 15) hx hb dX6_lost_5 (by decide) (fun c_1 => ?_) (fun c_1 => ?_)
  · refine lv_aload_n hx hb dX6_lost_15 rfl (lv_at hl 0 rfl) ?_
    refine lv_ldc hx hb hown (hts _ q1485) dX6_lost_16 ?_
    refine md_callI (y := yX6_errs) hx hb hml hown hts hK hI hM (met_errs f a (-1000000001 : Int32) 1 (by decide) (by decide)) q1486 q1488 qs21 q1489 ndX6_errs rfl (by rw [hRf]; decide) (by rw [hRl]; decide) hl.1 rfl (Nat.le_of_ble_eq_true rfl) dX6_lost_18 (fun H locs hM => ?_)
    exact hret hM (by first | rfl | (simp only [iI, nI_0, nI_one]; grind)) dX6_lost_21
  · refine lv_iload_n hx hb dX6_lost_8 rfl (lv_at hl 2 rfl) ?_
    refine st_callI (y := yX6_isCell) hx hb hml hown hts (met_isCell c0) q1479 q1480 q70 q1481 ndX6_isCell rfl (by rw [hRf]; decide) (by rw [hRl]; decide) ⟨Nat.zero_le _, Nat.zero_le _⟩ hl.1 rfl (Nat.le_of_ble_eq_true rfl) dX6_lost_9 ?_
    refine w_if_neT (tgt := 22) hx hb dX6_lost_12 (by decide) (fun c_2 => ?_) (fun c_2 => ?_)
    · exact absurd ⟨c_1, c_2⟩ he
    · refine lv_aload_n hx hb dX6_lost_15 rfl (lv_at hl 0 rfl) ?_
      refine lv_ldc hx hb hown (hts _ q1485) dX6_lost_16 ?_
      refine md_callI (y := yX6_errs) hx hb hml hown hts hK hI hM (met_errs f a (-1000000001 : Int32) 1 (by decide) (by decide)) q1486 q1488 qs21 q1489 ndX6_errs rfl (by rw [hRf]; decide) (by rw [hRl]; decide) hl.1 rfl (Nat.le_of_ble_eq_true rfl) dX6_lost_18 (fun H locs hM => ?_)
      exact hret hM (by first | rfl | (simp only [iI, nI_0, nI_one]; grind)) dX6_lost_21
theorem ndX6_then : yX6_then.cls = RX6 ∧ yX6_then.cls ≠ "java/lang/invoke/MethodHandle" ∧ yX6_then.cls ≠ "java/lang/invoke/VarHandle" ∧ (parseMethodDescriptor yX6_then.desc).map (fun d => d.parameters.length) = some 3 := by decide +kernel
set_option maxHeartbeats 400000 in
theorem met_then_ok0 (f : Nat → Int32) (a : Nat → Nat → Int32) (n : Nat) (hn : n ≤ 100) (i : Nat) (hi : i < cl (a 1 3)) (hN : okN (a 1 3) 5) (hR : okR (a 1)) : MdX yX6_then cX6_then 6 (some .int) 47 1184 [.int (nI n), .int (nI i), .int (nI 0)] f a (some (.int (nI (cl (dayI (a 1) n (58 + 14 * i + 2)))))) (va_up a 3 (a 1)) := by
  refine MdX.ofI (by decide) rfl (Nat.le_of_ble_eq_true rfl) ?_
  intro p l e R s m args below meth c Q D h dA ls hx hb hml hRf hRl hts hown hK hI hM hl hret
  have hl : lv_has ls 6 [(0, .ref (h 0)), (1, .int (nI n)), (2, .int (nI i)), (3, .int (nI 0))] := hl
  have hN2 := hN.2
  obtain ⟨hc0, hc1, hat, hc3, hc4⟩ := (okR_dayI hR n).2.2.2.2.2.1 i (by omega)
  have hat2 := hat.2
  refine lv_iload_n hx hb dX6_then_0 rfl (lv_at hl 1 rfl) ?_
  refine lv_iconst (v := nI 0) hx hb dX6_then_1 (by decide) ?_
  refine lv_bipush (v := nI 100) hx hb dX6_then_2 (by decide) ?_
  refine st_callI (y := yX6_in) hx hb hml hown hts (met_in (nI n) (nI 0) (nI 100)) q1482 q1483 q70 q1484 ndX6_in rfl (by rw [hRf]; decide) (by rw [hRl]; decide) ⟨Nat.zero_le _, Nat.zero_le _⟩ hl.1 rfl (Nat.le_of_ble_eq_true rfl) dX6_then_4 ?_
  refine w_if_eqT (tgt := 27) hx hb dX6_then_7 (by decide) (fun c_1 => ?_) (fun c_1 => ?_)
  · exact absurd (by first | exact (in_nat (by decide)).mpr ⟨_, by omega, rfl⟩ | exact (in_nat1 _ (by decide) (by decide)).mpr ⟨_, by omega, by omega, rfl⟩ | exact cow_in hN (by omega) | assumption) c_1
  · refine lv_aload_n hx hb dX6_then_10 rfl (lv_at hl 0 rfl) ?_
    refine lv_iload_n hx hb dX6_then_11 rfl (lv_at hl 2 rfl) ?_
    refine md_callI (y := yX6_isCow) hx hb hml hown hts hK hI hM (met_isCow f a (nI i)) q1574 q1576 qs37 q1577 ndX6_isCow rfl (by rw [hRf]; decide) (by rw [hRl]; decide) hl.1 rfl (Nat.le_of_ble_eq_true rfl) dX6_then_12 (fun H locs hM => ?_)
    refine w_if_eqT (tgt := 27) hx hb dX6_then_15 (by decide) (fun c_2 => ?_) (fun c_2 => ?_)
    · exact absurd (by first | exact (in_nat (by decide)).mpr ⟨_, by omega, rfl⟩ | exact (in_nat1 _ (by decide) (by decide)).mpr ⟨_, by omega, by omega, rfl⟩ | exact cow_in hN (by omega) | assumption) c_2
    · refine lv_iload_n hx hb dX6_then_18 rfl (lv_at hl 3 rfl) ?_
      refine lv_iconst (v := nI 0) hx hb dX6_then_19 (by decide) ?_
      refine lv_iconst (v := nI 1) hx hb dX6_then_20 (by decide) ?_
      refine st_callI (y := yX6_in) hx hb hml hown hts (met_in (nI 0) (nI 0) (nI 1)) q1482 q1483 q70 q1484 ndX6_in rfl (by rw [hRf]; decide) (by rw [hRl]; decide) ⟨Nat.zero_le _, Nat.zero_le _⟩ hl.1 rfl (Nat.le_of_ble_eq_true rfl) dX6_then_21 ?_
      refine w_if_neT (tgt := 34) hx hb dX6_then_24 (by decide) (fun c_3 => ?_) (fun c_3 => ?_)
      · refine lv_aload_n hx hb dX6_then_34 rfl (lv_at hl 0 rfl) ?_
        refine lv_aload_n hx hb dX6_then_35 rfl (lv_at hl 0 rfl) ?_
        refine md_get (v := .ref (h 1)) hx hb hts hown hK hM 0 (by decide) q1390 rfl rfl dX6_then_36 ?_
        refine lv_aload_n hx hb dX6_then_39 rfl (lv_at hl 0 rfl) ?_
        refine md_get (v := .ref (h 3)) hx hb hts hown hK hM 2 (by decide) q1392 rfl rfl dX6_then_40 ?_
        refine md_callG (y := yX6_moveAll) hx hb hml hown hts hK hI hM (met_moveAll_1_3 f a) q1639 q1641 qs43 q1642 ndX6_moveAll rfl (by rw [hRf]; decide) (by rw [hRl]; decide) hl.1 rfl (Nat.le_of_ble_eq_true rfl) dX6_then_43 (fun H locs hM => ?_)
        refine lv_aload_n hx hb dX6_then_46 rfl (lv_at hl 0 rfl) ?_
        refine lv_iload_n hx hb dX6_then_47 rfl (lv_at hl 1 rfl) ?_
        refine md_callXV (y := yX6_passes) hx hb hml hown hts hK hI hM (met_passes f (va_up a 3 (a 1)) n (by omega) hR) q1648 q1650 qs44 q1651 ndX6_passes rfl (by rw [hRf]; decide) (by rw [hRl]; decide) hl.1 rfl (Nat.le_of_ble_eq_true rfl) dX6_then_48 (fun H locs f_4 hf_4 hM => ?_)
        have ef_4 : fE f f_4 := fE.rf.tr hf_4
        have hM := hM.to (a' := va_up (va_up a 3 (a 1)) 1 (dayI (a 1) n)) rfl (rfl)
        refine lv_aload_n hx hb dX6_then_51 rfl (lv_at hl 0 rfl) ?_
        refine lv_iload_n hx hb dX6_then_52 rfl (lv_at hl 2 rfl) ?_
        refine lv_iconst (v := nI 2) hx hb dX6_then_53 (by decide) ?_
        refine md_callI (y := yX6_its) hx hb hml hown hts hK hI hM (met_its f_4 (va_up (va_up a 3 (a 1)) 1 (dayI (a 1) n)) i 2 (by omega)) q1557 q1559 qs35 q1560 ndX6_its rfl (by rw [hRf]; decide) (by rw [hRl]; decide) hl.1 rfl (Nat.le_of_ble_eq_true rfl) dX6_then_54 (fun H locs hM => ?_)
        refine w_top (nI (cl (dayI (a 1) n (58 + 14 * i + 2)))) (hat.1) ?_
        refine lv_istore (lv' := [(4, .int (nI (cl (dayI (a 1) n (58 + 14 * i + 2))))), (0, .ref (h 0)), (1, .int (nI n)), (2, .int (nI i)), (3, .int (nI 0))]) hx hb dX6_then_57 hl (by decide) rfl (fun ls hl => ?_)
        refine lv_iload_n hx hb dX6_then_59 rfl (lv_at hl 4 rfl) ?_
        refine lv_if_ne (tgt := 68) hx hb dX6_then_60 (by decide) (fun q => absurd q (by decide)) (fun _ => ?_)
        refine lv_iload hx hb dX6_then_63 (lv_at hl 0 rfl) ?_
        refine lv_goto (tgt := 78) hx hb dX6_then_65 (by decide) ?_
        refine lv_istore (lv' := [(5, .int (nI (cl (dayI (a 1) n (58 + 14 * i + 2))))), (4, .int (nI (cl (dayI (a 1) n (58 + 14 * i + 2))))), (0, .ref (h 0)), (1, .int (nI n)), (2, .int (nI i)), (3, .int (nI 0))]) hx hb dX6_then_78 hl (by decide) rfl (fun ls hl => ?_)
        refine lv_aload_n hx hb dX6_then_80 rfl (lv_at hl 2 rfl) ?_
        refine lv_aload_n hx hb dX6_then_81 rfl (lv_at hl 2 rfl) ?_
        refine md_get (v := .ref (h 3)) hx hb hts hown hK hM 2 (by decide) q1392 rfl rfl dX6_then_82 ?_
        refine lv_aload_n hx hb dX6_then_85 rfl (lv_at hl 2 rfl) ?_
        refine md_get (v := .ref (h 1)) hx hb hts hown hK hM 0 (by decide) q1390 rfl rfl dX6_then_86 ?_
        refine md_callG (y := yX6_moveAll) hx hb hml hown hts hK hI hM (met_moveAll_3_1 f_4 (va_up (va_up a 3 (a 1)) 1 (dayI (a 1) n))) q1639 q1641 qs43 q1642 ndX6_moveAll rfl (by rw [hRf]; decide) (by rw [hRl]; decide) hl.1 rfl (Nat.le_of_ble_eq_true rfl) dX6_then_89 (fun H locs hM => ?_)
        refine lv_iload hx hb dX6_then_92 (lv_at hl 0 rfl) ?_
        exact hret ef_4 (hM.to rfl (va_c3 rfl)) (by first | rfl | (simp only [iI, nI_0, nI_one]; grind)) dX6_then_94
      · exact absurd (by first | exact (in_nat (by decide)).mpr ⟨_, by omega, rfl⟩ | exact (in_nat1 _ (by decide) (by decide)).mpr ⟨_, by omega, by omega, rfl⟩ | exact cow_in hN (by omega) | assumption) c_3
set_option maxHeartbeats 400000 in
theorem met_then_ok1 (f : Nat → Int32) (a : Nat → Nat → Int32) (n : Nat) (hn : n ≤ 100) (i : Nat) (hi : i < cl (a 1 3)) (hN : okN (a 1 3) 5) (hR : okR (a 1)) : MdX yX6_then cX6_then 6 (some .int) 47 1184 [.int (nI n), .int (nI i), .int (nI 1)] f a (some (.int (dayI (a 1) n (33 + cl (dayI (a 1) n (58 + 14 * i + 2)))))) (va_up a 3 (a 1)) := by
  refine MdX.ofI (by decide) rfl (Nat.le_of_ble_eq_true rfl) ?_
  intro p l e R s m args below meth c Q D h dA ls hx hb hml hRf hRl hts hown hK hI hM hl hret
  have hl : lv_has ls 6 [(0, .ref (h 0)), (1, .int (nI n)), (2, .int (nI i)), (3, .int (nI 1))] := hl
  have hN2 := hN.2
  obtain ⟨hc0, hc1, hat, hc3, hc4⟩ := (okR_dayI hR n).2.2.2.2.2.1 i (by omega)
  have hat2 := hat.2
  refine lv_iload_n hx hb dX6_then_0 rfl (lv_at hl 1 rfl) ?_
  refine lv_iconst (v := nI 0) hx hb dX6_then_1 (by decide) ?_
  refine lv_bipush (v := nI 100) hx hb dX6_then_2 (by decide) ?_
  refine st_callI (y := yX6_in) hx hb hml hown hts (met_in (nI n) (nI 0) (nI 100)) q1482 q1483 q70 q1484 ndX6_in rfl (by rw [hRf]; decide) (by rw [hRl]; decide) ⟨Nat.zero_le _, Nat.zero_le _⟩ hl.1 rfl (Nat.le_of_ble_eq_true rfl) dX6_then_4 ?_
  refine w_if_eqT (tgt := 27) hx hb dX6_then_7 (by decide) (fun c_1 => ?_) (fun c_1 => ?_)
  · exact absurd (by first | exact (in_nat (by decide)).mpr ⟨_, by omega, rfl⟩ | exact (in_nat1 _ (by decide) (by decide)).mpr ⟨_, by omega, by omega, rfl⟩ | exact cow_in hN (by omega) | assumption) c_1
  · refine lv_aload_n hx hb dX6_then_10 rfl (lv_at hl 0 rfl) ?_
    refine lv_iload_n hx hb dX6_then_11 rfl (lv_at hl 2 rfl) ?_
    refine md_callI (y := yX6_isCow) hx hb hml hown hts hK hI hM (met_isCow f a (nI i)) q1574 q1576 qs37 q1577 ndX6_isCow rfl (by rw [hRf]; decide) (by rw [hRl]; decide) hl.1 rfl (Nat.le_of_ble_eq_true rfl) dX6_then_12 (fun H locs hM => ?_)
    refine w_if_eqT (tgt := 27) hx hb dX6_then_15 (by decide) (fun c_2 => ?_) (fun c_2 => ?_)
    · exact absurd (by first | exact (in_nat (by decide)).mpr ⟨_, by omega, rfl⟩ | exact (in_nat1 _ (by decide) (by decide)).mpr ⟨_, by omega, by omega, rfl⟩ | exact cow_in hN (by omega) | assumption) c_2
    · refine lv_iload_n hx hb dX6_then_18 rfl (lv_at hl 3 rfl) ?_
      refine lv_iconst (v := nI 0) hx hb dX6_then_19 (by decide) ?_
      refine lv_iconst (v := nI 1) hx hb dX6_then_20 (by decide) ?_
      refine st_callI (y := yX6_in) hx hb hml hown hts (met_in (nI 1) (nI 0) (nI 1)) q1482 q1483 q70 q1484 ndX6_in rfl (by rw [hRf]; decide) (by rw [hRl]; decide) ⟨Nat.zero_le _, Nat.zero_le _⟩ hl.1 rfl (Nat.le_of_ble_eq_true rfl) dX6_then_21 ?_
      refine w_if_neT (tgt := 34) hx hb dX6_then_24 (by decide) (fun c_3 => ?_) (fun c_3 => ?_)
      · refine lv_aload_n hx hb dX6_then_34 rfl (lv_at hl 0 rfl) ?_
        refine lv_aload_n hx hb dX6_then_35 rfl (lv_at hl 0 rfl) ?_
        refine md_get (v := .ref (h 1)) hx hb hts hown hK hM 0 (by decide) q1390 rfl rfl dX6_then_36 ?_
        refine lv_aload_n hx hb dX6_then_39 rfl (lv_at hl 0 rfl) ?_
        refine md_get (v := .ref (h 3)) hx hb hts hown hK hM 2 (by decide) q1392 rfl rfl dX6_then_40 ?_
        refine md_callG (y := yX6_moveAll) hx hb hml hown hts hK hI hM (met_moveAll_1_3 f a) q1639 q1641 qs43 q1642 ndX6_moveAll rfl (by rw [hRf]; decide) (by rw [hRl]; decide) hl.1 rfl (Nat.le_of_ble_eq_true rfl) dX6_then_43 (fun H locs hM => ?_)
        refine lv_aload_n hx hb dX6_then_46 rfl (lv_at hl 0 rfl) ?_
        refine lv_iload_n hx hb dX6_then_47 rfl (lv_at hl 1 rfl) ?_
        refine md_callXV (y := yX6_passes) hx hb hml hown hts hK hI hM (met_passes f (va_up a 3 (a 1)) n (by omega) hR) q1648 q1650 qs44 q1651 ndX6_passes rfl (by rw [hRf]; decide) (by rw [hRl]; decide) hl.1 rfl (Nat.le_of_ble_eq_true rfl) dX6_then_48 (fun H locs f_4 hf_4 hM => ?_)
        have ef_4 : fE f f_4 := fE.rf.tr hf_4
        have hM := hM.to (a' := va_up (va_up a 3 (a 1)) 1 (dayI (a 1) n)) rfl (rfl)
        refine lv_aload_n hx hb dX6_then_51 rfl (lv_at hl 0 rfl) ?_
        refine lv_iload_n hx hb dX6_then_52 rfl (lv_at hl 2 rfl) ?_
        refine lv_iconst (v := nI 2) hx hb dX6_then_53 (by decide) ?_
        refine md_callI (y := yX6_its) hx hb hml hown hts hK hI hM (met_its f_4 (va_up (va_up a 3 (a 1)) 1 (dayI (a 1) n)) i 2 (by omega)) q1557 q1559 qs35 q1560 ndX6_its rfl (by rw [hRf]; decide) (by rw [hRl]; decide) hl.1 rfl (Nat.le_of_ble_eq_true rfl) dX6_then_54 (fun H locs hM => ?_)
        refine w_top (nI (cl (dayI (a 1) n (58 + 14 * i + 2)))) (hat.1) ?_
        refine lv_istore (lv' := [(4, .int (nI (cl (dayI (a 1) n (58 + 14 * i + 2))))), (0, .ref (h 0)), (1, .int (nI n)), (2, .int (nI i)), (3, .int (nI 1))]) hx hb dX6_then_57 hl (by decide) rfl (fun ls hl => ?_)
        refine lv_iload_n hx hb dX6_then_59 rfl (lv_at hl 4 rfl) ?_
        refine lv_if_ne (tgt := 68) hx hb dX6_then_60 (by decide) (fun _ => ?_) (fun q => absurd q (by decide))
        refine lv_aload_n hx hb dX6_then_68 rfl (lv_at hl 1 rfl) ?_
        refine md_get (v := .ref (h 1)) hx hb hts hown hK hM 0 (by decide) q1390 rfl rfl dX6_then_69 ?_
        refine lv_bipush (v := nI 33) hx hb dX6_then_72 (by decide) ?_
        refine lv_iload hx hb dX6_then_74 (lv_at hl 0 rfl) ?_
        refine w_iaddN hx hb dX6_then_76 ?_
        refine md_iald hx hb hK hM 1 rfl (33 + (cl (dayI (a 1) n (58 + 14 * i + 2)))) ⟨by omega, by decide, rfl⟩ dX6_then_77 ?_
        refine w_top (dayI (a 1) n (33 + cl (dayI (a 1) n (58 + 14 * i + 2)))) (rfl) ?_
        refine lv_istore (lv' := [(5, .int (dayI (a 1) n (33 + cl (dayI (a 1) n (58 + 14 * i + 2))))), (4, .int (nI (cl (dayI (a 1) n (58 + 14 * i + 2))))), (0, .ref (h 0)), (1, .int (nI n)), (2, .int (nI i)), (3, .int (nI 1))]) hx hb dX6_then_78 hl (by decide) rfl (fun ls hl => ?_)
        refine lv_aload_n hx hb dX6_then_80 rfl (lv_at hl 2 rfl) ?_
        refine lv_aload_n hx hb dX6_then_81 rfl (lv_at hl 2 rfl) ?_
        refine md_get (v := .ref (h 3)) hx hb hts hown hK hM 2 (by decide) q1392 rfl rfl dX6_then_82 ?_
        refine lv_aload_n hx hb dX6_then_85 rfl (lv_at hl 2 rfl) ?_
        refine md_get (v := .ref (h 1)) hx hb hts hown hK hM 0 (by decide) q1390 rfl rfl dX6_then_86 ?_
        refine md_callG (y := yX6_moveAll) hx hb hml hown hts hK hI hM (met_moveAll_3_1 f_4 (va_up (va_up a 3 (a 1)) 1 (dayI (a 1) n))) q1639 q1641 qs43 q1642 ndX6_moveAll rfl (by rw [hRf]; decide) (by rw [hRl]; decide) hl.1 rfl (Nat.le_of_ble_eq_true rfl) dX6_then_89 (fun H locs hM => ?_)
        refine lv_iload hx hb dX6_then_92 (lv_at hl 0 rfl) ?_
        exact hret ef_4 (hM.to rfl (va_c3 rfl)) (by first | rfl | (simp only [iI, nI_0, nI_one]; grind)) dX6_then_94
      · exact absurd (by first | exact (in_nat (by decide)).mpr ⟨_, by omega, rfl⟩ | exact (in_nat1 _ (by decide) (by decide)).mpr ⟨_, by omega, by omega, rfl⟩ | exact cow_in hN (by omega) | assumption) c_3
set_option maxHeartbeats 400000 in
theorem met_then_e (f : Nat → Int32) (a : Nat → Nat → Int32) (n v w : Int32) (he : ¬ ((nI 0 ≤ n ∧ n ≤ nI 100) ∧ cowP (a 1) v ∧ (nI 0 ≤ w ∧ w ≤ nI 1))) : MdF yX6_then cX6_then 6 (some .int) 2 43 [.int n, .int v, .int w] f a (some (.int (-1000000001 : Int32))) f (mErr a 1) := by
  refine MdF.ofI (by decide) rfl (Nat.le_of_ble_eq_true rfl) ?_
  intro p l e R s m args below meth c Q D h dA ls hx hb hml hRf hRl hts hown hK hI hM hl hret
  have hl : lv_has ls 6 [(0, .ref (h 0)), (1, .int n), (2, .int v), (3, .int w)] := hl
  refine lv_iload_n hx hb dX6_then_0 rfl (lv_at hl 1 rfl) ?_
  refine lv_iconst (v := nI 0) hx hb dX6_then_1 (by decide) ?_
  refine lv_bipush (v := nI 100) hx hb dX6_then_2 (by decide) ?_
  refine st_callI (y := yX6_in) hx hb hml hown hts (met_in n (nI 0) (nI 100)) q1482 q1483 q70 q1484 ndX6_in rfl (by rw [hRf]; decide) (by rw [hRl]; decide) ⟨Nat.zero_le _, Nat.zero_le _⟩ hl.1 rfl (Nat.le_of_ble_eq_true rfl) dX6_then_4 ?_
  refine w_if_eqT (tgt := 27) hx hb dX6_then_7 (by decide) (fun c_1 => ?_) (fun c_1 => ?_)
  · refine lv_aload_n hx hb dX6_then_27 rfl (lv_at hl 0 rfl) ?_
    refine lv_ldc hx hb hown (hts _ q1485) dX6_then_28 ?_
    refine md_callI (y := yX6_errs) hx hb hml hown hts hK hI hM (met_errs f a (-1000000001 : Int32) 1 (by decide) (by decide)) q1486 q1488 qs21 q1489 ndX6_errs rfl (by rw [hRf]; decide) (by rw [hRl]; decide) hl.1 rfl (Nat.le_of_ble_eq_true rfl) dX6_then_30 (fun H locs hM => ?_)
    exact hret hM (by first | rfl | (simp only [iI, nI_0, nI_one]; grind)) dX6_then_33
  · refine lv_aload_n hx hb dX6_then_10 rfl (lv_at hl 0 rfl) ?_
    refine lv_iload_n hx hb dX6_then_11 rfl (lv_at hl 2 rfl) ?_
    refine md_callI (y := yX6_isCow) hx hb hml hown hts hK hI hM (met_isCow f a v) q1574 q1576 qs37 q1577 ndX6_isCow rfl (by rw [hRf]; decide) (by rw [hRl]; decide) hl.1 rfl (Nat.le_of_ble_eq_true rfl) dX6_then_12 (fun H locs hM => ?_)
    refine w_if_eqT (tgt := 27) hx hb dX6_then_15 (by decide) (fun c_2 => ?_) (fun c_2 => ?_)
    · refine lv_aload_n hx hb dX6_then_27 rfl (lv_at hl 0 rfl) ?_
      refine lv_ldc hx hb hown (hts _ q1485) dX6_then_28 ?_
      refine md_callI (y := yX6_errs) hx hb hml hown hts hK hI hM (met_errs f a (-1000000001 : Int32) 1 (by decide) (by decide)) q1486 q1488 qs21 q1489 ndX6_errs rfl (by rw [hRf]; decide) (by rw [hRl]; decide) hl.1 rfl (Nat.le_of_ble_eq_true rfl) dX6_then_30 (fun H locs hM => ?_)
      exact hret hM (by first | rfl | (simp only [iI, nI_0, nI_one]; grind)) dX6_then_33
    · refine lv_iload_n hx hb dX6_then_18 rfl (lv_at hl 3 rfl) ?_
      refine lv_iconst (v := nI 0) hx hb dX6_then_19 (by decide) ?_
      refine lv_iconst (v := nI 1) hx hb dX6_then_20 (by decide) ?_
      refine st_callI (y := yX6_in) hx hb hml hown hts (met_in w (nI 0) (nI 1)) q1482 q1483 q70 q1484 ndX6_in rfl (by rw [hRf]; decide) (by rw [hRl]; decide) ⟨Nat.zero_le _, Nat.zero_le _⟩ hl.1 rfl (Nat.le_of_ble_eq_true rfl) dX6_then_21 ?_
      refine w_if_neT (tgt := 34) hx hb dX6_then_24 (by decide) (fun c_3 => ?_) (fun c_3 => ?_)
      · exact absurd ⟨c_1, c_2, c_3⟩ he
      · refine lv_aload_n hx hb dX6_then_27 rfl (lv_at hl 0 rfl) ?_
        refine lv_ldc hx hb hown (hts _ q1485) dX6_then_28 ?_
        refine md_callI (y := yX6_errs) hx hb hml hown hts hK hI hM (met_errs f a (-1000000001 : Int32) 1 (by decide) (by decide)) q1486 q1488 qs21 q1489 ndX6_errs rfl (by rw [hRf]; decide) (by rw [hRl]; decide) hl.1 rfl (Nat.le_of_ble_eq_true rfl) dX6_then_30 (fun H locs hM => ?_)
        exact hret hM (by first | rfl | (simp only [iI, nI_0, nI_one]; grind)) dX6_then_33
theorem ndX6_seed : yX6_seed.cls = RX6 ∧ yX6_seed.cls ≠ "java/lang/invoke/MethodHandle" ∧ yX6_seed.cls ≠ "java/lang/invoke/VarHandle" ∧ (parseMethodDescriptor yX6_seed.desc).map (fun d => d.parameters.length) = some 1 := by decide +kernel
set_option maxHeartbeats 400000 in
theorem met_seed_ok (f : Nat → Int32) (a : Nat → Nat → Int32) (v : Int32) : MdF yX6_seed cX6_seed 3 (some .int) 0 0 [.int v] f a (some (.int (a 1 2))) f (va_up a 1 (upd (a 1) 2 v)) := by
  refine MdF.ofI (by decide) rfl (Nat.le_of_ble_eq_true rfl) ?_
  intro p l e R s m args below meth c Q D h dA ls hx hb hml hRf hRl hts hown hK hI hM hl hret
  have hl : lv_has ls 3 [(0, .ref (h 0)), (1, .int v)] := hl
  refine lv_aload_n hx hb dX6_seed_0 rfl (lv_at hl 0 rfl) ?_
  refine md_get (v := .ref (h 1)) hx hb hts hown hK hM 0 (by decide) q1390 rfl rfl dX6_seed_1 ?_
  refine lv_iconst (v := nI 2) hx hb dX6_seed_4 (by decide) ?_
  refine md_iald hx hb hK hM 1 rfl 2 ⟨by omega, by decide, rfl⟩ dX6_seed_5 ?_
  refine lv_istore_n (lv' := [(2, .int (a 1 2)), (0, .ref (h 0)), (1, .int v)]) hx hb dX6_seed_6 rfl hl (by decide) rfl (fun ls hl => ?_)
  refine lv_aload_n hx hb dX6_seed_7 rfl (lv_at hl 1 rfl) ?_
  refine md_get (v := .ref (h 1)) hx hb hts hown hK hM 0 (by decide) q1390 rfl rfl dX6_seed_8 ?_
  refine lv_iconst (v := nI 2) hx hb dX6_seed_11 (by decide) ?_
  refine lv_iload_n hx hb dX6_seed_12 rfl (lv_at hl 2 rfl) ?_
  refine md_iast hx hb hK hI hM 1 rfl 2 ⟨by omega, by decide, rfl⟩ rfl dX6_seed_13 (fun H locs hM => ?_)
  refine lv_iload_n hx hb dX6_seed_14 rfl (lv_at hl 0 rfl) ?_
  exact hret hM (by first | rfl | (simp only [iI, nI_0, nI_one]; grind)) dX6_seed_15
theorem ndX6_told : yX6_told.cls = RX6 ∧ yX6_told.cls ≠ "java/lang/invoke/MethodHandle" ∧ yX6_told.cls ≠ "java/lang/invoke/VarHandle" ∧ (parseMethodDescriptor yX6_told.desc).map (fun d => d.parameters.length) = some 1 := by decide +kernel
set_option maxHeartbeats 400000 in
theorem met_told_ok (f : Nat → Int32) (a : Nat → Nat → Int32) (k : Nat) (h1 : 1 ≤ k) (h2 : k ≤ 5) : MdF yX6_told cX6_told 2 (some .int) 1 22 [.int (nI k)] f a (some (.int (a 5 k))) f a := by
  refine MdF.ofI (by decide) rfl (Nat.le_of_ble_eq_true rfl) ?_
  intro p l e R s m args below meth c Q D h dA ls hx hb hml hRf hRl hts hown hK hI hM hl hret
  have hl : lv_has ls 2 [(0, .ref (h 0)), (1, .int (nI k))] := hl
  refine lv_iload_n hx hb dX6_told_0 rfl (lv_at hl 1 rfl) ?_
  refine lv_iconst (v := nI 1) hx hb dX6_told_1 (by decide) ?_
  refine lv_iconst (v := nI 5) hx hb dX6_told_2 (by decide) ?_
  refine st_callI (y := yX6_in) hx hb hml hown hts (met_in (nI k) (nI 1) (nI 5)) q1482 q1483 q70 q1484 ndX6_in rfl (by rw [hRf]; decide) (by rw [hRl]; decide) ⟨Nat.zero_le _, Nat.zero_le _⟩ hl.1 rfl (Nat.le_of_ble_eq_true rfl) dX6_told_3 ?_
  refine w_if_eqT (tgt := 18) hx hb dX6_told_6 (by decide) (fun c_1 => ?_) (fun c_1 => ?_)
  · exact absurd (by first | exact (in_nat (by decide)).mpr ⟨_, by omega, rfl⟩ | exact (in_nat1 _ (by decide) (by decide)).mpr ⟨_, by omega, by omega, rfl⟩ | exact cow_in hN (by omega) | assumption) c_1
  · refine lv_aload_n hx hb dX6_told_9 rfl (lv_at hl 0 rfl) ?_
    refine md_get (v := .ref (h 5)) hx hb hts hown hK hM 6 (by decide) q1396 rfl rfl dX6_told_10 ?_
    refine lv_iload_n hx hb dX6_told_13 rfl (lv_at hl 1 rfl) ?_
    refine md_iald hx hb hK hM 5 rfl k ⟨by omega, by decide, rfl⟩ dX6_told_14 ?_
    refine lv_goto (tgt := 24) hx hb dX6_told_15 (by decide) ?_
    exact hret hM (by first | rfl | (simp only [iI, nI_0, nI_one]; grind)) dX6_told_24
set_option maxHeartbeats 400000 in
theorem met_told_e (f : Nat → Int32) (a : Nat → Nat → Int32) (k : Int32) (he : ¬ (nI 1 ≤ k ∧ k ≤ nI 5)) : MdF yX6_told cX6_told 2 (some .int) 1 22 [.int k] f a (some (.int (-1000000001 : Int32))) f (mErr a 1) := by
  refine MdF.ofI (by decide) rfl (Nat.le_of_ble_eq_true rfl) ?_
  intro p l e R s m args below meth c Q D h dA ls hx hb hml hRf hRl hts hown hK hI hM hl hret
  have hl : lv_has ls 2 [(0, .ref (h 0)), (1, .int k)] := hl
  refine lv_iload_n hx hb dX6_told_0 rfl (lv_at hl 1 rfl) ?_
  refine lv_iconst (v := nI 1) hx hb dX6_told_1 (by decide) ?_
  refine lv_iconst (v := nI 5) hx hb dX6_told_2 (by decide) ?_
  refine st_callI (y := yX6_in) hx hb hml hown hts (met_in k (nI 1) (nI 5)) q1482 q1483 q70 q1484 ndX6_in rfl (by rw [hRf]; decide) (by rw [hRl]; decide) ⟨Nat.zero_le _, Nat.zero_le _⟩ hl.1 rfl (Nat.le_of_ble_eq_true rfl) dX6_told_3 ?_
  refine w_if_eqT (tgt := 18) hx hb dX6_told_6 (by decide) (fun c_1 => ?_) (fun c_1 => ?_)
  · refine lv_aload_n hx hb dX6_told_18 rfl (lv_at hl 0 rfl) ?_
    refine lv_ldc hx hb hown (hts _ q1485) dX6_told_19 ?_
    refine md_callI (y := yX6_errs) hx hb hml hown hts hK hI hM (met_errs f a (-1000000001 : Int32) 1 (by decide) (by decide)) q1486 q1488 qs21 q1489 ndX6_errs rfl (by rw [hRf]; decide) (by rw [hRl]; decide) hl.1 rfl (Nat.le_of_ble_eq_true rfl) dX6_told_21 (fun H locs hM => ?_)
    exact hret hM (by first | rfl | (simp only [iI, nI_0, nI_one]; grind)) dX6_told_24
  · exact absurd c_1 he
theorem ndX6_trace : yX6_trace.cls = RX6 ∧ yX6_trace.cls ≠ "java/lang/invoke/MethodHandle" ∧ yX6_trace.cls ≠ "java/lang/invoke/VarHandle" ∧ (parseMethodDescriptor yX6_trace.desc).map (fun d => d.parameters.length) = some 1 := by decide +kernel
set_option maxHeartbeats 400000 in
theorem met_trace_ok (f : Nat → Int32) (a : Nat → Nat → Int32) (k : Nat) (hq : okN (f 24) 40) (hk : k < cl (f 24)) : MdF yX6_trace cX6_trace 2 (some .int) 1 22 [.int (nI k)] f a (some (.int (a 14 k))) f a := by
  refine MdF.ofI (by decide) rfl (Nat.le_of_ble_eq_true rfl) ?_
  intro p l e R s m args below meth c Q D h dA ls hx hb hml hRf hRl hts hown hK hI hM hl hret
  have hl : lv_has ls 2 [(0, .ref (h 0)), (1, .int (nI k))] := hl
  have hq2 := hq.2
  refine lv_iload_n hx hb dX6_trace_0 rfl (lv_at hl 1 rfl) ?_
  refine lv_iconst (v := nI 0) hx hb dX6_trace_1 (by decide) ?_
  refine lv_aload_n hx hb dX6_trace_2 rfl (lv_at hl 0 rfl) ?_
  refine md_get (v := .int (f 24)) hx hb hts hown hK hM 24 (by decide) q1414 rfl rfl dX6_trace_3 ?_
  refine lv_iconst (v := nI 1) hx hb dX6_trace_6 (by decide) ?_
  refine lv_isub hx hb dX6_trace_7 ?_
  refine w_top (nI (cl (f 24) - 1)) (by rw [hq.1, pk_sub (by omega), cl_nI (by omega)]) ?_
  refine st_callI (y := yX6_in) hx hb hml hown hts (met_in (nI k) (nI 0) (nI (cl (f 24) - 1))) q1482 q1483 q70 q1484 ndX6_in rfl (by rw [hRf]; decide) (by rw [hRl]; decide) ⟨Nat.zero_le _, Nat.zero_le _⟩ hl.1 rfl (Nat.le_of_ble_eq_true rfl) dX6_trace_8 ?_
  refine w_if_eqT (tgt := 23) hx hb dX6_trace_11 (by decide) (fun c_1 => ?_) (fun c_1 => ?_)
  · exact absurd ((in_nat (by omega)).mpr ⟨k, by omega, rfl⟩) c_1
  · refine lv_aload_n hx hb dX6_trace_14 rfl (lv_at hl 0 rfl) ?_
    refine md_get (v := .ref (h 14)) hx hb hts hown hK hM 23 (by decide) q1413 rfl rfl dX6_trace_15 ?_
    refine lv_iload_n hx hb dX6_trace_18 rfl (lv_at hl 1 rfl) ?_
    refine md_iald hx hb hK hM 14 rfl k ⟨by omega, by decide, rfl⟩ dX6_trace_19 ?_
    refine lv_goto (tgt := 29) hx hb dX6_trace_20 (by decide) ?_
    exact hret hM (by first | rfl | (simp only [iI, nI_0, nI_one]; grind)) dX6_trace_29
set_option maxHeartbeats 400000 in
theorem met_trace_e (f : Nat → Int32) (a : Nat → Nat → Int32) (k : Int32) (he : ¬ (nI 0 ≤ k ∧ k ≤ f 24 - nI 1)) : MdF yX6_trace cX6_trace 2 (some .int) 1 22 [.int k] f a (some (.int (-1000000002 : Int32))) f (mErr a 2) := by
  refine MdF.ofI (by decide) rfl (Nat.le_of_ble_eq_true rfl) ?_
  intro p l e R s m args below meth c Q D h dA ls hx hb hml hRf hRl hts hown hK hI hM hl hret
  have hl : lv_has ls 2 [(0, .ref (h 0)), (1, .int k)] := hl
  refine lv_iload_n hx hb dX6_trace_0 rfl (lv_at hl 1 rfl) ?_
  refine lv_iconst (v := nI 0) hx hb dX6_trace_1 (by decide) ?_
  refine lv_aload_n hx hb dX6_trace_2 rfl (lv_at hl 0 rfl) ?_
  refine md_get (v := .int (f 24)) hx hb hts hown hK hM 24 (by decide) q1414 rfl rfl dX6_trace_3 ?_
  refine lv_iconst (v := nI 1) hx hb dX6_trace_6 (by decide) ?_
  refine lv_isub hx hb dX6_trace_7 ?_
  refine st_callI (y := yX6_in) hx hb hml hown hts (met_in k (nI 0) ((f 24) - (nI 1))) q1482 q1483 q70 q1484 ndX6_in rfl (by rw [hRf]; decide) (by rw [hRl]; decide) ⟨Nat.zero_le _, Nat.zero_le _⟩ hl.1 rfl (Nat.le_of_ble_eq_true rfl) dX6_trace_8 ?_
  refine w_if_eqT (tgt := 23) hx hb dX6_trace_11 (by decide) (fun c_1 => ?_) (fun c_1 => ?_)
  · refine lv_aload_n hx hb dX6_trace_23 rfl (lv_at hl 0 rfl) ?_
    refine lv_ldc hx hb hown (hts _ q1605) dX6_trace_24 ?_
    refine md_callI (y := yX6_errs) hx hb hml hown hts hK hI hM (met_errs f a (-1000000002 : Int32) 2 (by decide) (by decide)) q1486 q1488 qs21 q1489 ndX6_errs rfl (by rw [hRf]; decide) (by rw [hRl]; decide) hl.1 rfl (Nat.le_of_ble_eq_true rfl) dX6_trace_26 (fun H locs hM => ?_)
    exact hret hM (by first | rfl | (simp only [iI, nI_0, nI_one]; grind)) dX6_trace_29
  · exact absurd c_1 he
theorem ndX6_tell : yX6_tell.cls = RX6 ∧ yX6_tell.cls ≠ "java/lang/invoke/MethodHandle" ∧ yX6_tell.cls ≠ "java/lang/invoke/VarHandle" ∧ (parseMethodDescriptor yX6_tell.desc).map (fun d => d.parameters.length) = some 1 := by decide +kernel
set_option maxHeartbeats 400000 in
theorem met_tell_ok (f : Nat → Int32) (a : Nat → Nat → Int32) (v : Int32) (hq : okN (a 1 5) 20) (hk : cl (a 1 5) < 20) : MdF yX6_tell cX6_tell 2 (some .int) 0 0 [.int v] f a (some (.int (nI (cl (a 1 5) + 1)))) f (va_up a 1 (upd (upd (a 1) (178 + cl (a 1 5)) v) 5 (nI (cl (a 1 5) + 1)))) := by
  refine MdF.ofI (by decide) rfl (Nat.le_of_ble_eq_true rfl) ?_
  intro p l e R s m args below meth c Q D h dA ls hx hb hml hRf hRl hts hown hK hI hM hl hret
  have hl : lv_has ls 2 [(0, .ref (h 0)), (1, .int v)] := hl
  refine lv_aload_n hx hb dX6_tell_0 rfl (lv_at hl 0 rfl) ?_
  refine md_get (v := .ref (h 1)) hx hb hts hown hK hM 0 (by decide) q1390 rfl rfl dX6_tell_1 ?_
  refine lv_iconst (v := nI 5) hx hb dX6_tell_4 (by decide) ?_
  refine md_iald hx hb hK hM 1 rfl 5 ⟨by omega, by decide, rfl⟩ dX6_tell_5 ?_
  refine w_top (nI (cl (a 1 5))) (hq.1) ?_
  refine lv_bipush (v := nI 20) hx hb dX6_tell_6 (by decide) ?_
  refine w_icmp_neN (tgt := 18) hx hb (by omega) (by omega) dX6_tell_8 (by decide) (fun c_1 => ?_) (fun c_1 => ?_)
  · refine lv_aload_n hx hb dX6_tell_18 rfl (lv_at hl 0 rfl) ?_
    refine md_get (v := .ref (h 1)) hx hb hts hown hK hM 0 (by decide) q1390 rfl rfl dX6_tell_19 ?_
    refine lv_sipush (v := nI 178) hx hb dX6_tell_22 (by decide) ?_
    refine lv_aload_n hx hb dX6_tell_25 rfl (lv_at hl 0 rfl) ?_
    refine md_get (v := .ref (h 1)) hx hb hts hown hK hM 0 (by decide) q1390 rfl rfl dX6_tell_26 ?_
    refine lv_iconst (v := nI 5) hx hb dX6_tell_29 (by decide) ?_
    refine md_iald hx hb hK hM 1 rfl 5 ⟨by omega, by decide, rfl⟩ dX6_tell_30 ?_
    refine w_top (nI (cl (a 1 5))) (hq.1) ?_
    refine w_iaddN hx hb dX6_tell_31 ?_
    refine lv_iload_n hx hb dX6_tell_32 rfl (lv_at hl 1 rfl) ?_
    refine md_iast hx hb hK hI hM 1 rfl (178 + (cl (a 1 5))) ⟨by omega, by decide, rfl⟩ rfl dX6_tell_33 (fun H locs hM => ?_)
    refine lv_aload_n hx hb dX6_tell_34 rfl (lv_at hl 0 rfl) ?_
    refine md_get (v := .ref (h 1)) hx hb hts hown hK hM 0 (by decide) q1390 rfl rfl dX6_tell_35 ?_
    refine lv_iconst (v := nI 5) hx hb dX6_tell_38 (by decide) ?_
    refine lv_dup2_11 hx hb dX6_tell_39 rfl rfl ?_
    refine md_iald hx hb hK hM 1 rfl 5 ⟨by omega, by decide, rfl⟩ dX6_tell_40 ?_
    refine w_top ((upd (a 1) (178 + (cl (a 1 5))) v) 5) (by rw [va_us]) ?_
    refine w_top (nI (cl (a 1 5))) (by rw [pk_un (by omega)]; exact hq.1) ?_
    refine lv_iconst (v := nI 1) hx hb dX6_tell_41 (by decide) ?_
    refine w_iaddN hx hb dX6_tell_42 ?_
    refine md_iast hx hb hK hI hM 1 rfl 5 ⟨by omega, by decide, rfl⟩ rfl dX6_tell_43 (fun H locs hM => ?_)
    have hM := hM.to (a' := va_up a 1 (upd (upd (a 1) (178 + (cl (a 1 5))) v) 5 (nI ((cl (a 1 5)) + 1)))) rfl (va_uu a 1 _ _)
    refine lv_aload_n hx hb dX6_tell_44 rfl (lv_at hl 0 rfl) ?_
    refine md_get (v := .ref (h 1)) hx hb hts hown hK hM 0 (by decide) q1390 rfl rfl dX6_tell_45 ?_
    refine lv_iconst (v := nI 5) hx hb dX6_tell_48 (by decide) ?_
    refine md_iald hx hb hK hM 1 rfl 5 ⟨by omega, by decide, rfl⟩ dX6_tell_49 ?_
    refine w_top ((upd (upd (a 1) (178 + (cl (a 1 5))) v) 5 (nI ((cl (a 1 5)) + 1))) 5) (by rw [va_us]) ?_
    refine w_top (nI (cl (a 1 5) + 1)) (pk_us) ?_
    exact hret hM (by first | rfl | (simp only [iI, nI_0, nI_one]; grind)) dX6_tell_50
  · exact absurd c_1 (by omega)
set_option maxHeartbeats 400000 in
theorem met_tell_f (f : Nat → Int32) (a : Nat → Nat → Int32) (v : Int32) (hq : okN (a 1 5) 20) (hk : cl (a 1 5) = 20) : MdF yX6_tell cX6_tell 2 (some .int) 1 21 [.int v] f a (some (.int (-1000000004 : Int32))) f (mErr a 4) := by
  refine MdF.ofI (by decide) rfl (Nat.le_of_ble_eq_true rfl) ?_
  intro p l e R s m args below meth c Q D h dA ls hx hb hml hRf hRl hts hown hK hI hM hl hret
  have hl : lv_has ls 2 [(0, .ref (h 0)), (1, .int v)] := hl
  refine lv_aload_n hx hb dX6_tell_0 rfl (lv_at hl 0 rfl) ?_
  refine md_get (v := .ref (h 1)) hx hb hts hown hK hM 0 (by decide) q1390 rfl rfl dX6_tell_1 ?_
  refine lv_iconst (v := nI 5) hx hb dX6_tell_4 (by decide) ?_
  refine md_iald hx hb hK hM 1 rfl 5 ⟨by omega, by decide, rfl⟩ dX6_tell_5 ?_
  refine w_top (nI (cl (a 1 5))) (hq.1) ?_
  refine lv_bipush (v := nI 20) hx hb dX6_tell_6 (by decide) ?_
  refine w_icmp_neN (tgt := 18) hx hb (by omega) (by omega) dX6_tell_8 (by decide) (fun c_1 => ?_) (fun c_1 => ?_)
  · exact absurd hk c_1
  · refine lv_aload_n hx hb dX6_tell_11 rfl (lv_at hl 0 rfl) ?_
    refine lv_ldc hx hb hown (hts _ q1565) dX6_tell_12 ?_
    refine md_callI (y := yX6_errs) hx hb hml hown hts hK hI hM (met_errs f a (-1000000004 : Int32) 4 (by decide) (by decide)) q1486 q1488 qs21 q1489 ndX6_errs rfl (by rw [hRf]; decide) (by rw [hRl]; decide) hl.1 rfl (Nat.le_of_ble_eq_true rfl) dX6_tell_14 (fun H locs hM => ?_)
    exact hret hM (by first | rfl | (simp only [iI, nI_0, nI_one]; grind)) dX6_tell_17
