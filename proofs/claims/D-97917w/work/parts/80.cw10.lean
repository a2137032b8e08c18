/-! acts, 4: with become (printed by comp13.py) -/
set_option maxRecDepth 100000
theorem ndX2_known : yX2_known.cls = RX2 ∧ yX2_known.cls ≠ "java/lang/invoke/MethodHandle" ∧ yX2_known.cls ≠ "java/lang/invoke/VarHandle" ∧ (parseMethodDescriptor yX2_known.desc).map (fun d => d.parameters.length) = some 1 := by decide +kernel

set_option maxHeartbeats 400000 in
theorem ca_known_ok (f : Nat → Int32) (a : Nat → Nat → Int32) (g : Nat) (hg0 : g < 32) (hg : jugP (a 1) (nI g)) (n : Nat) (hn : n ≤ 100) (hR : okR (a 1)) : CmF yX0_known cX0_known 4 [(0, 51, 52, 8)] 67 1536 [.int (nI g), .int (nI n)] f a (knS (dayI (a 1) n) (nI g) 25) f (va_up a 3 (a 1)) := by
  refine CmF.ofI (by decide) rfl (Nat.le_of_ble_eq_true rfl) ?_
  intro p l e R s m args below meth c Q D dA h fc wk hd ri rt cw tx nm B S ls hx hb hml hRf hRl hRc hRs htab hts hown hK hI hB hS0 hQ hN hIm hZ hSh hM hl hret hret0
  have hl : lv_has ls 4 [(0, .ref (h 0)), (1, .int (nI g)), (2, .int (nI n))] := hl
  refine lv_aload_n hx hb dX0_known_0 rfl (lv_at hl 0 rfl) ?_
  refine lv_aload_n hx hb dX0_known_1 rfl (lv_at hl 0 rfl) ?_
  refine lv_iload_n hx hb dX0_known_2 rfl (lv_at hl 1 rfl) ?_
  refine rd_callV (y := yX0_isJug) hx hb hml hown hts hK (ca_isJug D dA h _ _ _ _ _ _ _ _ _ _ (nI g)) hM.1 (cAt.recv hK (hM.1 0 _ rfl) rfl) q956 q958 qs16 q61 q959 ndX0_isJug rfl (by rw [hRf]; decide) (by rw [hRl]; decide) (Nat.zero_le _) (Nat.zero_le _) hl.1 rfl (Nat.le_of_ble_eq_true rfl) dX0_known_3 ?_
  refine w_if_eqT (tgt := 23) hx hb dX0_known_6 (by decide) (fun c_1 => ?_) (fun c_1 => ?_)
  · exact absurd (by first | exact (in_nat (by decide)).mpr ⟨_, by omega, rfl⟩ | exact (in_nat1 _ (by decide) (by decide)).mpr ⟨_, by omega, by omega, rfl⟩ | exact cow_in hN0 (by omega) | assumption) c_1
  · refine lv_iload_n hx hb dX0_known_9 rfl (lv_at hl 2 rfl) ?_
    refine lv_iconst (v := nI 0) hx hb dX0_known_10 (by decide) ?_
    refine lv_bipush (v := nI 100) hx hb dX0_known_11 (by decide) ?_
    refine st_callS (y := yX0_in) hx hb hml hown hts (cmX0_in (nI n) (nI 0) (nI 100)) q330 q331 q61 q332 ndX0_in rfl (by rw [hRf]; decide) (by rw [hRl]; decide) (Nat.zero_le _) (Nat.zero_le _) hl.1 rfl (Nat.le_of_ble_eq_true rfl) dX0_known_13 ?_
    refine w_if_eqT (tgt := 23) hx hb dX0_known_16 (by decide) (fun c_2 => ?_) (fun c_2 => ?_)
    · exact absurd (by first | exact (in_nat (by decide)).mpr ⟨_, by omega, rfl⟩ | exact (in_nat1 _ (by decide) (by decide)).mpr ⟨_, by omega, by omega, rfl⟩ | exact cow_in hN0 (by omega) | assumption) c_2
    · refine lv_iconst (v := nI 1) hx hb dX0_known_19 (by decide) ?_
      refine lv_goto (tgt := 24) hx hb dX0_known_20 (by decide) ?_
      refine lv_iconst (v := nI 1) hx hb dX0_known_24 (by decide) ?_
      refine cm_n1 hx hb hml hown hts hK hI hM htab (hpc := 52) rfl q333 (by rw [hRf]; decide) (by rw [hRl]; decide) (Nat.zero_le _) (Nat.zero_le _) hl.1 (Nat.le_of_ble_eq_true rfl) dX0_known_25 (fun locs hM => ?_)
      refine lv_aload_n hx hb dX0_known_28 rfl (lv_at hl 0 rfl) ?_
      refine c_get (v := .ref (hm2 h 0)) hx hb hts in_X0 hown hK (hM.1 0 _ rfl) rfl 3 (by decide) q289 rfl rfl dX0_known_29 ?_
      refine lv_aload_n hx hb dX0_known_32 rfl (lv_at hl 0 rfl) ?_
      refine c_get (v := .ref (hm0 h 0)) hx hb hts in_X0 hown hK (hM.1 0 _ rfl) rfl 1 (by decide) q287 rfl rfl dX0_known_33 ?_
      refine cm_bc20 hx hb hml hown hts hK hI hB hM (hQ.at hB hN mwEq.rf mwEq.rf mwEq.rf hM.2.2) hN.1 (fun w hw => (okR_cow hR hw).1.2) hZ.1 q975 (by rw [hRf]; decide) (by rw [hRl]; decide) (Nat.zero_le _) (Nat.zero_le _) hl.1 (Nat.le_of_ble_eq_true rfl) dX0_known_36 (fun cw1 tx1 ec et H locs hM => ?_)
      have hQ : cmPl D h B (a 1) ri (a 1) (va_up cw 2 cw1) (va_up tx 2 tx1) s.heap := ⟨hQ.1, hQ.2.1, hQ.1.cg hN.1 ec et⟩
      have hN : cl ((a 1) 3) ≤ 5 ∧ cl (ri 3) ≤ 5 ∧ cl ((a 1) 3) ≤ 5 := ⟨hN.1, hN.2.1, hN.1⟩
      refine lv_iload_n hx hb dX0_known_39 rfl (lv_at hl 2 rfl) ?_
      refine cm_mcall2 (y := yX2_goes) hx hb hml hown hts hK hI hB hM (hQ.at hB hN mwEq.rf mwEq.rf mwEq.rf hM.2.2) (hN.2.2) (mw_goes (a 1) hR n (by omega)) q920 q921 q922 q923 ndX2_goes rfl (by rw [hRf]; decide) (by rw [hRl]; decide) (Nat.zero_le _) (Nat.zero_le _) hl.1 rfl (Nat.le_of_ble_eq_true rfl) dX0_known_40 (fun H locs nm hM => ?_)
      refine lv_aload_n hx hb dX0_known_43 rfl (lv_at hl 0 rfl) ?_
      refine c_get (v := .ref (hm2 h 0)) hx hb hts in_X0 hown hK (hM.1 0 _ rfl) rfl 3 (by decide) q289 rfl rfl dX0_known_44 ?_
      refine lv_iload_n hx hb dX0_known_47 rfl (lv_at hl 1 rfl) ?_
      refine cm_mcall2 (y := yX2_known) hx hb hml hown hts hK hI hB hM (hQ.at hB hN mwEq.rf mwEq.rf (mwEq_dayI hR n) hM.2.2) (by rw [(mwEq_dayI hR n).1]; exact hN.1) (mw_known (dayI (a 1) n) (okR_dayI hR n) g (by omega)) q982 q983 q984 q985 ndX2_known rfl (by rw [hRf]; decide) (by rw [hRl]; decide) (Nat.zero_le _) (Nat.zero_le _) hl.1 rfl (Nat.le_of_ble_eq_true rfl) dX0_known_48 (fun H locs nm hM => ?_)
      exact hret (hM.cg rfl rfl rfl rfl rfl) (hQ.at hB hN mwEq.rf mwEq.rf (mwEq_dayI hR n) hM.2.2) ⟨hN.1, hN.2.1, by rw [(mwEq_dayI hR n).1]; exact hN.1⟩ hIm hZ (hSh.to hS0 ⟨rfl, rfl, rfl⟩ hM.2.2) (rfl) dX0_known_51
set_option maxHeartbeats 400000 in
theorem ca_known_e (f : Nat → Int32) (a : Nat → Nat → Int32) (g n : Int32) (he : ¬ (jugP (a 1) g ∧ (nI 0 ≤ n ∧ n ≤ nI 100))) : CmF yX0_known cX0_known 4 [(0, 51, 52, 8)] 2 60 [.int g, .int n] f a (-1000000001 : Int32) f (mErr a 1) := by
  refine CmF.ofI (by decide) rfl (Nat.le_of_ble_eq_true rfl) ?_
  intro p l e R s m args below meth c Q D dA h fc wk hd ri rt cw tx nm B S ls hx hb hml hRf hRl hRc hRs htab hts hown hK hI hB hS0 hQ hN hIm hZ hSh hM hl hret hret0
  have hl : lv_has ls 4 [(0, .ref (h 0)), (1, .int g), (2, .int n)] := hl
  refine lv_aload_n hx hb dX0_known_0 rfl (lv_at hl 0 rfl) ?_
  refine lv_aload_n hx hb dX0_known_1 rfl (lv_at hl 0 rfl) ?_
  refine lv_iload_n hx hb dX0_known_2 rfl (lv_at hl 1 rfl) ?_
  refine rd_callV (y := yX0_isJug) hx hb hml hown hts hK (ca_isJug D dA h _ _ _ _ _ _ _ _ _ _ g) hM.1 (cAt.recv hK (hM.1 0 _ rfl) rfl) q956 q958 qs16 q61 q959 ndX0_isJug rfl (by rw [hRf]; decide) (by rw [hRl]; decide) (Nat.zero_le _) (Nat.zero_le _) hl.1 rfl (Nat.le_of_ble_eq_true rfl) dX0_known_3 ?_
  refine w_if_eqT (tgt := 23) hx hb dX0_known_6 (by decide) (fun c_1 => ?_) (fun c_1 => ?_)
  · refine lv_iconst (v := nI 0) hx hb dX0_known_23 (by decide) ?_
    refine lv_iconst (v := nI 1) hx hb dX0_known_24 (by decide) ?_
    refine cm_n0 hx hb hml hown hts hK hI hM htab (hpc := 52) rfl q333 (by rw [hRf]; decide) (by rw [hRl]; decide) (Nat.zero_le _) (Nat.zero_le _) hl.1 (Nat.le_of_ble_eq_true rfl) dX0_known_25 (fun H locs hM => ?_)
    refine lv_astore_n (lv' := [(3, .ref (h 1)), (0, .ref (h 0)), (1, .int g), (2, .int n)]) hx hb dX0_known_52 rfl hl (by decide) rfl (fun ls hl => ?_)
    refine lv_aload_n hx hb dX0_known_53 rfl (lv_at hl 1 rfl) ?_
    refine lv_aload_n hx hb dX0_known_54 rfl (lv_at hl 0 rfl) ?_
    refine cm_fin hx hb hml hown hts hK hI 1 (by decide) hM q341 (by rw [hRf]; decide) (by rw [hRl]; decide) (Nat.zero_le _) (Nat.zero_le _) hl.1 (Nat.le_of_ble_eq_true rfl) dX0_known_55 (fun H locs hM => ?_)
    exact hret0 hM (mwEq.rf) rfl rfl ⟨rfl, rfl, rfl⟩ (by decide) dX0_known_58
  · refine lv_iload_n hx hb dX0_known_9 rfl (lv_at hl 2 rfl) ?_
    refine lv_iconst (v := nI 0) hx hb dX0_known_10 (by decide) ?_
    refine lv_bipush (v := nI 100) hx hb dX0_known_11 (by decide) ?_
    refine st_callS (y := yX0_in) hx hb hml hown hts (cmX0_in n (nI 0) (nI 100)) q330 q331 q61 q332 ndX0_in rfl (by rw [hRf]; decide) (by rw [hRl]; decide) (Nat.zero_le _) (Nat.zero_le _) hl.1 rfl (Nat.le_of_ble_eq_true rfl) dX0_known_13 ?_
    refine w_if_eqT (tgt := 23) hx hb dX0_known_16 (by decide) (fun c_2 => ?_) (fun c_2 => ?_)
    · refine lv_iconst (v := nI 0) hx hb dX0_known_23 (by decide) ?_
      refine lv_iconst (v := nI 1) hx hb dX0_known_24 (by decide) ?_
      refine cm_n0 hx hb hml hown hts hK hI hM htab (hpc := 52) rfl q333 (by rw [hRf]; decide) (by rw [hRl]; decide) (Nat.zero_le _) (Nat.zero_le _) hl.1 (Nat.le_of_ble_eq_true rfl) dX0_known_25 (fun H locs hM => ?_)
      refine lv_astore_n (lv' := [(3, .ref (h 1)), (0, .ref (h 0)), (1, .int g), (2, .int n)]) hx hb dX0_known_52 rfl hl (by decide) rfl (fun ls hl => ?_)
      refine lv_aload_n hx hb dX0_known_53 rfl (lv_at hl 1 rfl) ?_
      refine lv_aload_n hx hb dX0_known_54 rfl (lv_at hl 0 rfl) ?_
      refine cm_fin hx hb hml hown hts hK hI 1 (by decide) hM q341 (by rw [hRf]; decide) (by rw [hRl]; decide) (Nat.zero_le _) (Nat.zero_le _) hl.1 (Nat.le_of_ble_eq_true rfl) dX0_known_55 (fun H locs hM => ?_)
      exact hret0 hM (mwEq.rf) rfl rfl ⟨rfl, rfl, rfl⟩ (by decide) dX0_known_58
    · refine lv_iconst (v := nI 1) hx hb dX0_known_19 (by decide) ?_
      refine lv_goto (tgt := 24) hx hb dX0_known_20 (by decide) ?_
      refine lv_iconst (v := nI 1) hx hb dX0_known_24 (by decide) ?_
      exact absurd ⟨c_1, c_2⟩ he
set_option maxHeartbeats 400000 in
theorem ca_then_ok0 (f : Nat → Int32) (a : Nat → Nat → Int32) (n : Nat) (hn : n ≤ 100) (i : Nat) (hi : i < cl (a 1 3)) (hN0 : okN (a 1 3) 5) (hR : okR (a 1)) : CmF yX0_then cX0_then 5 [(0, 85, 86, 8)] 67 1536 [.int (nI n), .int (nI i), .int (nI 0)] f a (nI (cl (dayI (a 1) n (58 + 14 * i + 2)))) f (va_up a 3 (a 1)) := by
  refine CmF.ofI (by decide) rfl (Nat.le_of_ble_eq_true rfl) ?_
  intro p l e R s m args below meth c Q D dA h fc wk hd ri rt cw tx nm B S ls hx hb hml hRf hRl hRc hRs htab hts hown hK hI hB hS0 hQ hN hIm hZ hSh hM hl hret hret0
  have hl : lv_has ls 5 [(0, .ref (h 0)), (1, .int (nI n)), (2, .int (nI i)), (3, .int (nI 0))] := hl
  have hN2 := hN0.2
  obtain ⟨hc0, hc1, hat, hc3, hc4⟩ := (okR_dayI hR n).2.2.2.2.2.1 i (by omega)
  have hat2 := hat.2
  refine lv_aload_n hx hb dX0_then_0 rfl (lv_at hl 0 rfl) ?_
  refine lv_iload_n hx hb dX0_then_1 rfl (lv_at hl 1 rfl) ?_
  refine lv_iconst (v := nI 0) hx hb dX0_then_2 (by decide) ?_
  refine lv_bipush (v := nI 100) hx hb dX0_then_3 (by decide) ?_
  refine st_callS (y := yX0_in) hx hb hml hown hts (cmX0_in (nI n) (nI 0) (nI 100)) q330 q331 q61 q332 ndX0_in rfl (by rw [hRf]; decide) (by rw [hRl]; decide) (Nat.zero_le _) (Nat.zero_le _) hl.1 rfl (Nat.le_of_ble_eq_true rfl) dX0_then_5 ?_
  refine w_if_eqT (tgt := 32) hx hb dX0_then_8 (by decide) (fun c_1 => ?_) (fun c_1 => ?_)
  · exact absurd (by first | exact (in_nat (by decide)).mpr ⟨_, by omega, rfl⟩ | exact (in_nat1 _ (by decide) (by decide)).mpr ⟨_, by omega, by omega, rfl⟩ | exact cow_in hN0 (by omega) | assumption) c_1
  · refine lv_aload_n hx hb dX0_then_11 rfl (lv_at hl 0 rfl) ?_
    refine lv_iload_n hx hb dX0_then_12 rfl (lv_at hl 2 rfl) ?_
    refine rd_callV (y := yX0_isCow) hx hb hml hown hts hK (ca_isCow D dA h _ _ _ _ _ _ _ _ _ _ (nI i)) hM.1 (cAt.recv hK (hM.1 0 _ rfl) rfl) q512 q514 qs4 q61 q515 ndX0_isCow rfl (by rw [hRf]; decide) (by rw [hRl]; decide) (Nat.zero_le _) (Nat.zero_le _) hl.1 rfl (Nat.le_of_ble_eq_true rfl) dX0_then_13 ?_
    refine w_if_eqT (tgt := 32) hx hb dX0_then_16 (by decide) (fun c_2 => ?_) (fun c_2 => ?_)
    · exact absurd (by first | exact (in_nat (by decide)).mpr ⟨_, by omega, rfl⟩ | exact (in_nat1 _ (by decide) (by decide)).mpr ⟨_, by omega, by omega, rfl⟩ | exact cow_in hN0 (by omega) | assumption) c_2
    · refine lv_iload_n hx hb dX0_then_19 rfl (lv_at hl 3 rfl) ?_
      refine lv_iconst (v := nI 0) hx hb dX0_then_20 (by decide) ?_
      refine lv_iconst (v := nI 1) hx hb dX0_then_21 (by decide) ?_
      refine st_callS (y := yX0_in) hx hb hml hown hts (cmX0_in (nI 0) (nI 0) (nI 1)) q330 q331 q61 q332 ndX0_in rfl (by rw [hRf]; decide) (by rw [hRl]; decide) (Nat.zero_le _) (Nat.zero_le _) hl.1 rfl (Nat.le_of_ble_eq_true rfl) dX0_then_22 ?_
      refine w_if_eqT (tgt := 32) hx hb dX0_then_25 (by decide) (fun c_3 => ?_) (fun c_3 => ?_)
      · exact absurd (by first | exact (in_nat (by decide)).mpr ⟨_, by omega, rfl⟩ | exact (in_nat1 _ (by decide) (by decide)).mpr ⟨_, by omega, by omega, rfl⟩ | exact cow_in hN0 (by omega) | assumption) c_3
      · refine lv_iconst (v := nI 1) hx hb dX0_then_28 (by decide) ?_
        refine lv_goto (tgt := 33) hx hb dX0_then_29 (by decide) ?_
        refine lv_iconst (v := nI 1) hx hb dX0_then_33 (by decide) ?_
        refine cm_n1 hx hb hml hown hts hK hI hM htab (hpc := 86) rfl q333 (by rw [hRf]; decide) (by rw [hRl]; decide) (Nat.zero_le _) (Nat.zero_le _) hl.1 (Nat.le_of_ble_eq_true rfl) dX0_then_34 (fun locs hM => ?_)
        refine lv_aload_n hx hb dX0_then_37 rfl (lv_at hl 0 rfl) ?_
        refine c_get (v := .ref (hm2 h 0)) hx hb hts in_X0 hown hK (hM.1 0 _ rfl) rfl 3 (by decide) q289 rfl rfl dX0_then_38 ?_
        refine lv_aload_n hx hb dX0_then_41 rfl (lv_at hl 0 rfl) ?_
        refine c_get (v := .ref (hm0 h 0)) hx hb hts in_X0 hown hK (hM.1 0 _ rfl) rfl 1 (by decide) q287 rfl rfl dX0_then_42 ?_
        refine cm_bc20 hx hb hml hown hts hK hI hB hM (hQ.at hB hN mwEq.rf mwEq.rf mwEq.rf hM.2.2) hN.1 (fun w hw => (okR_cow hR hw).1.2) hZ.1 q975 (by rw [hRf]; decide) (by rw [hRl]; decide) (Nat.zero_le _) (Nat.zero_le _) hl.1 (Nat.le_of_ble_eq_true rfl) dX0_then_45 (fun cw1 tx1 ec et H locs hM => ?_)
        have hQ : cmPl D h B (a 1) ri (a 1) (va_up cw 2 cw1) (va_up tx 2 tx1) s.heap := ⟨hQ.1, hQ.2.1, hQ.1.cg hN.1 ec et⟩
        have hN : cl ((a 1) 3) ≤ 5 ∧ cl (ri 3) ≤ 5 ∧ cl ((a 1) 3) ≤ 5 := ⟨hN.1, hN.2.1, hN.1⟩
        refine lv_iload_n hx hb dX0_then_48 rfl (lv_at hl 1 rfl) ?_
        refine cm_mcall2 (y := yX2_goes) hx hb hml hown hts hK hI hB hM (hQ.at hB hN mwEq.rf mwEq.rf mwEq.rf hM.2.2) (hN.2.2) (mw_goes (a 1) hR n (by omega)) q920 q921 q922 q923 ndX2_goes rfl (by rw [hRf]; decide) (by rw [hRl]; decide) (Nat.zero_le _) (Nat.zero_le _) hl.1 rfl (Nat.le_of_ble_eq_true rfl) dX0_then_49 (fun H locs nm hM => ?_)
        refine lv_iload_n hx hb dX0_then_52 rfl (lv_at hl 3 rfl) ?_
        refine lv_if_ne (tgt := 68) hx hb dX0_then_53 (by decide) (fun q => absurd q (by decide)) (fun _ => ?_)
        refine lv_aload_n hx hb dX0_then_56 rfl (lv_at hl 0 rfl) ?_
        refine c_get (v := .ref (hm2 h 0)) hx hb hts in_X0 hown hK (hM.1 0 _ rfl) rfl 3 (by decide) q289 rfl rfl dX0_then_57 ?_
        have nq := hK.F 5 rfl
        refine c_getN (v := .ref (hm2 h 4)) hx hb hts in_X2 hown hK ((cm_parts hM.1).2.2.2 0 _ rfl) rfl 5 (by decide) nq rfl rfl dX0_then_60 ?_
        refine lv_iload_n hx hb dX0_then_63 rfl (lv_at hl 2 rfl) ?_
        refine c_iald hx hb hK ((cm_parts hM.1).2.2.2 4 _ rfl) i ⟨by omega, by decide, rfl⟩ dX0_then_64 ?_
        refine w_top ((dayI (a 1) n) (58 + 14 * i + 2)) (rfl) ?_
        refine lv_goto (tgt := 85) hx hb dX0_then_65 (by decide) ?_
        exact hret (hM.cg rfl rfl rfl rfl rfl) (hQ.at hB hN mwEq.rf mwEq.rf (mwEq_dayI hR n) hM.2.2) ⟨hN.1, hN.2.1, by rw [(mwEq_dayI hR n).1]; exact hN.1⟩ hIm hZ (hSh.to hS0 ⟨rfl, rfl, rfl⟩ hM.2.2) (hat.1) dX0_then_85
set_option maxHeartbeats 400000 in
theorem ca_then_ok1 (f : Nat → Int32) (a : Nat → Nat → Int32) (n : Nat) (hn : n ≤ 100) (i : Nat) (hi : i < cl (a 1 3)) (hN0 : okN (a 1 3) 5) (hR : okR (a 1)) : CmF yX0_then cX0_then 5 [(0, 85, 86, 8)] 67 1536 [.int (nI n), .int (nI i), .int (nI 1)] f a (dayI (a 1) n (33 + cl (dayI (a 1) n (58 + 14 * i + 2)))) f (va_up a 3 (a 1)) := by
  refine CmF.ofI (by decide) rfl (Nat.le_of_ble_eq_true rfl) ?_
  intro p l e R s m args below meth c Q D dA h fc wk hd ri rt cw tx nm B S ls hx hb hml hRf hRl hRc hRs htab hts hown hK hI hB hS0 hQ hN hIm hZ hSh hM hl hret hret0
  have hl : lv_has ls 5 [(0, .ref (h 0)), (1, .int (nI n)), (2, .int (nI i)), (3, .int (nI 1))] := hl
  have hN2 := hN0.2
  obtain ⟨hc0, hc1, hat, hc3, hc4⟩ := (okR_dayI hR n).2.2.2.2.2.1 i (by omega)
  have hat2 := hat.2
  refine lv_aload_n hx hb dX0_then_0 rfl (lv_at hl 0 rfl) ?_
  refine lv_iload_n hx hb dX0_then_1 rfl (lv_at hl 1 rfl) ?_
  refine lv_iconst (v := nI 0) hx hb dX0_then_2 (by decide) ?_
  refine lv_bipush (v := nI 100) hx hb dX0_then_3 (by decide) ?_
  refine st_callS (y := yX0_in) hx hb hml hown hts (cmX0_in (nI n) (nI 0) (nI 100)) q330 q331 q61 q332 ndX0_in rfl (by rw [hRf]; decide) (by rw [hRl]; decide) (Nat.zero_le _) (Nat.zero_le _) hl.1 rfl (Nat.le_of_ble_eq_true rfl) dX0_then_5 ?_
  refine w_if_eqT (tgt := 32) hx hb dX0_then_8 (by decide) (fun c_1 => ?_) (fun c_1 => ?_)
  · exact absurd (by first | exact (in_nat (by decide)).mpr ⟨_, by omega, rfl⟩ | exact (in_nat1 _ (by decide) (by decide)).mpr ⟨_, by omega, by omega, rfl⟩ | exact cow_in hN0 (by omega) | assumption) c_1
  · refine lv_aload_n hx hb dX0_then_11 rfl (lv_at hl 0 rfl) ?_
    refine lv_iload_n hx hb dX0_then_12 rfl (lv_at hl 2 rfl) ?_
    refine rd_callV (y := yX0_isCow) hx hb hml hown hts hK (ca_isCow D dA h _ _ _ _ _ _ _ _ _ _ (nI i)) hM.1 (cAt.recv hK (hM.1 0 _ rfl) rfl) q512 q514 qs4 q61 q515 ndX0_isCow rfl (by rw [hRf]; decide) (by rw [hRl]; decide) (Nat.zero_le _) (Nat.zero_le _) hl.1 rfl (Nat.le_of_ble_eq_true rfl) dX0_then_13 ?_
    refine w_if_eqT (tgt := 32) hx hb dX0_then_16 (by decide) (fun c_2 => ?_) (fun c_2 => ?_)
    · exact absurd (by first | exact (in_nat (by decide)).mpr ⟨_, by omega, rfl⟩ | exact (in_nat1 _ (by decide) (by decide)).mpr ⟨_, by omega, by omega, rfl⟩ | exact cow_in hN0 (by omega) | assumption) c_2
    · refine lv_iload_n hx hb dX0_then_19 rfl (lv_at hl 3 rfl) ?_
      refine lv_iconst (v := nI 0) hx hb dX0_then_20 (by decide) ?_
      refine lv_iconst (v := nI 1) hx hb dX0_then_21 (by decide) ?_
      refine st_callS (y := yX0_in) hx hb hml hown hts (cmX0_in (nI 1) (nI 0) (nI 1)) q330 q331 q61 q332 ndX0_in rfl (by rw [hRf]; decide) (by rw [hRl]; decide) (Nat.zero_le _) (Nat.zero_le _) hl.1 rfl (Nat.le_of_ble_eq_true rfl) dX0_then_22 ?_
      refine w_if_eqT (tgt := 32) hx hb dX0_then_25 (by decide) (fun c_3 => ?_) (fun c_3 => ?_)
      · exact absurd (by first | exact (in_nat (by decide)).mpr ⟨_, by omega, rfl⟩ | exact (in_nat1 _ (by decide) (by decide)).mpr ⟨_, by omega, by omega, rfl⟩ | exact cow_in hN0 (by omega) | assumption) c_3
      · refine lv_iconst (v := nI 1) hx hb dX0_then_28 (by decide) ?_
        refine lv_goto (tgt := 33) hx hb dX0_then_29 (by decide) ?_
        refine lv_iconst (v := nI 1) hx hb dX0_then_33 (by decide) ?_
        refine cm_n1 hx hb hml hown hts hK hI hM htab (hpc := 86) rfl q333 (by rw [hRf]; decide) (by rw [hRl]; decide) (Nat.zero_le _) (Nat.zero_le _) hl.1 (Nat.le_of_ble_eq_true rfl) dX0_then_34 (fun locs hM => ?_)
        refine lv_aload_n hx hb dX0_then_37 rfl (lv_at hl 0 rfl) ?_
        refine c_get (v := .ref (hm2 h 0)) hx hb hts in_X0 hown hK (hM.1 0 _ rfl) rfl 3 (by decide) q289 rfl rfl dX0_then_38 ?_
        refine lv_aload_n hx hb dX0_then_41 rfl (lv_at hl 0 rfl) ?_
        refine c_get (v := .ref (hm0 h 0)) hx hb hts in_X0 hown hK (hM.1 0 _ rfl) rfl 1 (by decide) q287 rfl rfl dX0_then_42 ?_
        refine cm_bc20 hx hb hml hown hts hK hI hB hM (hQ.at hB hN mwEq.rf mwEq.rf mwEq.rf hM.2.2) hN.1 (fun w hw => (okR_cow hR hw).1.2) hZ.1 q975 (by rw [hRf]; decide) (by rw [hRl]; decide) (Nat.zero_le _) (Nat.zero_le _) hl.1 (Nat.le_of_ble_eq_true rfl) dX0_then_45 (fun cw1 tx1 ec et H locs hM => ?_)
        have hQ : cmPl D h B (a 1) ri (a 1) (va_up cw 2 cw1) (va_up tx 2 tx1) s.heap := ⟨hQ.1, hQ.2.1, hQ.1.cg hN.1 ec et⟩
        have hN : cl ((a 1) 3) ≤ 5 ∧ cl (ri 3) ≤ 5 ∧ cl ((a 1) 3) ≤ 5 := ⟨hN.1, hN.2.1, hN.1⟩
        refine lv_iload_n hx hb dX0_then_48 rfl (lv_at hl 1 rfl) ?_
        refine cm_mcall2 (y := yX2_goes) hx hb hml hown hts hK hI hB hM (hQ.at hB hN mwEq.rf mwEq.rf mwEq.rf hM.2.2) (hN.2.2) (mw_goes (a 1) hR n (by omega)) q920 q921 q922 q923 ndX2_goes rfl (by rw [hRf]; decide) (by rw [hRl]; decide) (Nat.zero_le _) (Nat.zero_le _) hl.1 rfl (Nat.le_of_ble_eq_true rfl) dX0_then_49 (fun H locs nm hM => ?_)
        refine lv_iload_n hx hb dX0_then_52 rfl (lv_at hl 3 rfl) ?_
        refine lv_if_ne (tgt := 68) hx hb dX0_then_53 (by decide) (fun _ => ?_) (fun q => absurd q (by decide))
        refine lv_aload_n hx hb dX0_then_68 rfl (lv_at hl 0 rfl) ?_
        refine c_get (v := .ref (hm2 h 0)) hx hb hts in_X0 hown hK (hM.1 0 _ rfl) rfl 3 (by decide) q289 rfl rfl dX0_then_69 ?_
        have nq := hK.F 4 rfl
        refine c_getN (v := .ref (hm2 h 2)) hx hb hts in_X2 hown hK ((cm_parts hM.1).2.2.2 0 _ rfl) rfl 1 (by decide) nq rfl rfl dX0_then_72 ?_
        refine lv_aload_n hx hb dX0_then_75 rfl (lv_at hl 0 rfl) ?_
        refine c_get (v := .ref (hm2 h 0)) hx hb hts in_X0 hown hK (hM.1 0 _ rfl) rfl 3 (by decide) q289 rfl rfl dX0_then_76 ?_
        have nq := hK.F 5 rfl
        refine c_getN (v := .ref (hm2 h 4)) hx hb hts in_X2 hown hK ((cm_parts hM.1).2.2.2 0 _ rfl) rfl 5 (by decide) nq rfl rfl dX0_then_79 ?_
        refine lv_iload_n hx hb dX0_then_82 rfl (lv_at hl 2 rfl) ?_
        refine c_iald hx hb hK ((cm_parts hM.1).2.2.2 4 _ rfl) i ⟨by omega, by decide, rfl⟩ dX0_then_83 ?_
        refine w_top ((dayI (a 1) n) (58 + 14 * i + 2)) (rfl) ?_
        refine w_top (nI (cl (dayI (a 1) n (58 + 14 * i + 2)))) (hat.1) ?_
        refine c_iald hx hb hK ((cm_parts hM.1).2.2.2 2 _ rfl) (cl (dayI (a 1) n (58 + 14 * i + 2))) ⟨by omega, by decide, rfl⟩ dX0_then_84 ?_
        refine w_top ((dayI (a 1) n) (33 + (cl (dayI (a 1) n (58 + 14 * i + 2))))) (rfl) ?_
        exact hret (hM.cg rfl rfl rfl rfl rfl) (hQ.at hB hN mwEq.rf mwEq.rf (mwEq_dayI hR n) hM.2.2) ⟨hN.1, hN.2.1, by rw [(mwEq_dayI hR n).1]; exact hN.1⟩ hIm hZ (hSh.to hS0 ⟨rfl, rfl, rfl⟩ hM.2.2) (rfl) dX0_then_85
set_option maxHeartbeats 400000 in
theorem ca_then_e (f : Nat → Int32) (a : Nat → Nat → Int32) (n v w : Int32) (he : ¬ ((nI 0 ≤ n ∧ n ≤ nI 100) ∧ cowP (a 1) v ∧ (nI 0 ≤ w ∧ w ≤ nI 1))) : CmF yX0_then cX0_then 5 [(0, 85, 86, 8)] 2 60 [.int n, .int v, .int w] f a (-1000000001 : Int32) f (mErr a 1) := by
  refine CmF.ofI (by decide) rfl (Nat.le_of_ble_eq_true rfl) ?_
  intro p l e R s m args below meth c Q D dA h fc wk hd ri rt cw tx nm B S ls hx hb hml hRf hRl hRc hRs htab hts hown hK hI hB hS0 hQ hN hIm hZ hSh hM hl hret hret0
  have hl : lv_has ls 5 [(0, .ref (h 0)), (1, .int n), (2, .int v), (3, .int w)] := hl
  refine lv_aload_n hx hb dX0_then_0 rfl (lv_at hl 0 rfl) ?_
  refine lv_iload_n hx hb dX0_then_1 rfl (lv_at hl 1 rfl) ?_
  refine lv_iconst (v := nI 0) hx hb dX0_then_2 (by decide) ?_
  refine lv_bipush (v := nI 100) hx hb dX0_then_3 (by decide) ?_
  refine st_callS (y := yX0_in) hx hb hml hown hts (cmX0_in n (nI 0) (nI 100)) q330 q331 q61 q332 ndX0_in rfl (by rw [hRf]; decide) (by rw [hRl]; decide) (Nat.zero_le _) (Nat.zero_le _) hl.1 rfl (Nat.le_of_ble_eq_true rfl) dX0_then_5 ?_
  refine w_if_eqT (tgt := 32) hx hb dX0_then_8 (by decide) (fun c_1 => ?_) (fun c_1 => ?_)
  · refine lv_iconst (v := nI 0) hx hb dX0_then_32 (by decide) ?_
    refine lv_iconst (v := nI 1) hx hb dX0_then_33 (by decide) ?_
    refine cm_n0 hx hb hml hown hts hK hI hM htab (hpc := 86) rfl q333 (by rw [hRf]; decide) (by rw [hRl]; decide) (Nat.zero_le _) (Nat.zero_le _) hl.1 (Nat.le_of_ble_eq_true rfl) dX0_then_34 (fun H locs hM => ?_)
    refine lv_astore (lv' := [(4, .ref (h 1)), (0, .ref (h 0)), (1, .int n), (2, .int v), (3, .int w)]) hx hb dX0_then_86 hl (by decide) rfl (fun ls hl => ?_)
    refine lv_aload_n hx hb dX0_then_88 rfl (lv_at hl 1 rfl) ?_
    refine lv_aload hx hb dX0_then_89 (lv_at hl 0 rfl) ?_
    refine cm_fin hx hb hml hown hts hK hI 1 (by decide) hM q341 (by rw [hRf]; decide) (by rw [hRl]; decide) (Nat.zero_le _) (Nat.zero_le _) hl.1 (Nat.le_of_ble_eq_true rfl) dX0_then_91 (fun H locs hM => ?_)
    exact hret0 hM (mwEq.rf) rfl rfl ⟨rfl, rfl, rfl⟩ (by decide) dX0_then_94
  · refine lv_aload_n hx hb dX0_then_11 rfl (lv_at hl 0 rfl) ?_
    refine lv_iload_n hx hb dX0_then_12 rfl (lv_at hl 2 rfl) ?_
    refine rd_callV (y := yX0_isCow) hx hb hml hown hts hK (ca_isCow D dA h _ _ _ _ _ _ _ _ _ _ v) hM.1 (cAt.recv hK (hM.1 0 _ rfl) rfl) q512 q514 qs4 q61 q515 ndX0_isCow rfl (by rw [hRf]; decide) (by rw [hRl]; decide) (Nat.zero_le _) (Nat.zero_le _) hl.1 rfl (Nat.le_of_ble_eq_true rfl) dX0_then_13 ?_
    refine w_if_eqT (tgt := 32) hx hb dX0_then_16 (by decide) (fun c_2 => ?_) (fun c_2 => ?_)
    · refine lv_iconst (v := nI 0) hx hb dX0_then_32 (by decide) ?_
      refine lv_iconst (v := nI 1) hx hb dX0_then_33 (by decide) ?_
      refine cm_n0 hx hb hml hown hts hK hI hM htab (hpc := 86) rfl q333 (by rw [hRf]; decide) (by rw [hRl]; decide) (Nat.zero_le _) (Nat.zero_le _) hl.1 (Nat.le_of_ble_eq_true rfl) dX0_then_34 (fun H locs hM => ?_)
      refine lv_astore (lv' := [(4, .ref (h 1)), (0, .ref (h 0)), (1, .int n), (2, .int v), (3, .int w)]) hx hb dX0_then_86 hl (by decide) rfl (fun ls hl => ?_)
      refine lv_aload_n hx hb dX0_then_88 rfl (lv_at hl 1 rfl) ?_
      refine lv_aload hx hb dX0_then_89 (lv_at hl 0 rfl) ?_
      refine cm_fin hx hb hml hown hts hK hI 1 (by decide) hM q341 (by rw [hRf]; decide) (by rw [hRl]; decide) (Nat.zero_le _) (Nat.zero_le _) hl.1 (Nat.le_of_ble_eq_true rfl) dX0_then_91 (fun H locs hM => ?_)
      exact hret0 hM (mwEq.rf) rfl rfl ⟨rfl, rfl, rfl⟩ (by decide) dX0_then_94
    · refine lv_iload_n hx hb dX0_then_19 rfl (lv_at hl 3 rfl) ?_
      refine lv_iconst (v := nI 0) hx hb dX0_then_20 (by decide) ?_
      refine lv_iconst (v := nI 1) hx hb dX0_then_21 (by decide) ?_
      refine st_callS (y := yX0_in) hx hb hml hown hts (cmX0_in w (nI 0) (nI 1)) q330 q331 q61 q332 ndX0_in rfl (by rw [hRf]; decide) (by rw [hRl]; decide) (Nat.zero_le _) (Nat.zero_le _) hl.1 rfl (Nat.le_of_ble_eq_true rfl) dX0_then_22 ?_
      refine w_if_eqT (tgt := 32) hx hb dX0_then_25 (by decide) (fun c_3 => ?_) (fun c_3 => ?_)
      · refine lv_iconst (v := nI 0) hx hb dX0_then_32 (by decide) ?_
        refine lv_iconst (v := nI 1) hx hb dX0_then_33 (by decide) ?_
        refine cm_n0 hx hb hml hown hts hK hI hM htab (hpc := 86) rfl q333 (by rw [hRf]; decide) (by rw [hRl]; decide) (Nat.zero_le _) (Nat.zero_le _) hl.1 (Nat.le_of_ble_eq_true rfl) dX0_then_34 (fun H locs hM => ?_)
        refine lv_astore (lv' := [(4, .ref (h 1)), (0, .ref (h 0)), (1, .int n), (2, .int v), (3, .int w)]) hx hb dX0_then_86 hl (by decide) rfl (fun ls hl => ?_)
        refine lv_aload_n hx hb dX0_then_88 rfl (lv_at hl 1 rfl) ?_
        refine lv_aload hx hb dX0_then_89 (lv_at hl 0 rfl) ?_
        refine cm_fin hx hb hml hown hts hK hI 1 (by decide) hM q341 (by rw [hRf]; decide) (by rw [hRl]; decide) (Nat.zero_le _) (Nat.zero_le _) hl.1 (Nat.le_of_ble_eq_true rfl) dX0_then_91 (fun H locs hM => ?_)
        exact hret0 hM (mwEq.rf) rfl rfl ⟨rfl, rfl, rfl⟩ (by decide) dX0_then_94
      · refine lv_iconst (v := nI 1) hx hb dX0_then_28 (by decide) ?_
        refine lv_goto (tgt := 33) hx hb dX0_then_29 (by decide) ?_
        refine lv_iconst (v := nI 1) hx hb dX0_then_33 (by decide) ?_
        exact absurd ⟨c_1, c_2, c_3⟩ he
set_option maxHeartbeats 400000 in
theorem ca_image_ok (f : Nat → Int32) (a : Nat → Nat → Int32) (hR : okR (a 1)) : CmG yX0_image cX0_image 2  2 61 [] f a (f 5 + nI 1) (upd (upd f 4 (nI 1)) 5 (f 5 + nI 1)) (va_up a 2 (a 1)) := by
  refine CmG.ofI (by decide) rfl (Nat.le_of_ble_eq_true rfl) ?_
  intro p l e R s m args below meth c Q D dA h fc wk hd ri rt cw tx nm B S ls hx hb hml hRf hRl hRc hRs hts hown hK hI hB hS0 hQ hN hIm hZ hSh hM hl hret hret0
  have hl : lv_has ls 2 [(0, .ref (h 0))] := hl
  refine lv_aload_n hx hb dX0_image_0 rfl (lv_at hl 0 rfl) ?_
  refine c_get (v := .ref (hm1 h 0)) hx hb hts in_X0 hown hK (hM.1 0 _ rfl) rfl 2 (by decide) q288 rfl rfl dX0_image_1 ?_
  refine lv_aload_n hx hb dX0_image_4 rfl (lv_at hl 0 rfl) ?_
  refine c_get (v := .ref (hm0 h 0)) hx hb hts in_X0 hown hK (hM.1 0 _ rfl) rfl 1 (by decide) q287 rfl rfl dX0_image_5 ?_
  refine cm_bc10 hx hb hml hown hts hK hI hB hM (hQ.at hB hN mwEq.rf mwEq.rf mwEq.rf hM.2.2) hN.1 (fun w hw => (okR_cow hR hw).1.2) hZ.1 q975 (by rw [hRf]; decide) (by rw [hRl]; decide) (Nat.zero_le _) (Nat.zero_le _) hl.1 (Nat.le_of_ble_eq_true rfl) dX0_image_8 (fun cw1 tx1 ec et H locs hM => ?_)
  have hQ : cmPl D h B (a 1) (a 1) rt (va_up cw 1 cw1) (va_up tx 1 tx1) s.heap := ⟨hQ.1, hQ.1.cg hN.1 ec et, hQ.2.2⟩
  have hN : cl ((a 1) 3) ≤ 5 ∧ cl ((a 1) 3) ≤ 5 ∧ cl (rt 3) ≤ 5 := ⟨hN.1, hN.1, hN.2.2⟩
  refine lv_astore_n (lv' := [(1, .ref (hm1 h 0)), (0, .ref (h 0))]) hx hb dX0_image_11 rfl hl (by decide) rfl (fun ls hl => ?_)
  refine lv_aload_n hx hb dX0_image_12 rfl (lv_at hl 1 rfl) ?_
  refine lv_dup hx hb dX0_image_13 rfl ?_
  refine c_get (v := .int (f 5)) hx hb hts in_X0 hown hK (hM.1 0 _ rfl) rfl 4 (by decide) q290 rfl rfl dX0_image_14 ?_
  refine w_top (f 5) (rfl) ?_
  refine lv_iconst (v := nI 1) hx hb dX0_image_17 (by decide) ?_
  refine lv_iadd hx hb dX0_image_18 ?_
  refine cm_put_images hx hb hts hown hK hI hM q290 dX0_image_19 (fun H locs hM => ?_)
  refine lv_aload_n hx hb dX0_image_22 rfl (lv_at hl 1 rfl) ?_
  refine c_get (v := .int ((upd f 5 ((f 5) + (nI 1))) 5)) hx hb hts in_X0 hown hK (hM.1 0 _ rfl) rfl 4 (by decide) q290 rfl rfl dX0_image_23 ?_
  refine w_top (f 5 + nI 1) (rfl) ?_
  exact hret (hM.cg rfl rfl rfl rfl rfl) (hQ.at hB hN mwEq.rf mwEq.rf mwEq.rf hM.2.2) hN (fun _ => rfl) ⟨hZ.1, fun w z1 z2 => (ec w z2).trans (hZ.1 w z1 z2)⟩ (hSh.to hS0 ⟨rfl, rfl, rfl⟩ hM.2.2) (rfl) dX0_image_26
set_option maxHeartbeats 400000 in
theorem ca_restore_ok (f : Nat → Int32) (a : Nat → Nat → Int32) (hk : ¬ f 4 = 0) (hk5 : ¬ f 5 ≤ 0) (hR2 : okR (a 2)) : CmF yX0_restore cX0_restore 2 [(0, 31, 32, 8)] 2 61 [] f a (a 2 0) f (va_up a 1 (a 2)) := by
  refine CmF.ofI (by decide) rfl (Nat.le_of_ble_eq_true rfl) ?_
  intro p l e R s m args below meth c Q D dA h fc wk hd ri rt cw tx nm B S ls hx hb hml hRf hRl hRc hRs htab hts hown hK hI hB hS0 hQ hN hIm hZ hSh hM hl hret hret0
  have hl : lv_has ls 2 [(0, .ref (h 0))] := hl
  have hri := hIm hk
  subst hri
  refine lv_aload_n hx hb dX0_restore_0 rfl (lv_at hl 0 rfl) ?_
  refine lv_aload_n hx hb dX0_restore_1 rfl (lv_at hl 0 rfl) ?_
  refine c_get (v := .int (f 5)) hx hb hts in_X0 hown hK (hM.1 0 _ rfl) rfl 4 (by decide) q290 rfl rfl dX0_restore_2 ?_
  refine lv_if_le (tgt := 12) hx hb dX0_restore_5 (by decide) (fun c_1 => ?_) (fun c_1 => ?_)
  · exact absurd c_1 hk5
  · refine lv_iconst (v := nI 1) hx hb dX0_restore_8 (by decide) ?_
    refine lv_goto (tgt := 13) hx hb dX0_restore_9 (by decide) ?_
    refine lv_iconst (v := nI 2) hx hb dX0_restore_13 (by decide) ?_
    refine cm_n1 hx hb hml hown hts hK hI hM htab (hpc := 32) rfl q333 (by rw [hRf]; decide) (by rw [hRl]; decide) (Nat.zero_le _) (Nat.zero_le _) hl.1 (Nat.le_of_ble_eq_true rfl) dX0_restore_14 (fun locs hM => ?_)
    refine lv_aload_n hx hb dX0_restore_17 rfl (lv_at hl 0 rfl) ?_
    refine c_get (v := .ref (hm0 h 0)) hx hb hts in_X0 hown hK (hM.1 0 _ rfl) rfl 1 (by decide) q287 rfl rfl dX0_restore_18 ?_
    refine lv_aload_n hx hb dX0_restore_21 rfl (lv_at hl 0 rfl) ?_
    refine c_get (v := .ref (hm1 h 0)) hx hb hts in_X0 hown hK (hM.1 0 _ rfl) rfl 2 (by decide) q288 rfl rfl dX0_restore_22 ?_
    refine cm_bc01 hx hb hml hown hts hK hI hB hM (hQ.at hB hN mwEq.rf mwEq.rf mwEq.rf hM.2.2) hN.2.1 (fun w hw => (okR_cow hR2 hw).1.2) hZ.2 q975 (by rw [hRf]; decide) (by rw [hRl]; decide) (Nat.zero_le _) (Nat.zero_le _) hl.1 (Nat.le_of_ble_eq_true rfl) dX0_restore_25 (fun cw1 tx1 ec et H locs hM => ?_)
    have hQ : cmPl D h B (a 2) (a 2) rt (va_up cw 0 cw1) (va_up tx 0 tx1) s.heap := ⟨hQ.2.1.cg hN.2.1 ec et, hQ.2.1, hQ.2.2⟩
    have hN : cl ((a 2) 3) ≤ 5 ∧ cl ((a 2) 3) ≤ 5 ∧ cl (rt 3) ≤ 5 := ⟨hN.2.1, hN.2.1, hN.2.2⟩
    have nq := hK.F 13 rfl
    refine c_getN (v := .int ((va_up a 1 (a 2)) 1 0)) hx hb hts in_X2 hown hK ((cm_parts hM.1).2.1 0 _ rfl) rfl 8 (by decide) nq rfl rfl dX0_restore_28 ?_
    exact hret hM (hQ.at hB hN mwEq.rf mwEq.rf mwEq.rf hM.2.2) hN (fun _ => rfl) ⟨fun w z1 z2 => (ec w z2).trans (hZ.2 w z1 z2), hZ.2⟩ (hSh.to hS0 ⟨rfl, rfl, rfl⟩ hM.2.2) (rfl) dX0_restore_31
set_option maxHeartbeats 400000 in
theorem ca_restore_e (f : Nat → Int32) (a : Nat → Nat → Int32) (hk5 : f 5 ≤ 0) : CmF yX0_restore cX0_restore 2 [(0, 31, 32, 8)] 2 60 [] f a (-1000000002 : Int32) f (mErr a 2) := by
  refine CmF.ofI (by decide) rfl (Nat.le_of_ble_eq_true rfl) ?_
  intro p l e R s m args below meth c Q D dA h fc wk hd ri rt cw tx nm B S ls hx hb hml hRf hRl hRc hRs htab hts hown hK hI hB hS0 hQ hN hIm hZ hSh hM hl hret hret0
  have hl : lv_has ls 2 [(0, .ref (h 0))] := hl
  refine lv_aload_n hx hb dX0_restore_0 rfl (lv_at hl 0 rfl) ?_
  refine lv_aload_n hx hb dX0_restore_1 rfl (lv_at hl 0 rfl) ?_
  refine c_get (v := .int (f 5)) hx hb hts in_X0 hown hK (hM.1 0 _ rfl) rfl 4 (by decide) q290 rfl rfl dX0_restore_2 ?_
  refine lv_if_le (tgt := 12) hx hb dX0_restore_5 (by decide) (fun c_1 => ?_) (fun c_1 => ?_)
  · refine lv_iconst (v := nI 0) hx hb dX0_restore_12 (by decide) ?_
    refine lv_iconst (v := nI 2) hx hb dX0_restore_13 (by decide) ?_
    refine cm_n0 hx hb hml hown hts hK hI hM htab (hpc := 32) rfl q333 (by rw [hRf]; decide) (by rw [hRl]; decide) (Nat.zero_le _) (Nat.zero_le _) hl.1 (Nat.le_of_ble_eq_true rfl) dX0_restore_14 (fun H locs hM => ?_)
    refine lv_astore_n (lv' := [(1, .ref (h 1)), (0, .ref (h 0))]) hx hb dX0_restore_32 rfl hl (by decide) rfl (fun ls hl => ?_)
    refine lv_aload_n hx hb dX0_restore_33 rfl (lv_at hl 1 rfl) ?_
    refine lv_aload_n hx hb dX0_restore_34 rfl (lv_at hl 0 rfl) ?_
    refine cm_fin hx hb hml hown hts hK hI 2 (by decide) hM q341 (by rw [hRf]; decide) (by rw [hRl]; decide) (Nat.zero_le _) (Nat.zero_le _) hl.1 (Nat.le_of_ble_eq_true rfl) dX0_restore_35 (fun H locs hM => ?_)
    exact hret0 hM (mwEq.rf) rfl rfl ⟨rfl, rfl, rfl⟩ (by decide) dX0_restore_38
  · exact absurd hk5 c_1
