/-! firstBy (printed by comp14.py) -/
set_option maxRecDepth 100000
/-- the act's world, tried being some days on -/
def TrP (D : va_G) (h : Nat → Nat) (dA : Nat → ClassId) (f : Nat → Int32) (a : Nat → Nat → Int32) (fc : Int32) (wk : Nat → Nat → Int32) (hd : Nat → Option Nat) (ri : Nat → Int32) (cw tx : Nat → Nat → Option Nat) (H : Heap) : Prop := ∃ (rt' : Nat → Int32) (cw1 tx1 : Nat → Option Nat) (nm' : Nat → Nat → Int32), mwEq (a 1) rt' ∧ (∀ w, w < 5 → cw1 w = cw 0 w) ∧ (∀ u, u < 2 → tx1 u = tx 0 u) ∧ va_P D cmCl (cmWs h dA f a fc wk hd ri rt' (va_up cw 2 cw1) (va_up tx 2 tx1) nm') H
set_option maxHeartbeats 400000 in
theorem ca_firstBy1_ok (D : va_G) (dA : Nat → ClassId) (h : Nat → Nat) (f : Nat → Int32) (a : Nat → Nat → Int32) (fc : Int32) (wk : Nat → Nat → Int32) (hd : Nat → Option Nat) (ri rt : Nat → Int32) (cw tx : Nat → Nat → Option Nat) (nm : Nat → Nat → Int32) (hI : cmI h) (hN : cl (a 1 3) ≤ 5 ∧ cl (ri 3) ≤ 5 ∧ cl (rt 3) ≤ 5) (hZ : cmZ (a 1) ri cw) (B : Nat → Prop) (hB : ∀ q, B q → ¬ cmA h q) (g : Nat) (hg0 : g < 32) (hg : jugP (a 1) (nI g)) (c0 : Nat) (hc : c0 < 25) (hR : okR (a 1)) (hf : fdN (a 1) (nI g) c0 true 101 0 ≤ 100) : Cg D dA (cmA h) yX0_firstBy cX0_firstBy 5 (some .int) 66 1514 0 0 (.ref (h 0) :: [.int (nI g), .int (nI c0), .int (nI 1)]) (fun H => va_P D cmCl (cmWs h dA f a fc wk hd ri rt cw tx nm) H ∧ cmPl D h B (a 1) ri rt cw tx H) (fun v' H => v' = some (.int (nI (fdN (a 1) (nI g) c0 true 101 0))) ∧ TrP D h dA f a fc wk hd ri cw tx H) := by
  refine Cg.ofI (by decide) (own := RX0) rfl (Nat.le_of_ble_eq_true rfl) ?_
  intro p l e R s m args below meth c Q ls hx hb hml hRf hRl hRc hRs hin hts hown hK hP hl hret
  obtain ⟨hP, hQ⟩ := hP
  have hM : cmH D h dA s.heap s.heap [] f a fc wk hd ri rt cw tx nm := cmH.of hI hP va_S.rf
  have hl : lv_has ls 5 [(0, .ref (h 0)), (1, .int (nI g)), (2, .int (nI c0)), (3, .int (nI 1))] := hl
  refine lv_aload_n hx hb dX0_firstBy_0 rfl (lv_at hl 0 rfl) ?_
  refine lv_aload_n hx hb dX0_firstBy_1 rfl (lv_at hl 0 rfl) ?_
  refine lv_iload_n hx hb dX0_firstBy_2 rfl (lv_at hl 1 rfl) ?_
  refine rd_callV (y := yX0_isJug) hx hb hml hown hts hK (ca_isJug D dA h _ _ _ _ _ _ _ _ _ _ (nI g)) hM.1 (cAt.recv hK (hM.1 0 _ rfl) rfl) q956 q958 qs16 q61 q959 ndX0_isJug rfl (by rw [hRf]; decide) (by rw [hRl]; decide) (Nat.zero_le _) (Nat.zero_le _) hl.1 rfl (Nat.le_of_ble_eq_true rfl) dX0_firstBy_3 ?_
  refine w_if_eqT (tgt := 20) hx hb dX0_firstBy_6 (by decide) (fun c_1 => ?_) (fun c_1 => ?_)
  · exact absurd (by first | exact (in_nat (by decide)).mpr ⟨_, by omega, rfl⟩ | exact (in_nat1 _ (by decide) (by decide)).mpr ⟨_, by omega, by omega, rfl⟩ | exact cow_in hN0 (by omega) | assumption) c_1
  · refine lv_iload_n hx hb dX0_firstBy_9 rfl (lv_at hl 2 rfl) ?_
    refine st_callS (y := yX0_isCell) hx hb hml hown hts (cmX0_isCell (nI c0)) q327 q328 q61 q329 ndX0_isCell rfl (by rw [hRf]; decide) (by rw [hRl]; decide) (Nat.zero_le _) (Nat.zero_le _) hl.1 rfl (Nat.le_of_ble_eq_true rfl) dX0_firstBy_10 ?_
    refine w_if_eqT (tgt := 20) hx hb dX0_firstBy_13 (by decide) (fun c_2 => ?_) (fun c_2 => ?_)
    · exact absurd (by first | exact (in_nat (by decide)).mpr ⟨_, by omega, rfl⟩ | exact (in_nat1 _ (by decide) (by decide)).mpr ⟨_, by omega, by omega, rfl⟩ | exact cow_in hN0 (by omega) | assumption) c_2
    · refine lv_iconst (v := nI 1) hx hb dX0_firstBy_16 (by decide) ?_
      refine lv_goto (tgt := 21) hx hb dX0_firstBy_17 (by decide) ?_
      refine lv_iconst (v := nI 1) hx hb dX0_firstBy_21 (by decide) ?_
      refine cm_needT (b := True) hx hb hml hown hts hK hI hM q333 (by rw [hRf]; decide) (by rw [hRl]; decide) (Nat.zero_le _) (Nat.zero_le _) hl.1 (Nat.le_of_ble_eq_true rfl) dX0_firstBy_22 (fun _ locs hM => ?_) (fun q => absurd trivial q)
      refine lv_aload_n hx hb dX0_firstBy_25 rfl (lv_at hl 0 rfl) ?_
      refine c_get (v := .ref (hm2 h 0)) hx hb hts in_X0 hown hK (hM.1 0 _ rfl) rfl 3 (by decide) q289 rfl rfl dX0_firstBy_26 ?_
      refine lv_aload_n hx hb dX0_firstBy_29 rfl (lv_at hl 0 rfl) ?_
      refine c_get (v := .ref (hm0 h 0)) hx hb hts in_X0 hown hK (hM.1 0 _ rfl) rfl 1 (by decide) q287 rfl rfl dX0_firstBy_30 ?_
      refine cm_bc20 hx hb hml hown hts hK hI hB hM (hQ.at hB hN mwEq.rf mwEq.rf mwEq.rf hM.2.2) hN.1 (fun w hw => (okR_cow hR hw).1.2) hZ.1 q975 (by rw [hRf]; decide) (by rw [hRl]; decide) (Nat.zero_le _) (Nat.zero_le _) hl.1 (Nat.le_of_ble_eq_true rfl) dX0_firstBy_33 (fun cw1 tx1 ec et H locs hM => ?_)
      have hQ : cmPl D h B (a 1) ri (a 1) (va_up cw 2 cw1) (va_up tx 2 tx1) s.heap := ⟨hQ.1, hQ.2.1, hQ.1.cg hN.1 ec et⟩
      have hN : cl ((a 1) 3) ≤ 5 ∧ cl (ri 3) ≤ 5 ∧ cl ((a 1) 3) ≤ 5 := ⟨hN.1, hN.2.1, hN.1⟩
      refine lv_pop hx hb dX0_firstBy_36 rfl ?_
      refine lv_iconst (v := nI 0) hx hb dX0_firstBy_37 (by decide) ?_
      refine lv_istore (lv' := [(4, .int (nI 0)), (0, .ref (h 0)), (1, .int (nI g)), (2, .int (nI c0)), (3, .int (nI 1))]) hx hb dX0_firstBy_38 hl (by decide) rfl (fun ls hl => ?_)
      have loop40 : ∀ (fu : Nat) (k : Nat), (k ≤ 101) → (101 < k + fu) → (fdN (a 1) (nI g) c0 true (101 - k) k = fdN (a 1) (nI g) c0 true 101 0) → ∀ (nm : Nat → Nat → Int32) (H : Heap) (locs : List Loc), cmH D h dA s.heap H locs f a fc wk hd ri (dayI (a 1) k) (va_up cw 2 cw1) (va_up tx 2 tx1) nm → ∀ (ls : Array Slot), lv_has ls 5 [(4, .int (nI k)), (0, .ref (h 0)), (1, .int (nI g)), (2, .int (nI c0)), (3, .int (nI 1))] → W p l e R s m args below meth c H locs 0 0 Q (F0 m 40 ls []) := by
        intro fu
        induction fu with
        | zero =>
          intro k hk hn ee
          omega
        | succ fu ih40 =>
          intro k hk hn ee nm H locs hM ls hl
          refine lv_iload hx hb dX0_firstBy_40 (lv_at hl 0 rfl) ?_
          refine lv_bipush (v := nI 100) hx hb dX0_firstBy_42 (by decide) ?_
          refine w_icmp_gtN (tgt := 81) hx hb (by omega) (by omega) dX0_firstBy_44 (by decide) (fun c_3 => ?_) (fun c_3 => ?_)
          · have hkk : fdN (a 1) (nI g) c0 true 101 0 = k := by rw [← ee, show 101 - k = 0 by omega, fdN]
            refine lv_aload_n hx hb dX0_firstBy_81 rfl (lv_at hl 1 rfl) ?_
            refine lv_iload hx hb dX0_firstBy_82 (lv_at hl 0 rfl) ?_
            refine lv_bipush (v := nI 100) hx hb dX0_firstBy_84 (by decide) ?_
            refine w_icmp_gtN (tgt := 93) hx hb (by omega) (by omega) dX0_firstBy_86 (by decide) (fun c_4 => ?_) (fun c_4 => ?_)
            · exact absurd c_4 (by omega)
            · refine lv_iconst (v := nI 1) hx hb dX0_firstBy_89 (by decide) ?_
              refine lv_goto (tgt := 94) hx hb dX0_firstBy_90 (by decide) ?_
              refine lv_iconst (v := nI 2) hx hb dX0_firstBy_94 (by decide) ?_
              refine cm_needT (b := True) hx hb hml hown hts hK hI hM q333 (by rw [hRf]; decide) (by rw [hRl]; decide) (Nat.zero_le _) (Nat.zero_le _) hl.1 (Nat.le_of_ble_eq_true rfl) dX0_firstBy_95 (fun _ locs hM => ?_) (fun q => absurd trivial q)
              refine lv_iload hx hb dX0_firstBy_98 (lv_at hl 0 rfl) ?_
              exact hret ⟨by rw [hkk], _, _, _, _, (mwEq_dayI hR k), ec, et, hM.1⟩ hM.2.2 dX0_firstBy_100
          · refine lv_aload_n hx hb dX0_firstBy_47 rfl (lv_at hl 1 rfl) ?_
            refine c_get (v := .ref (hm2 h 0)) hx hb hts in_X0 hown hK (hM.1 0 _ rfl) rfl 3 (by decide) q289 rfl rfl dX0_firstBy_48 ?_
            refine lv_iload_n hx hb dX0_firstBy_51 rfl (lv_at hl 2 rfl) ?_
            refine lv_iload_n hx hb dX0_firstBy_52 rfl (lv_at hl 3 rfl) ?_
            refine cm_mcall2 (y := yX2_taste) hx hb hml hown hts hK hI hB hM (hQ.at hB hN mwEq.rf mwEq.rf (mwEq_dayI hR k) hM.2.2) (by rw [(mwEq_dayI hR k).1]; exact hN.1) (mw_taste (dayI (a 1) k) (okR_dayI hR k) g (by omega) c0 (by omega)) q960 q961 q962 q963 ndX2_taste rfl (by rw [hRf]; decide) (by rw [hRl]; decide) (Nat.zero_le _) (Nat.zero_le _) hl.1 rfl (Nat.le_of_ble_eq_true rfl) dX0_firstBy_53 (fun H locs nm hM => ?_)
            refine lv_if_le (tgt := 63) hx hb dX0_firstBy_56 (by decide) (fun c_5 => ?_) (fun c_5 => ?_)
            · refine lv_iconst (v := nI 0) hx hb dX0_firstBy_63 (by decide) ?_
              refine lv_iload_n hx hb dX0_firstBy_64 rfl (lv_at hl 4 rfl) ?_
              refine lv_icmp_eq (tgt := 81) hx hb dX0_firstBy_65 (by decide) (fun q => absurd q (by decide)) (fun _ => ?_)
              refine lv_aload_n hx hb dX0_firstBy_68 rfl (lv_at hl 1 rfl) ?_
              refine c_get (v := .ref (hm2 h 0)) hx hb hts in_X0 hown hK (hM.1 0 _ rfl) rfl 3 (by decide) q289 rfl rfl dX0_firstBy_69 ?_
              refine cm_mcall2 (y := yX2_passes) hx hb hml hown hts hK hI hB hM (hQ.at hB hN mwEq.rf mwEq.rf (mwEq_dayI hR k) hM.2.2) (by rw [(mwEq_dayI hR k).1]; exact hN.1) (mw_passes (dayI (a 1) k) (okR_dayI hR k)) q995 q925 q926 q927 ndX2_passes rfl (by rw [hRf]; decide) (by rw [hRl]; decide) (Nat.zero_le _) (Nat.zero_le _) hl.1 rfl (Nat.le_of_ble_eq_true rfl) dX0_firstBy_72 (fun H locs nm hM => ?_)
              have hee : fdN (a 1) (nI g) c0 true (101 - (k + 1)) (k + 1) = fdN (a 1) (nI g) c0 true 101 0 := by rw [← ee, show 101 - k = (101 - (k + 1)) + 1 by omega, fdN, if_neg (by rw [decide_eq_false (Int32.not_lt.mpr c_5)]; decide)]
              refine lv_iinc (v := nI (k + 1)) (lv' := [(4, .int (nI (k + 1))), (0, .ref (h 0)), (1, .int (nI g)), (2, .int (nI c0)), (3, .int (nI 1))]) hx hb dX0_firstBy_75 hl (k := 0) rfl (by rw [show Int32.ofInt 1 = nI 1 from by decide]; exact nI_add _ _) (by decide) rfl (fun ls hl => ?_)
              refine lv_goto (tgt := 40) hx hb dX0_firstBy_78 (by decide) ?_
              exact ih40 (k + 1) (by omega) (by omega) hee _ _ _ hM ls (lv_sub hl [0, 1, 2, 3, 4] rfl)
            · refine lv_iconst (v := nI 1) hx hb dX0_firstBy_59 (by decide) ?_
              refine lv_goto (tgt := 64) hx hb dX0_firstBy_60 (by decide) ?_
              refine lv_iload_n hx hb dX0_firstBy_64 rfl (lv_at hl 4 rfl) ?_
              refine lv_icmp_eq (tgt := 81) hx hb dX0_firstBy_65 (by decide) (fun _ => ?_) (fun q => absurd q (by decide))
              have hkk : fdN (a 1) (nI g) c0 true 101 0 = k := by rw [← ee, show 101 - k = (101 - (k + 1)) + 1 by omega, fdN, if_pos (by rw [decide_eq_true (Int32.not_le.mp c_5)])]
              refine lv_aload_n hx hb dX0_firstBy_81 rfl (lv_at hl 1 rfl) ?_
              refine lv_iload hx hb dX0_firstBy_82 (lv_at hl 0 rfl) ?_
              refine lv_bipush (v := nI 100) hx hb dX0_firstBy_84 (by decide) ?_
              refine w_icmp_gtN (tgt := 93) hx hb (by omega) (by omega) dX0_firstBy_86 (by decide) (fun c_8 => ?_) (fun c_8 => ?_)
              · exact absurd c_8 (by omega)
              · refine lv_iconst (v := nI 1) hx hb dX0_firstBy_89 (by decide) ?_
                refine lv_goto (tgt := 94) hx hb dX0_firstBy_90 (by decide) ?_
                refine lv_iconst (v := nI 2) hx hb dX0_firstBy_94 (by decide) ?_
                refine cm_needT (b := True) hx hb hml hown hts hK hI hM q333 (by rw [hRf]; decide) (by rw [hRl]; decide) (Nat.zero_le _) (Nat.zero_le _) hl.1 (Nat.le_of_ble_eq_true rfl) dX0_firstBy_95 (fun _ locs hM => ?_) (fun q => absurd trivial q)
                refine lv_iload hx hb dX0_firstBy_98 (lv_at hl 0 rfl) ?_
                exact hret ⟨by rw [hkk], _, _, _, _, (mwEq_dayI hR k), ec, et, hM.1⟩ hM.2.2 dX0_firstBy_100
      exact loop40 102 0 (by omega) (by omega) rfl _ _ _ hM ls (lv_sub hl [0, 1, 2, 3, 4] rfl)
set_option maxHeartbeats 400000 in
theorem ca_firstBy1_n (D : va_G) (dA : Nat → ClassId) (h : Nat → Nat) (f : Nat → Int32) (a : Nat → Nat → Int32) (fc : Int32) (wk : Nat → Nat → Int32) (hd : Nat → Option Nat) (ri rt : Nat → Int32) (cw tx : Nat → Nat → Option Nat) (nm : Nat → Nat → Int32) (hI : cmI h) (hN : cl (a 1 3) ≤ 5 ∧ cl (ri 3) ≤ 5 ∧ cl (rt 3) ≤ 5) (hZ : cmZ (a 1) ri cw) (B : Nat → Prop) (hB : ∀ q, B q → ¬ cmA h q) (g : Nat) (hg0 : g < 32) (hg : jugP (a 1) (nI g)) (c0 : Nat) (hc : c0 < 25) (hR : okR (a 1)) (hf : ¬ fdN (a 1) (nI g) c0 true 101 0 ≤ 100) : Co D dA (cmA h) yX0_firstBy cX0_firstBy 5 (some .int) 66 1514 0 0 (.ref (h 0) :: [.int (nI g), .int (nI c0), .int (nI 1)]) (fun H => va_P D cmCl (cmWs h dA f a fc wk hd ri rt cw tx nm) H ∧ cmPl D h B (a 1) ri rt cw tx H) (fun oc H => oc = .threw (h 1) ∧ TrP D h dA f a (nI 2) wk hd ri cw tx H) := by
  refine Co.ofI (by decide) (own := RX0) rfl (Nat.le_of_ble_eq_true rfl) ?_
  intro p l e R s m args below meth c Q ls hx hb hml hRf hRl hRc hRs hin hts hown hK hP hl hret hthr
  obtain ⟨hP, hQ⟩ := hP
  have hM : cmH D h dA s.heap s.heap [] f a fc wk hd ri rt cw tx nm := cmH.of hI hP va_S.rf
  have hl : lv_has ls 5 [(0, .ref (h 0)), (1, .int (nI g)), (2, .int (nI c0)), (3, .int (nI 1))] := hl
  refine lv_aload_n hx hb dX0_firstBy_0 rfl (lv_at hl 0 rfl) ?_
  refine lv_aload_n hx hb dX0_firstBy_1 rfl (lv_at hl 0 rfl) ?_
  refine lv_iload_n hx hb dX0_firstBy_2 rfl (lv_at hl 1 rfl) ?_
  refine rd_callV (y := yX0_isJug) hx hb hml hown hts hK (ca_isJug D dA h _ _ _ _ _ _ _ _ _ _ (nI g)) hM.1 (cAt.recv hK (hM.1 0 _ rfl) rfl) q956 q958 qs16 q61 q959 ndX0_isJug rfl (by rw [hRf]; decide) (by rw [hRl]; decide) (Nat.zero_le _) (Nat.zero_le _) hl.1 rfl (Nat.le_of_ble_eq_true rfl) dX0_firstBy_3 ?_
  refine w_if_eqT (tgt := 20) hx hb dX0_firstBy_6 (by decide) (fun c_1 => ?_) (fun c_1 => ?_)
  · exact absurd (by first | exact (in_nat (by decide)).mpr ⟨_, by omega, rfl⟩ | exact (in_nat1 _ (by decide) (by decide)).mpr ⟨_, by omega, by omega, rfl⟩ | exact cow_in hN0 (by omega) | assumption) c_1
  · refine lv_iload_n hx hb dX0_firstBy_9 rfl (lv_at hl 2 rfl) ?_
    refine st_callS (y := yX0_isCell) hx hb hml hown hts (cmX0_isCell (nI c0)) q327 q328 q61 q329 ndX0_isCell rfl (by rw [hRf]; decide) (by rw [hRl]; decide) (Nat.zero_le _) (Nat.zero_le _) hl.1 rfl (Nat.le_of_ble_eq_true rfl) dX0_firstBy_10 ?_
    refine w_if_eqT (tgt := 20) hx hb dX0_firstBy_13 (by decide) (fun c_2 => ?_) (fun c_2 => ?_)
    · exact absurd (by first | exact (in_nat (by decide)).mpr ⟨_, by omega, rfl⟩ | exact (in_nat1 _ (by decide) (by decide)).mpr ⟨_, by omega, by omega, rfl⟩ | exact cow_in hN0 (by omega) | assumption) c_2
    · refine lv_iconst (v := nI 1) hx hb dX0_firstBy_16 (by decide) ?_
      refine lv_goto (tgt := 21) hx hb dX0_firstBy_17 (by decide) ?_
      refine lv_iconst (v := nI 1) hx hb dX0_firstBy_21 (by decide) ?_
      refine cm_needT (b := True) hx hb hml hown hts hK hI hM q333 (by rw [hRf]; decide) (by rw [hRl]; decide) (Nat.zero_le _) (Nat.zero_le _) hl.1 (Nat.le_of_ble_eq_true rfl) dX0_firstBy_22 (fun _ locs hM => ?_) (fun q => absurd trivial q)
      refine lv_aload_n hx hb dX0_firstBy_25 rfl (lv_at hl 0 rfl) ?_
      refine c_get (v := .ref (hm2 h 0)) hx hb hts in_X0 hown hK (hM.1 0 _ rfl) rfl 3 (by decide) q289 rfl rfl dX0_firstBy_26 ?_
      refine lv_aload_n hx hb dX0_firstBy_29 rfl (lv_at hl 0 rfl) ?_
      refine c_get (v := .ref (hm0 h 0)) hx hb hts in_X0 hown hK (hM.1 0 _ rfl) rfl 1 (by decide) q287 rfl rfl dX0_firstBy_30 ?_
      refine cm_bc20 hx hb hml hown hts hK hI hB hM (hQ.at hB hN mwEq.rf mwEq.rf mwEq.rf hM.2.2) hN.1 (fun w hw => (okR_cow hR hw).1.2) hZ.1 q975 (by rw [hRf]; decide) (by rw [hRl]; decide) (Nat.zero_le _) (Nat.zero_le _) hl.1 (Nat.le_of_ble_eq_true rfl) dX0_firstBy_33 (fun cw1 tx1 ec et H locs hM => ?_)
      have hQ : cmPl D h B (a 1) ri (a 1) (va_up cw 2 cw1) (va_up tx 2 tx1) s.heap := ⟨hQ.1, hQ.2.1, hQ.1.cg hN.1 ec et⟩
      have hN : cl ((a 1) 3) ≤ 5 ∧ cl (ri 3) ≤ 5 ∧ cl ((a 1) 3) ≤ 5 := ⟨hN.1, hN.2.1, hN.1⟩
      refine lv_pop hx hb dX0_firstBy_36 rfl ?_
      refine lv_iconst (v := nI 0) hx hb dX0_firstBy_37 (by decide) ?_
      refine lv_istore (lv' := [(4, .int (nI 0)), (0, .ref (h 0)), (1, .int (nI g)), (2, .int (nI c0)), (3, .int (nI 1))]) hx hb dX0_firstBy_38 hl (by decide) rfl (fun ls hl => ?_)
      have loop40 : ∀ (fu : Nat) (k : Nat), (k ≤ 101) → (101 < k + fu) → (fdN (a 1) (nI g) c0 true (101 - k) k = fdN (a 1) (nI g) c0 true 101 0) → ∀ (nm : Nat → Nat → Int32) (H : Heap) (locs : List Loc), cmH D h dA s.heap H locs f a fc wk hd ri (dayI (a 1) k) (va_up cw 2 cw1) (va_up tx 2 tx1) nm → ∀ (ls : Array Slot), lv_has ls 5 [(4, .int (nI k)), (0, .ref (h 0)), (1, .int (nI g)), (2, .int (nI c0)), (3, .int (nI 1))] → W p l e R s m args below meth c H locs 0 0 Q (F0 m 40 ls []) := by
        intro fu
        induction fu with
        | zero =>
          intro k hk hn ee
          omega
        | succ fu ih40 =>
          intro k hk hn ee nm H locs hM ls hl
          refine lv_iload hx hb dX0_firstBy_40 (lv_at hl 0 rfl) ?_
          refine lv_bipush (v := nI 100) hx hb dX0_firstBy_42 (by decide) ?_
          refine w_icmp_gtN (tgt := 81) hx hb (by omega) (by omega) dX0_firstBy_44 (by decide) (fun c_3 => ?_) (fun c_3 => ?_)
          · have hkk : fdN (a 1) (nI g) c0 true 101 0 = k := by rw [← ee, show 101 - k = 0 by omega, fdN]
            refine lv_aload_n hx hb dX0_firstBy_81 rfl (lv_at hl 1 rfl) ?_
            refine lv_iload hx hb dX0_firstBy_82 (lv_at hl 0 rfl) ?_
            refine lv_bipush (v := nI 100) hx hb dX0_firstBy_84 (by decide) ?_
            refine w_icmp_gtN (tgt := 93) hx hb (by omega) (by omega) dX0_firstBy_86 (by decide) (fun c_4 => ?_) (fun c_4 => ?_)
            · refine lv_iconst (v := nI 0) hx hb dX0_firstBy_93 (by decide) ?_
              refine lv_iconst (v := nI 2) hx hb dX0_firstBy_94 (by decide) ?_
              exact cm_needT (b := False) hx hb hml hown hts hK hI hM q333 (by rw [hRf]; decide) (by rw [hRl]; decide) (Nat.zero_le _) (Nat.zero_le _) hl.1 (Nat.le_of_ble_eq_true rfl) dX0_firstBy_95 (fun q => q.elim) (fun _ H locs hM => hthr ⟨rfl, _, _, _, _, (mwEq_dayI hR k), ec, et, hM.1⟩ hM.2.2)
            · exact absurd c_4 (by omega)
          · refine lv_aload_n hx hb dX0_firstBy_47 rfl (lv_at hl 1 rfl) ?_
            refine c_get (v := .ref (hm2 h 0)) hx hb hts in_X0 hown hK (hM.1 0 _ rfl) rfl 3 (by decide) q289 rfl rfl dX0_firstBy_48 ?_
            refine lv_iload_n hx hb dX0_firstBy_51 rfl (lv_at hl 2 rfl) ?_
            refine lv_iload_n hx hb dX0_firstBy_52 rfl (lv_at hl 3 rfl) ?_
            refine cm_mcall2 (y := yX2_taste) hx hb hml hown hts hK hI hB hM (hQ.at hB hN mwEq.rf mwEq.rf (mwEq_dayI hR k) hM.2.2) (by rw [(mwEq_dayI hR k).1]; exact hN.1) (mw_taste (dayI (a 1) k) (okR_dayI hR k) g (by omega) c0 (by omega)) q960 q961 q962 q963 ndX2_taste rfl (by rw [hRf]; decide) (by rw [hRl]; decide) (Nat.zero_le _) (Nat.zero_le _) hl.1 rfl (Nat.le_of_ble_eq_true rfl) dX0_firstBy_53 (fun H locs nm hM => ?_)
            refine lv_if_le (tgt := 63) hx hb dX0_firstBy_56 (by decide) (fun c_5 => ?_) (fun c_5 => ?_)
            · refine lv_iconst (v := nI 0) hx hb dX0_firstBy_63 (by decide) ?_
              refine lv_iload_n hx hb dX0_firstBy_64 rfl (lv_at hl 4 rfl) ?_
              refine lv_icmp_eq (tgt := 81) hx hb dX0_firstBy_65 (by decide) (fun q => absurd q (by decide)) (fun _ => ?_)
              refine lv_aload_n hx hb dX0_firstBy_68 rfl (lv_at hl 1 rfl) ?_
              refine c_get (v := .ref (hm2 h 0)) hx hb hts in_X0 hown hK (hM.1 0 _ rfl) rfl 3 (by decide) q289 rfl rfl dX0_firstBy_69 ?_
              refine cm_mcall2 (y := yX2_passes) hx hb hml hown hts hK hI hB hM (hQ.at hB hN mwEq.rf mwEq.rf (mwEq_dayI hR k) hM.2.2) (by rw [(mwEq_dayI hR k).1]; exact hN.1) (mw_passes (dayI (a 1) k) (okR_dayI hR k)) q995 q925 q926 q927 ndX2_passes rfl (by rw [hRf]; decide) (by rw [hRl]; decide) (Nat.zero_le _) (Nat.zero_le _) hl.1 rfl (Nat.le_of_ble_eq_true rfl) dX0_firstBy_72 (fun H locs nm hM => ?_)
              have hee : fdN (a 1) (nI g) c0 true (101 - (k + 1)) (k + 1) = fdN (a 1) (nI g) c0 true 101 0 := by rw [← ee, show 101 - k = (101 - (k + 1)) + 1 by omega, fdN, if_neg (by rw [decide_eq_false (Int32.not_lt.mpr c_5)]; decide)]
              refine lv_iinc (v := nI (k + 1)) (lv' := [(4, .int (nI (k + 1))), (0, .ref (h 0)), (1, .int (nI g)), (2, .int (nI c0)), (3, .int (nI 1))]) hx hb dX0_firstBy_75 hl (k := 0) rfl (by rw [show Int32.ofInt 1 = nI 1 from by decide]; exact nI_add _ _) (by decide) rfl (fun ls hl => ?_)
              refine lv_goto (tgt := 40) hx hb dX0_firstBy_78 (by decide) ?_
              exact ih40 (k + 1) (by omega) (by omega) hee _ _ _ hM ls (lv_sub hl [0, 1, 2, 3, 4] rfl)
            · refine lv_iconst (v := nI 1) hx hb dX0_firstBy_59 (by decide) ?_
              refine lv_goto (tgt := 64) hx hb dX0_firstBy_60 (by decide) ?_
              refine lv_iload_n hx hb dX0_firstBy_64 rfl (lv_at hl 4 rfl) ?_
              refine lv_icmp_eq (tgt := 81) hx hb dX0_firstBy_65 (by decide) (fun _ => ?_) (fun q => absurd q (by decide))
              have hkk : fdN (a 1) (nI g) c0 true 101 0 = k := by rw [← ee, show 101 - k = (101 - (k + 1)) + 1 by omega, fdN, if_pos (by rw [decide_eq_true (Int32.not_le.mp c_5)])]
              refine lv_aload_n hx hb dX0_firstBy_81 rfl (lv_at hl 1 rfl) ?_
              refine lv_iload hx hb dX0_firstBy_82 (lv_at hl 0 rfl) ?_
              refine lv_bipush (v := nI 100) hx hb dX0_firstBy_84 (by decide) ?_
              refine w_icmp_gtN (tgt := 93) hx hb (by omega) (by omega) dX0_firstBy_86 (by decide) (fun c_8 => ?_) (fun c_8 => ?_)
              · refine lv_iconst (v := nI 0) hx hb dX0_firstBy_93 (by decide) ?_
                refine lv_iconst (v := nI 2) hx hb dX0_firstBy_94 (by decide) ?_
                exact cm_needT (b := False) hx hb hml hown hts hK hI hM q333 (by rw [hRf]; decide) (by rw [hRl]; decide) (Nat.zero_le _) (Nat.zero_le _) hl.1 (Nat.le_of_ble_eq_true rfl) dX0_firstBy_95 (fun q => q.elim) (fun _ H locs hM => hthr ⟨rfl, _, _, _, _, (mwEq_dayI hR k), ec, et, hM.1⟩ hM.2.2)
              · exact absurd c_8 (by omega)
      exact loop40 102 0 (by omega) (by omega) rfl _ _ _ hM ls (lv_sub hl [0, 1, 2, 3, 4] rfl)
set_option maxHeartbeats 400000 in
theorem ca_firstBy1_e (D : va_G) (dA : Nat → ClassId) (h : Nat → Nat) (f : Nat → Int32) (a : Nat → Nat → Int32) (fc : Int32) (wk : Nat → Nat → Int32) (hd : Nat → Option Nat) (ri rt : Nat → Int32) (cw tx : Nat → Nat → Option Nat) (nm : Nat → Nat → Int32) (hI : cmI h) (hN : cl (a 1 3) ≤ 5 ∧ cl (ri 3) ≤ 5 ∧ cl (rt 3) ≤ 5) (hZ : cmZ (a 1) ri cw) (B : Nat → Prop) (hB : ∀ q, B q → ¬ cmA h q) (g c0 : Int32) (he : ¬ (jugP (a 1) g ∧ (nI 0 ≤ c0 ∧ c0 ≤ nI 24))) : Co D dA (cmA h) yX0_firstBy cX0_firstBy 5 (some .int) 66 1514 0 0 (.ref (h 0) :: [.int g, .int c0, .int (nI 1)]) (fun H => va_P D cmCl (cmWs h dA f a fc wk hd ri rt cw tx nm) H ∧ cmPl D h B (a 1) ri rt cw tx H) (fun oc H => oc = .threw (h 1) ∧ va_P D cmCl (cmWs h dA f a (nI 1) wk hd ri rt cw tx nm) H) := by
  refine Co.ofI (by decide) (own := RX0) rfl (Nat.le_of_ble_eq_true rfl) ?_
  intro p l e R s m args below meth c Q ls hx hb hml hRf hRl hRc hRs hin hts hown hK hP hl hret hthr
  obtain ⟨hP, hQ⟩ := hP
  have hM : cmH D h dA s.heap s.heap [] f a fc wk hd ri rt cw tx nm := cmH.of hI hP va_S.rf
  have hl : lv_has ls 5 [(0, .ref (h 0)), (1, .int g), (2, .int c0), (3, .int (nI 1))] := hl
  refine lv_aload_n hx hb dX0_firstBy_0 rfl (lv_at hl 0 rfl) ?_
  refine lv_aload_n hx hb dX0_firstBy_1 rfl (lv_at hl 0 rfl) ?_
  refine lv_iload_n hx hb dX0_firstBy_2 rfl (lv_at hl 1 rfl) ?_
  refine rd_callV (y := yX0_isJug) hx hb hml hown hts hK (ca_isJug D dA h _ _ _ _ _ _ _ _ _ _ g) hM.1 (cAt.recv hK (hM.1 0 _ rfl) rfl) q956 q958 qs16 q61 q959 ndX0_isJug rfl (by rw [hRf]; decide) (by rw [hRl]; decide) (Nat.zero_le _) (Nat.zero_le _) hl.1 rfl (Nat.le_of_ble_eq_true rfl) dX0_firstBy_3 ?_
  refine w_if_eqT (tgt := 20) hx hb dX0_firstBy_6 (by decide) (fun c_1 => ?_) (fun c_1 => ?_)
  · refine lv_iconst (v := nI 0) hx hb dX0_firstBy_20 (by decide) ?_
    refine lv_iconst (v := nI 1) hx hb dX0_firstBy_21 (by decide) ?_
    exact cm_needT (b := False) hx hb hml hown hts hK hI hM q333 (by rw [hRf]; decide) (by rw [hRl]; decide) (Nat.zero_le _) (Nat.zero_le _) hl.1 (Nat.le_of_ble_eq_true rfl) dX0_firstBy_22 (fun q => q.elim) (fun _ H locs hM => hthr ⟨rfl, hM.1⟩ hM.2.2)
  · refine lv_iload_n hx hb dX0_firstBy_9 rfl (lv_at hl 2 rfl) ?_
    refine st_callS (y := yX0_isCell) hx hb hml hown hts (cmX0_isCell c0) q327 q328 q61 q329 ndX0_isCell rfl (by rw [hRf]; decide) (by rw [hRl]; decide) (Nat.zero_le _) (Nat.zero_le _) hl.1 rfl (Nat.le_of_ble_eq_true rfl) dX0_firstBy_10 ?_
    refine w_if_eqT (tgt := 20) hx hb dX0_firstBy_13 (by decide) (fun c_2 => ?_) (fun c_2 => ?_)
    · refine lv_iconst (v := nI 0) hx hb dX0_firstBy_20 (by decide) ?_
      refine lv_iconst (v := nI 1) hx hb dX0_firstBy_21 (by decide) ?_
      exact cm_needT (b := False) hx hb hml hown hts hK hI hM q333 (by rw [hRf]; decide) (by rw [hRl]; decide) (Nat.zero_le _) (Nat.zero_le _) hl.1 (Nat.le_of_ble_eq_true rfl) dX0_firstBy_22 (fun q => q.elim) (fun _ H locs hM => hthr ⟨rfl, hM.1⟩ hM.2.2)
    · refine lv_iconst (v := nI 1) hx hb dX0_firstBy_16 (by decide) ?_
      refine lv_goto (tgt := 21) hx hb dX0_firstBy_17 (by decide) ?_
      refine lv_iconst (v := nI 1) hx hb dX0_firstBy_21 (by decide) ?_
      exact absurd ⟨c_1, c_2⟩ he
set_option maxHeartbeats 400000 in
theorem ca_firstBy0_ok (D : va_G) (dA : Nat → ClassId) (h : Nat → Nat) (f : Nat → Int32) (a : Nat → Nat → Int32) (fc : Int32) (wk : Nat → Nat → Int32) (hd : Nat → Option Nat) (ri rt : Nat → Int32) (cw tx : Nat → Nat → Option Nat) (nm : Nat → Nat → Int32) (hI : cmI h) (hN : cl (a 1 3) ≤ 5 ∧ cl (ri 3) ≤ 5 ∧ cl (rt 3) ≤ 5) (hZ : cmZ (a 1) ri cw) (B : Nat → Prop) (hB : ∀ q, B q → ¬ cmA h q) (g : Nat) (hg0 : g < 32) (hg : jugP (a 1) (nI g)) (c0 : Nat) (hc : c0 < 25) (hR : okR (a 1)) (hf : fdN (a 1) (nI g) c0 false 101 0 ≤ 100) : Cg D dA (cmA h) yX0_firstBy cX0_firstBy 5 (some .int) 66 1514 0 0 (.ref (h 0) :: [.int (nI g), .int (nI c0), .int (nI 0)]) (fun H => va_P D cmCl (cmWs h dA f a fc wk hd ri rt cw tx nm) H ∧ cmPl D h B (a 1) ri rt cw tx H) (fun v' H => v' = some (.int (nI (fdN (a 1) (nI g) c0 false 101 0))) ∧ TrP D h dA f a fc wk hd ri cw tx H) := by
  refine Cg.ofI (by decide) (own := RX0) rfl (Nat.le_of_ble_eq_true rfl) ?_
  intro p l e R s m args below meth c Q ls hx hb hml hRf hRl hRc hRs hin hts hown hK hP hl hret
  obtain ⟨hP, hQ⟩ := hP
  have hM : cmH D h dA s.heap s.heap [] f a fc wk hd ri rt cw tx nm := cmH.of hI hP va_S.rf
  have hl : lv_has ls 5 [(0, .ref (h 0)), (1, .int (nI g)), (2, .int (nI c0)), (3, .int (nI 0))] := hl
  refine lv_aload_n hx hb dX0_firstBy_0 rfl (lv_at hl 0 rfl) ?_
  refine lv_aload_n hx hb dX0_firstBy_1 rfl (lv_at hl 0 rfl) ?_
  refine lv_iload_n hx hb dX0_firstBy_2 rfl (lv_at hl 1 rfl) ?_
  refine rd_callV (y := yX0_isJug) hx hb hml hown hts hK (ca_isJug D dA h _ _ _ _ _ _ _ _ _ _ (nI g)) hM.1 (cAt.recv hK (hM.1 0 _ rfl) rfl) q956 q958 qs16 q61 q959 ndX0_isJug rfl (by rw [hRf]; decide) (by rw [hRl]; decide) (Nat.zero_le _) (Nat.zero_le _) hl.1 rfl (Nat.le_of_ble_eq_true rfl) dX0_firstBy_3 ?_
  refine w_if_eqT (tgt := 20) hx hb dX0_firstBy_6 (by decide) (fun c_1 => ?_) (fun c_1 => ?_)
  · exact absurd (by first | exact (in_nat (by decide)).mpr ⟨_, by omega, rfl⟩ | exact (in_nat1 _ (by decide) (by decide)).mpr ⟨_, by omega, by omega, rfl⟩ | exact cow_in hN0 (by omega) | assumption) c_1
  · refine lv_iload_n hx hb dX0_firstBy_9 rfl (lv_at hl 2 rfl) ?_
    refine st_callS (y := yX0_isCell) hx hb hml hown hts (cmX0_isCell (nI c0)) q327 q328 q61 q329 ndX0_isCell rfl (by rw [hRf]; decide) (by rw [hRl]; decide) (Nat.zero_le _) (Nat.zero_le _) hl.1 rfl (Nat.le_of_ble_eq_true rfl) dX0_firstBy_10 ?_
    refine w_if_eqT (tgt := 20) hx hb dX0_firstBy_13 (by decide) (fun c_2 => ?_) (fun c_2 => ?_)
    · exact absurd (by first | exact (in_nat (by decide)).mpr ⟨_, by omega, rfl⟩ | exact (in_nat1 _ (by decide) (by decide)).mpr ⟨_, by omega, by omega, rfl⟩ | exact cow_in hN0 (by omega) | assumption) c_2
    · refine lv_iconst (v := nI 1) hx hb dX0_firstBy_16 (by decide) ?_
      refine lv_goto (tgt := 21) hx hb dX0_firstBy_17 (by decide) ?_
      refine lv_iconst (v := nI 1) hx hb dX0_firstBy_21 (by decide) ?_
      refine cm_needT (b := True) hx hb hml hown hts hK hI hM q333 (by rw [hRf]; decide) (by rw [hRl]; decide) (Nat.zero_le _) (Nat.zero_le _) hl.1 (Nat.le_of_ble_eq_true rfl) dX0_firstBy_22 (fun _ locs hM => ?_) (fun q => absurd trivial q)
      refine lv_aload_n hx hb dX0_firstBy_25 rfl (lv_at hl 0 rfl) ?_
      refine c_get (v := .ref (hm2 h 0)) hx hb hts in_X0 hown hK (hM.1 0 _ rfl) rfl 3 (by decide) q289 rfl rfl dX0_firstBy_26 ?_
      refine lv_aload_n hx hb dX0_firstBy_29 rfl (lv_at hl 0 rfl) ?_
      refine c_get (v := .ref (hm0 h 0)) hx hb hts in_X0 hown hK (hM.1 0 _ rfl) rfl 1 (by decide) q287 rfl rfl dX0_firstBy_30 ?_
      refine cm_bc20 hx hb hml hown hts hK hI hB hM (hQ.at hB hN mwEq.rf mwEq.rf mwEq.rf hM.2.2) hN.1 (fun w hw => (okR_cow hR hw).1.2) hZ.1 q975 (by rw [hRf]; decide) (by rw [hRl]; decide) (Nat.zero_le _) (Nat.zero_le _) hl.1 (Nat.le_of_ble_eq_true rfl) dX0_firstBy_33 (fun cw1 tx1 ec et H locs hM => ?_)
      have hQ : cmPl D h B (a 1) ri (a 1) (va_up cw 2 cw1) (va_up tx 2 tx1) s.heap := ⟨hQ.1, hQ.2.1, hQ.1.cg hN.1 ec et⟩
      have hN : cl ((a 1) 3) ≤ 5 ∧ cl (ri 3) ≤ 5 ∧ cl ((a 1) 3) ≤ 5 := ⟨hN.1, hN.2.1, hN.1⟩
      refine lv_pop hx hb dX0_firstBy_36 rfl ?_
      refine lv_iconst (v := nI 0) hx hb dX0_firstBy_37 (by decide) ?_
      refine lv_istore (lv' := [(4, .int (nI 0)), (0, .ref (h 0)), (1, .int (nI g)), (2, .int (nI c0)), (3, .int (nI 0))]) hx hb dX0_firstBy_38 hl (by decide) rfl (fun ls hl => ?_)
      have loop40 : ∀ (fu : Nat) (k : Nat), (k ≤ 101) → (101 < k + fu) → (fdN (a 1) (nI g) c0 false (101 - k) k = fdN (a 1) (nI g) c0 false 101 0) → ∀ (nm : Nat → Nat → Int32) (H : Heap) (locs : List Loc), cmH D h dA s.heap H locs f a fc wk hd ri (dayI (a 1) k) (va_up cw 2 cw1) (va_up tx 2 tx1) nm → ∀ (ls : Array Slot), lv_has ls 5 [(4, .int (nI k)), (0, .ref (h 0)), (1, .int (nI g)), (2, .int (nI c0)), (3, .int (nI 0))] → W p l e R s m args below meth c H locs 0 0 Q (F0 m 40 ls []) := by
        intro fu
        induction fu with
        | zero =>
          intro k hk hn ee
          omega
        | succ fu ih40 =>
          intro k hk hn ee nm H locs hM ls hl
          refine lv_iload hx hb dX0_firstBy_40 (lv_at hl 0 rfl) ?_
          refine lv_bipush (v := nI 100) hx hb dX0_firstBy_42 (by decide) ?_
          refine w_icmp_gtN (tgt := 81) hx hb (by omega) (by omega) dX0_firstBy_44 (by decide) (fun c_3 => ?_) (fun c_3 => ?_)
          · have hkk : fdN (a 1) (nI g) c0 false 101 0 = k := by rw [← ee, show 101 - k = 0 by omega, fdN]
            refine lv_aload_n hx hb dX0_firstBy_81 rfl (lv_at hl 1 rfl) ?_
            refine lv_iload hx hb dX0_firstBy_82 (lv_at hl 0 rfl) ?_
            refine lv_bipush (v := nI 100) hx hb dX0_firstBy_84 (by decide) ?_
            refine w_icmp_gtN (tgt := 93) hx hb (by omega) (by omega) dX0_firstBy_86 (by decide) (fun c_4 => ?_) (fun c_4 => ?_)
            · exact absurd c_4 (by omega)
            · refine lv_iconst (v := nI 1) hx hb dX0_firstBy_89 (by decide) ?_
              refine lv_goto (tgt := 94) hx hb dX0_firstBy_90 (by decide) ?_
              refine lv_iconst (v := nI 2) hx hb dX0_firstBy_94 (by decide) ?_
              refine cm_needT (b := True) hx hb hml hown hts hK hI hM q333 (by rw [hRf]; decide) (by rw [hRl]; decide) (Nat.zero_le _) (Nat.zero_le _) hl.1 (Nat.le_of_ble_eq_true rfl) dX0_firstBy_95 (fun _ locs hM => ?_) (fun q => absurd trivial q)
              refine lv_iload hx hb dX0_firstBy_98 (lv_at hl 0 rfl) ?_
              exact hret ⟨by rw [hkk], _, _, _, _, (mwEq_dayI hR k), ec, et, hM.1⟩ hM.2.2 dX0_firstBy_100
          · refine lv_aload_n hx hb dX0_firstBy_47 rfl (lv_at hl 1 rfl) ?_
            refine c_get (v := .ref (hm2 h 0)) hx hb hts in_X0 hown hK (hM.1 0 _ rfl) rfl 3 (by decide) q289 rfl rfl dX0_firstBy_48 ?_
            refine lv_iload_n hx hb dX0_firstBy_51 rfl (lv_at hl 2 rfl) ?_
            refine lv_iload_n hx hb dX0_firstBy_52 rfl (lv_at hl 3 rfl) ?_
            refine cm_mcall2 (y := yX2_taste) hx hb hml hown hts hK hI hB hM (hQ.at hB hN mwEq.rf mwEq.rf (mwEq_dayI hR k) hM.2.2) (by rw [(mwEq_dayI hR k).1]; exact hN.1) (mw_taste (dayI (a 1) k) (okR_dayI hR k) g (by omega) c0 (by omega)) q960 q961 q962 q963 ndX2_taste rfl (by rw [hRf]; decide) (by rw [hRl]; decide) (Nat.zero_le _) (Nat.zero_le _) hl.1 rfl (Nat.le_of_ble_eq_true rfl) dX0_firstBy_53 (fun H locs nm hM => ?_)
            refine lv_if_le (tgt := 63) hx hb dX0_firstBy_56 (by decide) (fun c_5 => ?_) (fun c_5 => ?_)
            · refine lv_iconst (v := nI 0) hx hb dX0_firstBy_63 (by decide) ?_
              refine lv_iload_n hx hb dX0_firstBy_64 rfl (lv_at hl 4 rfl) ?_
              refine lv_icmp_eq (tgt := 81) hx hb dX0_firstBy_65 (by decide) (fun _ => ?_) (fun q => absurd q (by decide))
              have hkk : fdN (a 1) (nI g) c0 false 101 0 = k := by rw [← ee, show 101 - k = (101 - (k + 1)) + 1 by omega, fdN, if_pos (by rw [decide_eq_false (Int32.not_lt.mpr c_5)])]
              refine lv_aload_n hx hb dX0_firstBy_81 rfl (lv_at hl 1 rfl) ?_
              refine lv_iload hx hb dX0_firstBy_82 (lv_at hl 0 rfl) ?_
              refine lv_bipush (v := nI 100) hx hb dX0_firstBy_84 (by decide) ?_
              refine w_icmp_gtN (tgt := 93) hx hb (by omega) (by omega) dX0_firstBy_86 (by decide) (fun c_7 => ?_) (fun c_7 => ?_)
              · exact absurd c_7 (by omega)
              · refine lv_iconst (v := nI 1) hx hb dX0_firstBy_89 (by decide) ?_
                refine lv_goto (tgt := 94) hx hb dX0_firstBy_90 (by decide) ?_
                refine lv_iconst (v := nI 2) hx hb dX0_firstBy_94 (by decide) ?_
                refine cm_needT (b := True) hx hb hml hown hts hK hI hM q333 (by rw [hRf]; decide) (by rw [hRl]; decide) (Nat.zero_le _) (Nat.zero_le _) hl.1 (Nat.le_of_ble_eq_true rfl) dX0_firstBy_95 (fun _ locs hM => ?_) (fun q => absurd trivial q)
                refine lv_iload hx hb dX0_firstBy_98 (lv_at hl 0 rfl) ?_
                exact hret ⟨by rw [hkk], _, _, _, _, (mwEq_dayI hR k), ec, et, hM.1⟩ hM.2.2 dX0_firstBy_100
            · refine lv_iconst (v := nI 1) hx hb dX0_firstBy_59 (by decide) ?_
              refine lv_goto (tgt := 64) hx hb dX0_firstBy_60 (by decide) ?_
              refine lv_iload_n hx hb dX0_firstBy_64 rfl (lv_at hl 4 rfl) ?_
              refine lv_icmp_eq (tgt := 81) hx hb dX0_firstBy_65 (by decide) (fun q => absurd q (by decide)) (fun _ => ?_)
              refine lv_aload_n hx hb dX0_firstBy_68 rfl (lv_at hl 1 rfl) ?_
              refine c_get (v := .ref (hm2 h 0)) hx hb hts in_X0 hown hK (hM.1 0 _ rfl) rfl 3 (by decide) q289 rfl rfl dX0_firstBy_69 ?_
              refine cm_mcall2 (y := yX2_passes) hx hb hml hown hts hK hI hB hM (hQ.at hB hN mwEq.rf mwEq.rf (mwEq_dayI hR k) hM.2.2) (by rw [(mwEq_dayI hR k).1]; exact hN.1) (mw_passes (dayI (a 1) k) (okR_dayI hR k)) q995 q925 q926 q927 ndX2_passes rfl (by rw [hRf]; decide) (by rw [hRl]; decide) (Nat.zero_le _) (Nat.zero_le _) hl.1 rfl (Nat.le_of_ble_eq_true rfl) dX0_firstBy_72 (fun H locs nm hM => ?_)
              have hee : fdN (a 1) (nI g) c0 false (101 - (k + 1)) (k + 1) = fdN (a 1) (nI g) c0 false 101 0 := by rw [← ee, show 101 - k = (101 - (k + 1)) + 1 by omega, fdN, if_neg (by rw [decide_eq_true (Int32.not_le.mp c_5)]; decide)]
              refine lv_iinc (v := nI (k + 1)) (lv' := [(4, .int (nI (k + 1))), (0, .ref (h 0)), (1, .int (nI g)), (2, .int (nI c0)), (3, .int (nI 0))]) hx hb dX0_firstBy_75 hl (k := 0) rfl (by rw [show Int32.ofInt 1 = nI 1 from by decide]; exact nI_add _ _) (by decide) rfl (fun ls hl => ?_)
              refine lv_goto (tgt := 40) hx hb dX0_firstBy_78 (by decide) ?_
              exact ih40 (k + 1) (by omega) (by omega) hee _ _ _ hM ls (lv_sub hl [0, 1, 2, 3, 4] rfl)
      exact loop40 102 0 (by omega) (by omega) rfl _ _ _ hM ls (lv_sub hl [0, 1, 2, 3, 4] rfl)
set_option maxHeartbeats 400000 in
theorem ca_firstBy0_n (D : va_G) (dA : Nat → ClassId) (h : Nat → Nat) (f : Nat → Int32) (a : Nat → Nat → Int32) (fc : Int32) (wk : Nat → Nat → Int32) (hd : Nat → Option Nat) (ri rt : Nat → Int32) (cw tx : Nat → Nat → Option Nat) (nm : Nat → Nat → Int32) (hI : cmI h) (hN : cl (a 1 3) ≤ 5 ∧ cl (ri 3) ≤ 5 ∧ cl (rt 3) ≤ 5) (hZ : cmZ (a 1) ri cw) (B : Nat → Prop) (hB : ∀ q, B q → ¬ cmA h q) (g : Nat) (hg0 : g < 32) (hg : jugP (a 1) (nI g)) (c0 : Nat) (hc : c0 < 25) (hR : okR (a 1)) (hf : ¬ fdN (a 1) (nI g) c0 false 101 0 ≤ 100) : Co D dA (cmA h) yX0_firstBy cX0_firstBy 5 (some .int) 66 1514 0 0 (.ref (h 0) :: [.int (nI g), .int (nI c0), .int (nI 0)]) (fun H => va_P D cmCl (cmWs h dA f a fc wk hd ri rt cw tx nm) H ∧ cmPl D h B (a 1) ri rt cw tx H) (fun oc H => oc = .threw (h 1) ∧ TrP D h dA f a (nI 2) wk hd ri cw tx H) := by
  refine Co.ofI (by decide) (own := RX0) rfl (Nat.le_of_ble_eq_true rfl) ?_
  intro p l e R s m args below meth c Q ls hx hb hml hRf hRl hRc hRs hin hts hown hK hP hl hret hthr
  obtain ⟨hP, hQ⟩ := hP
  have hM : cmH D h dA s.heap s.heap [] f a fc wk hd ri rt cw tx nm := cmH.of hI hP va_S.rf
  have hl : lv_has ls 5 [(0, .ref (h 0)), (1, .int (nI g)), (2, .int (nI c0)), (3, .int (nI 0))] := hl
  refine lv_aload_n hx hb dX0_firstBy_0 rfl (lv_at hl 0 rfl) ?_
  refine lv_aload_n hx hb dX0_firstBy_1 rfl (lv_at hl 0 rfl) ?_
  refine lv_iload_n hx hb dX0_firstBy_2 rfl (lv_at hl 1 rfl) ?_
  refine rd_callV (y := yX0_isJug) hx hb hml hown hts hK (ca_isJug D dA h _ _ _ _ _ _ _ _ _ _ (nI g)) hM.1 (cAt.recv hK (hM.1 0 _ rfl) rfl) q956 q958 qs16 q61 q959 ndX0_isJug rfl (by rw [hRf]; decide) (by rw [hRl]; decide) (Nat.zero_le _) (Nat.zero_le _) hl.1 rfl (Nat.le_of_ble_eq_true rfl) dX0_firstBy_3 ?_
  refine w_if_eqT (tgt := 20) hx hb dX0_firstBy_6 (by decide) (fun c_1 => ?_) (fun c_1 => ?_)
  · exact absurd (by first | exact (in_nat (by decide)).mpr ⟨_, by omega, rfl⟩ | exact (in_nat1 _ (by decide) (by decide)).mpr ⟨_, by omega, by omega, rfl⟩ | exact cow_in hN0 (by omega) | assumption) c_1
  · refine lv_iload_n hx hb dX0_firstBy_9 rfl (lv_at hl 2 rfl) ?_
    refine st_callS (y := yX0_isCell) hx hb hml hown hts (cmX0_isCell (nI c0)) q327 q328 q61 q329 ndX0_isCell rfl (by rw [hRf]; decide) (by rw [hRl]; decide) (Nat.zero_le _) (Nat.zero_le _) hl.1 rfl (Nat.le_of_ble_eq_true rfl) dX0_firstBy_10 ?_
    refine w_if_eqT (tgt := 20) hx hb dX0_firstBy_13 (by decide) (fun c_2 => ?_) (fun c_2 => ?_)
    · exact absurd (by first | exact (in_nat (by decide)).mpr ⟨_, by omega, rfl⟩ | exact (in_nat1 _ (by decide) (by decide)).mpr ⟨_, by omega, by omega, rfl⟩ | exact cow_in hN0 (by omega) | assumption) c_2
    · refine lv_iconst (v := nI 1) hx hb dX0_firstBy_16 (by decide) ?_
      refine lv_goto (tgt := 21) hx hb dX0_firstBy_17 (by decide) ?_
      refine lv_iconst (v := nI 1) hx hb dX0_firstBy_21 (by decide) ?_
      refine cm_needT (b := True) hx hb hml hown hts hK hI hM q333 (by rw [hRf]; decide) (by rw [hRl]; decide) (Nat.zero_le _) (Nat.zero_le _) hl.1 (Nat.le_of_ble_eq_true rfl) dX0_firstBy_22 (fun _ locs hM => ?_) (fun q => absurd trivial q)
      refine lv_aload_n hx hb dX0_firstBy_25 rfl (lv_at hl 0 rfl) ?_
      refine c_get (v := .ref (hm2 h 0)) hx hb hts in_X0 hown hK (hM.1 0 _ rfl) rfl 3 (by decide) q289 rfl rfl dX0_firstBy_26 ?_
      refine lv_aload_n hx hb dX0_firstBy_29 rfl (lv_at hl 0 rfl) ?_
      refine c_get (v := .ref (hm0 h 0)) hx hb hts in_X0 hown hK (hM.1 0 _ rfl) rfl 1 (by decide) q287 rfl rfl dX0_firstBy_30 ?_
      refine cm_bc20 hx hb hml hown hts hK hI hB hM (hQ.at hB hN mwEq.rf mwEq.rf mwEq.rf hM.2.2) hN.1 (fun w hw => (okR_cow hR hw).1.2) hZ.1 q975 (by rw [hRf]; decide) (by rw [hRl]; decide) (Nat.zero_le _) (Nat.zero_le _) hl.1 (Nat.le_of_ble_eq_true rfl) dX0_firstBy_33 (fun cw1 tx1 ec et H locs hM => ?_)
      have hQ : cmPl D h B (a 1) ri (a 1) (va_up cw 2 cw1) (va_up tx 2 tx1) s.heap := ⟨hQ.1, hQ.2.1, hQ.1.cg hN.1 ec et⟩
      have hN : cl ((a 1) 3) ≤ 5 ∧ cl (ri 3) ≤ 5 ∧ cl ((a 1) 3) ≤ 5 := ⟨hN.1, hN.2.1, hN.1⟩
      refine lv_pop hx hb dX0_firstBy_36 rfl ?_
      refine lv_iconst (v := nI 0) hx hb dX0_firstBy_37 (by decide) ?_
      refine lv_istore (lv' := [(4, .int (nI 0)), (0, .ref (h 0)), (1, .int (nI g)), (2, .int (nI c0)), (3, .int (nI 0))]) hx hb dX0_firstBy_38 hl (by decide) rfl (fun ls hl => ?_)
      have loop40 : ∀ (fu : Nat) (k : Nat), (k ≤ 101) → (101 < k + fu) → (fdN (a 1) (nI g) c0 false (101 - k) k = fdN (a 1) (nI g) c0 false 101 0) → ∀ (nm : Nat → Nat → Int32) (H : Heap) (locs : List Loc), cmH D h dA s.heap H locs f a fc wk hd ri (dayI (a 1) k) (va_up cw 2 cw1) (va_up tx 2 tx1) nm → ∀ (ls : Array Slot), lv_has ls 5 [(4, .int (nI k)), (0, .ref (h 0)), (1, .int (nI g)), (2, .int (nI c0)), (3, .int (nI 0))] → W p l e R s m args below meth c H locs 0 0 Q (F0 m 40 ls []) := by
        intro fu
        induction fu with
        | zero =>
          intro k hk hn ee
          omega
        | succ fu ih40 =>
          intro k hk hn ee nm H locs hM ls hl
          refine lv_iload hx hb dX0_firstBy_40 (lv_at hl 0 rfl) ?_
          refine lv_bipush (v := nI 100) hx hb dX0_firstBy_42 (by decide) ?_
          refine w_icmp_gtN (tgt := 81) hx hb (by omega) (by omega) dX0_firstBy_44 (by decide) (fun c_3 => ?_) (fun c_3 => ?_)
          · have hkk : fdN (a 1) (nI g) c0 false 101 0 = k := by rw [← ee, show 101 - k = 0 by omega, fdN]
            refine lv_aload_n hx hb dX0_firstBy_81 rfl (lv_at hl 1 rfl) ?_
            refine lv_iload hx hb dX0_firstBy_82 (lv_at hl 0 rfl) ?_
            refine lv_bipush (v := nI 100) hx hb dX0_firstBy_84 (by decide) ?_
            refine w_icmp_gtN (tgt := 93) hx hb (by omega) (by omega) dX0_firstBy_86 (by decide) (fun c_4 => ?_) (fun c_4 => ?_)
            · refine lv_iconst (v := nI 0) hx hb dX0_firstBy_93 (by decide) ?_
              refine lv_iconst (v := nI 2) hx hb dX0_firstBy_94 (by decide) ?_
              exact cm_needT (b := False) hx hb hml hown hts hK hI hM q333 (by rw [hRf]; decide) (by rw [hRl]; decide) (Nat.zero_le _) (Nat.zero_le _) hl.1 (Nat.le_of_ble_eq_true rfl) dX0_firstBy_95 (fun q => q.elim) (fun _ H locs hM => hthr ⟨rfl, _, _, _, _, (mwEq_dayI hR k), ec, et, hM.1⟩ hM.2.2)
            · exact absurd c_4 (by omega)
          · refine lv_aload_n hx hb dX0_firstBy_47 rfl (lv_at hl 1 rfl) ?_
            refine c_get (v := .ref (hm2 h 0)) hx hb hts in_X0 hown hK (hM.1 0 _ rfl) rfl 3 (by decide) q289 rfl rfl dX0_firstBy_48 ?_
            refine lv_iload_n hx hb dX0_firstBy_51 rfl (lv_at hl 2 rfl) ?_
            refine lv_iload_n hx hb dX0_firstBy_52 rfl (lv_at hl 3 rfl) ?_
            refine cm_mcall2 (y := yX2_taste) hx hb hml hown hts hK hI hB hM (hQ.at hB hN mwEq.rf mwEq.rf (mwEq_dayI hR k) hM.2.2) (by rw [(mwEq_dayI hR k).1]; exact hN.1) (mw_taste (dayI (a 1) k) (okR_dayI hR k) g (by omega) c0 (by omega)) q960 q961 q962 q963 ndX2_taste rfl (by rw [hRf]; decide) (by rw [hRl]; decide) (Nat.zero_le _) (Nat.zero_le _) hl.1 rfl (Nat.le_of_ble_eq_true rfl) dX0_firstBy_53 (fun H locs nm hM => ?_)
            refine lv_if_le (tgt := 63) hx hb dX0_firstBy_56 (by decide) (fun c_5 => ?_) (fun c_5 => ?_)
            · refine lv_iconst (v := nI 0) hx hb dX0_firstBy_63 (by decide) ?_
              refine lv_iload_n hx hb dX0_firstBy_64 rfl (lv_at hl 4 rfl) ?_
              refine lv_icmp_eq (tgt := 81) hx hb dX0_firstBy_65 (by decide) (fun _ => ?_) (fun q => absurd q (by decide))
              have hkk : fdN (a 1) (nI g) c0 false 101 0 = k := by rw [← ee, show 101 - k = (101 - (k + 1)) + 1 by omega, fdN, if_pos (by rw [decide_eq_false (Int32.not_lt.mpr c_5)])]
              refine lv_aload_n hx hb dX0_firstBy_81 rfl (lv_at hl 1 rfl) ?_
              refine lv_iload hx hb dX0_firstBy_82 (lv_at hl 0 rfl) ?_
              refine lv_bipush (v := nI 100) hx hb dX0_firstBy_84 (by decide) ?_
              refine w_icmp_gtN (tgt := 93) hx hb (by omega) (by omega) dX0_firstBy_86 (by decide) (fun c_7 => ?_) (fun c_7 => ?_)
              · refine lv_iconst (v := nI 0) hx hb dX0_firstBy_93 (by decide) ?_
                refine lv_iconst (v := nI 2) hx hb dX0_firstBy_94 (by decide) ?_
                exact cm_needT (b := False) hx hb hml hown hts hK hI hM q333 (by rw [hRf]; decide) (by rw [hRl]; decide) (Nat.zero_le _) (Nat.zero_le _) hl.1 (Nat.le_of_ble_eq_true rfl) dX0_firstBy_95 (fun q => q.elim) (fun _ H locs hM => hthr ⟨rfl, _, _, _, _, (mwEq_dayI hR k), ec, et, hM.1⟩ hM.2.2)
              · exact absurd c_7 (by omega)
            · refine lv_iconst (v := nI 1) hx hb dX0_firstBy_59 (by decide) ?_
              refine lv_goto (tgt := 64) hx hb dX0_firstBy_60 (by decide) ?_
              refine lv_iload_n hx hb dX0_firstBy_64 rfl (lv_at hl 4 rfl) ?_
              refine lv_icmp_eq (tgt := 81) hx hb dX0_firstBy_65 (by decide) (fun q => absurd q (by decide)) (fun _ => ?_)
              refine lv_aload_n hx hb dX0_firstBy_68 rfl (lv_at hl 1 rfl) ?_
              refine c_get (v := .ref (hm2 h 0)) hx hb hts in_X0 hown hK (hM.1 0 _ rfl) rfl 3 (by decide) q289 rfl rfl dX0_firstBy_69 ?_
              refine cm_mcall2 (y := yX2_passes) hx hb hml hown hts hK hI hB hM (hQ.at hB hN mwEq.rf mwEq.rf (mwEq_dayI hR k) hM.2.2) (by rw [(mwEq_dayI hR k).1]; exact hN.1) (mw_passes (dayI (a 1) k) (okR_dayI hR k)) q995 q925 q926 q927 ndX2_passes rfl (by rw [hRf]; decide) (by rw [hRl]; decide) (Nat.zero_le _) (Nat.zero_le _) hl.1 rfl (Nat.le_of_ble_eq_true rfl) dX0_firstBy_72 (fun H locs nm hM => ?_)
              have hee : fdN (a 1) (nI g) c0 false (101 - (k + 1)) (k + 1) = fdN (a 1) (nI g) c0 false 101 0 := by rw [← ee, show 101 - k = (101 - (k + 1)) + 1 by omega, fdN, if_neg (by rw [decide_eq_true (Int32.not_le.mp c_5)]; decide)]
              refine lv_iinc (v := nI (k + 1)) (lv' := [(4, .int (nI (k + 1))), (0, .ref (h 0)), (1, .int (nI g)), (2, .int (nI c0)), (3, .int (nI 0))]) hx hb dX0_firstBy_75 hl (k := 0) rfl (by rw [show Int32.ofInt 1 = nI 1 from by decide]; exact nI_add _ _) (by decide) rfl (fun ls hl => ?_)
              refine lv_goto (tgt := 40) hx hb dX0_firstBy_78 (by decide) ?_
              exact ih40 (k + 1) (by omega) (by omega) hee _ _ _ hM ls (lv_sub hl [0, 1, 2, 3, 4] rfl)
      exact loop40 102 0 (by omega) (by omega) rfl _ _ _ hM ls (lv_sub hl [0, 1, 2, 3, 4] rfl)
set_option maxHeartbeats 400000 in
theorem ca_firstBy0_e (D : va_G) (dA : Nat → ClassId) (h : Nat → Nat) (f : Nat → Int32) (a : Nat → Nat → Int32) (fc : Int32) (wk : Nat → Nat → Int32) (hd : Nat → Option Nat) (ri rt : Nat → Int32) (cw tx : Nat → Nat → Option Nat) (nm : Nat → Nat → Int32) (hI : cmI h) (hN : cl (a 1 3) ≤ 5 ∧ cl (ri 3) ≤ 5 ∧ cl (rt 3) ≤ 5) (hZ : cmZ (a 1) ri cw) (B : Nat → Prop) (hB : ∀ q, B q → ¬ cmA h q) (g c0 : Int32) (he : ¬ (jugP (a 1) g ∧ (nI 0 ≤ c0 ∧ c0 ≤ nI 24))) : Co D dA (cmA h) yX0_firstBy cX0_firstBy 5 (some .int) 66 1514 0 0 (.ref (h 0) :: [.int g, .int c0, .int (nI 0)]) (fun H => va_P D cmCl (cmWs h dA f a fc wk hd ri rt cw tx nm) H ∧ cmPl D h B (a 1) ri rt cw tx H) (fun oc H => oc = .threw (h 1) ∧ va_P D cmCl (cmWs h dA f a (nI 1) wk hd ri rt cw tx nm) H) := by
  refine Co.ofI (by decide) (own := RX0) rfl (Nat.le_of_ble_eq_true rfl) ?_
  intro p l e R s m args below meth c Q ls hx hb hml hRf hRl hRc hRs hin hts hown hK hP hl hret hthr
  obtain ⟨hP, hQ⟩ := hP
  have hM : cmH D h dA s.heap s.heap [] f a fc wk hd ri rt cw tx nm := cmH.of hI hP va_S.rf
  have hl : lv_has ls 5 [(0, .ref (h 0)), (1, .int g), (2, .int c0), (3, .int (nI 0))] := hl
  refine lv_aload_n hx hb dX0_firstBy_0 rfl (lv_at hl 0 rfl) ?_
  refine lv_aload_n hx hb dX0_firstBy_1 rfl (lv_at hl 0 rfl) ?_
  refine lv_iload_n hx hb dX0_firstBy_2 rfl (lv_at hl 1 rfl) ?_
  refine rd_callV (y := yX0_isJug) hx hb hml hown hts hK (ca_isJug D dA h _ _ _ _ _ _ _ _ _ _ g) hM.1 (cAt.recv hK (hM.1 0 _ rfl) rfl) q956 q958 qs16 q61 q959 ndX0_isJug rfl (by rw [hRf]; decide) (by rw [hRl]; decide) (Nat.zero_le _) (Nat.zero_le _) hl.1 rfl (Nat.le_of_ble_eq_true rfl) dX0_firstBy_3 ?_
  refine w_if_eqT (tgt := 20) hx hb dX0_firstBy_6 (by decide) (fun c_1 => ?_) (fun c_1 => ?_)
  · refine lv_iconst (v := nI 0) hx hb dX0_firstBy_20 (by decide) ?_
    refine lv_iconst (v := nI 1) hx hb dX0_firstBy_21 (by decide) ?_
    exact cm_needT (b := False) hx hb hml hown hts hK hI hM q333 (by rw [hRf]; decide) (by rw [hRl]; decide) (Nat.zero_le _) (Nat.zero_le _) hl.1 (Nat.le_of_ble_eq_true rfl) dX0_firstBy_22 (fun q => q.elim) (fun _ H locs hM => hthr ⟨rfl, hM.1⟩ hM.2.2)
  · refine lv_iload_n hx hb dX0_firstBy_9 rfl (lv_at hl 2 rfl) ?_
    refine st_callS (y := yX0_isCell) hx hb hml hown hts (cmX0_isCell c0) q327 q328 q61 q329 ndX0_isCell rfl (by rw [hRf]; decide) (by rw [hRl]; decide) (Nat.zero_le _) (Nat.zero_le _) hl.1 rfl (Nat.le_of_ble_eq_true rfl) dX0_firstBy_10 ?_
    refine w_if_eqT (tgt := 20) hx hb dX0_firstBy_13 (by decide) (fun c_2 => ?_) (fun c_2 => ?_)
    · refine lv_iconst (v := nI 0) hx hb dX0_firstBy_20 (by decide) ?_
      refine lv_iconst (v := nI 1) hx hb dX0_firstBy_21 (by decide) ?_
      exact cm_needT (b := False) hx hb hml hown hts hK hI hM q333 (by rw [hRf]; decide) (by rw [hRl]; decide) (Nat.zero_le _) (Nat.zero_le _) hl.1 (Nat.le_of_ble_eq_true rfl) dX0_firstBy_22 (fun q => q.elim) (fun _ H locs hM => hthr ⟨rfl, hM.1⟩ hM.2.2)
    · refine lv_iconst (v := nI 1) hx hb dX0_firstBy_16 (by decide) ?_
      refine lv_goto (tgt := 21) hx hb dX0_firstBy_17 (by decide) ?_
      refine lv_iconst (v := nI 1) hx hb dX0_firstBy_21 (by decide) ?_
      exact absurd ⟨c_1, c_2⟩ he
