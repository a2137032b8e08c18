/-! check (printed by comp17.py) -/
set_option maxRecDepth 100000
set_option maxHeartbeats 400000 in
theorem ca_check_ok (f : Nat → Int32) (a : Nat → Nat → Int32) (hR : okR (a 1)) : CmG yX0_check cX0_check 4  66 1514 [] f a (nI (chk (upd (a 1) 5 (nI 0)) (cl (a 1 5)) 0)) f (va_up (va_up a 1 (upd (a 1) 5 (nI 0))) 3 (upd (a 1) 5 (nI 0))) := by
  refine CmG.ofI (by decide) rfl (Nat.le_of_ble_eq_true rfl) ?_
  intro p l e R s m args below meth c Q D dA h fc wk hd ri rt cw tx nm B S ls hx hb hml hRf hRl hRc hRs hts hown hK hI hB hS0 hQ hN hIm hZ hSh hM hl hret hret0
  have hl : lv_has ls 4 [(0, .ref (h 0))] := hl
  have hq := hR.2.2.2.1
  have hq2 := hq.2
  have hR1 : okR (upd (a 1) 5 (nI 0)) := okR_5 hR (okN_of (by omega) (by omega))
  have hE5 : mwEq (a 1) (upd (a 1) 5 (nI 0)) := mwEq_u ⟨by omega, by omega, by omega, by omega, fun w hw => ⟨by omega, by omega⟩⟩
  refine lv_aload_n hx hb dX0_check_0 rfl (lv_at hl 0 rfl) ?_
  refine c_get (v := .ref (hm0 h 0)) hx hb hts in_X0 hown hK (hM.1 0 _ rfl) rfl 1 (by decide) q287 rfl rfl dX0_check_1 ?_
  have nq := hK.F 17 rfl
  refine c_getN (v := .int (a 1 5)) hx hb hts in_X2 hown hK ((cm_parts hM.1).2.1 0 _ rfl) rfl 14 (by decide) nq rfl rfl dX0_check_4 ?_
  refine w_top (nI (cl (a 1 5))) (hq.1) ?_
  refine lv_istore_n (lv' := [(1, .int (nI (cl (a 1 5)))), (0, .ref (h 0))]) hx hb dX0_check_7 rfl hl (by decide) rfl (fun ls hl => ?_)
  refine lv_aload_n hx hb dX0_check_8 rfl (lv_at hl 1 rfl) ?_
  refine c_get (v := .ref (hm0 h 0)) hx hb hts in_X0 hown hK (hM.1 0 _ rfl) rfl 1 (by decide) q287 rfl rfl dX0_check_9 ?_
  refine lv_iconst (v := nI 0) hx hb dX0_check_12 (by decide) ?_
  have nq := hK.F 17 rfl
  refine cm_put_waits hx hb hts hown hK hI hM nq dX0_check_13 (fun H locs hM => ?_)
  refine lv_aload_n hx hb dX0_check_16 rfl (lv_at hl 1 rfl) ?_
  refine c_get (v := .ref (hm2 h 0)) hx hb hts in_X0 hown hK (hM.1 0 _ rfl) rfl 3 (by decide) q289 rfl rfl dX0_check_17 ?_
  refine lv_aload_n hx hb dX0_check_20 rfl (lv_at hl 1 rfl) ?_
  refine c_get (v := .ref (hm0 h 0)) hx hb hts in_X0 hown hK (hM.1 0 _ rfl) rfl 1 (by decide) q287 rfl rfl dX0_check_21 ?_
  refine cm_bc20 hx hb hml hown hts hK hI hB hM (hQ.at hB hN hE5 mwEq.rf mwEq.rf hM.2.2) hN.1 (fun w hw => (okR_cow hR1 hw).1.2) hZ.1 q975 (by rw [hRf]; decide) (by rw [hRl]; decide) (Nat.zero_le _) (Nat.zero_le _) hl.1 (Nat.le_of_ble_eq_true rfl) dX0_check_24 (fun cw1 tx1 ec et H locs hM => ?_)
  have hQ : cmPl D h B (a 1) ri (a 1) (va_up cw 2 cw1) (va_up tx 2 tx1) s.heap := ⟨hQ.1, hQ.2.1, hQ.1.cg hN.1 ec et⟩
  have hN : cl ((a 1) 3) ≤ 5 ∧ cl (ri 3) ≤ 5 ∧ cl ((a 1) 3) ≤ 5 := ⟨hN.1, hN.2.1, hN.1⟩
  refine lv_pop hx hb dX0_check_27 rfl ?_
  refine lv_iconst (v := nI 0) hx hb dX0_check_28 (by decide) ?_
  refine lv_istore_n (lv' := [(2, .int (nI 0)), (1, .int (nI (cl (a 1 5)))), (0, .ref (h 0))]) hx hb dX0_check_29 rfl hl (by decide) rfl (fun ls hl => ?_)
  refine lv_iconst (v := nI 1) hx hb dX0_check_30 (by decide) ?_
  refine lv_istore_n (lv' := [(3, .int (nI 1)), (2, .int (nI 0)), (1, .int (nI (cl (a 1 5)))), (0, .ref (h 0))]) hx hb dX0_check_31 rfl hl (by decide) rfl (fun ls hl => ?_)
  have loop32 : ∀ (fu : Nat) (k d b : Nat), (k ≤ cl (a 1 5)) → (b ≤ 1) → (cl (a 1 5) - k + b < fu) → ((b = 1 ∧ d = k ∧ chk (upd (a 1) 5 (nI 0)) (cl (a 1 5) - k) k = chk (upd (a 1) 5 (nI 0)) (cl (a 1 5)) 0) ∨ (b = 0 ∧ chk (upd (a 1) 5 (nI 0)) (cl (a 1 5)) 0 = 1 + k ∧ k < cl (a 1 5))) → ∀ (fc : Int32) (wk nm : Nat → Nat → Int32) (H : Heap) (locs : List Loc), cmH D h dA s.heap H locs f (va_up a 1 (upd (a 1) 5 (nI 0))) fc wk hd ri (dayI (upd (a 1) 5 (nI 0)) d) (va_up cw 2 cw1) (va_up tx 2 tx1) nm → ∀ (ls : Array Slot), lv_has ls 4 [(3, .int (nI b)), (2, .int (nI k)), (1, .int (nI (cl (a 1 5)))), (0, .ref (h 0))] → W p l e R s m args below meth c H locs 0 0 Q (F0 m 32 ls []) := by
    intro fu
    induction fu with
    | zero =>
      intro k d b hk hb1 hn hbb
      omega
    | succ fu ih32 =>
      intro k d b hk hb1 hn hbb fc wk nm H locs hM ls hl
      refine lv_iload_n hx hb dX0_check_32 rfl (lv_at hl 1 rfl) ?_
      refine lv_iload_n hx hb dX0_check_33 rfl (lv_at hl 2 rfl) ?_
      refine w_icmp_geN (tgt := 88) hx hb (by omega) (by omega) dX0_check_34 (by decide) (fun c_1 => ?_) (fun c_1 => ?_)
      · refine lv_iload_n hx hb dX0_check_88 rfl (lv_at hl 0 rfl) ?_
        refine w_if_eqN (tgt := 96) hx hb (by omega) dX0_check_89 (by decide) (fun c_2 => ?_) (fun c_2 => ?_)
        · refine lv_iconst (v := nI 1) hx hb dX0_check_96 (by decide) ?_
          refine lv_iload_n hx hb dX0_check_97 rfl (lv_at hl 1 rfl) ?_
          refine w_iaddN hx hb dX0_check_98 ?_
          exact hret (hM.cg rfl rfl rfl rfl rfl) (hQ.at hB hN hE5 mwEq.rf (hE5.tr (mwEq_dayI hR1 d)) hM.2.2) ⟨hN.1, hN.2.1, by rw [(hE5.tr (mwEq_dayI hR1 d)).1]; exact hN.1⟩ hIm hZ (hSh.to hS0 ⟨rfl, rfl, rfl⟩ hM.2.2) (hbb.elim (fun q => absurd q.1 (by omega)) (fun q => by rw [q.2.1])) dX0_check_99
        · refine lv_iconst (v := nI 0) hx hb dX0_check_92 (by decide) ?_
          refine lv_goto (tgt := 99) hx hb dX0_check_93 (by decide) ?_
          exact hret (hM.cg rfl rfl rfl rfl rfl) (hQ.at hB hN hE5 mwEq.rf (hE5.tr (mwEq_dayI hR1 d)) hM.2.2) ⟨hN.1, hN.2.1, by rw [(hE5.tr (mwEq_dayI hR1 d)).1]; exact hN.1⟩ hIm hZ (hSh.to hS0 ⟨rfl, rfl, rfl⟩ hM.2.2) (hbb.elim (fun q => by rw [← q.2.2, show cl (a 1 5) - k = 0 by omega, chk]) (fun q => absurd q.1 (by omega))) dX0_check_99
      · refine lv_iload_n hx hb dX0_check_37 rfl (lv_at hl 0 rfl) ?_
        refine w_if_eqN (tgt := 88) hx hb (by omega) dX0_check_38 (by decide) (fun c_3 => ?_) (fun c_3 => ?_)
        · refine lv_iload_n hx hb dX0_check_88 rfl (lv_at hl 0 rfl) ?_
          refine w_if_eqN (tgt := 96) hx hb (by omega) dX0_check_89 (by decide) (fun c_4 => ?_) (fun c_4 => ?_)
          · refine lv_iconst (v := nI 1) hx hb dX0_check_96 (by decide) ?_
            refine lv_iload_n hx hb dX0_check_97 rfl (lv_at hl 1 rfl) ?_
            refine w_iaddN hx hb dX0_check_98 ?_
            exact hret (hM.cg rfl rfl rfl rfl rfl) (hQ.at hB hN hE5 mwEq.rf (hE5.tr (mwEq_dayI hR1 d)) hM.2.2) ⟨hN.1, hN.2.1, by rw [(hE5.tr (mwEq_dayI hR1 d)).1]; exact hN.1⟩ hIm hZ (hSh.to hS0 ⟨rfl, rfl, rfl⟩ hM.2.2) (hbb.elim (fun q => absurd q.1 (by omega)) (fun q => by rw [q.2.1])) dX0_check_99
          · refine lv_iconst (v := nI 0) hx hb dX0_check_92 (by decide) ?_
            refine lv_goto (tgt := 99) hx hb dX0_check_93 (by decide) ?_
            exact hret (hM.cg rfl rfl rfl rfl rfl) (hQ.at hB hN hE5 mwEq.rf (hE5.tr (mwEq_dayI hR1 d)) hM.2.2) ⟨hN.1, hN.2.1, by rw [(hE5.tr (mwEq_dayI hR1 d)).1]; exact hN.1⟩ hIm hZ (hSh.to hS0 ⟨rfl, rfl, rfl⟩ hM.2.2) (absurd c_4 (by omega)) dX0_check_99
        · have hb2 : b = 1 ∧ d = k ∧ chk (upd (a 1) 5 (nI 0)) (cl (a 1 5) - k) k = chk (upd (a 1) 5 (nI 0)) (cl (a 1 5)) 0 := hbb.resolve_right (fun q => absurd q.1 (by omega))
          have hdk := hb2.2.1
          refine lv_aload_n hx hb dX0_check_41 rfl (lv_at hl 3 rfl) ?_
          refine c_get (v := .ref (hm2 h 0)) hx hb hts in_X0 hown hK (hM.1 0 _ rfl) rfl 3 (by decide) q289 rfl rfl dX0_check_42 ?_
          refine cm_mcall2 (y := yX2_passes) hx hb hml hown hts hK hI hB hM (hQ.at hB hN hE5 mwEq.rf (hE5.tr (mwEq_dayI hR1 d)) hM.2.2) (by rw [(hE5.tr (mwEq_dayI hR1 d)).1]; exact hN.1) (mw_passes (dayI (upd (a 1) 5 (nI 0)) d) (okR_dayI hR1 d)) q995 q925 q926 q927 ndX2_passes rfl (by rw [hRf]; decide) (by rw [hRl]; decide) (Nat.zero_le _) (Nat.zero_le _) hl.1 rfl (Nat.le_of_ble_eq_true rfl) dX0_check_45 (fun H locs nm hM => ?_)
          refine lv_aload_n hx hb dX0_check_48 rfl (lv_at hl 3 rfl) ?_
          refine c_get (v := .ref (hm0 h 0)) hx hb hts in_X0 hown hK (hM.1 0 _ rfl) rfl 1 (by decide) q287 rfl rfl dX0_check_49 ?_
          have nq := hK.F 18 rfl
          refine c_getN (v := .ref (hm0 h 9)) hx hb hts in_X2 hown hK ((cm_parts hM.1).2.1 0 _ rfl) rfl 13 (by decide) nq rfl rfl dX0_check_52 ?_
          refine lv_iload_n hx hb dX0_check_55 rfl (lv_at hl 1 rfl) ?_
          refine c_iald hx hb hK ((cm_parts hM.1).2.1 9 _ rfl) k ⟨by omega, by decide, rfl⟩ dX0_check_56 ?_
          refine w_top ((va_up a 1 (upd (a 1) 5 (nI 0))) 1 (178 + k)) (rfl) ?_
          refine w_top ((upd (a 1) 5 (nI 0)) (178 + k)) (rfl) ?_
          refine lv_aload_n hx hb dX0_check_57 rfl (lv_at hl 3 rfl) ?_
          refine c_get (v := .ref (hm2 h 0)) hx hb hts in_X0 hown hK (hM.1 0 _ rfl) rfl 3 (by decide) q289 rfl rfl dX0_check_58 ?_
          refine rd_callV (y := yX2_allGrass) hx hb hml hown hts hK ((mw_allGrass (dayR (dayI (upd (a 1) 5 (nI 0)) d))) D dA (hm2 h) _ _ _) (cm_parts hM.1).2.2.2 (cAt.recv hK ((cm_parts hM.1).2.2.2 0 _ rfl) rfl) q935 q936 q937 q66 q938 ndX2_allGrass rfl (by rw [hRf]; decide) (by rw [hRl]; decide) (Nat.zero_le _) (Nat.zero_le _) hl.1 rfl (Nat.le_of_ble_eq_true rfl) dX0_check_61 ?_
          refine w_top (sumG (dayI (upd (a 1) 5 (nI 0)) (d + 1)) 25) (rfl) ?_
          refine lv_icmp_ne (tgt := 71) hx hb dX0_check_64 (by decide) (fun c_5 => ?_) (fun c_5 => ?_)
          · have hq0 : chk (upd (a 1) 5 (nI 0)) (cl (a 1 5)) 0 = 1 + (k + 0) := by rw [← hb2.2.2, show cl (a 1 5) - k = (cl (a 1 5) - (k + 1)) + 1 by omega, chk, if_neg (by rw [← hdk]; rw [← hdk] at c_5; exact fun q => c_5 q.symm)]; rfl
            refine lv_iconst (v := nI 0) hx hb dX0_check_71 (by decide) ?_
            refine lv_istore_n (lv' := [(3, .int (nI 0)), (2, .int (nI k)), (1, .int (nI (cl (a 1 5)))), (0, .ref (h 0))]) hx hb dX0_check_72 rfl hl (by decide) rfl (fun ls hl => ?_)
            refine lv_iload_n hx hb dX0_check_73 rfl (lv_at hl 1 rfl) ?_
            refine lv_iload_n hx hb dX0_check_74 rfl (lv_at hl 0 rfl) ?_
            refine lv_if_eq (tgt := 82) hx hb dX0_check_75 (by decide) (fun _ => ?_) (fun q => absurd q (by decide))
            refine lv_iconst (v := nI 0) hx hb dX0_check_82 (by decide) ?_
            refine w_iaddN hx hb dX0_check_83 ?_
            refine lv_istore_n (lv' := [(2, .int (nI (k + 0))), (3, .int (nI 0)), (1, .int (nI (cl (a 1 5)))), (0, .ref (h 0))]) hx hb dX0_check_84 rfl hl (by decide) rfl (fun ls hl => ?_)
            refine lv_goto (tgt := 32) hx hb dX0_check_85 (by decide) ?_
            exact ih32 (k + 0) (d + 1) 0 (by omega) (by omega) (by omega) (Or.inr ⟨rfl, hq0, by omega⟩) _ _ _ _ _ hM ls (lv_sub hl [1, 0, 2, 3] rfl)
          · have hq1 : chk (upd (a 1) 5 (nI 0)) (cl (a 1 5) - (k + 1)) (k + 1) = chk (upd (a 1) 5 (nI 0)) (cl (a 1 5)) 0 := by rw [← hb2.2.2, show cl (a 1 5) - k = (cl (a 1 5) - (k + 1)) + 1 by omega, chk, if_pos (by rw [← hdk]; rw [← hdk] at c_5; exact c_5.symm)]
            refine lv_iconst (v := nI 1) hx hb dX0_check_67 (by decide) ?_
            refine lv_goto (tgt := 72) hx hb dX0_check_68 (by decide) ?_
            refine lv_istore_n (lv' := [(3, .int (nI 1)), (2, .int (nI k)), (1, .int (nI (cl (a 1 5)))), (0, .ref (h 0))]) hx hb dX0_check_72 rfl hl (by decide) rfl (fun ls hl => ?_)
            refine lv_iload_n hx hb dX0_check_73 rfl (lv_at hl 1 rfl) ?_
            refine lv_iload_n hx hb dX0_check_74 rfl (lv_at hl 0 rfl) ?_
            refine lv_if_eq (tgt := 82) hx hb dX0_check_75 (by decide) (fun q => absurd q (by decide)) (fun _ => ?_)
            refine lv_iconst (v := nI 1) hx hb dX0_check_78 (by decide) ?_
            refine lv_goto (tgt := 83) hx hb dX0_check_79 (by decide) ?_
            refine w_iaddN hx hb dX0_check_83 ?_
            refine lv_istore_n (lv' := [(2, .int (nI (k + 1))), (3, .int (nI 1)), (1, .int (nI (cl (a 1 5)))), (0, .ref (h 0))]) hx hb dX0_check_84 rfl hl (by decide) rfl (fun ls hl => ?_)
            refine lv_goto (tgt := 32) hx hb dX0_check_85 (by decide) ?_
            exact ih32 (k + 1) (d + 1) 1 (by omega) (by omega) (by omega) (Or.inl ⟨rfl, by omega, hq1⟩) _ _ _ _ _ hM ls (lv_sub hl [1, 0, 2, 3] rfl)
  exact loop32 (cl (a 1 5) + 2) 0 0 1 (by omega) (by omega) (by omega) (Or.inl ⟨rfl, rfl, rfl⟩) _ _ _ _ _ hM ls (lv_sub hl [0, 1, 2, 3] rfl)
