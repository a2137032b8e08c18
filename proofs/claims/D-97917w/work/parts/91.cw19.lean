/-! judge (printed by comp21.py) -/
set_option maxRecDepth 100000
set_option maxHeartbeats 400000 in
theorem ca_judge_ok (f : Nat → Int32) (a : Nat → Nat → Int32) (sh : Nat) (hs : sh < 4) (i : Nat) (hi : i < cl (a 1 3)) (hN0 : okN (a 1 3) 5) (hb00 : ¬ a 6 sh = 0) (hq : okN (a 1 (58 + 14 * i + 3)) 10) : CmF yX0_judge cX0_judge 5 [(0, 111, 112, 8)] 3 81 [.int (nI sh), .int (nI i)] f a (if jdN (fun q => a 8 (40 * sh + q)) (fun q => a 1 (58 + 14 * i + (4 + q))) (min (cl (a 7 sh)) (cl (a 1 (58 + 14 * i + 3)))) 0 = cl (a 7 sh) ∧ jdN (fun q => a 8 (40 * sh + q)) (fun q => a 1 (58 + 14 * i + (4 + q))) (min (cl (a 7 sh)) (cl (a 1 (58 + 14 * i + 3)))) 0 = cl (a 1 (58 + 14 * i + 3)) then (-1 : Int32) else nI (jdN (fun q => a 8 (40 * sh + q)) (fun q => a 1 (58 + 14 * i + (4 + q))) (min (cl (a 7 sh)) (cl (a 1 (58 + 14 * i + 3)))) 0)) f a := by
  refine CmF.ofI (by decide) rfl (Nat.le_of_ble_eq_true rfl) ?_
  intro p l e R s m args below meth c Q D dA h fc wk hd ri rt cw tx nm B S ls hx hb hml hRf hRl hRc hRs htab hts hown hK hI hB hS0 hQ hN hIm hZ hSh hM hl hret hret0
  have hl : lv_has ls 5 [(0, .ref (h 0)), (1, .int (nI sh)), (2, .int (nI i))] := hl
  have hN2 := hN0.2
  have hs0 := hs
  have hSh2 := hSh
  obtain ⟨ya, hinj, hall⟩ := hSh2
  obtain ⟨x0, wi0, hwi0, hxd0, hxA0, hyA0, hb60, hz70, hX0, hY0⟩ := (hall sh hs0).resolve_left (fun q => hb00 q.1)
  have hz720 := hz70.2
  have hq2 := hq.2
  refine lv_aload_n hx hb dX0_judge_0 rfl (lv_at hl 0 rfl) ?_
  refine lv_iload_n hx hb dX0_judge_1 rfl (lv_at hl 1 rfl) ?_
  refine st_callS (y := yX0_isSheet) hx hb hml hown hts (cmX0_isSheet (nI sh)) q1020 q1021 q61 q1022 ndX0_isSheet rfl (by rw [hRf]; decide) (by rw [hRl]; decide) (Nat.zero_le _) (Nat.zero_le _) hl.1 rfl (Nat.le_of_ble_eq_true rfl) dX0_judge_2 ?_
  refine w_if_eqT (tgt := 20) hx hb dX0_judge_5 (by decide) (fun c_1 => ?_) (fun c_1 => ?_)
  · exact absurd (by first | exact (in_nat (by decide)).mpr ⟨_, by omega, rfl⟩ | exact (in_nat1 _ (by decide) (by decide)).mpr ⟨_, by omega, by omega, rfl⟩ | exact cow_in hN0 (by omega) | assumption) c_1
  · refine lv_aload_n hx hb dX0_judge_8 rfl (lv_at hl 0 rfl) ?_
    refine lv_iload_n hx hb dX0_judge_9 rfl (lv_at hl 2 rfl) ?_
    refine rd_callV (y := yX0_isCow) hx hb hml hown hts hK (ca_isCow D dA h _ _ _ _ _ _ _ _ _ _ (nI i)) hM.1 (cAt.recv hK (hM.1 0 _ rfl) rfl) q512 q514 qs4 q61 q515 ndX0_isCow rfl (by rw [hRf]; decide) (by rw [hRl]; decide) (Nat.zero_le _) (Nat.zero_le _) hl.1 rfl (Nat.le_of_ble_eq_true rfl) dX0_judge_10 ?_
    refine w_if_eqT (tgt := 20) hx hb dX0_judge_13 (by decide) (fun c_2 => ?_) (fun c_2 => ?_)
    · exact absurd (by first | exact (in_nat (by decide)).mpr ⟨_, by omega, rfl⟩ | exact (in_nat1 _ (by decide) (by decide)).mpr ⟨_, by omega, by omega, rfl⟩ | exact cow_in hN0 (by omega) | assumption) c_2
    · refine lv_iconst (v := nI 1) hx hb dX0_judge_16 (by decide) ?_
      refine lv_goto (tgt := 21) hx hb dX0_judge_17 (by decide) ?_
      refine lv_iconst (v := nI 1) hx hb dX0_judge_21 (by decide) ?_
      refine cm_n1 hx hb hml hown hts hK hI hM htab (hpc := 112) rfl q333 (by rw [hRf]; decide) (by rw [hRl]; decide) (Nat.zero_le _) (Nat.zero_le _) hl.1 (Nat.le_of_ble_eq_true rfl) dX0_judge_22 (fun locs hM => ?_)
      refine lv_aload_n hx hb dX0_judge_25 rfl (lv_at hl 0 rfl) ?_
      refine lv_iload_n hx hb dX0_judge_26 rfl (lv_at hl 1 rfl) ?_
      refine cg_callV (y := yX0_sheetAt) (b := h 0) (C := RX0) (As := [.int (nI sh)]) hx hb hml hown hts hK hM.2.2 (ca_sheetAt_ok D dA h _ _ _ _ _ _ _ _ _ _ hI sh x0 wi0 hs0 hxd0 (hS0 _ hxA0) hwi0 _) ⟨hM.1, hX0.kept (hM.2.2.2.1 x0 hX0.lt (hS0 _ hxA0))⟩ (fun q hq => hq) (cAt.recv hK (hM.1 0 _ rfl) rfl) q1023 q1025 qs18 q61 q1026 ndX0_sheetAt rfl (by rw [hRf]; decide) (by rw [hRl]; decide) (Nat.zero_le _) (Nat.zero_le _) hl.1 rfl (Nat.le_of_ble_eq_true rfl) dX0_judge_27 ?_
      rintro _ H locs ⟨rfl, hP1⟩ hz1 hk1 hS1
      have hM := cmH.of hI hP1 hS1
      refine lv_astore_n (lv' := [(3, .ref x0), (0, .ref (h 0)), (1, .int (nI sh)), (2, .int (nI i))]) hx hb dX0_judge_30 rfl hl (by decide) rfl (fun ls hl => ?_)
      refine lv_iconst (v := nI 0) hx hb dX0_judge_31 (by decide) ?_
      refine lv_istore (lv' := [(4, .int (nI 0)), (3, .ref x0), (0, .ref (h 0)), (1, .int (nI sh)), (2, .int (nI i))]) hx hb dX0_judge_32 hl (by decide) rfl (fun ls hl => ?_)
      have loop34 : ∀ (fu : Nat) (k : Nat), (k ≤ min (cl (a 7 sh)) (cl (a 1 (58 + 14 * i + 3)))) → (min (cl (a 7 sh)) (cl (a 1 (58 + 14 * i + 3))) < k + fu) → (jdN (fun q => a 8 (40 * sh + q)) (fun q => a 1 (58 + 14 * i + (4 + q))) (min (cl (a 7 sh)) (cl (a 1 (58 + 14 * i + 3))) - k) k = jdN (fun q => a 8 (40 * sh + q)) (fun q => a 1 (58 + 14 * i + (4 + q))) (min (cl (a 7 sh)) (cl (a 1 (58 + 14 * i + 3)))) 0) → ∀ (fc : Int32) (wk nm : Nat → Nat → Int32) (H : Heap) (locs : List Loc), cmH D h dA s.heap H locs f a fc wk hd ri rt cw tx nm → ∀ (ls : Array Slot), lv_has ls 5 [(4, .int (nI k)), (3, .ref x0), (0, .ref (h 0)), (1, .int (nI sh)), (2, .int (nI i))] → W p l e R s m args below meth c H locs 0 0 Q (F0 m 34 ls []) := by
        intro fu
        induction fu with
        | zero =>
          intro k hk hn ee
          omega
        | succ fu ih34 =>
          intro k hk hn ee fc wk nm H locs hM ls hl
          refine lv_iload hx hb dX0_judge_34 (lv_at hl 0 rfl) ?_
          refine lv_aload_n hx hb dX0_judge_36 rfl (lv_at hl 1 rfl) ?_
          refine sv_size hx hb hml hown hts hK q1028 wi0 hwi0 x0 (ya sh) (cl (a 7 sh)) (fun k => a 8 (40 * sh + k)) (hX0.kept (hM.2.2.2.1 x0 hX0.lt (hS0 _ hxA0))) (hY0.kept (hM.2.2.2.1 _ hY0.lt (hS0 _ hyA0))) (by rw [hRf]; decide) (by rw [hRl]; decide) (Nat.zero_le _) (Nat.zero_le _) hl.1 (Nat.le_of_ble_eq_true rfl) dX0_judge_37 ?_
          refine w_icmp_geN (tgt := 82) hx hb (by omega) (by omega) dX0_judge_40 (by decide) (fun c_3 => ?_) (fun c_3 => ?_)
          · have hJ : jdN (fun q => a 8 (40 * sh + q)) (fun q => a 1 (58 + 14 * i + (4 + q))) (min (cl (a 7 sh)) (cl (a 1 (58 + 14 * i + 3)))) 0 = k := by rw [← ee, show min (cl (a 7 sh)) (cl (a 1 (58 + 14 * i + 3))) - k = 0 by omega, jdN]
            refine lv_iload hx hb dX0_judge_82 (lv_at hl 0 rfl) ?_
            refine lv_aload_n hx hb dX0_judge_84 rfl (lv_at hl 1 rfl) ?_
            refine sv_size hx hb hml hown hts hK q1028 wi0 hwi0 x0 (ya sh) (cl (a 7 sh)) (fun k => a 8 (40 * sh + k)) (hX0.kept (hM.2.2.2.1 x0 hX0.lt (hS0 _ hxA0))) (hY0.kept (hM.2.2.2.1 _ hY0.lt (hS0 _ hyA0))) (by rw [hRf]; decide) (by rw [hRl]; decide) (Nat.zero_le _) (Nat.zero_le _) hl.1 (Nat.le_of_ble_eq_true rfl) dX0_judge_85 ?_
            refine w_icmp_neN (tgt := 109) hx hb (by omega) (by omega) dX0_judge_88 (by decide) (fun c_4 => ?_) (fun c_4 => ?_)
            · refine lv_iload hx hb dX0_judge_109 (lv_at hl 0 rfl) ?_
              exact hret0 hM (mwEq.rf) rfl rfl ⟨rfl, rfl, rfl⟩ (by rw [hJ, if_neg (fun q => c_4 q.1)]) dX0_judge_111
            · refine lv_iload hx hb dX0_judge_91 (lv_at hl 0 rfl) ?_
              refine lv_aload_n hx hb dX0_judge_93 rfl (lv_at hl 2 rfl) ?_
              refine c_get (v := .ref (hm0 h 0)) hx hb hts in_X0 hown hK (hM.1 0 _ rfl) rfl 1 (by decide) q287 rfl rfl dX0_judge_94 ?_
              have nq := hK.F 8 rfl
              refine c_getN (v := .ref (hm0 h 6)) hx hb hts in_X2 hown hK ((cm_parts hM.1).2.1 0 _ rfl) rfl 7 (by decide) nq rfl rfl dX0_judge_97 ?_
              refine lv_iload_n hx hb dX0_judge_100 rfl (lv_at hl 4 rfl) ?_
              refine c_iald hx hb hK ((cm_parts hM.1).2.1 6 _ rfl) i ⟨by omega, by decide, rfl⟩ dX0_judge_101 ?_
              refine w_top (a 1 (58 + 14 * i + 3)) (rfl) ?_
              refine w_top (nI (cl (a 1 (58 + 14 * i + 3)))) (hq.1) ?_
              refine w_icmp_neN (tgt := 109) hx hb (by omega) (by omega) dX0_judge_102 (by decide) (fun c_5 => ?_) (fun c_5 => ?_)
              · refine lv_iload hx hb dX0_judge_109 (lv_at hl 0 rfl) ?_
                exact hret0 hM (mwEq.rf) rfl rfl ⟨rfl, rfl, rfl⟩ (by rw [hJ, if_neg (fun q => c_5 q.2)]) dX0_judge_111
              · refine lv_iconst (v := (-1 : Int32)) hx hb dX0_judge_105 (by decide) ?_
                refine lv_goto (tgt := 111) hx hb dX0_judge_106 (by decide) ?_
                exact hret0 hM (mwEq.rf) rfl rfl ⟨rfl, rfl, rfl⟩ (by rw [hJ, if_pos ⟨c_4, c_5⟩]) dX0_judge_111
          · refine lv_iload hx hb dX0_judge_43 (lv_at hl 0 rfl) ?_
            refine lv_aload_n hx hb dX0_judge_45 rfl (lv_at hl 2 rfl) ?_
            refine c_get (v := .ref (hm0 h 0)) hx hb hts in_X0 hown hK (hM.1 0 _ rfl) rfl 1 (by decide) q287 rfl rfl dX0_judge_46 ?_
            have nq := hK.F 8 rfl
            refine c_getN (v := .ref (hm0 h 6)) hx hb hts in_X2 hown hK ((cm_parts hM.1).2.1 0 _ rfl) rfl 7 (by decide) nq rfl rfl dX0_judge_49 ?_
            refine lv_iload_n hx hb dX0_judge_52 rfl (lv_at hl 4 rfl) ?_
            refine c_iald hx hb hK ((cm_parts hM.1).2.1 6 _ rfl) i ⟨by omega, by decide, rfl⟩ dX0_judge_53 ?_
            refine w_top (a 1 (58 + 14 * i + 3)) (rfl) ?_
            refine w_top (nI (cl (a 1 (58 + 14 * i + 3)))) (hq.1) ?_
            refine w_icmp_geN (tgt := 82) hx hb (by omega) (by omega) dX0_judge_54 (by decide) (fun c_6 => ?_) (fun c_6 => ?_)
            · have hJ : jdN (fun q => a 8 (40 * sh + q)) (fun q => a 1 (58 + 14 * i + (4 + q))) (min (cl (a 7 sh)) (cl (a 1 (58 + 14 * i + 3)))) 0 = k := by rw [← ee, show min (cl (a 7 sh)) (cl (a 1 (58 + 14 * i + 3))) - k = 0 by omega, jdN]
              refine lv_iload hx hb dX0_judge_82 (lv_at hl 0 rfl) ?_
              refine lv_aload_n hx hb dX0_judge_84 rfl (lv_at hl 1 rfl) ?_
              refine sv_size hx hb hml hown hts hK q1028 wi0 hwi0 x0 (ya sh) (cl (a 7 sh)) (fun k => a 8 (40 * sh + k)) (hX0.kept (hM.2.2.2.1 x0 hX0.lt (hS0 _ hxA0))) (hY0.kept (hM.2.2.2.1 _ hY0.lt (hS0 _ hyA0))) (by rw [hRf]; decide) (by rw [hRl]; decide) (Nat.zero_le _) (Nat.zero_le _) hl.1 (Nat.le_of_ble_eq_true rfl) dX0_judge_85 ?_
              refine w_icmp_neN (tgt := 109) hx hb (by omega) (by omega) dX0_judge_88 (by decide) (fun c_7 => ?_) (fun c_7 => ?_)
              · refine lv_iload hx hb dX0_judge_109 (lv_at hl 0 rfl) ?_
                exact hret0 hM (mwEq.rf) rfl rfl ⟨rfl, rfl, rfl⟩ (by rw [hJ, if_neg (fun q => c_7 q.1)]) dX0_judge_111
              · refine lv_iload hx hb dX0_judge_91 (lv_at hl 0 rfl) ?_
                refine lv_aload_n hx hb dX0_judge_93 rfl (lv_at hl 2 rfl) ?_
                refine c_get (v := .ref (hm0 h 0)) hx hb hts in_X0 hown hK (hM.1 0 _ rfl) rfl 1 (by decide) q287 rfl rfl dX0_judge_94 ?_
                have nq := hK.F 8 rfl
                refine c_getN (v := .ref (hm0 h 6)) hx hb hts in_X2 hown hK ((cm_parts hM.1).2.1 0 _ rfl) rfl 7 (by decide) nq rfl rfl dX0_judge_97 ?_
                refine lv_iload_n hx hb dX0_judge_100 rfl (lv_at hl 4 rfl) ?_
                refine c_iald hx hb hK ((cm_parts hM.1).2.1 6 _ rfl) i ⟨by omega, by decide, rfl⟩ dX0_judge_101 ?_
                refine w_top (a 1 (58 + 14 * i + 3)) (rfl) ?_
                refine w_top (nI (cl (a 1 (58 + 14 * i + 3)))) (hq.1) ?_
                refine w_icmp_neN (tgt := 109) hx hb (by omega) (by omega) dX0_judge_102 (by decide) (fun c_8 => ?_) (fun c_8 => ?_)
                · refine lv_iload hx hb dX0_judge_109 (lv_at hl 0 rfl) ?_
                  exact hret0 hM (mwEq.rf) rfl rfl ⟨rfl, rfl, rfl⟩ (by rw [hJ, if_neg (fun q => c_8 q.2)]) dX0_judge_111
                · refine lv_iconst (v := (-1 : Int32)) hx hb dX0_judge_105 (by decide) ?_
                  refine lv_goto (tgt := 111) hx hb dX0_judge_106 (by decide) ?_
                  exact hret0 hM (mwEq.rf) rfl rfl ⟨rfl, rfl, rfl⟩ (by rw [hJ, if_pos ⟨c_7, c_8⟩]) dX0_judge_111
            · refine lv_aload_n hx hb dX0_judge_57 rfl (lv_at hl 1 rfl) ?_
              refine lv_iload hx hb dX0_judge_58 (lv_at hl 0 rfl) ?_
              refine sv_get hx hb hml hown hts hK q1040 wi0 hwi0 x0 (ya sh) (cl (a 7 sh)) (fun k => a 8 (40 * sh + k)) k (by omega) (hX0.kept (hM.2.2.2.1 x0 hX0.lt (hS0 _ hxA0))) (hY0.kept (hM.2.2.2.1 _ hY0.lt (hS0 _ hyA0))) (by rw [hRf]; decide) (by rw [hRl]; decide) (Nat.zero_le _) (Nat.zero_le _) hl.1 (Nat.le_of_ble_eq_true rfl) dX0_judge_60 ?_
              refine w_top (a 8 (40 * sh + k)) rfl ?_
              refine lv_aload_n hx hb dX0_judge_63 rfl (lv_at hl 2 rfl) ?_
              refine c_get (v := .ref (hm0 h 0)) hx hb hts in_X0 hown hK (hM.1 0 _ rfl) rfl 1 (by decide) q287 rfl rfl dX0_judge_64 ?_
              refine lv_iload_n hx hb dX0_judge_67 rfl (lv_at hl 4 rfl) ?_
              refine lv_iload hx hb dX0_judge_68 (lv_at hl 0 rfl) ?_
              refine rd_callV (y := yX2_milkAt) hx hb hml hown hts hK ((mw_milkAt (a 1) i k (by omega) (by omega)) D dA (hm0 h) _ _ _) (cm_parts hM.1).2.1 (cAt.recv hK ((cm_parts hM.1).2.1 0 _ rfl) rfl) q626 q583 q584 q66 q585 ndX2_milkAt rfl (by rw [hRf]; decide) (by rw [hRl]; decide) (Nat.zero_le _) (Nat.zero_le _) hl.1 rfl (Nat.le_of_ble_eq_true rfl) dX0_judge_70 ?_
              refine lv_icmp_ne (tgt := 82) hx hb dX0_judge_73 (by decide) (fun c_9 => ?_) (fun c_9 => ?_)
              · have hJ : jdN (fun q => a 8 (40 * sh + q)) (fun q => a 1 (58 + 14 * i + (4 + q))) (min (cl (a 7 sh)) (cl (a 1 (58 + 14 * i + 3)))) 0 = k := by rw [← ee, show min (cl (a 7 sh)) (cl (a 1 (58 + 14 * i + 3))) - k = (min (cl (a 7 sh)) (cl (a 1 (58 + 14 * i + 3))) - (k + 1)) + 1 by omega, jdN, if_neg c_9]
                refine lv_iload hx hb dX0_judge_82 (lv_at hl 0 rfl) ?_
                refine lv_aload_n hx hb dX0_judge_84 rfl (lv_at hl 1 rfl) ?_
                refine sv_size hx hb hml hown hts hK q1028 wi0 hwi0 x0 (ya sh) (cl (a 7 sh)) (fun k => a 8 (40 * sh + k)) (hX0.kept (hM.2.2.2.1 x0 hX0.lt (hS0 _ hxA0))) (hY0.kept (hM.2.2.2.1 _ hY0.lt (hS0 _ hyA0))) (by rw [hRf]; decide) (by rw [hRl]; decide) (Nat.zero_le _) (Nat.zero_le _) hl.1 (Nat.le_of_ble_eq_true rfl) dX0_judge_85 ?_
                refine w_icmp_neN (tgt := 109) hx hb (by omega) (by omega) dX0_judge_88 (by decide) (fun c_10 => ?_) (fun c_10 => ?_)
                · refine lv_iload hx hb dX0_judge_109 (lv_at hl 0 rfl) ?_
                  exact hret0 hM (mwEq.rf) rfl rfl ⟨rfl, rfl, rfl⟩ (by rw [hJ, if_neg (fun q => c_10 q.1)]) dX0_judge_111
                · refine lv_iload hx hb dX0_judge_91 (lv_at hl 0 rfl) ?_
                  refine lv_aload_n hx hb dX0_judge_93 rfl (lv_at hl 2 rfl) ?_
                  refine c_get (v := .ref (hm0 h 0)) hx hb hts in_X0 hown hK (hM.1 0 _ rfl) rfl 1 (by decide) q287 rfl rfl dX0_judge_94 ?_
                  have nq := hK.F 8 rfl
                  refine c_getN (v := .ref (hm0 h 6)) hx hb hts in_X2 hown hK ((cm_parts hM.1).2.1 0 _ rfl) rfl 7 (by decide) nq rfl rfl dX0_judge_97 ?_
                  refine lv_iload_n hx hb dX0_judge_100 rfl (lv_at hl 4 rfl) ?_
                  refine c_iald hx hb hK ((cm_parts hM.1).2.1 6 _ rfl) i ⟨by omega, by decide, rfl⟩ dX0_judge_101 ?_
                  refine w_top (a 1 (58 + 14 * i + 3)) (rfl) ?_
                  refine w_top (nI (cl (a 1 (58 + 14 * i + 3)))) (hq.1) ?_
                  refine w_icmp_neN (tgt := 109) hx hb (by omega) (by omega) dX0_judge_102 (by decide) (fun c_11 => ?_) (fun c_11 => ?_)
                  · refine lv_iload hx hb dX0_judge_109 (lv_at hl 0 rfl) ?_
                    exact hret0 hM (mwEq.rf) rfl rfl ⟨rfl, rfl, rfl⟩ (by rw [hJ, if_neg (fun q => c_11 q.2)]) dX0_judge_111
                  · refine lv_iconst (v := (-1 : Int32)) hx hb dX0_judge_105 (by decide) ?_
                    refine lv_goto (tgt := 111) hx hb dX0_judge_106 (by decide) ?_
                    exact hret0 hM (mwEq.rf) rfl rfl ⟨rfl, rfl, rfl⟩ (by rw [hJ, if_pos ⟨c_10, c_11⟩]) dX0_judge_111
              · refine lv_iinc (v := nI (k + 1)) (lv' := [(4, .int (nI (k + 1))), (3, .ref x0), (0, .ref (h 0)), (1, .int (nI sh)), (2, .int (nI i))]) hx hb dX0_judge_76 hl (k := 0) rfl (by rw [show Int32.ofInt 1 = nI 1 from by decide]; exact nI_add _ _) (by decide) rfl (fun ls hl => ?_)
                refine lv_goto (tgt := 34) hx hb dX0_judge_79 (by decide) ?_
                exact ih34 (k + 1) (by omega) (by omega) (by rw [← ee, show min (cl (a 7 sh)) (cl (a 1 (58 + 14 * i + 3))) - k = (min (cl (a 7 sh)) (cl (a 1 (58 + 14 * i + 3))) - (k + 1)) + 1 by omega, jdN, if_pos c_9]) _ _ _ _ _ hM ls (lv_sub hl [0, 1, 2, 3, 4] rfl)
      exact loop34 (min (cl (a 7 sh)) (cl (a 1 (58 + 14 * i + 3))) + 1) 0 (by omega) (by omega) rfl _ _ _ _ _ hM ls (lv_sub hl [0, 1, 2, 3, 4] rfl)
set_option maxHeartbeats 400000 in
theorem ca_judge_n (f : Nat → Int32) (a : Nat → Nat → Int32) (sh : Nat) (hs : sh < 4) (i : Nat) (hi : i < cl (a 1 3)) (hN0 : okN (a 1 3) 5) (hb0 : a 6 sh = 0) : CmF yX0_judge cX0_judge 5 [(0, 111, 112, 8)] 3 81 [.int (nI sh), .int (nI i)] f a (-1000000002 : Int32) f (mErr a 2) := by
  refine CmF.ofI (by decide) rfl (Nat.le_of_ble_eq_true rfl) ?_
  intro p l e R s m args below meth c Q D dA h fc wk hd ri rt cw tx nm B S ls hx hb hml hRf hRl hRc hRs htab hts hown hK hI hB hS0 hQ hN hIm hZ hSh hM hl hret hret0
  have hl : lv_has ls 5 [(0, .ref (h 0)), (1, .int (nI sh)), (2, .int (nI i))] := hl
  have hN2 := hN0.2
  have hSh2 := hSh
  obtain ⟨ya, hinj, hall⟩ := hSh2
  have hnone : hd sh = none := ((hall sh hs).resolve_right (fun ⟨x, wi, w1, w2, w3, w4, w5, _⟩ => shB_ne wi (w5.symm.trans hb0))).2
  refine lv_aload_n hx hb dX0_judge_0 rfl (lv_at hl 0 rfl) ?_
  refine lv_iload_n hx hb dX0_judge_1 rfl (lv_at hl 1 rfl) ?_
  refine st_callS (y := yX0_isSheet) hx hb hml hown hts (cmX0_isSheet (nI sh)) q1020 q1021 q61 q1022 ndX0_isSheet rfl (by rw [hRf]; decide) (by rw [hRl]; decide) (Nat.zero_le _) (Nat.zero_le _) hl.1 rfl (Nat.le_of_ble_eq_true rfl) dX0_judge_2 ?_
  refine w_if_eqT (tgt := 20) hx hb dX0_judge_5 (by decide) (fun c_1 => ?_) (fun c_1 => ?_)
  · exact absurd (by first | exact (in_nat (by decide)).mpr ⟨_, by omega, rfl⟩ | exact (in_nat1 _ (by decide) (by decide)).mpr ⟨_, by omega, by omega, rfl⟩ | exact cow_in hN0 (by omega) | assumption) c_1
  · refine lv_aload_n hx hb dX0_judge_8 rfl (lv_at hl 0 rfl) ?_
    refine lv_iload_n hx hb dX0_judge_9 rfl (lv_at hl 2 rfl) ?_
    refine rd_callV (y := yX0_isCow) hx hb hml hown hts hK (ca_isCow D dA h _ _ _ _ _ _ _ _ _ _ (nI i)) hM.1 (cAt.recv hK (hM.1 0 _ rfl) rfl) q512 q514 qs4 q61 q515 ndX0_isCow rfl (by rw [hRf]; decide) (by rw [hRl]; decide) (Nat.zero_le _) (Nat.zero_le _) hl.1 rfl (Nat.le_of_ble_eq_true rfl) dX0_judge_10 ?_
    refine w_if_eqT (tgt := 20) hx hb dX0_judge_13 (by decide) (fun c_2 => ?_) (fun c_2 => ?_)
    · exact absurd (by first | exact (in_nat (by decide)).mpr ⟨_, by omega, rfl⟩ | exact (in_nat1 _ (by decide) (by decide)).mpr ⟨_, by omega, by omega, rfl⟩ | exact cow_in hN0 (by omega) | assumption) c_2
    · refine lv_iconst (v := nI 1) hx hb dX0_judge_16 (by decide) ?_
      refine lv_goto (tgt := 21) hx hb dX0_judge_17 (by decide) ?_
      refine lv_iconst (v := nI 1) hx hb dX0_judge_21 (by decide) ?_
      refine cm_n1 hx hb hml hown hts hK hI hM htab (hpc := 112) rfl q333 (by rw [hRf]; decide) (by rw [hRl]; decide) (Nat.zero_le _) (Nat.zero_le _) hl.1 (Nat.le_of_ble_eq_true rfl) dX0_judge_22 (fun locs hM => ?_)
      refine lv_aload_n hx hb dX0_judge_25 rfl (lv_at hl 0 rfl) ?_
      refine lv_iload_n hx hb dX0_judge_26 rfl (lv_at hl 1 rfl) ?_
      refine cm_thr (y := yX0_sheetAt) (As := [.int (nI sh)]) hx hb hml hown hts hK hM.2.2 (ca_sheetAt_n D dA h _ _ _ _ _ _ _ _ _ _ hI sh hs hnone) hM.1 (cAt.recv hK (hM.1 0 _ rfl) rfl) (fun H1 hq => ⟨_, hq 1 _ rfl⟩) htab (hpc := 112) rfl q1023 q1025 qs18 q1026 ndX0_sheetAt rfl (by rw [hRf]; decide) (by rw [hRl]; decide) (Nat.zero_le _) (Nat.zero_le _) hl.1 rfl (Nat.le_of_ble_eq_true rfl) dX0_judge_27 (fun H locs hP1 hS1 => ?_)
      have hM := cmH.of hI hP1 hS1
      refine lv_astore_n (lv' := [(3, .ref (h 1)), (0, .ref (h 0)), (1, .int (nI sh)), (2, .int (nI i))]) hx hb dX0_judge_112 rfl hl (by decide) rfl (fun ls hl => ?_)
      refine lv_aload_n hx hb dX0_judge_113 rfl (lv_at hl 1 rfl) ?_
      refine lv_aload_n hx hb dX0_judge_114 rfl (lv_at hl 0 rfl) ?_
      refine cm_fin hx hb hml hown hts hK hI 2 (by decide) hM q341 (by rw [hRf]; decide) (by rw [hRl]; decide) (Nat.zero_le _) (Nat.zero_le _) hl.1 (Nat.le_of_ble_eq_true rfl) dX0_judge_115 (fun H locs hM => ?_)
      exact hret0 hM (mwEq.rf) rfl rfl ⟨rfl, rfl, rfl⟩ (by decide) dX0_judge_118
set_option maxHeartbeats 400000 in
theorem ca_judge_e (f : Nat → Int32) (a : Nat → Nat → Int32) (sh v : Int32) (he : ¬ ((nI 0 ≤ sh ∧ sh ≤ nI 3) ∧ cowP (a 1) v)) : CmF yX0_judge cX0_judge 5 [(0, 111, 112, 8)] 2 60 [.int sh, .int v] f a (-1000000001 : Int32) f (mErr a 1) := by
  refine CmF.ofI (by decide) rfl (Nat.le_of_ble_eq_true rfl) ?_
  intro p l e R s m args below meth c Q D dA h fc wk hd ri rt cw tx nm B S ls hx hb hml hRf hRl hRc hRs htab hts hown hK hI hB hS0 hQ hN hIm hZ hSh hM hl hret hret0
  have hl : lv_has ls 5 [(0, .ref (h 0)), (1, .int sh), (2, .int v)] := hl
  refine lv_aload_n hx hb dX0_judge_0 rfl (lv_at hl 0 rfl) ?_
  refine lv_iload_n hx hb dX0_judge_1 rfl (lv_at hl 1 rfl) ?_
  refine st_callS (y := yX0_isSheet) hx hb hml hown hts (cmX0_isSheet sh) q1020 q1021 q61 q1022 ndX0_isSheet rfl (by rw [hRf]; decide) (by rw [hRl]; decide) (Nat.zero_le _) (Nat.zero_le _) hl.1 rfl (Nat.le_of_ble_eq_true rfl) dX0_judge_2 ?_
  refine w_if_eqT (tgt := 20) hx hb dX0_judge_5 (by decide) (fun c_1 => ?_) (fun c_1 => ?_)
  · refine lv_iconst (v := nI 0) hx hb dX0_judge_20 (by decide) ?_
    refine lv_iconst (v := nI 1) hx hb dX0_judge_21 (by decide) ?_
    refine cm_n0 hx hb hml hown hts hK hI hM htab (hpc := 112) rfl q333 (by rw [hRf]; decide) (by rw [hRl]; decide) (Nat.zero_le _) (Nat.zero_le _) hl.1 (Nat.le_of_ble_eq_true rfl) dX0_judge_22 (fun H locs hM => ?_)
    refine lv_astore_n (lv' := [(3, .ref (h 1)), (0, .ref (h 0)), (1, .int sh), (2, .int v)]) hx hb dX0_judge_112 rfl hl (by decide) rfl (fun ls hl => ?_)
    refine lv_aload_n hx hb dX0_judge_113 rfl (lv_at hl 1 rfl) ?_
    refine lv_aload_n hx hb dX0_judge_114 rfl (lv_at hl 0 rfl) ?_
    refine cm_fin hx hb hml hown hts hK hI 1 (by decide) hM q341 (by rw [hRf]; decide) (by rw [hRl]; decide) (Nat.zero_le _) (Nat.zero_le _) hl.1 (Nat.le_of_ble_eq_true rfl) dX0_judge_115 (fun H locs hM => ?_)
    exact hret0 hM (mwEq.rf) rfl rfl ⟨rfl, rfl, rfl⟩ (by decide) dX0_judge_118
  · refine lv_aload_n hx hb dX0_judge_8 rfl (lv_at hl 0 rfl) ?_
    refine lv_iload_n hx hb dX0_judge_9 rfl (lv_at hl 2 rfl) ?_
    refine rd_callV (y := yX0_isCow) hx hb hml hown hts hK (ca_isCow D dA h _ _ _ _ _ _ _ _ _ _ v) hM.1 (cAt.recv hK (hM.1 0 _ rfl) rfl) q512 q514 qs4 q61 q515 ndX0_isCow rfl (by rw [hRf]; decide) (by rw [hRl]; decide) (Nat.zero_le _) (Nat.zero_le _) hl.1 rfl (Nat.le_of_ble_eq_true rfl) dX0_judge_10 ?_
    refine w_if_eqT (tgt := 20) hx hb dX0_judge_13 (by decide) (fun c_2 => ?_) (fun c_2 => ?_)
    · refine lv_iconst (v := nI 0) hx hb dX0_judge_20 (by decide) ?_
      refine lv_iconst (v := nI 1) hx hb dX0_judge_21 (by decide) ?_
      refine cm_n0 hx hb hml hown hts hK hI hM htab (hpc := 112) rfl q333 (by rw [hRf]; decide) (by rw [hRl]; decide) (Nat.zero_le _) (Nat.zero_le _) hl.1 (Nat.le_of_ble_eq_true rfl) dX0_judge_22 (fun H locs hM => ?_)
      refine lv_astore_n (lv' := [(3, .ref (h 1)), (0, .ref (h 0)), (1, .int sh), (2, .int v)]) hx hb dX0_judge_112 rfl hl (by decide) rfl (fun ls hl => ?_)
      refine lv_aload_n hx hb dX0_judge_113 rfl (lv_at hl 1 rfl) ?_
      refine lv_aload_n hx hb dX0_judge_114 rfl (lv_at hl 0 rfl) ?_
      refine cm_fin hx hb hml hown hts hK hI 1 (by decide) hM q341 (by rw [hRf]; decide) (by rw [hRl]; decide) (Nat.zero_le _) (Nat.zero_le _) hl.1 (Nat.le_of_ble_eq_true rfl) dX0_judge_115 (fun H locs hM => ?_)
      exact hret0 hM (mwEq.rf) rfl rfl ⟨rfl, rfl, rfl⟩ (by decide) dX0_judge_118
    · refine lv_iconst (v := nI 1) hx hb dX0_judge_16 (by decide) ?_
      refine lv_goto (tgt := 21) hx hb dX0_judge_17 (by decide) ?_
      refine lv_iconst (v := nI 1) hx hb dX0_judge_21 (by decide) ?_
      exact absurd ⟨c_1, c_2⟩ he
