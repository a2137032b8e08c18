/-! move: its errors (printed by comp24.py) -/
set_option maxRecDepth 100000
set_option maxHeartbeats 400000 in
theorem ca_move_n1 (f : Nat → Int32) (a : Nat → Nat → Int32) (sh ot : Nat) (hs : sh < 4) (ho : ot < 4) (i j n : Int32) (hb0 : a 6 sh = 0) : CmF yX0_move cX0_move 10 [(0, 152, 153, 8)] 3 81 [.int (nI sh), .int i, .int (nI ot), .int j, .int n] f a (-1000000002 : Int32) f (mErr a 2) := by
  refine CmF.ofI (by decide) rfl (Nat.le_of_ble_eq_true rfl) ?_
  intro p l e R s m args below meth c Q D dA h fc wk hd ri rt cw tx nm B S ls hx hb hml hRf hRl hRc hRs htab hts hown hK hI hB hS0 hQ hN hIm hZ hSh hM hl hret hret0
  have hl : lv_has ls 10 [(0, .ref (h 0)), (1, .int (nI sh)), (2, .int i), (3, .int (nI ot)), (4, .int j), (5, .int n)] := hl
  have hs0 := hs
  have hs1 := ho
  have hSh2 := hSh
  obtain ⟨ya, hinj, hall⟩ := hSh2
  have hnone : hd sh = none := ((hall sh hs).resolve_right (fun ⟨x, wi, w1, w2, w3, w4, w5, _⟩ => shB_ne wi (w5.symm.trans hb0))).2
  refine lv_aload_n hx hb dX0_move_0 rfl (lv_at hl 0 rfl) ?_
  refine lv_iload_n hx hb dX0_move_1 rfl (lv_at hl 1 rfl) ?_
  refine st_callS (y := yX0_isSheet) hx hb hml hown hts (cmX0_isSheet (nI sh)) q1020 q1021 q61 q1022 ndX0_isSheet rfl (by rw [hRf]; decide) (by rw [hRl]; decide) (Nat.zero_le _) (Nat.zero_le _) hl.1 rfl (Nat.le_of_ble_eq_true rfl) dX0_move_2 ?_
  refine w_if_eqT (tgt := 19) hx hb dX0_move_5 (by decide) (fun c_1 => ?_) (fun c_1 => ?_)
  · exact absurd (by first | exact (in_nat (by decide)).mpr ⟨_, by omega, rfl⟩ | exact (in_nat1 _ (by decide) (by decide)).mpr ⟨_, by omega, by omega, rfl⟩ | exact cow_in hN0 (by omega) | assumption) c_1
  · refine lv_iload_n hx hb dX0_move_8 rfl (lv_at hl 3 rfl) ?_
    refine st_callS (y := yX0_isSheet) hx hb hml hown hts (cmX0_isSheet (nI ot)) q1020 q1021 q61 q1022 ndX0_isSheet rfl (by rw [hRf]; decide) (by rw [hRl]; decide) (Nat.zero_le _) (Nat.zero_le _) hl.1 rfl (Nat.le_of_ble_eq_true rfl) dX0_move_9 ?_
    refine w_if_eqT (tgt := 19) hx hb dX0_move_12 (by decide) (fun c_2 => ?_) (fun c_2 => ?_)
    · exact absurd (by first | exact (in_nat (by decide)).mpr ⟨_, by omega, rfl⟩ | exact (in_nat1 _ (by decide) (by decide)).mpr ⟨_, by omega, by omega, rfl⟩ | exact cow_in hN0 (by omega) | assumption) c_2
    · refine lv_iconst (v := nI 1) hx hb dX0_move_15 (by decide) ?_
      refine lv_goto (tgt := 20) hx hb dX0_move_16 (by decide) ?_
      refine lv_iconst (v := nI 1) hx hb dX0_move_20 (by decide) ?_
      refine cm_n1 hx hb hml hown hts hK hI hM htab (hpc := 153) rfl q333 (by rw [hRf]; decide) (by rw [hRl]; decide) (Nat.zero_le _) (Nat.zero_le _) hl.1 (Nat.le_of_ble_eq_true rfl) dX0_move_21 (fun locs hM => ?_)
      refine lv_aload_n hx hb dX0_move_24 rfl (lv_at hl 0 rfl) ?_
      refine lv_iload_n hx hb dX0_move_25 rfl (lv_at hl 1 rfl) ?_
      refine cm_thr (y := yX0_sheetAt) (As := [.int (nI sh)]) hx hb hml hown hts hK hM.2.2 (ca_sheetAt_n D dA h _ _ _ _ _ _ _ _ _ _ hI sh hs hnone) hM.1 (cAt.recv hK (hM.1 0 _ rfl) rfl) (fun H1 hq => ⟨_, hq 1 _ rfl⟩) htab (hpc := 153) rfl q1023 q1025 qs18 q1026 ndX0_sheetAt rfl (by rw [hRf]; decide) (by rw [hRl]; decide) (Nat.zero_le _) (Nat.zero_le _) hl.1 rfl (Nat.le_of_ble_eq_true rfl) dX0_move_26 (fun H locs hP1 hS1 => ?_)
      have hM := cmH.of hI hP1 hS1
      refine lv_astore (lv' := [(6, .ref (h 1)), (0, .ref (h 0)), (1, .int (nI sh)), (2, .int i), (3, .int (nI ot)), (4, .int j), (5, .int n)]) hx hb dX0_move_153 hl (by decide) rfl (fun ls hl => ?_)
      refine lv_aload_n hx hb dX0_move_155 rfl (lv_at hl 1 rfl) ?_
      refine lv_aload hx hb dX0_move_156 (lv_at hl 0 rfl) ?_
      refine cm_fin hx hb hml hown hts hK hI 2 (by decide) hM q341 (by rw [hRf]; decide) (by rw [hRl]; decide) (Nat.zero_le _) (Nat.zero_le _) hl.1 (Nat.le_of_ble_eq_true rfl) dX0_move_158 (fun H locs hM => ?_)
      exact hret0 hM (mwEq.rf) rfl rfl ⟨rfl, rfl, rfl⟩ (by decide) dX0_move_161
set_option maxHeartbeats 400000 in
theorem ca_move_n2 (f : Nat → Int32) (a : Nat → Nat → Int32) (sh ot : Nat) (hs : sh < 4) (ho : ot < 4) (i j n : Int32) (hb00 : ¬ a 6 sh = 0) (hb01 : a 6 ot = 0) : CmF yX0_move cX0_move 10 [(0, 152, 153, 8)] 3 81 [.int (nI sh), .int i, .int (nI ot), .int j, .int n] f a (-1000000002 : Int32) f (mErr a 2) := by
  refine CmF.ofI (by decide) rfl (Nat.le_of_ble_eq_true rfl) ?_
  intro p l e R s m args below meth c Q D dA h fc wk hd ri rt cw tx nm B S ls hx hb hml hRf hRl hRc hRs htab hts hown hK hI hB hS0 hQ hN hIm hZ hSh hM hl hret hret0
  have hl : lv_has ls 10 [(0, .ref (h 0)), (1, .int (nI sh)), (2, .int i), (3, .int (nI ot)), (4, .int j), (5, .int n)] := hl
  have hs0 := hs
  have hs1 := ho
  have hSh2 := hSh
  obtain ⟨ya, hinj, hall⟩ := hSh2
  obtain ⟨x0, wi0, hwi0, hxd0, hxA0, hyA0, hb60, hz70, hX0, hY0⟩ := (hall sh hs0).resolve_left (fun q => hb00 q.1)
  have hz720 := hz70.2
  have hnone : hd ot = none := ((hall ot ho).resolve_right (fun ⟨x, wi, w1, w2, w3, w4, w5, _⟩ => shB_ne wi (w5.symm.trans hb01))).2
  refine lv_aload_n hx hb dX0_move_0 rfl (lv_at hl 0 rfl) ?_
  refine lv_iload_n hx hb dX0_move_1 rfl (lv_at hl 1 rfl) ?_
  refine st_callS (y := yX0_isSheet) hx hb hml hown hts (cmX0_isSheet (nI sh)) q1020 q1021 q61 q1022 ndX0_isSheet rfl (by rw [hRf]; decide) (by rw [hRl]; decide) (Nat.zero_le _) (Nat.zero_le _) hl.1 rfl (Nat.le_of_ble_eq_true rfl) dX0_move_2 ?_
  refine w_if_eqT (tgt := 19) hx hb dX0_move_5 (by decide) (fun c_1 => ?_) (fun c_1 => ?_)
  · exact absurd (by first | exact (in_nat (by decide)).mpr ⟨_, by omega, rfl⟩ | exact (in_nat1 _ (by decide) (by decide)).mpr ⟨_, by omega, by omega, rfl⟩ | exact cow_in hN0 (by omega) | assumption) c_1
  · refine lv_iload_n hx hb dX0_move_8 rfl (lv_at hl 3 rfl) ?_
    refine st_callS (y := yX0_isSheet) hx hb hml hown hts (cmX0_isSheet (nI ot)) q1020 q1021 q61 q1022 ndX0_isSheet rfl (by rw [hRf]; decide) (by rw [hRl]; decide) (Nat.zero_le _) (Nat.zero_le _) hl.1 rfl (Nat.le_of_ble_eq_true rfl) dX0_move_9 ?_
    refine w_if_eqT (tgt := 19) hx hb dX0_move_12 (by decide) (fun c_2 => ?_) (fun c_2 => ?_)
    · exact absurd (by first | exact (in_nat (by decide)).mpr ⟨_, by omega, rfl⟩ | exact (in_nat1 _ (by decide) (by decide)).mpr ⟨_, by omega, by omega, rfl⟩ | exact cow_in hN0 (by omega) | assumption) c_2
    · refine lv_iconst (v := nI 1) hx hb dX0_move_15 (by decide) ?_
      refine lv_goto (tgt := 20) hx hb dX0_move_16 (by decide) ?_
      refine lv_iconst (v := nI 1) hx hb dX0_move_20 (by decide) ?_
      refine cm_n1 hx hb hml hown hts hK hI hM htab (hpc := 153) rfl q333 (by rw [hRf]; decide) (by rw [hRl]; decide) (Nat.zero_le _) (Nat.zero_le _) hl.1 (Nat.le_of_ble_eq_true rfl) dX0_move_21 (fun locs hM => ?_)
      refine lv_aload_n hx hb dX0_move_24 rfl (lv_at hl 0 rfl) ?_
      refine lv_iload_n hx hb dX0_move_25 rfl (lv_at hl 1 rfl) ?_
      refine cg_callV (y := yX0_sheetAt) (b := h 0) (C := RX0) (As := [.int (nI sh)]) hx hb hml hown hts hK hM.2.2 (ca_sheetAt_ok D dA h _ _ _ _ _ _ _ _ _ _ hI sh x0 wi0 hs0 hxd0 (hS0 _ hxA0) hwi0 _) ⟨hM.1, hX0.kept (hM.2.2.2.1 x0 hX0.lt (hS0 _ hxA0))⟩ (fun q hq => hq) (cAt.recv hK (hM.1 0 _ rfl) rfl) q1023 q1025 qs18 q61 q1026 ndX0_sheetAt rfl (by rw [hRf]; decide) (by rw [hRl]; decide) (Nat.zero_le _) (Nat.zero_le _) hl.1 rfl (Nat.le_of_ble_eq_true rfl) dX0_move_26 ?_
      rintro _ H locs ⟨rfl, hP1⟩ hz1 hk1 hS1
      have hM := cmH.of hI hP1 hS1
      refine lv_astore (lv' := [(6, .ref x0), (0, .ref (h 0)), (1, .int (nI sh)), (2, .int i), (3, .int (nI ot)), (4, .int j), (5, .int n)]) hx hb dX0_move_29 hl (by decide) rfl (fun ls hl => ?_)
      refine lv_aload_n hx hb dX0_move_31 rfl (lv_at hl 1 rfl) ?_
      refine lv_iload_n hx hb dX0_move_32 rfl (lv_at hl 4 rfl) ?_
      refine cm_thr (y := yX0_sheetAt) (As := [.int (nI ot)]) hx hb hml hown hts hK hM.2.2 (ca_sheetAt_n D dA h _ _ _ _ _ _ _ _ _ _ hI ot ho hnone) hM.1 (cAt.recv hK (hM.1 0 _ rfl) rfl) (fun H1 hq => ⟨_, hq 1 _ rfl⟩) htab (hpc := 153) rfl q1023 q1025 qs18 q1026 ndX0_sheetAt rfl (by rw [hRf]; decide) (by rw [hRl]; decide) (Nat.zero_le _) (Nat.zero_le _) hl.1 rfl (Nat.le_of_ble_eq_true rfl) dX0_move_33 (fun H locs hP1 hS1 => ?_)
      have hM := cmH.of hI hP1 hS1
      refine lv_astore (lv' := [(6, .ref (h 1)), (0, .ref (h 0)), (1, .int (nI sh)), (2, .int i), (3, .int (nI ot)), (4, .int j), (5, .int n)]) hx hb dX0_move_153 hl (by decide) rfl (fun ls hl => ?_)
      refine lv_aload_n hx hb dX0_move_155 rfl (lv_at hl 1 rfl) ?_
      refine lv_aload hx hb dX0_move_156 (lv_at hl 0 rfl) ?_
      refine cm_fin hx hb hml hown hts hK hI 2 (by decide) hM q341 (by rw [hRf]; decide) (by rw [hRl]; decide) (Nat.zero_le _) (Nat.zero_le _) hl.1 (Nat.le_of_ble_eq_true rfl) dX0_move_158 (fun H locs hM => ?_)
      exact hret0 hM (mwEq.rf) rfl rfl ⟨rfl, rfl, rfl⟩ (by decide) dX0_move_161
set_option maxHeartbeats 400000 in
theorem ca_move_k (f : Nat → Int32) (a : Nat → Nat → Int32) (sh ot : Nat) (hs : sh < 4) (ho : ot < 4) (i j n : Int32) (hb00 : ¬ a 6 sh = 0) (hb01 : ¬ a 6 ot = 0) (heq : ¬ a 6 sh = a 6 ot) : CmF yX0_move cX0_move 10 [(0, 152, 153, 8)] 3 81 [.int (nI sh), .int i, .int (nI ot), .int j, .int n] f a (-1000000005 : Int32) f (mErr a 5) := by
  refine CmF.ofI (by decide) rfl (Nat.le_of_ble_eq_true rfl) ?_
  intro p l e R s m args below meth c Q D dA h fc wk hd ri rt cw tx nm B S ls hx hb hml hRf hRl hRc hRs htab hts hown hK hI hB hS0 hQ hN hIm hZ hSh hM hl hret hret0
  have hl : lv_has ls 10 [(0, .ref (h 0)), (1, .int (nI sh)), (2, .int i), (3, .int (nI ot)), (4, .int j), (5, .int n)] := hl
  have hs0 := hs
  have hs1 := ho
  have hSh2 := hSh
  obtain ⟨ya, hinj, hall⟩ := hSh2
  obtain ⟨x0, wi0, hwi0, hxd0, hxA0, hyA0, hb60, hz70, hX0, hY0⟩ := (hall sh hs0).resolve_left (fun q => hb00 q.1)
  have hz720 := hz70.2
  obtain ⟨x1, wi1, hwi1, hxd1, hxA1, hyA1, hb61, hz71, hX1, hY1⟩ := (hall ot hs1).resolve_left (fun q => hb01 q.1)
  have hz721 := hz71.2
  refine lv_aload_n hx hb dX0_move_0 rfl (lv_at hl 0 rfl) ?_
  refine lv_iload_n hx hb dX0_move_1 rfl (lv_at hl 1 rfl) ?_
  refine st_callS (y := yX0_isSheet) hx hb hml hown hts (cmX0_isSheet (nI sh)) q1020 q1021 q61 q1022 ndX0_isSheet rfl (by rw [hRf]; decide) (by rw [hRl]; decide) (Nat.zero_le _) (Nat.zero_le _) hl.1 rfl (Nat.le_of_ble_eq_true rfl) dX0_move_2 ?_
  refine w_if_eqT (tgt := 19) hx hb dX0_move_5 (by decide) (fun c_1 => ?_) (fun c_1 => ?_)
  · exact absurd (by first | exact (in_nat (by decide)).mpr ⟨_, by omega, rfl⟩ | exact (in_nat1 _ (by decide) (by decide)).mpr ⟨_, by omega, by omega, rfl⟩ | exact cow_in hN0 (by omega) | assumption) c_1
  · refine lv_iload_n hx hb dX0_move_8 rfl (lv_at hl 3 rfl) ?_
    refine st_callS (y := yX0_isSheet) hx hb hml hown hts (cmX0_isSheet (nI ot)) q1020 q1021 q61 q1022 ndX0_isSheet rfl (by rw [hRf]; decide) (by rw [hRl]; decide) (Nat.zero_le _) (Nat.zero_le _) hl.1 rfl (Nat.le_of_ble_eq_true rfl) dX0_move_9 ?_
    refine w_if_eqT (tgt := 19) hx hb dX0_move_12 (by decide) (fun c_2 => ?_) (fun c_2 => ?_)
    · exact absurd (by first | exact (in_nat (by decide)).mpr ⟨_, by omega, rfl⟩ | exact (in_nat1 _ (by decide) (by decide)).mpr ⟨_, by omega, by omega, rfl⟩ | exact cow_in hN0 (by omega) | assumption) c_2
    · refine lv_iconst (v := nI 1) hx hb dX0_move_15 (by decide) ?_
      refine lv_goto (tgt := 20) hx hb dX0_move_16 (by decide) ?_
      refine lv_iconst (v := nI 1) hx hb dX0_move_20 (by decide) ?_
      refine cm_n1 hx hb hml hown hts hK hI hM htab (hpc := 153) rfl q333 (by rw [hRf]; decide) (by rw [hRl]; decide) (Nat.zero_le _) (Nat.zero_le _) hl.1 (Nat.le_of_ble_eq_true rfl) dX0_move_21 (fun locs hM => ?_)
      refine lv_aload_n hx hb dX0_move_24 rfl (lv_at hl 0 rfl) ?_
      refine lv_iload_n hx hb dX0_move_25 rfl (lv_at hl 1 rfl) ?_
      refine cg_callV (y := yX0_sheetAt) (b := h 0) (C := RX0) (As := [.int (nI sh)]) hx hb hml hown hts hK hM.2.2 (ca_sheetAt_ok D dA h _ _ _ _ _ _ _ _ _ _ hI sh x0 wi0 hs0 hxd0 (hS0 _ hxA0) hwi0 _) ⟨hM.1, hX0.kept (hM.2.2.2.1 x0 hX0.lt (hS0 _ hxA0))⟩ (fun q hq => hq) (cAt.recv hK (hM.1 0 _ rfl) rfl) q1023 q1025 qs18 q61 q1026 ndX0_sheetAt rfl (by rw [hRf]; decide) (by rw [hRl]; decide) (Nat.zero_le _) (Nat.zero_le _) hl.1 rfl (Nat.le_of_ble_eq_true rfl) dX0_move_26 ?_
      rintro _ H locs ⟨rfl, hP1⟩ hz1 hk1 hS1
      have hM := cmH.of hI hP1 hS1
      refine lv_astore (lv' := [(6, .ref x0), (0, .ref (h 0)), (1, .int (nI sh)), (2, .int i), (3, .int (nI ot)), (4, .int j), (5, .int n)]) hx hb dX0_move_29 hl (by decide) rfl (fun ls hl => ?_)
      refine lv_aload_n hx hb dX0_move_31 rfl (lv_at hl 1 rfl) ?_
      refine lv_iload_n hx hb dX0_move_32 rfl (lv_at hl 4 rfl) ?_
      refine cg_callV (y := yX0_sheetAt) (b := h 0) (C := RX0) (As := [.int (nI ot)]) hx hb hml hown hts hK hM.2.2 (ca_sheetAt_ok D dA h _ _ _ _ _ _ _ _ _ _ hI ot x1 wi1 hs1 hxd1 (hS0 _ hxA1) hwi1 _) ⟨hM.1, hX1.kept (hM.2.2.2.1 x1 hX1.lt (hS0 _ hxA1))⟩ (fun q hq => hq) (cAt.recv hK (hM.1 0 _ rfl) rfl) q1023 q1025 qs18 q61 q1026 ndX0_sheetAt rfl (by rw [hRf]; decide) (by rw [hRl]; decide) (Nat.zero_le _) (Nat.zero_le _) hl.1 rfl (Nat.le_of_ble_eq_true rfl) dX0_move_33 ?_
      rintro _ H locs ⟨rfl, hP1⟩ hz1 hk1 hS1
      have hM := cmH.of hI hP1 hS1
      refine lv_astore (lv' := [(7, .ref x1), (6, .ref x0), (0, .ref (h 0)), (1, .int (nI sh)), (2, .int i), (3, .int (nI ot)), (4, .int j), (5, .int n)]) hx hb dX0_move_36 hl (by decide) rfl (fun ls hl => ?_)
      refine lv_aload_n hx hb dX0_move_38 rfl (lv_at hl 2 rfl) ?_
      refine lv_aload hx hb dX0_move_39 (lv_at hl 1 rfl) ?_
      refine sv_width hx hb hml hown hts hK q1339 wi0 hwi0 x0 (ya sh) (cl (a 7 sh)) (fun k => a 8 (40 * sh + k)) (hX0.kept (hM.2.2.2.1 x0 hX0.lt (hS0 _ hxA0))) (hY0.kept (hM.2.2.2.1 _ hY0.lt (hS0 _ hyA0))) (by rw [hRf]; decide) (by rw [hRl]; decide) (Nat.zero_le _) (Nat.zero_le _) hl.1 (Nat.le_of_ble_eq_true rfl) dX0_move_41 ?_
      refine w_top (a 6 sh) hb60.symm ?_
      refine lv_aload hx hb dX0_move_44 (lv_at hl 0 rfl) ?_
      refine sv_width hx hb hml hown hts hK q1339 wi1 hwi1 x1 (ya ot) (cl (a 7 ot)) (fun k => a 8 (40 * ot + k)) (hX1.kept (hM.2.2.2.1 x1 hX1.lt (hS0 _ hxA1))) (hY1.kept (hM.2.2.2.1 _ hY1.lt (hS0 _ hyA1))) (by rw [hRf]; decide) (by rw [hRl]; decide) (Nat.zero_le _) (Nat.zero_le _) hl.1 (Nat.le_of_ble_eq_true rfl) dX0_move_46 ?_
      refine w_top (a 6 ot) hb61.symm ?_
      refine lv_icmp_ne (tgt := 56) hx hb dX0_move_49 (by decide) (fun c_3 => ?_) (fun c_3 => ?_)
      · refine lv_iconst (v := nI 0) hx hb dX0_move_56 (by decide) ?_
        refine lv_iconst (v := nI 5) hx hb dX0_move_57 (by decide) ?_
        refine cm_n0 hx hb hml hown hts hK hI hM htab (hpc := 153) rfl q333 (by rw [hRf]; decide) (by rw [hRl]; decide) (Nat.zero_le _) (Nat.zero_le _) hl.1 (Nat.le_of_ble_eq_true rfl) dX0_move_58 (fun H locs hM => ?_)
        refine lv_astore (lv' := [(6, .ref (h 1)), (7, .ref x1), (0, .ref (h 0)), (1, .int (nI sh)), (2, .int i), (3, .int (nI ot)), (4, .int j), (5, .int n)]) hx hb dX0_move_153 hl (by decide) rfl (fun ls hl => ?_)
        refine lv_aload_n hx hb dX0_move_155 rfl (lv_at hl 2 rfl) ?_
        refine lv_aload hx hb dX0_move_156 (lv_at hl 0 rfl) ?_
        refine cm_fin hx hb hml hown hts hK hI 5 (by decide) hM q341 (by rw [hRf]; decide) (by rw [hRl]; decide) (Nat.zero_le _) (Nat.zero_le _) hl.1 (Nat.le_of_ble_eq_true rfl) dX0_move_158 (fun H locs hM => ?_)
        exact hret0 hM (mwEq.rf) rfl rfl ⟨rfl, rfl, rfl⟩ (by decide) dX0_move_161
      · exact absurd c_3 heq
set_option maxHeartbeats 400000 in
theorem ca_move_i (f : Nat → Int32) (a : Nat → Nat → Int32) (sh ot : Nat) (hs : sh < 4) (ho : ot < 4) (i j n : Int32) (hb00 : ¬ a 6 sh = 0) (hb01 : ¬ a 6 ot = 0) (heq : a 6 sh = a 6 ot) (he : ¬ (¬ n < 0 ∧ ¬ i < 0 ∧ ¬ j < 0 ∧ ¬ a 7 sh - n < i ∧ j ≤ a 7 ot - n)) : CmF yX0_move cX0_move 10 [(0, 152, 153, 8)] 3 81 [.int (nI sh), .int i, .int (nI ot), .int j, .int n] f a (-1000000001 : Int32) f (mErr a 1) := by
  refine CmF.ofI (by decide) rfl (Nat.le_of_ble_eq_true rfl) ?_
  intro p l e R s m args below meth c Q D dA h fc wk hd ri rt cw tx nm B S ls hx hb hml hRf hRl hRc hRs htab hts hown hK hI hB hS0 hQ hN hIm hZ hSh hM hl hret hret0
  have hl : lv_has ls 10 [(0, .ref (h 0)), (1, .int (nI sh)), (2, .int i), (3, .int (nI ot)), (4, .int j), (5, .int n)] := hl
  have hs0 := hs
  have hs1 := ho
  have hSh2 := hSh
  obtain ⟨ya, hinj, hall⟩ := hSh2
  obtain ⟨x0, wi0, hwi0, hxd0, hxA0, hyA0, hb60, hz70, hX0, hY0⟩ := (hall sh hs0).resolve_left (fun q => hb00 q.1)
  have hz720 := hz70.2
  obtain ⟨x1, wi1, hwi1, hxd1, hxA1, hyA1, hb61, hz71, hX1, hY1⟩ := (hall ot hs1).resolve_left (fun q => hb01 q.1)
  have hz721 := hz71.2
  refine lv_aload_n hx hb dX0_move_0 rfl (lv_at hl 0 rfl) ?_
  refine lv_iload_n hx hb dX0_move_1 rfl (lv_at hl 1 rfl) ?_
  refine st_callS (y := yX0_isSheet) hx hb hml hown hts (cmX0_isSheet (nI sh)) q1020 q1021 q61 q1022 ndX0_isSheet rfl (by rw [hRf]; decide) (by rw [hRl]; decide) (Nat.zero_le _) (Nat.zero_le _) hl.1 rfl (Nat.le_of_ble_eq_true rfl) dX0_move_2 ?_
  refine w_if_eqT (tgt := 19) hx hb dX0_move_5 (by decide) (fun c_1 => ?_) (fun c_1 => ?_)
  · exact absurd (by first | exact (in_nat (by decide)).mpr ⟨_, by omega, rfl⟩ | exact (in_nat1 _ (by decide) (by decide)).mpr ⟨_, by omega, by omega, rfl⟩ | exact cow_in hN0 (by omega) | assumption) c_1
  · refine lv_iload_n hx hb dX0_move_8 rfl (lv_at hl 3 rfl) ?_
    refine st_callS (y := yX0_isSheet) hx hb hml hown hts (cmX0_isSheet (nI ot)) q1020 q1021 q61 q1022 ndX0_isSheet rfl (by rw [hRf]; decide) (by rw [hRl]; decide) (Nat.zero_le _) (Nat.zero_le _) hl.1 rfl (Nat.le_of_ble_eq_true rfl) dX0_move_9 ?_
    refine w_if_eqT (tgt := 19) hx hb dX0_move_12 (by decide) (fun c_2 => ?_) (fun c_2 => ?_)
    · exact absurd (by first | exact (in_nat (by decide)).mpr ⟨_, by omega, rfl⟩ | exact (in_nat1 _ (by decide) (by decide)).mpr ⟨_, by omega, by omega, rfl⟩ | exact cow_in hN0 (by omega) | assumption) c_2
    · refine lv_iconst (v := nI 1) hx hb dX0_move_15 (by decide) ?_
      refine lv_goto (tgt := 20) hx hb dX0_move_16 (by decide) ?_
      refine lv_iconst (v := nI 1) hx hb dX0_move_20 (by decide) ?_
      refine cm_n1 hx hb hml hown hts hK hI hM htab (hpc := 153) rfl q333 (by rw [hRf]; decide) (by rw [hRl]; decide) (Nat.zero_le _) (Nat.zero_le _) hl.1 (Nat.le_of_ble_eq_true rfl) dX0_move_21 (fun locs hM => ?_)
      refine lv_aload_n hx hb dX0_move_24 rfl (lv_at hl 0 rfl) ?_
      refine lv_iload_n hx hb dX0_move_25 rfl (lv_at hl 1 rfl) ?_
      refine cg_callV (y := yX0_sheetAt) (b := h 0) (C := RX0) (As := [.int (nI sh)]) hx hb hml hown hts hK hM.2.2 (ca_sheetAt_ok D dA h _ _ _ _ _ _ _ _ _ _ hI sh x0 wi0 hs0 hxd0 (hS0 _ hxA0) hwi0 _) ⟨hM.1, hX0.kept (hM.2.2.2.1 x0 hX0.lt (hS0 _ hxA0))⟩ (fun q hq => hq) (cAt.recv hK (hM.1 0 _ rfl) rfl) q1023 q1025 qs18 q61 q1026 ndX0_sheetAt rfl (by rw [hRf]; decide) (by rw [hRl]; decide) (Nat.zero_le _) (Nat.zero_le _) hl.1 rfl (Nat.le_of_ble_eq_true rfl) dX0_move_26 ?_
      rintro _ H locs ⟨rfl, hP1⟩ hz1 hk1 hS1
      have hM := cmH.of hI hP1 hS1
      refine lv_astore (lv' := [(6, .ref x0), (0, .ref (h 0)), (1, .int (nI sh)), (2, .int i), (3, .int (nI ot)), (4, .int j), (5, .int n)]) hx hb dX0_move_29 hl (by decide) rfl (fun ls hl => ?_)
      refine lv_aload_n hx hb dX0_move_31 rfl (lv_at hl 1 rfl) ?_
      refine lv_iload_n hx hb dX0_move_32 rfl (lv_at hl 4 rfl) ?_
      refine cg_callV (y := yX0_sheetAt) (b := h 0) (C := RX0) (As := [.int (nI ot)]) hx hb hml hown hts hK hM.2.2 (ca_sheetAt_ok D dA h _ _ _ _ _ _ _ _ _ _ hI ot x1 wi1 hs1 hxd1 (hS0 _ hxA1) hwi1 _) ⟨hM.1, hX1.kept (hM.2.2.2.1 x1 hX1.lt (hS0 _ hxA1))⟩ (fun q hq => hq) (cAt.recv hK (hM.1 0 _ rfl) rfl) q1023 q1025 qs18 q61 q1026 ndX0_sheetAt rfl (by rw [hRf]; decide) (by rw [hRl]; decide) (Nat.zero_le _) (Nat.zero_le _) hl.1 rfl (Nat.le_of_ble_eq_true rfl) dX0_move_33 ?_
      rintro _ H locs ⟨rfl, hP1⟩ hz1 hk1 hS1
      have hM := cmH.of hI hP1 hS1
      refine lv_astore (lv' := [(7, .ref x1), (6, .ref x0), (0, .ref (h 0)), (1, .int (nI sh)), (2, .int i), (3, .int (nI ot)), (4, .int j), (5, .int n)]) hx hb dX0_move_36 hl (by decide) rfl (fun ls hl => ?_)
      refine lv_aload_n hx hb dX0_move_38 rfl (lv_at hl 2 rfl) ?_
      refine lv_aload hx hb dX0_move_39 (lv_at hl 1 rfl) ?_
      refine sv_width hx hb hml hown hts hK q1339 wi0 hwi0 x0 (ya sh) (cl (a 7 sh)) (fun k => a 8 (40 * sh + k)) (hX0.kept (hM.2.2.2.1 x0 hX0.lt (hS0 _ hxA0))) (hY0.kept (hM.2.2.2.1 _ hY0.lt (hS0 _ hyA0))) (by rw [hRf]; decide) (by rw [hRl]; decide) (Nat.zero_le _) (Nat.zero_le _) hl.1 (Nat.le_of_ble_eq_true rfl) dX0_move_41 ?_
      refine w_top (a 6 sh) hb60.symm ?_
      refine lv_aload hx hb dX0_move_44 (lv_at hl 0 rfl) ?_
      refine sv_width hx hb hml hown hts hK q1339 wi1 hwi1 x1 (ya ot) (cl (a 7 ot)) (fun k => a 8 (40 * ot + k)) (hX1.kept (hM.2.2.2.1 x1 hX1.lt (hS0 _ hxA1))) (hY1.kept (hM.2.2.2.1 _ hY1.lt (hS0 _ hyA1))) (by rw [hRf]; decide) (by rw [hRl]; decide) (Nat.zero_le _) (Nat.zero_le _) hl.1 (Nat.le_of_ble_eq_true rfl) dX0_move_46 ?_
      refine w_top (a 6 ot) hb61.symm ?_
      refine lv_icmp_ne (tgt := 56) hx hb dX0_move_49 (by decide) (fun c_3 => ?_) (fun c_3 => ?_)
      · exact absurd heq c_3
      · refine lv_iconst (v := nI 1) hx hb dX0_move_52 (by decide) ?_
        refine lv_goto (tgt := 57) hx hb dX0_move_53 (by decide) ?_
        refine lv_iconst (v := nI 5) hx hb dX0_move_57 (by decide) ?_
        refine cm_n1 hx hb hml hown hts hK hI hM htab (hpc := 153) rfl q333 (by rw [hRf]; decide) (by rw [hRl]; decide) (Nat.zero_le _) (Nat.zero_le _) hl.1 (Nat.le_of_ble_eq_true rfl) dX0_move_58 (fun locs hM => ?_)
        refine lv_aload_n hx hb dX0_move_61 rfl (lv_at hl 2 rfl) ?_
        refine lv_iload hx hb dX0_move_62 (lv_at hl 7 rfl) ?_
        refine lv_if_lt (tgt := 105) hx hb dX0_move_64 (by decide) (fun c_4 => ?_) (fun c_4 => ?_)
        · refine lv_iconst (v := nI 0) hx hb dX0_move_105 (by decide) ?_
          refine lv_iconst (v := nI 1) hx hb dX0_move_106 (by decide) ?_
          refine cm_n0 hx hb hml hown hts hK hI hM htab (hpc := 153) rfl q333 (by rw [hRf]; decide) (by rw [hRl]; decide) (Nat.zero_le _) (Nat.zero_le _) hl.1 (Nat.le_of_ble_eq_true rfl) dX0_move_107 (fun H locs hM => ?_)
          refine lv_astore (lv' := [(6, .ref (h 1)), (7, .ref x1), (0, .ref (h 0)), (1, .int (nI sh)), (2, .int i), (3, .int (nI ot)), (4, .int j), (5, .int n)]) hx hb dX0_move_153 hl (by decide) rfl (fun ls hl => ?_)
          refine lv_aload_n hx hb dX0_move_155 rfl (lv_at hl 2 rfl) ?_
          refine lv_aload hx hb dX0_move_156 (lv_at hl 0 rfl) ?_
          refine cm_fin hx hb hml hown hts hK hI 1 (by decide) hM q341 (by rw [hRf]; decide) (by rw [hRl]; decide) (Nat.zero_le _) (Nat.zero_le _) hl.1 (Nat.le_of_ble_eq_true rfl) dX0_move_158 (fun H locs hM => ?_)
          exact hret0 hM (mwEq.rf) rfl rfl ⟨rfl, rfl, rfl⟩ (by decide) dX0_move_161
        · refine lv_iload_n hx hb dX0_move_67 rfl (lv_at hl 4 rfl) ?_
          refine lv_if_lt (tgt := 105) hx hb dX0_move_68 (by decide) (fun c_5 => ?_) (fun c_5 => ?_)
          · refine lv_iconst (v := nI 0) hx hb dX0_move_105 (by decide) ?_
            refine lv_iconst (v := nI 1) hx hb dX0_move_106 (by decide) ?_
            refine cm_n0 hx hb hml hown hts hK hI hM htab (hpc := 153) rfl q333 (by rw [hRf]; decide) (by rw [hRl]; decide) (Nat.zero_le _) (Nat.zero_le _) hl.1 (Nat.le_of_ble_eq_true rfl) dX0_move_107 (fun H locs hM => ?_)
            refine lv_astore (lv' := [(6, .ref (h 1)), (7, .ref x1), (0, .ref (h 0)), (1, .int (nI sh)), (2, .int i), (3, .int (nI ot)), (4, .int j), (5, .int n)]) hx hb dX0_move_153 hl (by decide) rfl (fun ls hl => ?_)
            refine lv_aload_n hx hb dX0_move_155 rfl (lv_at hl 2 rfl) ?_
            refine lv_aload hx hb dX0_move_156 (lv_at hl 0 rfl) ?_
            refine cm_fin hx hb hml hown hts hK hI 1 (by decide) hM q341 (by rw [hRf]; decide) (by rw [hRl]; decide) (Nat.zero_le _) (Nat.zero_le _) hl.1 (Nat.le_of_ble_eq_true rfl) dX0_move_158 (fun H locs hM => ?_)
            exact hret0 hM (mwEq.rf) rfl rfl ⟨rfl, rfl, rfl⟩ (by decide) dX0_move_161
          · refine lv_iload hx hb dX0_move_71 (lv_at hl 6 rfl) ?_
            refine lv_if_lt (tgt := 105) hx hb dX0_move_73 (by decide) (fun c_6 => ?_) (fun c_6 => ?_)
            · refine lv_iconst (v := nI 0) hx hb dX0_move_105 (by decide) ?_
              refine lv_iconst (v := nI 1) hx hb dX0_move_106 (by decide) ?_
              refine cm_n0 hx hb hml hown hts hK hI hM htab (hpc := 153) rfl q333 (by rw [hRf]; decide) (by rw [hRl]; decide) (Nat.zero_le _) (Nat.zero_le _) hl.1 (Nat.le_of_ble_eq_true rfl) dX0_move_107 (fun H locs hM => ?_)
              refine lv_astore (lv' := [(6, .ref (h 1)), (7, .ref x1), (0, .ref (h 0)), (1, .int (nI sh)), (2, .int i), (3, .int (nI ot)), (4, .int j), (5, .int n)]) hx hb dX0_move_153 hl (by decide) rfl (fun ls hl => ?_)
              refine lv_aload_n hx hb dX0_move_155 rfl (lv_at hl 2 rfl) ?_
              refine lv_aload hx hb dX0_move_156 (lv_at hl 0 rfl) ?_
              refine cm_fin hx hb hml hown hts hK hI 1 (by decide) hM q341 (by rw [hRf]; decide) (by rw [hRl]; decide) (Nat.zero_le _) (Nat.zero_le _) hl.1 (Nat.le_of_ble_eq_true rfl) dX0_move_158 (fun H locs hM => ?_)
              exact hret0 hM (mwEq.rf) rfl rfl ⟨rfl, rfl, rfl⟩ (by decide) dX0_move_161
            · refine lv_iload_n hx hb dX0_move_76 rfl (lv_at hl 4 rfl) ?_
              refine lv_aload hx hb dX0_move_77 (lv_at hl 1 rfl) ?_
              refine sv_size hx hb hml hown hts hK q1028 wi0 hwi0 x0 (ya sh) (cl (a 7 sh)) (fun k => a 8 (40 * sh + k)) (hX0.kept (hM.2.2.2.1 x0 hX0.lt (hS0 _ hxA0))) (hY0.kept (hM.2.2.2.1 _ hY0.lt (hS0 _ hyA0))) (by rw [hRf]; decide) (by rw [hRl]; decide) (Nat.zero_le _) (Nat.zero_le _) hl.1 (Nat.le_of_ble_eq_true rfl) dX0_move_79 ?_
              refine w_top (a 7 sh) (hz70.1.symm) ?_
              refine lv_iload hx hb dX0_move_82 (lv_at hl 7 rfl) ?_
              refine lv_isub hx hb dX0_move_84 ?_
              refine lv_icmp_gt (tgt := 105) hx hb dX0_move_85 (by decide) (fun c_7 => ?_) (fun c_7 => ?_)
              · refine lv_iconst (v := nI 0) hx hb dX0_move_105 (by decide) ?_
                refine lv_iconst (v := nI 1) hx hb dX0_move_106 (by decide) ?_
                refine cm_n0 hx hb hml hown hts hK hI hM htab (hpc := 153) rfl q333 (by rw [hRf]; decide) (by rw [hRl]; decide) (Nat.zero_le _) (Nat.zero_le _) hl.1 (Nat.le_of_ble_eq_true rfl) dX0_move_107 (fun H locs hM => ?_)
                refine lv_astore (lv' := [(6, .ref (h 1)), (7, .ref x1), (0, .ref (h 0)), (1, .int (nI sh)), (2, .int i), (3, .int (nI ot)), (4, .int j), (5, .int n)]) hx hb dX0_move_153 hl (by decide) rfl (fun ls hl => ?_)
                refine lv_aload_n hx hb dX0_move_155 rfl (lv_at hl 2 rfl) ?_
                refine lv_aload hx hb dX0_move_156 (lv_at hl 0 rfl) ?_
                refine cm_fin hx hb hml hown hts hK hI 1 (by decide) hM q341 (by rw [hRf]; decide) (by rw [hRl]; decide) (Nat.zero_le _) (Nat.zero_le _) hl.1 (Nat.le_of_ble_eq_true rfl) dX0_move_158 (fun H locs hM => ?_)
                exact hret0 hM (mwEq.rf) rfl rfl ⟨rfl, rfl, rfl⟩ (by decide) dX0_move_161
              · refine lv_iload hx hb dX0_move_88 (lv_at hl 6 rfl) ?_
                refine lv_aload hx hb dX0_move_90 (lv_at hl 0 rfl) ?_
                refine sv_size hx hb hml hown hts hK q1028 wi1 hwi1 x1 (ya ot) (cl (a 7 ot)) (fun k => a 8 (40 * ot + k)) (hX1.kept (hM.2.2.2.1 x1 hX1.lt (hS0 _ hxA1))) (hY1.kept (hM.2.2.2.1 _ hY1.lt (hS0 _ hyA1))) (by rw [hRf]; decide) (by rw [hRl]; decide) (Nat.zero_le _) (Nat.zero_le _) hl.1 (Nat.le_of_ble_eq_true rfl) dX0_move_92 ?_
                refine w_top (a 7 ot) (hz71.1.symm) ?_
                refine lv_iload hx hb dX0_move_95 (lv_at hl 7 rfl) ?_
                refine lv_isub hx hb dX0_move_97 ?_
                refine lv_icmp_gt (tgt := 105) hx hb dX0_move_98 (by decide) (fun c_8 => ?_) (fun c_8 => ?_)
                · refine lv_iconst (v := nI 0) hx hb dX0_move_105 (by decide) ?_
                  refine lv_iconst (v := nI 1) hx hb dX0_move_106 (by decide) ?_
                  refine cm_n0 hx hb hml hown hts hK hI hM htab (hpc := 153) rfl q333 (by rw [hRf]; decide) (by rw [hRl]; decide) (Nat.zero_le _) (Nat.zero_le _) hl.1 (Nat.le_of_ble_eq_true rfl) dX0_move_107 (fun H locs hM => ?_)
                  refine lv_astore (lv' := [(6, .ref (h 1)), (7, .ref x1), (0, .ref (h 0)), (1, .int (nI sh)), (2, .int i), (3, .int (nI ot)), (4, .int j), (5, .int n)]) hx hb dX0_move_153 hl (by decide) rfl (fun ls hl => ?_)
                  refine lv_aload_n hx hb dX0_move_155 rfl (lv_at hl 2 rfl) ?_
                  refine lv_aload hx hb dX0_move_156 (lv_at hl 0 rfl) ?_
                  refine cm_fin hx hb hml hown hts hK hI 1 (by decide) hM q341 (by rw [hRf]; decide) (by rw [hRl]; decide) (Nat.zero_le _) (Nat.zero_le _) hl.1 (Nat.le_of_ble_eq_true rfl) dX0_move_158 (fun H locs hM => ?_)
                  exact hret0 hM (mwEq.rf) rfl rfl ⟨rfl, rfl, rfl⟩ (by decide) dX0_move_161
                · refine lv_iconst (v := nI 1) hx hb dX0_move_101 (by decide) ?_
                  refine lv_goto (tgt := 106) hx hb dX0_move_102 (by decide) ?_
                  refine lv_iconst (v := nI 1) hx hb dX0_move_106 (by decide) ?_
                  exact absurd ⟨c_4, c_5, c_6, c_7, by first | exact c_8 | exact Int32.not_lt.mp c_8⟩ he
set_option maxHeartbeats 400000 in
theorem ca_move_e (f : Nat → Int32) (a : Nat → Nat → Int32) (sh i ot j n : Int32) (he : ¬ ((nI 0 ≤ sh ∧ sh ≤ nI 3) ∧ (nI 0 ≤ ot ∧ ot ≤ nI 3))) : CmF yX0_move cX0_move 10 [(0, 152, 153, 8)] 2 60 [.int sh, .int i, .int ot, .int j, .int n] f a (-1000000001 : Int32) f (mErr a 1) := by
  refine CmF.ofI (by decide) rfl (Nat.le_of_ble_eq_true rfl) ?_
  intro p l e R s m args below meth c Q D dA h fc wk hd ri rt cw tx nm B S ls hx hb hml hRf hRl hRc hRs htab hts hown hK hI hB hS0 hQ hN hIm hZ hSh hM hl hret hret0
  have hl : lv_has ls 10 [(0, .ref (h 0)), (1, .int sh), (2, .int i), (3, .int ot), (4, .int j), (5, .int n)] := hl
  refine lv_aload_n hx hb dX0_move_0 rfl (lv_at hl 0 rfl) ?_
  refine lv_iload_n hx hb dX0_move_1 rfl (lv_at hl 1 rfl) ?_
  refine st_callS (y := yX0_isSheet) hx hb hml hown hts (cmX0_isSheet sh) q1020 q1021 q61 q1022 ndX0_isSheet rfl (by rw [hRf]; decide) (by rw [hRl]; decide) (Nat.zero_le _) (Nat.zero_le _) hl.1 rfl (Nat.le_of_ble_eq_true rfl) dX0_move_2 ?_
  refine w_if_eqT (tgt := 19) hx hb dX0_move_5 (by decide) (fun c_1 => ?_) (fun c_1 => ?_)
  · refine lv_iconst (v := nI 0) hx hb dX0_move_19 (by decide) ?_
    refine lv_iconst (v := nI 1) hx hb dX0_move_20 (by decide) ?_
    refine cm_n0 hx hb hml hown hts hK hI hM htab (hpc := 153) rfl q333 (by rw [hRf]; decide) (by rw [hRl]; decide) (Nat.zero_le _) (Nat.zero_le _) hl.1 (Nat.le_of_ble_eq_true rfl) dX0_move_21 (fun H locs hM => ?_)
    refine lv_astore (lv' := [(6, .ref (h 1)), (0, .ref (h 0)), (1, .int sh), (2, .int i), (3, .int ot), (4, .int j), (5, .int n)]) hx hb dX0_move_153 hl (by decide) rfl (fun ls hl => ?_)
    refine lv_aload_n hx hb dX0_move_155 rfl (lv_at hl 1 rfl) ?_
    refine lv_aload hx hb dX0_move_156 (lv_at hl 0 rfl) ?_
    refine cm_fin hx hb hml hown hts hK hI 1 (by decide) hM q341 (by rw [hRf]; decide) (by rw [hRl]; decide) (Nat.zero_le _) (Nat.zero_le _) hl.1 (Nat.le_of_ble_eq_true rfl) dX0_move_158 (fun H locs hM => ?_)
    exact hret0 hM (mwEq.rf) rfl rfl ⟨rfl, rfl, rfl⟩ (by decide) dX0_move_161
  · refine lv_iload_n hx hb dX0_move_8 rfl (lv_at hl 3 rfl) ?_
    refine st_callS (y := yX0_isSheet) hx hb hml hown hts (cmX0_isSheet ot) q1020 q1021 q61 q1022 ndX0_isSheet rfl (by rw [hRf]; decide) (by rw [hRl]; decide) (Nat.zero_le _) (Nat.zero_le _) hl.1 rfl (Nat.le_of_ble_eq_true rfl) dX0_move_9 ?_
    refine w_if_eqT (tgt := 19) hx hb dX0_move_12 (by decide) (fun c_2 => ?_) (fun c_2 => ?_)
    · refine lv_iconst (v := nI 0) hx hb dX0_move_19 (by decide) ?_
      refine lv_iconst (v := nI 1) hx hb dX0_move_20 (by decide) ?_
      refine cm_n0 hx hb hml hown hts hK hI hM htab (hpc := 153) rfl q333 (by rw [hRf]; decide) (by rw [hRl]; decide) (Nat.zero_le _) (Nat.zero_le _) hl.1 (Nat.le_of_ble_eq_true rfl) dX0_move_21 (fun H locs hM => ?_)
      refine lv_astore (lv' := [(6, .ref (h 1)), (0, .ref (h 0)), (1, .int sh), (2, .int i), (3, .int ot), (4, .int j), (5, .int n)]) hx hb dX0_move_153 hl (by decide) rfl (fun ls hl => ?_)
      refine lv_aload_n hx hb dX0_move_155 rfl (lv_at hl 1 rfl) ?_
      refine lv_aload hx hb dX0_move_156 (lv_at hl 0 rfl) ?_
      refine cm_fin hx hb hml hown hts hK hI 1 (by decide) hM q341 (by rw [hRf]; decide) (by rw [hRl]; decide) (Nat.zero_le _) (Nat.zero_le _) hl.1 (Nat.le_of_ble_eq_true rfl) dX0_move_158 (fun H locs hM => ?_)
      exact hret0 hM (mwEq.rf) rfl rfl ⟨rfl, rfl, rfl⟩ (by decide) dX0_move_161
    · refine lv_iconst (v := nI 1) hx hb dX0_move_15 (by decide) ?_
      refine lv_goto (tgt := 20) hx hb dX0_move_16 (by decide) ?_
      refine lv_iconst (v := nI 1) hx hb dX0_move_20 (by decide) ?_
      exact absurd ⟨c_1, c_2⟩ he
