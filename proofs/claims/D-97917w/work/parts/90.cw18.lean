/-! marks (printed by comp20.py) -/
set_option maxRecDepth 100000
theorem nI_eqN {m n : Nat} (hm : m < 2 ^ 31) (hn : n < 2 ^ 31) (h : nI m = nI n) : m = n := by
  have := congrArg Int32.toInt h
  rw [nI_toInt hm, nI_toInt hn] at this
  omega
theorem shB_ne (wi : Nat) : ¬ shB wi = 0 := by
  unfold shB
  split
  · decide
  · split <;> decide
theorem mwEq_mk {r x : Nat → Int32} (k : Nat) (hk : k ≤ 25) : mwEq r (mkR r x k) := by
  have ho : ∀ y, (y < 8 ∨ 33 ≤ y) → mkR r x k y = r y := fun y hy => by unfold mkR; rw [if_neg (by omega)]
  exact ⟨ho _ (by omega), fun u hu => ho _ (by omega), fun w hw => ⟨ho _ (by omega), ho _ (by omega)⟩, fun j => ho _ (by omega)⟩
theorem mkN_le (x : Nat → Int32) : ∀ n k, mkN x n k ≤ k + n
  | 0, k => Nat.le_refl _
  | n + 1, k => by
    unfold mkN
    split
    · have := mkN_le x n (k + 1); omega
    · omega
theorem ndX0_isSheet : yX0_isSheet.cls ≠ "java/lang/invoke/MethodHandle" ∧ yX0_isSheet.cls ≠ "java/lang/invoke/VarHandle" ∧ (parseMethodDescriptor yX0_isSheet.desc).map (fun d => d.parameters.length) = some 1 := by decide +kernel
theorem ndX0_isMark : yX0_isMark.cls ≠ "java/lang/invoke/MethodHandle" ∧ yX0_isMark.cls ≠ "java/lang/invoke/VarHandle" ∧ (parseMethodDescriptor yX0_isMark.desc).map (fun d => d.parameters.length) = some 1 := by decide +kernel

set_option maxHeartbeats 400000 in
theorem ca_marks_ok (f : Nat → Int32) (a : Nat → Nat → Int32) (sh : Nat) (hs : sh < 4) (hb00 : ¬ a 6 sh = 0)  : CmF yX0_marks cX0_marks 4 [(0, 64, 65, 8)] 3 81 [.int (nI sh)] f a (nI (mkN (fun q => a 8 (40 * sh + q)) (min (cl (a 7 sh)) 25) 0)) f (va_up a 1 (mkR (a 1) (fun q => a 8 (40 * sh + q)) (mkN (fun q => a 8 (40 * sh + q)) (min (cl (a 7 sh)) 25) 0))) := by
  refine CmF.ofI (by decide) rfl (Nat.le_of_ble_eq_true rfl) ?_
  intro p l e R s m args below meth c Q D dA h fc wk hd ri rt cw tx nm B S ls hx hb hml hRf hRl hRc hRs htab hts hown hK hI hB hS0 hQ hN hIm hZ hSh hM hl hret hret0
  have hl : lv_has ls 4 [(0, .ref (h 0)), (1, .int (nI sh))] := hl
  have hs0 := hs
  have hSh2 := hSh
  obtain ⟨ya, hinj, hall⟩ := hSh2
  obtain ⟨x0, wi0, hwi0, hxd0, hxA0, hyA0, hb60, hz70, hX0, hY0⟩ := (hall sh hs0).resolve_left (fun q => hb00 q.1)
  have hz720 := hz70.2
  have hmn : mkN (fun q => a 8 (40 * sh + q)) (min (cl (a 7 sh)) 25) 0 ≤ 25 := by rw [show (25 : Nat) = 0 + 25 from rfl]; exact Nat.le_trans (mkN_le _ _ _) (by omega)
  refine lv_aload_n hx hb dX0_marks_0 rfl (lv_at hl 0 rfl) ?_
  refine lv_iload_n hx hb dX0_marks_1 rfl (lv_at hl 1 rfl) ?_
  refine st_callS (y := yX0_isSheet) hx hb hml hown hts (cmX0_isSheet (nI sh)) q1020 q1021 q61 q1022 ndX0_isSheet rfl (by rw [hRf]; decide) (by rw [hRl]; decide) (Nat.zero_le _) (Nat.zero_le _) hl.1 rfl (Nat.le_of_ble_eq_true rfl) dX0_marks_2 ?_
  refine lv_iconst (v := nI 1) hx hb dX0_marks_5 (by decide) ?_
  refine cm_need hx hb hml hown hts hK hI hM htab (hpc := 65) rfl q333 (by rw [hRf]; decide) (by rw [hRl]; decide) (Nat.zero_le _) (Nat.zero_le _) hl.1 (Nat.le_of_ble_eq_true rfl) dX0_marks_6 (fun c_1 locs hM => ?_) (fun c_1 H locs hM => ?_)
  · refine lv_aload_n hx hb dX0_marks_9 rfl (lv_at hl 0 rfl) ?_
    refine lv_iload_n hx hb dX0_marks_10 rfl (lv_at hl 1 rfl) ?_
    refine cg_callV (y := yX0_sheetAt) (b := h 0) (C := RX0) (As := [.int (nI sh)]) hx hb hml hown hts hK hM.2.2 (ca_sheetAt_ok D dA h _ _ _ _ _ _ _ _ _ _ hI sh x0 wi0 hs0 hxd0 (hS0 _ hxA0) hwi0 _) ⟨hM.1, hX0.kept (hM.2.2.2.1 x0 hX0.lt (hS0 _ hxA0))⟩ (fun q hq => hq) (cAt.recv hK (hM.1 0 _ rfl) rfl) q1023 q1025 qs18 q61 q1026 ndX0_sheetAt rfl (by rw [hRf]; decide) (by rw [hRl]; decide) (Nat.zero_le _) (Nat.zero_le _) hl.1 rfl (Nat.le_of_ble_eq_true rfl) dX0_marks_11 ?_
    rintro _ H locs ⟨rfl, hP1⟩ hz1 hk1 hS1
    have hM := cmH.of hI hP1 hS1
    refine lv_astore_n (lv' := [(2, .ref x0), (0, .ref (h 0)), (1, .int (nI sh))]) hx hb dX0_marks_14 rfl hl (by decide) rfl (fun ls hl => ?_)
    refine lv_iconst (v := nI 0) hx hb dX0_marks_15 (by decide) ?_
    refine lv_istore_n (lv' := [(3, .int (nI 0)), (2, .ref x0), (0, .ref (h 0)), (1, .int (nI sh))]) hx hb dX0_marks_16 rfl hl (by decide) rfl (fun ls hl => ?_)
    have loop17 : ∀ (fu : Nat) (k : Nat), (k ≤ min (cl (a 7 sh)) 25) → (min (cl (a 7 sh)) 25 < k + fu) → (mkN (fun q => a 8 (40 * sh + q)) (min (cl (a 7 sh)) 25 - k) k = mkN (fun q => a 8 (40 * sh + q)) (min (cl (a 7 sh)) 25) 0) → ∀ (fc : Int32) (wk nm : Nat → Nat → Int32) (H : Heap) (locs : List Loc), cmH D h dA s.heap H locs f (va_up a 1 (mkR (a 1) (fun q => a 8 (40 * sh + q)) k)) fc wk hd ri rt cw tx nm → ∀ (ls : Array Slot), lv_has ls 4 [(3, .int (nI k)), (2, .ref x0), (0, .ref (h 0)), (1, .int (nI sh))] → W p l e R s m args below meth c H locs 0 0 Q (F0 m 17 ls []) := by
      intro fu
      induction fu with
      | zero =>
        intro k hk hn ee
        omega
      | succ fu ih17 =>
        intro k hk hn ee fc wk nm H locs hM ls hl
        refine lv_iload_n hx hb dX0_marks_17 rfl (lv_at hl 0 rfl) ?_
        refine lv_aload_n hx hb dX0_marks_18 rfl (lv_at hl 1 rfl) ?_
        refine sv_size hx hb hml hown hts hK q1028 wi0 hwi0 x0 (ya sh) (cl (a 7 sh)) (fun k => a 8 (40 * sh + k)) (hX0.kept (hM.2.2.2.1 x0 hX0.lt (hS0 _ hxA0))) (hY0.kept (hM.2.2.2.1 _ hY0.lt (hS0 _ hyA0))) (by rw [hRf]; decide) (by rw [hRl]; decide) (Nat.zero_le _) (Nat.zero_le _) hl.1 (Nat.le_of_ble_eq_true rfl) dX0_marks_19 ?_
        refine w_icmp_geN (tgt := 63) hx hb (by omega) (by omega) dX0_marks_22 (by decide) (fun c_2 => ?_) (fun c_2 => ?_)
        · have hJ : mkN (fun q => a 8 (40 * sh + q)) (min (cl (a 7 sh)) 25) 0 = k := by rw [← ee, show min (cl (a 7 sh)) 25 - k = 0 by omega, mkN]
          refine lv_iload_n hx hb dX0_marks_63 rfl (lv_at hl 0 rfl) ?_
          exact hret0 (hM.to rfl (by rw [hJ])) (by rw [va_us]; exact mwEq_mk _ (by omega)) rfl rfl ⟨rfl, rfl, rfl⟩ (by rw [hJ]) dX0_marks_64
        · refine lv_iload_n hx hb dX0_marks_25 rfl (lv_at hl 0 rfl) ?_
          refine st_callS (y := yX0_isCell) hx hb hml hown hts (cmX0_isCell (nI k)) q327 q328 q61 q329 ndX0_isCell rfl (by rw [hRf]; decide) (by rw [hRl]; decide) (Nat.zero_le _) (Nat.zero_le _) hl.1 rfl (Nat.le_of_ble_eq_true rfl) dX0_marks_26 ?_
          refine w_if_eqT (tgt := 63) hx hb dX0_marks_29 (by decide) (fun c_3 => ?_) (fun c_3 => ?_)
          · have c29x : ¬ k < 25 := fun q => c_3 ((in_nat (by decide)).mpr ⟨k, by omega, rfl⟩)
            have hJ : mkN (fun q => a 8 (40 * sh + q)) (min (cl (a 7 sh)) 25) 0 = k := by rw [← ee, show min (cl (a 7 sh)) 25 - k = 0 by have := c29x; omega, mkN]
            refine lv_iload_n hx hb dX0_marks_63 rfl (lv_at hl 0 rfl) ?_
            exact hret0 (hM.to rfl (by rw [hJ])) (by rw [va_us]; exact mwEq_mk _ (by omega)) rfl rfl ⟨rfl, rfl, rfl⟩ (by rw [hJ]) dX0_marks_64
          · obtain ⟨k9, k91, k92⟩ := (in_nat (by decide)).mp c_3
            have k93 : k = k9 := nI_eqN (by omega) (by omega) k92
            refine lv_aload_n hx hb dX0_marks_32 rfl (lv_at hl 1 rfl) ?_
            refine lv_iload_n hx hb dX0_marks_33 rfl (lv_at hl 0 rfl) ?_
            refine sv_get hx hb hml hown hts hK q1040 wi0 hwi0 x0 (ya sh) (cl (a 7 sh)) (fun k => a 8 (40 * sh + k)) k (by omega) (hX0.kept (hM.2.2.2.1 x0 hX0.lt (hS0 _ hxA0))) (hY0.kept (hM.2.2.2.1 _ hY0.lt (hS0 _ hyA0))) (by rw [hRf]; decide) (by rw [hRl]; decide) (Nat.zero_le _) (Nat.zero_le _) hl.1 (Nat.le_of_ble_eq_true rfl) dX0_marks_34 ?_
            refine w_top (a 8 (40 * sh + k)) rfl ?_
            refine st_callS (y := yX0_isMark) hx hb hml hown hts (cmX0_isMark (a 8 (40 * sh + k))) q1271 q1272 q61 q1273 ndX0_isMark rfl (by rw [hRf]; decide) (by rw [hRl]; decide) (Nat.zero_le _) (Nat.zero_le _) hl.1 rfl (Nat.le_of_ble_eq_true rfl) dX0_marks_37 ?_
            refine w_if_eqT (tgt := 63) hx hb dX0_marks_40 (by decide) (fun c_4 => ?_) (fun c_4 => ?_)
            · have hJ : mkN (fun q => a 8 (40 * sh + q)) (min (cl (a 7 sh)) 25) 0 = k := by rw [← ee, show min (cl (a 7 sh)) 25 - k = (min (cl (a 7 sh)) 25 - (k + 1)) + 1 by omega, mkN, if_neg c_4]
              refine lv_iload_n hx hb dX0_marks_63 rfl (lv_at hl 0 rfl) ?_
              exact hret0 (hM.to rfl (by rw [hJ])) (by rw [va_us]; exact mwEq_mk _ (by omega)) rfl rfl ⟨rfl, rfl, rfl⟩ (by rw [hJ]) dX0_marks_64
            · refine lv_aload_n hx hb dX0_marks_43 rfl (lv_at hl 2 rfl) ?_
              refine c_get (v := .ref (hm0 h 0)) hx hb hts in_X0 hown hK (hM.1 0 _ rfl) rfl 1 (by decide) q287 rfl rfl dX0_marks_44 ?_
              have nq := hK.F 3 rfl
              refine c_getN (v := .ref (hm0 h 1)) hx hb hts in_X2 hown hK ((cm_parts hM.1).2.1 0 _ rfl) rfl 0 (by decide) nq rfl rfl dX0_marks_47 ?_
              refine lv_iload_n hx hb dX0_marks_50 rfl (lv_at hl 0 rfl) ?_
              refine lv_aload_n hx hb dX0_marks_51 rfl (lv_at hl 1 rfl) ?_
              refine lv_iload_n hx hb dX0_marks_52 rfl (lv_at hl 0 rfl) ?_
              refine sv_get hx hb hml hown hts hK q1040 wi0 hwi0 x0 (ya sh) (cl (a 7 sh)) (fun k => a 8 (40 * sh + k)) k (by omega) (hX0.kept (hM.2.2.2.1 x0 hX0.lt (hS0 _ hxA0))) (hY0.kept (hM.2.2.2.1 _ hY0.lt (hS0 _ hyA0))) (by rw [hRf]; decide) (by rw [hRl]; decide) (Nat.zero_le _) (Nat.zero_le _) hl.1 (Nat.le_of_ble_eq_true rfl) dX0_marks_53 ?_
              refine w_top (a 8 (40 * sh + k)) rfl ?_
              refine cm_ast_mark hx hb hK hI hM k ⟨by omega, rfl⟩ dX0_marks_56 (fun H locs hM => ?_)
              refine lv_iinc (v := nI (k + 1)) (lv' := [(3, .int (nI (k + 1))), (2, .ref x0), (0, .ref (h 0)), (1, .int (nI sh))]) hx hb dX0_marks_57 hl (k := 0) rfl (by rw [show Int32.ofInt 1 = nI 1 from by decide]; exact nI_add _ _) (by decide) rfl (fun ls hl => ?_)
              refine lv_goto (tgt := 17) hx hb dX0_marks_60 (by decide) ?_
              exact ih17 (k + 1) (by omega) (by omega) (by rw [← ee, show min (cl (a 7 sh)) 25 - k = (min (cl (a 7 sh)) 25 - (k + 1)) + 1 by omega, mkN, if_pos c_4]) _ _ _ _ _ (hM.to rfl (by rw [va_uu, va_us]; exact congrArg (va_up a 1) (mkR_s _ _ _))) ls (lv_sub hl [0, 1, 2, 3] rfl)
    exact loop17 (min (cl (a 7 sh)) 25 + 1) 0 (by omega) (by omega) rfl _ _ _ _ _ (hM.to rfl (by rw [mkR_0]; exact (va_self a 1))) ls (lv_sub hl [0, 1, 2, 3] rfl)
  · exact absurd (by first | exact (in_nat (by decide)).mpr ⟨_, by omega, rfl⟩ | exact (in_nat1 _ (by decide) (by decide)).mpr ⟨_, by omega, by omega, rfl⟩ | exact cow_in hN0 (by omega) | assumption) c_1
set_option maxHeartbeats 400000 in
theorem ca_marks_n (f : Nat → Int32) (a : Nat → Nat → Int32) (sh : Nat) (hs : sh < 4) (hb0 : a 6 sh = 0) : CmF yX0_marks cX0_marks 4 [(0, 64, 65, 8)] 3 81 [.int (nI sh)] f a (-1000000002 : Int32) f (mErr a 2) := by
  refine CmF.ofI (by decide) rfl (Nat.le_of_ble_eq_true rfl) ?_
  intro p l e R s m args below meth c Q D dA h fc wk hd ri rt cw tx nm B S ls hx hb hml hRf hRl hRc hRs htab hts hown hK hI hB hS0 hQ hN hIm hZ hSh hM hl hret hret0
  have hl : lv_has ls 4 [(0, .ref (h 0)), (1, .int (nI sh))] := hl
  have hSh2 := hSh
  obtain ⟨ya, hinj, hall⟩ := hSh2
  have hnone : hd sh = none := ((hall sh hs).resolve_right (fun ⟨x, wi, w1, w2, w3, w4, w5, _⟩ => shB_ne wi (w5.symm.trans hb0))).2
  refine lv_aload_n hx hb dX0_marks_0 rfl (lv_at hl 0 rfl) ?_
  refine lv_iload_n hx hb dX0_marks_1 rfl (lv_at hl 1 rfl) ?_
  refine st_callS (y := yX0_isSheet) hx hb hml hown hts (cmX0_isSheet (nI sh)) q1020 q1021 q61 q1022 ndX0_isSheet rfl (by rw [hRf]; decide) (by rw [hRl]; decide) (Nat.zero_le _) (Nat.zero_le _) hl.1 rfl (Nat.le_of_ble_eq_true rfl) dX0_marks_2 ?_
  refine lv_iconst (v := nI 1) hx hb dX0_marks_5 (by decide) ?_
  refine cm_need hx hb hml hown hts hK hI hM htab (hpc := 65) rfl q333 (by rw [hRf]; decide) (by rw [hRl]; decide) (Nat.zero_le _) (Nat.zero_le _) hl.1 (Nat.le_of_ble_eq_true rfl) dX0_marks_6 (fun c_1 locs hM => ?_) (fun c_1 H locs hM => ?_)
  · refine lv_aload_n hx hb dX0_marks_9 rfl (lv_at hl 0 rfl) ?_
    refine lv_iload_n hx hb dX0_marks_10 rfl (lv_at hl 1 rfl) ?_
    refine cm_thr (y := yX0_sheetAt) (As := [.int (nI sh)]) hx hb hml hown hts hK hM.2.2 (ca_sheetAt_n D dA h _ _ _ _ _ _ _ _ _ _ hI sh hs hnone) hM.1 (cAt.recv hK (hM.1 0 _ rfl) rfl) (fun H1 hq => ⟨_, hq 1 _ rfl⟩) htab (hpc := 65) rfl q1023 q1025 qs18 q1026 ndX0_sheetAt rfl (by rw [hRf]; decide) (by rw [hRl]; decide) (Nat.zero_le _) (Nat.zero_le _) hl.1 rfl (Nat.le_of_ble_eq_true rfl) dX0_marks_11 (fun H locs hP1 hS1 => ?_)
    have hM := cmH.of hI hP1 hS1
    refine lv_astore_n (lv' := [(2, .ref (h 1)), (0, .ref (h 0)), (1, .int (nI sh))]) hx hb dX0_marks_65 rfl hl (by decide) rfl (fun ls hl => ?_)
    refine lv_aload_n hx hb dX0_marks_66 rfl (lv_at hl 1 rfl) ?_
    refine lv_aload_n hx hb dX0_marks_67 rfl (lv_at hl 0 rfl) ?_
    refine cm_fin hx hb hml hown hts hK hI 2 (by decide) hM q341 (by rw [hRf]; decide) (by rw [hRl]; decide) (Nat.zero_le _) (Nat.zero_le _) hl.1 (Nat.le_of_ble_eq_true rfl) dX0_marks_68 (fun H locs hM => ?_)
    exact hret0 hM (mwEq.rf) rfl rfl ⟨rfl, rfl, rfl⟩ (by decide) dX0_marks_71
  · exact absurd (by first | exact (in_nat (by decide)).mpr ⟨_, by omega, rfl⟩ | exact (in_nat1 _ (by decide) (by decide)).mpr ⟨_, by omega, by omega, rfl⟩ | exact cow_in hN0 (by omega) | assumption) c_1
set_option maxHeartbeats 400000 in
theorem ca_marks_e (f : Nat → Int32) (a : Nat → Nat → Int32) (sh : Int32) (he : ¬ (nI 0 ≤ sh ∧ sh ≤ nI 3)) : CmF yX0_marks cX0_marks 4 [(0, 64, 65, 8)] 2 60 [.int sh] f a (-1000000001 : Int32) f (mErr a 1) := by
  refine CmF.ofI (by decide) rfl (Nat.le_of_ble_eq_true rfl) ?_
  intro p l e R s m args below meth c Q D dA h fc wk hd ri rt cw tx nm B S ls hx hb hml hRf hRl hRc hRs htab hts hown hK hI hB hS0 hQ hN hIm hZ hSh hM hl hret hret0
  have hl : lv_has ls 4 [(0, .ref (h 0)), (1, .int sh)] := hl
  refine lv_aload_n hx hb dX0_marks_0 rfl (lv_at hl 0 rfl) ?_
  refine lv_iload_n hx hb dX0_marks_1 rfl (lv_at hl 1 rfl) ?_
  refine st_callS (y := yX0_isSheet) hx hb hml hown hts (cmX0_isSheet sh) q1020 q1021 q61 q1022 ndX0_isSheet rfl (by rw [hRf]; decide) (by rw [hRl]; decide) (Nat.zero_le _) (Nat.zero_le _) hl.1 rfl (Nat.le_of_ble_eq_true rfl) dX0_marks_2 ?_
  refine lv_iconst (v := nI 1) hx hb dX0_marks_5 (by decide) ?_
  refine cm_need hx hb hml hown hts hK hI hM htab (hpc := 65) rfl q333 (by rw [hRf]; decide) (by rw [hRl]; decide) (Nat.zero_le _) (Nat.zero_le _) hl.1 (Nat.le_of_ble_eq_true rfl) dX0_marks_6 (fun c_1 locs hM => ?_) (fun c_1 H locs hM => ?_)
  · exact absurd c_1 he
  · refine lv_astore_n (lv' := [(2, .ref (h 1)), (0, .ref (h 0)), (1, .int sh)]) hx hb dX0_marks_65 rfl hl (by decide) rfl (fun ls hl => ?_)
    refine lv_aload_n hx hb dX0_marks_66 rfl (lv_at hl 1 rfl) ?_
    refine lv_aload_n hx hb dX0_marks_67 rfl (lv_at hl 0 rfl) ?_
    refine cm_fin hx hb hml hown hts hK hI 1 (by decide) hM q341 (by rw [hRf]; decide) (by rw [hRl]; decide) (Nat.zero_le _) (Nat.zero_le _) hl.1 (Nat.le_of_ble_eq_true rfl) dX0_marks_68 (fun H locs hM => ?_)
    exact hret0 hM (mwEq.rf) rfl rfl ⟨rfl, rfl, rfl⟩ (by decide) dX0_marks_71
