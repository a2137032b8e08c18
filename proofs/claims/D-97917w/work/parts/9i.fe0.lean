/-! feed (printed by comp34.py) -/
set_option maxRecDepth 100000
theorem b8_255 (x : Int64) : (x &&& (255 : Int64)).toInt32.toInt8 = x.toInt32.toInt8 := by
  apply Int8.toBitVec_inj.mp
  apply BitVec.eq_of_getLsbD_eq
  intro i hi
  have e : (255 : Int64).toBitVec.getLsbD i = true := by
    have : ∀ i, i < 8 → (255 : Int64).toBitVec.getLsbD i = true := by decide +kernel
    exact this i hi
  simp only [Int32.toBitVec_toInt8, Int64.toBitVec_toInt32, Int64.toBitVec_and, BitVec.getLsbD_signExtend, BitVec.getLsbD_and, e]
  have h64 : i < 64 := by omega
  have h32 : i < 32 := by omega
  simp [hi, h64, h32]
theorem byW_n (w : Int64) (k : Nat) : vp_nar .byte ((w >>> ((nI (8 * k)).toInt64 &&& 63)).toInt32.toInt8.toInt32) = (byW w k).toInt8.toInt32 := by
  show Int8.toInt32 (Int32.toInt8 (Int8.toInt32 _)) = _
  rw [Int8.toInt8_toInt32]
  unfold byW
  rw [b8_255]
theorem mwEq_fe {r : Nat → Int32} {w : Int64} {n : Nat} (h : cl (r 4) + n ≤ 50) : mwEq r (feR r w n) := by
  have g : ∀ x, x ≠ 4 → ¬ (128 ≤ x ∧ x < 178) → feR r w n x = r x := fun x h1 h2 => by unfold feR; rw [if_neg h1, if_neg (by omega)]
  exact ⟨g 3 (by omega) (by omega), fun u hu => g _ (by omega) (by omega), fun w hw => ⟨g _ (by omega) (by omega), g _ (by omega) (by omega)⟩, fun j => g _ (by omega) (by omega)⟩
set_option maxHeartbeats 400000 in
theorem ca_feed_ok (f : Nat → Int32) (a : Nat → Nat → Int32) (w : Int64) (n : Nat) (h1 : 1 ≤ n) (h8 : n ≤ 8) (hq : okN (a 1 4) 50) (hk0 : cl (a 1 4) + n ≤ 50) : CmF yX0_feed cX0_feed 5 [(0, 95, 96, 8)] 2 60 [.long w, .int (nI n)] f a (nI (cl (a 1 4) + n)) f (va_up a 1 (feR (a 1) w n)) := by
  refine CmF.ofI (by decide) rfl (Nat.le_of_ble_eq_true rfl) ?_
  intro p l e R s m args below meth c Q D dA h fc wk hd ri rt cw tx nm B S ls hx hb hml hRf hRl hRc hRs htab hts hown hK hI hB hS0 hQ hN hIm hZ hSh hM hl hret hret0
  have hl : lv_has ls 5 [(0, .ref (h 0)), (1, .long w), (3, .int (nI n))] := hl
  have hq2 := hq.2
  refine lv_aload_n hx hb dX0_feed_0 rfl (lv_at hl 0 rfl) ?_
  refine lv_iload_n hx hb dX0_feed_1 rfl (lv_at hl 2 rfl) ?_
  refine lv_iconst (v := nI 1) hx hb dX0_feed_2 (by decide) ?_
  refine lv_bipush (v := nI 8) hx hb dX0_feed_3 (by decide) ?_
  refine st_callS (y := yX0_in) hx hb hml hown hts (cmX0_in (nI n) (nI 1) (nI 8)) q330 q331 q61 q332 ndX0_in rfl (by rw [hRf]; decide) (by rw [hRl]; decide) (Nat.zero_le _) (Nat.zero_le _) hl.1 rfl (Nat.le_of_ble_eq_true rfl) dX0_feed_5 ?_
  refine lv_iconst (v := nI 1) hx hb dX0_feed_8 (by decide) ?_
  refine cm_need hx hb hml hown hts hK hI hM htab (hpc := 96) rfl q333 (by rw [hRf]; decide) (by rw [hRl]; decide) (Nat.zero_le _) (Nat.zero_le _) hl.1 (Nat.le_of_ble_eq_true rfl) dX0_feed_9 (fun c_1 locs hM => ?_) (fun c_1 H locs hM => ?_)
  · refine lv_aload_n hx hb dX0_feed_12 rfl (lv_at hl 0 rfl) ?_
    refine lv_aload_n hx hb dX0_feed_13 rfl (lv_at hl 0 rfl) ?_
    refine c_get (v := .ref (hm0 h 0)) hx hb hts in_X0 hown hK (hM.1 0 _ rfl) rfl 1 (by decide) q287 rfl rfl dX0_feed_14 ?_
    have nq := hK.F 9 rfl
    refine c_getN (v := .int (a 1 4)) hx hb hts in_X2 hown hK ((cm_parts hM.1).2.1 0 _ rfl) rfl 12 (by decide) nq rfl rfl dX0_feed_17 ?_
    refine w_top (nI (cl (a 1 4))) (hq.1) ?_
    refine lv_iload_n hx hb dX0_feed_20 rfl (lv_at hl 2 rfl) ?_
    refine w_iaddN hx hb dX0_feed_21 ?_
    refine lv_bipush (v := nI 50) hx hb dX0_feed_22 (by decide) ?_
    refine w_icmp_gtN (tgt := 31) hx hb (by omega) (by omega) dX0_feed_24 (by decide) (fun c_2 => ?_) (fun c_2 => ?_)
    · exact absurd c_2 (by omega)
    · refine lv_iconst (v := nI 1) hx hb dX0_feed_27 (by decide) ?_
      refine lv_goto (tgt := 32) hx hb dX0_feed_28 (by decide) ?_
      refine lv_iconst (v := nI 4) hx hb dX0_feed_32 (by decide) ?_
      refine cm_n1 hx hb hml hown hts hK hI hM htab (hpc := 96) rfl q333 (by rw [hRf]; decide) (by rw [hRl]; decide) (Nat.zero_le _) (Nat.zero_le _) hl.1 (Nat.le_of_ble_eq_true rfl) dX0_feed_33 (fun locs hM => ?_)
      refine lv_iconst (v := nI 0) hx hb dX0_feed_36 (by decide) ?_
      refine lv_istore (lv' := [(4, .int (nI 0)), (0, .ref (h 0)), (1, .long w), (3, .int (nI n))]) hx hb dX0_feed_37 hl (by decide) rfl (fun ls hl => ?_)
      have loop39 : ∀ (fu : Nat) (k : Nat), (k ≤ n) → (n < k + fu) → ∀ (fc : Int32) (wk nm : Nat → Nat → Int32) (H : Heap) (locs : List Loc), cmH D h dA s.heap H locs f (va_up a 1 (feR (a 1) w k)) fc wk hd ri rt cw tx nm → ∀ (ls : Array Slot), lv_has ls 5 [(4, .int (nI k)), (0, .ref (h 0)), (1, .long w), (3, .int (nI n))] → W p l e R s m args below meth c H locs 0 0 Q (F0 m 39 ls []) := by
        intro fu
        induction fu with
        | zero =>
          intro k hk hf
          omega
        | succ fu ih39 =>
          intro k hk hf fc wk nm H locs hM ls hl
          refine lv_iload hx hb dX0_feed_39 (lv_at hl 0 rfl) ?_
          refine lv_iload_n hx hb dX0_feed_41 rfl (lv_at hl 3 rfl) ?_
          refine w_icmp_geN (tgt := 88) hx hb (by omega) (by omega) dX0_feed_42 (by decide) (fun c_3 => ?_) (fun c_3 => ?_)
          · refine lv_aload_n hx hb dX0_feed_88 rfl (lv_at hl 1 rfl) ?_
            refine c_get (v := .ref (hm0 h 0)) hx hb hts in_X0 hown hK (hM.1 0 _ rfl) rfl 1 (by decide) q287 rfl rfl dX0_feed_89 ?_
            have nq := hK.F 9 rfl
            refine c_getN (v := .int ((va_up a 1 (feR (a 1) w k)) 1 4)) hx hb hts in_X2 hown hK ((cm_parts hM.1).2.1 0 _ rfl) rfl 12 (by decide) nq rfl rfl dX0_feed_92 ?_
            refine w_top (nI (cl (a 1 4) + k)) (by rw [va_us]; exact feR_4 _ _ _) ?_
            exact hret0 (hM.to rfl (by rw [show k = n by omega])) (mwEq_fe hk0) rfl rfl ⟨rfl, rfl, rfl⟩ (by rw [show k = n by omega]) dX0_feed_95
          · refine lv_aload_n hx hb dX0_feed_45 rfl (lv_at hl 1 rfl) ?_
            refine c_get (v := .ref (hm0 h 0)) hx hb hts in_X0 hown hK (hM.1 0 _ rfl) rfl 1 (by decide) q287 rfl rfl dX0_feed_46 ?_
            have nq := hK.F 10 rfl
            refine c_getN (v := .ref (hm0 h 8)) hx hb hts in_X2 hown hK ((cm_parts hM.1).2.1 0 _ rfl) rfl 11 (by decide) nq rfl rfl dX0_feed_49 ?_
            refine lv_aload_n hx hb dX0_feed_52 rfl (lv_at hl 1 rfl) ?_
            refine c_get (v := .ref (hm0 h 0)) hx hb hts in_X0 hown hK (hM.1 0 _ rfl) rfl 1 (by decide) q287 rfl rfl dX0_feed_53 ?_
            have nq := hK.F 9 rfl
            refine c_getN (v := .int ((va_up a 1 (feR (a 1) w k)) 1 4)) hx hb hts in_X2 hown hK ((cm_parts hM.1).2.1 0 _ rfl) rfl 12 (by decide) nq rfl rfl dX0_feed_56 ?_
            refine w_top (nI (cl (a 1 4) + k)) (by rw [va_us]; exact feR_4 _ _ _) ?_
            refine lv_lload_n hx hb dX0_feed_59 rfl (lv_at hl 2 rfl) ?_
            refine lv_bipush (v := nI 8) hx hb dX0_feed_60 (by decide) ?_
            refine lv_iload hx hb dX0_feed_62 (lv_at hl 0 rfl) ?_
            refine w_imulN hx hb dX0_feed_64 ?_
            refine lv_lshr (v := (w >>> ((nI (8 * k)).toInt64 &&& 63))) hx hb dX0_feed_65 rfl ?_
            refine lv_l2i (v := ((w >>> ((nI (8 * k)).toInt64 &&& 63))).toInt32) hx hb dX0_feed_66 rfl ?_
            refine lv_i2b (v := (((w >>> ((nI (8 * k)).toInt64 &&& 63))).toInt32).toInt8.toInt32) hx hb dX0_feed_67 rfl ?_
            refine cm_ast_tape hx hb hK hI hM (cl (a 1 4) + k) ⟨by omega, rfl⟩ (x := byW w k) (byW_n w k) dX0_feed_68 (fun H locs hM => ?_)
            refine lv_aload_n hx hb dX0_feed_69 rfl (lv_at hl 1 rfl) ?_
            refine c_get (v := .ref (hm0 h 0)) hx hb hts in_X0 hown hK (hM.1 0 _ rfl) rfl 1 (by decide) q287 rfl rfl dX0_feed_70 ?_
            refine lv_dup hx hb dX0_feed_73 rfl ?_
            have nq := hK.F 9 rfl
            refine c_getN (v := .int ((va_up (va_up a 1 (feR (a 1) w k)) 1 (upd ((va_up a 1 (feR (a 1) w k)) 1) (128 + (cl (a 1 4) + k)) (byW w k))) 1 4)) hx hb hts in_X2 hown hK ((cm_parts hM.1).2.1 0 _ rfl) rfl 12 (by decide) nq rfl rfl dX0_feed_74 ?_
            refine w_top (nI (cl (a 1 4) + k)) (by simp only [va_us]; exact feR_u _ _ _ _) ?_
            refine lv_iconst (v := nI 1) hx hb dX0_feed_77 (by decide) ?_
            refine w_iaddN hx hb dX0_feed_78 ?_
            have nq := hK.F 9 rfl
            refine cm_put_taped hx hb hts hown hK hI hM nq dX0_feed_79 (fun H locs hM => ?_)
            refine lv_iinc (v := nI (k + 1)) (lv' := [(4, .int (nI (k + 1))), (0, .ref (h 0)), (1, .long w), (3, .int (nI n))]) hx hb dX0_feed_82 hl (k := 0) rfl (by rw [show Int32.ofInt 1 = nI 1 from by decide]; exact nI_add _ _) (by decide) rfl (fun ls hl => ?_)
            refine lv_goto (tgt := 39) hx hb dX0_feed_85 (by decide) ?_
            exact ih39 (k + 1) (by omega) (by omega) _ _ _ _ _ (hM.to rfl (by simp only [va_uu, va_us]; exact congrArg (va_up a 1) (feR_s (a 1) w k))) ls (lv_sub hl [0, 1, 2, 3] rfl)
      exact loop39 (n + 1) 0 (by omega) (by omega) _ _ _ _ _ (hM.to rfl (by rw [feR_0 w hq.1]; exact va_self a 1)) ls (lv_sub hl [0, 1, 2, 3] rfl)
  · exact absurd (by first | exact (in_nat (by decide)).mpr ⟨_, by omega, rfl⟩ | exact (in_nat1 _ (by decide) (by decide)).mpr ⟨_, by omega, by omega, rfl⟩ | exact cow_in hN0 (by omega) | assumption) c_1
set_option maxHeartbeats 400000 in
theorem ca_feed_f (f : Nat → Int32) (a : Nat → Nat → Int32) (w : Int64) (n : Nat) (h1 : 1 ≤ n) (h8 : n ≤ 8) (hq : okN (a 1 4) 50) (hk0 : ¬ cl (a 1 4) + n ≤ 50) : CmF yX0_feed cX0_feed 5 [(0, 95, 96, 8)] 2 60 [.long w, .int (nI n)] f a (-1000000004 : Int32) f (mErr a 4) := by
  refine CmF.ofI (by decide) rfl (Nat.le_of_ble_eq_true rfl) ?_
  intro p l e R s m args below meth c Q D dA h fc wk hd ri rt cw tx nm B S ls hx hb hml hRf hRl hRc hRs htab hts hown hK hI hB hS0 hQ hN hIm hZ hSh hM hl hret hret0
  have hl : lv_has ls 5 [(0, .ref (h 0)), (1, .long w), (3, .int (nI n))] := hl
  have hq2 := hq.2
  refine lv_aload_n hx hb dX0_feed_0 rfl (lv_at hl 0 rfl) ?_
  refine lv_iload_n hx hb dX0_feed_1 rfl (lv_at hl 2 rfl) ?_
  refine lv_iconst (v := nI 1) hx hb dX0_feed_2 (by decide) ?_
  refine lv_bipush (v := nI 8) hx hb dX0_feed_3 (by decide) ?_
  refine st_callS (y := yX0_in) hx hb hml hown hts (cmX0_in (nI n) (nI 1) (nI 8)) q330 q331 q61 q332 ndX0_in rfl (by rw [hRf]; decide) (by rw [hRl]; decide) (Nat.zero_le _) (Nat.zero_le _) hl.1 rfl (Nat.le_of_ble_eq_true rfl) dX0_feed_5 ?_
  refine lv_iconst (v := nI 1) hx hb dX0_feed_8 (by decide) ?_
  refine cm_need hx hb hml hown hts hK hI hM htab (hpc := 96) rfl q333 (by rw [hRf]; decide) (by rw [hRl]; decide) (Nat.zero_le _) (Nat.zero_le _) hl.1 (Nat.le_of_ble_eq_true rfl) dX0_feed_9 (fun c_1 locs hM => ?_) (fun c_1 H locs hM => ?_)
  · refine lv_aload_n hx hb dX0_feed_12 rfl (lv_at hl 0 rfl) ?_
    refine lv_aload_n hx hb dX0_feed_13 rfl (lv_at hl 0 rfl) ?_
    refine c_get (v := .ref (hm0 h 0)) hx hb hts in_X0 hown hK (hM.1 0 _ rfl) rfl 1 (by decide) q287 rfl rfl dX0_feed_14 ?_
    have nq := hK.F 9 rfl
    refine c_getN (v := .int (a 1 4)) hx hb hts in_X2 hown hK ((cm_parts hM.1).2.1 0 _ rfl) rfl 12 (by decide) nq rfl rfl dX0_feed_17 ?_
    refine w_top (nI (cl (a 1 4))) (hq.1) ?_
    refine lv_iload_n hx hb dX0_feed_20 rfl (lv_at hl 2 rfl) ?_
    refine w_iaddN hx hb dX0_feed_21 ?_
    refine lv_bipush (v := nI 50) hx hb dX0_feed_22 (by decide) ?_
    refine w_icmp_gtN (tgt := 31) hx hb (by omega) (by omega) dX0_feed_24 (by decide) (fun c_2 => ?_) (fun c_2 => ?_)
    · refine lv_iconst (v := nI 0) hx hb dX0_feed_31 (by decide) ?_
      refine lv_iconst (v := nI 4) hx hb dX0_feed_32 (by decide) ?_
      refine cm_n0 hx hb hml hown hts hK hI hM htab (hpc := 96) rfl q333 (by rw [hRf]; decide) (by rw [hRl]; decide) (Nat.zero_le _) (Nat.zero_le _) hl.1 (Nat.le_of_ble_eq_true rfl) dX0_feed_33 (fun H locs hM => ?_)
      refine lv_astore (lv' := [(4, .ref (h 1)), (0, .ref (h 0)), (1, .long w), (3, .int (nI n))]) hx hb dX0_feed_96 hl (by decide) rfl (fun ls hl => ?_)
      refine lv_aload_n hx hb dX0_feed_98 rfl (lv_at hl 1 rfl) ?_
      refine lv_aload hx hb dX0_feed_99 (lv_at hl 0 rfl) ?_
      refine cm_fin hx hb hml hown hts hK hI 4 (by decide) hM q341 (by rw [hRf]; decide) (by rw [hRl]; decide) (Nat.zero_le _) (Nat.zero_le _) hl.1 (Nat.le_of_ble_eq_true rfl) dX0_feed_101 (fun H locs hM => ?_)
      exact hret0 hM (mwEq.rf) rfl rfl ⟨rfl, rfl, rfl⟩ (by decide) dX0_feed_104
    · exact absurd c_2 (by omega)
  · exact absurd (by first | exact (in_nat (by decide)).mpr ⟨_, by omega, rfl⟩ | exact (in_nat1 _ (by decide) (by decide)).mpr ⟨_, by omega, by omega, rfl⟩ | exact cow_in hN0 (by omega) | assumption) c_1
set_option maxHeartbeats 400000 in
theorem ca_feed_e (f : Nat → Int32) (a : Nat → Nat → Int32) (w : Int64) (n : Int32) (he : ¬ (nI 1 ≤ n ∧ n ≤ nI 8)) : CmF yX0_feed cX0_feed 5 [(0, 95, 96, 8)] 2 60 [.long w, .int n] f a (-1000000001 : Int32) f (mErr a 1) := by
  refine CmF.ofI (by decide) rfl (Nat.le_of_ble_eq_true rfl) ?_
  intro p l e R s m args below meth c Q D dA h fc wk hd ri rt cw tx nm B S ls hx hb hml hRf hRl hRc hRs htab hts hown hK hI hB hS0 hQ hN hIm hZ hSh hM hl hret hret0
  have hl : lv_has ls 5 [(0, .ref (h 0)), (1, .long w), (3, .int n)] := hl
  refine lv_aload_n hx hb dX0_feed_0 rfl (lv_at hl 0 rfl) ?_
  refine lv_iload_n hx hb dX0_feed_1 rfl (lv_at hl 2 rfl) ?_
  refine lv_iconst (v := nI 1) hx hb dX0_feed_2 (by decide) ?_
  refine lv_bipush (v := nI 8) hx hb dX0_feed_3 (by decide) ?_
  refine st_callS (y := yX0_in) hx hb hml hown hts (cmX0_in n (nI 1) (nI 8)) q330 q331 q61 q332 ndX0_in rfl (by rw [hRf]; decide) (by rw [hRl]; decide) (Nat.zero_le _) (Nat.zero_le _) hl.1 rfl (Nat.le_of_ble_eq_true rfl) dX0_feed_5 ?_
  refine lv_iconst (v := nI 1) hx hb dX0_feed_8 (by decide) ?_
  refine cm_need hx hb hml hown hts hK hI hM htab (hpc := 96) rfl q333 (by rw [hRf]; decide) (by rw [hRl]; decide) (Nat.zero_le _) (Nat.zero_le _) hl.1 (Nat.le_of_ble_eq_true rfl) dX0_feed_9 (fun c_1 locs hM => ?_) (fun c_1 H locs hM => ?_)
  · exact absurd c_1 he
  · refine lv_astore (lv' := [(4, .ref (h 1)), (0, .ref (h 0)), (1, .long w), (3, .int n)]) hx hb dX0_feed_96 hl (by decide) rfl (fun ls hl => ?_)
    refine lv_aload_n hx hb dX0_feed_98 rfl (lv_at hl 1 rfl) ?_
    refine lv_aload hx hb dX0_feed_99 (lv_at hl 0 rfl) ?_
    refine cm_fin hx hb hml hown hts hK hI 1 (by decide) hM q341 (by rw [hRf]; decide) (by rw [hRl]; decide) (Nat.zero_le _) (Nat.zero_le _) hl.1 (Nat.le_of_ble_eq_true rfl) dX0_feed_101 (fun H locs hM => ?_)
    exact hret0 hM (mwEq.rf) rfl rfl ⟨rfl, rfl, rfl⟩ (by decide) dX0_feed_104
