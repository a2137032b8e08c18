/-! near (printed by comp16.py) -/
set_option maxRecDepth 100000
theorem far_lt : ∀ t, t < 25 → ∀ c, c < 25 → farI t c < nI 25 := by decide +kernel
/-- the nearest of the first k cows, as the component keeps it -/
def nrB (r : Nat → Int32) (c : Nat) : Nat → Nat
  | 0 => 0
  | k + 1 => if k = 0 then 0 else if farI (cl (r (58 + 14 * k + 2))) c < farI (cl (r (58 + 14 * nrB r c k + 2))) c then k else nrB r c k
theorem nrB_lt (r : Nat → Int32) (c : Nat) : ∀ k, 1 ≤ k → nrB r c k < k
  | 0, h => by omega
  | k + 1, _ => by
    unfold nrB
    split
    · omega
    · split
      · omega
      · have := nrB_lt r c k (by omega); omega
theorem nrS_B {r : Nat → Int32} {c : Nat} (hR : okR r) (hc : c < 25) : ∀ k, 1 ≤ k → k ≤ 5 → nrS r c k = (nI (nrB r c k), farI (cl (r (58 + 14 * nrB r c k + 2))) c)
  | 0, h, _ => by omega
  | k + 1, _, h5 => by
    unfold nrS
    by_cases h0 : k = 0
    · subst h0
      have hat := (hR.2.2.2.2.2.1 0 (by omega)).2.2.1
      have hfl : farI (cl (r (58 + 14 * 0 + 2))) c < (nrS r c 0).snd := far_lt _ (by have := hat.2; omega) _ hc
      rw [if_pos hfl]
      rfl
    · rw [nrS_B hR hc k (by omega) (by omega)]
      have e : nrB r c (k + 1) = if farI (cl (r (58 + 14 * k + 2))) c < farI (cl (r (58 + 14 * nrB r c k + 2))) c then k else nrB r c k := by
        rw [nrB, if_neg h0]
      rw [e]
      split <;> rfl
theorem nr_pos {r : Nat → Int32} {c : Nat} (hR : okR r) (hc : c < 25) : 0 ≤ (nrS r c (cl (r 3))).1 ↔ 1 ≤ cl (r 3) := by
  have h5 := hR.2.1.2
  by_cases h : 1 ≤ cl (r 3)
  · rw [nrS_B hR hc _ h h5]
    have := nrB_lt r c _ h
    exact ⟨fun _ => h, fun _ => by show (0 : Int32) ≤ nI _; exact nI_le (Nat.zero_le _) (by omega)⟩
  · rw [show cl (r 3) = 0 by omega]
    constructor
    · intro q; exact absurd q (by show ¬ (0 : Int32) ≤ -1; decide)
    · intro q; omega
theorem ndX0_far : yX0_far.cls ≠ "java/lang/invoke/MethodHandle" ∧ yX0_far.cls ≠ "java/lang/invoke/VarHandle" ∧ (parseMethodDescriptor yX0_far.desc).map (fun d => d.parameters.length) = some 2 := by decide +kernel

set_option maxHeartbeats 400000 in
theorem ca_near_ok (f : Nat → Int32) (a : Nat → Nat → Int32) (c0 : Nat) (hc : c0 < 25) (hR : okR (a 1)) (hres : 0 ≤ (nrS (a 1) c0 (cl (a 1 3))).1) : CmF yX0_near cX0_near 4 [(0, 86, 87, 8)] 2 60 [.int (nI c0)] f a ((nrS (a 1) c0 (cl (a 1 3))).1) f a := by
  refine CmF.ofI (by decide) rfl (Nat.le_of_ble_eq_true rfl) ?_
  intro p l e R s m args below meth c Q D dA h fc wk hd ri rt cw tx nm B S ls hx hb hml hRf hRl hRc hRs htab hts hown hK hI hB hS0 hQ hN hIm hZ hSh hM hl hret hret0
  have hl : lv_has ls 4 [(0, .ref (h 0)), (1, .int (nI c0))] := hl
  have hN0 := hR.2.1
  have hN2 := hN0.2
  have hpos := (nr_pos hR hc).mp hres
  refine lv_aload_n hx hb dX0_near_0 rfl (lv_at hl 0 rfl) ?_
  refine lv_iload_n hx hb dX0_near_1 rfl (lv_at hl 1 rfl) ?_
  refine st_callS (y := yX0_isCell) hx hb hml hown hts (cmX0_isCell (nI c0)) q327 q328 q61 q329 ndX0_isCell rfl (by rw [hRf]; decide) (by rw [hRl]; decide) (Nat.zero_le _) (Nat.zero_le _) hl.1 rfl (Nat.le_of_ble_eq_true rfl) dX0_near_2 ?_
  refine lv_iconst (v := nI 1) hx hb dX0_near_5 (by decide) ?_
  refine cm_need hx hb hml hown hts hK hI hM htab (hpc := 87) rfl q333 (by rw [hRf]; decide) (by rw [hRl]; decide) (Nat.zero_le _) (Nat.zero_le _) hl.1 (Nat.le_of_ble_eq_true rfl) dX0_near_6 (fun c_1 locs hM => ?_) (fun c_1 H locs hM => ?_)
  · refine lv_aload_n hx hb dX0_near_9 rfl (lv_at hl 0 rfl) ?_
    refine lv_aload_n hx hb dX0_near_10 rfl (lv_at hl 0 rfl) ?_
    refine c_get (v := .ref (hm0 h 0)) hx hb hts in_X0 hown hK (hM.1 0 _ rfl) rfl 1 (by decide) q287 rfl rfl dX0_near_11 ?_
    have nq := hK.F 1 rfl
    refine c_getN (v := .int (a 1 3)) hx hb hts in_X2 hown hK ((cm_parts hM.1).2.1 0 _ rfl) rfl 3 (by decide) nq rfl rfl dX0_near_14 ?_
    refine w_top (nI (cl (a 1 3))) (hN0.1) ?_
    refine w_if_leN (tgt := 24) hx hb (by omega) dX0_near_17 (by decide) (fun c_2 => ?_) (fun c_2 => ?_)
    · exact absurd c_2 (by omega)
    · refine lv_iconst (v := nI 1) hx hb dX0_near_20 (by decide) ?_
      refine lv_goto (tgt := 25) hx hb dX0_near_21 (by decide) ?_
      refine lv_iconst (v := nI 2) hx hb dX0_near_25 (by decide) ?_
      refine cm_n1 hx hb hml hown hts hK hI hM htab (hpc := 87) rfl q333 (by rw [hRf]; decide) (by rw [hRl]; decide) (Nat.zero_le _) (Nat.zero_le _) hl.1 (Nat.le_of_ble_eq_true rfl) dX0_near_26 (fun locs hM => ?_)
      refine lv_iconst (v := nI 0) hx hb dX0_near_29 (by decide) ?_
      refine lv_istore_n (lv' := [(2, .int (nI 0)), (0, .ref (h 0)), (1, .int (nI c0))]) hx hb dX0_near_30 rfl hl (by decide) rfl (fun ls hl => ?_)
      refine lv_iconst (v := nI 1) hx hb dX0_near_31 (by decide) ?_
      refine lv_istore_n (lv' := [(3, .int (nI 1)), (2, .int (nI 0)), (0, .ref (h 0)), (1, .int (nI c0))]) hx hb dX0_near_32 rfl hl (by decide) rfl (fun ls hl => ?_)
      have loop33 : ∀ (fu : Nat) (k : Nat), (1 ≤ k) → (k ≤ cl (a 1 3)) → (cl (a 1 3) < k + fu) → ∀ (fc : Int32) (wk nm : Nat → Nat → Int32) (H : Heap) (locs : List Loc), cmH D h dA s.heap H locs f a fc wk hd ri rt cw tx nm → ∀ (ls : Array Slot), lv_has ls 4 [(3, .int (nI k)), (2, .int (nI (nrB (a 1) c0 k))), (0, .ref (h 0)), (1, .int (nI c0))] → W p l e R s m args below meth c H locs 0 0 Q (F0 m 33 ls []) := by
        intro fu
        induction fu with
        | zero =>
          intro k hk1 hk hf
          omega
        | succ fu ih33 =>
          intro k hk1 hk hf fc wk nm H locs hM ls hl
          refine lv_iload_n hx hb dX0_near_33 rfl (lv_at hl 0 rfl) ?_
          refine lv_aload_n hx hb dX0_near_34 rfl (lv_at hl 2 rfl) ?_
          refine c_get (v := .ref (hm0 h 0)) hx hb hts in_X0 hown hK (hM.1 0 _ rfl) rfl 1 (by decide) q287 rfl rfl dX0_near_35 ?_
          have nq := hK.F 1 rfl
          refine c_getN (v := .int (a 1 3)) hx hb hts in_X2 hown hK ((cm_parts hM.1).2.1 0 _ rfl) rfl 3 (by decide) nq rfl rfl dX0_near_38 ?_
          refine w_top (nI (cl (a 1 3))) (hN0.1) ?_
          refine w_icmp_geN (tgt := 85) hx hb (by omega) (by omega) dX0_near_41 (by decide) (fun c_3 => ?_) (fun c_3 => ?_)
          · refine lv_iload_n hx hb dX0_near_85 rfl (lv_at hl 1 rfl) ?_
            exact hret0 hM (mwEq.rf) rfl rfl ⟨rfl, rfl, rfl⟩ (by rw [nrS_B hR hc _ (by omega) (by omega), show cl (a 1 3) = k by omega]) dX0_near_86
          · have hat := (hR.2.2.2.2.2.1 k (by omega)).2.2.1
            have hat2 := hat.2
            have hnb := nrB_lt (a 1) c0 k hk1
            have hbt := (hR.2.2.2.2.2.1 (nrB (a 1) c0 k) (by omega)).2.2.1
            have hbt2 := hbt.2
            refine lv_aload_n hx hb dX0_near_44 rfl (lv_at hl 2 rfl) ?_
            refine c_get (v := .ref (hm0 h 0)) hx hb hts in_X0 hown hK (hM.1 0 _ rfl) rfl 1 (by decide) q287 rfl rfl dX0_near_45 ?_
            have nq := hK.F 5 rfl
            refine c_getN (v := .ref (hm0 h 4)) hx hb hts in_X2 hown hK ((cm_parts hM.1).2.1 0 _ rfl) rfl 5 (by decide) nq rfl rfl dX0_near_48 ?_
            refine lv_iload_n hx hb dX0_near_51 rfl (lv_at hl 0 rfl) ?_
            refine c_iald hx hb hK ((cm_parts hM.1).2.1 4 _ rfl) k ⟨by omega, by decide, rfl⟩ dX0_near_52 ?_
            refine w_top (a 1 (58 + 14 * k + 2)) (rfl) ?_
            refine w_top (nI (cl (a 1 (58 + 14 * k + 2)))) (hat.1) ?_
            refine lv_iload_n hx hb dX0_near_53 rfl (lv_at hl 3 rfl) ?_
            refine st_callS (y := yX0_far) hx hb hml hown hts (cmX0_far (cl (a 1 (58 + 14 * k + 2))) c0 (by omega) (by omega)) q1080 q1081 q61 q1082 ndX0_far rfl (by rw [hRf]; decide) (by rw [hRl]; decide) (Nat.zero_le _) (Nat.zero_le _) hl.1 rfl (Nat.le_of_ble_eq_true rfl) dX0_near_54 ?_
            refine lv_aload_n hx hb dX0_near_57 rfl (lv_at hl 2 rfl) ?_
            refine c_get (v := .ref (hm0 h 0)) hx hb hts in_X0 hown hK (hM.1 0 _ rfl) rfl 1 (by decide) q287 rfl rfl dX0_near_58 ?_
            have nq := hK.F 5 rfl
            refine c_getN (v := .ref (hm0 h 4)) hx hb hts in_X2 hown hK ((cm_parts hM.1).2.1 0 _ rfl) rfl 5 (by decide) nq rfl rfl dX0_near_61 ?_
            refine lv_iload_n hx hb dX0_near_64 rfl (lv_at hl 1 rfl) ?_
            refine c_iald hx hb hK ((cm_parts hM.1).2.1 4 _ rfl) (nrB (a 1) c0 k) ⟨by omega, by decide, rfl⟩ dX0_near_65 ?_
            refine w_top (a 1 (58 + 14 * (nrB (a 1) c0 k) + 2)) (rfl) ?_
            refine w_top (nI (cl (a 1 (58 + 14 * (nrB (a 1) c0 k) + 2)))) (hbt.1) ?_
            refine lv_iload_n hx hb dX0_near_66 rfl (lv_at hl 3 rfl) ?_
            refine st_callS (y := yX0_far) hx hb hml hown hts (cmX0_far (cl (a 1 (58 + 14 * (nrB (a 1) c0 k) + 2))) c0 (by omega) (by omega)) q1080 q1081 q61 q1082 ndX0_far rfl (by rw [hRf]; decide) (by rw [hRl]; decide) (Nat.zero_le _) (Nat.zero_le _) hl.1 rfl (Nat.le_of_ble_eq_true rfl) dX0_near_67 ?_
            have j78 : ∀ (fc : Int32) (wk nm : Nat → Nat → Int32) (H : Heap) (locs : List Loc), cmH D h dA s.heap H locs f a fc wk hd ri rt cw tx nm → ∀ (ls : Array Slot), lv_has ls 4 [(3, .int (nI k)), (2, .int (nI (nrB (a 1) c0 k))), (0, .ref (h 0)), (1, .int (nI c0))] → W p l e R s m args below meth c H locs 0 0 Q (F0 m 78 ls [.int (nI (nrB (a 1) c0 (k + 1)))]) := by
              intro   fc wk nm H locs hM ls hl
              refine lv_istore_n (lv' := [(2, .int (nI (nrB (a 1) c0 (k + 1)))), (3, .int (nI k)), (0, .ref (h 0)), (1, .int (nI c0))]) hx hb dX0_near_78 rfl hl (by decide) rfl (fun ls hl => ?_)
              refine lv_iinc (v := nI (k + 1)) (lv' := [(3, .int (nI (k + 1))), (2, .int (nI (nrB (a 1) c0 (k + 1)))), (0, .ref (h 0)), (1, .int (nI c0))]) hx hb dX0_near_79 hl (k := 1) rfl (by rw [show Int32.ofInt 1 = nI 1 from by decide]; exact nI_add _ _) (by decide) rfl (fun ls hl => ?_)
              refine lv_goto (tgt := 33) hx hb dX0_near_82 (by decide) ?_
              exact ih33 (k + 1) (by omega) (by omega) (by omega) _ _ _ _ _ hM ls (lv_sub hl [0, 1, 2, 3] rfl)
            refine lv_icmp_ge (tgt := 77) hx hb dX0_near_70 (by decide) (fun c_4 => ?_) (fun c_4 => ?_)
            · refine lv_iload_n hx hb dX0_near_77 rfl (lv_at hl 1 rfl) ?_
              refine w_top (nI (nrB (a 1) c0 (k + 1))) (by rw [nrB, if_neg (by omega), if_neg (by first | exact c_4 | exact Int32.not_lt.mpr c_4)]) ?_
              exact j78   _ _ _ _ _ hM ls (lv_sub hl [0, 1, 2, 3] rfl)
            · refine lv_iload_n hx hb dX0_near_73 rfl (lv_at hl 0 rfl) ?_
              refine lv_goto (tgt := 78) hx hb dX0_near_74 (by decide) ?_
              refine w_top (nI (nrB (a 1) c0 (k + 1))) (by rw [nrB, if_neg (by omega), if_pos (by first | exact c_4 | exact Int32.not_le.mp c_4)]) ?_
              exact j78   _ _ _ _ _ hM ls (lv_sub hl [0, 1, 2, 3] rfl)
      exact loop33 (cl (a 1 3) + 1) 1 (by omega) (by omega) (by omega) _ _ _ _ _ hM ls (lv_sub hl [0, 1, 2, 3] rfl)
  · exact absurd (by first | exact (in_nat (by decide)).mpr ⟨_, by omega, rfl⟩ | exact (in_nat1 _ (by decide) (by decide)).mpr ⟨_, by omega, by omega, rfl⟩ | exact cow_in hN0 (by omega) | assumption) c_1
set_option maxHeartbeats 400000 in
theorem ca_near_n (f : Nat → Int32) (a : Nat → Nat → Int32) (c0 : Nat) (hc : c0 < 25) (hR : okR (a 1)) (hres : ¬ 0 ≤ (nrS (a 1) c0 (cl (a 1 3))).1) : CmF yX0_near cX0_near 4 [(0, 86, 87, 8)] 2 60 [.int (nI c0)] f a (-1000000002 : Int32) f (mErr a 2) := by
  refine CmF.ofI (by decide) rfl (Nat.le_of_ble_eq_true rfl) ?_
  intro p l e R s m args below meth c Q D dA h fc wk hd ri rt cw tx nm B S ls hx hb hml hRf hRl hRc hRs htab hts hown hK hI hB hS0 hQ hN hIm hZ hSh hM hl hret hret0
  have hl : lv_has ls 4 [(0, .ref (h 0)), (1, .int (nI c0))] := hl
  have hN0 := hR.2.1
  have hN2 := hN0.2
  have hpos : ¬ 1 ≤ cl (a 1 3) := fun q => hres ((nr_pos hR hc).mpr q)
  refine lv_aload_n hx hb dX0_near_0 rfl (lv_at hl 0 rfl) ?_
  refine lv_iload_n hx hb dX0_near_1 rfl (lv_at hl 1 rfl) ?_
  refine st_callS (y := yX0_isCell) hx hb hml hown hts (cmX0_isCell (nI c0)) q327 q328 q61 q329 ndX0_isCell rfl (by rw [hRf]; decide) (by rw [hRl]; decide) (Nat.zero_le _) (Nat.zero_le _) hl.1 rfl (Nat.le_of_ble_eq_true rfl) dX0_near_2 ?_
  refine lv_iconst (v := nI 1) hx hb dX0_near_5 (by decide) ?_
  refine cm_need hx hb hml hown hts hK hI hM htab (hpc := 87) rfl q333 (by rw [hRf]; decide) (by rw [hRl]; decide) (Nat.zero_le _) (Nat.zero_le _) hl.1 (Nat.le_of_ble_eq_true rfl) dX0_near_6 (fun c_1 locs hM => ?_) (fun c_1 H locs hM => ?_)
  · refine lv_aload_n hx hb dX0_near_9 rfl (lv_at hl 0 rfl) ?_
    refine lv_aload_n hx hb dX0_near_10 rfl (lv_at hl 0 rfl) ?_
    refine c_get (v := .ref (hm0 h 0)) hx hb hts in_X0 hown hK (hM.1 0 _ rfl) rfl 1 (by decide) q287 rfl rfl dX0_near_11 ?_
    have nq := hK.F 1 rfl
    refine c_getN (v := .int (a 1 3)) hx hb hts in_X2 hown hK ((cm_parts hM.1).2.1 0 _ rfl) rfl 3 (by decide) nq rfl rfl dX0_near_14 ?_
    refine w_top (nI (cl (a 1 3))) (hN0.1) ?_
    refine w_if_leN (tgt := 24) hx hb (by omega) dX0_near_17 (by decide) (fun c_2 => ?_) (fun c_2 => ?_)
    · refine lv_iconst (v := nI 0) hx hb dX0_near_24 (by decide) ?_
      refine lv_iconst (v := nI 2) hx hb dX0_near_25 (by decide) ?_
      refine cm_n0 hx hb hml hown hts hK hI hM htab (hpc := 87) rfl q333 (by rw [hRf]; decide) (by rw [hRl]; decide) (Nat.zero_le _) (Nat.zero_le _) hl.1 (Nat.le_of_ble_eq_true rfl) dX0_near_26 (fun H locs hM => ?_)
      refine lv_astore_n (lv' := [(2, .ref (h 1)), (0, .ref (h 0)), (1, .int (nI c0))]) hx hb dX0_near_87 rfl hl (by decide) rfl (fun ls hl => ?_)
      refine lv_aload_n hx hb dX0_near_88 rfl (lv_at hl 1 rfl) ?_
      refine lv_aload_n hx hb dX0_near_89 rfl (lv_at hl 0 rfl) ?_
      refine cm_fin hx hb hml hown hts hK hI 2 (by decide) hM q341 (by rw [hRf]; decide) (by rw [hRl]; decide) (Nat.zero_le _) (Nat.zero_le _) hl.1 (Nat.le_of_ble_eq_true rfl) dX0_near_90 (fun H locs hM => ?_)
      exact hret0 hM (mwEq.rf) rfl rfl ⟨rfl, rfl, rfl⟩ (by decide) dX0_near_93
    · exact absurd c_2 (by omega)
  · exact absurd (by first | exact (in_nat (by decide)).mpr ⟨_, by omega, rfl⟩ | exact (in_nat1 _ (by decide) (by decide)).mpr ⟨_, by omega, by omega, rfl⟩ | exact cow_in hN0 (by omega) | assumption) c_1
set_option maxHeartbeats 400000 in
theorem ca_near_e (f : Nat → Int32) (a : Nat → Nat → Int32) (c0 : Int32) (he : ¬ (nI 0 ≤ c0 ∧ c0 ≤ nI 24)) : CmF yX0_near cX0_near 4 [(0, 86, 87, 8)] 2 60 [.int c0] f a (-1000000001 : Int32) f (mErr a 1) := by
  refine CmF.ofI (by decide) rfl (Nat.le_of_ble_eq_true rfl) ?_
  intro p l e R s m args below meth c Q D dA h fc wk hd ri rt cw tx nm B S ls hx hb hml hRf hRl hRc hRs htab hts hown hK hI hB hS0 hQ hN hIm hZ hSh hM hl hret hret0
  have hl : lv_has ls 4 [(0, .ref (h 0)), (1, .int c0)] := hl
  refine lv_aload_n hx hb dX0_near_0 rfl (lv_at hl 0 rfl) ?_
  refine lv_iload_n hx hb dX0_near_1 rfl (lv_at hl 1 rfl) ?_
  refine st_callS (y := yX0_isCell) hx hb hml hown hts (cmX0_isCell c0) q327 q328 q61 q329 ndX0_isCell rfl (by rw [hRf]; decide) (by rw [hRl]; decide) (Nat.zero_le _) (Nat.zero_le _) hl.1 rfl (Nat.le_of_ble_eq_true rfl) dX0_near_2 ?_
  refine lv_iconst (v := nI 1) hx hb dX0_near_5 (by decide) ?_
  refine cm_need hx hb hml hown hts hK hI hM htab (hpc := 87) rfl q333 (by rw [hRf]; decide) (by rw [hRl]; decide) (Nat.zero_le _) (Nat.zero_le _) hl.1 (Nat.le_of_ble_eq_true rfl) dX0_near_6 (fun c_1 locs hM => ?_) (fun c_1 H locs hM => ?_)
  · exact absurd c_1 he
  · refine lv_astore_n (lv' := [(2, .ref (h 1)), (0, .ref (h 0)), (1, .int c0)]) hx hb dX0_near_87 rfl hl (by decide) rfl (fun ls hl => ?_)
    refine lv_aload_n hx hb dX0_near_88 rfl (lv_at hl 1 rfl) ?_
    refine lv_aload_n hx hb dX0_near_89 rfl (lv_at hl 0 rfl) ?_
    refine cm_fin hx hb hml hown hts hK hI 1 (by decide) hM q341 (by rw [hRf]; decide) (by rw [hRl]; decide) (Nat.zero_le _) (Nat.zero_le _) hl.1 (Nat.le_of_ble_eq_true rfl) dX0_near_90 (fun H locs hM => ?_)
    exact hret0 hM (mwEq.rf) rfl rfl ⟨rfl, rfl, rfl⟩ (by decide) dX0_near_93
