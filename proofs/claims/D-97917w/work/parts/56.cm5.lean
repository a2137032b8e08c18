/-! the component: methods that touch no heap (printed by comp1.py) -/
set_option maxRecDepth 100000
theorem szI_abs (x : Int32) : (if 0 ≤ x then x else 0 - x) = szI x := by
  unfold szI
  by_cases h : x < 0
  · rw [if_pos h, if_neg (Int32.not_le.mpr h)]; simp
  · rw [if_neg h, if_pos (Int32.not_lt.mp h)]
set_option maxHeartbeats 400000 in
theorem cmX0_in (v lo hi : Int32) : StF yX0_in cX0_in 3 (some .boolean) 0 0 [.int v, .int lo, .int hi] (some (.int (iI (lo ≤ v ∧ v ≤ hi)))) := by
  refine StF.ofZ (by decide) (own := RX0) rfl (Nat.le_of_ble_eq_true rfl) iI_n ?_
  intro p l e R s m args below meth c Q H locs ls hx hb hml hRf hRl hts hown hl hret
  have hl : lv_has ls 3 [(0, .int v), (1, .int lo), (2, .int hi)] := hl
  refine lv_iload_n hx hb dX0_in_0 rfl (lv_at hl 0 rfl) ?_
  refine lv_iload_n hx hb dX0_in_1 rfl (lv_at hl 1 rfl) ?_
  refine lv_icmp_lt (tgt := 14) hx hb dX0_in_2 (by decide) (fun c_1 => ?_) (fun c_1 => ?_)
  · refine lv_iconst (v := nI 0) hx hb dX0_in_14 (by decide) ?_
    exact hret (by first | rfl | (simp only [iI, nI_0, nI_one]; grind)) dX0_in_15
  · refine lv_iload_n hx hb dX0_in_5 rfl (lv_at hl 0 rfl) ?_
    refine lv_iload_n hx hb dX0_in_6 rfl (lv_at hl 2 rfl) ?_
    refine lv_icmp_gt (tgt := 14) hx hb dX0_in_7 (by decide) (fun c_2 => ?_) (fun c_2 => ?_)
    · refine lv_iconst (v := nI 0) hx hb dX0_in_14 (by decide) ?_
      exact hret (by first | rfl | (simp only [iI, nI_0, nI_one]; grind)) dX0_in_15
    · refine lv_iconst (v := nI 1) hx hb dX0_in_10 (by decide) ?_
      refine lv_goto (tgt := 15) hx hb dX0_in_11 (by decide) ?_
      exact hret (by first | rfl | (simp only [iI, nI_0, nI_one]; grind)) dX0_in_15
set_option maxHeartbeats 400000 in
theorem cmX0_hasBit (v : Int32) (k : Nat) : StF yX0_hasBit cX0_hasBit 2 (some .boolean) 0 0 [.int v, .int (nI k)] (some (.int (iI (btI v k = nI 1)))) := by
  refine StF.ofZ (by decide) (own := RX0) rfl (Nat.le_of_ble_eq_true rfl) iI_n ?_
  intro p l e R s m args below meth c Q H locs ls hx hb hml hRf hRl hts hown hl hret
  have hl : lv_has ls 2 [(0, .int v), (1, .int (nI k))] := hl
  refine lv_iload_n hx hb dX0_hasBit_0 rfl (lv_at hl 0 rfl) ?_
  refine lv_iload_n hx hb dX0_hasBit_1 rfl (lv_at hl 1 rfl) ?_
  refine lv_ishr hx hb dX0_hasBit_2 ?_
  refine lv_iconst (v := nI 1) hx hb dX0_hasBit_3 (by decide) ?_
  refine lv_iand hx hb dX0_hasBit_4 ?_
  refine lv_iconst (v := nI 1) hx hb dX0_hasBit_5 (by decide) ?_
  refine lv_icmp_ne (tgt := 13) hx hb dX0_hasBit_6 (by decide) (fun c_1 => ?_) (fun c_1 => ?_)
  · refine lv_iconst (v := nI 0) hx hb dX0_hasBit_13 (by decide) ?_
    exact hret (iI_0 c_1) dX0_hasBit_14
  · refine lv_iconst (v := nI 1) hx hb dX0_hasBit_9 (by decide) ?_
    refine lv_goto (tgt := 14) hx hb dX0_hasBit_10 (by decide) ?_
    exact hret (iI_1 c_1) dX0_hasBit_14
theorem ndX0_in : yX0_in.cls ≠ "java/lang/invoke/MethodHandle" ∧ yX0_in.cls ≠ "java/lang/invoke/VarHandle" ∧ (parseMethodDescriptor yX0_in.desc).map (fun d => d.parameters.length) = some 3 := by decide +kernel

set_option maxHeartbeats 400000 in
theorem cmX0_isCell (v : Int32) : StF yX0_isCell cX0_isCell 1 (some .boolean) 1 22 [.int v] (some (.int (iI (nI 0 ≤ v ∧ v ≤ nI 24)))) := by
  refine StF.ofZ (by decide) (own := RX0) rfl (Nat.le_of_ble_eq_true rfl) iI_n ?_
  intro p l e R s m args below meth c Q H locs ls hx hb hml hRf hRl hts hown hl hret
  have hl : lv_has ls 1 [(0, .int v)] := hl
  refine lv_iload_n hx hb dX0_isCell_0 rfl (lv_at hl 0 rfl) ?_
  refine lv_iconst (v := nI 0) hx hb dX0_isCell_1 (by decide) ?_
  refine lv_bipush (v := nI 24) hx hb dX0_isCell_2 (by decide) ?_
  refine st_callS (y := yX0_in) hx hb hml hown hts (cmX0_in v (nI 0) (nI 24)) q330 q331 q61 q332 ndX0_in rfl (by rw [hRf]; decide) (by rw [hRl]; decide) (Nat.zero_le _) (Nat.zero_le _) hl.1 rfl (Nat.le_of_ble_eq_true rfl) dX0_isCell_4 ?_
  exact hret (by first | rfl | (simp only [iI, nI_0, nI_one]; grind)) dX0_isCell_7
set_option maxHeartbeats 400000 in
theorem cmX0_isKind (v : Int32) : StF yX0_isKind cX0_isKind 1 (some .boolean) 1 22 [.int v] (some (.int (iI (nI 0 ≤ v ∧ v ≤ nI 69)))) := by
  refine StF.ofZ (by decide) (own := RX0) rfl (Nat.le_of_ble_eq_true rfl) iI_n ?_
  intro p l e R s m args below meth c Q H locs ls hx hb hml hRf hRl hts hown hl hret
  have hl : lv_has ls 1 [(0, .int v)] := hl
  refine lv_iload_n hx hb dX0_isKind_0 rfl (lv_at hl 0 rfl) ?_
  refine lv_iconst (v := nI 0) hx hb dX0_isKind_1 (by decide) ?_
  refine lv_bipush (v := nI 69) hx hb dX0_isKind_2 (by decide) ?_
  refine st_callS (y := yX0_in) hx hb hml hown hts (cmX0_in v (nI 0) (nI 69)) q330 q331 q61 q332 ndX0_in rfl (by rw [hRf]; decide) (by rw [hRl]; decide) (Nat.zero_le _) (Nat.zero_le _) hl.1 rfl (Nat.le_of_ble_eq_true rfl) dX0_isKind_4 ?_
  exact hret (by first | rfl | (simp only [iI, nI_0, nI_one]; grind)) dX0_isKind_7
set_option maxHeartbeats 400000 in
theorem cmX0_isMark (v : Int32) : StF yX0_isMark cX0_isMark 1 (some .boolean) 1 22 [.int v] (some (.int (iI (nI 0 ≤ v ∧ v ≤ nI 9)))) := by
  refine StF.ofZ (by decide) (own := RX0) rfl (Nat.le_of_ble_eq_true rfl) iI_n ?_
  intro p l e R s m args below meth c Q H locs ls hx hb hml hRf hRl hts hown hl hret
  have hl : lv_has ls 1 [(0, .int v)] := hl
  refine lv_iload_n hx hb dX0_isMark_0 rfl (lv_at hl 0 rfl) ?_
  refine lv_iconst (v := nI 0) hx hb dX0_isMark_1 (by decide) ?_
  refine lv_bipush (v := nI 9) hx hb dX0_isMark_2 (by decide) ?_
  refine st_callS (y := yX0_in) hx hb hml hown hts (cmX0_in v (nI 0) (nI 9)) q330 q331 q61 q332 ndX0_in rfl (by rw [hRf]; decide) (by rw [hRl]; decide) (Nat.zero_le _) (Nat.zero_le _) hl.1 rfl (Nat.le_of_ble_eq_true rfl) dX0_isMark_4 ?_
  exact hret (by first | rfl | (simp only [iI, nI_0, nI_one]; grind)) dX0_isMark_7
set_option maxHeartbeats 400000 in
theorem cmX0_isSheet (v : Int32) : StF yX0_isSheet cX0_isSheet 1 (some .boolean) 1 22 [.int v] (some (.int (iI (nI 0 ≤ v ∧ v ≤ nI 3)))) := by
  refine StF.ofZ (by decide) (own := RX0) rfl (Nat.le_of_ble_eq_true rfl) iI_n ?_
  intro p l e R s m args below meth c Q H locs ls hx hb hml hRf hRl hts hown hl hret
  have hl : lv_has ls 1 [(0, .int v)] := hl
  refine lv_iload_n hx hb dX0_isSheet_0 rfl (lv_at hl 0 rfl) ?_
  refine lv_iconst (v := nI 0) hx hb dX0_isSheet_1 (by decide) ?_
  refine lv_iconst (v := nI 3) hx hb dX0_isSheet_2 (by decide) ?_
  refine st_callS (y := yX0_in) hx hb hml hown hts (cmX0_in v (nI 0) (nI 3)) q330 q331 q61 q332 ndX0_in rfl (by rw [hRf]; decide) (by rw [hRl]; decide) (Nat.zero_le _) (Nat.zero_le _) hl.1 rfl (Nat.le_of_ble_eq_true rfl) dX0_isSheet_3 ?_
  exact hret (by first | rfl | (simp only [iI, nI_0, nI_one]; grind)) dX0_isSheet_6
set_option maxHeartbeats 400000 in
theorem cmX0_isWidth (v : Int32) : StF yX0_isWidth cX0_isWidth 1 (some .boolean) 0 0 [.int v] (some (.int (iI (v = nI 8 ∨ v = nI 16 ∨ v = nI 32)))) := by
  refine StF.ofZ (by decide) (own := RX0) rfl (Nat.le_of_ble_eq_true rfl) iI_n ?_
  intro p l e R s m args below meth c Q H locs ls hx hb hml hRf hRl hts hown hl hret
  have hl : lv_has ls 1 [(0, .int v)] := hl
  refine lv_iload_n hx hb dX0_isWidth_0 rfl (lv_at hl 0 rfl) ?_
  refine lv_bipush (v := nI 8) hx hb dX0_isWidth_1 (by decide) ?_
  refine lv_icmp_eq (tgt := 18) hx hb dX0_isWidth_3 (by decide) (fun c_1 => ?_) (fun c_1 => ?_)
  · refine lv_iconst (v := nI 1) hx hb dX0_isWidth_18 (by decide) ?_
    refine lv_goto (tgt := 23) hx hb dX0_isWidth_19 (by decide) ?_
    exact hret (by first | rfl | (simp only [iI, nI_0, nI_one]; grind)) dX0_isWidth_23
  · refine lv_iload_n hx hb dX0_isWidth_6 rfl (lv_at hl 0 rfl) ?_
    refine lv_bipush (v := nI 16) hx hb dX0_isWidth_7 (by decide) ?_
    refine lv_icmp_eq (tgt := 18) hx hb dX0_isWidth_9 (by decide) (fun c_2 => ?_) (fun c_2 => ?_)
    · refine lv_iconst (v := nI 1) hx hb dX0_isWidth_18 (by decide) ?_
      refine lv_goto (tgt := 23) hx hb dX0_isWidth_19 (by decide) ?_
      exact hret (by first | rfl | (simp only [iI, nI_0, nI_one]; grind)) dX0_isWidth_23
    · refine lv_iload_n hx hb dX0_isWidth_12 rfl (lv_at hl 0 rfl) ?_
      refine lv_bipush (v := nI 32) hx hb dX0_isWidth_13 (by decide) ?_
      refine lv_icmp_ne (tgt := 22) hx hb dX0_isWidth_15 (by decide) (fun c_3 => ?_) (fun c_3 => ?_)
      · refine lv_iconst (v := nI 0) hx hb dX0_isWidth_22 (by decide) ?_
        exact hret (by first | rfl | (simp only [iI, nI_0, nI_one]; grind)) dX0_isWidth_23
      · refine lv_iconst (v := nI 1) hx hb dX0_isWidth_18 (by decide) ?_
        refine lv_goto (tgt := 23) hx hb dX0_isWidth_19 (by decide) ?_
        exact hret (by first | rfl | (simp only [iI, nI_0, nI_one]; grind)) dX0_isWidth_23
set_option maxHeartbeats 400000 in
theorem cmX0_far (t c0 : Nat) (ht : t < 25) (hc : c0 < 25) : StF yX0_far cX0_far 2 (some .int) 1 24 [.int (nI t), .int (nI c0)] (some (.int (farI t c0))) := by
  refine StF.ofI (by decide) (own := RX0) rfl (Nat.le_of_ble_eq_true rfl) ?_
  intro p l e R s m args below meth c Q H locs ls hx hb hml hRf hRl hts hown hl hret
  have hl : lv_has ls 2 [(0, .int (nI t)), (1, .int (nI c0))] := hl
  refine lv_iload_n hx hb dX0_far_0 rfl (lv_at hl 0 rfl) ?_
  refine lv_iconst (v := nI 5) hx hb dX0_far_1 (by decide) ?_
  refine w_idivN hx hb (by omega) (by omega) (by omega) dX0_far_2 ?_
  refine lv_iload_n hx hb dX0_far_3 rfl (lv_at hl 1 rfl) ?_
  refine lv_iconst (v := nI 5) hx hb dX0_far_4 (by decide) ?_
  refine w_idivN hx hb (by omega) (by omega) (by omega) dX0_far_5 ?_
  refine lv_isub hx hb dX0_far_6 ?_
  refine va_mabs hx hb (hml.trans hl.1.symm) hown (hts _ q1083) (hts _ q1084) (hts _ q73) (hts _ q1085) (by rw [hRf]; decide) (by rw [hRl]; exact Nat.le_of_ble_eq_true rfl) (Nat.zero_le _) (Nat.zero_le _) dX0_far_7 ?_
  refine w_top (szI ((nI (t / 5)) - (nI (c0 / 5)))) (szI_abs _) ?_
  refine lv_iload_n hx hb dX0_far_10 rfl (lv_at hl 0 rfl) ?_
  refine lv_iconst (v := nI 5) hx hb dX0_far_11 (by decide) ?_
  refine w_iremN hx hb (by omega) (by omega) (by omega) dX0_far_12 ?_
  refine lv_iload_n hx hb dX0_far_13 rfl (lv_at hl 1 rfl) ?_
  refine lv_iconst (v := nI 5) hx hb dX0_far_14 (by decide) ?_
  refine w_iremN hx hb (by omega) (by omega) (by omega) dX0_far_15 ?_
  refine lv_isub hx hb dX0_far_16 ?_
  refine va_mabs hx hb (hml.trans hl.1.symm) hown (hts _ q1083) (hts _ q1084) (hts _ q73) (hts _ q1085) (by rw [hRf]; decide) (by rw [hRl]; exact Nat.le_of_ble_eq_true rfl) (Nat.zero_le _) (Nat.zero_le _) dX0_far_17 ?_
  refine w_top (szI ((nI (t % 5)) - (nI (c0 % 5)))) (szI_abs _) ?_
  refine lv_iadd hx hb dX0_far_20 ?_
  exact hret (by first | rfl | (simp only [iI, nI_0, nI_one]; grind)) dX0_far_21
theorem hel_mm {v lo hi : Int32} (h : lo ≤ hi) : (if lo < (if v < hi then v else hi) then (if v < hi then v else hi) else lo) = hel v lo hi := by
  unfold hel
  split <;> split <;> grind
set_option maxHeartbeats 400000 in
theorem cmX2_held (v lo hi : Int32) (h : lo ≤ hi) : StF yX2_held cX2_held 3 (some .int) 1 24 [.int v, .int lo, .int hi] (some (.int (hel v lo hi))) := by
  refine StF.ofI (by decide) (own := RX2) rfl (Nat.le_of_ble_eq_true rfl) ?_
  intro p l e R s m args below meth c Q H locs ls hx hb hml hRf hRl hts hown hl hret
  have hl : lv_has ls 3 [(0, .int v), (1, .int lo), (2, .int hi)] := hl
  refine lv_iload_n hx hb dX2_held_0 rfl (lv_at hl 1 rfl) ?_
  refine lv_iload_n hx hb dX2_held_1 rfl (lv_at hl 2 rfl) ?_
  refine lv_iload_n hx hb dX2_held_2 rfl (lv_at hl 0 rfl) ?_
  refine va_mmin hx hb (hml.trans hl.1.symm) hown (hts _ q385) (hts _ q386) (hts _ q73) (hts _ q387) (by rw [hRf]; decide) (by rw [hRl]; exact Nat.le_of_ble_eq_true rfl) (Nat.zero_le _) (Nat.zero_le _) dX2_held_3 ?_
  refine va_mmax hx hb (hml.trans hl.1.symm) hown (hts _ q388) (hts _ q389) (hts _ q73) (hts _ q390) (by rw [hRf]; decide) (by rw [hRl]; exact Nat.le_of_ble_eq_true rfl) (Nat.zero_le _) (Nat.zero_le _) dX2_held_6 ?_
  exact hret (hel_mm h) dX2_held_9
set_option maxHeartbeats 400000 in
theorem cmX2_next (c0 w : Nat) (hc : c0 < 25) (hw : w < 5) : StF yX2_next cX2_next 2 (some .int) 0 0 [.int (nI c0), .int (nI w)] (some (.int (oI (nxt c0 w)))) := by
  refine StF.ofI (by decide) (own := RX2) rfl (Nat.le_of_ble_eq_true rfl) ?_
  intro p l e R s m args below meth c Q H locs ls hx hb hml hRf hRl hts hown hl hret
  have hl : lv_has ls 2 [(0, .int (nI c0)), (1, .int (nI w))] := hl
  refine lv_iload_n hx hb dX2_next_0 rfl (lv_at hl 1 rfl) ?_
  by_cases c_1 : w = 0
  · refine lv_tableIn (off := 31) (tgt := 32) hx hb dX2_next_1 (by rw [c_1]; decide) (by rw [c_1]; decide) (by rw [c_1]; rfl) (by decide) ?_
    refine lv_iload_n hx hb dX2_next_32 rfl (lv_at hl 0 rfl) ?_
    exact hret (by unfold oI nxt; grind) dX2_next_33
  · skip
    by_cases c_2 : w = 1
    · refine lv_tableIn (off := 33) (tgt := 34) hx hb dX2_next_1 (by rw [c_2]; decide) (by rw [c_2]; decide) (by rw [c_2]; rfl) (by decide) ?_
      refine lv_iload_n hx hb dX2_next_34 rfl (lv_at hl 0 rfl) ?_
      refine lv_iconst (v := nI 5) hx hb dX2_next_35 (by decide) ?_
      refine w_icmp_ltN (tgt := 45) hx hb (by omega) (by omega) dX2_next_36 (by decide) (fun c_3 => ?_) (fun c_3 => ?_)
      · refine lv_iconst (v := (-1 : Int32)) hx hb dX2_next_45 (by decide) ?_
        exact hret (by unfold oI nxt; grind) dX2_next_46
      · refine lv_iload_n hx hb dX2_next_39 rfl (lv_at hl 0 rfl) ?_
        refine lv_iconst (v := nI 5) hx hb dX2_next_40 (by decide) ?_
        refine w_isubN hx hb (by omega) dX2_next_41 ?_
        refine lv_goto (tgt := 46) hx hb dX2_next_42 (by decide) ?_
        exact hret (by unfold oI nxt; grind) dX2_next_46
    · skip
      by_cases c_4 : w = 2
      · refine lv_tableIn (off := 46) (tgt := 47) hx hb dX2_next_1 (by rw [c_4]; decide) (by rw [c_4]; decide) (by rw [c_4]; rfl) (by decide) ?_
        refine lv_iload_n hx hb dX2_next_47 rfl (lv_at hl 0 rfl) ?_
        refine lv_iconst (v := nI 5) hx hb dX2_next_48 (by decide) ?_
        refine w_iremN hx hb (by omega) (by omega) (by omega) dX2_next_49 ?_
        refine lv_iconst (v := nI 4) hx hb dX2_next_50 (by decide) ?_
        refine w_icmp_geN (tgt := 60) hx hb (by omega) (by omega) dX2_next_51 (by decide) (fun c_5 => ?_) (fun c_5 => ?_)
        · refine lv_iconst (v := (-1 : Int32)) hx hb dX2_next_60 (by decide) ?_
          exact hret (by unfold oI nxt; grind) dX2_next_61
        · refine lv_iload_n hx hb dX2_next_54 rfl (lv_at hl 0 rfl) ?_
          refine lv_iconst (v := nI 1) hx hb dX2_next_55 (by decide) ?_
          refine w_iaddN hx hb dX2_next_56 ?_
          refine lv_goto (tgt := 61) hx hb dX2_next_57 (by decide) ?_
          exact hret (by unfold oI nxt; grind) dX2_next_61
      · skip
        by_cases c_6 : w = 3
        · refine lv_tableIn (off := 61) (tgt := 62) hx hb dX2_next_1 (by rw [c_6]; decide) (by rw [c_6]; decide) (by rw [c_6]; rfl) (by decide) ?_
          refine lv_iload_n hx hb dX2_next_62 rfl (lv_at hl 0 rfl) ?_
          refine lv_bipush (v := nI 20) hx hb dX2_next_63 (by decide) ?_
          refine w_icmp_geN (tgt := 74) hx hb (by omega) (by omega) dX2_next_65 (by decide) (fun c_7 => ?_) (fun c_7 => ?_)
          · refine lv_iconst (v := (-1 : Int32)) hx hb dX2_next_74 (by decide) ?_
            exact hret (by unfold oI nxt; grind) dX2_next_75
          · refine lv_iload_n hx hb dX2_next_68 rfl (lv_at hl 0 rfl) ?_
            refine lv_iconst (v := nI 5) hx hb dX2_next_69 (by decide) ?_
            refine w_iaddN hx hb dX2_next_70 ?_
            refine lv_goto (tgt := 75) hx hb dX2_next_71 (by decide) ?_
            exact hret (by unfold oI nxt; grind) dX2_next_75
        · skip
          refine lv_tableOut (tgt := 76) hx hb dX2_next_1 (w_tout 0 4 (by decide) (fun k hk => by intro q; have := (nI_eq (by omega) (by omega)).mp q; omega)) (by decide) ?_
          refine lv_iload_n hx hb dX2_next_76 rfl (lv_at hl 0 rfl) ?_
          refine lv_iconst (v := nI 5) hx hb dX2_next_77 (by decide) ?_
          refine w_iremN hx hb (by omega) (by omega) (by omega) dX2_next_78 ?_
          refine w_if_leN (tgt := 88) hx hb (by omega) dX2_next_79 (by decide) (fun c_8 => ?_) (fun c_8 => ?_)
          · refine lv_iconst (v := (-1 : Int32)) hx hb dX2_next_88 (by decide) ?_
            exact hret (by unfold oI nxt; grind) dX2_next_89
          · refine lv_iload_n hx hb dX2_next_82 rfl (lv_at hl 0 rfl) ?_
            refine lv_iconst (v := nI 1) hx hb dX2_next_83 (by decide) ?_
            refine w_isubN hx hb (by omega) dX2_next_84 ?_
            refine lv_goto (tgt := 89) hx hb dX2_next_85 (by decide) ?_
            exact hret (by unfold oI nxt; grind) dX2_next_89
set_option maxHeartbeats 400000 in
theorem cmX8_is (b : Prop) [Decidable b] : StF yX8_is cX8_is 1 (some .int) 0 0 [.int (iI b)] (some (.int (iI b))) := by
  refine StF.ofI (by decide) (own := RX8) rfl (Nat.le_of_ble_eq_true rfl) ?_
  intro p l e R s m args below meth c Q H locs ls hx hb hml hRf hRl hts hown hl hret
  have hl : lv_has ls 1 [(0, .int (iI b))] := hl
  refine lv_iload_n hx hb dX8_is_0 rfl (lv_at hl 0 rfl) ?_
  refine w_if_eqT (tgt := 8) hx hb dX8_is_1 (by decide) (fun c_1 => ?_) (fun c_1 => ?_)
  · refine lv_iconst (v := nI 0) hx hb dX8_is_8 (by decide) ?_
    exact hret ((iI_0 c_1).trans rfl) dX8_is_9
  · refine lv_iconst (v := nI 1) hx hb dX8_is_4 (by decide) ?_
    refine lv_goto (tgt := 9) hx hb dX8_is_5 (by decide) ?_
    exact hret ((iI_1 c_1).trans rfl) dX8_is_9
