/-! the model: small methods (printed by model1.py) -/
set_option maxRecDepth 100000
theorem ndX6_in : yX6_in.cls ≠ "java/lang/invoke/MethodHandle" ∧ yX6_in.cls ≠ "java/lang/invoke/VarHandle" ∧ (parseMethodDescriptor yX6_in.desc).map (fun d => d.parameters.length) = some 3 := by decide +kernel
set_option maxHeartbeats 400000 in
theorem met_in (v lo hi : Int32) : StF yX6_in cX6_in 3 (some .boolean) 0 0 [.int v, .int lo, .int hi] (some (.int (iI (lo ≤ v ∧ v ≤ hi)))) := by
  refine StF.ofZ (by decide) (own := RX6) rfl (Nat.le_of_ble_eq_true rfl) iI_n ?_
  intro p l e R s m args below meth c Q H locs ls hx hb hml hRf hRl hts hown hl hret
  have hl : lv_has ls 3 [(0, .int v), (1, .int lo), (2, .int hi)] := hl
  refine lv_iload_n hx hb dX6_in_0 rfl (lv_at hl 0 rfl) ?_
  refine lv_iload_n hx hb dX6_in_1 rfl (lv_at hl 1 rfl) ?_
  refine lv_icmp_lt (tgt := 14) hx hb dX6_in_2 (by decide) (fun c_1 => ?_) (fun c_1 => ?_)
  · refine lv_iconst (v := nI 0) hx hb dX6_in_14 (by decide) ?_
    exact hret (by first | rfl | (simp only [iI, nI_0, nI_one]; grind)) dX6_in_15
  · refine lv_iload_n hx hb dX6_in_5 rfl (lv_at hl 0 rfl) ?_
    refine lv_iload_n hx hb dX6_in_6 rfl (lv_at hl 2 rfl) ?_
    refine lv_icmp_gt (tgt := 14) hx hb dX6_in_7 (by decide) (fun c_2 => ?_) (fun c_2 => ?_)
    · refine lv_iconst (v := nI 0) hx hb dX6_in_14 (by decide) ?_
      exact hret (by first | rfl | (simp only [iI, nI_0, nI_one]; grind)) dX6_in_15
    · refine lv_iconst (v := nI 1) hx hb dX6_in_10 (by decide) ?_
      refine lv_goto (tgt := 15) hx hb dX6_in_11 (by decide) ?_
      exact hret (by first | rfl | (simp only [iI, nI_0, nI_one]; grind)) dX6_in_15
def hel (v lo hi : Int32) : Int32 := if v < lo then lo else if hi < v then hi else v
theorem ndX6_held : yX6_held.cls ≠ "java/lang/invoke/MethodHandle" ∧ yX6_held.cls ≠ "java/lang/invoke/VarHandle" ∧ (parseMethodDescriptor yX6_held.desc).map (fun d => d.parameters.length) = some 3 := by decide +kernel
set_option maxHeartbeats 400000 in
theorem met_held (v lo hi : Int32) : StF yX6_held cX6_held 3 (some .int) 0 0 [.int v, .int lo, .int hi] (some (.int (hel v lo hi))) := by
  refine StF.ofI (by decide) (own := RX6) rfl (Nat.le_of_ble_eq_true rfl) ?_
  intro p l e R s m args below meth c Q H locs ls hx hb hml hRf hRl hts hown hl hret
  have hl : lv_has ls 3 [(0, .int v), (1, .int lo), (2, .int hi)] := hl
  refine lv_iload_n hx hb dX6_held_0 rfl (lv_at hl 0 rfl) ?_
  refine lv_iload_n hx hb dX6_held_1 rfl (lv_at hl 1 rfl) ?_
  refine lv_icmp_ge (tgt := 9) hx hb dX6_held_2 (by decide) (fun c_1 => ?_) (fun c_1 => ?_)
  · refine lv_iload_n hx hb dX6_held_9 rfl (lv_at hl 0 rfl) ?_
    refine lv_iload_n hx hb dX6_held_10 rfl (lv_at hl 2 rfl) ?_
    refine lv_icmp_le (tgt := 18) hx hb dX6_held_11 (by decide) (fun c_2 => ?_) (fun c_2 => ?_)
    · refine lv_iload_n hx hb dX6_held_18 rfl (lv_at hl 0 rfl) ?_
      exact hret (by unfold hel; grind) dX6_held_19
    · refine lv_iload_n hx hb dX6_held_14 rfl (lv_at hl 2 rfl) ?_
      refine lv_goto (tgt := 19) hx hb dX6_held_15 (by decide) ?_
      exact hret (by unfold hel; grind) dX6_held_19
  · refine lv_iload_n hx hb dX6_held_5 rfl (lv_at hl 1 rfl) ?_
    refine lv_goto (tgt := 19) hx hb dX6_held_6 (by decide) ?_
    exact hret (by unfold hel; grind) dX6_held_19
theorem ndX6_isCell : yX6_isCell.cls ≠ "java/lang/invoke/MethodHandle" ∧ yX6_isCell.cls ≠ "java/lang/invoke/VarHandle" ∧ (parseMethodDescriptor yX6_isCell.desc).map (fun d => d.parameters.length) = some 1 := by decide +kernel
set_option maxHeartbeats 400000 in
theorem met_isCell (v : Int32) : StF yX6_isCell cX6_isCell 1 (some .boolean) 1 22 [.int v] (some (.int (iI (nI 0 ≤ v ∧ v ≤ nI 24)))) := by
  refine StF.ofZ (by decide) (own := RX6) rfl (Nat.le_of_ble_eq_true rfl) iI_n ?_
  intro p l e R s m args below meth c Q H locs ls hx hb hml hRf hRl hts hown hl hret
  have hl : lv_has ls 1 [(0, .int v)] := hl
  refine lv_iload_n hx hb dX6_isCell_0 rfl (lv_at hl 0 rfl) ?_
  refine lv_iconst (v := nI 0) hx hb dX6_isCell_1 (by decide) ?_
  refine lv_bipush (v := nI 24) hx hb dX6_isCell_2 (by decide) ?_
  refine st_callI (y := yX6_in) hx hb hml hown hts (met_in v (nI 0) (nI 24)) q1482 q1483 q70 q1484 ndX6_in rfl (by rw [hRf]; decide) (by rw [hRl]; decide) ⟨Nat.zero_le _, Nat.zero_le _⟩ hl.1 rfl (Nat.le_of_ble_eq_true rfl) dX6_isCell_4 ?_
  exact hret (by first | rfl | (simp only [iI, nI_0, nI_one]; grind)) dX6_isCell_7
theorem ndX6_isDigit : yX6_isDigit.cls ≠ "java/lang/invoke/MethodHandle" ∧ yX6_isDigit.cls ≠ "java/lang/invoke/VarHandle" ∧ (parseMethodDescriptor yX6_isDigit.desc).map (fun d => d.parameters.length) = some 1 := by decide +kernel
set_option maxHeartbeats 400000 in
theorem met_isDigit (v : Int32) : StF yX6_isDigit cX6_isDigit 1 (some .boolean) 1 22 [.int v] (some (.int (iI (nI 48 ≤ v ∧ v ≤ nI 57)))) := by
  refine StF.ofZ (by decide) (own := RX6) rfl (Nat.le_of_ble_eq_true rfl) iI_n ?_
  intro p l e R s m args below meth c Q H locs ls hx hb hml hRf hRl hts hown hl hret
  have hl : lv_has ls 1 [(0, .int v)] := hl
  refine lv_iload_n hx hb dX6_isDigit_0 rfl (lv_at hl 0 rfl) ?_
  refine lv_bipush (v := nI 48) hx hb dX6_isDigit_1 (by decide) ?_
  refine lv_bipush (v := nI 57) hx hb dX6_isDigit_3 (by decide) ?_
  refine st_callI (y := yX6_in) hx hb hml hown hts (met_in v (nI 48) (nI 57)) q1482 q1483 q70 q1484 ndX6_in rfl (by rw [hRf]; decide) (by rw [hRl]; decide) ⟨Nat.zero_le _, Nat.zero_le _⟩ hl.1 rfl (Nat.le_of_ble_eq_true rfl) dX6_isDigit_5 ?_
  exact hret (by first | rfl | (simp only [iI, nI_0, nI_one]; grind)) dX6_isDigit_8
theorem ndX6_isSheet : yX6_isSheet.cls ≠ "java/lang/invoke/MethodHandle" ∧ yX6_isSheet.cls ≠ "java/lang/invoke/VarHandle" ∧ (parseMethodDescriptor yX6_isSheet.desc).map (fun d => d.parameters.length) = some 1 := by decide +kernel
set_option maxHeartbeats 400000 in
theorem met_isSheet (v : Int32) : StF yX6_isSheet cX6_isSheet 1 (some .boolean) 1 22 [.int v] (some (.int (iI (nI 0 ≤ v ∧ v ≤ nI 3)))) := by
  refine StF.ofZ (by decide) (own := RX6) rfl (Nat.le_of_ble_eq_true rfl) iI_n ?_
  intro p l e R s m args below meth c Q H locs ls hx hb hml hRf hRl hts hown hl hret
  have hl : lv_has ls 1 [(0, .int v)] := hl
  refine lv_iload_n hx hb dX6_isSheet_0 rfl (lv_at hl 0 rfl) ?_
  refine lv_iconst (v := nI 0) hx hb dX6_isSheet_1 (by decide) ?_
  refine lv_iconst (v := nI 3) hx hb dX6_isSheet_2 (by decide) ?_
  refine st_callI (y := yX6_in) hx hb hml hown hts (met_in v (nI 0) (nI 3)) q1482 q1483 q70 q1484 ndX6_in rfl (by rw [hRf]; decide) (by rw [hRl]; decide) ⟨Nat.zero_le _, Nat.zero_le _⟩ hl.1 rfl (Nat.le_of_ble_eq_true rfl) dX6_isSheet_3 ?_
  exact hret (by first | rfl | (simp only [iI, nI_0, nI_one]; grind)) dX6_isSheet_6
/-- the errors, one more of k -/
def mErr (a : Nat → Nat → Int32) (k : Nat) : Nat → Nat → Int32 := va_up a 5 (upd (a 5) k (a 5 k + nI 1))
theorem ndX6_errs : yX6_errs.cls = RX6 ∧ yX6_errs.cls ≠ "java/lang/invoke/MethodHandle" ∧ yX6_errs.cls ≠ "java/lang/invoke/VarHandle" ∧ (parseMethodDescriptor yX6_errs.desc).map (fun d => d.parameters.length) = some 1 := by decide +kernel
set_option maxHeartbeats 400000 in
theorem met_errs (f : Nat → Int32) (a : Nat → Nat → Int32) (e0 : Int32) (n : Nat) (hn : n < 6) (he : (-1000000000 : Int32) - e0 = nI n) : MdF yX6_errs cX6_errs 2 (some .int) 0 0 [.int e0] f a (some (.int e0)) f (mErr a n) := by
  refine MdF.ofI (by decide) rfl (Nat.le_of_ble_eq_true rfl) ?_
  intro p l e R s m args below meth c Q D h dA ls hx hb hml hRf hRl hts hown hK hI hM hl hret
  have hl : lv_has ls 2 [(0, .ref (h 0)), (1, .int e0)] := hl
  refine lv_aload_n hx hb dX6_errs_0 rfl (lv_at hl 0 rfl) ?_
  refine md_get (v := .ref (h 5)) hx hb hts hown hK hM 6 (by decide) q1396 rfl rfl dX6_errs_1 ?_
  refine lv_ldc hx hb hown (hts _ q1490) dX6_errs_4 ?_
  refine lv_iload_n hx hb dX6_errs_6 rfl (lv_at hl 1 rfl) ?_
  refine lv_isub hx hb dX6_errs_7 ?_
  refine w_top (nI n) (he) ?_
  refine lv_dup2_11 hx hb dX6_errs_8 rfl rfl ?_
  refine md_iald hx hb hK hM 5 rfl n ⟨by omega, by decide, rfl⟩ dX6_errs_9 ?_
  refine lv_iconst (v := nI 1) hx hb dX6_errs_10 (by decide) ?_
  refine lv_iadd hx hb dX6_errs_11 ?_
  refine md_iast hx hb hK hI hM 5 rfl n ⟨by omega, by decide, rfl⟩ rfl dX6_errs_12 (fun H locs hM => ?_)
  refine lv_iload_n hx hb dX6_errs_13 rfl (lv_at hl 1 rfl) ?_
  exact hret hM (by first | rfl | (simp only [iI, nI_0, nI_one]; grind)) dX6_errs_14
theorem ndX6_its : yX6_its.cls = RX6 ∧ yX6_its.cls ≠ "java/lang/invoke/MethodHandle" ∧ yX6_its.cls ≠ "java/lang/invoke/VarHandle" ∧ (parseMethodDescriptor yX6_its.desc).map (fun d => d.parameters.length) = some 2 := by decide +kernel
set_option maxHeartbeats 400000 in
theorem met_its (f : Nat → Int32) (a : Nat → Nat → Int32) (i w : Nat) (hw : 58 + 14 * i + w < 298) : MdF yX6_its cX6_its 3 (some .int) 0 0 [.int (nI i), .int (nI w)] f a (some (.int (a 1 (58 + 14 * i + w)))) f a := by
  refine MdF.ofI (by decide) rfl (Nat.le_of_ble_eq_true rfl) ?_
  intro p l e R s m args below meth c Q D h dA ls hx hb hml hRf hRl hts hown hK hI hM hl hret
  have hl : lv_has ls 3 [(0, .ref (h 0)), (1, .int (nI i)), (2, .int (nI w))] := hl
  refine lv_aload_n hx hb dX6_its_0 rfl (lv_at hl 0 rfl) ?_
  refine md_get (v := .ref (h 1)) hx hb hts hown hK hM 0 (by decide) q1390 rfl rfl dX6_its_1 ?_
  refine lv_bipush (v := nI 58) hx hb dX6_its_4 (by decide) ?_
  refine lv_bipush (v := nI 14) hx hb dX6_its_6 (by decide) ?_
  refine lv_iload_n hx hb dX6_its_8 rfl (lv_at hl 1 rfl) ?_
  refine w_imulN hx hb dX6_its_9 ?_
  refine w_iaddN hx hb dX6_its_10 ?_
  refine lv_iload_n hx hb dX6_its_11 rfl (lv_at hl 2 rfl) ?_
  refine w_iaddN hx hb dX6_its_12 ?_
  refine md_iald hx hb hK hM 1 rfl ((58 + (14 * i)) + w) ⟨by omega, by decide, rfl⟩ dX6_its_13 ?_
  exact hret hM (by first | rfl | (simp only [iI, nI_0, nI_one]; grind)) dX6_its_14
/-- of the row: what is put -/
def mPut (a : Nat → Nat → Int32) (k : Nat) (x : Int32) : Nat → Nat → Int32 := va_up a 1 (upd (a 1) k x)
theorem ndX6_puts : yX6_puts.cls = RX6 ∧ yX6_puts.cls ≠ "java/lang/invoke/MethodHandle" ∧ yX6_puts.cls ≠ "java/lang/invoke/VarHandle" ∧ (parseMethodDescriptor yX6_puts.desc).map (fun d => d.parameters.length) = some 3 := by decide +kernel
set_option maxHeartbeats 400000 in
theorem met_puts (f : Nat → Int32) (a : Nat → Nat → Int32) (i w : Nat) (x : Int32) (hw : 58 + 14 * i + w < 298) : MdF yX6_puts cX6_puts 4 none 0 0 [.int (nI i), .int (nI w), .int x] f a none f (mPut a (58 + 14 * i + w) x) := by
  refine MdF.ofV (by decide) rfl (Nat.le_of_ble_eq_true rfl) ?_
  intro p l e R s m args below meth c Q D h dA ls hx hb hml hRf hRl hts hown hK hI hM hl hret
  have hl : lv_has ls 4 [(0, .ref (h 0)), (1, .int (nI i)), (2, .int (nI w)), (3, .int x)] := hl
  refine lv_aload_n hx hb dX6_puts_0 rfl (lv_at hl 0 rfl) ?_
  refine md_get (v := .ref (h 1)) hx hb hts hown hK hM 0 (by decide) q1390 rfl rfl dX6_puts_1 ?_
  refine lv_bipush (v := nI 58) hx hb dX6_puts_4 (by decide) ?_
  refine lv_bipush (v := nI 14) hx hb dX6_puts_6 (by decide) ?_
  refine lv_iload_n hx hb dX6_puts_8 rfl (lv_at hl 1 rfl) ?_
  refine w_imulN hx hb dX6_puts_9 ?_
  refine w_iaddN hx hb dX6_puts_10 ?_
  refine lv_iload_n hx hb dX6_puts_11 rfl (lv_at hl 2 rfl) ?_
  refine w_iaddN hx hb dX6_puts_12 ?_
  refine lv_iload_n hx hb dX6_puts_13 rfl (lv_at hl 3 rfl) ?_
  refine md_iast hx hb hK hI hM 1 rfl ((58 + (14 * i)) + w) ⟨by omega, by decide, rfl⟩ rfl dX6_puts_14 (fun H locs hM => ?_)
  exact hret hM dX6_puts_15
theorem ndX6_isCow : yX6_isCow.cls = RX6 ∧ yX6_isCow.cls ≠ "java/lang/invoke/MethodHandle" ∧ yX6_isCow.cls ≠ "java/lang/invoke/VarHandle" ∧ (parseMethodDescriptor yX6_isCow.desc).map (fun d => d.parameters.length) = some 1 := by decide +kernel
set_option maxHeartbeats 400000 in
theorem met_isCow (f : Nat → Int32) (a : Nat → Nat → Int32) (v : Int32) : MdF yX6_isCow cX6_isCow 2 (some .boolean) 1 22 [.int v] f a (some (.int (iI (nI 0 ≤ v ∧ v ≤ (a 1 3) - nI 1)))) f a := by
  refine MdF.ofZ (by decide) rfl (Nat.le_of_ble_eq_true rfl) iI_n ?_
  intro p l e R s m args below meth c Q D h dA ls hx hb hml hRf hRl hts hown hK hI hM hl hret
  have hl : lv_has ls 2 [(0, .ref (h 0)), (1, .int v)] := hl
  refine lv_iload_n hx hb dX6_isCow_0 rfl (lv_at hl 1 rfl) ?_
  refine lv_iconst (v := nI 0) hx hb dX6_isCow_1 (by decide) ?_
  refine lv_aload_n hx hb dX6_isCow_2 rfl (lv_at hl 0 rfl) ?_
  refine md_get (v := .ref (h 1)) hx hb hts hown hK hM 0 (by decide) q1390 rfl rfl dX6_isCow_3 ?_
  refine lv_iconst (v := nI 3) hx hb dX6_isCow_6 (by decide) ?_
  refine md_iald hx hb hK hM 1 rfl 3 ⟨by omega, by decide, rfl⟩ dX6_isCow_7 ?_
  refine lv_iconst (v := nI 1) hx hb dX6_isCow_8 (by decide) ?_
  refine lv_isub hx hb dX6_isCow_9 ?_
  refine st_callI (y := yX6_in) hx hb hml hown hts (met_in v (nI 0) ((a 1 3) - (nI 1))) q1482 q1483 q70 q1484 ndX6_in rfl (by rw [hRf]; decide) (by rw [hRl]; decide) ⟨Nat.zero_le _, Nat.zero_le _⟩ hl.1 rfl (Nat.le_of_ble_eq_true rfl) dX6_isCow_10 ?_
  exact hret hM (by first | rfl | (simp only [iI, nI_0, nI_one]; grind)) dX6_isCow_13
