/-! the model: voices (printed by model20.py) -/
set_option maxRecDepth 100000
theorem ndX6_wantsIn : yX6_wantsIn.cls = RX6 ∧ yX6_wantsIn.cls ≠ "java/lang/invoke/MethodHandle" ∧ yX6_wantsIn.cls ≠ "java/lang/invoke/VarHandle" ∧ (parseMethodDescriptor yX6_wantsIn.desc).map (fun d => d.parameters.length) = some 2 := by decide +kernel
theorem ndX6_knowsIn : yX6_knowsIn.cls = RX6 ∧ yX6_knowsIn.cls ≠ "java/lang/invoke/MethodHandle" ∧ yX6_knowsIn.cls ≠ "java/lang/invoke/VarHandle" ∧ (parseMethodDescriptor yX6_knowsIn.desc).map (fun d => d.parameters.length) = some 2 := by decide +kernel
theorem ndX6_eatsIn : yX6_eatsIn.cls = RX6 ∧ yX6_eatsIn.cls ≠ "java/lang/invoke/MethodHandle" ∧ yX6_eatsIn.cls ≠ "java/lang/invoke/VarHandle" ∧ (parseMethodDescriptor yX6_eatsIn.desc).map (fun d => d.parameters.length) = some 2 := by decide +kernel
theorem ndX6_tellsIn : yX6_tellsIn.cls = RX6 ∧ yX6_tellsIn.cls ≠ "java/lang/invoke/MethodHandle" ∧ yX6_tellsIn.cls ≠ "java/lang/invoke/VarHandle" ∧ (parseMethodDescriptor yX6_tellsIn.desc).map (fun d => d.parameters.length) = some 2 := by decide +kernel
/-- bodies' numbers written from t on -/
def trW (T : Nat → Int32) (t : Nat) : List Nat → Nat → Int32
  | [] => T
  | b :: l => trW (upd T t (nI b)) (t + 1) l
theorem ran_f (F : Nat → Int32) (x y : Int32) : upd (upd F 24 x) 24 y = upd F 24 y := by
  funext k; simp only [upd]; grind
theorem ndX6_ran : yX6_ran.cls = RX6 ∧ yX6_ran.cls ≠ "java/lang/invoke/MethodHandle" ∧ yX6_ran.cls ≠ "java/lang/invoke/VarHandle" ∧ (parseMethodDescriptor yX6_ran.desc).map (fun d => d.parameters.length) = some 1 := by decide +kernel
set_option maxHeartbeats 400000 in
theorem met_ran (F : Nat → Int32) (A : Nat → Nat → Int32) (T : Nat → Int32) (t : Nat) (b : Nat) (ht : t < 40) : MdF yX6_ran cX6_ran 2 none 0 0 [.int (nI b)] (upd F 24 (nI t)) (va_up A 14 T) none (upd F 24 (nI (t + 1))) (va_up A 14 (upd T t (nI b))) := by
  refine MdF.ofV (by decide) rfl (Nat.le_of_ble_eq_true rfl) ?_
  intro p l e R s m args below meth c Q D h dA ls hx hb hml hRf hRl hts hown hK hI hM hl hret
  have hl : lv_has ls 2 [(0, .ref (h 0)), (1, .int (nI b))] := hl
  refine lv_aload_n hx hb dX6_ran_0 rfl (lv_at hl 0 rfl) ?_
  refine md_get (v := .int (nI t)) hx hb hts hown hK hM 24 (by decide) q1414 rfl rfl dX6_ran_1 ?_
  refine lv_bipush (v := nI 40) hx hb dX6_ran_4 (by decide) ?_
  refine w_icmp_geN (tgt := 29) hx hb (by omega) (by omega) dX6_ran_6 (by decide) (fun c_1 => ?_) (fun c_1 => ?_)
  · exact absurd c_1 (by omega)
  · refine lv_aload_n hx hb dX6_ran_9 rfl (lv_at hl 0 rfl) ?_
    refine md_get (v := .ref (h 14)) hx hb hts hown hK hM 23 (by decide) q1413 rfl rfl dX6_ran_10 ?_
    refine lv_aload_n hx hb dX6_ran_13 rfl (lv_at hl 0 rfl) ?_
    refine md_get (v := .int (nI t)) hx hb hts hown hK hM 24 (by decide) q1414 rfl rfl dX6_ran_14 ?_
    refine lv_iload_n hx hb dX6_ran_17 rfl (lv_at hl 1 rfl) ?_
    refine md_iast hx hb hK hI hM 14 rfl t ⟨by omega, by decide, rfl⟩ rfl dX6_ran_18 (fun H locs hM => ?_)
    have hM := hM.to (a' := va_up A 14 (upd T t (nI b))) rfl (by rw [va_uu, va_us])
    refine lv_aload_n hx hb dX6_ran_19 rfl (lv_at hl 0 rfl) ?_
    refine lv_dup hx hb dX6_ran_20 rfl ?_
    refine md_get (v := .int (nI t)) hx hb hts hown hK hM 24 (by decide) q1414 rfl rfl dX6_ran_21 ?_
    refine lv_iconst (v := nI 1) hx hb dX6_ran_24 (by decide) ?_
    refine w_iaddN hx hb dX6_ran_25 ?_
    refine md_put hx hb hts hown hK hI hM 24 (by decide) q1414 rfl rfl rfl rfl rfl dX6_ran_26 (fun H locs hM => ?_)
    have hM := hM.to (f' := upd F 24 (nI (t + 1))) (ran_f _ _ _) rfl
    exact hret hM dX6_ran_29
set_option maxHeartbeats 400000 in
theorem met_wantsIn_0_0 (F : Nat → Int32) (A : Nat → Nat → Int32) (T : Nat → Int32) (t : Nat) (hVK : F 25 = nI 0) (x : Int32) (ht : t + 1 ≤ 40) : MdF yX6_wantsIn cX6_wantsIn 3 (some .int) 1 21 [.int (nI 0), .int x] (upd F 24 (nI t)) (va_up A 14 T) (some (.int (x + (F 26)))) (upd F 24 (nI (t + 1))) (va_up A 14 (upd T t (nI 10))) := by
  refine MdF.ofI (by decide) rfl (Nat.le_of_ble_eq_true rfl) ?_
  intro p l e R s m args below meth c Q D h dA ls hx hb hml hRf hRl hts hown hK hI hM hl hret
  have hl : lv_has ls 3 [(0, .ref (h 0)), (1, .int (nI 0)), (2, .int x)] := hl
  refine lv_iload_n hx hb dX6_wantsIn_0 rfl (lv_at hl 1 rfl) ?_
  refine lv_if_ne (tgt := 17) hx hb dX6_wantsIn_1 (by decide) (fun q => absurd q (by decide)) (fun _ => ?_)
  refine lv_aload_n hx hb dX6_wantsIn_4 rfl (lv_at hl 0 rfl) ?_
  refine lv_bipush (v := nI 10) hx hb dX6_wantsIn_5 (by decide) ?_
  refine md_callV (y := yX6_ran) hx hb hml hown hts hK hI hM (met_ran F A T t 10 (by omega)) q1761 q1763 qs56 q1764 ndX6_ran rfl (by rw [hRf]; decide) (by rw [hRl]; decide) hl.1 rfl (Nat.le_of_ble_eq_true rfl) dX6_wantsIn_7 (fun H locs hM => ?_)
  refine lv_iload_n hx hb dX6_wantsIn_10 rfl (lv_at hl 2 rfl) ?_
  refine lv_aload_n hx hb dX6_wantsIn_11 rfl (lv_at hl 0 rfl) ?_
  refine md_get (v := .int (F 26)) hx hb hts hown hK hM 26 (by decide) q1416 rfl rfl dX6_wantsIn_12 ?_
  refine lv_iadd hx hb dX6_wantsIn_15 ?_
  exact hret hM (rfl) dX6_wantsIn_16
set_option maxHeartbeats 400000 in
theorem met_knowsIn_0_0 (F : Nat → Int32) (A : Nat → Nat → Int32) (T : Nat → Int32) (t : Nat) (hVK : F 25 = nI 0) (x : Int32) (ht : t + 1 ≤ 40) : MdF yX6_knowsIn cX6_knowsIn 3 (some .int) 1 21 [.int (nI 0), .int x] (upd F 24 (nI t)) (va_up A 14 T) (some (.int (x - (F 27)))) (upd F 24 (nI (t + 1))) (va_up A 14 (upd T t (nI 12))) := by
  refine MdF.ofI (by decide) rfl (Nat.le_of_ble_eq_true rfl) ?_
  intro p l e R s m args below meth c Q D h dA ls hx hb hml hRf hRl hts hown hK hI hM hl hret
  have hl : lv_has ls 3 [(0, .ref (h 0)), (1, .int (nI 0)), (2, .int x)] := hl
  refine lv_iload_n hx hb dX6_knowsIn_0 rfl (lv_at hl 1 rfl) ?_
  refine lv_if_ne (tgt := 17) hx hb dX6_knowsIn_1 (by decide) (fun q => absurd q (by decide)) (fun _ => ?_)
  refine lv_aload_n hx hb dX6_knowsIn_4 rfl (lv_at hl 0 rfl) ?_
  refine lv_bipush (v := nI 12) hx hb dX6_knowsIn_5 (by decide) ?_
  refine md_callV (y := yX6_ran) hx hb hml hown hts hK hI hM (met_ran F A T t 12 (by omega)) q1761 q1763 qs56 q1764 ndX6_ran rfl (by rw [hRf]; decide) (by rw [hRl]; decide) hl.1 rfl (Nat.le_of_ble_eq_true rfl) dX6_knowsIn_7 (fun H locs hM => ?_)
  refine lv_iload_n hx hb dX6_knowsIn_10 rfl (lv_at hl 2 rfl) ?_
  refine lv_aload_n hx hb dX6_knowsIn_11 rfl (lv_at hl 0 rfl) ?_
  refine md_get (v := .int (F 27)) hx hb hts hown hK hM 27 (by decide) q1417 rfl rfl dX6_knowsIn_12 ?_
  refine lv_isub hx hb dX6_knowsIn_15 ?_
  exact hret hM (rfl) dX6_knowsIn_16
set_option maxHeartbeats 400000 in
theorem met_eatsIn_0_0 (F : Nat → Int32) (A : Nat → Nat → Int32) (T : Nat → Int32) (t : Nat) (hVK : F 25 = nI 0) (x : Int32) (ht : t + 2 ≤ 40) : MdF yX6_eatsIn cX6_eatsIn 4 (some .int) 2 43 [.int (nI 0), .int x] (upd F 24 (nI t)) (va_up A 14 T) (some (.int ((x + (F 26)) * (nI 2)))) (upd F 24 (nI (t + 1 + 1))) (va_up A 14 (upd (upd T t (nI 11)) (t + 1) (nI 10))) := by
  refine MdF.ofI (by decide) rfl (Nat.le_of_ble_eq_true rfl) ?_
  intro p l e R s m args below meth c Q D h dA ls hx hb hml hRf hRl hts hown hK hI hM hl hret
  have hl : lv_has ls 4 [(0, .ref (h 0)), (1, .int (nI 0)), (2, .int x)] := hl
  refine lv_iload_n hx hb dX6_eatsIn_0 rfl (lv_at hl 1 rfl) ?_
  refine lv_if_ne (tgt := 22) hx hb dX6_eatsIn_1 (by decide) (fun q => absurd q (by decide)) (fun _ => ?_)
  refine lv_aload_n hx hb dX6_eatsIn_4 rfl (lv_at hl 0 rfl) ?_
  refine lv_bipush (v := nI 11) hx hb dX6_eatsIn_5 (by decide) ?_
  refine md_callV (y := yX6_ran) hx hb hml hown hts hK hI hM (met_ran F A T t 11 (by omega)) q1761 q1763 qs56 q1764 ndX6_ran rfl (by rw [hRf]; decide) (by rw [hRl]; decide) hl.1 rfl (Nat.le_of_ble_eq_true rfl) dX6_eatsIn_7 (fun H locs hM => ?_)
  refine lv_aload_n hx hb dX6_eatsIn_10 rfl (lv_at hl 0 rfl) ?_
  refine lv_aload_n hx hb dX6_eatsIn_11 rfl (lv_at hl 0 rfl) ?_
  refine md_get (v := .int (F 25)) hx hb hts hown hK hM 25 (by decide) q1415 rfl rfl dX6_eatsIn_12 ?_
  refine w_top (nI 0) (hVK) ?_
  refine lv_iload_n hx hb dX6_eatsIn_15 rfl (lv_at hl 2 rfl) ?_
  refine md_callI (y := yX6_wantsIn) hx hb hml hown hts hK hI hM (met_wantsIn_0_0 F A (upd T t (nI 11)) (t + 1) hVK x (by omega)) q1757 q1759 qs55 q1760 ndX6_wantsIn rfl (by rw [hRf]; decide) (by rw [hRl]; decide) hl.1 rfl (Nat.le_of_ble_eq_true rfl) dX6_eatsIn_16 (fun H locs hM => ?_)
  refine lv_iconst (v := nI 2) hx hb dX6_eatsIn_19 (by decide) ?_
  refine lv_imul hx hb dX6_eatsIn_20 ?_
  exact hret hM (rfl) dX6_eatsIn_21
set_option maxHeartbeats 400000 in
theorem met_tellsIn_0_0 (F : Nat → Int32) (A : Nat → Nat → Int32) (T : Nat → Int32) (t : Nat) (hVK : F 25 = nI 0) (x : Int32) (ht : t + 4 ≤ 40) : MdF yX6_tellsIn cX6_tellsIn 4 (some .int) 3 66 [.int (nI 0), .int x] (upd F 24 (nI t)) (va_up A 14 T) (some (.int (((x + (F 26)) * (nI 2)) ^^^ (x - (F 27))))) (upd F 24 (nI (t + 1 + 1 + 1 + 1))) (va_up A 14 (upd (upd (upd (upd T t (nI 13)) (t + 1) (nI 11)) (t + 1 + 1) (nI 10)) (t + 1 + 1 + 1) (nI 12))) := by
  refine MdF.ofI (by decide) rfl (Nat.le_of_ble_eq_true rfl) ?_
  intro p l e R s m args below meth c Q D h dA ls hx hb hml hRf hRl hts hown hK hI hM hl hret
  have hl : lv_has ls 4 [(0, .ref (h 0)), (1, .int (nI 0)), (2, .int x)] := hl
  refine lv_iload_n hx hb dX6_tellsIn_0 rfl (lv_at hl 1 rfl) ?_
  refine lv_if_ne (tgt := 32) hx hb dX6_tellsIn_1 (by decide) (fun q => absurd q (by decide)) (fun _ => ?_)
  refine lv_aload_n hx hb dX6_tellsIn_4 rfl (lv_at hl 0 rfl) ?_
  refine lv_bipush (v := nI 13) hx hb dX6_tellsIn_5 (by decide) ?_
  refine md_callV (y := yX6_ran) hx hb hml hown hts hK hI hM (met_ran F A T t 13 (by omega)) q1761 q1763 qs56 q1764 ndX6_ran rfl (by rw [hRf]; decide) (by rw [hRl]; decide) hl.1 rfl (Nat.le_of_ble_eq_true rfl) dX6_tellsIn_7 (fun H locs hM => ?_)
  refine lv_aload_n hx hb dX6_tellsIn_10 rfl (lv_at hl 0 rfl) ?_
  refine lv_aload_n hx hb dX6_tellsIn_11 rfl (lv_at hl 0 rfl) ?_
  refine md_get (v := .int (F 25)) hx hb hts hown hK hM 25 (by decide) q1415 rfl rfl dX6_tellsIn_12 ?_
  refine w_top (nI 0) (hVK) ?_
  refine lv_iload_n hx hb dX6_tellsIn_15 rfl (lv_at hl 2 rfl) ?_
  refine md_callI (y := yX6_eatsIn) hx hb hml hown hts hK hI hM (met_eatsIn_0_0 F A (upd T t (nI 13)) (t + 1) hVK x (by omega)) q1765 q1767 qs57 q1768 ndX6_eatsIn rfl (by rw [hRf]; decide) (by rw [hRl]; decide) hl.1 rfl (Nat.le_of_ble_eq_true rfl) dX6_tellsIn_16 (fun H locs hM => ?_)
  refine lv_istore_n (lv' := [(3, .int ((x + (F 26)) * (nI 2))), (0, .ref (h 0)), (1, .int (nI 0)), (2, .int x)]) hx hb dX6_tellsIn_19 rfl hl (by decide) rfl (fun ls hl => ?_)
  refine lv_iload_n hx hb dX6_tellsIn_20 rfl (lv_at hl 0 rfl) ?_
  refine lv_aload_n hx hb dX6_tellsIn_21 rfl (lv_at hl 1 rfl) ?_
  refine lv_aload_n hx hb dX6_tellsIn_22 rfl (lv_at hl 1 rfl) ?_
  refine md_get (v := .int (F 25)) hx hb hts hown hK hM 25 (by decide) q1415 rfl rfl dX6_tellsIn_23 ?_
  refine w_top (nI 0) (hVK) ?_
  refine lv_iload_n hx hb dX6_tellsIn_26 rfl (lv_at hl 3 rfl) ?_
  refine md_callI (y := yX6_knowsIn) hx hb hml hown hts hK hI hM (met_knowsIn_0_0 F A (upd (upd (upd T t (nI 13)) (t + 1) (nI 11)) (t + 1 + 1) (nI 10)) (t + 1 + 1 + 1) hVK x (by omega)) q1769 q1771 qs58 q1772 ndX6_knowsIn rfl (by rw [hRf]; decide) (by rw [hRl]; decide) hl.1 rfl (Nat.le_of_ble_eq_true rfl) dX6_tellsIn_27 (fun H locs hM => ?_)
  refine lv_ixor hx hb dX6_tellsIn_30 ?_
  exact hret hM (rfl) dX6_tellsIn_31
set_option maxHeartbeats 400000 in
theorem met_wantsIn_0_1 (F : Nat → Int32) (A : Nat → Nat → Int32) (T : Nat → Int32) (t : Nat) (hVK : F 25 = nI 1) (x : Int32) (ht : t + 1 ≤ 40) : MdF yX6_wantsIn cX6_wantsIn 3 (some .int) 1 21 [.int (nI 0), .int x] (upd F 24 (nI t)) (va_up A 14 T) (some (.int (x + (F 26)))) (upd F 24 (nI (t + 1))) (va_up A 14 (upd T t (nI 10))) := by
  refine MdF.ofI (by decide) rfl (Nat.le_of_ble_eq_true rfl) ?_
  intro p l e R s m args below meth c Q D h dA ls hx hb hml hRf hRl hts hown hK hI hM hl hret
  have hl : lv_has ls 3 [(0, .ref (h 0)), (1, .int (nI 0)), (2, .int x)] := hl
  refine lv_iload_n hx hb dX6_wantsIn_0 rfl (lv_at hl 1 rfl) ?_
  refine lv_if_ne (tgt := 17) hx hb dX6_wantsIn_1 (by decide) (fun q => absurd q (by decide)) (fun _ => ?_)
  refine lv_aload_n hx hb dX6_wantsIn_4 rfl (lv_at hl 0 rfl) ?_
  refine lv_bipush (v := nI 10) hx hb dX6_wantsIn_5 (by decide) ?_
  refine md_callV (y := yX6_ran) hx hb hml hown hts hK hI hM (met_ran F A T t 10 (by omega)) q1761 q1763 qs56 q1764 ndX6_ran rfl (by rw [hRf]; decide) (by rw [hRl]; decide) hl.1 rfl (Nat.le_of_ble_eq_true rfl) dX6_wantsIn_7 (fun H locs hM => ?_)
  refine lv_iload_n hx hb dX6_wantsIn_10 rfl (lv_at hl 2 rfl) ?_
  refine lv_aload_n hx hb dX6_wantsIn_11 rfl (lv_at hl 0 rfl) ?_
  refine md_get (v := .int (F 26)) hx hb hts hown hK hM 26 (by decide) q1416 rfl rfl dX6_wantsIn_12 ?_
  refine lv_iadd hx hb dX6_wantsIn_15 ?_
  exact hret hM (rfl) dX6_wantsIn_16
set_option maxHeartbeats 400000 in
theorem met_wantsIn_1_1 (F : Nat → Int32) (A : Nat → Nat → Int32) (T : Nat → Int32) (t : Nat) (hVK : F 25 = nI 1) (x : Int32) (ht : t + 1 ≤ 40) : MdF yX6_wantsIn cX6_wantsIn 3 (some .int) 2 43 [.int (nI 1), .int x] (upd F 24 (nI t)) (va_up A 14 T) (some (.int (x + (F 26)))) (upd F 24 (nI (t + 1))) (va_up A 14 (upd T t (nI 10))) := by
  refine MdF.ofI (by decide) rfl (Nat.le_of_ble_eq_true rfl) ?_
  intro p l e R s m args below meth c Q D h dA ls hx hb hml hRf hRl hts hown hK hI hM hl hret
  have hl : lv_has ls 3 [(0, .ref (h 0)), (1, .int (nI 1)), (2, .int x)] := hl
  refine lv_iload_n hx hb dX6_wantsIn_0 rfl (lv_at hl 1 rfl) ?_
  refine lv_if_ne (tgt := 17) hx hb dX6_wantsIn_1 (by decide) (fun _ => ?_) (fun q => absurd q (by decide))
  refine lv_iload_n hx hb dX6_wantsIn_17 rfl (lv_at hl 1 rfl) ?_
  refine lv_iconst (v := nI 2) hx hb dX6_wantsIn_18 (by decide) ?_
  refine lv_icmp_ne (tgt := 37) hx hb dX6_wantsIn_19 (by decide) (fun _ => ?_) (fun q => absurd q (by decide))
  refine lv_aload_n hx hb dX6_wantsIn_37 rfl (lv_at hl 0 rfl) ?_
  refine lv_iload_n hx hb dX6_wantsIn_38 rfl (lv_at hl 1 rfl) ?_
  refine st_callI (y := yX6_above) hx hb hml hown hts (met_above (nI 1)) q1614 q1615 q70 q1616 ndX6_above rfl (by rw [hRf]; decide) (by rw [hRl]; decide) ⟨Nat.zero_le _, Nat.zero_le _⟩ hl.1 rfl (Nat.le_of_ble_eq_true rfl) dX6_wantsIn_39 ?_
  refine w_top (nI 0) (by decide) ?_
  refine lv_iload_n hx hb dX6_wantsIn_42 rfl (lv_at hl 2 rfl) ?_
  refine md_callI (y := yX6_wantsIn) hx hb hml hown hts hK hI hM (met_wantsIn_0_1 F A T t hVK x (by omega)) q1757 q1759 qs55 q1760 ndX6_wantsIn rfl (by rw [hRf]; decide) (by rw [hRl]; decide) hl.1 rfl (Nat.le_of_ble_eq_true rfl) dX6_wantsIn_43 (fun H locs hM => ?_)
  exact hret hM (rfl) dX6_wantsIn_46
set_option maxHeartbeats 400000 in
theorem met_knowsIn_0_1 (F : Nat → Int32) (A : Nat → Nat → Int32) (T : Nat → Int32) (t : Nat) (hVK : F 25 = nI 1) (x : Int32) (ht : t + 1 ≤ 40) : MdF yX6_knowsIn cX6_knowsIn 3 (some .int) 1 21 [.int (nI 0), .int x] (upd F 24 (nI t)) (va_up A 14 T) (some (.int (x - (F 27)))) (upd F 24 (nI (t + 1))) (va_up A 14 (upd T t (nI 12))) := by
  refine MdF.ofI (by decide) rfl (Nat.le_of_ble_eq_true rfl) ?_
  intro p l e R s m args below meth c Q D h dA ls hx hb hml hRf hRl hts hown hK hI hM hl hret
  have hl : lv_has ls 3 [(0, .ref (h 0)), (1, .int (nI 0)), (2, .int x)] := hl
  refine lv_iload_n hx hb dX6_knowsIn_0 rfl (lv_at hl 1 rfl) ?_
  refine lv_if_ne (tgt := 17) hx hb dX6_knowsIn_1 (by decide) (fun q => absurd q (by decide)) (fun _ => ?_)
  refine lv_aload_n hx hb dX6_knowsIn_4 rfl (lv_at hl 0 rfl) ?_
  refine lv_bipush (v := nI 12) hx hb dX6_knowsIn_5 (by decide) ?_
  refine md_callV (y := yX6_ran) hx hb hml hown hts hK hI hM (met_ran F A T t 12 (by omega)) q1761 q1763 qs56 q1764 ndX6_ran rfl (by rw [hRf]; decide) (by rw [hRl]; decide) hl.1 rfl (Nat.le_of_ble_eq_true rfl) dX6_knowsIn_7 (fun H locs hM => ?_)
  refine lv_iload_n hx hb dX6_knowsIn_10 rfl (lv_at hl 2 rfl) ?_
  refine lv_aload_n hx hb dX6_knowsIn_11 rfl (lv_at hl 0 rfl) ?_
  refine md_get (v := .int (F 27)) hx hb hts hown hK hM 27 (by decide) q1417 rfl rfl dX6_knowsIn_12 ?_
  refine lv_isub hx hb dX6_knowsIn_15 ?_
  exact hret hM (rfl) dX6_knowsIn_16
set_option maxHeartbeats 400000 in
theorem met_knowsIn_1_1 (F : Nat → Int32) (A : Nat → Nat → Int32) (T : Nat → Int32) (t : Nat) (hVK : F 25 = nI 1) (x : Int32) (ht : t + 1 ≤ 40) : MdF yX6_knowsIn cX6_knowsIn 3 (some .int) 2 43 [.int (nI 1), .int x] (upd F 24 (nI t)) (va_up A 14 T) (some (.int (x - (F 27)))) (upd F 24 (nI (t + 1))) (va_up A 14 (upd T t (nI 12))) := by
  refine MdF.ofI (by decide) rfl (Nat.le_of_ble_eq_true rfl) ?_
  intro p l e R s m args below meth c Q D h dA ls hx hb hml hRf hRl hts hown hK hI hM hl hret
  have hl : lv_has ls 3 [(0, .ref (h 0)), (1, .int (nI 1)), (2, .int x)] := hl
  refine lv_iload_n hx hb dX6_knowsIn_0 rfl (lv_at hl 1 rfl) ?_
  refine lv_if_ne (tgt := 17) hx hb dX6_knowsIn_1 (by decide) (fun _ => ?_) (fun q => absurd q (by decide))
  refine lv_iload_n hx hb dX6_knowsIn_17 rfl (lv_at hl 1 rfl) ?_
  refine lv_iconst (v := nI 3) hx hb dX6_knowsIn_18 (by decide) ?_
  refine lv_icmp_ne (tgt := 36) hx hb dX6_knowsIn_19 (by decide) (fun _ => ?_) (fun q => absurd q (by decide))
  refine lv_iload_n hx hb dX6_knowsIn_36 rfl (lv_at hl 1 rfl) ?_
  refine lv_bipush (v := nI 6) hx hb dX6_knowsIn_37 (by decide) ?_
  refine lv_icmp_ne (tgt := 60) hx hb dX6_knowsIn_39 (by decide) (fun _ => ?_) (fun q => absurd q (by decide))
  refine lv_aload_n hx hb dX6_knowsIn_60 rfl (lv_at hl 0 rfl) ?_
  refine lv_iload_n hx hb dX6_knowsIn_61 rfl (lv_at hl 1 rfl) ?_
  refine st_callI (y := yX6_above) hx hb hml hown hts (met_above (nI 1)) q1614 q1615 q70 q1616 ndX6_above rfl (by rw [hRf]; decide) (by rw [hRl]; decide) ⟨Nat.zero_le _, Nat.zero_le _⟩ hl.1 rfl (Nat.le_of_ble_eq_true rfl) dX6_knowsIn_62 ?_
  refine w_top (nI 0) (by decide) ?_
  refine lv_iload_n hx hb dX6_knowsIn_65 rfl (lv_at hl 2 rfl) ?_
  refine md_callI (y := yX6_knowsIn) hx hb hml hown hts hK hI hM (met_knowsIn_0_1 F A T t hVK x (by omega)) q1769 q1771 qs58 q1772 ndX6_knowsIn rfl (by rw [hRf]; decide) (by rw [hRl]; decide) hl.1 rfl (Nat.le_of_ble_eq_true rfl) dX6_knowsIn_66 (fun H locs hM => ?_)
  exact hret hM (rfl) dX6_knowsIn_69
set_option maxHeartbeats 400000 in
theorem met_eatsIn_0_1 (F : Nat → Int32) (A : Nat → Nat → Int32) (T : Nat → Int32) (t : Nat) (hVK : F 25 = nI 1) (x : Int32) (ht : t + 2 ≤ 40) : MdF yX6_eatsIn cX6_eatsIn 4 (some .int) 3 65 [.int (nI 0), .int x] (upd F 24 (nI t)) (va_up A 14 T) (some (.int ((x + (F 26)) * (nI 2)))) (upd F 24 (nI (t + 1 + 1))) (va_up A 14 (upd (upd T t (nI 11)) (t + 1) (nI 10))) := by
  refine MdF.ofI (by decide) rfl (Nat.le_of_ble_eq_true rfl) ?_
  intro p l e R s m args below meth c Q D h dA ls hx hb hml hRf hRl hts hown hK hI hM hl hret
  have hl : lv_has ls 4 [(0, .ref (h 0)), (1, .int (nI 0)), (2, .int x)] := hl
  refine lv_iload_n hx hb dX6_eatsIn_0 rfl (lv_at hl 1 rfl) ?_
  refine lv_if_ne (tgt := 22) hx hb dX6_eatsIn_1 (by decide) (fun q => absurd q (by decide)) (fun _ => ?_)
  refine lv_aload_n hx hb dX6_eatsIn_4 rfl (lv_at hl 0 rfl) ?_
  refine lv_bipush (v := nI 11) hx hb dX6_eatsIn_5 (by decide) ?_
  refine md_callV (y := yX6_ran) hx hb hml hown hts hK hI hM (met_ran F A T t 11 (by omega)) q1761 q1763 qs56 q1764 ndX6_ran rfl (by rw [hRf]; decide) (by rw [hRl]; decide) hl.1 rfl (Nat.le_of_ble_eq_true rfl) dX6_eatsIn_7 (fun H locs hM => ?_)
  refine lv_aload_n hx hb dX6_eatsIn_10 rfl (lv_at hl 0 rfl) ?_
  refine lv_aload_n hx hb dX6_eatsIn_11 rfl (lv_at hl 0 rfl) ?_
  refine md_get (v := .int (F 25)) hx hb hts hown hK hM 25 (by decide) q1415 rfl rfl dX6_eatsIn_12 ?_
  refine w_top (nI 1) (hVK) ?_
  refine lv_iload_n hx hb dX6_eatsIn_15 rfl (lv_at hl 2 rfl) ?_
  refine md_callI (y := yX6_wantsIn) hx hb hml hown hts hK hI hM (met_wantsIn_1_1 F A (upd T t (nI 11)) (t + 1) hVK x (by omega)) q1757 q1759 qs55 q1760 ndX6_wantsIn rfl (by rw [hRf]; decide) (by rw [hRl]; decide) hl.1 rfl (Nat.le_of_ble_eq_true rfl) dX6_eatsIn_16 (fun H locs hM => ?_)
  refine lv_iconst (v := nI 2) hx hb dX6_eatsIn_19 (by decide) ?_
  refine lv_imul hx hb dX6_eatsIn_20 ?_
  exact hret hM (rfl) dX6_eatsIn_21
set_option maxHeartbeats 400000 in
theorem met_eatsIn_1_1 (F : Nat → Int32) (A : Nat → Nat → Int32) (T : Nat → Int32) (t : Nat) (hVK : F 25 = nI 1) (x : Int32) (ht : t + 4 ≤ 40) : MdF yX6_eatsIn cX6_eatsIn 4 (some .int) 4 88 [.int (nI 1), .int x] (upd F 24 (nI t)) (va_up A 14 T) (some (.int (((x + (F 26)) * (nI 2)) - ((nI 1) - (F 27))))) (upd F 24 (nI (t + 1 + 1 + 1 + 1))) (va_up A 14 (upd (upd (upd (upd T t (nI 20)) (t + 1) (nI 11)) (t + 1 + 1) (nI 10)) (t + 1 + 1 + 1) (nI 12))) := by
  refine MdF.ofI (by decide) rfl (Nat.le_of_ble_eq_true rfl) ?_
  intro p l e R s m args below meth c Q D h dA ls hx hb hml hRf hRl hts hown hK hI hM hl hret
  have hl : lv_has ls 4 [(0, .ref (h 0)), (1, .int (nI 1)), (2, .int x)] := hl
  refine lv_iload_n hx hb dX6_eatsIn_0 rfl (lv_at hl 1 rfl) ?_
  refine lv_if_ne (tgt := 22) hx hb dX6_eatsIn_1 (by decide) (fun _ => ?_) (fun q => absurd q (by decide))
  refine lv_iload_n hx hb dX6_eatsIn_22 rfl (lv_at hl 1 rfl) ?_
  refine lv_iconst (v := nI 1) hx hb dX6_eatsIn_23 (by decide) ?_
  refine lv_icmp_ne (tgt := 52) hx hb dX6_eatsIn_24 (by decide) (fun q => absurd q (by decide)) (fun _ => ?_)
  refine lv_aload_n hx hb dX6_eatsIn_27 rfl (lv_at hl 0 rfl) ?_
  refine lv_bipush (v := nI 20) hx hb dX6_eatsIn_28 (by decide) ?_
  refine md_callV (y := yX6_ran) hx hb hml hown hts hK hI hM (met_ran F A T t 20 (by omega)) q1761 q1763 qs56 q1764 ndX6_ran rfl (by rw [hRf]; decide) (by rw [hRl]; decide) hl.1 rfl (Nat.le_of_ble_eq_true rfl) dX6_eatsIn_30 (fun H locs hM => ?_)
  refine lv_aload_n hx hb dX6_eatsIn_33 rfl (lv_at hl 0 rfl) ?_
  refine lv_iconst (v := nI 0) hx hb dX6_eatsIn_34 (by decide) ?_
  refine lv_iload_n hx hb dX6_eatsIn_35 rfl (lv_at hl 2 rfl) ?_
  refine md_callI (y := yX6_eatsIn) hx hb hml hown hts hK hI hM (met_eatsIn_0_1 F A (upd T t (nI 20)) (t + 1) hVK x (by omega)) q1765 q1767 qs57 q1768 ndX6_eatsIn rfl (by rw [hRf]; decide) (by rw [hRl]; decide) hl.1 rfl (Nat.le_of_ble_eq_true rfl) dX6_eatsIn_36 (fun H locs hM => ?_)
  refine lv_istore_n (lv' := [(3, .int ((x + (F 26)) * (nI 2))), (0, .ref (h 0)), (1, .int (nI 1)), (2, .int x)]) hx hb dX6_eatsIn_39 rfl hl (by decide) rfl (fun ls hl => ?_)
  refine lv_iload_n hx hb dX6_eatsIn_40 rfl (lv_at hl 0 rfl) ?_
  refine lv_aload_n hx hb dX6_eatsIn_41 rfl (lv_at hl 1 rfl) ?_
  refine lv_aload_n hx hb dX6_eatsIn_42 rfl (lv_at hl 1 rfl) ?_
  refine md_get (v := .int (F 25)) hx hb hts hown hK hM 25 (by decide) q1415 rfl rfl dX6_eatsIn_43 ?_
  refine w_top (nI 1) (hVK) ?_
  refine lv_iconst (v := nI 1) hx hb dX6_eatsIn_46 (by decide) ?_
  refine md_callI (y := yX6_knowsIn) hx hb hml hown hts hK hI hM (met_knowsIn_1_1 F A (upd (upd (upd T t (nI 20)) (t + 1) (nI 11)) (t + 1 + 1) (nI 10)) (t + 1 + 1 + 1) hVK (nI 1) (by omega)) q1769 q1771 qs58 q1772 ndX6_knowsIn rfl (by rw [hRf]; decide) (by rw [hRl]; decide) hl.1 rfl (Nat.le_of_ble_eq_true rfl) dX6_eatsIn_47 (fun H locs hM => ?_)
  refine lv_isub hx hb dX6_eatsIn_50 ?_
  exact hret hM (rfl) dX6_eatsIn_51
set_option maxHeartbeats 400000 in
theorem met_tellsIn_0_1 (F : Nat → Int32) (A : Nat → Nat → Int32) (T : Nat → Int32) (t : Nat) (hVK : F 25 = nI 1) (x : Int32) (ht : t + 6 ≤ 40) : MdF yX6_tellsIn cX6_tellsIn 4 (some .int) 5 111 [.int (nI 0), .int x] (upd F 24 (nI t)) (va_up A 14 T) (some (.int ((((x + (F 26)) * (nI 2)) - ((nI 1) - (F 27))) ^^^ (x - (F 27))))) (upd F 24 (nI (t + 1 + 1 + 1 + 1 + 1 + 1))) (va_up A 14 (upd (upd (upd (upd (upd (upd T t (nI 13)) (t + 1) (nI 20)) (t + 1 + 1) (nI 11)) (t + 1 + 1 + 1) (nI 10)) (t + 1 + 1 + 1 + 1) (nI 12)) (t + 1 + 1 + 1 + 1 + 1) (nI 12))) := by
  refine MdF.ofI (by decide) rfl (Nat.le_of_ble_eq_true rfl) ?_
  intro p l e R s m args below meth c Q D h dA ls hx hb hml hRf hRl hts hown hK hI hM hl hret
  have hl : lv_has ls 4 [(0, .ref (h 0)), (1, .int (nI 0)), (2, .int x)] := hl
  refine lv_iload_n hx hb dX6_tellsIn_0 rfl (lv_at hl 1 rfl) ?_
  refine lv_if_ne (tgt := 32) hx hb dX6_tellsIn_1 (by decide) (fun q => absurd q (by decide)) (fun _ => ?_)
  refine lv_aload_n hx hb dX6_tellsIn_4 rfl (lv_at hl 0 rfl) ?_
  refine lv_bipush (v := nI 13) hx hb dX6_tellsIn_5 (by decide) ?_
  refine md_callV (y := yX6_ran) hx hb hml hown hts hK hI hM (met_ran F A T t 13 (by omega)) q1761 q1763 qs56 q1764 ndX6_ran rfl (by rw [hRf]; decide) (by rw [hRl]; decide) hl.1 rfl (Nat.le_of_ble_eq_true rfl) dX6_tellsIn_7 (fun H locs hM => ?_)
  refine lv_aload_n hx hb dX6_tellsIn_10 rfl (lv_at hl 0 rfl) ?_
  refine lv_aload_n hx hb dX6_tellsIn_11 rfl (lv_at hl 0 rfl) ?_
  refine md_get (v := .int (F 25)) hx hb hts hown hK hM 25 (by decide) q1415 rfl rfl dX6_tellsIn_12 ?_
  refine w_top (nI 1) (hVK) ?_
  refine lv_iload_n hx hb dX6_tellsIn_15 rfl (lv_at hl 2 rfl) ?_
  refine md_callI (y := yX6_eatsIn) hx hb hml hown hts hK hI hM (met_eatsIn_1_1 F A (upd T t (nI 13)) (t + 1) hVK x (by omega)) q1765 q1767 qs57 q1768 ndX6_eatsIn rfl (by rw [hRf]; decide) (by rw [hRl]; decide) hl.1 rfl (Nat.le_of_ble_eq_true rfl) dX6_tellsIn_16 (fun H locs hM => ?_)
  refine lv_istore_n (lv' := [(3, .int (((x + (F 26)) * (nI 2)) - ((nI 1) - (F 27)))), (0, .ref (h 0)), (1, .int (nI 0)), (2, .int x)]) hx hb dX6_tellsIn_19 rfl hl (by decide) rfl (fun ls hl => ?_)
  refine lv_iload_n hx hb dX6_tellsIn_20 rfl (lv_at hl 0 rfl) ?_
  refine lv_aload_n hx hb dX6_tellsIn_21 rfl (lv_at hl 1 rfl) ?_
  refine lv_aload_n hx hb dX6_tellsIn_22 rfl (lv_at hl 1 rfl) ?_
  refine md_get (v := .int (F 25)) hx hb hts hown hK hM 25 (by decide) q1415 rfl rfl dX6_tellsIn_23 ?_
  refine w_top (nI 1) (hVK) ?_
  refine lv_iload_n hx hb dX6_tellsIn_26 rfl (lv_at hl 3 rfl) ?_
  refine md_callI (y := yX6_knowsIn) hx hb hml hown hts hK hI hM (met_knowsIn_1_1 F A (upd (upd (upd (upd (upd T t (nI 13)) (t + 1) (nI 20)) (t + 1 + 1) (nI 11)) (t + 1 + 1 + 1) (nI 10)) (t + 1 + 1 + 1 + 1) (nI 12)) (t + 1 + 1 + 1 + 1 + 1) hVK x (by omega)) q1769 q1771 qs58 q1772 ndX6_knowsIn rfl (by rw [hRf]; decide) (by rw [hRl]; decide) hl.1 rfl (Nat.le_of_ble_eq_true rfl) dX6_tellsIn_27 (fun H locs hM => ?_)
  refine lv_ixor hx hb dX6_tellsIn_30 ?_
  exact hret hM (rfl) dX6_tellsIn_31
set_option maxHeartbeats 400000 in
theorem met_tellsIn_1_1 (F : Nat → Int32) (A : Nat → Nat → Int32) (T : Nat → Int32) (t : Nat) (hVK : F 25 = nI 1) (x : Int32) (ht : t + 6 ≤ 40) : MdF yX6_tellsIn cX6_tellsIn 4 (some .int) 6 134 [.int (nI 1), .int x] (upd F 24 (nI t)) (va_up A 14 T) (some (.int ((((x + (F 26)) * (nI 2)) - ((nI 1) - (F 27))) ^^^ (x - (F 27))))) (upd F 24 (nI (t + 1 + 1 + 1 + 1 + 1 + 1))) (va_up A 14 (upd (upd (upd (upd (upd (upd T t (nI 13)) (t + 1) (nI 20)) (t + 1 + 1) (nI 11)) (t + 1 + 1 + 1) (nI 10)) (t + 1 + 1 + 1 + 1) (nI 12)) (t + 1 + 1 + 1 + 1 + 1) (nI 12))) := by
  refine MdF.ofI (by decide) rfl (Nat.le_of_ble_eq_true rfl) ?_
  intro p l e R s m args below meth c Q D h dA ls hx hb hml hRf hRl hts hown hK hI hM hl hret
  have hl : lv_has ls 4 [(0, .ref (h 0)), (1, .int (nI 1)), (2, .int x)] := hl
  refine lv_iload_n hx hb dX6_tellsIn_0 rfl (lv_at hl 1 rfl) ?_
  refine lv_if_ne (tgt := 32) hx hb dX6_tellsIn_1 (by decide) (fun _ => ?_) (fun q => absurd q (by decide))
  refine lv_iload_n hx hb dX6_tellsIn_32 rfl (lv_at hl 1 rfl) ?_
  refine lv_bipush (v := nI 6) hx hb dX6_tellsIn_33 (by decide) ?_
  refine lv_icmp_ne (tgt := 63) hx hb dX6_tellsIn_35 (by decide) (fun _ => ?_) (fun q => absurd q (by decide))
  refine lv_iload_n hx hb dX6_tellsIn_63 rfl (lv_at hl 1 rfl) ?_
  refine lv_iconst (v := nI 5) hx hb dX6_tellsIn_64 (by decide) ?_
  refine lv_icmp_ne (tgt := 93) hx hb dX6_tellsIn_65 (by decide) (fun _ => ?_) (fun q => absurd q (by decide))
  refine lv_aload_n hx hb dX6_tellsIn_93 rfl (lv_at hl 0 rfl) ?_
  refine lv_iload_n hx hb dX6_tellsIn_94 rfl (lv_at hl 1 rfl) ?_
  refine st_callI (y := yX6_above) hx hb hml hown hts (met_above (nI 1)) q1614 q1615 q70 q1616 ndX6_above rfl (by rw [hRf]; decide) (by rw [hRl]; decide) ⟨Nat.zero_le _, Nat.zero_le _⟩ hl.1 rfl (Nat.le_of_ble_eq_true rfl) dX6_tellsIn_95 ?_
  refine w_top (nI 0) (by decide) ?_
  refine lv_iload_n hx hb dX6_tellsIn_98 rfl (lv_at hl 2 rfl) ?_
  refine md_callI (y := yX6_tellsIn) hx hb hml hown hts hK hI hM (met_tellsIn_0_1 F A T t hVK x (by omega)) q1773 q1775 qs59 q1776 ndX6_tellsIn rfl (by rw [hRf]; decide) (by rw [hRl]; decide) hl.1 rfl (Nat.le_of_ble_eq_true rfl) dX6_tellsIn_99 (fun H locs hM => ?_)
  exact hret hM (rfl) dX6_tellsIn_102
set_option maxHeartbeats 400000 in
theorem met_wantsIn_0_2 (F : Nat → Int32) (A : Nat → Nat → Int32) (T : Nat → Int32) (t : Nat) (hVK : F 25 = nI 2) (x : Int32) (ht : t + 1 ≤ 40) : MdF yX6_wantsIn cX6_wantsIn 3 (some .int) 1 21 [.int (nI 0), .int x] (upd F 24 (nI t)) (va_up A 14 T) (some (.int (x + (F 26)))) (upd F 24 (nI (t + 1))) (va_up A 14 (upd T t (nI 10))) := by
  refine MdF.ofI (by decide) rfl (Nat.le_of_ble_eq_true rfl) ?_
  intro p l e R s m args below meth c Q D h dA ls hx hb hml hRf hRl hts hown hK hI hM hl hret
  have hl : lv_has ls 3 [(0, .ref (h 0)), (1, .int (nI 0)), (2, .int x)] := hl
  refine lv_iload_n hx hb dX6_wantsIn_0 rfl (lv_at hl 1 rfl) ?_
  refine lv_if_ne (tgt := 17) hx hb dX6_wantsIn_1 (by decide) (fun q => absurd q (by decide)) (fun _ => ?_)
  refine lv_aload_n hx hb dX6_wantsIn_4 rfl (lv_at hl 0 rfl) ?_
  refine lv_bipush (v := nI 10) hx hb dX6_wantsIn_5 (by decide) ?_
  refine md_callV (y := yX6_ran) hx hb hml hown hts hK hI hM (met_ran F A T t 10 (by omega)) q1761 q1763 qs56 q1764 ndX6_ran rfl (by rw [hRf]; decide) (by rw [hRl]; decide) hl.1 rfl (Nat.le_of_ble_eq_true rfl) dX6_wantsIn_7 (fun H locs hM => ?_)
  refine lv_iload_n hx hb dX6_wantsIn_10 rfl (lv_at hl 2 rfl) ?_
  refine lv_aload_n hx hb dX6_wantsIn_11 rfl (lv_at hl 0 rfl) ?_
  refine md_get (v := .int (F 26)) hx hb hts hown hK hM 26 (by decide) q1416 rfl rfl dX6_wantsIn_12 ?_
  refine lv_iadd hx hb dX6_wantsIn_15 ?_
  exact hret hM (rfl) dX6_wantsIn_16
set_option maxHeartbeats 400000 in
theorem met_wantsIn_2_2 (F : Nat → Int32) (A : Nat → Nat → Int32) (T : Nat → Int32) (t : Nat) (hVK : F 25 = nI 2) (x : Int32) (ht : t + 2 ≤ 40) : MdF yX6_wantsIn cX6_wantsIn 3 (some .int) 2 43 [.int (nI 2), .int x] (upd F 24 (nI t)) (va_up A 14 T) (some (.int ((x + (F 26)) * (nI 3)))) (upd F 24 (nI (t + 1 + 1))) (va_up A 14 (upd (upd T t (nI 30)) (t + 1) (nI 10))) := by
  refine MdF.ofI (by decide) rfl (Nat.le_of_ble_eq_true rfl) ?_
  intro p l e R s m args below meth c Q D h dA ls hx hb hml hRf hRl hts hown hK hI hM hl hret
  have hl : lv_has ls 3 [(0, .ref (h 0)), (1, .int (nI 2)), (2, .int x)] := hl
  refine lv_iload_n hx hb dX6_wantsIn_0 rfl (lv_at hl 1 rfl) ?_
  refine lv_if_ne (tgt := 17) hx hb dX6_wantsIn_1 (by decide) (fun _ => ?_) (fun q => absurd q (by decide))
  refine lv_iload_n hx hb dX6_wantsIn_17 rfl (lv_at hl 1 rfl) ?_
  refine lv_iconst (v := nI 2) hx hb dX6_wantsIn_18 (by decide) ?_
  refine lv_icmp_ne (tgt := 37) hx hb dX6_wantsIn_19 (by decide) (fun q => absurd q (by decide)) (fun _ => ?_)
  refine lv_aload_n hx hb dX6_wantsIn_22 rfl (lv_at hl 0 rfl) ?_
  refine lv_bipush (v := nI 30) hx hb dX6_wantsIn_23 (by decide) ?_
  refine md_callV (y := yX6_ran) hx hb hml hown hts hK hI hM (met_ran F A T t 30 (by omega)) q1761 q1763 qs56 q1764 ndX6_ran rfl (by rw [hRf]; decide) (by rw [hRl]; decide) hl.1 rfl (Nat.le_of_ble_eq_true rfl) dX6_wantsIn_25 (fun H locs hM => ?_)
  refine lv_aload_n hx hb dX6_wantsIn_28 rfl (lv_at hl 0 rfl) ?_
  refine lv_iconst (v := nI 0) hx hb dX6_wantsIn_29 (by decide) ?_
  refine lv_iload_n hx hb dX6_wantsIn_30 rfl (lv_at hl 2 rfl) ?_
  refine md_callI (y := yX6_wantsIn) hx hb hml hown hts hK hI hM (met_wantsIn_0_2 F A (upd T t (nI 30)) (t + 1) hVK x (by omega)) q1757 q1759 qs55 q1760 ndX6_wantsIn rfl (by rw [hRf]; decide) (by rw [hRl]; decide) hl.1 rfl (Nat.le_of_ble_eq_true rfl) dX6_wantsIn_31 (fun H locs hM => ?_)
  refine lv_iconst (v := nI 3) hx hb dX6_wantsIn_34 (by decide) ?_
  refine lv_imul hx hb dX6_wantsIn_35 ?_
  exact hret hM (rfl) dX6_wantsIn_36
set_option maxHeartbeats 400000 in
theorem met_knowsIn_0_2 (F : Nat → Int32) (A : Nat → Nat → Int32) (T : Nat → Int32) (t : Nat) (hVK : F 25 = nI 2) (x : Int32) (ht : t + 1 ≤ 40) : MdF yX6_knowsIn cX6_knowsIn 3 (some .int) 1 21 [.int (nI 0), .int x] (upd F 24 (nI t)) (va_up A 14 T) (some (.int (x - (F 27)))) (upd F 24 (nI (t + 1))) (va_up A 14 (upd T t (nI 12))) := by
  refine MdF.ofI (by decide) rfl (Nat.le_of_ble_eq_true rfl) ?_
  intro p l e R s m args below meth c Q D h dA ls hx hb hml hRf hRl hts hown hK hI hM hl hret
  have hl : lv_has ls 3 [(0, .ref (h 0)), (1, .int (nI 0)), (2, .int x)] := hl
  refine lv_iload_n hx hb dX6_knowsIn_0 rfl (lv_at hl 1 rfl) ?_
  refine lv_if_ne (tgt := 17) hx hb dX6_knowsIn_1 (by decide) (fun q => absurd q (by decide)) (fun _ => ?_)
  refine lv_aload_n hx hb dX6_knowsIn_4 rfl (lv_at hl 0 rfl) ?_
  refine lv_bipush (v := nI 12) hx hb dX6_knowsIn_5 (by decide) ?_
  refine md_callV (y := yX6_ran) hx hb hml hown hts hK hI hM (met_ran F A T t 12 (by omega)) q1761 q1763 qs56 q1764 ndX6_ran rfl (by rw [hRf]; decide) (by rw [hRl]; decide) hl.1 rfl (Nat.le_of_ble_eq_true rfl) dX6_knowsIn_7 (fun H locs hM => ?_)
  refine lv_iload_n hx hb dX6_knowsIn_10 rfl (lv_at hl 2 rfl) ?_
  refine lv_aload_n hx hb dX6_knowsIn_11 rfl (lv_at hl 0 rfl) ?_
  refine md_get (v := .int (F 27)) hx hb hts hown hK hM 27 (by decide) q1417 rfl rfl dX6_knowsIn_12 ?_
  refine lv_isub hx hb dX6_knowsIn_15 ?_
  exact hret hM (rfl) dX6_knowsIn_16
set_option maxHeartbeats 400000 in
theorem met_knowsIn_2_2 (F : Nat → Int32) (A : Nat → Nat → Int32) (T : Nat → Int32) (t : Nat) (hVK : F 25 = nI 2) (x : Int32) (ht : t + 1 ≤ 40) : MdF yX6_knowsIn cX6_knowsIn 3 (some .int) 2 43 [.int (nI 2), .int x] (upd F 24 (nI t)) (va_up A 14 T) (some (.int (x - (F 27)))) (upd F 24 (nI (t + 1))) (va_up A 14 (upd T t (nI 12))) := by
  refine MdF.ofI (by decide) rfl (Nat.le_of_ble_eq_true rfl) ?_
  intro p l e R s m args below meth c Q D h dA ls hx hb hml hRf hRl hts hown hK hI hM hl hret
  have hl : lv_has ls 3 [(0, .ref (h 0)), (1, .int (nI 2)), (2, .int x)] := hl
  refine lv_iload_n hx hb dX6_knowsIn_0 rfl (lv_at hl 1 rfl) ?_
  refine lv_if_ne (tgt := 17) hx hb dX6_knowsIn_1 (by decide) (fun _ => ?_) (fun q => absurd q (by decide))
  refine lv_iload_n hx hb dX6_knowsIn_17 rfl (lv_at hl 1 rfl) ?_
  refine lv_iconst (v := nI 3) hx hb dX6_knowsIn_18 (by decide) ?_
  refine lv_icmp_ne (tgt := 36) hx hb dX6_knowsIn_19 (by decide) (fun _ => ?_) (fun q => absurd q (by decide))
  refine lv_iload_n hx hb dX6_knowsIn_36 rfl (lv_at hl 1 rfl) ?_
  refine lv_bipush (v := nI 6) hx hb dX6_knowsIn_37 (by decide) ?_
  refine lv_icmp_ne (tgt := 60) hx hb dX6_knowsIn_39 (by decide) (fun _ => ?_) (fun q => absurd q (by decide))
  refine lv_aload_n hx hb dX6_knowsIn_60 rfl (lv_at hl 0 rfl) ?_
  refine lv_iload_n hx hb dX6_knowsIn_61 rfl (lv_at hl 1 rfl) ?_
  refine st_callI (y := yX6_above) hx hb hml hown hts (met_above (nI 2)) q1614 q1615 q70 q1616 ndX6_above rfl (by rw [hRf]; decide) (by rw [hRl]; decide) ⟨Nat.zero_le _, Nat.zero_le _⟩ hl.1 rfl (Nat.le_of_ble_eq_true rfl) dX6_knowsIn_62 ?_
  refine w_top (nI 0) (by decide) ?_
  refine lv_iload_n hx hb dX6_knowsIn_65 rfl (lv_at hl 2 rfl) ?_
  refine md_callI (y := yX6_knowsIn) hx hb hml hown hts hK hI hM (met_knowsIn_0_2 F A T t hVK x (by omega)) q1769 q1771 qs58 q1772 ndX6_knowsIn rfl (by rw [hRf]; decide) (by rw [hRl]; decide) hl.1 rfl (Nat.le_of_ble_eq_true rfl) dX6_knowsIn_66 (fun H locs hM => ?_)
  exact hret hM (rfl) dX6_knowsIn_69
set_option maxHeartbeats 400000 in
theorem met_eatsIn_0_2 (F : Nat → Int32) (A : Nat → Nat → Int32) (T : Nat → Int32) (t : Nat) (hVK : F 25 = nI 2) (x : Int32) (ht : t + 3 ≤ 40) : MdF yX6_eatsIn cX6_eatsIn 4 (some .int) 3 65 [.int (nI 0), .int x] (upd F 24 (nI t)) (va_up A 14 T) (some (.int (((x + (F 26)) * (nI 3)) * (nI 2)))) (upd F 24 (nI (t + 1 + 1 + 1))) (va_up A 14 (upd (upd (upd T t (nI 11)) (t + 1) (nI 30)) (t + 1 + 1) (nI 10))) := by
  refine MdF.ofI (by decide) rfl (Nat.le_of_ble_eq_true rfl) ?_
  intro p l e R s m args below meth c Q D h dA ls hx hb hml hRf hRl hts hown hK hI hM hl hret
  have hl : lv_has ls 4 [(0, .ref (h 0)), (1, .int (nI 0)), (2, .int x)] := hl
  refine lv_iload_n hx hb dX6_eatsIn_0 rfl (lv_at hl 1 rfl) ?_
  refine lv_if_ne (tgt := 22) hx hb dX6_eatsIn_1 (by decide) (fun q => absurd q (by decide)) (fun _ => ?_)
  refine lv_aload_n hx hb dX6_eatsIn_4 rfl (lv_at hl 0 rfl) ?_
  refine lv_bipush (v := nI 11) hx hb dX6_eatsIn_5 (by decide) ?_
  refine md_callV (y := yX6_ran) hx hb hml hown hts hK hI hM (met_ran F A T t 11 (by omega)) q1761 q1763 qs56 q1764 ndX6_ran rfl (by rw [hRf]; decide) (by rw [hRl]; decide) hl.1 rfl (Nat.le_of_ble_eq_true rfl) dX6_eatsIn_7 (fun H locs hM => ?_)
  refine lv_aload_n hx hb dX6_eatsIn_10 rfl (lv_at hl 0 rfl) ?_
  refine lv_aload_n hx hb dX6_eatsIn_11 rfl (lv_at hl 0 rfl) ?_
  refine md_get (v := .int (F 25)) hx hb hts hown hK hM 25 (by decide) q1415 rfl rfl dX6_eatsIn_12 ?_
  refine w_top (nI 2) (hVK) ?_
  refine lv_iload_n hx hb dX6_eatsIn_15 rfl (lv_at hl 2 rfl) ?_
  refine md_callI (y := yX6_wantsIn) hx hb hml hown hts hK hI hM (met_wantsIn_2_2 F A (upd T t (nI 11)) (t + 1) hVK x (by omega)) q1757 q1759 qs55 q1760 ndX6_wantsIn rfl (by rw [hRf]; decide) (by rw [hRl]; decide) hl.1 rfl (Nat.le_of_ble_eq_true rfl) dX6_eatsIn_16 (fun H locs hM => ?_)
  refine lv_iconst (v := nI 2) hx hb dX6_eatsIn_19 (by decide) ?_
  refine lv_imul hx hb dX6_eatsIn_20 ?_
  exact hret hM (rfl) dX6_eatsIn_21
set_option maxHeartbeats 400000 in
theorem met_eatsIn_2_2 (F : Nat → Int32) (A : Nat → Nat → Int32) (T : Nat → Int32) (t : Nat) (hVK : F 25 = nI 2) (x : Int32) (ht : t + 3 ≤ 40) : MdF yX6_eatsIn cX6_eatsIn 4 (some .int) 4 88 [.int (nI 2), .int x] (upd F 24 (nI t)) (va_up A 14 T) (some (.int (((x + (F 26)) * (nI 3)) * (nI 2)))) (upd F 24 (nI (t + 1 + 1 + 1))) (va_up A 14 (upd (upd (upd T t (nI 11)) (t + 1) (nI 30)) (t + 1 + 1) (nI 10))) := by
  refine MdF.ofI (by decide) rfl (Nat.le_of_ble_eq_true rfl) ?_
  intro p l e R s m args below meth c Q D h dA ls hx hb hml hRf hRl hts hown hK hI hM hl hret
  have hl : lv_has ls 4 [(0, .ref (h 0)), (1, .int (nI 2)), (2, .int x)] := hl
  refine lv_iload_n hx hb dX6_eatsIn_0 rfl (lv_at hl 1 rfl) ?_
  refine lv_if_ne (tgt := 22) hx hb dX6_eatsIn_1 (by decide) (fun _ => ?_) (fun q => absurd q (by decide))
  refine lv_iload_n hx hb dX6_eatsIn_22 rfl (lv_at hl 1 rfl) ?_
  refine lv_iconst (v := nI 1) hx hb dX6_eatsIn_23 (by decide) ?_
  refine lv_icmp_ne (tgt := 52) hx hb dX6_eatsIn_24 (by decide) (fun _ => ?_) (fun q => absurd q (by decide))
  refine lv_iload_n hx hb dX6_eatsIn_52 rfl (lv_at hl 1 rfl) ?_
  refine lv_iconst (v := nI 4) hx hb dX6_eatsIn_53 (by decide) ?_
  refine lv_icmp_ne (tgt := 72) hx hb dX6_eatsIn_54 (by decide) (fun _ => ?_) (fun q => absurd q (by decide))
  refine lv_aload_n hx hb dX6_eatsIn_72 rfl (lv_at hl 0 rfl) ?_
  refine lv_iload_n hx hb dX6_eatsIn_73 rfl (lv_at hl 1 rfl) ?_
  refine st_callI (y := yX6_above) hx hb hml hown hts (met_above (nI 2)) q1614 q1615 q70 q1616 ndX6_above rfl (by rw [hRf]; decide) (by rw [hRl]; decide) ⟨Nat.zero_le _, Nat.zero_le _⟩ hl.1 rfl (Nat.le_of_ble_eq_true rfl) dX6_eatsIn_74 ?_
  refine w_top (nI 0) (by decide) ?_
  refine lv_iload_n hx hb dX6_eatsIn_77 rfl (lv_at hl 2 rfl) ?_
  refine md_callI (y := yX6_eatsIn) hx hb hml hown hts hK hI hM (met_eatsIn_0_2 F A T t hVK x (by omega)) q1765 q1767 qs57 q1768 ndX6_eatsIn rfl (by rw [hRf]; decide) (by rw [hRl]; decide) hl.1 rfl (Nat.le_of_ble_eq_true rfl) dX6_eatsIn_78 (fun H locs hM => ?_)
  exact hret hM (rfl) dX6_eatsIn_81
set_option maxHeartbeats 400000 in
theorem met_tellsIn_0_2 (F : Nat → Int32) (A : Nat → Nat → Int32) (T : Nat → Int32) (t : Nat) (hVK : F 25 = nI 2) (x : Int32) (ht : t + 5 ≤ 40) : MdF yX6_tellsIn cX6_tellsIn 4 (some .int) 5 111 [.int (nI 0), .int x] (upd F 24 (nI t)) (va_up A 14 T) (some (.int ((((x + (F 26)) * (nI 3)) * (nI 2)) ^^^ (x - (F 27))))) (upd F 24 (nI (t + 1 + 1 + 1 + 1 + 1))) (va_up A 14 (upd (upd (upd (upd (upd T t (nI 13)) (t + 1) (nI 11)) (t + 1 + 1) (nI 30)) (t + 1 + 1 + 1) (nI 10)) (t + 1 + 1 + 1 + 1) (nI 12))) := by
  refine MdF.ofI (by decide) rfl (Nat.le_of_ble_eq_true rfl) ?_
  intro p l e R s m args below meth c Q D h dA ls hx hb hml hRf hRl hts hown hK hI hM hl hret
  have hl : lv_has ls 4 [(0, .ref (h 0)), (1, .int (nI 0)), (2, .int x)] := hl
  refine lv_iload_n hx hb dX6_tellsIn_0 rfl (lv_at hl 1 rfl) ?_
  refine lv_if_ne (tgt := 32) hx hb dX6_tellsIn_1 (by decide) (fun q => absurd q (by decide)) (fun _ => ?_)
  refine lv_aload_n hx hb dX6_tellsIn_4 rfl (lv_at hl 0 rfl) ?_
  refine lv_bipush (v := nI 13) hx hb dX6_tellsIn_5 (by decide) ?_
  refine md_callV (y := yX6_ran) hx hb hml hown hts hK hI hM (met_ran F A T t 13 (by omega)) q1761 q1763 qs56 q1764 ndX6_ran rfl (by rw [hRf]; decide) (by rw [hRl]; decide) hl.1 rfl (Nat.le_of_ble_eq_true rfl) dX6_tellsIn_7 (fun H locs hM => ?_)
  refine lv_aload_n hx hb dX6_tellsIn_10 rfl (lv_at hl 0 rfl) ?_
  refine lv_aload_n hx hb dX6_tellsIn_11 rfl (lv_at hl 0 rfl) ?_
  refine md_get (v := .int (F 25)) hx hb hts hown hK hM 25 (by decide) q1415 rfl rfl dX6_tellsIn_12 ?_
  refine w_top (nI 2) (hVK) ?_
  refine lv_iload_n hx hb dX6_tellsIn_15 rfl (lv_at hl 2 rfl) ?_
  refine md_callI (y := yX6_eatsIn) hx hb hml hown hts hK hI hM (met_eatsIn_2_2 F A (upd T t (nI 13)) (t + 1) hVK x (by omega)) q1765 q1767 qs57 q1768 ndX6_eatsIn rfl (by rw [hRf]; decide) (by rw [hRl]; decide) hl.1 rfl (Nat.le_of_ble_eq_true rfl) dX6_tellsIn_16 (fun H locs hM => ?_)
  refine lv_istore_n (lv' := [(3, .int (((x + (F 26)) * (nI 3)) * (nI 2))), (0, .ref (h 0)), (1, .int (nI 0)), (2, .int x)]) hx hb dX6_tellsIn_19 rfl hl (by decide) rfl (fun ls hl => ?_)
  refine lv_iload_n hx hb dX6_tellsIn_20 rfl (lv_at hl 0 rfl) ?_
  refine lv_aload_n hx hb dX6_tellsIn_21 rfl (lv_at hl 1 rfl) ?_
  refine lv_aload_n hx hb dX6_tellsIn_22 rfl (lv_at hl 1 rfl) ?_
  refine md_get (v := .int (F 25)) hx hb hts hown hK hM 25 (by decide) q1415 rfl rfl dX6_tellsIn_23 ?_
  refine w_top (nI 2) (hVK) ?_
  refine lv_iload_n hx hb dX6_tellsIn_26 rfl (lv_at hl 3 rfl) ?_
  refine md_callI (y := yX6_knowsIn) hx hb hml hown hts hK hI hM (met_knowsIn_2_2 F A (upd (upd (upd (upd T t (nI 13)) (t + 1) (nI 11)) (t + 1 + 1) (nI 30)) (t + 1 + 1 + 1) (nI 10)) (t + 1 + 1 + 1 + 1) hVK x (by omega)) q1769 q1771 qs58 q1772 ndX6_knowsIn rfl (by rw [hRf]; decide) (by rw [hRl]; decide) hl.1 rfl (Nat.le_of_ble_eq_true rfl) dX6_tellsIn_27 (fun H locs hM => ?_)
  refine lv_ixor hx hb dX6_tellsIn_30 ?_
  exact hret hM (rfl) dX6_tellsIn_31
set_option maxHeartbeats 400000 in
theorem met_tellsIn_2_2 (F : Nat → Int32) (A : Nat → Nat → Int32) (T : Nat → Int32) (t : Nat) (hVK : F 25 = nI 2) (x : Int32) (ht : t + 5 ≤ 40) : MdF yX6_tellsIn cX6_tellsIn 4 (some .int) 6 134 [.int (nI 2), .int x] (upd F 24 (nI t)) (va_up A 14 T) (some (.int ((((x + (F 26)) * (nI 3)) * (nI 2)) ^^^ (x - (F 27))))) (upd F 24 (nI (t + 1 + 1 + 1 + 1 + 1))) (va_up A 14 (upd (upd (upd (upd (upd T t (nI 13)) (t + 1) (nI 11)) (t + 1 + 1) (nI 30)) (t + 1 + 1 + 1) (nI 10)) (t + 1 + 1 + 1 + 1) (nI 12))) := by
  refine MdF.ofI (by decide) rfl (Nat.le_of_ble_eq_true rfl) ?_
  intro p l e R s m args below meth c Q D h dA ls hx hb hml hRf hRl hts hown hK hI hM hl hret
  have hl : lv_has ls 4 [(0, .ref (h 0)), (1, .int (nI 2)), (2, .int x)] := hl
  refine lv_iload_n hx hb dX6_tellsIn_0 rfl (lv_at hl 1 rfl) ?_
  refine lv_if_ne (tgt := 32) hx hb dX6_tellsIn_1 (by decide) (fun _ => ?_) (fun q => absurd q (by decide))
  refine lv_iload_n hx hb dX6_tellsIn_32 rfl (lv_at hl 1 rfl) ?_
  refine lv_bipush (v := nI 6) hx hb dX6_tellsIn_33 (by decide) ?_
  refine lv_icmp_ne (tgt := 63) hx hb dX6_tellsIn_35 (by decide) (fun _ => ?_) (fun q => absurd q (by decide))
  refine lv_iload_n hx hb dX6_tellsIn_63 rfl (lv_at hl 1 rfl) ?_
  refine lv_iconst (v := nI 5) hx hb dX6_tellsIn_64 (by decide) ?_
  refine lv_icmp_ne (tgt := 93) hx hb dX6_tellsIn_65 (by decide) (fun _ => ?_) (fun q => absurd q (by decide))
  refine lv_aload_n hx hb dX6_tellsIn_93 rfl (lv_at hl 0 rfl) ?_
  refine lv_iload_n hx hb dX6_tellsIn_94 rfl (lv_at hl 1 rfl) ?_
  refine st_callI (y := yX6_above) hx hb hml hown hts (met_above (nI 2)) q1614 q1615 q70 q1616 ndX6_above rfl (by rw [hRf]; decide) (by rw [hRl]; decide) ⟨Nat.zero_le _, Nat.zero_le _⟩ hl.1 rfl (Nat.le_of_ble_eq_true rfl) dX6_tellsIn_95 ?_
  refine w_top (nI 0) (by decide) ?_
  refine lv_iload_n hx hb dX6_tellsIn_98 rfl (lv_at hl 2 rfl) ?_
  refine md_callI (y := yX6_tellsIn) hx hb hml hown hts hK hI hM (met_tellsIn_0_2 F A T t hVK x (by omega)) q1773 q1775 qs59 q1776 ndX6_tellsIn rfl (by rw [hRf]; decide) (by rw [hRl]; decide) hl.1 rfl (Nat.le_of_ble_eq_true rfl) dX6_tellsIn_99 (fun H locs hM => ?_)
  exact hret hM (rfl) dX6_tellsIn_102
set_option maxHeartbeats 400000 in
theorem met_wantsIn_0_3 (F : Nat → Int32) (A : Nat → Nat → Int32) (T : Nat → Int32) (t : Nat) (hVK : F 25 = nI 3) (x : Int32) (ht : t + 1 ≤ 40) : MdF yX6_wantsIn cX6_wantsIn 3 (some .int) 1 21 [.int (nI 0), .int x] (upd F 24 (nI t)) (va_up A 14 T) (some (.int (x + (F 26)))) (upd F 24 (nI (t + 1))) (va_up A 14 (upd T t (nI 10))) := by
  refine MdF.ofI (by decide) rfl (Nat.le_of_ble_eq_true rfl) ?_
  intro p l e R s m args below meth c Q D h dA ls hx hb hml hRf hRl hts hown hK hI hM hl hret
  have hl : lv_has ls 3 [(0, .ref (h 0)), (1, .int (nI 0)), (2, .int x)] := hl
  refine lv_iload_n hx hb dX6_wantsIn_0 rfl (lv_at hl 1 rfl) ?_
  refine lv_if_ne (tgt := 17) hx hb dX6_wantsIn_1 (by decide) (fun q => absurd q (by decide)) (fun _ => ?_)
  refine lv_aload_n hx hb dX6_wantsIn_4 rfl (lv_at hl 0 rfl) ?_
  refine lv_bipush (v := nI 10) hx hb dX6_wantsIn_5 (by decide) ?_
  refine md_callV (y := yX6_ran) hx hb hml hown hts hK hI hM (met_ran F A T t 10 (by omega)) q1761 q1763 qs56 q1764 ndX6_ran rfl (by rw [hRf]; decide) (by rw [hRl]; decide) hl.1 rfl (Nat.le_of_ble_eq_true rfl) dX6_wantsIn_7 (fun H locs hM => ?_)
  refine lv_iload_n hx hb dX6_wantsIn_10 rfl (lv_at hl 2 rfl) ?_
  refine lv_aload_n hx hb dX6_wantsIn_11 rfl (lv_at hl 0 rfl) ?_
  refine md_get (v := .int (F 26)) hx hb hts hown hK hM 26 (by decide) q1416 rfl rfl dX6_wantsIn_12 ?_
  refine lv_iadd hx hb dX6_wantsIn_15 ?_
  exact hret hM (rfl) dX6_wantsIn_16
set_option maxHeartbeats 400000 in
theorem met_wantsIn_3_3 (F : Nat → Int32) (A : Nat → Nat → Int32) (T : Nat → Int32) (t : Nat) (hVK : F 25 = nI 3) (x : Int32) (ht : t + 1 ≤ 40) : MdF yX6_wantsIn cX6_wantsIn 3 (some .int) 2 43 [.int (nI 3), .int x] (upd F 24 (nI t)) (va_up A 14 T) (some (.int (x + (F 26)))) (upd F 24 (nI (t + 1))) (va_up A 14 (upd T t (nI 10))) := by
  refine MdF.ofI (by decide) rfl (Nat.le_of_ble_eq_true rfl) ?_
  intro p l e R s m args below meth c Q D h dA ls hx hb hml hRf hRl hts hown hK hI hM hl hret
  have hl : lv_has ls 3 [(0, .ref (h 0)), (1, .int (nI 3)), (2, .int x)] := hl
  refine lv_iload_n hx hb dX6_wantsIn_0 rfl (lv_at hl 1 rfl) ?_
  refine lv_if_ne (tgt := 17) hx hb dX6_wantsIn_1 (by decide) (fun _ => ?_) (fun q => absurd q (by decide))
  refine lv_iload_n hx hb dX6_wantsIn_17 rfl (lv_at hl 1 rfl) ?_
  refine lv_iconst (v := nI 2) hx hb dX6_wantsIn_18 (by decide) ?_
  refine lv_icmp_ne (tgt := 37) hx hb dX6_wantsIn_19 (by decide) (fun _ => ?_) (fun q => absurd q (by decide))
  refine lv_aload_n hx hb dX6_wantsIn_37 rfl (lv_at hl 0 rfl) ?_
  refine lv_iload_n hx hb dX6_wantsIn_38 rfl (lv_at hl 1 rfl) ?_
  refine st_callI (y := yX6_above) hx hb hml hown hts (met_above (nI 3)) q1614 q1615 q70 q1616 ndX6_above rfl (by rw [hRf]; decide) (by rw [hRl]; decide) ⟨Nat.zero_le _, Nat.zero_le _⟩ hl.1 rfl (Nat.le_of_ble_eq_true rfl) dX6_wantsIn_39 ?_
  refine w_top (nI 0) (by decide) ?_
  refine lv_iload_n hx hb dX6_wantsIn_42 rfl (lv_at hl 2 rfl) ?_
  refine md_callI (y := yX6_wantsIn) hx hb hml hown hts hK hI hM (met_wantsIn_0_3 F A T t hVK x (by omega)) q1757 q1759 qs55 q1760 ndX6_wantsIn rfl (by rw [hRf]; decide) (by rw [hRl]; decide) hl.1 rfl (Nat.le_of_ble_eq_true rfl) dX6_wantsIn_43 (fun H locs hM => ?_)
  exact hret hM (rfl) dX6_wantsIn_46
set_option maxHeartbeats 400000 in
theorem met_knowsIn_0_3 (F : Nat → Int32) (A : Nat → Nat → Int32) (T : Nat → Int32) (t : Nat) (hVK : F 25 = nI 3) (x : Int32) (ht : t + 1 ≤ 40) : MdF yX6_knowsIn cX6_knowsIn 3 (some .int) 1 21 [.int (nI 0), .int x] (upd F 24 (nI t)) (va_up A 14 T) (some (.int (x - (F 27)))) (upd F 24 (nI (t + 1))) (va_up A 14 (upd T t (nI 12))) := by
  refine MdF.ofI (by decide) rfl (Nat.le_of_ble_eq_true rfl) ?_
  intro p l e R s m args below meth c Q D h dA ls hx hb hml hRf hRl hts hown hK hI hM hl hret
  have hl : lv_has ls 3 [(0, .ref (h 0)), (1, .int (nI 0)), (2, .int x)] := hl
  refine lv_iload_n hx hb dX6_knowsIn_0 rfl (lv_at hl 1 rfl) ?_
  refine lv_if_ne (tgt := 17) hx hb dX6_knowsIn_1 (by decide) (fun q => absurd q (by decide)) (fun _ => ?_)
  refine lv_aload_n hx hb dX6_knowsIn_4 rfl (lv_at hl 0 rfl) ?_
  refine lv_bipush (v := nI 12) hx hb dX6_knowsIn_5 (by decide) ?_
  refine md_callV (y := yX6_ran) hx hb hml hown hts hK hI hM (met_ran F A T t 12 (by omega)) q1761 q1763 qs56 q1764 ndX6_ran rfl (by rw [hRf]; decide) (by rw [hRl]; decide) hl.1 rfl (Nat.le_of_ble_eq_true rfl) dX6_knowsIn_7 (fun H locs hM => ?_)
  refine lv_iload_n hx hb dX6_knowsIn_10 rfl (lv_at hl 2 rfl) ?_
  refine lv_aload_n hx hb dX6_knowsIn_11 rfl (lv_at hl 0 rfl) ?_
  refine md_get (v := .int (F 27)) hx hb hts hown hK hM 27 (by decide) q1417 rfl rfl dX6_knowsIn_12 ?_
  refine lv_isub hx hb dX6_knowsIn_15 ?_
  exact hret hM (rfl) dX6_knowsIn_16
set_option maxHeartbeats 400000 in
theorem met_knowsIn_3_3 (F : Nat → Int32) (A : Nat → Nat → Int32) (T : Nat → Int32) (t : Nat) (hVK : F 25 = nI 3) (x : Int32) (ht : t + 2 ≤ 40) : MdF yX6_knowsIn cX6_knowsIn 3 (some .int) 2 43 [.int (nI 3), .int x] (upd F 24 (nI t)) (va_up A 14 T) (some (.int (-(x - (F 27))))) (upd F 24 (nI (t + 1 + 1))) (va_up A 14 (upd (upd T t (nI 40)) (t + 1) (nI 12))) := by
  refine MdF.ofI (by decide) rfl (Nat.le_of_ble_eq_true rfl) ?_
  intro p l e R s m args below meth c Q D h dA ls hx hb hml hRf hRl hts hown hK hI hM hl hret
  have hl : lv_has ls 3 [(0, .ref (h 0)), (1, .int (nI 3)), (2, .int x)] := hl
  refine lv_iload_n hx hb dX6_knowsIn_0 rfl (lv_at hl 1 rfl) ?_
  refine lv_if_ne (tgt := 17) hx hb dX6_knowsIn_1 (by decide) (fun _ => ?_) (fun q => absurd q (by decide))
  refine lv_iload_n hx hb dX6_knowsIn_17 rfl (lv_at hl 1 rfl) ?_
  refine lv_iconst (v := nI 3) hx hb dX6_knowsIn_18 (by decide) ?_
  refine lv_icmp_ne (tgt := 36) hx hb dX6_knowsIn_19 (by decide) (fun q => absurd q (by decide)) (fun _ => ?_)
  refine lv_aload_n hx hb dX6_knowsIn_22 rfl (lv_at hl 0 rfl) ?_
  refine lv_bipush (v := nI 40) hx hb dX6_knowsIn_23 (by decide) ?_
  refine md_callV (y := yX6_ran) hx hb hml hown hts hK hI hM (met_ran F A T t 40 (by omega)) q1761 q1763 qs56 q1764 ndX6_ran rfl (by rw [hRf]; decide) (by rw [hRl]; decide) hl.1 rfl (Nat.le_of_ble_eq_true rfl) dX6_knowsIn_25 (fun H locs hM => ?_)
  refine lv_aload_n hx hb dX6_knowsIn_28 rfl (lv_at hl 0 rfl) ?_
  refine lv_iconst (v := nI 0) hx hb dX6_knowsIn_29 (by decide) ?_
  refine lv_iload_n hx hb dX6_knowsIn_30 rfl (lv_at hl 2 rfl) ?_
  refine md_callI (y := yX6_knowsIn) hx hb hml hown hts hK hI hM (met_knowsIn_0_3 F A (upd T t (nI 40)) (t + 1) hVK x (by omega)) q1769 q1771 qs58 q1772 ndX6_knowsIn rfl (by rw [hRf]; decide) (by rw [hRl]; decide) hl.1 rfl (Nat.le_of_ble_eq_true rfl) dX6_knowsIn_31 (fun H locs hM => ?_)
  refine lv_ineg hx hb dX6_knowsIn_34 ?_
  exact hret hM (rfl) dX6_knowsIn_35
set_option maxHeartbeats 400000 in
theorem met_eatsIn_0_3 (F : Nat → Int32) (A : Nat → Nat → Int32) (T : Nat → Int32) (t : Nat) (hVK : F 25 = nI 3) (x : Int32) (ht : t + 2 ≤ 40) : MdF yX6_eatsIn cX6_eatsIn 4 (some .int) 3 65 [.int (nI 0), .int x] (upd F 24 (nI t)) (va_up A 14 T) (some (.int ((x + (F 26)) * (nI 2)))) (upd F 24 (nI (t + 1 + 1))) (va_up A 14 (upd (upd T t (nI 11)) (t + 1) (nI 10))) := by
  refine MdF.ofI (by decide) rfl (Nat.le_of_ble_eq_true rfl) ?_
  intro p l e R s m args below meth c Q D h dA ls hx hb hml hRf hRl hts hown hK hI hM hl hret
  have hl : lv_has ls 4 [(0, .ref (h 0)), (1, .int (nI 0)), (2, .int x)] := hl
  refine lv_iload_n hx hb dX6_eatsIn_0 rfl (lv_at hl 1 rfl) ?_
  refine lv_if_ne (tgt := 22) hx hb dX6_eatsIn_1 (by decide) (fun q => absurd q (by decide)) (fun _ => ?_)
  refine lv_aload_n hx hb dX6_eatsIn_4 rfl (lv_at hl 0 rfl) ?_
  refine lv_bipush (v := nI 11) hx hb dX6_eatsIn_5 (by decide) ?_
  refine md_callV (y := yX6_ran) hx hb hml hown hts hK hI hM (met_ran F A T t 11 (by omega)) q1761 q1763 qs56 q1764 ndX6_ran rfl (by rw [hRf]; decide) (by rw [hRl]; decide) hl.1 rfl (Nat.le_of_ble_eq_true rfl) dX6_eatsIn_7 (fun H locs hM => ?_)
  refine lv_aload_n hx hb dX6_eatsIn_10 rfl (lv_at hl 0 rfl) ?_
  refine lv_aload_n hx hb dX6_eatsIn_11 rfl (lv_at hl 0 rfl) ?_
  refine md_get (v := .int (F 25)) hx hb hts hown hK hM 25 (by decide) q1415 rfl rfl dX6_eatsIn_12 ?_
  refine w_top (nI 3) (hVK) ?_
  refine lv_iload_n hx hb dX6_eatsIn_15 rfl (lv_at hl 2 rfl) ?_
  refine md_callI (y := yX6_wantsIn) hx hb hml hown hts hK hI hM (met_wantsIn_3_3 F A (upd T t (nI 11)) (t + 1) hVK x (by omega)) q1757 q1759 qs55 q1760 ndX6_wantsIn rfl (by rw [hRf]; decide) (by rw [hRl]; decide) hl.1 rfl (Nat.le_of_ble_eq_true rfl) dX6_eatsIn_16 (fun H locs hM => ?_)
  refine lv_iconst (v := nI 2) hx hb dX6_eatsIn_19 (by decide) ?_
  refine lv_imul hx hb dX6_eatsIn_20 ?_
  exact hret hM (rfl) dX6_eatsIn_21
set_option maxHeartbeats 400000 in
theorem met_eatsIn_3_3 (F : Nat → Int32) (A : Nat → Nat → Int32) (T : Nat → Int32) (t : Nat) (hVK : F 25 = nI 3) (x : Int32) (ht : t + 2 ≤ 40) : MdF yX6_eatsIn cX6_eatsIn 4 (some .int) 4 88 [.int (nI 3), .int x] (upd F 24 (nI t)) (va_up A 14 T) (some (.int ((x + (F 26)) * (nI 2)))) (upd F 24 (nI (t + 1 + 1))) (va_up A 14 (upd (upd T t (nI 11)) (t + 1) (nI 10))) := by
  refine MdF.ofI (by decide) rfl (Nat.le_of_ble_eq_true rfl) ?_
  intro p l e R s m args below meth c Q D h dA ls hx hb hml hRf hRl hts hown hK hI hM hl hret
  have hl : lv_has ls 4 [(0, .ref (h 0)), (1, .int (nI 3)), (2, .int x)] := hl
  refine lv_iload_n hx hb dX6_eatsIn_0 rfl (lv_at hl 1 rfl) ?_
  refine lv_if_ne (tgt := 22) hx hb dX6_eatsIn_1 (by decide) (fun _ => ?_) (fun q => absurd q (by decide))
  refine lv_iload_n hx hb dX6_eatsIn_22 rfl (lv_at hl 1 rfl) ?_
  refine lv_iconst (v := nI 1) hx hb dX6_eatsIn_23 (by decide) ?_
  refine lv_icmp_ne (tgt := 52) hx hb dX6_eatsIn_24 (by decide) (fun _ => ?_) (fun q => absurd q (by decide))
  refine lv_iload_n hx hb dX6_eatsIn_52 rfl (lv_at hl 1 rfl) ?_
  refine lv_iconst (v := nI 4) hx hb dX6_eatsIn_53 (by decide) ?_
  refine lv_icmp_ne (tgt := 72) hx hb dX6_eatsIn_54 (by decide) (fun _ => ?_) (fun q => absurd q (by decide))
  refine lv_aload_n hx hb dX6_eatsIn_72 rfl (lv_at hl 0 rfl) ?_
  refine lv_iload_n hx hb dX6_eatsIn_73 rfl (lv_at hl 1 rfl) ?_
  refine st_callI (y := yX6_above) hx hb hml hown hts (met_above (nI 3)) q1614 q1615 q70 q1616 ndX6_above rfl (by rw [hRf]; decide) (by rw [hRl]; decide) ⟨Nat.zero_le _, Nat.zero_le _⟩ hl.1 rfl (Nat.le_of_ble_eq_true rfl) dX6_eatsIn_74 ?_
  refine w_top (nI 0) (by decide) ?_
  refine lv_iload_n hx hb dX6_eatsIn_77 rfl (lv_at hl 2 rfl) ?_
  refine md_callI (y := yX6_eatsIn) hx hb hml hown hts hK hI hM (met_eatsIn_0_3 F A T t hVK x (by omega)) q1765 q1767 qs57 q1768 ndX6_eatsIn rfl (by rw [hRf]; decide) (by rw [hRl]; decide) hl.1 rfl (Nat.le_of_ble_eq_true rfl) dX6_eatsIn_78 (fun H locs hM => ?_)
  exact hret hM (rfl) dX6_eatsIn_81
set_option maxHeartbeats 400000 in
theorem met_tellsIn_0_3 (F : Nat → Int32) (A : Nat → Nat → Int32) (T : Nat → Int32) (t : Nat) (hVK : F 25 = nI 3) (x : Int32) (ht : t + 5 ≤ 40) : MdF yX6_tellsIn cX6_tellsIn 4 (some .int) 5 111 [.int (nI 0), .int x] (upd F 24 (nI t)) (va_up A 14 T) (some (.int (((x + (F 26)) * (nI 2)) ^^^ (-(x - (F 27)))))) (upd F 24 (nI (t + 1 + 1 + 1 + 1 + 1))) (va_up A 14 (upd (upd (upd (upd (upd T t (nI 13)) (t + 1) (nI 11)) (t + 1 + 1) (nI 10)) (t + 1 + 1 + 1) (nI 40)) (t + 1 + 1 + 1 + 1) (nI 12))) := by
  refine MdF.ofI (by decide) rfl (Nat.le_of_ble_eq_true rfl) ?_
  intro p l e R s m args below meth c Q D h dA ls hx hb hml hRf hRl hts hown hK hI hM hl hret
  have hl : lv_has ls 4 [(0, .ref (h 0)), (1, .int (nI 0)), (2, .int x)] := hl
  refine lv_iload_n hx hb dX6_tellsIn_0 rfl (lv_at hl 1 rfl) ?_
  refine lv_if_ne (tgt := 32) hx hb dX6_tellsIn_1 (by decide) (fun q => absurd q (by decide)) (fun _ => ?_)
  refine lv_aload_n hx hb dX6_tellsIn_4 rfl (lv_at hl 0 rfl) ?_
  refine lv_bipush (v := nI 13) hx hb dX6_tellsIn_5 (by decide) ?_
  refine md_callV (y := yX6_ran) hx hb hml hown hts hK hI hM (met_ran F A T t 13 (by omega)) q1761 q1763 qs56 q1764 ndX6_ran rfl (by rw [hRf]; decide) (by rw [hRl]; decide) hl.1 rfl (Nat.le_of_ble_eq_true rfl) dX6_tellsIn_7 (fun H locs hM => ?_)
  refine lv_aload_n hx hb dX6_tellsIn_10 rfl (lv_at hl 0 rfl) ?_
  refine lv_aload_n hx hb dX6_tellsIn_11 rfl (lv_at hl 0 rfl) ?_
  refine md_get (v := .int (F 25)) hx hb hts hown hK hM 25 (by decide) q1415 rfl rfl dX6_tellsIn_12 ?_
  refine w_top (nI 3) (hVK) ?_
  refine lv_iload_n hx hb dX6_tellsIn_15 rfl (lv_at hl 2 rfl) ?_
  refine md_callI (y := yX6_eatsIn) hx hb hml hown hts hK hI hM (met_eatsIn_3_3 F A (upd T t (nI 13)) (t + 1) hVK x (by omega)) q1765 q1767 qs57 q1768 ndX6_eatsIn rfl (by rw [hRf]; decide) (by rw [hRl]; decide) hl.1 rfl (Nat.le_of_ble_eq_true rfl) dX6_tellsIn_16 (fun H locs hM => ?_)
  refine lv_istore_n (lv' := [(3, .int ((x + (F 26)) * (nI 2))), (0, .ref (h 0)), (1, .int (nI 0)), (2, .int x)]) hx hb dX6_tellsIn_19 rfl hl (by decide) rfl (fun ls hl => ?_)
  refine lv_iload_n hx hb dX6_tellsIn_20 rfl (lv_at hl 0 rfl) ?_
  refine lv_aload_n hx hb dX6_tellsIn_21 rfl (lv_at hl 1 rfl) ?_
  refine lv_aload_n hx hb dX6_tellsIn_22 rfl (lv_at hl 1 rfl) ?_
  refine md_get (v := .int (F 25)) hx hb hts hown hK hM 25 (by decide) q1415 rfl rfl dX6_tellsIn_23 ?_
  refine w_top (nI 3) (hVK) ?_
  refine lv_iload_n hx hb dX6_tellsIn_26 rfl (lv_at hl 3 rfl) ?_
  refine md_callI (y := yX6_knowsIn) hx hb hml hown hts hK hI hM (met_knowsIn_3_3 F A (upd (upd (upd T t (nI 13)) (t + 1) (nI 11)) (t + 1 + 1) (nI 10)) (t + 1 + 1 + 1) hVK x (by omega)) q1769 q1771 qs58 q1772 ndX6_knowsIn rfl (by rw [hRf]; decide) (by rw [hRl]; decide) hl.1 rfl (Nat.le_of_ble_eq_true rfl) dX6_tellsIn_27 (fun H locs hM => ?_)
  refine lv_ixor hx hb dX6_tellsIn_30 ?_
  exact hret hM (rfl) dX6_tellsIn_31
set_option maxHeartbeats 400000 in
theorem met_tellsIn_3_3 (F : Nat → Int32) (A : Nat → Nat → Int32) (T : Nat → Int32) (t : Nat) (hVK : F 25 = nI 3) (x : Int32) (ht : t + 5 ≤ 40) : MdF yX6_tellsIn cX6_tellsIn 4 (some .int) 6 134 [.int (nI 3), .int x] (upd F 24 (nI t)) (va_up A 14 T) (some (.int (((x + (F 26)) * (nI 2)) ^^^ (-(x - (F 27)))))) (upd F 24 (nI (t + 1 + 1 + 1 + 1 + 1))) (va_up A 14 (upd (upd (upd (upd (upd T t (nI 13)) (t + 1) (nI 11)) (t + 1 + 1) (nI 10)) (t + 1 + 1 + 1) (nI 40)) (t + 1 + 1 + 1 + 1) (nI 12))) := by
  refine MdF.ofI (by decide) rfl (Nat.le_of_ble_eq_true rfl) ?_
  intro p l e R s m args below meth c Q D h dA ls hx hb hml hRf hRl hts hown hK hI hM hl hret
  have hl : lv_has ls 4 [(0, .ref (h 0)), (1, .int (nI 3)), (2, .int x)] := hl
  refine lv_iload_n hx hb dX6_tellsIn_0 rfl (lv_at hl 1 rfl) ?_
  refine lv_if_ne (tgt := 32) hx hb dX6_tellsIn_1 (by decide) (fun _ => ?_) (fun q => absurd q (by decide))
  refine lv_iload_n hx hb dX6_tellsIn_32 rfl (lv_at hl 1 rfl) ?_
  refine lv_bipush (v := nI 6) hx hb dX6_tellsIn_33 (by decide) ?_
  refine lv_icmp_ne (tgt := 63) hx hb dX6_tellsIn_35 (by decide) (fun _ => ?_) (fun q => absurd q (by decide))
  refine lv_iload_n hx hb dX6_tellsIn_63 rfl (lv_at hl 1 rfl) ?_
  refine lv_iconst (v := nI 5) hx hb dX6_tellsIn_64 (by decide) ?_
  refine lv_icmp_ne (tgt := 93) hx hb dX6_tellsIn_65 (by decide) (fun _ => ?_) (fun q => absurd q (by decide))
  refine lv_aload_n hx hb dX6_tellsIn_93 rfl (lv_at hl 0 rfl) ?_
  refine lv_iload_n hx hb dX6_tellsIn_94 rfl (lv_at hl 1 rfl) ?_
  refine st_callI (y := yX6_above) hx hb hml hown hts (met_above (nI 3)) q1614 q1615 q70 q1616 ndX6_above rfl (by rw [hRf]; decide) (by rw [hRl]; decide) ⟨Nat.zero_le _, Nat.zero_le _⟩ hl.1 rfl (Nat.le_of_ble_eq_true rfl) dX6_tellsIn_95 ?_
  refine w_top (nI 0) (by decide) ?_
  refine lv_iload_n hx hb dX6_tellsIn_98 rfl (lv_at hl 2 rfl) ?_
  refine md_callI (y := yX6_tellsIn) hx hb hml hown hts hK hI hM (met_tellsIn_0_3 F A T t hVK x (by omega)) q1773 q1775 qs59 q1776 ndX6_tellsIn rfl (by rw [hRf]; decide) (by rw [hRl]; decide) hl.1 rfl (Nat.le_of_ble_eq_true rfl) dX6_tellsIn_99 (fun H locs hM => ?_)
  exact hret hM (rfl) dX6_tellsIn_102
set_option maxHeartbeats 400000 in
theorem met_wantsIn_0_4 (F : Nat → Int32) (A : Nat → Nat → Int32) (T : Nat → Int32) (t : Nat) (hVK : F 25 = nI 4) (x : Int32) (ht : t + 1 ≤ 40) : MdF yX6_wantsIn cX6_wantsIn 3 (some .int) 1 21 [.int (nI 0), .int x] (upd F 24 (nI t)) (va_up A 14 T) (some (.int (x + (F 26)))) (upd F 24 (nI (t + 1))) (va_up A 14 (upd T t (nI 10))) := by
  refine MdF.ofI (by decide) rfl (Nat.le_of_ble_eq_true rfl) ?_
  intro p l e R s m args below meth c Q D h dA ls hx hb hml hRf hRl hts hown hK hI hM hl hret
  have hl : lv_has ls 3 [(0, .ref (h 0)), (1, .int (nI 0)), (2, .int x)] := hl
  refine lv_iload_n hx hb dX6_wantsIn_0 rfl (lv_at hl 1 rfl) ?_
  refine lv_if_ne (tgt := 17) hx hb dX6_wantsIn_1 (by decide) (fun q => absurd q (by decide)) (fun _ => ?_)
  refine lv_aload_n hx hb dX6_wantsIn_4 rfl (lv_at hl 0 rfl) ?_
  refine lv_bipush (v := nI 10) hx hb dX6_wantsIn_5 (by decide) ?_
  refine md_callV (y := yX6_ran) hx hb hml hown hts hK hI hM (met_ran F A T t 10 (by omega)) q1761 q1763 qs56 q1764 ndX6_ran rfl (by rw [hRf]; decide) (by rw [hRl]; decide) hl.1 rfl (Nat.le_of_ble_eq_true rfl) dX6_wantsIn_7 (fun H locs hM => ?_)
  refine lv_iload_n hx hb dX6_wantsIn_10 rfl (lv_at hl 2 rfl) ?_
  refine lv_aload_n hx hb dX6_wantsIn_11 rfl (lv_at hl 0 rfl) ?_
  refine md_get (v := .int (F 26)) hx hb hts hown hK hM 26 (by decide) q1416 rfl rfl dX6_wantsIn_12 ?_
  refine lv_iadd hx hb dX6_wantsIn_15 ?_
  exact hret hM (rfl) dX6_wantsIn_16
set_option maxHeartbeats 400000 in
theorem met_wantsIn_1_4 (F : Nat → Int32) (A : Nat → Nat → Int32) (T : Nat → Int32) (t : Nat) (hVK : F 25 = nI 4) (x : Int32) (ht : t + 1 ≤ 40) : MdF yX6_wantsIn cX6_wantsIn 3 (some .int) 2 43 [.int (nI 1), .int x] (upd F 24 (nI t)) (va_up A 14 T) (some (.int (x + (F 26)))) (upd F 24 (nI (t + 1))) (va_up A 14 (upd T t (nI 10))) := by
  refine MdF.ofI (by decide) rfl (Nat.le_of_ble_eq_true rfl) ?_
  intro p l e R s m args below meth c Q D h dA ls hx hb hml hRf hRl hts hown hK hI hM hl hret
  have hl : lv_has ls 3 [(0, .ref (h 0)), (1, .int (nI 1)), (2, .int x)] := hl
  refine lv_iload_n hx hb dX6_wantsIn_0 rfl (lv_at hl 1 rfl) ?_
  refine lv_if_ne (tgt := 17) hx hb dX6_wantsIn_1 (by decide) (fun _ => ?_) (fun q => absurd q (by decide))
  refine lv_iload_n hx hb dX6_wantsIn_17 rfl (lv_at hl 1 rfl) ?_
  refine lv_iconst (v := nI 2) hx hb dX6_wantsIn_18 (by decide) ?_
  refine lv_icmp_ne (tgt := 37) hx hb dX6_wantsIn_19 (by decide) (fun _ => ?_) (fun q => absurd q (by decide))
  refine lv_aload_n hx hb dX6_wantsIn_37 rfl (lv_at hl 0 rfl) ?_
  refine lv_iload_n hx hb dX6_wantsIn_38 rfl (lv_at hl 1 rfl) ?_
  refine st_callI (y := yX6_above) hx hb hml hown hts (met_above (nI 1)) q1614 q1615 q70 q1616 ndX6_above rfl (by rw [hRf]; decide) (by rw [hRl]; decide) ⟨Nat.zero_le _, Nat.zero_le _⟩ hl.1 rfl (Nat.le_of_ble_eq_true rfl) dX6_wantsIn_39 ?_
  refine w_top (nI 0) (by decide) ?_
  refine lv_iload_n hx hb dX6_wantsIn_42 rfl (lv_at hl 2 rfl) ?_
  refine md_callI (y := yX6_wantsIn) hx hb hml hown hts hK hI hM (met_wantsIn_0_4 F A T t hVK x (by omega)) q1757 q1759 qs55 q1760 ndX6_wantsIn rfl (by rw [hRf]; decide) (by rw [hRl]; decide) hl.1 rfl (Nat.le_of_ble_eq_true rfl) dX6_wantsIn_43 (fun H locs hM => ?_)
  exact hret hM (rfl) dX6_wantsIn_46
set_option maxHeartbeats 400000 in
theorem met_wantsIn_4_4 (F : Nat → Int32) (A : Nat → Nat → Int32) (T : Nat → Int32) (t : Nat) (hVK : F 25 = nI 4) (x : Int32) (ht : t + 1 ≤ 40) : MdF yX6_wantsIn cX6_wantsIn 3 (some .int) 3 65 [.int (nI 4), .int x] (upd F 24 (nI t)) (va_up A 14 T) (some (.int (x + (F 26)))) (upd F 24 (nI (t + 1))) (va_up A 14 (upd T t (nI 10))) := by
  refine MdF.ofI (by decide) rfl (Nat.le_of_ble_eq_true rfl) ?_
  intro p l e R s m args below meth c Q D h dA ls hx hb hml hRf hRl hts hown hK hI hM hl hret
  have hl : lv_has ls 3 [(0, .ref (h 0)), (1, .int (nI 4)), (2, .int x)] := hl
  refine lv_iload_n hx hb dX6_wantsIn_0 rfl (lv_at hl 1 rfl) ?_
  refine lv_if_ne (tgt := 17) hx hb dX6_wantsIn_1 (by decide) (fun _ => ?_) (fun q => absurd q (by decide))
  refine lv_iload_n hx hb dX6_wantsIn_17 rfl (lv_at hl 1 rfl) ?_
  refine lv_iconst (v := nI 2) hx hb dX6_wantsIn_18 (by decide) ?_
  refine lv_icmp_ne (tgt := 37) hx hb dX6_wantsIn_19 (by decide) (fun _ => ?_) (fun q => absurd q (by decide))
  refine lv_aload_n hx hb dX6_wantsIn_37 rfl (lv_at hl 0 rfl) ?_
  refine lv_iload_n hx hb dX6_wantsIn_38 rfl (lv_at hl 1 rfl) ?_
  refine st_callI (y := yX6_above) hx hb hml hown hts (met_above (nI 4)) q1614 q1615 q70 q1616 ndX6_above rfl (by rw [hRf]; decide) (by rw [hRl]; decide) ⟨Nat.zero_le _, Nat.zero_le _⟩ hl.1 rfl (Nat.le_of_ble_eq_true rfl) dX6_wantsIn_39 ?_
  refine w_top (nI 1) (by decide) ?_
  refine lv_iload_n hx hb dX6_wantsIn_42 rfl (lv_at hl 2 rfl) ?_
  refine md_callI (y := yX6_wantsIn) hx hb hml hown hts hK hI hM (met_wantsIn_1_4 F A T t hVK x (by omega)) q1757 q1759 qs55 q1760 ndX6_wantsIn rfl (by rw [hRf]; decide) (by rw [hRl]; decide) hl.1 rfl (Nat.le_of_ble_eq_true rfl) dX6_wantsIn_43 (fun H locs hM => ?_)
  exact hret hM (rfl) dX6_wantsIn_46
set_option maxHeartbeats 400000 in
theorem met_knowsIn_0_4 (F : Nat → Int32) (A : Nat → Nat → Int32) (T : Nat → Int32) (t : Nat) (hVK : F 25 = nI 4) (x : Int32) (ht : t + 1 ≤ 40) : MdF yX6_knowsIn cX6_knowsIn 3 (some .int) 1 21 [.int (nI 0), .int x] (upd F 24 (nI t)) (va_up A 14 T) (some (.int (x - (F 27)))) (upd F 24 (nI (t + 1))) (va_up A 14 (upd T t (nI 12))) := by
  refine MdF.ofI (by decide) rfl (Nat.le_of_ble_eq_true rfl) ?_
  intro p l e R s m args below meth c Q D h dA ls hx hb hml hRf hRl hts hown hK hI hM hl hret
  have hl : lv_has ls 3 [(0, .ref (h 0)), (1, .int (nI 0)), (2, .int x)] := hl
  refine lv_iload_n hx hb dX6_knowsIn_0 rfl (lv_at hl 1 rfl) ?_
  refine lv_if_ne (tgt := 17) hx hb dX6_knowsIn_1 (by decide) (fun q => absurd q (by decide)) (fun _ => ?_)
  refine lv_aload_n hx hb dX6_knowsIn_4 rfl (lv_at hl 0 rfl) ?_
  refine lv_bipush (v := nI 12) hx hb dX6_knowsIn_5 (by decide) ?_
  refine md_callV (y := yX6_ran) hx hb hml hown hts hK hI hM (met_ran F A T t 12 (by omega)) q1761 q1763 qs56 q1764 ndX6_ran rfl (by rw [hRf]; decide) (by rw [hRl]; decide) hl.1 rfl (Nat.le_of_ble_eq_true rfl) dX6_knowsIn_7 (fun H locs hM => ?_)
  refine lv_iload_n hx hb dX6_knowsIn_10 rfl (lv_at hl 2 rfl) ?_
  refine lv_aload_n hx hb dX6_knowsIn_11 rfl (lv_at hl 0 rfl) ?_
  refine md_get (v := .int (F 27)) hx hb hts hown hK hM 27 (by decide) q1417 rfl rfl dX6_knowsIn_12 ?_
  refine lv_isub hx hb dX6_knowsIn_15 ?_
  exact hret hM (rfl) dX6_knowsIn_16
set_option maxHeartbeats 400000 in
theorem met_knowsIn_1_4 (F : Nat → Int32) (A : Nat → Nat → Int32) (T : Nat → Int32) (t : Nat) (hVK : F 25 = nI 4) (x : Int32) (ht : t + 1 ≤ 40) : MdF yX6_knowsIn cX6_knowsIn 3 (some .int) 2 43 [.int (nI 1), .int x] (upd F 24 (nI t)) (va_up A 14 T) (some (.int (x - (F 27)))) (upd F 24 (nI (t + 1))) (va_up A 14 (upd T t (nI 12))) := by
  refine MdF.ofI (by decide) rfl (Nat.le_of_ble_eq_true rfl) ?_
  intro p l e R s m args below meth c Q D h dA ls hx hb hml hRf hRl hts hown hK hI hM hl hret
  have hl : lv_has ls 3 [(0, .ref (h 0)), (1, .int (nI 1)), (2, .int x)] := hl
  refine lv_iload_n hx hb dX6_knowsIn_0 rfl (lv_at hl 1 rfl) ?_
  refine lv_if_ne (tgt := 17) hx hb dX6_knowsIn_1 (by decide) (fun _ => ?_) (fun q => absurd q (by decide))
  refine lv_iload_n hx hb dX6_knowsIn_17 rfl (lv_at hl 1 rfl) ?_
  refine lv_iconst (v := nI 3) hx hb dX6_knowsIn_18 (by decide) ?_
  refine lv_icmp_ne (tgt := 36) hx hb dX6_knowsIn_19 (by decide) (fun _ => ?_) (fun q => absurd q (by decide))
  refine lv_iload_n hx hb dX6_knowsIn_36 rfl (lv_at hl 1 rfl) ?_
  refine lv_bipush (v := nI 6) hx hb dX6_knowsIn_37 (by decide) ?_
  refine lv_icmp_ne (tgt := 60) hx hb dX6_knowsIn_39 (by decide) (fun _ => ?_) (fun q => absurd q (by decide))
  refine lv_aload_n hx hb dX6_knowsIn_60 rfl (lv_at hl 0 rfl) ?_
  refine lv_iload_n hx hb dX6_knowsIn_61 rfl (lv_at hl 1 rfl) ?_
  refine st_callI (y := yX6_above) hx hb hml hown hts (met_above (nI 1)) q1614 q1615 q70 q1616 ndX6_above rfl (by rw [hRf]; decide) (by rw [hRl]; decide) ⟨Nat.zero_le _, Nat.zero_le _⟩ hl.1 rfl (Nat.le_of_ble_eq_true rfl) dX6_knowsIn_62 ?_
  refine w_top (nI 0) (by decide) ?_
  refine lv_iload_n hx hb dX6_knowsIn_65 rfl (lv_at hl 2 rfl) ?_
  refine md_callI (y := yX6_knowsIn) hx hb hml hown hts hK hI hM (met_knowsIn_0_4 F A T t hVK x (by omega)) q1769 q1771 qs58 q1772 ndX6_knowsIn rfl (by rw [hRf]; decide) (by rw [hRl]; decide) hl.1 rfl (Nat.le_of_ble_eq_true rfl) dX6_knowsIn_66 (fun H locs hM => ?_)
  exact hret hM (rfl) dX6_knowsIn_69
set_option maxHeartbeats 400000 in
theorem met_knowsIn_4_4 (F : Nat → Int32) (A : Nat → Nat → Int32) (T : Nat → Int32) (t : Nat) (hVK : F 25 = nI 4) (x : Int32) (ht : t + 1 ≤ 40) : MdF yX6_knowsIn cX6_knowsIn 3 (some .int) 3 65 [.int (nI 4), .int x] (upd F 24 (nI t)) (va_up A 14 T) (some (.int (x - (F 27)))) (upd F 24 (nI (t + 1))) (va_up A 14 (upd T t (nI 12))) := by
  refine MdF.ofI (by decide) rfl (Nat.le_of_ble_eq_true rfl) ?_
  intro p l e R s m args below meth c Q D h dA ls hx hb hml hRf hRl hts hown hK hI hM hl hret
  have hl : lv_has ls 3 [(0, .ref (h 0)), (1, .int (nI 4)), (2, .int x)] := hl
  refine lv_iload_n hx hb dX6_knowsIn_0 rfl (lv_at hl 1 rfl) ?_
  refine lv_if_ne (tgt := 17) hx hb dX6_knowsIn_1 (by decide) (fun _ => ?_) (fun q => absurd q (by decide))
  refine lv_iload_n hx hb dX6_knowsIn_17 rfl (lv_at hl 1 rfl) ?_
  refine lv_iconst (v := nI 3) hx hb dX6_knowsIn_18 (by decide) ?_
  refine lv_icmp_ne (tgt := 36) hx hb dX6_knowsIn_19 (by decide) (fun _ => ?_) (fun q => absurd q (by decide))
  refine lv_iload_n hx hb dX6_knowsIn_36 rfl (lv_at hl 1 rfl) ?_
  refine lv_bipush (v := nI 6) hx hb dX6_knowsIn_37 (by decide) ?_
  refine lv_icmp_ne (tgt := 60) hx hb dX6_knowsIn_39 (by decide) (fun _ => ?_) (fun q => absurd q (by decide))
  refine lv_aload_n hx hb dX6_knowsIn_60 rfl (lv_at hl 0 rfl) ?_
  refine lv_iload_n hx hb dX6_knowsIn_61 rfl (lv_at hl 1 rfl) ?_
  refine st_callI (y := yX6_above) hx hb hml hown hts (met_above (nI 4)) q1614 q1615 q70 q1616 ndX6_above rfl (by rw [hRf]; decide) (by rw [hRl]; decide) ⟨Nat.zero_le _, Nat.zero_le _⟩ hl.1 rfl (Nat.le_of_ble_eq_true rfl) dX6_knowsIn_62 ?_
  refine w_top (nI 1) (by decide) ?_
  refine lv_iload_n hx hb dX6_knowsIn_65 rfl (lv_at hl 2 rfl) ?_
  refine md_callI (y := yX6_knowsIn) hx hb hml hown hts hK hI hM (met_knowsIn_1_4 F A T t hVK x (by omega)) q1769 q1771 qs58 q1772 ndX6_knowsIn rfl (by rw [hRf]; decide) (by rw [hRl]; decide) hl.1 rfl (Nat.le_of_ble_eq_true rfl) dX6_knowsIn_66 (fun H locs hM => ?_)
  exact hret hM (rfl) dX6_knowsIn_69
set_option maxHeartbeats 400000 in
theorem met_eatsIn_0_4 (F : Nat → Int32) (A : Nat → Nat → Int32) (T : Nat → Int32) (t : Nat) (hVK : F 25 = nI 4) (x : Int32) (ht : t + 2 ≤ 40) : MdF yX6_eatsIn cX6_eatsIn 4 (some .int) 4 87 [.int (nI 0), .int x] (upd F 24 (nI t)) (va_up A 14 T) (some (.int ((x + (F 26)) * (nI 2)))) (upd F 24 (nI (t + 1 + 1))) (va_up A 14 (upd (upd T t (nI 11)) (t + 1) (nI 10))) := by
  refine MdF.ofI (by decide) rfl (Nat.le_of_ble_eq_true rfl) ?_
  intro p l e R s m args below meth c Q D h dA ls hx hb hml hRf hRl hts hown hK hI hM hl hret
  have hl : lv_has ls 4 [(0, .ref (h 0)), (1, .int (nI 0)), (2, .int x)] := hl
  refine lv_iload_n hx hb dX6_eatsIn_0 rfl (lv_at hl 1 rfl) ?_
  refine lv_if_ne (tgt := 22) hx hb dX6_eatsIn_1 (by decide) (fun q => absurd q (by decide)) (fun _ => ?_)
  refine lv_aload_n hx hb dX6_eatsIn_4 rfl (lv_at hl 0 rfl) ?_
  refine lv_bipush (v := nI 11) hx hb dX6_eatsIn_5 (by decide) ?_
  refine md_callV (y := yX6_ran) hx hb hml hown hts hK hI hM (met_ran F A T t 11 (by omega)) q1761 q1763 qs56 q1764 ndX6_ran rfl (by rw [hRf]; decide) (by rw [hRl]; decide) hl.1 rfl (Nat.le_of_ble_eq_true rfl) dX6_eatsIn_7 (fun H locs hM => ?_)
  refine lv_aload_n hx hb dX6_eatsIn_10 rfl (lv_at hl 0 rfl) ?_
  refine lv_aload_n hx hb dX6_eatsIn_11 rfl (lv_at hl 0 rfl) ?_
  refine md_get (v := .int (F 25)) hx hb hts hown hK hM 25 (by decide) q1415 rfl rfl dX6_eatsIn_12 ?_
  refine w_top (nI 4) (hVK) ?_
  refine lv_iload_n hx hb dX6_eatsIn_15 rfl (lv_at hl 2 rfl) ?_
  refine md_callI (y := yX6_wantsIn) hx hb hml hown hts hK hI hM (met_wantsIn_4_4 F A (upd T t (nI 11)) (t + 1) hVK x (by omega)) q1757 q1759 qs55 q1760 ndX6_wantsIn rfl (by rw [hRf]; decide) (by rw [hRl]; decide) hl.1 rfl (Nat.le_of_ble_eq_true rfl) dX6_eatsIn_16 (fun H locs hM => ?_)
  refine lv_iconst (v := nI 2) hx hb dX6_eatsIn_19 (by decide) ?_
  refine lv_imul hx hb dX6_eatsIn_20 ?_
  exact hret hM (rfl) dX6_eatsIn_21
set_option maxHeartbeats 400000 in
theorem met_eatsIn_1_4 (F : Nat → Int32) (A : Nat → Nat → Int32) (T : Nat → Int32) (t : Nat) (hVK : F 25 = nI 4) (x : Int32) (ht : t + 4 ≤ 40) : MdF yX6_eatsIn cX6_eatsIn 4 (some .int) 5 110 [.int (nI 1), .int x] (upd F 24 (nI t)) (va_up A 14 T) (some (.int (((x + (F 26)) * (nI 2)) - ((nI 1) - (F 27))))) (upd F 24 (nI (t + 1 + 1 + 1 + 1))) (va_up A 14 (upd (upd (upd (upd T t (nI 20)) (t + 1) (nI 11)) (t + 1 + 1) (nI 10)) (t + 1 + 1 + 1) (nI 12))) := by
  refine MdF.ofI (by decide) rfl (Nat.le_of_ble_eq_true rfl) ?_
  intro p l e R s m args below meth c Q D h dA ls hx hb hml hRf hRl hts hown hK hI hM hl hret
  have hl : lv_has ls 4 [(0, .ref (h 0)), (1, .int (nI 1)), (2, .int x)] := hl
  refine lv_iload_n hx hb dX6_eatsIn_0 rfl (lv_at hl 1 rfl) ?_
  refine lv_if_ne (tgt := 22) hx hb dX6_eatsIn_1 (by decide) (fun _ => ?_) (fun q => absurd q (by decide))
  refine lv_iload_n hx hb dX6_eatsIn_22 rfl (lv_at hl 1 rfl) ?_
  refine lv_iconst (v := nI 1) hx hb dX6_eatsIn_23 (by decide) ?_
  refine lv_icmp_ne (tgt := 52) hx hb dX6_eatsIn_24 (by decide) (fun q => absurd q (by decide)) (fun _ => ?_)
  refine lv_aload_n hx hb dX6_eatsIn_27 rfl (lv_at hl 0 rfl) ?_
  refine lv_bipush (v := nI 20) hx hb dX6_eatsIn_28 (by decide) ?_
  refine md_callV (y := yX6_ran) hx hb hml hown hts hK hI hM (met_ran F A T t 20 (by omega)) q1761 q1763 qs56 q1764 ndX6_ran rfl (by rw [hRf]; decide) (by rw [hRl]; decide) hl.1 rfl (Nat.le_of_ble_eq_true rfl) dX6_eatsIn_30 (fun H locs hM => ?_)
  refine lv_aload_n hx hb dX6_eatsIn_33 rfl (lv_at hl 0 rfl) ?_
  refine lv_iconst (v := nI 0) hx hb dX6_eatsIn_34 (by decide) ?_
  refine lv_iload_n hx hb dX6_eatsIn_35 rfl (lv_at hl 2 rfl) ?_
  refine md_callI (y := yX6_eatsIn) hx hb hml hown hts hK hI hM (met_eatsIn_0_4 F A (upd T t (nI 20)) (t + 1) hVK x (by omega)) q1765 q1767 qs57 q1768 ndX6_eatsIn rfl (by rw [hRf]; decide) (by rw [hRl]; decide) hl.1 rfl (Nat.le_of_ble_eq_true rfl) dX6_eatsIn_36 (fun H locs hM => ?_)
  refine lv_istore_n (lv' := [(3, .int ((x + (F 26)) * (nI 2))), (0, .ref (h 0)), (1, .int (nI 1)), (2, .int x)]) hx hb dX6_eatsIn_39 rfl hl (by decide) rfl (fun ls hl => ?_)
  refine lv_iload_n hx hb dX6_eatsIn_40 rfl (lv_at hl 0 rfl) ?_
  refine lv_aload_n hx hb dX6_eatsIn_41 rfl (lv_at hl 1 rfl) ?_
  refine lv_aload_n hx hb dX6_eatsIn_42 rfl (lv_at hl 1 rfl) ?_
  refine md_get (v := .int (F 25)) hx hb hts hown hK hM 25 (by decide) q1415 rfl rfl dX6_eatsIn_43 ?_
  refine w_top (nI 4) (hVK) ?_
  refine lv_iconst (v := nI 1) hx hb dX6_eatsIn_46 (by decide) ?_
  refine md_callI (y := yX6_knowsIn) hx hb hml hown hts hK hI hM (met_knowsIn_4_4 F A (upd (upd (upd T t (nI 20)) (t + 1) (nI 11)) (t + 1 + 1) (nI 10)) (t + 1 + 1 + 1) hVK (nI 1) (by omega)) q1769 q1771 qs58 q1772 ndX6_knowsIn rfl (by rw [hRf]; decide) (by rw [hRl]; decide) hl.1 rfl (Nat.le_of_ble_eq_true rfl) dX6_eatsIn_47 (fun H locs hM => ?_)
  refine lv_isub hx hb dX6_eatsIn_50 ?_
  exact hret hM (rfl) dX6_eatsIn_51
set_option maxHeartbeats 400000 in
theorem met_eatsIn_4_4 (F : Nat → Int32) (A : Nat → Nat → Int32) (T : Nat → Int32) (t : Nat) (hVK : F 25 = nI 4) (x : Int32) (ht : t + 5 ≤ 40) : MdF yX6_eatsIn cX6_eatsIn 4 (some .int) 6 133 [.int (nI 4), .int x] (upd F 24 (nI t)) (va_up A 14 T) (some (.int ((((x + (nI 1)) + (F 26)) * (nI 2)) - ((nI 1) - (F 27))))) (upd F 24 (nI (t + 1 + 1 + 1 + 1 + 1))) (va_up A 14 (upd (upd (upd (upd (upd T t (nI 50)) (t + 1) (nI 20)) (t + 1 + 1) (nI 11)) (t + 1 + 1 + 1) (nI 10)) (t + 1 + 1 + 1 + 1) (nI 12))) := by
  refine MdF.ofI (by decide) rfl (Nat.le_of_ble_eq_true rfl) ?_
  intro p l e R s m args below meth c Q D h dA ls hx hb hml hRf hRl hts hown hK hI hM hl hret
  have hl : lv_has ls 4 [(0, .ref (h 0)), (1, .int (nI 4)), (2, .int x)] := hl
  refine lv_iload_n hx hb dX6_eatsIn_0 rfl (lv_at hl 1 rfl) ?_
  refine lv_if_ne (tgt := 22) hx hb dX6_eatsIn_1 (by decide) (fun _ => ?_) (fun q => absurd q (by decide))
  refine lv_iload_n hx hb dX6_eatsIn_22 rfl (lv_at hl 1 rfl) ?_
  refine lv_iconst (v := nI 1) hx hb dX6_eatsIn_23 (by decide) ?_
  refine lv_icmp_ne (tgt := 52) hx hb dX6_eatsIn_24 (by decide) (fun _ => ?_) (fun q => absurd q (by decide))
  refine lv_iload_n hx hb dX6_eatsIn_52 rfl (lv_at hl 1 rfl) ?_
  refine lv_iconst (v := nI 4) hx hb dX6_eatsIn_53 (by decide) ?_
  refine lv_icmp_ne (tgt := 72) hx hb dX6_eatsIn_54 (by decide) (fun q => absurd q (by decide)) (fun _ => ?_)
  refine lv_aload_n hx hb dX6_eatsIn_57 rfl (lv_at hl 0 rfl) ?_
  refine lv_bipush (v := nI 50) hx hb dX6_eatsIn_58 (by decide) ?_
  refine md_callV (y := yX6_ran) hx hb hml hown hts hK hI hM (met_ran F A T t 50 (by omega)) q1761 q1763 qs56 q1764 ndX6_ran rfl (by rw [hRf]; decide) (by rw [hRl]; decide) hl.1 rfl (Nat.le_of_ble_eq_true rfl) dX6_eatsIn_60 (fun H locs hM => ?_)
  refine lv_aload_n hx hb dX6_eatsIn_63 rfl (lv_at hl 0 rfl) ?_
  refine lv_iconst (v := nI 1) hx hb dX6_eatsIn_64 (by decide) ?_
  refine lv_iload_n hx hb dX6_eatsIn_65 rfl (lv_at hl 2 rfl) ?_
  refine lv_iconst (v := nI 1) hx hb dX6_eatsIn_66 (by decide) ?_
  refine lv_iadd hx hb dX6_eatsIn_67 ?_
  refine md_callI (y := yX6_eatsIn) hx hb hml hown hts hK hI hM (met_eatsIn_1_4 F A (upd T t (nI 50)) (t + 1) hVK (x + (nI 1)) (by omega)) q1765 q1767 qs57 q1768 ndX6_eatsIn rfl (by rw [hRf]; decide) (by rw [hRl]; decide) hl.1 rfl (Nat.le_of_ble_eq_true rfl) dX6_eatsIn_68 (fun H locs hM => ?_)
  exact hret hM (rfl) dX6_eatsIn_71
set_option maxHeartbeats 400000 in
theorem met_tellsIn_0_4 (F : Nat → Int32) (A : Nat → Nat → Int32) (T : Nat → Int32) (t : Nat) (hVK : F 25 = nI 4) (x : Int32) (ht : t + 7 ≤ 40) : MdF yX6_tellsIn cX6_tellsIn 4 (some .int) 7 156 [.int (nI 0), .int x] (upd F 24 (nI t)) (va_up A 14 T) (some (.int (((((x + (nI 1)) + (F 26)) * (nI 2)) - ((nI 1) - (F 27))) ^^^ (x - (F 27))))) (upd F 24 (nI (t + 1 + 1 + 1 + 1 + 1 + 1 + 1))) (va_up A 14 (upd (upd (upd (upd (upd (upd (upd T t (nI 13)) (t + 1) (nI 50)) (t + 1 + 1) (nI 20)) (t + 1 + 1 + 1) (nI 11)) (t + 1 + 1 + 1 + 1) (nI 10)) (t + 1 + 1 + 1 + 1 + 1) (nI 12)) (t + 1 + 1 + 1 + 1 + 1 + 1) (nI 12))) := by
  refine MdF.ofI (by decide) rfl (Nat.le_of_ble_eq_true rfl) ?_
  intro p l e R s m args below meth c Q D h dA ls hx hb hml hRf hRl hts hown hK hI hM hl hret
  have hl : lv_has ls 4 [(0, .ref (h 0)), (1, .int (nI 0)), (2, .int x)] := hl
  refine lv_iload_n hx hb dX6_tellsIn_0 rfl (lv_at hl 1 rfl) ?_
  refine lv_if_ne (tgt := 32) hx hb dX6_tellsIn_1 (by decide) (fun q => absurd q (by decide)) (fun _ => ?_)
  refine lv_aload_n hx hb dX6_tellsIn_4 rfl (lv_at hl 0 rfl) ?_
  refine lv_bipush (v := nI 13) hx hb dX6_tellsIn_5 (by decide) ?_
  refine md_callV (y := yX6_ran) hx hb hml hown hts hK hI hM (met_ran F A T t 13 (by omega)) q1761 q1763 qs56 q1764 ndX6_ran rfl (by rw [hRf]; decide) (by rw [hRl]; decide) hl.1 rfl (Nat.le_of_ble_eq_true rfl) dX6_tellsIn_7 (fun H locs hM => ?_)
  refine lv_aload_n hx hb dX6_tellsIn_10 rfl (lv_at hl 0 rfl) ?_
  refine lv_aload_n hx hb dX6_tellsIn_11 rfl (lv_at hl 0 rfl) ?_
  refine md_get (v := .int (F 25)) hx hb hts hown hK hM 25 (by decide) q1415 rfl rfl dX6_tellsIn_12 ?_
  refine w_top (nI 4) (hVK) ?_
  refine lv_iload_n hx hb dX6_tellsIn_15 rfl (lv_at hl 2 rfl) ?_
  refine md_callI (y := yX6_eatsIn) hx hb hml hown hts hK hI hM (met_eatsIn_4_4 F A (upd T t (nI 13)) (t + 1) hVK x (by omega)) q1765 q1767 qs57 q1768 ndX6_eatsIn rfl (by rw [hRf]; decide) (by rw [hRl]; decide) hl.1 rfl (Nat.le_of_ble_eq_true rfl) dX6_tellsIn_16 (fun H locs hM => ?_)
  refine lv_istore_n (lv' := [(3, .int ((((x + (nI 1)) + (F 26)) * (nI 2)) - ((nI 1) - (F 27)))), (0, .ref (h 0)), (1, .int (nI 0)), (2, .int x)]) hx hb dX6_tellsIn_19 rfl hl (by decide) rfl (fun ls hl => ?_)
  refine lv_iload_n hx hb dX6_tellsIn_20 rfl (lv_at hl 0 rfl) ?_
  refine lv_aload_n hx hb dX6_tellsIn_21 rfl (lv_at hl 1 rfl) ?_
  refine lv_aload_n hx hb dX6_tellsIn_22 rfl (lv_at hl 1 rfl) ?_
  refine md_get (v := .int (F 25)) hx hb hts hown hK hM 25 (by decide) q1415 rfl rfl dX6_tellsIn_23 ?_
  refine w_top (nI 4) (hVK) ?_
  refine lv_iload_n hx hb dX6_tellsIn_26 rfl (lv_at hl 3 rfl) ?_
  refine md_callI (y := yX6_knowsIn) hx hb hml hown hts hK hI hM (met_knowsIn_4_4 F A (upd (upd (upd (upd (upd (upd T t (nI 13)) (t + 1) (nI 50)) (t + 1 + 1) (nI 20)) (t + 1 + 1 + 1) (nI 11)) (t + 1 + 1 + 1 + 1) (nI 10)) (t + 1 + 1 + 1 + 1 + 1) (nI 12)) (t + 1 + 1 + 1 + 1 + 1 + 1) hVK x (by omega)) q1769 q1771 qs58 q1772 ndX6_knowsIn rfl (by rw [hRf]; decide) (by rw [hRl]; decide) hl.1 rfl (Nat.le_of_ble_eq_true rfl) dX6_tellsIn_27 (fun H locs hM => ?_)
  refine lv_ixor hx hb dX6_tellsIn_30 ?_
  exact hret hM (rfl) dX6_tellsIn_31
set_option maxHeartbeats 400000 in
theorem met_tellsIn_1_4 (F : Nat → Int32) (A : Nat → Nat → Int32) (T : Nat → Int32) (t : Nat) (hVK : F 25 = nI 4) (x : Int32) (ht : t + 7 ≤ 40) : MdF yX6_tellsIn cX6_tellsIn 4 (some .int) 8 179 [.int (nI 1), .int x] (upd F 24 (nI t)) (va_up A 14 T) (some (.int (((((x + (nI 1)) + (F 26)) * (nI 2)) - ((nI 1) - (F 27))) ^^^ (x - (F 27))))) (upd F 24 (nI (t + 1 + 1 + 1 + 1 + 1 + 1 + 1))) (va_up A 14 (upd (upd (upd (upd (upd (upd (upd T t (nI 13)) (t + 1) (nI 50)) (t + 1 + 1) (nI 20)) (t + 1 + 1 + 1) (nI 11)) (t + 1 + 1 + 1 + 1) (nI 10)) (t + 1 + 1 + 1 + 1 + 1) (nI 12)) (t + 1 + 1 + 1 + 1 + 1 + 1) (nI 12))) := by
  refine MdF.ofI (by decide) rfl (Nat.le_of_ble_eq_true rfl) ?_
  intro p l e R s m args below meth c Q D h dA ls hx hb hml hRf hRl hts hown hK hI hM hl hret
  have hl : lv_has ls 4 [(0, .ref (h 0)), (1, .int (nI 1)), (2, .int x)] := hl
  refine lv_iload_n hx hb dX6_tellsIn_0 rfl (lv_at hl 1 rfl) ?_
  refine lv_if_ne (tgt := 32) hx hb dX6_tellsIn_1 (by decide) (fun _ => ?_) (fun q => absurd q (by decide))
  refine lv_iload_n hx hb dX6_tellsIn_32 rfl (lv_at hl 1 rfl) ?_
  refine lv_bipush (v := nI 6) hx hb dX6_tellsIn_33 (by decide) ?_
  refine lv_icmp_ne (tgt := 63) hx hb dX6_tellsIn_35 (by decide) (fun _ => ?_) (fun q => absurd q (by decide))
  refine lv_iload_n hx hb dX6_tellsIn_63 rfl (lv_at hl 1 rfl) ?_
  refine lv_iconst (v := nI 5) hx hb dX6_tellsIn_64 (by decide) ?_
  refine lv_icmp_ne (tgt := 93) hx hb dX6_tellsIn_65 (by decide) (fun _ => ?_) (fun q => absurd q (by decide))
  refine lv_aload_n hx hb dX6_tellsIn_93 rfl (lv_at hl 0 rfl) ?_
  refine lv_iload_n hx hb dX6_tellsIn_94 rfl (lv_at hl 1 rfl) ?_
  refine st_callI (y := yX6_above) hx hb hml hown hts (met_above (nI 1)) q1614 q1615 q70 q1616 ndX6_above rfl (by rw [hRf]; decide) (by rw [hRl]; decide) ⟨Nat.zero_le _, Nat.zero_le _⟩ hl.1 rfl (Nat.le_of_ble_eq_true rfl) dX6_tellsIn_95 ?_
  refine w_top (nI 0) (by decide) ?_
  refine lv_iload_n hx hb dX6_tellsIn_98 rfl (lv_at hl 2 rfl) ?_
  refine md_callI (y := yX6_tellsIn) hx hb hml hown hts hK hI hM (met_tellsIn_0_4 F A T t hVK x (by omega)) q1773 q1775 qs59 q1776 ndX6_tellsIn rfl (by rw [hRf]; decide) (by rw [hRl]; decide) hl.1 rfl (Nat.le_of_ble_eq_true rfl) dX6_tellsIn_99 (fun H locs hM => ?_)
  exact hret hM (rfl) dX6_tellsIn_102
set_option maxHeartbeats 400000 in
theorem met_tellsIn_4_4 (F : Nat → Int32) (A : Nat → Nat → Int32) (T : Nat → Int32) (t : Nat) (hVK : F 25 = nI 4) (x : Int32) (ht : t + 7 ≤ 40) : MdF yX6_tellsIn cX6_tellsIn 4 (some .int) 9 202 [.int (nI 4), .int x] (upd F 24 (nI t)) (va_up A 14 T) (some (.int (((((x + (nI 1)) + (F 26)) * (nI 2)) - ((nI 1) - (F 27))) ^^^ (x - (F 27))))) (upd F 24 (nI (t + 1 + 1 + 1 + 1 + 1 + 1 + 1))) (va_up A 14 (upd (upd (upd (upd (upd (upd (upd T t (nI 13)) (t + 1) (nI 50)) (t + 1 + 1) (nI 20)) (t + 1 + 1 + 1) (nI 11)) (t + 1 + 1 + 1 + 1) (nI 10)) (t + 1 + 1 + 1 + 1 + 1) (nI 12)) (t + 1 + 1 + 1 + 1 + 1 + 1) (nI 12))) := by
  refine MdF.ofI (by decide) rfl (Nat.le_of_ble_eq_true rfl) ?_
  intro p l e R s m args below meth c Q D h dA ls hx hb hml hRf hRl hts hown hK hI hM hl hret
  have hl : lv_has ls 4 [(0, .ref (h 0)), (1, .int (nI 4)), (2, .int x)] := hl
  refine lv_iload_n hx hb dX6_tellsIn_0 rfl (lv_at hl 1 rfl) ?_
  refine lv_if_ne (tgt := 32) hx hb dX6_tellsIn_1 (by decide) (fun _ => ?_) (fun q => absurd q (by decide))
  refine lv_iload_n hx hb dX6_tellsIn_32 rfl (lv_at hl 1 rfl) ?_
  refine lv_bipush (v := nI 6) hx hb dX6_tellsIn_33 (by decide) ?_
  refine lv_icmp_ne (tgt := 63) hx hb dX6_tellsIn_35 (by decide) (fun _ => ?_) (fun q => absurd q (by decide))
  refine lv_iload_n hx hb dX6_tellsIn_63 rfl (lv_at hl 1 rfl) ?_
  refine lv_iconst (v := nI 5) hx hb dX6_tellsIn_64 (by decide) ?_
  refine lv_icmp_ne (tgt := 93) hx hb dX6_tellsIn_65 (by decide) (fun _ => ?_) (fun q => absurd q (by decide))
  refine lv_aload_n hx hb dX6_tellsIn_93 rfl (lv_at hl 0 rfl) ?_
  refine lv_iload_n hx hb dX6_tellsIn_94 rfl (lv_at hl 1 rfl) ?_
  refine st_callI (y := yX6_above) hx hb hml hown hts (met_above (nI 4)) q1614 q1615 q70 q1616 ndX6_above rfl (by rw [hRf]; decide) (by rw [hRl]; decide) ⟨Nat.zero_le _, Nat.zero_le _⟩ hl.1 rfl (Nat.le_of_ble_eq_true rfl) dX6_tellsIn_95 ?_
  refine w_top (nI 1) (by decide) ?_
  refine lv_iload_n hx hb dX6_tellsIn_98 rfl (lv_at hl 2 rfl) ?_
  refine md_callI (y := yX6_tellsIn) hx hb hml hown hts hK hI hM (met_tellsIn_1_4 F A T t hVK x (by omega)) q1773 q1775 qs59 q1776 ndX6_tellsIn rfl (by rw [hRf]; decide) (by rw [hRl]; decide) hl.1 rfl (Nat.le_of_ble_eq_true rfl) dX6_tellsIn_99 (fun H locs hM => ?_)
  exact hret hM (rfl) dX6_tellsIn_102
set_option maxHeartbeats 400000 in
theorem met_wantsIn_0_5 (F : Nat → Int32) (A : Nat → Nat → Int32) (T : Nat → Int32) (t : Nat) (hVK : F 25 = nI 5) (x : Int32) (ht : t + 1 ≤ 40) : MdF yX6_wantsIn cX6_wantsIn 3 (some .int) 1 21 [.int (nI 0), .int x] (upd F 24 (nI t)) (va_up A 14 T) (some (.int (x + (F 26)))) (upd F 24 (nI (t + 1))) (va_up A 14 (upd T t (nI 10))) := by
  refine MdF.ofI (by decide) rfl (Nat.le_of_ble_eq_true rfl) ?_
  intro p l e R s m args below meth c Q D h dA ls hx hb hml hRf hRl hts hown hK hI hM hl hret
  have hl : lv_has ls 3 [(0, .ref (h 0)), (1, .int (nI 0)), (2, .int x)] := hl
  refine lv_iload_n hx hb dX6_wantsIn_0 rfl (lv_at hl 1 rfl) ?_
  refine lv_if_ne (tgt := 17) hx hb dX6_wantsIn_1 (by decide) (fun q => absurd q (by decide)) (fun _ => ?_)
  refine lv_aload_n hx hb dX6_wantsIn_4 rfl (lv_at hl 0 rfl) ?_
  refine lv_bipush (v := nI 10) hx hb dX6_wantsIn_5 (by decide) ?_
  refine md_callV (y := yX6_ran) hx hb hml hown hts hK hI hM (met_ran F A T t 10 (by omega)) q1761 q1763 qs56 q1764 ndX6_ran rfl (by rw [hRf]; decide) (by rw [hRl]; decide) hl.1 rfl (Nat.le_of_ble_eq_true rfl) dX6_wantsIn_7 (fun H locs hM => ?_)
  refine lv_iload_n hx hb dX6_wantsIn_10 rfl (lv_at hl 2 rfl) ?_
  refine lv_aload_n hx hb dX6_wantsIn_11 rfl (lv_at hl 0 rfl) ?_
  refine md_get (v := .int (F 26)) hx hb hts hown hK hM 26 (by decide) q1416 rfl rfl dX6_wantsIn_12 ?_
  refine lv_iadd hx hb dX6_wantsIn_15 ?_
  exact hret hM (rfl) dX6_wantsIn_16
set_option maxHeartbeats 400000 in
theorem met_wantsIn_2_5 (F : Nat → Int32) (A : Nat → Nat → Int32) (T : Nat → Int32) (t : Nat) (hVK : F 25 = nI 5) (x : Int32) (ht : t + 2 ≤ 40) : MdF yX6_wantsIn cX6_wantsIn 3 (some .int) 2 43 [.int (nI 2), .int x] (upd F 24 (nI t)) (va_up A 14 T) (some (.int ((x + (F 26)) * (nI 3)))) (upd F 24 (nI (t + 1 + 1))) (va_up A 14 (upd (upd T t (nI 30)) (t + 1) (nI 10))) := by
  refine MdF.ofI (by decide) rfl (Nat.le_of_ble_eq_true rfl) ?_
  intro p l e R s m args below meth c Q D h dA ls hx hb hml hRf hRl hts hown hK hI hM hl hret
  have hl : lv_has ls 3 [(0, .ref (h 0)), (1, .int (nI 2)), (2, .int x)] := hl
  refine lv_iload_n hx hb dX6_wantsIn_0 rfl (lv_at hl 1 rfl) ?_
  refine lv_if_ne (tgt := 17) hx hb dX6_wantsIn_1 (by decide) (fun _ => ?_) (fun q => absurd q (by decide))
  refine lv_iload_n hx hb dX6_wantsIn_17 rfl (lv_at hl 1 rfl) ?_
  refine lv_iconst (v := nI 2) hx hb dX6_wantsIn_18 (by decide) ?_
  refine lv_icmp_ne (tgt := 37) hx hb dX6_wantsIn_19 (by decide) (fun q => absurd q (by decide)) (fun _ => ?_)
  refine lv_aload_n hx hb dX6_wantsIn_22 rfl (lv_at hl 0 rfl) ?_
  refine lv_bipush (v := nI 30) hx hb dX6_wantsIn_23 (by decide) ?_
  refine md_callV (y := yX6_ran) hx hb hml hown hts hK hI hM (met_ran F A T t 30 (by omega)) q1761 q1763 qs56 q1764 ndX6_ran rfl (by rw [hRf]; decide) (by rw [hRl]; decide) hl.1 rfl (Nat.le_of_ble_eq_true rfl) dX6_wantsIn_25 (fun H locs hM => ?_)
  refine lv_aload_n hx hb dX6_wantsIn_28 rfl (lv_at hl 0 rfl) ?_
  refine lv_iconst (v := nI 0) hx hb dX6_wantsIn_29 (by decide) ?_
  refine lv_iload_n hx hb dX6_wantsIn_30 rfl (lv_at hl 2 rfl) ?_
  refine md_callI (y := yX6_wantsIn) hx hb hml hown hts hK hI hM (met_wantsIn_0_5 F A (upd T t (nI 30)) (t + 1) hVK x (by omega)) q1757 q1759 qs55 q1760 ndX6_wantsIn rfl (by rw [hRf]; decide) (by rw [hRl]; decide) hl.1 rfl (Nat.le_of_ble_eq_true rfl) dX6_wantsIn_31 (fun H locs hM => ?_)
  refine lv_iconst (v := nI 3) hx hb dX6_wantsIn_34 (by decide) ?_
  refine lv_imul hx hb dX6_wantsIn_35 ?_
  exact hret hM (rfl) dX6_wantsIn_36
set_option maxHeartbeats 400000 in
theorem met_wantsIn_5_5 (F : Nat → Int32) (A : Nat → Nat → Int32) (T : Nat → Int32) (t : Nat) (hVK : F 25 = nI 5) (x : Int32) (ht : t + 2 ≤ 40) : MdF yX6_wantsIn cX6_wantsIn 3 (some .int) 3 65 [.int (nI 5), .int x] (upd F 24 (nI t)) (va_up A 14 T) (some (.int ((x + (F 26)) * (nI 3)))) (upd F 24 (nI (t + 1 + 1))) (va_up A 14 (upd (upd T t (nI 30)) (t + 1) (nI 10))) := by
  refine MdF.ofI (by decide) rfl (Nat.le_of_ble_eq_true rfl) ?_
  intro p l e R s m args below meth c Q D h dA ls hx hb hml hRf hRl hts hown hK hI hM hl hret
  have hl : lv_has ls 3 [(0, .ref (h 0)), (1, .int (nI 5)), (2, .int x)] := hl
  refine lv_iload_n hx hb dX6_wantsIn_0 rfl (lv_at hl 1 rfl) ?_
  refine lv_if_ne (tgt := 17) hx hb dX6_wantsIn_1 (by decide) (fun _ => ?_) (fun q => absurd q (by decide))
  refine lv_iload_n hx hb dX6_wantsIn_17 rfl (lv_at hl 1 rfl) ?_
  refine lv_iconst (v := nI 2) hx hb dX6_wantsIn_18 (by decide) ?_
  refine lv_icmp_ne (tgt := 37) hx hb dX6_wantsIn_19 (by decide) (fun _ => ?_) (fun q => absurd q (by decide))
  refine lv_aload_n hx hb dX6_wantsIn_37 rfl (lv_at hl 0 rfl) ?_
  refine lv_iload_n hx hb dX6_wantsIn_38 rfl (lv_at hl 1 rfl) ?_
  refine st_callI (y := yX6_above) hx hb hml hown hts (met_above (nI 5)) q1614 q1615 q70 q1616 ndX6_above rfl (by rw [hRf]; decide) (by rw [hRl]; decide) ⟨Nat.zero_le _, Nat.zero_le _⟩ hl.1 rfl (Nat.le_of_ble_eq_true rfl) dX6_wantsIn_39 ?_
  refine w_top (nI 2) (by decide) ?_
  refine lv_iload_n hx hb dX6_wantsIn_42 rfl (lv_at hl 2 rfl) ?_
  refine md_callI (y := yX6_wantsIn) hx hb hml hown hts hK hI hM (met_wantsIn_2_5 F A T t hVK x (by omega)) q1757 q1759 qs55 q1760 ndX6_wantsIn rfl (by rw [hRf]; decide) (by rw [hRl]; decide) hl.1 rfl (Nat.le_of_ble_eq_true rfl) dX6_wantsIn_43 (fun H locs hM => ?_)
  exact hret hM (rfl) dX6_wantsIn_46
set_option maxHeartbeats 400000 in
theorem met_knowsIn_0_5 (F : Nat → Int32) (A : Nat → Nat → Int32) (T : Nat → Int32) (t : Nat) (hVK : F 25 = nI 5) (x : Int32) (ht : t + 1 ≤ 40) : MdF yX6_knowsIn cX6_knowsIn 3 (some .int) 1 21 [.int (nI 0), .int x] (upd F 24 (nI t)) (va_up A 14 T) (some (.int (x - (F 27)))) (upd F 24 (nI (t + 1))) (va_up A 14 (upd T t (nI 12))) := by
  refine MdF.ofI (by decide) rfl (Nat.le_of_ble_eq_true rfl) ?_
  intro p l e R s m args below meth c Q D h dA ls hx hb hml hRf hRl hts hown hK hI hM hl hret
  have hl : lv_has ls 3 [(0, .ref (h 0)), (1, .int (nI 0)), (2, .int x)] := hl
  refine lv_iload_n hx hb dX6_knowsIn_0 rfl (lv_at hl 1 rfl) ?_
  refine lv_if_ne (tgt := 17) hx hb dX6_knowsIn_1 (by decide) (fun q => absurd q (by decide)) (fun _ => ?_)
  refine lv_aload_n hx hb dX6_knowsIn_4 rfl (lv_at hl 0 rfl) ?_
  refine lv_bipush (v := nI 12) hx hb dX6_knowsIn_5 (by decide) ?_
  refine md_callV (y := yX6_ran) hx hb hml hown hts hK hI hM (met_ran F A T t 12 (by omega)) q1761 q1763 qs56 q1764 ndX6_ran rfl (by rw [hRf]; decide) (by rw [hRl]; decide) hl.1 rfl (Nat.le_of_ble_eq_true rfl) dX6_knowsIn_7 (fun H locs hM => ?_)
  refine lv_iload_n hx hb dX6_knowsIn_10 rfl (lv_at hl 2 rfl) ?_
  refine lv_aload_n hx hb dX6_knowsIn_11 rfl (lv_at hl 0 rfl) ?_
  refine md_get (v := .int (F 27)) hx hb hts hown hK hM 27 (by decide) q1417 rfl rfl dX6_knowsIn_12 ?_
  refine lv_isub hx hb dX6_knowsIn_15 ?_
  exact hret hM (rfl) dX6_knowsIn_16
set_option maxHeartbeats 400000 in
theorem met_knowsIn_2_5 (F : Nat → Int32) (A : Nat → Nat → Int32) (T : Nat → Int32) (t : Nat) (hVK : F 25 = nI 5) (x : Int32) (ht : t + 1 ≤ 40) : MdF yX6_knowsIn cX6_knowsIn 3 (some .int) 2 43 [.int (nI 2), .int x] (upd F 24 (nI t)) (va_up A 14 T) (some (.int (x - (F 27)))) (upd F 24 (nI (t + 1))) (va_up A 14 (upd T t (nI 12))) := by
  refine MdF.ofI (by decide) rfl (Nat.le_of_ble_eq_true rfl) ?_
  intro p l e R s m args below meth c Q D h dA ls hx hb hml hRf hRl hts hown hK hI hM hl hret
  have hl : lv_has ls 3 [(0, .ref (h 0)), (1, .int (nI 2)), (2, .int x)] := hl
  refine lv_iload_n hx hb dX6_knowsIn_0 rfl (lv_at hl 1 rfl) ?_
  refine lv_if_ne (tgt := 17) hx hb dX6_knowsIn_1 (by decide) (fun _ => ?_) (fun q => absurd q (by decide))
  refine lv_iload_n hx hb dX6_knowsIn_17 rfl (lv_at hl 1 rfl) ?_
  refine lv_iconst (v := nI 3) hx hb dX6_knowsIn_18 (by decide) ?_
  refine lv_icmp_ne (tgt := 36) hx hb dX6_knowsIn_19 (by decide) (fun _ => ?_) (fun q => absurd q (by decide))
  refine lv_iload_n hx hb dX6_knowsIn_36 rfl (lv_at hl 1 rfl) ?_
  refine lv_bipush (v := nI 6) hx hb dX6_knowsIn_37 (by decide) ?_
  refine lv_icmp_ne (tgt := 60) hx hb dX6_knowsIn_39 (by decide) (fun _ => ?_) (fun q => absurd q (by decide))
  refine lv_aload_n hx hb dX6_knowsIn_60 rfl (lv_at hl 0 rfl) ?_
  refine lv_iload_n hx hb dX6_knowsIn_61 rfl (lv_at hl 1 rfl) ?_
  refine st_callI (y := yX6_above) hx hb hml hown hts (met_above (nI 2)) q1614 q1615 q70 q1616 ndX6_above rfl (by rw [hRf]; decide) (by rw [hRl]; decide) ⟨Nat.zero_le _, Nat.zero_le _⟩ hl.1 rfl (Nat.le_of_ble_eq_true rfl) dX6_knowsIn_62 ?_
  refine w_top (nI 0) (by decide) ?_
  refine lv_iload_n hx hb dX6_knowsIn_65 rfl (lv_at hl 2 rfl) ?_
  refine md_callI (y := yX6_knowsIn) hx hb hml hown hts hK hI hM (met_knowsIn_0_5 F A T t hVK x (by omega)) q1769 q1771 qs58 q1772 ndX6_knowsIn rfl (by rw [hRf]; decide) (by rw [hRl]; decide) hl.1 rfl (Nat.le_of_ble_eq_true rfl) dX6_knowsIn_66 (fun H locs hM => ?_)
  exact hret hM (rfl) dX6_knowsIn_69
set_option maxHeartbeats 400000 in
theorem met_knowsIn_5_5 (F : Nat → Int32) (A : Nat → Nat → Int32) (T : Nat → Int32) (t : Nat) (hVK : F 25 = nI 5) (x : Int32) (ht : t + 1 ≤ 40) : MdF yX6_knowsIn cX6_knowsIn 3 (some .int) 3 65 [.int (nI 5), .int x] (upd F 24 (nI t)) (va_up A 14 T) (some (.int (x - (F 27)))) (upd F 24 (nI (t + 1))) (va_up A 14 (upd T t (nI 12))) := by
  refine MdF.ofI (by decide) rfl (Nat.le_of_ble_eq_true rfl) ?_
  intro p l e R s m args below meth c Q D h dA ls hx hb hml hRf hRl hts hown hK hI hM hl hret
  have hl : lv_has ls 3 [(0, .ref (h 0)), (1, .int (nI 5)), (2, .int x)] := hl
  refine lv_iload_n hx hb dX6_knowsIn_0 rfl (lv_at hl 1 rfl) ?_
  refine lv_if_ne (tgt := 17) hx hb dX6_knowsIn_1 (by decide) (fun _ => ?_) (fun q => absurd q (by decide))
  refine lv_iload_n hx hb dX6_knowsIn_17 rfl (lv_at hl 1 rfl) ?_
  refine lv_iconst (v := nI 3) hx hb dX6_knowsIn_18 (by decide) ?_
  refine lv_icmp_ne (tgt := 36) hx hb dX6_knowsIn_19 (by decide) (fun _ => ?_) (fun q => absurd q (by decide))
  refine lv_iload_n hx hb dX6_knowsIn_36 rfl (lv_at hl 1 rfl) ?_
  refine lv_bipush (v := nI 6) hx hb dX6_knowsIn_37 (by decide) ?_
  refine lv_icmp_ne (tgt := 60) hx hb dX6_knowsIn_39 (by decide) (fun _ => ?_) (fun q => absurd q (by decide))
  refine lv_aload_n hx hb dX6_knowsIn_60 rfl (lv_at hl 0 rfl) ?_
  refine lv_iload_n hx hb dX6_knowsIn_61 rfl (lv_at hl 1 rfl) ?_
  refine st_callI (y := yX6_above) hx hb hml hown hts (met_above (nI 5)) q1614 q1615 q70 q1616 ndX6_above rfl (by rw [hRf]; decide) (by rw [hRl]; decide) ⟨Nat.zero_le _, Nat.zero_le _⟩ hl.1 rfl (Nat.le_of_ble_eq_true rfl) dX6_knowsIn_62 ?_
  refine w_top (nI 2) (by decide) ?_
  refine lv_iload_n hx hb dX6_knowsIn_65 rfl (lv_at hl 2 rfl) ?_
  refine md_callI (y := yX6_knowsIn) hx hb hml hown hts hK hI hM (met_knowsIn_2_5 F A T t hVK x (by omega)) q1769 q1771 qs58 q1772 ndX6_knowsIn rfl (by rw [hRf]; decide) (by rw [hRl]; decide) hl.1 rfl (Nat.le_of_ble_eq_true rfl) dX6_knowsIn_66 (fun H locs hM => ?_)
  exact hret hM (rfl) dX6_knowsIn_69
set_option maxHeartbeats 400000 in
theorem met_eatsIn_0_5 (F : Nat → Int32) (A : Nat → Nat → Int32) (T : Nat → Int32) (t : Nat) (hVK : F 25 = nI 5) (x : Int32) (ht : t + 3 ≤ 40) : MdF yX6_eatsIn cX6_eatsIn 4 (some .int) 4 87 [.int (nI 0), .int x] (upd F 24 (nI t)) (va_up A 14 T) (some (.int (((x + (F 26)) * (nI 3)) * (nI 2)))) (upd F 24 (nI (t + 1 + 1 + 1))) (va_up A 14 (upd (upd (upd T t (nI 11)) (t + 1) (nI 30)) (t + 1 + 1) (nI 10))) := by
  refine MdF.ofI (by decide) rfl (Nat.le_of_ble_eq_true rfl) ?_
  intro p l e R s m args below meth c Q D h dA ls hx hb hml hRf hRl hts hown hK hI hM hl hret
  have hl : lv_has ls 4 [(0, .ref (h 0)), (1, .int (nI 0)), (2, .int x)] := hl
  refine lv_iload_n hx hb dX6_eatsIn_0 rfl (lv_at hl 1 rfl) ?_
  refine lv_if_ne (tgt := 22) hx hb dX6_eatsIn_1 (by decide) (fun q => absurd q (by decide)) (fun _ => ?_)
  refine lv_aload_n hx hb dX6_eatsIn_4 rfl (lv_at hl 0 rfl) ?_
  refine lv_bipush (v := nI 11) hx hb dX6_eatsIn_5 (by decide) ?_
  refine md_callV (y := yX6_ran) hx hb hml hown hts hK hI hM (met_ran F A T t 11 (by omega)) q1761 q1763 qs56 q1764 ndX6_ran rfl (by rw [hRf]; decide) (by rw [hRl]; decide) hl.1 rfl (Nat.le_of_ble_eq_true rfl) dX6_eatsIn_7 (fun H locs hM => ?_)
  refine lv_aload_n hx hb dX6_eatsIn_10 rfl (lv_at hl 0 rfl) ?_
  refine lv_aload_n hx hb dX6_eatsIn_11 rfl (lv_at hl 0 rfl) ?_
  refine md_get (v := .int (F 25)) hx hb hts hown hK hM 25 (by decide) q1415 rfl rfl dX6_eatsIn_12 ?_
  refine w_top (nI 5) (hVK) ?_
  refine lv_iload_n hx hb dX6_eatsIn_15 rfl (lv_at hl 2 rfl) ?_
  refine md_callI (y := yX6_wantsIn) hx hb hml hown hts hK hI hM (met_wantsIn_5_5 F A (upd T t (nI 11)) (t + 1) hVK x (by omega)) q1757 q1759 qs55 q1760 ndX6_wantsIn rfl (by rw [hRf]; decide) (by rw [hRl]; decide) hl.1 rfl (Nat.le_of_ble_eq_true rfl) dX6_eatsIn_16 (fun H locs hM => ?_)
  refine lv_iconst (v := nI 2) hx hb dX6_eatsIn_19 (by decide) ?_
  refine lv_imul hx hb dX6_eatsIn_20 ?_
  exact hret hM (rfl) dX6_eatsIn_21
set_option maxHeartbeats 400000 in
theorem met_eatsIn_2_5 (F : Nat → Int32) (A : Nat → Nat → Int32) (T : Nat → Int32) (t : Nat) (hVK : F 25 = nI 5) (x : Int32) (ht : t + 3 ≤ 40) : MdF yX6_eatsIn cX6_eatsIn 4 (some .int) 5 110 [.int (nI 2), .int x] (upd F 24 (nI t)) (va_up A 14 T) (some (.int (((x + (F 26)) * (nI 3)) * (nI 2)))) (upd F 24 (nI (t + 1 + 1 + 1))) (va_up A 14 (upd (upd (upd T t (nI 11)) (t + 1) (nI 30)) (t + 1 + 1) (nI 10))) := by
  refine MdF.ofI (by decide) rfl (Nat.le_of_ble_eq_true rfl) ?_
  intro p l e R s m args below meth c Q D h dA ls hx hb hml hRf hRl hts hown hK hI hM hl hret
  have hl : lv_has ls 4 [(0, .ref (h 0)), (1, .int (nI 2)), (2, .int x)] := hl
  refine lv_iload_n hx hb dX6_eatsIn_0 rfl (lv_at hl 1 rfl) ?_
  refine lv_if_ne (tgt := 22) hx hb dX6_eatsIn_1 (by decide) (fun _ => ?_) (fun q => absurd q (by decide))
  refine lv_iload_n hx hb dX6_eatsIn_22 rfl (lv_at hl 1 rfl) ?_
  refine lv_iconst (v := nI 1) hx hb dX6_eatsIn_23 (by decide) ?_
  refine lv_icmp_ne (tgt := 52) hx hb dX6_eatsIn_24 (by decide) (fun _ => ?_) (fun q => absurd q (by decide))
  refine lv_iload_n hx hb dX6_eatsIn_52 rfl (lv_at hl 1 rfl) ?_
  refine lv_iconst (v := nI 4) hx hb dX6_eatsIn_53 (by decide) ?_
  refine lv_icmp_ne (tgt := 72) hx hb dX6_eatsIn_54 (by decide) (fun _ => ?_) (fun q => absurd q (by decide))
  refine lv_aload_n hx hb dX6_eatsIn_72 rfl (lv_at hl 0 rfl) ?_
  refine lv_iload_n hx hb dX6_eatsIn_73 rfl (lv_at hl 1 rfl) ?_
  refine st_callI (y := yX6_above) hx hb hml hown hts (met_above (nI 2)) q1614 q1615 q70 q1616 ndX6_above rfl (by rw [hRf]; decide) (by rw [hRl]; decide) ⟨Nat.zero_le _, Nat.zero_le _⟩ hl.1 rfl (Nat.le_of_ble_eq_true rfl) dX6_eatsIn_74 ?_
  refine w_top (nI 0) (by decide) ?_
  refine lv_iload_n hx hb dX6_eatsIn_77 rfl (lv_at hl 2 rfl) ?_
  refine md_callI (y := yX6_eatsIn) hx hb hml hown hts hK hI hM (met_eatsIn_0_5 F A T t hVK x (by omega)) q1765 q1767 qs57 q1768 ndX6_eatsIn rfl (by rw [hRf]; decide) (by rw [hRl]; decide) hl.1 rfl (Nat.le_of_ble_eq_true rfl) dX6_eatsIn_78 (fun H locs hM => ?_)
  exact hret hM (rfl) dX6_eatsIn_81
set_option maxHeartbeats 400000 in
theorem met_eatsIn_5_5 (F : Nat → Int32) (A : Nat → Nat → Int32) (T : Nat → Int32) (t : Nat) (hVK : F 25 = nI 5) (x : Int32) (ht : t + 3 ≤ 40) : MdF yX6_eatsIn cX6_eatsIn 4 (some .int) 6 133 [.int (nI 5), .int x] (upd F 24 (nI t)) (va_up A 14 T) (some (.int (((x + (F 26)) * (nI 3)) * (nI 2)))) (upd F 24 (nI (t + 1 + 1 + 1))) (va_up A 14 (upd (upd (upd T t (nI 11)) (t + 1) (nI 30)) (t + 1 + 1) (nI 10))) := by
  refine MdF.ofI (by decide) rfl (Nat.le_of_ble_eq_true rfl) ?_
  intro p l e R s m args below meth c Q D h dA ls hx hb hml hRf hRl hts hown hK hI hM hl hret
  have hl : lv_has ls 4 [(0, .ref (h 0)), (1, .int (nI 5)), (2, .int x)] := hl
  refine lv_iload_n hx hb dX6_eatsIn_0 rfl (lv_at hl 1 rfl) ?_
  refine lv_if_ne (tgt := 22) hx hb dX6_eatsIn_1 (by decide) (fun _ => ?_) (fun q => absurd q (by decide))
  refine lv_iload_n hx hb dX6_eatsIn_22 rfl (lv_at hl 1 rfl) ?_
  refine lv_iconst (v := nI 1) hx hb dX6_eatsIn_23 (by decide) ?_
  refine lv_icmp_ne (tgt := 52) hx hb dX6_eatsIn_24 (by decide) (fun _ => ?_) (fun q => absurd q (by decide))
  refine lv_iload_n hx hb dX6_eatsIn_52 rfl (lv_at hl 1 rfl) ?_
  refine lv_iconst (v := nI 4) hx hb dX6_eatsIn_53 (by decide) ?_
  refine lv_icmp_ne (tgt := 72) hx hb dX6_eatsIn_54 (by decide) (fun _ => ?_) (fun q => absurd q (by decide))
  refine lv_aload_n hx hb dX6_eatsIn_72 rfl (lv_at hl 0 rfl) ?_
  refine lv_iload_n hx hb dX6_eatsIn_73 rfl (lv_at hl 1 rfl) ?_
  refine st_callI (y := yX6_above) hx hb hml hown hts (met_above (nI 5)) q1614 q1615 q70 q1616 ndX6_above rfl (by rw [hRf]; decide) (by rw [hRl]; decide) ⟨Nat.zero_le _, Nat.zero_le _⟩ hl.1 rfl (Nat.le_of_ble_eq_true rfl) dX6_eatsIn_74 ?_
  refine w_top (nI 2) (by decide) ?_
  refine lv_iload_n hx hb dX6_eatsIn_77 rfl (lv_at hl 2 rfl) ?_
  refine md_callI (y := yX6_eatsIn) hx hb hml hown hts hK hI hM (met_eatsIn_2_5 F A T t hVK x (by omega)) q1765 q1767 qs57 q1768 ndX6_eatsIn rfl (by rw [hRf]; decide) (by rw [hRl]; decide) hl.1 rfl (Nat.le_of_ble_eq_true rfl) dX6_eatsIn_78 (fun H locs hM => ?_)
  exact hret hM (rfl) dX6_eatsIn_81
set_option maxHeartbeats 400000 in
theorem met_tellsIn_0_5 (F : Nat → Int32) (A : Nat → Nat → Int32) (T : Nat → Int32) (t : Nat) (hVK : F 25 = nI 5) (x : Int32) (ht : t + 5 ≤ 40) : MdF yX6_tellsIn cX6_tellsIn 4 (some .int) 7 156 [.int (nI 0), .int x] (upd F 24 (nI t)) (va_up A 14 T) (some (.int ((((x + (F 26)) * (nI 3)) * (nI 2)) ^^^ (x - (F 27))))) (upd F 24 (nI (t + 1 + 1 + 1 + 1 + 1))) (va_up A 14 (upd (upd (upd (upd (upd T t (nI 13)) (t + 1) (nI 11)) (t + 1 + 1) (nI 30)) (t + 1 + 1 + 1) (nI 10)) (t + 1 + 1 + 1 + 1) (nI 12))) := by
  refine MdF.ofI (by decide) rfl (Nat.le_of_ble_eq_true rfl) ?_
  intro p l e R s m args below meth c Q D h dA ls hx hb hml hRf hRl hts hown hK hI hM hl hret
  have hl : lv_has ls 4 [(0, .ref (h 0)), (1, .int (nI 0)), (2, .int x)] := hl
  refine lv_iload_n hx hb dX6_tellsIn_0 rfl (lv_at hl 1 rfl) ?_
  refine lv_if_ne (tgt := 32) hx hb dX6_tellsIn_1 (by decide) (fun q => absurd q (by decide)) (fun _ => ?_)
  refine lv_aload_n hx hb dX6_tellsIn_4 rfl (lv_at hl 0 rfl) ?_
  refine lv_bipush (v := nI 13) hx hb dX6_tellsIn_5 (by decide) ?_
  refine md_callV (y := yX6_ran) hx hb hml hown hts hK hI hM (met_ran F A T t 13 (by omega)) q1761 q1763 qs56 q1764 ndX6_ran rfl (by rw [hRf]; decide) (by rw [hRl]; decide) hl.1 rfl (Nat.le_of_ble_eq_true rfl) dX6_tellsIn_7 (fun H locs hM => ?_)
  refine lv_aload_n hx hb dX6_tellsIn_10 rfl (lv_at hl 0 rfl) ?_
  refine lv_aload_n hx hb dX6_tellsIn_11 rfl (lv_at hl 0 rfl) ?_
  refine md_get (v := .int (F 25)) hx hb hts hown hK hM 25 (by decide) q1415 rfl rfl dX6_tellsIn_12 ?_
  refine w_top (nI 5) (hVK) ?_
  refine lv_iload_n hx hb dX6_tellsIn_15 rfl (lv_at hl 2 rfl) ?_
  refine md_callI (y := yX6_eatsIn) hx hb hml hown hts hK hI hM (met_eatsIn_5_5 F A (upd T t (nI 13)) (t + 1) hVK x (by omega)) q1765 q1767 qs57 q1768 ndX6_eatsIn rfl (by rw [hRf]; decide) (by rw [hRl]; decide) hl.1 rfl (Nat.le_of_ble_eq_true rfl) dX6_tellsIn_16 (fun H locs hM => ?_)
  refine lv_istore_n (lv' := [(3, .int (((x + (F 26)) * (nI 3)) * (nI 2))), (0, .ref (h 0)), (1, .int (nI 0)), (2, .int x)]) hx hb dX6_tellsIn_19 rfl hl (by decide) rfl (fun ls hl => ?_)
  refine lv_iload_n hx hb dX6_tellsIn_20 rfl (lv_at hl 0 rfl) ?_
  refine lv_aload_n hx hb dX6_tellsIn_21 rfl (lv_at hl 1 rfl) ?_
  refine lv_aload_n hx hb dX6_tellsIn_22 rfl (lv_at hl 1 rfl) ?_
  refine md_get (v := .int (F 25)) hx hb hts hown hK hM 25 (by decide) q1415 rfl rfl dX6_tellsIn_23 ?_
  refine w_top (nI 5) (hVK) ?_
  refine lv_iload_n hx hb dX6_tellsIn_26 rfl (lv_at hl 3 rfl) ?_
  refine md_callI (y := yX6_knowsIn) hx hb hml hown hts hK hI hM (met_knowsIn_5_5 F A (upd (upd (upd (upd T t (nI 13)) (t + 1) (nI 11)) (t + 1 + 1) (nI 30)) (t + 1 + 1 + 1) (nI 10)) (t + 1 + 1 + 1 + 1) hVK x (by omega)) q1769 q1771 qs58 q1772 ndX6_knowsIn rfl (by rw [hRf]; decide) (by rw [hRl]; decide) hl.1 rfl (Nat.le_of_ble_eq_true rfl) dX6_tellsIn_27 (fun H locs hM => ?_)
  refine lv_ixor hx hb dX6_tellsIn_30 ?_
  exact hret hM (rfl) dX6_tellsIn_31
set_option maxHeartbeats 400000 in
theorem met_tellsIn_2_5 (F : Nat → Int32) (A : Nat → Nat → Int32) (T : Nat → Int32) (t : Nat) (hVK : F 25 = nI 5) (x : Int32) (ht : t + 5 ≤ 40) : MdF yX6_tellsIn cX6_tellsIn 4 (some .int) 8 179 [.int (nI 2), .int x] (upd F 24 (nI t)) (va_up A 14 T) (some (.int ((((x + (F 26)) * (nI 3)) * (nI 2)) ^^^ (x - (F 27))))) (upd F 24 (nI (t + 1 + 1 + 1 + 1 + 1))) (va_up A 14 (upd (upd (upd (upd (upd T t (nI 13)) (t + 1) (nI 11)) (t + 1 + 1) (nI 30)) (t + 1 + 1 + 1) (nI 10)) (t + 1 + 1 + 1 + 1) (nI 12))) := by
  refine MdF.ofI (by decide) rfl (Nat.le_of_ble_eq_true rfl) ?_
  intro p l e R s m args below meth c Q D h dA ls hx hb hml hRf hRl hts hown hK hI hM hl hret
  have hl : lv_has ls 4 [(0, .ref (h 0)), (1, .int (nI 2)), (2, .int x)] := hl
  refine lv_iload_n hx hb dX6_tellsIn_0 rfl (lv_at hl 1 rfl) ?_
  refine lv_if_ne (tgt := 32) hx hb dX6_tellsIn_1 (by decide) (fun _ => ?_) (fun q => absurd q (by decide))
  refine lv_iload_n hx hb dX6_tellsIn_32 rfl (lv_at hl 1 rfl) ?_
  refine lv_bipush (v := nI 6) hx hb dX6_tellsIn_33 (by decide) ?_
  refine lv_icmp_ne (tgt := 63) hx hb dX6_tellsIn_35 (by decide) (fun _ => ?_) (fun q => absurd q (by decide))
  refine lv_iload_n hx hb dX6_tellsIn_63 rfl (lv_at hl 1 rfl) ?_
  refine lv_iconst (v := nI 5) hx hb dX6_tellsIn_64 (by decide) ?_
  refine lv_icmp_ne (tgt := 93) hx hb dX6_tellsIn_65 (by decide) (fun _ => ?_) (fun q => absurd q (by decide))
  refine lv_aload_n hx hb dX6_tellsIn_93 rfl (lv_at hl 0 rfl) ?_
  refine lv_iload_n hx hb dX6_tellsIn_94 rfl (lv_at hl 1 rfl) ?_
  refine st_callI (y := yX6_above) hx hb hml hown hts (met_above (nI 2)) q1614 q1615 q70 q1616 ndX6_above rfl (by rw [hRf]; decide) (by rw [hRl]; decide) ⟨Nat.zero_le _, Nat.zero_le _⟩ hl.1 rfl (Nat.le_of_ble_eq_true rfl) dX6_tellsIn_95 ?_
  refine w_top (nI 0) (by decide) ?_
  refine lv_iload_n hx hb dX6_tellsIn_98 rfl (lv_at hl 2 rfl) ?_
  refine md_callI (y := yX6_tellsIn) hx hb hml hown hts hK hI hM (met_tellsIn_0_5 F A T t hVK x (by omega)) q1773 q1775 qs59 q1776 ndX6_tellsIn rfl (by rw [hRf]; decide) (by rw [hRl]; decide) hl.1 rfl (Nat.le_of_ble_eq_true rfl) dX6_tellsIn_99 (fun H locs hM => ?_)
  exact hret hM (rfl) dX6_tellsIn_102
set_option maxHeartbeats 400000 in
theorem met_tellsIn_5_5 (F : Nat → Int32) (A : Nat → Nat → Int32) (T : Nat → Int32) (t : Nat) (hVK : F 25 = nI 5) (x : Int32) (ht : t + 8 ≤ 40) : MdF yX6_tellsIn cX6_tellsIn 4 (some .int) 9 202 [.int (nI 5), .int x] (upd F 24 (nI t)) (va_up A 14 T) (some (.int (((((x + (F 26)) * (nI 3)) * (nI 2)) ^^^ (x - (F 27))) - (((nI 2) + (F 26)) * (nI 3))))) (upd F 24 (nI (t + 1 + 1 + 1 + 1 + 1 + 1 + 1 + 1))) (va_up A 14 (upd (upd (upd (upd (upd (upd (upd (upd T t (nI 60)) (t + 1) (nI 13)) (t + 1 + 1) (nI 11)) (t + 1 + 1 + 1) (nI 30)) (t + 1 + 1 + 1 + 1) (nI 10)) (t + 1 + 1 + 1 + 1 + 1) (nI 12)) (t + 1 + 1 + 1 + 1 + 1 + 1) (nI 30)) (t + 1 + 1 + 1 + 1 + 1 + 1 + 1) (nI 10))) := by
  refine MdF.ofI (by decide) rfl (Nat.le_of_ble_eq_true rfl) ?_
  intro p l e R s m args below meth c Q D h dA ls hx hb hml hRf hRl hts hown hK hI hM hl hret
  have hl : lv_has ls 4 [(0, .ref (h 0)), (1, .int (nI 5)), (2, .int x)] := hl
  refine lv_iload_n hx hb dX6_tellsIn_0 rfl (lv_at hl 1 rfl) ?_
  refine lv_if_ne (tgt := 32) hx hb dX6_tellsIn_1 (by decide) (fun _ => ?_) (fun q => absurd q (by decide))
  refine lv_iload_n hx hb dX6_tellsIn_32 rfl (lv_at hl 1 rfl) ?_
  refine lv_bipush (v := nI 6) hx hb dX6_tellsIn_33 (by decide) ?_
  refine lv_icmp_ne (tgt := 63) hx hb dX6_tellsIn_35 (by decide) (fun _ => ?_) (fun q => absurd q (by decide))
  refine lv_iload_n hx hb dX6_tellsIn_63 rfl (lv_at hl 1 rfl) ?_
  refine lv_iconst (v := nI 5) hx hb dX6_tellsIn_64 (by decide) ?_
  refine lv_icmp_ne (tgt := 93) hx hb dX6_tellsIn_65 (by decide) (fun q => absurd q (by decide)) (fun _ => ?_)
  refine lv_aload_n hx hb dX6_tellsIn_68 rfl (lv_at hl 0 rfl) ?_
  refine lv_bipush (v := nI 60) hx hb dX6_tellsIn_69 (by decide) ?_
  refine md_callV (y := yX6_ran) hx hb hml hown hts hK hI hM (met_ran F A T t 60 (by omega)) q1761 q1763 qs56 q1764 ndX6_ran rfl (by rw [hRf]; decide) (by rw [hRl]; decide) hl.1 rfl (Nat.le_of_ble_eq_true rfl) dX6_tellsIn_71 (fun H locs hM => ?_)
  refine lv_aload_n hx hb dX6_tellsIn_74 rfl (lv_at hl 0 rfl) ?_
  refine lv_iconst (v := nI 2) hx hb dX6_tellsIn_75 (by decide) ?_
  refine lv_iload_n hx hb dX6_tellsIn_76 rfl (lv_at hl 2 rfl) ?_
  refine md_callI (y := yX6_tellsIn) hx hb hml hown hts hK hI hM (met_tellsIn_2_5 F A (upd T t (nI 60)) (t + 1) hVK x (by omega)) q1773 q1775 qs59 q1776 ndX6_tellsIn rfl (by rw [hRf]; decide) (by rw [hRl]; decide) hl.1 rfl (Nat.le_of_ble_eq_true rfl) dX6_tellsIn_77 (fun H locs hM => ?_)
  refine lv_istore_n (lv' := [(3, .int ((((x + (F 26)) * (nI 3)) * (nI 2)) ^^^ (x - (F 27)))), (0, .ref (h 0)), (1, .int (nI 5)), (2, .int x)]) hx hb dX6_tellsIn_80 rfl hl (by decide) rfl (fun ls hl => ?_)
  refine lv_iload_n hx hb dX6_tellsIn_81 rfl (lv_at hl 0 rfl) ?_
  refine lv_aload_n hx hb dX6_tellsIn_82 rfl (lv_at hl 1 rfl) ?_
  refine lv_aload_n hx hb dX6_tellsIn_83 rfl (lv_at hl 1 rfl) ?_
  refine md_get (v := .int (F 25)) hx hb hts hown hK hM 25 (by decide) q1415 rfl rfl dX6_tellsIn_84 ?_
  refine w_top (nI 5) (hVK) ?_
  refine lv_iconst (v := nI 2) hx hb dX6_tellsIn_87 (by decide) ?_
  refine md_callI (y := yX6_wantsIn) hx hb hml hown hts hK hI hM (met_wantsIn_5_5 F A (upd (upd (upd (upd (upd (upd T t (nI 60)) (t + 1) (nI 13)) (t + 1 + 1) (nI 11)) (t + 1 + 1 + 1) (nI 30)) (t + 1 + 1 + 1 + 1) (nI 10)) (t + 1 + 1 + 1 + 1 + 1) (nI 12)) (t + 1 + 1 + 1 + 1 + 1 + 1) hVK (nI 2) (by omega)) q1757 q1759 qs55 q1760 ndX6_wantsIn rfl (by rw [hRf]; decide) (by rw [hRl]; decide) hl.1 rfl (Nat.le_of_ble_eq_true rfl) dX6_tellsIn_88 (fun H locs hM => ?_)
  refine lv_isub hx hb dX6_tellsIn_91 ?_
  exact hret hM (rfl) dX6_tellsIn_92
set_option maxHeartbeats 400000 in
theorem met_wantsIn_0_6 (F : Nat → Int32) (A : Nat → Nat → Int32) (T : Nat → Int32) (t : Nat) (hVK : F 25 = nI 6) (x : Int32) (ht : t + 1 ≤ 40) : MdF yX6_wantsIn cX6_wantsIn 3 (some .int) 1 21 [.int (nI 0), .int x] (upd F 24 (nI t)) (va_up A 14 T) (some (.int (x + (F 26)))) (upd F 24 (nI (t + 1))) (va_up A 14 (upd T t (nI 10))) := by
  refine MdF.ofI (by decide) rfl (Nat.le_of_ble_eq_true rfl) ?_
  intro p l e R s m args below meth c Q D h dA ls hx hb hml hRf hRl hts hown hK hI hM hl hret
  have hl : lv_has ls 3 [(0, .ref (h 0)), (1, .int (nI 0)), (2, .int x)] := hl
  refine lv_iload_n hx hb dX6_wantsIn_0 rfl (lv_at hl 1 rfl) ?_
  refine lv_if_ne (tgt := 17) hx hb dX6_wantsIn_1 (by decide) (fun q => absurd q (by decide)) (fun _ => ?_)
  refine lv_aload_n hx hb dX6_wantsIn_4 rfl (lv_at hl 0 rfl) ?_
  refine lv_bipush (v := nI 10) hx hb dX6_wantsIn_5 (by decide) ?_
  refine md_callV (y := yX6_ran) hx hb hml hown hts hK hI hM (met_ran F A T t 10 (by omega)) q1761 q1763 qs56 q1764 ndX6_ran rfl (by rw [hRf]; decide) (by rw [hRl]; decide) hl.1 rfl (Nat.le_of_ble_eq_true rfl) dX6_wantsIn_7 (fun H locs hM => ?_)
  refine lv_iload_n hx hb dX6_wantsIn_10 rfl (lv_at hl 2 rfl) ?_
  refine lv_aload_n hx hb dX6_wantsIn_11 rfl (lv_at hl 0 rfl) ?_
  refine md_get (v := .int (F 26)) hx hb hts hown hK hM 26 (by decide) q1416 rfl rfl dX6_wantsIn_12 ?_
  refine lv_iadd hx hb dX6_wantsIn_15 ?_
  exact hret hM (rfl) dX6_wantsIn_16
set_option maxHeartbeats 400000 in
theorem met_wantsIn_3_6 (F : Nat → Int32) (A : Nat → Nat → Int32) (T : Nat → Int32) (t : Nat) (hVK : F 25 = nI 6) (x : Int32) (ht : t + 1 ≤ 40) : MdF yX6_wantsIn cX6_wantsIn 3 (some .int) 2 43 [.int (nI 3), .int x] (upd F 24 (nI t)) (va_up A 14 T) (some (.int (x + (F 26)))) (upd F 24 (nI (t + 1))) (va_up A 14 (upd T t (nI 10))) := by
  refine MdF.ofI (by decide) rfl (Nat.le_of_ble_eq_true rfl) ?_
  intro p l e R s m args below meth c Q D h dA ls hx hb hml hRf hRl hts hown hK hI hM hl hret
  have hl : lv_has ls 3 [(0, .ref (h 0)), (1, .int (nI 3)), (2, .int x)] := hl
  refine lv_iload_n hx hb dX6_wantsIn_0 rfl (lv_at hl 1 rfl) ?_
  refine lv_if_ne (tgt := 17) hx hb dX6_wantsIn_1 (by decide) (fun _ => ?_) (fun q => absurd q (by decide))
  refine lv_iload_n hx hb dX6_wantsIn_17 rfl (lv_at hl 1 rfl) ?_
  refine lv_iconst (v := nI 2) hx hb dX6_wantsIn_18 (by decide) ?_
  refine lv_icmp_ne (tgt := 37) hx hb dX6_wantsIn_19 (by decide) (fun _ => ?_) (fun q => absurd q (by decide))
  refine lv_aload_n hx hb dX6_wantsIn_37 rfl (lv_at hl 0 rfl) ?_
  refine lv_iload_n hx hb dX6_wantsIn_38 rfl (lv_at hl 1 rfl) ?_
  refine st_callI (y := yX6_above) hx hb hml hown hts (met_above (nI 3)) q1614 q1615 q70 q1616 ndX6_above rfl (by rw [hRf]; decide) (by rw [hRl]; decide) ⟨Nat.zero_le _, Nat.zero_le _⟩ hl.1 rfl (Nat.le_of_ble_eq_true rfl) dX6_wantsIn_39 ?_
  refine w_top (nI 0) (by decide) ?_
  refine lv_iload_n hx hb dX6_wantsIn_42 rfl (lv_at hl 2 rfl) ?_
  refine md_callI (y := yX6_wantsIn) hx hb hml hown hts hK hI hM (met_wantsIn_0_6 F A T t hVK x (by omega)) q1757 q1759 qs55 q1760 ndX6_wantsIn rfl (by rw [hRf]; decide) (by rw [hRl]; decide) hl.1 rfl (Nat.le_of_ble_eq_true rfl) dX6_wantsIn_43 (fun H locs hM => ?_)
  exact hret hM (rfl) dX6_wantsIn_46
set_option maxHeartbeats 400000 in
theorem met_wantsIn_6_6 (F : Nat → Int32) (A : Nat → Nat → Int32) (T : Nat → Int32) (t : Nat) (hVK : F 25 = nI 6) (x : Int32) (ht : t + 1 ≤ 40) : MdF yX6_wantsIn cX6_wantsIn 3 (some .int) 3 65 [.int (nI 6), .int x] (upd F 24 (nI t)) (va_up A 14 T) (some (.int (x + (F 26)))) (upd F 24 (nI (t + 1))) (va_up A 14 (upd T t (nI 10))) := by
  refine MdF.ofI (by decide) rfl (Nat.le_of_ble_eq_true rfl) ?_
  intro p l e R s m args below meth c Q D h dA ls hx hb hml hRf hRl hts hown hK hI hM hl hret
  have hl : lv_has ls 3 [(0, .ref (h 0)), (1, .int (nI 6)), (2, .int x)] := hl
  refine lv_iload_n hx hb dX6_wantsIn_0 rfl (lv_at hl 1 rfl) ?_
  refine lv_if_ne (tgt := 17) hx hb dX6_wantsIn_1 (by decide) (fun _ => ?_) (fun q => absurd q (by decide))
  refine lv_iload_n hx hb dX6_wantsIn_17 rfl (lv_at hl 1 rfl) ?_
  refine lv_iconst (v := nI 2) hx hb dX6_wantsIn_18 (by decide) ?_
  refine lv_icmp_ne (tgt := 37) hx hb dX6_wantsIn_19 (by decide) (fun _ => ?_) (fun q => absurd q (by decide))
  refine lv_aload_n hx hb dX6_wantsIn_37 rfl (lv_at hl 0 rfl) ?_
  refine lv_iload_n hx hb dX6_wantsIn_38 rfl (lv_at hl 1 rfl) ?_
  refine st_callI (y := yX6_above) hx hb hml hown hts (met_above (nI 6)) q1614 q1615 q70 q1616 ndX6_above rfl (by rw [hRf]; decide) (by rw [hRl]; decide) ⟨Nat.zero_le _, Nat.zero_le _⟩ hl.1 rfl (Nat.le_of_ble_eq_true rfl) dX6_wantsIn_39 ?_
  refine w_top (nI 3) (by decide) ?_
  refine lv_iload_n hx hb dX6_wantsIn_42 rfl (lv_at hl 2 rfl) ?_
  refine md_callI (y := yX6_wantsIn) hx hb hml hown hts hK hI hM (met_wantsIn_3_6 F A T t hVK x (by omega)) q1757 q1759 qs55 q1760 ndX6_wantsIn rfl (by rw [hRf]; decide) (by rw [hRl]; decide) hl.1 rfl (Nat.le_of_ble_eq_true rfl) dX6_wantsIn_43 (fun H locs hM => ?_)
  exact hret hM (rfl) dX6_wantsIn_46
set_option maxHeartbeats 400000 in
theorem met_knowsIn_0_6 (F : Nat → Int32) (A : Nat → Nat → Int32) (T : Nat → Int32) (t : Nat) (hVK : F 25 = nI 6) (x : Int32) (ht : t + 1 ≤ 40) : MdF yX6_knowsIn cX6_knowsIn 3 (some .int) 1 21 [.int (nI 0), .int x] (upd F 24 (nI t)) (va_up A 14 T) (some (.int (x - (F 27)))) (upd F 24 (nI (t + 1))) (va_up A 14 (upd T t (nI 12))) := by
  refine MdF.ofI (by decide) rfl (Nat.le_of_ble_eq_true rfl) ?_
  intro p l e R s m args below meth c Q D h dA ls hx hb hml hRf hRl hts hown hK hI hM hl hret
  have hl : lv_has ls 3 [(0, .ref (h 0)), (1, .int (nI 0)), (2, .int x)] := hl
  refine lv_iload_n hx hb dX6_knowsIn_0 rfl (lv_at hl 1 rfl) ?_
  refine lv_if_ne (tgt := 17) hx hb dX6_knowsIn_1 (by decide) (fun q => absurd q (by decide)) (fun _ => ?_)
  refine lv_aload_n hx hb dX6_knowsIn_4 rfl (lv_at hl 0 rfl) ?_
  refine lv_bipush (v := nI 12) hx hb dX6_knowsIn_5 (by decide) ?_
  refine md_callV (y := yX6_ran) hx hb hml hown hts hK hI hM (met_ran F A T t 12 (by omega)) q1761 q1763 qs56 q1764 ndX6_ran rfl (by rw [hRf]; decide) (by rw [hRl]; decide) hl.1 rfl (Nat.le_of_ble_eq_true rfl) dX6_knowsIn_7 (fun H locs hM => ?_)
  refine lv_iload_n hx hb dX6_knowsIn_10 rfl (lv_at hl 2 rfl) ?_
  refine lv_aload_n hx hb dX6_knowsIn_11 rfl (lv_at hl 0 rfl) ?_
  refine md_get (v := .int (F 27)) hx hb hts hown hK hM 27 (by decide) q1417 rfl rfl dX6_knowsIn_12 ?_
  refine lv_isub hx hb dX6_knowsIn_15 ?_
  exact hret hM (rfl) dX6_knowsIn_16
set_option maxHeartbeats 400000 in
theorem met_knowsIn_3_6 (F : Nat → Int32) (A : Nat → Nat → Int32) (T : Nat → Int32) (t : Nat) (hVK : F 25 = nI 6) (x : Int32) (ht : t + 2 ≤ 40) : MdF yX6_knowsIn cX6_knowsIn 3 (some .int) 2 43 [.int (nI 3), .int x] (upd F 24 (nI t)) (va_up A 14 T) (some (.int (-(x - (F 27))))) (upd F 24 (nI (t + 1 + 1))) (va_up A 14 (upd (upd T t (nI 40)) (t + 1) (nI 12))) := by
  refine MdF.ofI (by decide) rfl (Nat.le_of_ble_eq_true rfl) ?_
  intro p l e R s m args below meth c Q D h dA ls hx hb hml hRf hRl hts hown hK hI hM hl hret
  have hl : lv_has ls 3 [(0, .ref (h 0)), (1, .int (nI 3)), (2, .int x)] := hl
  refine lv_iload_n hx hb dX6_knowsIn_0 rfl (lv_at hl 1 rfl) ?_
  refine lv_if_ne (tgt := 17) hx hb dX6_knowsIn_1 (by decide) (fun _ => ?_) (fun q => absurd q (by decide))
  refine lv_iload_n hx hb dX6_knowsIn_17 rfl (lv_at hl 1 rfl) ?_
  refine lv_iconst (v := nI 3) hx hb dX6_knowsIn_18 (by decide) ?_
  refine lv_icmp_ne (tgt := 36) hx hb dX6_knowsIn_19 (by decide) (fun q => absurd q (by decide)) (fun _ => ?_)
  refine lv_aload_n hx hb dX6_knowsIn_22 rfl (lv_at hl 0 rfl) ?_
  refine lv_bipush (v := nI 40) hx hb dX6_knowsIn_23 (by decide) ?_
  refine md_callV (y := yX6_ran) hx hb hml hown hts hK hI hM (met_ran F A T t 40 (by omega)) q1761 q1763 qs56 q1764 ndX6_ran rfl (by rw [hRf]; decide) (by rw [hRl]; decide) hl.1 rfl (Nat.le_of_ble_eq_true rfl) dX6_knowsIn_25 (fun H locs hM => ?_)
  refine lv_aload_n hx hb dX6_knowsIn_28 rfl (lv_at hl 0 rfl) ?_
  refine lv_iconst (v := nI 0) hx hb dX6_knowsIn_29 (by decide) ?_
  refine lv_iload_n hx hb dX6_knowsIn_30 rfl (lv_at hl 2 rfl) ?_
  refine md_callI (y := yX6_knowsIn) hx hb hml hown hts hK hI hM (met_knowsIn_0_6 F A (upd T t (nI 40)) (t + 1) hVK x (by omega)) q1769 q1771 qs58 q1772 ndX6_knowsIn rfl (by rw [hRf]; decide) (by rw [hRl]; decide) hl.1 rfl (Nat.le_of_ble_eq_true rfl) dX6_knowsIn_31 (fun H locs hM => ?_)
  refine lv_ineg hx hb dX6_knowsIn_34 ?_
  exact hret hM (rfl) dX6_knowsIn_35
set_option maxHeartbeats 400000 in
theorem met_knowsIn_6_6 (F : Nat → Int32) (A : Nat → Nat → Int32) (T : Nat → Int32) (t : Nat) (hVK : F 25 = nI 6) (x : Int32) (ht : t + 3 ≤ 40) : MdF yX6_knowsIn cX6_knowsIn 3 (some .int) 3 65 [.int (nI 6), .int x] (upd F 24 (nI t)) (va_up A 14 T) (some (.int ((-(x - (F 27))) ^^^ (F 26)))) (upd F 24 (nI (t + 1 + 1 + 1))) (va_up A 14 (upd (upd (upd T t (nI 70)) (t + 1) (nI 40)) (t + 1 + 1) (nI 12))) := by
  refine MdF.ofI (by decide) rfl (Nat.le_of_ble_eq_true rfl) ?_
  intro p l e R s m args below meth c Q D h dA ls hx hb hml hRf hRl hts hown hK hI hM hl hret
  have hl : lv_has ls 3 [(0, .ref (h 0)), (1, .int (nI 6)), (2, .int x)] := hl
  refine lv_iload_n hx hb dX6_knowsIn_0 rfl (lv_at hl 1 rfl) ?_
  refine lv_if_ne (tgt := 17) hx hb dX6_knowsIn_1 (by decide) (fun _ => ?_) (fun q => absurd q (by decide))
  refine lv_iload_n hx hb dX6_knowsIn_17 rfl (lv_at hl 1 rfl) ?_
  refine lv_iconst (v := nI 3) hx hb dX6_knowsIn_18 (by decide) ?_
  refine lv_icmp_ne (tgt := 36) hx hb dX6_knowsIn_19 (by decide) (fun _ => ?_) (fun q => absurd q (by decide))
  refine lv_iload_n hx hb dX6_knowsIn_36 rfl (lv_at hl 1 rfl) ?_
  refine lv_bipush (v := nI 6) hx hb dX6_knowsIn_37 (by decide) ?_
  refine lv_icmp_ne (tgt := 60) hx hb dX6_knowsIn_39 (by decide) (fun q => absurd q (by decide)) (fun _ => ?_)
  refine lv_aload_n hx hb dX6_knowsIn_42 rfl (lv_at hl 0 rfl) ?_
  refine lv_bipush (v := nI 70) hx hb dX6_knowsIn_43 (by decide) ?_
  refine md_callV (y := yX6_ran) hx hb hml hown hts hK hI hM (met_ran F A T t 70 (by omega)) q1761 q1763 qs56 q1764 ndX6_ran rfl (by rw [hRf]; decide) (by rw [hRl]; decide) hl.1 rfl (Nat.le_of_ble_eq_true rfl) dX6_knowsIn_45 (fun H locs hM => ?_)
  refine lv_aload_n hx hb dX6_knowsIn_48 rfl (lv_at hl 0 rfl) ?_
  refine lv_iconst (v := nI 3) hx hb dX6_knowsIn_49 (by decide) ?_
  refine lv_iload_n hx hb dX6_knowsIn_50 rfl (lv_at hl 2 rfl) ?_
  refine md_callI (y := yX6_knowsIn) hx hb hml hown hts hK hI hM (met_knowsIn_3_6 F A (upd T t (nI 70)) (t + 1) hVK x (by omega)) q1769 q1771 qs58 q1772 ndX6_knowsIn rfl (by rw [hRf]; decide) (by rw [hRl]; decide) hl.1 rfl (Nat.le_of_ble_eq_true rfl) dX6_knowsIn_51 (fun H locs hM => ?_)
  refine lv_aload_n hx hb dX6_knowsIn_54 rfl (lv_at hl 0 rfl) ?_
  refine md_get (v := .int (F 26)) hx hb hts hown hK hM 26 (by decide) q1416 rfl rfl dX6_knowsIn_55 ?_
  refine lv_ixor hx hb dX6_knowsIn_58 ?_
  exact hret hM (rfl) dX6_knowsIn_59
set_option maxHeartbeats 400000 in
theorem met_eatsIn_0_6 (F : Nat → Int32) (A : Nat → Nat → Int32) (T : Nat → Int32) (t : Nat) (hVK : F 25 = nI 6) (x : Int32) (ht : t + 2 ≤ 40) : MdF yX6_eatsIn cX6_eatsIn 4 (some .int) 4 87 [.int (nI 0), .int x] (upd F 24 (nI t)) (va_up A 14 T) (some (.int ((x + (F 26)) * (nI 2)))) (upd F 24 (nI (t + 1 + 1))) (va_up A 14 (upd (upd T t (nI 11)) (t + 1) (nI 10))) := by
  refine MdF.ofI (by decide) rfl (Nat.le_of_ble_eq_true rfl) ?_
  intro p l e R s m args below meth c Q D h dA ls hx hb hml hRf hRl hts hown hK hI hM hl hret
  have hl : lv_has ls 4 [(0, .ref (h 0)), (1, .int (nI 0)), (2, .int x)] := hl
  refine lv_iload_n hx hb dX6_eatsIn_0 rfl (lv_at hl 1 rfl) ?_
  refine lv_if_ne (tgt := 22) hx hb dX6_eatsIn_1 (by decide) (fun q => absurd q (by decide)) (fun _ => ?_)
  refine lv_aload_n hx hb dX6_eatsIn_4 rfl (lv_at hl 0 rfl) ?_
  refine lv_bipush (v := nI 11) hx hb dX6_eatsIn_5 (by decide) ?_
  refine md_callV (y := yX6_ran) hx hb hml hown hts hK hI hM (met_ran F A T t 11 (by omega)) q1761 q1763 qs56 q1764 ndX6_ran rfl (by rw [hRf]; decide) (by rw [hRl]; decide) hl.1 rfl (Nat.le_of_ble_eq_true rfl) dX6_eatsIn_7 (fun H locs hM => ?_)
  refine lv_aload_n hx hb dX6_eatsIn_10 rfl (lv_at hl 0 rfl) ?_
  refine lv_aload_n hx hb dX6_eatsIn_11 rfl (lv_at hl 0 rfl) ?_
  refine md_get (v := .int (F 25)) hx hb hts hown hK hM 25 (by decide) q1415 rfl rfl dX6_eatsIn_12 ?_
  refine w_top (nI 6) (hVK) ?_
  refine lv_iload_n hx hb dX6_eatsIn_15 rfl (lv_at hl 2 rfl) ?_
  refine md_callI (y := yX6_wantsIn) hx hb hml hown hts hK hI hM (met_wantsIn_6_6 F A (upd T t (nI 11)) (t + 1) hVK x (by omega)) q1757 q1759 qs55 q1760 ndX6_wantsIn rfl (by rw [hRf]; decide) (by rw [hRl]; decide) hl.1 rfl (Nat.le_of_ble_eq_true rfl) dX6_eatsIn_16 (fun H locs hM => ?_)
  refine lv_iconst (v := nI 2) hx hb dX6_eatsIn_19 (by decide) ?_
  refine lv_imul hx hb dX6_eatsIn_20 ?_
  exact hret hM (rfl) dX6_eatsIn_21
set_option maxHeartbeats 400000 in
theorem met_eatsIn_3_6 (F : Nat → Int32) (A : Nat → Nat → Int32) (T : Nat → Int32) (t : Nat) (hVK : F 25 = nI 6) (x : Int32) (ht : t + 2 ≤ 40) : MdF yX6_eatsIn cX6_eatsIn 4 (some .int) 5 110 [.int (nI 3), .int x] (upd F 24 (nI t)) (va_up A 14 T) (some (.int ((x + (F 26)) * (nI 2)))) (upd F 24 (nI (t + 1 + 1))) (va_up A 14 (upd (upd T t (nI 11)) (t + 1) (nI 10))) := by
  refine MdF.ofI (by decide) rfl (Nat.le_of_ble_eq_true rfl) ?_
  intro p l e R s m args below meth c Q D h dA ls hx hb hml hRf hRl hts hown hK hI hM hl hret
  have hl : lv_has ls 4 [(0, .ref (h 0)), (1, .int (nI 3)), (2, .int x)] := hl
  refine lv_iload_n hx hb dX6_eatsIn_0 rfl (lv_at hl 1 rfl) ?_
  refine lv_if_ne (tgt := 22) hx hb dX6_eatsIn_1 (by decide) (fun _ => ?_) (fun q => absurd q (by decide))
  refine lv_iload_n hx hb dX6_eatsIn_22 rfl (lv_at hl 1 rfl) ?_
  refine lv_iconst (v := nI 1) hx hb dX6_eatsIn_23 (by decide) ?_
  refine lv_icmp_ne (tgt := 52) hx hb dX6_eatsIn_24 (by decide) (fun _ => ?_) (fun q => absurd q (by decide))
  refine lv_iload_n hx hb dX6_eatsIn_52 rfl (lv_at hl 1 rfl) ?_
  refine lv_iconst (v := nI 4) hx hb dX6_eatsIn_53 (by decide) ?_
  refine lv_icmp_ne (tgt := 72) hx hb dX6_eatsIn_54 (by decide) (fun _ => ?_) (fun q => absurd q (by decide))
  refine lv_aload_n hx hb dX6_eatsIn_72 rfl (lv_at hl 0 rfl) ?_
  refine lv_iload_n hx hb dX6_eatsIn_73 rfl (lv_at hl 1 rfl) ?_
  refine st_callI (y := yX6_above) hx hb hml hown hts (met_above (nI 3)) q1614 q1615 q70 q1616 ndX6_above rfl (by rw [hRf]; decide) (by rw [hRl]; decide) ⟨Nat.zero_le _, Nat.zero_le _⟩ hl.1 rfl (Nat.le_of_ble_eq_true rfl) dX6_eatsIn_74 ?_
  refine w_top (nI 0) (by decide) ?_
  refine lv_iload_n hx hb dX6_eatsIn_77 rfl (lv_at hl 2 rfl) ?_
  refine md_callI (y := yX6_eatsIn) hx hb hml hown hts hK hI hM (met_eatsIn_0_6 F A T t hVK x (by omega)) q1765 q1767 qs57 q1768 ndX6_eatsIn rfl (by rw [hRf]; decide) (by rw [hRl]; decide) hl.1 rfl (Nat.le_of_ble_eq_true rfl) dX6_eatsIn_78 (fun H locs hM => ?_)
  exact hret hM (rfl) dX6_eatsIn_81
set_option maxHeartbeats 400000 in
theorem met_eatsIn_6_6 (F : Nat → Int32) (A : Nat → Nat → Int32) (T : Nat → Int32) (t : Nat) (hVK : F 25 = nI 6) (x : Int32) (ht : t + 2 ≤ 40) : MdF yX6_eatsIn cX6_eatsIn 4 (some .int) 6 133 [.int (nI 6), .int x] (upd F 24 (nI t)) (va_up A 14 T) (some (.int ((x + (F 26)) * (nI 2)))) (upd F 24 (nI (t + 1 + 1))) (va_up A 14 (upd (upd T t (nI 11)) (t + 1) (nI 10))) := by
  refine MdF.ofI (by decide) rfl (Nat.le_of_ble_eq_true rfl) ?_
  intro p l e R s m args below meth c Q D h dA ls hx hb hml hRf hRl hts hown hK hI hM hl hret
  have hl : lv_has ls 4 [(0, .ref (h 0)), (1, .int (nI 6)), (2, .int x)] := hl
  refine lv_iload_n hx hb dX6_eatsIn_0 rfl (lv_at hl 1 rfl) ?_
  refine lv_if_ne (tgt := 22) hx hb dX6_eatsIn_1 (by decide) (fun _ => ?_) (fun q => absurd q (by decide))
  refine lv_iload_n hx hb dX6_eatsIn_22 rfl (lv_at hl 1 rfl) ?_
  refine lv_iconst (v := nI 1) hx hb dX6_eatsIn_23 (by decide) ?_
  refine lv_icmp_ne (tgt := 52) hx hb dX6_eatsIn_24 (by decide) (fun _ => ?_) (fun q => absurd q (by decide))
  refine lv_iload_n hx hb dX6_eatsIn_52 rfl (lv_at hl 1 rfl) ?_
  refine lv_iconst (v := nI 4) hx hb dX6_eatsIn_53 (by decide) ?_
  refine lv_icmp_ne (tgt := 72) hx hb dX6_eatsIn_54 (by decide) (fun _ => ?_) (fun q => absurd q (by decide))
  refine lv_aload_n hx hb dX6_eatsIn_72 rfl (lv_at hl 0 rfl) ?_
  refine lv_iload_n hx hb dX6_eatsIn_73 rfl (lv_at hl 1 rfl) ?_
  refine st_callI (y := yX6_above) hx hb hml hown hts (met_above (nI 6)) q1614 q1615 q70 q1616 ndX6_above rfl (by rw [hRf]; decide) (by rw [hRl]; decide) ⟨Nat.zero_le _, Nat.zero_le _⟩ hl.1 rfl (Nat.le_of_ble_eq_true rfl) dX6_eatsIn_74 ?_
  refine w_top (nI 3) (by decide) ?_
  refine lv_iload_n hx hb dX6_eatsIn_77 rfl (lv_at hl 2 rfl) ?_
  refine md_callI (y := yX6_eatsIn) hx hb hml hown hts hK hI hM (met_eatsIn_3_6 F A T t hVK x (by omega)) q1765 q1767 qs57 q1768 ndX6_eatsIn rfl (by rw [hRf]; decide) (by rw [hRl]; decide) hl.1 rfl (Nat.le_of_ble_eq_true rfl) dX6_eatsIn_78 (fun H locs hM => ?_)
  exact hret hM (rfl) dX6_eatsIn_81
set_option maxHeartbeats 400000 in
theorem met_tellsIn_0_6 (F : Nat → Int32) (A : Nat → Nat → Int32) (T : Nat → Int32) (t : Nat) (hVK : F 25 = nI 6) (x : Int32) (ht : t + 6 ≤ 40) : MdF yX6_tellsIn cX6_tellsIn 4 (some .int) 7 156 [.int (nI 0), .int x] (upd F 24 (nI t)) (va_up A 14 T) (some (.int (((x + (F 26)) * (nI 2)) ^^^ ((-(x - (F 27))) ^^^ (F 26))))) (upd F 24 (nI (t + 1 + 1 + 1 + 1 + 1 + 1))) (va_up A 14 (upd (upd (upd (upd (upd (upd T t (nI 13)) (t + 1) (nI 11)) (t + 1 + 1) (nI 10)) (t + 1 + 1 + 1) (nI 70)) (t + 1 + 1 + 1 + 1) (nI 40)) (t + 1 + 1 + 1 + 1 + 1) (nI 12))) := by
  refine MdF.ofI (by decide) rfl (Nat.le_of_ble_eq_true rfl) ?_
  intro p l e R s m args below meth c Q D h dA ls hx hb hml hRf hRl hts hown hK hI hM hl hret
  have hl : lv_has ls 4 [(0, .ref (h 0)), (1, .int (nI 0)), (2, .int x)] := hl
  refine lv_iload_n hx hb dX6_tellsIn_0 rfl (lv_at hl 1 rfl) ?_
  refine lv_if_ne (tgt := 32) hx hb dX6_tellsIn_1 (by decide) (fun q => absurd q (by decide)) (fun _ => ?_)
  refine lv_aload_n hx hb dX6_tellsIn_4 rfl (lv_at hl 0 rfl) ?_
  refine lv_bipush (v := nI 13) hx hb dX6_tellsIn_5 (by decide) ?_
  refine md_callV (y := yX6_ran) hx hb hml hown hts hK hI hM (met_ran F A T t 13 (by omega)) q1761 q1763 qs56 q1764 ndX6_ran rfl (by rw [hRf]; decide) (by rw [hRl]; decide) hl.1 rfl (Nat.le_of_ble_eq_true rfl) dX6_tellsIn_7 (fun H locs hM => ?_)
  refine lv_aload_n hx hb dX6_tellsIn_10 rfl (lv_at hl 0 rfl) ?_
  refine lv_aload_n hx hb dX6_tellsIn_11 rfl (lv_at hl 0 rfl) ?_
  refine md_get (v := .int (F 25)) hx hb hts hown hK hM 25 (by decide) q1415 rfl rfl dX6_tellsIn_12 ?_
  refine w_top (nI 6) (hVK) ?_
  refine lv_iload_n hx hb dX6_tellsIn_15 rfl (lv_at hl 2 rfl) ?_
  refine md_callI (y := yX6_eatsIn) hx hb hml hown hts hK hI hM (met_eatsIn_6_6 F A (upd T t (nI 13)) (t + 1) hVK x (by omega)) q1765 q1767 qs57 q1768 ndX6_eatsIn rfl (by rw [hRf]; decide) (by rw [hRl]; decide) hl.1 rfl (Nat.le_of_ble_eq_true rfl) dX6_tellsIn_16 (fun H locs hM => ?_)
  refine lv_istore_n (lv' := [(3, .int ((x + (F 26)) * (nI 2))), (0, .ref (h 0)), (1, .int (nI 0)), (2, .int x)]) hx hb dX6_tellsIn_19 rfl hl (by decide) rfl (fun ls hl => ?_)
  refine lv_iload_n hx hb dX6_tellsIn_20 rfl (lv_at hl 0 rfl) ?_
  refine lv_aload_n hx hb dX6_tellsIn_21 rfl (lv_at hl 1 rfl) ?_
  refine lv_aload_n hx hb dX6_tellsIn_22 rfl (lv_at hl 1 rfl) ?_
  refine md_get (v := .int (F 25)) hx hb hts hown hK hM 25 (by decide) q1415 rfl rfl dX6_tellsIn_23 ?_
  refine w_top (nI 6) (hVK) ?_
  refine lv_iload_n hx hb dX6_tellsIn_26 rfl (lv_at hl 3 rfl) ?_
  refine md_callI (y := yX6_knowsIn) hx hb hml hown hts hK hI hM (met_knowsIn_6_6 F A (upd (upd (upd T t (nI 13)) (t + 1) (nI 11)) (t + 1 + 1) (nI 10)) (t + 1 + 1 + 1) hVK x (by omega)) q1769 q1771 qs58 q1772 ndX6_knowsIn rfl (by rw [hRf]; decide) (by rw [hRl]; decide) hl.1 rfl (Nat.le_of_ble_eq_true rfl) dX6_tellsIn_27 (fun H locs hM => ?_)
  refine lv_ixor hx hb dX6_tellsIn_30 ?_
  exact hret hM (rfl) dX6_tellsIn_31
set_option maxHeartbeats 400000 in
theorem met_tellsIn_3_6 (F : Nat → Int32) (A : Nat → Nat → Int32) (T : Nat → Int32) (t : Nat) (hVK : F 25 = nI 6) (x : Int32) (ht : t + 6 ≤ 40) : MdF yX6_tellsIn cX6_tellsIn 4 (some .int) 8 179 [.int (nI 3), .int x] (upd F 24 (nI t)) (va_up A 14 T) (some (.int (((x + (F 26)) * (nI 2)) ^^^ ((-(x - (F 27))) ^^^ (F 26))))) (upd F 24 (nI (t + 1 + 1 + 1 + 1 + 1 + 1))) (va_up A 14 (upd (upd (upd (upd (upd (upd T t (nI 13)) (t + 1) (nI 11)) (t + 1 + 1) (nI 10)) (t + 1 + 1 + 1) (nI 70)) (t + 1 + 1 + 1 + 1) (nI 40)) (t + 1 + 1 + 1 + 1 + 1) (nI 12))) := by
  refine MdF.ofI (by decide) rfl (Nat.le_of_ble_eq_true rfl) ?_
  intro p l e R s m args below meth c Q D h dA ls hx hb hml hRf hRl hts hown hK hI hM hl hret
  have hl : lv_has ls 4 [(0, .ref (h 0)), (1, .int (nI 3)), (2, .int x)] := hl
  refine lv_iload_n hx hb dX6_tellsIn_0 rfl (lv_at hl 1 rfl) ?_
  refine lv_if_ne (tgt := 32) hx hb dX6_tellsIn_1 (by decide) (fun _ => ?_) (fun q => absurd q (by decide))
  refine lv_iload_n hx hb dX6_tellsIn_32 rfl (lv_at hl 1 rfl) ?_
  refine lv_bipush (v := nI 6) hx hb dX6_tellsIn_33 (by decide) ?_
  refine lv_icmp_ne (tgt := 63) hx hb dX6_tellsIn_35 (by decide) (fun _ => ?_) (fun q => absurd q (by decide))
  refine lv_iload_n hx hb dX6_tellsIn_63 rfl (lv_at hl 1 rfl) ?_
  refine lv_iconst (v := nI 5) hx hb dX6_tellsIn_64 (by decide) ?_
  refine lv_icmp_ne (tgt := 93) hx hb dX6_tellsIn_65 (by decide) (fun _ => ?_) (fun q => absurd q (by decide))
  refine lv_aload_n hx hb dX6_tellsIn_93 rfl (lv_at hl 0 rfl) ?_
  refine lv_iload_n hx hb dX6_tellsIn_94 rfl (lv_at hl 1 rfl) ?_
  refine st_callI (y := yX6_above) hx hb hml hown hts (met_above (nI 3)) q1614 q1615 q70 q1616 ndX6_above rfl (by rw [hRf]; decide) (by rw [hRl]; decide) ⟨Nat.zero_le _, Nat.zero_le _⟩ hl.1 rfl (Nat.le_of_ble_eq_true rfl) dX6_tellsIn_95 ?_
  refine w_top (nI 0) (by decide) ?_
  refine lv_iload_n hx hb dX6_tellsIn_98 rfl (lv_at hl 2 rfl) ?_
  refine md_callI (y := yX6_tellsIn) hx hb hml hown hts hK hI hM (met_tellsIn_0_6 F A T t hVK x (by omega)) q1773 q1775 qs59 q1776 ndX6_tellsIn rfl (by rw [hRf]; decide) (by rw [hRl]; decide) hl.1 rfl (Nat.le_of_ble_eq_true rfl) dX6_tellsIn_99 (fun H locs hM => ?_)
  exact hret hM (rfl) dX6_tellsIn_102
set_option maxHeartbeats 400000 in
theorem met_tellsIn_6_6 (F : Nat → Int32) (A : Nat → Nat → Int32) (T : Nat → Int32) (t : Nat) (hVK : F 25 = nI 6) (x : Int32) (ht : t + 9 ≤ 40) : MdF yX6_tellsIn cX6_tellsIn 4 (some .int) 9 202 [.int (nI 6), .int x] (upd F 24 (nI t)) (va_up A 14 T) (some (.int (((x + (F 26)) * (nI 2)) - (((x + (F 26)) * (nI 2)) ^^^ ((-(x - (F 27))) ^^^ (F 26)))))) (upd F 24 (nI (t + 1 + 1 + 1 + 1 + 1 + 1 + 1 + 1 + 1))) (va_up A 14 (upd (upd (upd (upd (upd (upd (upd (upd (upd T t (nI 71)) (t + 1) (nI 11)) (t + 1 + 1) (nI 10)) (t + 1 + 1 + 1) (nI 13)) (t + 1 + 1 + 1 + 1) (nI 11)) (t + 1 + 1 + 1 + 1 + 1) (nI 10)) (t + 1 + 1 + 1 + 1 + 1 + 1) (nI 70)) (t + 1 + 1 + 1 + 1 + 1 + 1 + 1) (nI 40)) (t + 1 + 1 + 1 + 1 + 1 + 1 + 1 + 1) (nI 12))) := by
  refine MdF.ofI (by decide) rfl (Nat.le_of_ble_eq_true rfl) ?_
  intro p l e R s m args below meth c Q D h dA ls hx hb hml hRf hRl hts hown hK hI hM hl hret
  have hl : lv_has ls 4 [(0, .ref (h 0)), (1, .int (nI 6)), (2, .int x)] := hl
  refine lv_iload_n hx hb dX6_tellsIn_0 rfl (lv_at hl 1 rfl) ?_
  refine lv_if_ne (tgt := 32) hx hb dX6_tellsIn_1 (by decide) (fun _ => ?_) (fun q => absurd q (by decide))
  refine lv_iload_n hx hb dX6_tellsIn_32 rfl (lv_at hl 1 rfl) ?_
  refine lv_bipush (v := nI 6) hx hb dX6_tellsIn_33 (by decide) ?_
  refine lv_icmp_ne (tgt := 63) hx hb dX6_tellsIn_35 (by decide) (fun q => absurd q (by decide)) (fun _ => ?_)
  refine lv_aload_n hx hb dX6_tellsIn_38 rfl (lv_at hl 0 rfl) ?_
  refine lv_bipush (v := nI 71) hx hb dX6_tellsIn_39 (by decide) ?_
  refine md_callV (y := yX6_ran) hx hb hml hown hts hK hI hM (met_ran F A T t 71 (by omega)) q1761 q1763 qs56 q1764 ndX6_ran rfl (by rw [hRf]; decide) (by rw [hRl]; decide) hl.1 rfl (Nat.le_of_ble_eq_true rfl) dX6_tellsIn_41 (fun H locs hM => ?_)
  refine lv_aload_n hx hb dX6_tellsIn_44 rfl (lv_at hl 0 rfl) ?_
  refine lv_aload_n hx hb dX6_tellsIn_45 rfl (lv_at hl 0 rfl) ?_
  refine md_get (v := .int (F 25)) hx hb hts hown hK hM 25 (by decide) q1415 rfl rfl dX6_tellsIn_46 ?_
  refine w_top (nI 6) (hVK) ?_
  refine lv_iload_n hx hb dX6_tellsIn_49 rfl (lv_at hl 2 rfl) ?_
  refine md_callI (y := yX6_eatsIn) hx hb hml hown hts hK hI hM (met_eatsIn_6_6 F A (upd T t (nI 71)) (t + 1) hVK x (by omega)) q1765 q1767 qs57 q1768 ndX6_eatsIn rfl (by rw [hRf]; decide) (by rw [hRl]; decide) hl.1 rfl (Nat.le_of_ble_eq_true rfl) dX6_tellsIn_50 (fun H locs hM => ?_)
  refine lv_istore_n (lv' := [(3, .int ((x + (F 26)) * (nI 2))), (0, .ref (h 0)), (1, .int (nI 6)), (2, .int x)]) hx hb dX6_tellsIn_53 rfl hl (by decide) rfl (fun ls hl => ?_)
  refine lv_iload_n hx hb dX6_tellsIn_54 rfl (lv_at hl 0 rfl) ?_
  refine lv_aload_n hx hb dX6_tellsIn_55 rfl (lv_at hl 1 rfl) ?_
  refine lv_iconst (v := nI 3) hx hb dX6_tellsIn_56 (by decide) ?_
  refine lv_iload_n hx hb dX6_tellsIn_57 rfl (lv_at hl 3 rfl) ?_
  refine md_callI (y := yX6_tellsIn) hx hb hml hown hts hK hI hM (met_tellsIn_3_6 F A (upd (upd (upd T t (nI 71)) (t + 1) (nI 11)) (t + 1 + 1) (nI 10)) (t + 1 + 1 + 1) hVK x (by omega)) q1773 q1775 qs59 q1776 ndX6_tellsIn rfl (by rw [hRf]; decide) (by rw [hRl]; decide) hl.1 rfl (Nat.le_of_ble_eq_true rfl) dX6_tellsIn_58 (fun H locs hM => ?_)
  refine lv_isub hx hb dX6_tellsIn_61 ?_
  exact hret hM (rfl) dX6_tellsIn_62
