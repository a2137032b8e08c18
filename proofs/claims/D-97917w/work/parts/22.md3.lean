/-! the model: texts (printed by model3.py) -/
set_option maxRecDepth 100000
theorem ndX6_fails : yX6_fails.cls = RX6 ∧ yX6_fails.cls ≠ "java/lang/invoke/MethodHandle" ∧ yX6_fails.cls ≠ "java/lang/invoke/VarHandle" ∧ (parseMethodDescriptor yX6_fails.desc).map (fun d => d.parameters.length) = some 0 := by decide +kernel
set_option maxHeartbeats 400000 in
theorem met_fails (f : Nat → Int32) (a : Nat → Nat → Int32) : MdF yX6_fails cX6_fails 1 (some .int) 0 0 [] f a (some (.int (nI 0))) (upd f 14 (nI 0)) a := by
  refine MdF.ofI (by decide) rfl (Nat.le_of_ble_eq_true rfl) ?_
  intro p l e R s m args below meth c Q D h dA ls hx hb hml hRf hRl hts hown hK hI hM hl hret
  have hl : lv_has ls 1 [(0, .ref (h 0))] := hl
  refine lv_aload_n hx hb dX6_fails_0 rfl (lv_at hl 0 rfl) ?_
  refine lv_iconst (v := nI 0) hx hb dX6_fails_1 (by decide) ?_
  refine md_put hx hb hts hown hK hI hM 14 (by decide) q1404 rfl rfl rfl rfl rfl dX6_fails_2 (fun H locs hM => ?_)
  refine lv_iconst (v := nI 0) hx hb dX6_fails_5 (by decide) ?_
  exact hret hM (by first | rfl | (simp only [iI, nI_0, nI_one]; grind)) dX6_fails_6
theorem ndX6_byteAt : yX6_byteAt.cls = RX6 ∧ yX6_byteAt.cls ≠ "java/lang/invoke/MethodHandle" ∧ yX6_byteAt.cls ≠ "java/lang/invoke/VarHandle" ∧ (parseMethodDescriptor yX6_byteAt.desc).map (fun d => d.parameters.length) = some 1 := by decide +kernel
set_option maxHeartbeats 400000 in
theorem met_byteAt (f : Nat → Int32) (a : Nat → Nat → Int32) (u n k : Nat) (h7 : f 7 = nI u) (h9 : f 9 = nI n) (hu : u < 2) (hn : n ≤ 50) (hk : k < 2 ^ 31) : MdF yX6_byteAt cX6_byteAt 2 (some .int) 0 0 [.int (nI k)] f a (some (.int (tk (bT a u) n k))) f a := by
  refine MdF.ofI (by decide) rfl (Nat.le_of_ble_eq_true rfl) ?_
  intro p l e R s m args below meth c Q D h dA ls hx hb hml hRf hRl hts hown hK hI hM hl hret
  have hl : lv_has ls 2 [(0, .ref (h 0)), (1, .int (nI k))] := hl
  refine lv_iload_n hx hb dX6_byteAt_0 rfl (lv_at hl 1 rfl) ?_
  refine lv_aload_n hx hb dX6_byteAt_1 rfl (lv_at hl 0 rfl) ?_
  refine md_get (v := .int (f 9)) hx hb hts hown hK hM 9 (by decide) q1399 rfl rfl dX6_byteAt_2 ?_
  refine w_top (nI n) (h9) ?_
  refine w_icmp_geN (tgt := 29) hx hb (by omega) (by omega) dX6_byteAt_5 (by decide) (fun c_1 => ?_) (fun c_1 => ?_)
  · refine lv_iconst (v := (-1 : Int32)) hx hb dX6_byteAt_29 (by decide) ?_
    exact hret hM (by simp only [tk, bT]; grind) dX6_byteAt_30
  · refine lv_aload_n hx hb dX6_byteAt_8 rfl (lv_at hl 0 rfl) ?_
    refine md_get (v := .ref (h 1)) hx hb hts hown hK hM 0 (by decide) q1390 rfl rfl dX6_byteAt_9 ?_
    refine lv_sipush (v := nI 198) hx hb dX6_byteAt_12 (by decide) ?_
    refine lv_bipush (v := nI 50) hx hb dX6_byteAt_15 (by decide) ?_
    refine lv_aload_n hx hb dX6_byteAt_17 rfl (lv_at hl 0 rfl) ?_
    refine md_get (v := .int (f 7)) hx hb hts hown hK hM 7 (by decide) q1397 rfl rfl dX6_byteAt_18 ?_
    refine w_top (nI u) (h7) ?_
    refine w_imulN hx hb dX6_byteAt_21 ?_
    refine w_iaddN hx hb dX6_byteAt_22 ?_
    refine lv_iload_n hx hb dX6_byteAt_23 rfl (lv_at hl 1 rfl) ?_
    refine w_iaddN hx hb dX6_byteAt_24 ?_
    refine md_iald hx hb hK hM 1 rfl ((198 + (50 * u)) + k) ⟨by omega, by decide, rfl⟩ dX6_byteAt_25 ?_
    refine lv_goto (tgt := 30) hx hb dX6_byteAt_26 (by decide) ?_
    exact hret hM (by simp only [tk, bT]; grind) dX6_byteAt_30
theorem ndX6_number : yX6_number.cls = RX6 ∧ yX6_number.cls ≠ "java/lang/invoke/MethodHandle" ∧ yX6_number.cls ≠ "java/lang/invoke/VarHandle" ∧ (parseMethodDescriptor yX6_number.desc).map (fun d => d.parameters.length) = some 0 := by decide +kernel
set_option maxHeartbeats 400000 in
theorem met_number (f : Nat → Int32) (a : Nat → Nat → Int32) (u n : Nat) (x y z : Int32) (hS : txS f u n x y z) (t : Nat) (ht : t ≤ n) : MdF yX6_number cX6_number 3 (some .int) 2 42 [] (fT f t true) a (some (.int ((digs (bT a u) n 4 t (nI 0)).1))) (fT f (digs (bT a u) n 4 t (nI 0)).2 true) a := by
  refine MdF.ofI (by decide) rfl (Nat.le_of_ble_eq_true rfl) ?_
  intro p l e R s m args below meth c Q D h dA ls hx hb hml hRf hRl hts hown hK hI hM hl hret
  have hl : lv_has ls 3 [(0, .ref (h 0))] := hl
  refine lv_iconst (v := nI 0) hx hb dX6_number_0 (by decide) ?_
  refine lv_istore_n (lv' := [(1, .int (nI 0)), (0, .ref (h 0))]) hx hb dX6_number_1 rfl hl (by decide) rfl (fun ls hl => ?_)
  refine lv_iconst (v := nI 0) hx hb dX6_number_2 (by decide) ?_
  refine lv_istore_n (lv' := [(2, .int (nI 0)), (1, .int (nI 0)), (0, .ref (h 0))]) hx hb dX6_number_3 rfl hl (by decide) rfl (fun ls hl => ?_)
  have loop4 : ∀ (fu : Nat) (k t1 : Nat) (v : Int32), (k ≤ 4) → (4 < k + fu) → (t1 ≤ n) → (digs (bT a u) n 4 t (nI 0) = digs (bT a u) n (4 - k) t1 v) → ∀ (H : Heap) (locs : List Loc), mdH D h dA s.heap H locs (fT f t1 true) a → ∀ (ls : Array Slot), lv_has ls 3 [(2, .int (nI k)), (0, .ref (h 0)), (1, .int v)] → W p l e R s m args below meth c H locs 0 0 Q (F0 m 4 ls []) := by
    intro fu
    induction fu with
    | zero =>
      intro k t1 v hk hn ht1 e
      omega
    | succ fu ih4 =>
      intro k t1 v hk hn ht1 e H locs hM ls hl
      have hn50 : n ≤ 50 := hS.2.2.2.2.2.2
      refine lv_iload_n hx hb dX6_number_4 rfl (lv_at hl 0 rfl) ?_
      refine lv_iconst (v := nI 4) hx hb dX6_number_5 (by decide) ?_
      refine w_icmp_geN (tgt := 56) hx hb (by omega) (by omega) dX6_number_6 (by decide) (fun c_1 => ?_) (fun c_1 => ?_)
      · refine lv_iload_n hx hb dX6_number_56 rfl (lv_at hl 2 rfl) ?_
        exact hret (hM.to (by rw [e]; first | (rw [show 4 - k = 0 by omega, digs]; done) | (rw [show 4 - k = (3 - k) + 1 by omega, digs, if_neg c_2]; done)) rfl) (by rw [e]; first | (rw [show 4 - k = 0 by omega, digs]; done) | (rw [show 4 - k = (3 - k) + 1 by omega, digs, if_neg c_2]; done)) dX6_number_57
      · refine lv_aload_n hx hb dX6_number_9 rfl (lv_at hl 1 rfl) ?_
        refine lv_aload_n hx hb dX6_number_10 rfl (lv_at hl 1 rfl) ?_
        refine md_get (v := .int (nI t1)) hx hb hts hown hK hM 8 (by decide) q1398 rfl rfl dX6_number_11 ?_
        refine md_callI (y := yX6_byteAt) hx hb hml hown hts hK hI hM (met_byteAt (fT f t1 true) a u n t1 hS.1 hS.2.1 hS.2.2.2.2.2.1 hS.2.2.2.2.2.2 (by omega)) q1538 q1540 qs31 q1541 ndX6_byteAt rfl (by rw [hRf]; decide) (by rw [hRl]; decide) hl.1 rfl (Nat.le_of_ble_eq_true rfl) dX6_number_14 (fun H locs hM => ?_)
        refine st_callI (y := yX6_isDigit) hx hb hml hown hts (met_isDigit (tk (bT a u) n t1)) q1542 q1543 q70 q1544 ndX6_isDigit rfl (by rw [hRf]; decide) (by rw [hRl]; decide) ⟨Nat.zero_le _, Nat.zero_le _⟩ hl.1 rfl (Nat.le_of_ble_eq_true rfl) dX6_number_17 ?_
        refine w_if_eqT (tgt := 56) hx hb dX6_number_20 (by decide) (fun c_2 => ?_) (fun c_2 => ?_)
        · refine lv_iload_n hx hb dX6_number_56 rfl (lv_at hl 2 rfl) ?_
          exact hret (hM.to (by rw [e]; first | (rw [show 4 - k = 0 by omega, digs]; done) | (rw [show 4 - k = (3 - k) + 1 by omega, digs, if_neg c_2]; done)) rfl) (by rw [e]; first | (rw [show 4 - k = 0 by omega, digs]; done) | (rw [show 4 - k = (3 - k) + 1 by omega, digs, if_neg c_2]; done)) dX6_number_57
        · have hlt : t1 < n := tk_lt (fun q => by rw [q] at c_2; exact absurd c_2 (by decide))
          refine lv_bipush (v := nI 10) hx hb dX6_number_23 (by decide) ?_
          refine lv_iload_n hx hb dX6_number_25 rfl (lv_at hl 2 rfl) ?_
          refine lv_imul hx hb dX6_number_26 ?_
          refine lv_aload_n hx hb dX6_number_27 rfl (lv_at hl 1 rfl) ?_
          refine lv_aload_n hx hb dX6_number_28 rfl (lv_at hl 1 rfl) ?_
          refine md_get (v := .int (nI t1)) hx hb hts hown hK hM 8 (by decide) q1398 rfl rfl dX6_number_29 ?_
          refine md_callI (y := yX6_byteAt) hx hb hml hown hts hK hI hM (met_byteAt (fT f t1 true) a u n t1 hS.1 hS.2.1 hS.2.2.2.2.2.1 hS.2.2.2.2.2.2 (by omega)) q1538 q1540 qs31 q1541 ndX6_byteAt rfl (by rw [hRf]; decide) (by rw [hRl]; decide) hl.1 rfl (Nat.le_of_ble_eq_true rfl) dX6_number_32 (fun H locs hM => ?_)
          refine lv_iadd hx hb dX6_number_35 ?_
          refine lv_bipush (v := nI 48) hx hb dX6_number_36 (by decide) ?_
          refine lv_isub hx hb dX6_number_38 ?_
          refine lv_istore_n (lv' := [(1, .int ((((nI 10) * v) + (tk (bT a u) n t1)) - (nI 48))), (2, .int (nI k)), (0, .ref (h 0))]) hx hb dX6_number_39 rfl hl (by decide) rfl (fun ls hl => ?_)
          refine lv_aload_n hx hb dX6_number_40 rfl (lv_at hl 2 rfl) ?_
          refine lv_dup hx hb dX6_number_41 rfl ?_
          refine md_get (v := .int (nI t1)) hx hb hts hown hK hM 8 (by decide) q1398 rfl rfl dX6_number_42 ?_
          refine lv_iconst (v := nI 1) hx hb dX6_number_45 (by decide) ?_
          refine w_iaddN hx hb dX6_number_46 ?_
          refine md_put hx hb hts hown hK hI hM 8 (by decide) q1398 rfl rfl rfl rfl rfl dX6_number_47 (fun H locs hM => ?_)
          have hM := hM.to (f' := fT f (t1 + 1) true) (fT_8 _ _ _ _) rfl
          refine lv_iinc (v := nI (k + 1)) (lv' := [(2, .int (nI (k + 1))), (1, .int ((((nI 10) * v) + (tk (bT a u) n t1)) - (nI 48))), (0, .ref (h 0))]) hx hb dX6_number_50 hl (k := 1) rfl (by rw [show Int32.ofInt 1 = nI 1 from by decide]; exact nI_add _ _) (by decide) rfl (fun ls hl => ?_)
          refine lv_goto (tgt := 4) hx hb dX6_number_53 (by decide) ?_
          exact ih4 (k + 1) (t1 + 1) (nI 10 * v + tk (bT a u) n t1 - nI 48) (by omega) (by omega) hlt (by rw [e, show 4 - k = (4 - (k + 1)) + 1 by omega, digs, if_pos c_2]) _ _ hM ls (lv_sub hl [0, 2, 1] rfl)
  exact loop4 5 0 t (nI 0) (by omega) (by omega) ht rfl _ _ hM ls (lv_sub hl [0, 2, 1] rfl)
theorem met_failsT (f : Nat → Int32) (a : Nat → Nat → Int32) (t : Nat) (g : Bool) : MdF yX6_fails cX6_fails 1 (some .int) 0 0 [] (fT f t g) a (some (.int (nI 0))) (fT f t false) a := by
  have h := met_fails (fT f t g) a
  rw [show (nI 0) = iI (false = true) from rfl, fT_14] at h
  exact h
theorem ndX6_named : yX6_named.cls = RX6 ∧ yX6_named.cls ≠ "java/lang/invoke/MethodHandle" ∧ yX6_named.cls ≠ "java/lang/invoke/VarHandle" ∧ (parseMethodDescriptor yX6_named.desc).map (fun d => d.parameters.length) = some 1 := by decide +kernel
set_option maxHeartbeats 400000 in
theorem met_named0_y (f : Nat → Int32) (a : Nat → Nat → Int32) (n : Nat) (x y z : Int32) (hS : txS f 0 n x y z) (t : Nat) (c0 : Int32) (hc : isNm 0 c0 = true) : MdF yX6_named cX6_named 5 (some .int) 1 20 [.int c0] (fT f t true) a (some (.int (nmV 0 x y z c0))) (fT f (t + 1) true) a := by
  refine MdF.ofI (by decide) rfl (Nat.le_of_ble_eq_true rfl) ?_
  intro p l e R s m args below meth c Q D h dA ls hx hb hml hRf hRl hts hown hK hI hM hl hret
  have hl : lv_has ls 5 [(0, .ref (h 0)), (1, .int c0)] := hl
  refine lv_iload_n hx hb dX6_named_0 rfl (lv_at hl 1 rfl) ?_
  refine lv_aload_n hx hb dX6_named_1 rfl (lv_at hl 0 rfl) ?_
  refine md_get (v := .int ((fT f t true) 7)) hx hb hts hown hK hM 7 (by decide) q1397 rfl rfl dX6_named_2 ?_
  refine w_top (nI 0) (hS.1) ?_
  refine lv_if_ne (tgt := 13) hx hb dX6_named_5 (by decide) (fun q => absurd q (by decide)) (fun _ => ?_)
  refine lv_bipush (v := nI 103) hx hb dX6_named_8 (by decide) ?_
  refine lv_goto (tgt := 15) hx hb dX6_named_10 (by decide) ?_
  refine lv_icmp_ne (tgt := 22) hx hb dX6_named_15 (by decide) (fun c_2 => ?_) (fun c_2 => ?_)
  · refine lv_iconst (v := nI 0) hx hb dX6_named_22 (by decide) ?_
    refine lv_istore_n (lv' := [(2, .int (nI 0)), (0, .ref (h 0)), (1, .int c0)]) hx hb dX6_named_23 rfl hl (by decide) rfl (fun ls hl => ?_)
    refine lv_iload_n hx hb dX6_named_24 rfl (lv_at hl 2 rfl) ?_
    refine lv_aload_n hx hb dX6_named_25 rfl (lv_at hl 1 rfl) ?_
    refine md_get (v := .int ((fT f t true) 7)) hx hb hts hown hK hM 7 (by decide) q1397 rfl rfl dX6_named_26 ?_
    refine w_top (nI 0) (hS.1) ?_
    refine lv_if_ne (tgt := 37) hx hb dX6_named_29 (by decide) (fun q => absurd q (by decide)) (fun _ => ?_)
    refine lv_bipush (v := nI 107) hx hb dX6_named_32 (by decide) ?_
    refine lv_goto (tgt := 39) hx hb dX6_named_34 (by decide) ?_
    refine lv_icmp_ne (tgt := 46) hx hb dX6_named_39 (by decide) (fun c_4 => ?_) (fun c_4 => ?_)
    · refine lv_iconst (v := nI 0) hx hb dX6_named_46 (by decide) ?_
      refine lv_istore_n (lv' := [(3, .int (nI 0)), (2, .int (nI 0)), (0, .ref (h 0)), (1, .int c0)]) hx hb dX6_named_47 rfl hl (by decide) rfl (fun ls hl => ?_)
      refine lv_iload_n hx hb dX6_named_48 rfl (lv_at hl 3 rfl) ?_
      refine lv_aload_n hx hb dX6_named_49 rfl (lv_at hl 2 rfl) ?_
      refine md_get (v := .int ((fT f t true) 7)) hx hb hts hown hK hM 7 (by decide) q1397 rfl rfl dX6_named_50 ?_
      refine w_top (nI 0) (hS.1) ?_
      refine lv_if_ne (tgt := 61) hx hb dX6_named_53 (by decide) (fun q => absurd q (by decide)) (fun _ => ?_)
      refine lv_bipush (v := nI 100) hx hb dX6_named_56 (by decide) ?_
      refine lv_goto (tgt := 63) hx hb dX6_named_58 (by decide) ?_
      refine lv_icmp_ne (tgt := 70) hx hb dX6_named_63 (by decide) (fun c_6 => ?_) (fun c_6 => ?_)
      · refine lv_iconst (v := nI 0) hx hb dX6_named_70 (by decide) ?_
        refine lv_istore (lv' := [(4, .int (nI 0)), (3, .int (nI 0)), (2, .int (nI 0)), (0, .ref (h 0)), (1, .int c0)]) hx hb dX6_named_71 hl (by decide) rfl (fun ls hl => ?_)
        refine lv_iload_n hx hb dX6_named_73 rfl (lv_at hl 2 rfl) ?_
        refine lv_if_ne (tgt := 91) hx hb dX6_named_74 (by decide) (fun q => absurd q (by decide)) (fun _ => ?_)
        refine lv_iload_n hx hb dX6_named_77 rfl (lv_at hl 1 rfl) ?_
        refine lv_if_ne (tgt := 91) hx hb dX6_named_78 (by decide) (fun q => absurd q (by decide)) (fun _ => ?_)
        refine lv_iload hx hb dX6_named_81 (lv_at hl 0 rfl) ?_
        refine lv_if_ne (tgt := 91) hx hb dX6_named_83 (by decide) (fun q => absurd q (by decide)) (fun _ => ?_)
        exact absurd hc (by simp only [isNm]; grind)
      · refine lv_iconst (v := nI 1) hx hb dX6_named_66 (by decide) ?_
        refine lv_goto (tgt := 71) hx hb dX6_named_67 (by decide) ?_
        refine lv_istore (lv' := [(4, .int (nI 1)), (3, .int (nI 0)), (2, .int (nI 0)), (0, .ref (h 0)), (1, .int c0)]) hx hb dX6_named_71 hl (by decide) rfl (fun ls hl => ?_)
        refine lv_iload_n hx hb dX6_named_73 rfl (lv_at hl 2 rfl) ?_
        refine lv_if_ne (tgt := 91) hx hb dX6_named_74 (by decide) (fun q => absurd q (by decide)) (fun _ => ?_)
        refine lv_iload_n hx hb dX6_named_77 rfl (lv_at hl 1 rfl) ?_
        refine lv_if_ne (tgt := 91) hx hb dX6_named_78 (by decide) (fun q => absurd q (by decide)) (fun _ => ?_)
        refine lv_iload hx hb dX6_named_81 (lv_at hl 0 rfl) ?_
        refine lv_if_ne (tgt := 91) hx hb dX6_named_83 (by decide) (fun _ => ?_) (fun q => absurd q (by decide))
        refine lv_aload_n hx hb dX6_named_91 rfl (lv_at hl 3 rfl) ?_
        refine lv_dup hx hb dX6_named_92 rfl ?_
        refine md_get (v := .int (nI t)) hx hb hts hown hK hM 8 (by decide) q1398 rfl rfl dX6_named_93 ?_
        refine lv_iconst (v := nI 1) hx hb dX6_named_96 (by decide) ?_
        refine w_iaddN hx hb dX6_named_97 ?_
        refine md_put hx hb hts hown hK hI hM 8 (by decide) q1398 rfl rfl rfl rfl rfl dX6_named_98 (fun H locs hM => ?_)
        have hM := hM.to (f' := fT f (t + 1) true) (fT_8 _ _ _ _) rfl
        refine lv_iload_n hx hb dX6_named_101 rfl (lv_at hl 2 rfl) ?_
        refine lv_if_eq (tgt := 112) hx hb dX6_named_102 (by decide) (fun _ => ?_) (fun q => absurd q (by decide))
        refine lv_iload_n hx hb dX6_named_112 rfl (lv_at hl 1 rfl) ?_
        refine lv_if_eq (tgt := 123) hx hb dX6_named_113 (by decide) (fun _ => ?_) (fun q => absurd q (by decide))
        refine lv_aload_n hx hb dX6_named_123 rfl (lv_at hl 3 rfl) ?_
        refine md_get (v := .int ((fT f (t + 1) true) 13)) hx hb hts hown hK hM 13 (by decide) q1403 rfl rfl dX6_named_124 ?_
        refine w_top z (hS.2.2.2.2.1) ?_
        exact hret hM (by simp only [nmV]; grind) dX6_named_127
    · refine lv_iconst (v := nI 1) hx hb dX6_named_42 (by decide) ?_
      refine lv_goto (tgt := 47) hx hb dX6_named_43 (by decide) ?_
      refine lv_istore_n (lv' := [(3, .int (nI 1)), (2, .int (nI 0)), (0, .ref (h 0)), (1, .int c0)]) hx hb dX6_named_47 rfl hl (by decide) rfl (fun ls hl => ?_)
      refine lv_iload_n hx hb dX6_named_48 rfl (lv_at hl 3 rfl) ?_
      refine lv_aload_n hx hb dX6_named_49 rfl (lv_at hl 2 rfl) ?_
      refine md_get (v := .int ((fT f t true) 7)) hx hb hts hown hK hM 7 (by decide) q1397 rfl rfl dX6_named_50 ?_
      refine w_top (nI 0) (hS.1) ?_
      refine lv_if_ne (tgt := 61) hx hb dX6_named_53 (by decide) (fun q => absurd q (by decide)) (fun _ => ?_)
      refine lv_bipush (v := nI 100) hx hb dX6_named_56 (by decide) ?_
      refine lv_goto (tgt := 63) hx hb dX6_named_58 (by decide) ?_
      refine lv_icmp_ne (tgt := 70) hx hb dX6_named_63 (by decide) (fun c_16 => ?_) (fun c_16 => ?_)
      · refine lv_iconst (v := nI 0) hx hb dX6_named_70 (by decide) ?_
        refine lv_istore (lv' := [(4, .int (nI 0)), (3, .int (nI 1)), (2, .int (nI 0)), (0, .ref (h 0)), (1, .int c0)]) hx hb dX6_named_71 hl (by decide) rfl (fun ls hl => ?_)
        refine lv_iload_n hx hb dX6_named_73 rfl (lv_at hl 2 rfl) ?_
        refine lv_if_ne (tgt := 91) hx hb dX6_named_74 (by decide) (fun q => absurd q (by decide)) (fun _ => ?_)
        refine lv_iload_n hx hb dX6_named_77 rfl (lv_at hl 1 rfl) ?_
        refine lv_if_ne (tgt := 91) hx hb dX6_named_78 (by decide) (fun _ => ?_) (fun q => absurd q (by decide))
        refine lv_aload_n hx hb dX6_named_91 rfl (lv_at hl 3 rfl) ?_
        refine lv_dup hx hb dX6_named_92 rfl ?_
        refine md_get (v := .int (nI t)) hx hb hts hown hK hM 8 (by decide) q1398 rfl rfl dX6_named_93 ?_
        refine lv_iconst (v := nI 1) hx hb dX6_named_96 (by decide) ?_
        refine w_iaddN hx hb dX6_named_97 ?_
        refine md_put hx hb hts hown hK hI hM 8 (by decide) q1398 rfl rfl rfl rfl rfl dX6_named_98 (fun H locs hM => ?_)
        have hM := hM.to (f' := fT f (t + 1) true) (fT_8 _ _ _ _) rfl
        refine lv_iload_n hx hb dX6_named_101 rfl (lv_at hl 2 rfl) ?_
        refine lv_if_eq (tgt := 112) hx hb dX6_named_102 (by decide) (fun _ => ?_) (fun q => absurd q (by decide))
        refine lv_iload_n hx hb dX6_named_112 rfl (lv_at hl 1 rfl) ?_
        refine lv_if_eq (tgt := 123) hx hb dX6_named_113 (by decide) (fun q => absurd q (by decide)) (fun _ => ?_)
        refine lv_aload_n hx hb dX6_named_116 rfl (lv_at hl 3 rfl) ?_
        refine md_get (v := .int ((fT f (t + 1) true) 12)) hx hb hts hown hK hM 12 (by decide) q1402 rfl rfl dX6_named_117 ?_
        refine w_top y (hS.2.2.2.1) ?_
        refine lv_goto (tgt := 127) hx hb dX6_named_120 (by decide) ?_
        exact hret hM (by simp only [nmV]; grind) dX6_named_127
      · refine lv_iconst (v := nI 1) hx hb dX6_named_66 (by decide) ?_
        refine lv_goto (tgt := 71) hx hb dX6_named_67 (by decide) ?_
        refine lv_istore (lv' := [(4, .int (nI 1)), (3, .int (nI 1)), (2, .int (nI 0)), (0, .ref (h 0)), (1, .int c0)]) hx hb dX6_named_71 hl (by decide) rfl (fun ls hl => ?_)
        refine lv_iload_n hx hb dX6_named_73 rfl (lv_at hl 2 rfl) ?_
        refine lv_if_ne (tgt := 91) hx hb dX6_named_74 (by decide) (fun q => absurd q (by decide)) (fun _ => ?_)
        refine lv_iload_n hx hb dX6_named_77 rfl (lv_at hl 1 rfl) ?_
        refine lv_if_ne (tgt := 91) hx hb dX6_named_78 (by decide) (fun _ => ?_) (fun q => absurd q (by decide))
        refine lv_aload_n hx hb dX6_named_91 rfl (lv_at hl 3 rfl) ?_
        refine lv_dup hx hb dX6_named_92 rfl ?_
        refine md_get (v := .int (nI t)) hx hb hts hown hK hM 8 (by decide) q1398 rfl rfl dX6_named_93 ?_
        refine lv_iconst (v := nI 1) hx hb dX6_named_96 (by decide) ?_
        refine w_iaddN hx hb dX6_named_97 ?_
        refine md_put hx hb hts hown hK hI hM 8 (by decide) q1398 rfl rfl rfl rfl rfl dX6_named_98 (fun H locs hM => ?_)
        have hM := hM.to (f' := fT f (t + 1) true) (fT_8 _ _ _ _) rfl
        refine lv_iload_n hx hb dX6_named_101 rfl (lv_at hl 2 rfl) ?_
        refine lv_if_eq (tgt := 112) hx hb dX6_named_102 (by decide) (fun _ => ?_) (fun q => absurd q (by decide))
        refine lv_iload_n hx hb dX6_named_112 rfl (lv_at hl 1 rfl) ?_
        refine lv_if_eq (tgt := 123) hx hb dX6_named_113 (by decide) (fun q => absurd q (by decide)) (fun _ => ?_)
        refine lv_aload_n hx hb dX6_named_116 rfl (lv_at hl 3 rfl) ?_
        refine md_get (v := .int ((fT f (t + 1) true) 12)) hx hb hts hown hK hM 12 (by decide) q1402 rfl rfl dX6_named_117 ?_
        refine w_top y (hS.2.2.2.1) ?_
        refine lv_goto (tgt := 127) hx hb dX6_named_120 (by decide) ?_
        exact hret hM (by simp only [nmV]; grind) dX6_named_127
  · refine lv_iconst (v := nI 1) hx hb dX6_named_18 (by decide) ?_
    refine lv_goto (tgt := 23) hx hb dX6_named_19 (by decide) ?_
    refine lv_istore_n (lv' := [(2, .int (nI 1)), (0, .ref (h 0)), (1, .int c0)]) hx hb dX6_named_23 rfl hl (by decide) rfl (fun ls hl => ?_)
    refine lv_iload_n hx hb dX6_named_24 rfl (lv_at hl 2 rfl) ?_
    refine lv_aload_n hx hb dX6_named_25 rfl (lv_at hl 1 rfl) ?_
    refine md_get (v := .int ((fT f t true) 7)) hx hb hts hown hK hM 7 (by decide) q1397 rfl rfl dX6_named_26 ?_
    refine w_top (nI 0) (hS.1) ?_
    refine lv_if_ne (tgt := 37) hx hb dX6_named_29 (by decide) (fun q => absurd q (by decide)) (fun _ => ?_)
    refine lv_bipush (v := nI 107) hx hb dX6_named_32 (by decide) ?_
    refine lv_goto (tgt := 39) hx hb dX6_named_34 (by decide) ?_
    refine lv_icmp_ne (tgt := 46) hx hb dX6_named_39 (by decide) (fun c_26 => ?_) (fun c_26 => ?_)
    · refine lv_iconst (v := nI 0) hx hb dX6_named_46 (by decide) ?_
      refine lv_istore_n (lv' := [(3, .int (nI 0)), (2, .int (nI 1)), (0, .ref (h 0)), (1, .int c0)]) hx hb dX6_named_47 rfl hl (by decide) rfl (fun ls hl => ?_)
      refine lv_iload_n hx hb dX6_named_48 rfl (lv_at hl 3 rfl) ?_
      refine lv_aload_n hx hb dX6_named_49 rfl (lv_at hl 2 rfl) ?_
      refine md_get (v := .int ((fT f t true) 7)) hx hb hts hown hK hM 7 (by decide) q1397 rfl rfl dX6_named_50 ?_
      refine w_top (nI 0) (hS.1) ?_
      refine lv_if_ne (tgt := 61) hx hb dX6_named_53 (by decide) (fun q => absurd q (by decide)) (fun _ => ?_)
      refine lv_bipush (v := nI 100) hx hb dX6_named_56 (by decide) ?_
      refine lv_goto (tgt := 63) hx hb dX6_named_58 (by decide) ?_
      refine lv_icmp_ne (tgt := 70) hx hb dX6_named_63 (by decide) (fun c_28 => ?_) (fun c_28 => ?_)
      · refine lv_iconst (v := nI 0) hx hb dX6_named_70 (by decide) ?_
        refine lv_istore (lv' := [(4, .int (nI 0)), (3, .int (nI 0)), (2, .int (nI 1)), (0, .ref (h 0)), (1, .int c0)]) hx hb dX6_named_71 hl (by decide) rfl (fun ls hl => ?_)
        refine lv_iload_n hx hb dX6_named_73 rfl (lv_at hl 2 rfl) ?_
        refine lv_if_ne (tgt := 91) hx hb dX6_named_74 (by decide) (fun _ => ?_) (fun q => absurd q (by decide))
        refine lv_aload_n hx hb dX6_named_91 rfl (lv_at hl 3 rfl) ?_
        refine lv_dup hx hb dX6_named_92 rfl ?_
        refine md_get (v := .int (nI t)) hx hb hts hown hK hM 8 (by decide) q1398 rfl rfl dX6_named_93 ?_
        refine lv_iconst (v := nI 1) hx hb dX6_named_96 (by decide) ?_
        refine w_iaddN hx hb dX6_named_97 ?_
        refine md_put hx hb hts hown hK hI hM 8 (by decide) q1398 rfl rfl rfl rfl rfl dX6_named_98 (fun H locs hM => ?_)
        have hM := hM.to (f' := fT f (t + 1) true) (fT_8 _ _ _ _) rfl
        refine lv_iload_n hx hb dX6_named_101 rfl (lv_at hl 2 rfl) ?_
        refine lv_if_eq (tgt := 112) hx hb dX6_named_102 (by decide) (fun q => absurd q (by decide)) (fun _ => ?_)
        refine lv_aload_n hx hb dX6_named_105 rfl (lv_at hl 3 rfl) ?_
        refine md_get (v := .int ((fT f (t + 1) true) 11)) hx hb hts hown hK hM 11 (by decide) q1401 rfl rfl dX6_named_106 ?_
        refine w_top x (hS.2.2.1) ?_
        refine lv_goto (tgt := 127) hx hb dX6_named_109 (by decide) ?_
        exact hret hM (by simp only [nmV]; grind) dX6_named_127
      · refine lv_iconst (v := nI 1) hx hb dX6_named_66 (by decide) ?_
        refine lv_goto (tgt := 71) hx hb dX6_named_67 (by decide) ?_
        refine lv_istore (lv' := [(4, .int (nI 1)), (3, .int (nI 0)), (2, .int (nI 1)), (0, .ref (h 0)), (1, .int c0)]) hx hb dX6_named_71 hl (by decide) rfl (fun ls hl => ?_)
        refine lv_iload_n hx hb dX6_named_73 rfl (lv_at hl 2 rfl) ?_
        refine lv_if_ne (tgt := 91) hx hb dX6_named_74 (by decide) (fun _ => ?_) (fun q => absurd q (by decide))
        refine lv_aload_n hx hb dX6_named_91 rfl (lv_at hl 3 rfl) ?_
        refine lv_dup hx hb dX6_named_92 rfl ?_
        refine md_get (v := .int (nI t)) hx hb hts hown hK hM 8 (by decide) q1398 rfl rfl dX6_named_93 ?_
        refine lv_iconst (v := nI 1) hx hb dX6_named_96 (by decide) ?_
        refine w_iaddN hx hb dX6_named_97 ?_
        refine md_put hx hb hts hown hK hI hM 8 (by decide) q1398 rfl rfl rfl rfl rfl dX6_named_98 (fun H locs hM => ?_)
        have hM := hM.to (f' := fT f (t + 1) true) (fT_8 _ _ _ _) rfl
        refine lv_iload_n hx hb dX6_named_101 rfl (lv_at hl 2 rfl) ?_
        refine lv_if_eq (tgt := 112) hx hb dX6_named_102 (by decide) (fun q => absurd q (by decide)) (fun _ => ?_)
        refine lv_aload_n hx hb dX6_named_105 rfl (lv_at hl 3 rfl) ?_
        refine md_get (v := .int ((fT f (t + 1) true) 11)) hx hb hts hown hK hM 11 (by decide) q1401 rfl rfl dX6_named_106 ?_
        refine w_top x (hS.2.2.1) ?_
        refine lv_goto (tgt := 127) hx hb dX6_named_109 (by decide) ?_
        exact hret hM (by simp only [nmV]; grind) dX6_named_127
    · refine lv_iconst (v := nI 1) hx hb dX6_named_42 (by decide) ?_
      refine lv_goto (tgt := 47) hx hb dX6_named_43 (by decide) ?_
      refine lv_istore_n (lv' := [(3, .int (nI 1)), (2, .int (nI 1)), (0, .ref (h 0)), (1, .int c0)]) hx hb dX6_named_47 rfl hl (by decide) rfl (fun ls hl => ?_)
      refine lv_iload_n hx hb dX6_named_48 rfl (lv_at hl 3 rfl) ?_
      refine lv_aload_n hx hb dX6_named_49 rfl (lv_at hl 2 rfl) ?_
      refine md_get (v := .int ((fT f t true) 7)) hx hb hts hown hK hM 7 (by decide) q1397 rfl rfl dX6_named_50 ?_
      refine w_top (nI 0) (hS.1) ?_
      refine lv_if_ne (tgt := 61) hx hb dX6_named_53 (by decide) (fun q => absurd q (by decide)) (fun _ => ?_)
      refine lv_bipush (v := nI 100) hx hb dX6_named_56 (by decide) ?_
      refine lv_goto (tgt := 63) hx hb dX6_named_58 (by decide) ?_
      refine lv_icmp_ne (tgt := 70) hx hb dX6_named_63 (by decide) (fun c_34 => ?_) (fun c_34 => ?_)
      · refine lv_iconst (v := nI 0) hx hb dX6_named_70 (by decide) ?_
        refine lv_istore (lv' := [(4, .int (nI 0)), (3, .int (nI 1)), (2, .int (nI 1)), (0, .ref (h 0)), (1, .int c0)]) hx hb dX6_named_71 hl (by decide) rfl (fun ls hl => ?_)
        refine lv_iload_n hx hb dX6_named_73 rfl (lv_at hl 2 rfl) ?_
        refine lv_if_ne (tgt := 91) hx hb dX6_named_74 (by decide) (fun _ => ?_) (fun q => absurd q (by decide))
        refine lv_aload_n hx hb dX6_named_91 rfl (lv_at hl 3 rfl) ?_
        refine lv_dup hx hb dX6_named_92 rfl ?_
        refine md_get (v := .int (nI t)) hx hb hts hown hK hM 8 (by decide) q1398 rfl rfl dX6_named_93 ?_
        refine lv_iconst (v := nI 1) hx hb dX6_named_96 (by decide) ?_
        refine w_iaddN hx hb dX6_named_97 ?_
        refine md_put hx hb hts hown hK hI hM 8 (by decide) q1398 rfl rfl rfl rfl rfl dX6_named_98 (fun H locs hM => ?_)
        have hM := hM.to (f' := fT f (t + 1) true) (fT_8 _ _ _ _) rfl
        refine lv_iload_n hx hb dX6_named_101 rfl (lv_at hl 2 rfl) ?_
        refine lv_if_eq (tgt := 112) hx hb dX6_named_102 (by decide) (fun q => absurd q (by decide)) (fun _ => ?_)
        refine lv_aload_n hx hb dX6_named_105 rfl (lv_at hl 3 rfl) ?_
        refine md_get (v := .int ((fT f (t + 1) true) 11)) hx hb hts hown hK hM 11 (by decide) q1401 rfl rfl dX6_named_106 ?_
        refine w_top x (hS.2.2.1) ?_
        refine lv_goto (tgt := 127) hx hb dX6_named_109 (by decide) ?_
        exact hret hM (by simp only [nmV]; grind) dX6_named_127
      · refine lv_iconst (v := nI 1) hx hb dX6_named_66 (by decide) ?_
        refine lv_goto (tgt := 71) hx hb dX6_named_67 (by decide) ?_
        refine lv_istore (lv' := [(4, .int (nI 1)), (3, .int (nI 1)), (2, .int (nI 1)), (0, .ref (h 0)), (1, .int c0)]) hx hb dX6_named_71 hl (by decide) rfl (fun ls hl => ?_)
        refine lv_iload_n hx hb dX6_named_73 rfl (lv_at hl 2 rfl) ?_
        refine lv_if_ne (tgt := 91) hx hb dX6_named_74 (by decide) (fun _ => ?_) (fun q => absurd q (by decide))
        refine lv_aload_n hx hb dX6_named_91 rfl (lv_at hl 3 rfl) ?_
        refine lv_dup hx hb dX6_named_92 rfl ?_
        refine md_get (v := .int (nI t)) hx hb hts hown hK hM 8 (by decide) q1398 rfl rfl dX6_named_93 ?_
        refine lv_iconst (v := nI 1) hx hb dX6_named_96 (by decide) ?_
        refine w_iaddN hx hb dX6_named_97 ?_
        refine md_put hx hb hts hown hK hI hM 8 (by decide) q1398 rfl rfl rfl rfl rfl dX6_named_98 (fun H locs hM => ?_)
        have hM := hM.to (f' := fT f (t + 1) true) (fT_8 _ _ _ _) rfl
        refine lv_iload_n hx hb dX6_named_101 rfl (lv_at hl 2 rfl) ?_
        refine lv_if_eq (tgt := 112) hx hb dX6_named_102 (by decide) (fun q => absurd q (by decide)) (fun _ => ?_)
        refine lv_aload_n hx hb dX6_named_105 rfl (lv_at hl 3 rfl) ?_
        refine md_get (v := .int ((fT f (t + 1) true) 11)) hx hb hts hown hK hM 11 (by decide) q1401 rfl rfl dX6_named_106 ?_
        refine w_top x (hS.2.2.1) ?_
        refine lv_goto (tgt := 127) hx hb dX6_named_109 (by decide) ?_
        exact hret hM (by simp only [nmV]; grind) dX6_named_127
set_option maxHeartbeats 400000 in
theorem met_named0_n (f : Nat → Int32) (a : Nat → Nat → Int32) (n : Nat) (x y z : Int32) (hS : txS f 0 n x y z) (t : Nat) (c0 : Int32) (hc : ¬ isNm 0 c0 = true) : MdF yX6_named cX6_named 5 (some .int) 1 20 [.int c0] (fT f t true) a (some (.int (nI 0))) (fT f t false) a := by
  refine MdF.ofI (by decide) rfl (Nat.le_of_ble_eq_true rfl) ?_
  intro p l e R s m args below meth c Q D h dA ls hx hb hml hRf hRl hts hown hK hI hM hl hret
  have hl : lv_has ls 5 [(0, .ref (h 0)), (1, .int c0)] := hl
  refine lv_iload_n hx hb dX6_named_0 rfl (lv_at hl 1 rfl) ?_
  refine lv_aload_n hx hb dX6_named_1 rfl (lv_at hl 0 rfl) ?_
  refine md_get (v := .int ((fT f t true) 7)) hx hb hts hown hK hM 7 (by decide) q1397 rfl rfl dX6_named_2 ?_
  refine w_top (nI 0) (hS.1) ?_
  refine lv_if_ne (tgt := 13) hx hb dX6_named_5 (by decide) (fun q => absurd q (by decide)) (fun _ => ?_)
  refine lv_bipush (v := nI 103) hx hb dX6_named_8 (by decide) ?_
  refine lv_goto (tgt := 15) hx hb dX6_named_10 (by decide) ?_
  refine lv_icmp_ne (tgt := 22) hx hb dX6_named_15 (by decide) (fun c_2 => ?_) (fun c_2 => ?_)
  · refine lv_iconst (v := nI 0) hx hb dX6_named_22 (by decide) ?_
    refine lv_istore_n (lv' := [(2, .int (nI 0)), (0, .ref (h 0)), (1, .int c0)]) hx hb dX6_named_23 rfl hl (by decide) rfl (fun ls hl => ?_)
    refine lv_iload_n hx hb dX6_named_24 rfl (lv_at hl 2 rfl) ?_
    refine lv_aload_n hx hb dX6_named_25 rfl (lv_at hl 1 rfl) ?_
    refine md_get (v := .int ((fT f t true) 7)) hx hb hts hown hK hM 7 (by decide) q1397 rfl rfl dX6_named_26 ?_
    refine w_top (nI 0) (hS.1) ?_
    refine lv_if_ne (tgt := 37) hx hb dX6_named_29 (by decide) (fun q => absurd q (by decide)) (fun _ => ?_)
    refine lv_bipush (v := nI 107) hx hb dX6_named_32 (by decide) ?_
    refine lv_goto (tgt := 39) hx hb dX6_named_34 (by decide) ?_
    refine lv_icmp_ne (tgt := 46) hx hb dX6_named_39 (by decide) (fun c_4 => ?_) (fun c_4 => ?_)
    · refine lv_iconst (v := nI 0) hx hb dX6_named_46 (by decide) ?_
      refine lv_istore_n (lv' := [(3, .int (nI 0)), (2, .int (nI 0)), (0, .ref (h 0)), (1, .int c0)]) hx hb dX6_named_47 rfl hl (by decide) rfl (fun ls hl => ?_)
      refine lv_iload_n hx hb dX6_named_48 rfl (lv_at hl 3 rfl) ?_
      refine lv_aload_n hx hb dX6_named_49 rfl (lv_at hl 2 rfl) ?_
      refine md_get (v := .int ((fT f t true) 7)) hx hb hts hown hK hM 7 (by decide) q1397 rfl rfl dX6_named_50 ?_
      refine w_top (nI 0) (hS.1) ?_
      refine lv_if_ne (tgt := 61) hx hb dX6_named_53 (by decide) (fun q => absurd q (by decide)) (fun _ => ?_)
      refine lv_bipush (v := nI 100) hx hb dX6_named_56 (by decide) ?_
      refine lv_goto (tgt := 63) hx hb dX6_named_58 (by decide) ?_
      refine lv_icmp_ne (tgt := 70) hx hb dX6_named_63 (by decide) (fun c_6 => ?_) (fun c_6 => ?_)
      · refine lv_iconst (v := nI 0) hx hb dX6_named_70 (by decide) ?_
        refine lv_istore (lv' := [(4, .int (nI 0)), (3, .int (nI 0)), (2, .int (nI 0)), (0, .ref (h 0)), (1, .int c0)]) hx hb dX6_named_71 hl (by decide) rfl (fun ls hl => ?_)
        refine lv_iload_n hx hb dX6_named_73 rfl (lv_at hl 2 rfl) ?_
        refine lv_if_ne (tgt := 91) hx hb dX6_named_74 (by decide) (fun q => absurd q (by decide)) (fun _ => ?_)
        refine lv_iload_n hx hb dX6_named_77 rfl (lv_at hl 1 rfl) ?_
        refine lv_if_ne (tgt := 91) hx hb dX6_named_78 (by decide) (fun q => absurd q (by decide)) (fun _ => ?_)
        refine lv_iload hx hb dX6_named_81 (lv_at hl 0 rfl) ?_
        refine lv_if_ne (tgt := 91) hx hb dX6_named_83 (by decide) (fun q => absurd q (by decide)) (fun _ => ?_)
        refine lv_aload_n hx hb dX6_named_86 rfl (lv_at hl 3 rfl) ?_
        refine md_callI (y := yX6_fails) hx hb hml hown hts hK hI hM (met_failsT f a t true) q1553 q1555 qs34 q1556 ndX6_fails rfl (by rw [hRf]; decide) (by rw [hRl]; decide) hl.1 rfl (Nat.le_of_ble_eq_true rfl) dX6_named_87 (fun H locs hM => ?_)
        exact hret hM (by first | rfl | (simp only [iI, nI_0, nI_one]; grind)) dX6_named_90
      · refine lv_iconst (v := nI 1) hx hb dX6_named_66 (by decide) ?_
        refine lv_goto (tgt := 71) hx hb dX6_named_67 (by decide) ?_
        refine lv_istore (lv' := [(4, .int (nI 1)), (3, .int (nI 0)), (2, .int (nI 0)), (0, .ref (h 0)), (1, .int c0)]) hx hb dX6_named_71 hl (by decide) rfl (fun ls hl => ?_)
        refine lv_iload_n hx hb dX6_named_73 rfl (lv_at hl 2 rfl) ?_
        refine lv_if_ne (tgt := 91) hx hb dX6_named_74 (by decide) (fun q => absurd q (by decide)) (fun _ => ?_)
        refine lv_iload_n hx hb dX6_named_77 rfl (lv_at hl 1 rfl) ?_
        refine lv_if_ne (tgt := 91) hx hb dX6_named_78 (by decide) (fun q => absurd q (by decide)) (fun _ => ?_)
        refine lv_iload hx hb dX6_named_81 (lv_at hl 0 rfl) ?_
        refine lv_if_ne (tgt := 91) hx hb dX6_named_83 (by decide) (fun _ => ?_) (fun q => absurd q (by decide))
        exact absurd hc (by simp only [isNm]; grind)
    · refine lv_iconst (v := nI 1) hx hb dX6_named_42 (by decide) ?_
      refine lv_goto (tgt := 47) hx hb dX6_named_43 (by decide) ?_
      refine lv_istore_n (lv' := [(3, .int (nI 1)), (2, .int (nI 0)), (0, .ref (h 0)), (1, .int c0)]) hx hb dX6_named_47 rfl hl (by decide) rfl (fun ls hl => ?_)
      refine lv_iload_n hx hb dX6_named_48 rfl (lv_at hl 3 rfl) ?_
      refine lv_aload_n hx hb dX6_named_49 rfl (lv_at hl 2 rfl) ?_
      refine md_get (v := .int ((fT f t true) 7)) hx hb hts hown hK hM 7 (by decide) q1397 rfl rfl dX6_named_50 ?_
      refine w_top (nI 0) (hS.1) ?_
      refine lv_if_ne (tgt := 61) hx hb dX6_named_53 (by decide) (fun q => absurd q (by decide)) (fun _ => ?_)
      refine lv_bipush (v := nI 100) hx hb dX6_named_56 (by decide) ?_
      refine lv_goto (tgt := 63) hx hb dX6_named_58 (by decide) ?_
      refine lv_icmp_ne (tgt := 70) hx hb dX6_named_63 (by decide) (fun c_14 => ?_) (fun c_14 => ?_)
      · refine lv_iconst (v := nI 0) hx hb dX6_named_70 (by decide) ?_
        refine lv_istore (lv' := [(4, .int (nI 0)), (3, .int (nI 1)), (2, .int (nI 0)), (0, .ref (h 0)), (1, .int c0)]) hx hb dX6_named_71 hl (by decide) rfl (fun ls hl => ?_)
        refine lv_iload_n hx hb dX6_named_73 rfl (lv_at hl 2 rfl) ?_
        refine lv_if_ne (tgt := 91) hx hb dX6_named_74 (by decide) (fun q => absurd q (by decide)) (fun _ => ?_)
        refine lv_iload_n hx hb dX6_named_77 rfl (lv_at hl 1 rfl) ?_
        refine lv_if_ne (tgt := 91) hx hb dX6_named_78 (by decide) (fun _ => ?_) (fun q => absurd q (by decide))
        exact absurd hc (by simp only [isNm]; grind)
      · refine lv_iconst (v := nI 1) hx hb dX6_named_66 (by decide) ?_
        refine lv_goto (tgt := 71) hx hb dX6_named_67 (by decide) ?_
        refine lv_istore (lv' := [(4, .int (nI 1)), (3, .int (nI 1)), (2, .int (nI 0)), (0, .ref (h 0)), (1, .int c0)]) hx hb dX6_named_71 hl (by decide) rfl (fun ls hl => ?_)
        refine lv_iload_n hx hb dX6_named_73 rfl (lv_at hl 2 rfl) ?_
        refine lv_if_ne (tgt := 91) hx hb dX6_named_74 (by decide) (fun q => absurd q (by decide)) (fun _ => ?_)
        refine lv_iload_n hx hb dX6_named_77 rfl (lv_at hl 1 rfl) ?_
        refine lv_if_ne (tgt := 91) hx hb dX6_named_78 (by decide) (fun _ => ?_) (fun q => absurd q (by decide))
        exact absurd hc (by simp only [isNm]; grind)
  · refine lv_iconst (v := nI 1) hx hb dX6_named_18 (by decide) ?_
    refine lv_goto (tgt := 23) hx hb dX6_named_19 (by decide) ?_
    refine lv_istore_n (lv' := [(2, .int (nI 1)), (0, .ref (h 0)), (1, .int c0)]) hx hb dX6_named_23 rfl hl (by decide) rfl (fun ls hl => ?_)
    refine lv_iload_n hx hb dX6_named_24 rfl (lv_at hl 2 rfl) ?_
    refine lv_aload_n hx hb dX6_named_25 rfl (lv_at hl 1 rfl) ?_
    refine md_get (v := .int ((fT f t true) 7)) hx hb hts hown hK hM 7 (by decide) q1397 rfl rfl dX6_named_26 ?_
    refine w_top (nI 0) (hS.1) ?_
    refine lv_if_ne (tgt := 37) hx hb dX6_named_29 (by decide) (fun q => absurd q (by decide)) (fun _ => ?_)
    refine lv_bipush (v := nI 107) hx hb dX6_named_32 (by decide) ?_
    refine lv_goto (tgt := 39) hx hb dX6_named_34 (by decide) ?_
    refine lv_icmp_ne (tgt := 46) hx hb dX6_named_39 (by decide) (fun c_20 => ?_) (fun c_20 => ?_)
    · refine lv_iconst (v := nI 0) hx hb dX6_named_46 (by decide) ?_
      refine lv_istore_n (lv' := [(3, .int (nI 0)), (2, .int (nI 1)), (0, .ref (h 0)), (1, .int c0)]) hx hb dX6_named_47 rfl hl (by decide) rfl (fun ls hl => ?_)
      refine lv_iload_n hx hb dX6_named_48 rfl (lv_at hl 3 rfl) ?_
      refine lv_aload_n hx hb dX6_named_49 rfl (lv_at hl 2 rfl) ?_
      refine md_get (v := .int ((fT f t true) 7)) hx hb hts hown hK hM 7 (by decide) q1397 rfl rfl dX6_named_50 ?_
      refine w_top (nI 0) (hS.1) ?_
      refine lv_if_ne (tgt := 61) hx hb dX6_named_53 (by decide) (fun q => absurd q (by decide)) (fun _ => ?_)
      refine lv_bipush (v := nI 100) hx hb dX6_named_56 (by decide) ?_
      refine lv_goto (tgt := 63) hx hb dX6_named_58 (by decide) ?_
      refine lv_icmp_ne (tgt := 70) hx hb dX6_named_63 (by decide) (fun c_22 => ?_) (fun c_22 => ?_)
      · refine lv_iconst (v := nI 0) hx hb dX6_named_70 (by decide) ?_
        refine lv_istore (lv' := [(4, .int (nI 0)), (3, .int (nI 0)), (2, .int (nI 1)), (0, .ref (h 0)), (1, .int c0)]) hx hb dX6_named_71 hl (by decide) rfl (fun ls hl => ?_)
        refine lv_iload_n hx hb dX6_named_73 rfl (lv_at hl 2 rfl) ?_
        refine lv_if_ne (tgt := 91) hx hb dX6_named_74 (by decide) (fun _ => ?_) (fun q => absurd q (by decide))
        exact absurd hc (by simp only [isNm]; grind)
      · refine lv_iconst (v := nI 1) hx hb dX6_named_66 (by decide) ?_
        refine lv_goto (tgt := 71) hx hb dX6_named_67 (by decide) ?_
        refine lv_istore (lv' := [(4, .int (nI 1)), (3, .int (nI 0)), (2, .int (nI 1)), (0, .ref (h 0)), (1, .int c0)]) hx hb dX6_named_71 hl (by decide) rfl (fun ls hl => ?_)
        refine lv_iload_n hx hb dX6_named_73 rfl (lv_at hl 2 rfl) ?_
        refine lv_if_ne (tgt := 91) hx hb dX6_named_74 (by decide) (fun _ => ?_) (fun q => absurd q (by decide))
        exact absurd hc (by simp only [isNm]; grind)
    · refine lv_iconst (v := nI 1) hx hb dX6_named_42 (by decide) ?_
      refine lv_goto (tgt := 47) hx hb dX6_named_43 (by decide) ?_
      refine lv_istore_n (lv' := [(3, .int (nI 1)), (2, .int (nI 1)), (0, .ref (h 0)), (1, .int c0)]) hx hb dX6_named_47 rfl hl (by decide) rfl (fun ls hl => ?_)
      refine lv_iload_n hx hb dX6_named_48 rfl (lv_at hl 3 rfl) ?_
      refine lv_aload_n hx hb dX6_named_49 rfl (lv_at hl 2 rfl) ?_
      refine md_get (v := .int ((fT f t true) 7)) hx hb hts hown hK hM 7 (by decide) q1397 rfl rfl dX6_named_50 ?_
      refine w_top (nI 0) (hS.1) ?_
      refine lv_if_ne (tgt := 61) hx hb dX6_named_53 (by decide) (fun q => absurd q (by decide)) (fun _ => ?_)
      refine lv_bipush (v := nI 100) hx hb dX6_named_56 (by decide) ?_
      refine lv_goto (tgt := 63) hx hb dX6_named_58 (by decide) ?_
      refine lv_icmp_ne (tgt := 70) hx hb dX6_named_63 (by decide) (fun c_26 => ?_) (fun c_26 => ?_)
      · refine lv_iconst (v := nI 0) hx hb dX6_named_70 (by decide) ?_
        refine lv_istore (lv' := [(4, .int (nI 0)), (3, .int (nI 1)), (2, .int (nI 1)), (0, .ref (h 0)), (1, .int c0)]) hx hb dX6_named_71 hl (by decide) rfl (fun ls hl => ?_)
        refine lv_iload_n hx hb dX6_named_73 rfl (lv_at hl 2 rfl) ?_
        refine lv_if_ne (tgt := 91) hx hb dX6_named_74 (by decide) (fun _ => ?_) (fun q => absurd q (by decide))
        exact absurd hc (by simp only [isNm]; grind)
      · refine lv_iconst (v := nI 1) hx hb dX6_named_66 (by decide) ?_
        refine lv_goto (tgt := 71) hx hb dX6_named_67 (by decide) ?_
        refine lv_istore (lv' := [(4, .int (nI 1)), (3, .int (nI 1)), (2, .int (nI 1)), (0, .ref (h 0)), (1, .int c0)]) hx hb dX6_named_71 hl (by decide) rfl (fun ls hl => ?_)
        refine lv_iload_n hx hb dX6_named_73 rfl (lv_at hl 2 rfl) ?_
        refine lv_if_ne (tgt := 91) hx hb dX6_named_74 (by decide) (fun _ => ?_) (fun q => absurd q (by decide))
        exact absurd hc (by simp only [isNm]; grind)
set_option maxHeartbeats 400000 in
theorem met_named1_y (f : Nat → Int32) (a : Nat → Nat → Int32) (n : Nat) (x y z : Int32) (hS : txS f 1 n x y z) (t : Nat) (c0 : Int32) (hc : isNm 1 c0 = true) : MdF yX6_named cX6_named 5 (some .int) 1 20 [.int c0] (fT f t true) a (some (.int (nmV 1 x y z c0))) (fT f (t + 1) true) a := by
  refine MdF.ofI (by decide) rfl (Nat.le_of_ble_eq_true rfl) ?_
  intro p l e R s m args below meth c Q D h dA ls hx hb hml hRf hRl hts hown hK hI hM hl hret
  have hl : lv_has ls 5 [(0, .ref (h 0)), (1, .int c0)] := hl
  refine lv_iload_n hx hb dX6_named_0 rfl (lv_at hl 1 rfl) ?_
  refine lv_aload_n hx hb dX6_named_1 rfl (lv_at hl 0 rfl) ?_
  refine md_get (v := .int ((fT f t true) 7)) hx hb hts hown hK hM 7 (by decide) q1397 rfl rfl dX6_named_2 ?_
  refine w_top (nI 1) (hS.1) ?_
  refine lv_if_ne (tgt := 13) hx hb dX6_named_5 (by decide) (fun _ => ?_) (fun q => absurd q (by decide))
  refine lv_bipush (v := nI 107) hx hb dX6_named_13 (by decide) ?_
  refine lv_icmp_ne (tgt := 22) hx hb dX6_named_15 (by decide) (fun c_2 => ?_) (fun c_2 => ?_)
  · refine lv_iconst (v := nI 0) hx hb dX6_named_22 (by decide) ?_
    refine lv_istore_n (lv' := [(2, .int (nI 0)), (0, .ref (h 0)), (1, .int c0)]) hx hb dX6_named_23 rfl hl (by decide) rfl (fun ls hl => ?_)
    refine lv_iload_n hx hb dX6_named_24 rfl (lv_at hl 2 rfl) ?_
    refine lv_aload_n hx hb dX6_named_25 rfl (lv_at hl 1 rfl) ?_
    refine md_get (v := .int ((fT f t true) 7)) hx hb hts hown hK hM 7 (by decide) q1397 rfl rfl dX6_named_26 ?_
    refine w_top (nI 1) (hS.1) ?_
    refine lv_if_ne (tgt := 37) hx hb dX6_named_29 (by decide) (fun _ => ?_) (fun q => absurd q (by decide))
    refine lv_bipush (v := nI 97) hx hb dX6_named_37 (by decide) ?_
    refine lv_icmp_ne (tgt := 46) hx hb dX6_named_39 (by decide) (fun c_4 => ?_) (fun c_4 => ?_)
    · refine lv_iconst (v := nI 0) hx hb dX6_named_46 (by decide) ?_
      refine lv_istore_n (lv' := [(3, .int (nI 0)), (2, .int (nI 0)), (0, .ref (h 0)), (1, .int c0)]) hx hb dX6_named_47 rfl hl (by decide) rfl (fun ls hl => ?_)
      refine lv_iload_n hx hb dX6_named_48 rfl (lv_at hl 3 rfl) ?_
      refine lv_aload_n hx hb dX6_named_49 rfl (lv_at hl 2 rfl) ?_
      refine md_get (v := .int ((fT f t true) 7)) hx hb hts hown hK hM 7 (by decide) q1397 rfl rfl dX6_named_50 ?_
      refine w_top (nI 1) (hS.1) ?_
      refine lv_if_ne (tgt := 61) hx hb dX6_named_53 (by decide) (fun _ => ?_) (fun q => absurd q (by decide))
      refine lv_bipush (v := nI 110) hx hb dX6_named_61 (by decide) ?_
      refine lv_icmp_ne (tgt := 70) hx hb dX6_named_63 (by decide) (fun c_6 => ?_) (fun c_6 => ?_)
      · refine lv_iconst (v := nI 0) hx hb dX6_named_70 (by decide) ?_
        refine lv_istore (lv' := [(4, .int (nI 0)), (3, .int (nI 0)), (2, .int (nI 0)), (0, .ref (h 0)), (1, .int c0)]) hx hb dX6_named_71 hl (by decide) rfl (fun ls hl => ?_)
        refine lv_iload_n hx hb dX6_named_73 rfl (lv_at hl 2 rfl) ?_
        refine lv_if_ne (tgt := 91) hx hb dX6_named_74 (by decide) (fun q => absurd q (by decide)) (fun _ => ?_)
        refine lv_iload_n hx hb dX6_named_77 rfl (lv_at hl 1 rfl) ?_
        refine lv_if_ne (tgt := 91) hx hb dX6_named_78 (by decide) (fun q => absurd q (by decide)) (fun _ => ?_)
        refine lv_iload hx hb dX6_named_81 (lv_at hl 0 rfl) ?_
        refine lv_if_ne (tgt := 91) hx hb dX6_named_83 (by decide) (fun q => absurd q (by decide)) (fun _ => ?_)
        exact absurd hc (by simp only [isNm]; grind)
      · refine lv_iconst (v := nI 1) hx hb dX6_named_66 (by decide) ?_
        refine lv_goto (tgt := 71) hx hb dX6_named_67 (by decide) ?_
        refine lv_istore (lv' := [(4, .int (nI 1)), (3, .int (nI 0)), (2, .int (nI 0)), (0, .ref (h 0)), (1, .int c0)]) hx hb dX6_named_71 hl (by decide) rfl (fun ls hl => ?_)
        refine lv_iload_n hx hb dX6_named_73 rfl (lv_at hl 2 rfl) ?_
        refine lv_if_ne (tgt := 91) hx hb dX6_named_74 (by decide) (fun q => absurd q (by decide)) (fun _ => ?_)
        refine lv_iload_n hx hb dX6_named_77 rfl (lv_at hl 1 rfl) ?_
        refine lv_if_ne (tgt := 91) hx hb dX6_named_78 (by decide) (fun q => absurd q (by decide)) (fun _ => ?_)
        refine lv_iload hx hb dX6_named_81 (lv_at hl 0 rfl) ?_
        refine lv_if_ne (tgt := 91) hx hb dX6_named_83 (by decide) (fun _ => ?_) (fun q => absurd q (by decide))
        refine lv_aload_n hx hb dX6_named_91 rfl (lv_at hl 3 rfl) ?_
        refine lv_dup hx hb dX6_named_92 rfl ?_
        refine md_get (v := .int (nI t)) hx hb hts hown hK hM 8 (by decide) q1398 rfl rfl dX6_named_93 ?_
        refine lv_iconst (v := nI 1) hx hb dX6_named_96 (by decide) ?_
        refine w_iaddN hx hb dX6_named_97 ?_
        refine md_put hx hb hts hown hK hI hM 8 (by decide) q1398 rfl rfl rfl rfl rfl dX6_named_98 (fun H locs hM => ?_)
        have hM := hM.to (f' := fT f (t + 1) true) (fT_8 _ _ _ _) rfl
        refine lv_iload_n hx hb dX6_named_101 rfl (lv_at hl 2 rfl) ?_
        refine lv_if_eq (tgt := 112) hx hb dX6_named_102 (by decide) (fun _ => ?_) (fun q => absurd q (by decide))
        refine lv_iload_n hx hb dX6_named_112 rfl (lv_at hl 1 rfl) ?_
        refine lv_if_eq (tgt := 123) hx hb dX6_named_113 (by decide) (fun _ => ?_) (fun q => absurd q (by decide))
        refine lv_aload_n hx hb dX6_named_123 rfl (lv_at hl 3 rfl) ?_
        refine md_get (v := .int ((fT f (t + 1) true) 13)) hx hb hts hown hK hM 13 (by decide) q1403 rfl rfl dX6_named_124 ?_
        refine w_top z (hS.2.2.2.2.1) ?_
        exact hret hM (by simp only [nmV]; grind) dX6_named_127
    · refine lv_iconst (v := nI 1) hx hb dX6_named_42 (by decide) ?_
      refine lv_goto (tgt := 47) hx hb dX6_named_43 (by decide) ?_
      refine lv_istore_n (lv' := [(3, .int (nI 1)), (2, .int (nI 0)), (0, .ref (h 0)), (1, .int c0)]) hx hb dX6_named_47 rfl hl (by decide) rfl (fun ls hl => ?_)
      refine lv_iload_n hx hb dX6_named_48 rfl (lv_at hl 3 rfl) ?_
      refine lv_aload_n hx hb dX6_named_49 rfl (lv_at hl 2 rfl) ?_
      refine md_get (v := .int ((fT f t true) 7)) hx hb hts hown hK hM 7 (by decide) q1397 rfl rfl dX6_named_50 ?_
      refine w_top (nI 1) (hS.1) ?_
      refine lv_if_ne (tgt := 61) hx hb dX6_named_53 (by decide) (fun _ => ?_) (fun q => absurd q (by decide))
      refine lv_bipush (v := nI 110) hx hb dX6_named_61 (by decide) ?_
      refine lv_icmp_ne (tgt := 70) hx hb dX6_named_63 (by decide) (fun c_16 => ?_) (fun c_16 => ?_)
      · refine lv_iconst (v := nI 0) hx hb dX6_named_70 (by decide) ?_
        refine lv_istore (lv' := [(4, .int (nI 0)), (3, .int (nI 1)), (2, .int (nI 0)), (0, .ref (h 0)), (1, .int c0)]) hx hb dX6_named_71 hl (by decide) rfl (fun ls hl => ?_)
        refine lv_iload_n hx hb dX6_named_73 rfl (lv_at hl 2 rfl) ?_
        refine lv_if_ne (tgt := 91) hx hb dX6_named_74 (by decide) (fun q => absurd q (by decide)) (fun _ => ?_)
        refine lv_iload_n hx hb dX6_named_77 rfl (lv_at hl 1 rfl) ?_
        refine lv_if_ne (tgt := 91) hx hb dX6_named_78 (by decide) (fun _ => ?_) (fun q => absurd q (by decide))
        refine lv_aload_n hx hb dX6_named_91 rfl (lv_at hl 3 rfl) ?_
        refine lv_dup hx hb dX6_named_92 rfl ?_
        refine md_get (v := .int (nI t)) hx hb hts hown hK hM 8 (by decide) q1398 rfl rfl dX6_named_93 ?_
        refine lv_iconst (v := nI 1) hx hb dX6_named_96 (by decide) ?_
        refine w_iaddN hx hb dX6_named_97 ?_
        refine md_put hx hb hts hown hK hI hM 8 (by decide) q1398 rfl rfl rfl rfl rfl dX6_named_98 (fun H locs hM => ?_)
        have hM := hM.to (f' := fT f (t + 1) true) (fT_8 _ _ _ _) rfl
        refine lv_iload_n hx hb dX6_named_101 rfl (lv_at hl 2 rfl) ?_
        refine lv_if_eq (tgt := 112) hx hb dX6_named_102 (by decide) (fun _ => ?_) (fun q => absurd q (by decide))
        refine lv_iload_n hx hb dX6_named_112 rfl (lv_at hl 1 rfl) ?_
        refine lv_if_eq (tgt := 123) hx hb dX6_named_113 (by decide) (fun q => absurd q (by decide)) (fun _ => ?_)
        refine lv_aload_n hx hb dX6_named_116 rfl (lv_at hl 3 rfl) ?_
        refine md_get (v := .int ((fT f (t + 1) true) 12)) hx hb hts hown hK hM 12 (by decide) q1402 rfl rfl dX6_named_117 ?_
        refine w_top y (hS.2.2.2.1) ?_
        refine lv_goto (tgt := 127) hx hb dX6_named_120 (by decide) ?_
        exact hret hM (by simp only [nmV]; grind) dX6_named_127
      · refine lv_iconst (v := nI 1) hx hb dX6_named_66 (by decide) ?_
        refine lv_goto (tgt := 71) hx hb dX6_named_67 (by decide) ?_
        refine lv_istore (lv' := [(4, .int (nI 1)), (3, .int (nI 1)), (2, .int (nI 0)), (0, .ref (h 0)), (1, .int c0)]) hx hb dX6_named_71 hl (by decide) rfl (fun ls hl => ?_)
        refine lv_iload_n hx hb dX6_named_73 rfl (lv_at hl 2 rfl) ?_
        refine lv_if_ne (tgt := 91) hx hb dX6_named_74 (by decide) (fun q => absurd q (by decide)) (fun _ => ?_)
        refine lv_iload_n hx hb dX6_named_77 rfl (lv_at hl 1 rfl) ?_
        refine lv_if_ne (tgt := 91) hx hb dX6_named_78 (by decide) (fun _ => ?_) (fun q => absurd q (by decide))
        refine lv_aload_n hx hb dX6_named_91 rfl (lv_at hl 3 rfl) ?_
        refine lv_dup hx hb dX6_named_92 rfl ?_
        refine md_get (v := .int (nI t)) hx hb hts hown hK hM 8 (by decide) q1398 rfl rfl dX6_named_93 ?_
        refine lv_iconst (v := nI 1) hx hb dX6_named_96 (by decide) ?_
        refine w_iaddN hx hb dX6_named_97 ?_
        refine md_put hx hb hts hown hK hI hM 8 (by decide) q1398 rfl rfl rfl rfl rfl dX6_named_98 (fun H locs hM => ?_)
        have hM := hM.to (f' := fT f (t + 1) true) (fT_8 _ _ _ _) rfl
        refine lv_iload_n hx hb dX6_named_101 rfl (lv_at hl 2 rfl) ?_
        refine lv_if_eq (tgt := 112) hx hb dX6_named_102 (by decide) (fun _ => ?_) (fun q => absurd q (by decide))
        refine lv_iload_n hx hb dX6_named_112 rfl (lv_at hl 1 rfl) ?_
        refine lv_if_eq (tgt := 123) hx hb dX6_named_113 (by decide) (fun q => absurd q (by decide)) (fun _ => ?_)
        refine lv_aload_n hx hb dX6_named_116 rfl (lv_at hl 3 rfl) ?_
        refine md_get (v := .int ((fT f (t + 1) true) 12)) hx hb hts hown hK hM 12 (by decide) q1402 rfl rfl dX6_named_117 ?_
        refine w_top y (hS.2.2.2.1) ?_
        refine lv_goto (tgt := 127) hx hb dX6_named_120 (by decide) ?_
        exact hret hM (by simp only [nmV]; grind) dX6_named_127
  · refine lv_iconst (v := nI 1) hx hb dX6_named_18 (by decide) ?_
    refine lv_goto (tgt := 23) hx hb dX6_named_19 (by decide) ?_
    refine lv_istore_n (lv' := [(2, .int (nI 1)), (0, .ref (h 0)), (1, .int c0)]) hx hb dX6_named_23 rfl hl (by decide) rfl (fun ls hl => ?_)
    refine lv_iload_n hx hb dX6_named_24 rfl (lv_at hl 2 rfl) ?_
    refine lv_aload_n hx hb dX6_named_25 rfl (lv_at hl 1 rfl) ?_
    refine md_get (v := .int ((fT f t true) 7)) hx hb hts hown hK hM 7 (by decide) q1397 rfl rfl dX6_named_26 ?_
    refine w_top (nI 1) (hS.1) ?_
    refine lv_if_ne (tgt := 37) hx hb dX6_named_29 (by decide) (fun _ => ?_) (fun q => absurd q (by decide))
    refine lv_bipush (v := nI 97) hx hb dX6_named_37 (by decide) ?_
    refine lv_icmp_ne (tgt := 46) hx hb dX6_named_39 (by decide) (fun c_26 => ?_) (fun c_26 => ?_)
    · refine lv_iconst (v := nI 0) hx hb dX6_named_46 (by decide) ?_
      refine lv_istore_n (lv' := [(3, .int (nI 0)), (2, .int (nI 1)), (0, .ref (h 0)), (1, .int c0)]) hx hb dX6_named_47 rfl hl (by decide) rfl (fun ls hl => ?_)
      refine lv_iload_n hx hb dX6_named_48 rfl (lv_at hl 3 rfl) ?_
      refine lv_aload_n hx hb dX6_named_49 rfl (lv_at hl 2 rfl) ?_
      refine md_get (v := .int ((fT f t true) 7)) hx hb hts hown hK hM 7 (by decide) q1397 rfl rfl dX6_named_50 ?_
      refine w_top (nI 1) (hS.1) ?_
      refine lv_if_ne (tgt := 61) hx hb dX6_named_53 (by decide) (fun _ => ?_) (fun q => absurd q (by decide))
      refine lv_bipush (v := nI 110) hx hb dX6_named_61 (by decide) ?_
      refine lv_icmp_ne (tgt := 70) hx hb dX6_named_63 (by decide) (fun c_28 => ?_) (fun c_28 => ?_)
      · refine lv_iconst (v := nI 0) hx hb dX6_named_70 (by decide) ?_
        refine lv_istore (lv' := [(4, .int (nI 0)), (3, .int (nI 0)), (2, .int (nI 1)), (0, .ref (h 0)), (1, .int c0)]) hx hb dX6_named_71 hl (by decide) rfl (fun ls hl => ?_)
        refine lv_iload_n hx hb dX6_named_73 rfl (lv_at hl 2 rfl) ?_
        refine lv_if_ne (tgt := 91) hx hb dX6_named_74 (by decide) (fun _ => ?_) (fun q => absurd q (by decide))
        refine lv_aload_n hx hb dX6_named_91 rfl (lv_at hl 3 rfl) ?_
        refine lv_dup hx hb dX6_named_92 rfl ?_
        refine md_get (v := .int (nI t)) hx hb hts hown hK hM 8 (by decide) q1398 rfl rfl dX6_named_93 ?_
        refine lv_iconst (v := nI 1) hx hb dX6_named_96 (by decide) ?_
        refine w_iaddN hx hb dX6_named_97 ?_
        refine md_put hx hb hts hown hK hI hM 8 (by decide) q1398 rfl rfl rfl rfl rfl dX6_named_98 (fun H locs hM => ?_)
        have hM := hM.to (f' := fT f (t + 1) true) (fT_8 _ _ _ _) rfl
        refine lv_iload_n hx hb dX6_named_101 rfl (lv_at hl 2 rfl) ?_
        refine lv_if_eq (tgt := 112) hx hb dX6_named_102 (by decide) (fun q => absurd q (by decide)) (fun _ => ?_)
        refine lv_aload_n hx hb dX6_named_105 rfl (lv_at hl 3 rfl) ?_
        refine md_get (v := .int ((fT f (t + 1) true) 11)) hx hb hts hown hK hM 11 (by decide) q1401 rfl rfl dX6_named_106 ?_
        refine w_top x (hS.2.2.1) ?_
        refine lv_goto (tgt := 127) hx hb dX6_named_109 (by decide) ?_
        exact hret hM (by simp only [nmV]; grind) dX6_named_127
      · refine lv_iconst (v := nI 1) hx hb dX6_named_66 (by decide) ?_
        refine lv_goto (tgt := 71) hx hb dX6_named_67 (by decide) ?_
        refine lv_istore (lv' := [(4, .int (nI 1)), (3, .int (nI 0)), (2, .int (nI 1)), (0, .ref (h 0)), (1, .int c0)]) hx hb dX6_named_71 hl (by decide) rfl (fun ls hl => ?_)
        refine lv_iload_n hx hb dX6_named_73 rfl (lv_at hl 2 rfl) ?_
        refine lv_if_ne (tgt := 91) hx hb dX6_named_74 (by decide) (fun _ => ?_) (fun q => absurd q (by decide))
        refine lv_aload_n hx hb dX6_named_91 rfl (lv_at hl 3 rfl) ?_
        refine lv_dup hx hb dX6_named_92 rfl ?_
        refine md_get (v := .int (nI t)) hx hb hts hown hK hM 8 (by decide) q1398 rfl rfl dX6_named_93 ?_
        refine lv_iconst (v := nI 1) hx hb dX6_named_96 (by decide) ?_
        refine w_iaddN hx hb dX6_named_97 ?_
        refine md_put hx hb hts hown hK hI hM 8 (by decide) q1398 rfl rfl rfl rfl rfl dX6_named_98 (fun H locs hM => ?_)
        have hM := hM.to (f' := fT f (t + 1) true) (fT_8 _ _ _ _) rfl
        refine lv_iload_n hx hb dX6_named_101 rfl (lv_at hl 2 rfl) ?_
        refine lv_if_eq (tgt := 112) hx hb dX6_named_102 (by decide) (fun q => absurd q (by decide)) (fun _ => ?_)
        refine lv_aload_n hx hb dX6_named_105 rfl (lv_at hl 3 rfl) ?_
        refine md_get (v := .int ((fT f (t + 1) true) 11)) hx hb hts hown hK hM 11 (by decide) q1401 rfl rfl dX6_named_106 ?_
        refine w_top x (hS.2.2.1) ?_
        refine lv_goto (tgt := 127) hx hb dX6_named_109 (by decide) ?_
        exact hret hM (by simp only [nmV]; grind) dX6_named_127
    · refine lv_iconst (v := nI 1) hx hb dX6_named_42 (by decide) ?_
      refine lv_goto (tgt := 47) hx hb dX6_named_43 (by decide) ?_
      refine lv_istore_n (lv' := [(3, .int (nI 1)), (2, .int (nI 1)), (0, .ref (h 0)), (1, .int c0)]) hx hb dX6_named_47 rfl hl (by decide) rfl (fun ls hl => ?_)
      refine lv_iload_n hx hb dX6_named_48 rfl (lv_at hl 3 rfl) ?_
      refine lv_aload_n hx hb dX6_named_49 rfl (lv_at hl 2 rfl) ?_
      refine md_get (v := .int ((fT f t true) 7)) hx hb hts hown hK hM 7 (by decide) q1397 rfl rfl dX6_named_50 ?_
      refine w_top (nI 1) (hS.1) ?_
      refine lv_if_ne (tgt := 61) hx hb dX6_named_53 (by decide) (fun _ => ?_) (fun q => absurd q (by decide))
      refine lv_bipush (v := nI 110) hx hb dX6_named_61 (by decide) ?_
      refine lv_icmp_ne (tgt := 70) hx hb dX6_named_63 (by decide) (fun c_34 => ?_) (fun c_34 => ?_)
      · refine lv_iconst (v := nI 0) hx hb dX6_named_70 (by decide) ?_
        refine lv_istore (lv' := [(4, .int (nI 0)), (3, .int (nI 1)), (2, .int (nI 1)), (0, .ref (h 0)), (1, .int c0)]) hx hb dX6_named_71 hl (by decide) rfl (fun ls hl => ?_)
        refine lv_iload_n hx hb dX6_named_73 rfl (lv_at hl 2 rfl) ?_
        refine lv_if_ne (tgt := 91) hx hb dX6_named_74 (by decide) (fun _ => ?_) (fun q => absurd q (by decide))
        refine lv_aload_n hx hb dX6_named_91 rfl (lv_at hl 3 rfl) ?_
        refine lv_dup hx hb dX6_named_92 rfl ?_
        refine md_get (v := .int (nI t)) hx hb hts hown hK hM 8 (by decide) q1398 rfl rfl dX6_named_93 ?_
        refine lv_iconst (v := nI 1) hx hb dX6_named_96 (by decide) ?_
        refine w_iaddN hx hb dX6_named_97 ?_
        refine md_put hx hb hts hown hK hI hM 8 (by decide) q1398 rfl rfl rfl rfl rfl dX6_named_98 (fun H locs hM => ?_)
        have hM := hM.to (f' := fT f (t + 1) true) (fT_8 _ _ _ _) rfl
        refine lv_iload_n hx hb dX6_named_101 rfl (lv_at hl 2 rfl) ?_
        refine lv_if_eq (tgt := 112) hx hb dX6_named_102 (by decide) (fun q => absurd q (by decide)) (fun _ => ?_)
        refine lv_aload_n hx hb dX6_named_105 rfl (lv_at hl 3 rfl) ?_
        refine md_get (v := .int ((fT f (t + 1) true) 11)) hx hb hts hown hK hM 11 (by decide) q1401 rfl rfl dX6_named_106 ?_
        refine w_top x (hS.2.2.1) ?_
        refine lv_goto (tgt := 127) hx hb dX6_named_109 (by decide) ?_
        exact hret hM (by simp only [nmV]; grind) dX6_named_127
      · refine lv_iconst (v := nI 1) hx hb dX6_named_66 (by decide) ?_
        refine lv_goto (tgt := 71) hx hb dX6_named_67 (by decide) ?_
        refine lv_istore (lv' := [(4, .int (nI 1)), (3, .int (nI 1)), (2, .int (nI 1)), (0, .ref (h 0)), (1, .int c0)]) hx hb dX6_named_71 hl (by decide) rfl (fun ls hl => ?_)
        refine lv_iload_n hx hb dX6_named_73 rfl (lv_at hl 2 rfl) ?_
        refine lv_if_ne (tgt := 91) hx hb dX6_named_74 (by decide) (fun _ => ?_) (fun q => absurd q (by decide))
        refine lv_aload_n hx hb dX6_named_91 rfl (lv_at hl 3 rfl) ?_
        refine lv_dup hx hb dX6_named_92 rfl ?_
        refine md_get (v := .int (nI t)) hx hb hts hown hK hM 8 (by decide) q1398 rfl rfl dX6_named_93 ?_
        refine lv_iconst (v := nI 1) hx hb dX6_named_96 (by decide) ?_
        refine w_iaddN hx hb dX6_named_97 ?_
        refine md_put hx hb hts hown hK hI hM 8 (by decide) q1398 rfl rfl rfl rfl rfl dX6_named_98 (fun H locs hM => ?_)
        have hM := hM.to (f' := fT f (t + 1) true) (fT_8 _ _ _ _) rfl
        refine lv_iload_n hx hb dX6_named_101 rfl (lv_at hl 2 rfl) ?_
        refine lv_if_eq (tgt := 112) hx hb dX6_named_102 (by decide) (fun q => absurd q (by decide)) (fun _ => ?_)
        refine lv_aload_n hx hb dX6_named_105 rfl (lv_at hl 3 rfl) ?_
        refine md_get (v := .int ((fT f (t + 1) true) 11)) hx hb hts hown hK hM 11 (by decide) q1401 rfl rfl dX6_named_106 ?_
        refine w_top x (hS.2.2.1) ?_
        refine lv_goto (tgt := 127) hx hb dX6_named_109 (by decide) ?_
        exact hret hM (by simp only [nmV]; grind) dX6_named_127
set_option maxHeartbeats 400000 in
theorem met_named1_n (f : Nat → Int32) (a : Nat → Nat → Int32) (n : Nat) (x y z : Int32) (hS : txS f 1 n x y z) (t : Nat) (c0 : Int32) (hc : ¬ isNm 1 c0 = true) : MdF yX6_named cX6_named 5 (some .int) 1 20 [.int c0] (fT f t true) a (some (.int (nI 0))) (fT f t false) a := by
  refine MdF.ofI (by decide) rfl (Nat.le_of_ble_eq_true rfl) ?_
  intro p l e R s m args below meth c Q D h dA ls hx hb hml hRf hRl hts hown hK hI hM hl hret
  have hl : lv_has ls 5 [(0, .ref (h 0)), (1, .int c0)] := hl
  refine lv_iload_n hx hb dX6_named_0 rfl (lv_at hl 1 rfl) ?_
  refine lv_aload_n hx hb dX6_named_1 rfl (lv_at hl 0 rfl) ?_
  refine md_get (v := .int ((fT f t true) 7)) hx hb hts hown hK hM 7 (by decide) q1397 rfl rfl dX6_named_2 ?_
  refine w_top (nI 1) (hS.1) ?_
  refine lv_if_ne (tgt := 13) hx hb dX6_named_5 (by decide) (fun _ => ?_) (fun q => absurd q (by decide))
  refine lv_bipush (v := nI 107) hx hb dX6_named_13 (by decide) ?_
  refine lv_icmp_ne (tgt := 22) hx hb dX6_named_15 (by decide) (fun c_2 => ?_) (fun c_2 => ?_)
  · refine lv_iconst (v := nI 0) hx hb dX6_named_22 (by decide) ?_
    refine lv_istore_n (lv' := [(2, .int (nI 0)), (0, .ref (h 0)), (1, .int c0)]) hx hb dX6_named_23 rfl hl (by decide) rfl (fun ls hl => ?_)
    refine lv_iload_n hx hb dX6_named_24 rfl (lv_at hl 2 rfl) ?_
    refine lv_aload_n hx hb dX6_named_25 rfl (lv_at hl 1 rfl) ?_
    refine md_get (v := .int ((fT f t true) 7)) hx hb hts hown hK hM 7 (by decide) q1397 rfl rfl dX6_named_26 ?_
    refine w_top (nI 1) (hS.1) ?_
    refine lv_if_ne (tgt := 37) hx hb dX6_named_29 (by decide) (fun _ => ?_) (fun q => absurd q (by decide))
    refine lv_bipush (v := nI 97) hx hb dX6_named_37 (by decide) ?_
    refine lv_icmp_ne (tgt := 46) hx hb dX6_named_39 (by decide) (fun c_4 => ?_) (fun c_4 => ?_)
    · refine lv_iconst (v := nI 0) hx hb dX6_named_46 (by decide) ?_
      refine lv_istore_n (lv' := [(3, .int (nI 0)), (2, .int (nI 0)), (0, .ref (h 0)), (1, .int c0)]) hx hb dX6_named_47 rfl hl (by decide) rfl (fun ls hl => ?_)
      refine lv_iload_n hx hb dX6_named_48 rfl (lv_at hl 3 rfl) ?_
      refine lv_aload_n hx hb dX6_named_49 rfl (lv_at hl 2 rfl) ?_
      refine md_get (v := .int ((fT f t true) 7)) hx hb hts hown hK hM 7 (by decide) q1397 rfl rfl dX6_named_50 ?_
      refine w_top (nI 1) (hS.1) ?_
      refine lv_if_ne (tgt := 61) hx hb dX6_named_53 (by decide) (fun _ => ?_) (fun q => absurd q (by decide))
      refine lv_bipush (v := nI 110) hx hb dX6_named_61 (by decide) ?_
      refine lv_icmp_ne (tgt := 70) hx hb dX6_named_63 (by decide) (fun c_6 => ?_) (fun c_6 => ?_)
      · refine lv_iconst (v := nI 0) hx hb dX6_named_70 (by decide) ?_
        refine lv_istore (lv' := [(4, .int (nI 0)), (3, .int (nI 0)), (2, .int (nI 0)), (0, .ref (h 0)), (1, .int c0)]) hx hb dX6_named_71 hl (by decide) rfl (fun ls hl => ?_)
        refine lv_iload_n hx hb dX6_named_73 rfl (lv_at hl 2 rfl) ?_
        refine lv_if_ne (tgt := 91) hx hb dX6_named_74 (by decide) (fun q => absurd q (by decide)) (fun _ => ?_)
        refine lv_iload_n hx hb dX6_named_77 rfl (lv_at hl 1 rfl) ?_
        refine lv_if_ne (tgt := 91) hx hb dX6_named_78 (by decide) (fun q => absurd q (by decide)) (fun _ => ?_)
        refine lv_iload hx hb dX6_named_81 (lv_at hl 0 rfl) ?_
        refine lv_if_ne (tgt := 91) hx hb dX6_named_83 (by decide) (fun q => absurd q (by decide)) (fun _ => ?_)
        refine lv_aload_n hx hb dX6_named_86 rfl (lv_at hl 3 rfl) ?_
        refine md_callI (y := yX6_fails) hx hb hml hown hts hK hI hM (met_failsT f a t true) q1553 q1555 qs34 q1556 ndX6_fails rfl (by rw [hRf]; decide) (by rw [hRl]; decide) hl.1 rfl (Nat.le_of_ble_eq_true rfl) dX6_named_87 (fun H locs hM => ?_)
        exact hret hM (by first | rfl | (simp only [iI, nI_0, nI_one]; grind)) dX6_named_90
      · refine lv_iconst (v := nI 1) hx hb dX6_named_66 (by decide) ?_
        refine lv_goto (tgt := 71) hx hb dX6_named_67 (by decide) ?_
        refine lv_istore (lv' := [(4, .int (nI 1)), (3, .int (nI 0)), (2, .int (nI 0)), (0, .ref (h 0)), (1, .int c0)]) hx hb dX6_named_71 hl (by decide) rfl (fun ls hl => ?_)
        refine lv_iload_n hx hb dX6_named_73 rfl (lv_at hl 2 rfl) ?_
        refine lv_if_ne (tgt := 91) hx hb dX6_named_74 (by decide) (fun q => absurd q (by decide)) (fun _ => ?_)
        refine lv_iload_n hx hb dX6_named_77 rfl (lv_at hl 1 rfl) ?_
        refine lv_if_ne (tgt := 91) hx hb dX6_named_78 (by decide) (fun q => absurd q (by decide)) (fun _ => ?_)
        refine lv_iload hx hb dX6_named_81 (lv_at hl 0 rfl) ?_
        refine lv_if_ne (tgt := 91) hx hb dX6_named_83 (by decide) (fun _ => ?_) (fun q => absurd q (by decide))
        exact absurd hc (by simp only [isNm]; grind)
    · refine lv_iconst (v := nI 1) hx hb dX6_named_42 (by decide) ?_
      refine lv_goto (tgt := 47) hx hb dX6_named_43 (by decide) ?_
      refine lv_istore_n (lv' := [(3, .int (nI 1)), (2, .int (nI 0)), (0, .ref (h 0)), (1, .int c0)]) hx hb dX6_named_47 rfl hl (by decide) rfl (fun ls hl => ?_)
      refine lv_iload_n hx hb dX6_named_48 rfl (lv_at hl 3 rfl) ?_
      refine lv_aload_n hx hb dX6_named_49 rfl (lv_at hl 2 rfl) ?_
      refine md_get (v := .int ((fT f t true) 7)) hx hb hts hown hK hM 7 (by decide) q1397 rfl rfl dX6_named_50 ?_
      refine w_top (nI 1) (hS.1) ?_
      refine lv_if_ne (tgt := 61) hx hb dX6_named_53 (by decide) (fun _ => ?_) (fun q => absurd q (by decide))
      refine lv_bipush (v := nI 110) hx hb dX6_named_61 (by decide) ?_
      refine lv_icmp_ne (tgt := 70) hx hb dX6_named_63 (by decide) (fun c_14 => ?_) (fun c_14 => ?_)
      · refine lv_iconst (v := nI 0) hx hb dX6_named_70 (by decide) ?_
        refine lv_istore (lv' := [(4, .int (nI 0)), (3, .int (nI 1)), (2, .int (nI 0)), (0, .ref (h 0)), (1, .int c0)]) hx hb dX6_named_71 hl (by decide) rfl (fun ls hl => ?_)
        refine lv_iload_n hx hb dX6_named_73 rfl (lv_at hl 2 rfl) ?_
        refine lv_if_ne (tgt := 91) hx hb dX6_named_74 (by decide) (fun q => absurd q (by decide)) (fun _ => ?_)
        refine lv_iload_n hx hb dX6_named_77 rfl (lv_at hl 1 rfl) ?_
        refine lv_if_ne (tgt := 91) hx hb dX6_named_78 (by decide) (fun _ => ?_) (fun q => absurd q (by decide))
        exact absurd hc (by simp only [isNm]; grind)
      · refine lv_iconst (v := nI 1) hx hb dX6_named_66 (by decide) ?_
        refine lv_goto (tgt := 71) hx hb dX6_named_67 (by decide) ?_
        refine lv_istore (lv' := [(4, .int (nI 1)), (3, .int (nI 1)), (2, .int (nI 0)), (0, .ref (h 0)), (1, .int c0)]) hx hb dX6_named_71 hl (by decide) rfl (fun ls hl => ?_)
        refine lv_iload_n hx hb dX6_named_73 rfl (lv_at hl 2 rfl) ?_
        refine lv_if_ne (tgt := 91) hx hb dX6_named_74 (by decide) (fun q => absurd q (by decide)) (fun _ => ?_)
        refine lv_iload_n hx hb dX6_named_77 rfl (lv_at hl 1 rfl) ?_
        refine lv_if_ne (tgt := 91) hx hb dX6_named_78 (by decide) (fun _ => ?_) (fun q => absurd q (by decide))
        exact absurd hc (by simp only [isNm]; grind)
  · refine lv_iconst (v := nI 1) hx hb dX6_named_18 (by decide) ?_
    refine lv_goto (tgt := 23) hx hb dX6_named_19 (by decide) ?_
    refine lv_istore_n (lv' := [(2, .int (nI 1)), (0, .ref (h 0)), (1, .int c0)]) hx hb dX6_named_23 rfl hl (by decide) rfl (fun ls hl => ?_)
    refine lv_iload_n hx hb dX6_named_24 rfl (lv_at hl 2 rfl) ?_
    refine lv_aload_n hx hb dX6_named_25 rfl (lv_at hl 1 rfl) ?_
    refine md_get (v := .int ((fT f t true) 7)) hx hb hts hown hK hM 7 (by decide) q1397 rfl rfl dX6_named_26 ?_
    refine w_top (nI 1) (hS.1) ?_
    refine lv_if_ne (tgt := 37) hx hb dX6_named_29 (by decide) (fun _ => ?_) (fun q => absurd q (by decide))
    refine lv_bipush (v := nI 97) hx hb dX6_named_37 (by decide) ?_
    refine lv_icmp_ne (tgt := 46) hx hb dX6_named_39 (by decide) (fun c_20 => ?_) (fun c_20 => ?_)
    · refine lv_iconst (v := nI 0) hx hb dX6_named_46 (by decide) ?_
      refine lv_istore_n (lv' := [(3, .int (nI 0)), (2, .int (nI 1)), (0, .ref (h 0)), (1, .int c0)]) hx hb dX6_named_47 rfl hl (by decide) rfl (fun ls hl => ?_)
      refine lv_iload_n hx hb dX6_named_48 rfl (lv_at hl 3 rfl) ?_
      refine lv_aload_n hx hb dX6_named_49 rfl (lv_at hl 2 rfl) ?_
      refine md_get (v := .int ((fT f t true) 7)) hx hb hts hown hK hM 7 (by decide) q1397 rfl rfl dX6_named_50 ?_
      refine w_top (nI 1) (hS.1) ?_
      refine lv_if_ne (tgt := 61) hx hb dX6_named_53 (by decide) (fun _ => ?_) (fun q => absurd q (by decide))
      refine lv_bipush (v := nI 110) hx hb dX6_named_61 (by decide) ?_
      refine lv_icmp_ne (tgt := 70) hx hb dX6_named_63 (by decide) (fun c_22 => ?_) (fun c_22 => ?_)
      · refine lv_iconst (v := nI 0) hx hb dX6_named_70 (by decide) ?_
        refine lv_istore (lv' := [(4, .int (nI 0)), (3, .int (nI 0)), (2, .int (nI 1)), (0, .ref (h 0)), (1, .int c0)]) hx hb dX6_named_71 hl (by decide) rfl (fun ls hl => ?_)
        refine lv_iload_n hx hb dX6_named_73 rfl (lv_at hl 2 rfl) ?_
        refine lv_if_ne (tgt := 91) hx hb dX6_named_74 (by decide) (fun _ => ?_) (fun q => absurd q (by decide))
        exact absurd hc (by simp only [isNm]; grind)
      · refine lv_iconst (v := nI 1) hx hb dX6_named_66 (by decide) ?_
        refine lv_goto (tgt := 71) hx hb dX6_named_67 (by decide) ?_
        refine lv_istore (lv' := [(4, .int (nI 1)), (3, .int (nI 0)), (2, .int (nI 1)), (0, .ref (h 0)), (1, .int c0)]) hx hb dX6_named_71 hl (by decide) rfl (fun ls hl => ?_)
        refine lv_iload_n hx hb dX6_named_73 rfl (lv_at hl 2 rfl) ?_
        refine lv_if_ne (tgt := 91) hx hb dX6_named_74 (by decide) (fun _ => ?_) (fun q => absurd q (by decide))
        exact absurd hc (by simp only [isNm]; grind)
    · refine lv_iconst (v := nI 1) hx hb dX6_named_42 (by decide) ?_
      refine lv_goto (tgt := 47) hx hb dX6_named_43 (by decide) ?_
      refine lv_istore_n (lv' := [(3, .int (nI 1)), (2, .int (nI 1)), (0, .ref (h 0)), (1, .int c0)]) hx hb dX6_named_47 rfl hl (by decide) rfl (fun ls hl => ?_)
      refine lv_iload_n hx hb dX6_named_48 rfl (lv_at hl 3 rfl) ?_
      refine lv_aload_n hx hb dX6_named_49 rfl (lv_at hl 2 rfl) ?_
      refine md_get (v := .int ((fT f t true) 7)) hx hb hts hown hK hM 7 (by decide) q1397 rfl rfl dX6_named_50 ?_
      refine w_top (nI 1) (hS.1) ?_
      refine lv_if_ne (tgt := 61) hx hb dX6_named_53 (by decide) (fun _ => ?_) (fun q => absurd q (by decide))
      refine lv_bipush (v := nI 110) hx hb dX6_named_61 (by decide) ?_
      refine lv_icmp_ne (tgt := 70) hx hb dX6_named_63 (by decide) (fun c_26 => ?_) (fun c_26 => ?_)
      · refine lv_iconst (v := nI 0) hx hb dX6_named_70 (by decide) ?_
        refine lv_istore (lv' := [(4, .int (nI 0)), (3, .int (nI 1)), (2, .int (nI 1)), (0, .ref (h 0)), (1, .int c0)]) hx hb dX6_named_71 hl (by decide) rfl (fun ls hl => ?_)
        refine lv_iload_n hx hb dX6_named_73 rfl (lv_at hl 2 rfl) ?_
        refine lv_if_ne (tgt := 91) hx hb dX6_named_74 (by decide) (fun _ => ?_) (fun q => absurd q (by decide))
        exact absurd hc (by simp only [isNm]; grind)
      · refine lv_iconst (v := nI 1) hx hb dX6_named_66 (by decide) ?_
        refine lv_goto (tgt := 71) hx hb dX6_named_67 (by decide) ?_
        refine lv_istore (lv' := [(4, .int (nI 1)), (3, .int (nI 1)), (2, .int (nI 1)), (0, .ref (h 0)), (1, .int c0)]) hx hb dX6_named_71 hl (by decide) rfl (fun ls hl => ?_)
        refine lv_iload_n hx hb dX6_named_73 rfl (lv_at hl 2 rfl) ?_
        refine lv_if_ne (tgt := 91) hx hb dX6_named_74 (by decide) (fun _ => ?_) (fun q => absurd q (by decide))
        exact absurd hc (by simp only [isNm]; grind)
