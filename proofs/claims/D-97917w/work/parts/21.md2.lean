/-! the model: small methods, 2 (printed by model2.py) -/
set_option maxRecDepth 100000
theorem ndX6_beside : yX6_beside.cls ≠ "java/lang/invoke/MethodHandle" ∧ yX6_beside.cls ≠ "java/lang/invoke/VarHandle" ∧ (parseMethodDescriptor yX6_beside.desc).map (fun d => d.parameters.length) = some 2 := by decide +kernel
set_option maxHeartbeats 400000 in
theorem met_beside (c0 w : Nat) (hc : c0 < 25) (hw : w < 5) : StF yX6_beside cX6_beside 2 (some .int) 0 0 [.int (nI c0), .int (nI w)] (some (.int (oI (nxt c0 w)))) := by
  refine StF.ofI (by decide) (own := RX6) rfl (Nat.le_of_ble_eq_true rfl) ?_
  intro p l e R s m args below meth c Q H locs ls hx hb hml hRf hRl hts hown hl hret
  have hl : lv_has ls 2 [(0, .int (nI c0)), (1, .int (nI w))] := hl
  refine lv_iload_n hx hb dX6_beside_0 rfl (lv_at hl 1 rfl) ?_
  by_cases c_1 : w = 1
  · refine lv_tableIn (off := 31) (tgt := 32) hx hb dX6_beside_1 (by rw [c_1]; decide) (by rw [c_1]; decide) (by rw [c_1]; rfl) (by decide) ?_
    refine lv_iload_n hx hb dX6_beside_32 rfl (lv_at hl 0 rfl) ?_
    refine lv_iconst (v := nI 5) hx hb dX6_beside_33 (by decide) ?_
    refine w_icmp_geN (tgt := 41) hx hb (by omega) (by omega) dX6_beside_34 (by decide) (fun c_2 => ?_) (fun c_2 => ?_)
    · refine lv_iload_n hx hb dX6_beside_41 rfl (lv_at hl 0 rfl) ?_
      refine lv_iconst (v := nI 5) hx hb dX6_beside_42 (by decide) ?_
      refine w_isubN hx hb (by omega) dX6_beside_43 ?_
      exact hret (by simp only [nxt]; grind [oI]) dX6_beside_44
    · refine lv_iconst (v := (-1 : Int32)) hx hb dX6_beside_37 (by decide) ?_
      refine lv_goto (tgt := 44) hx hb dX6_beside_38 (by decide) ?_
      exact hret (by simp only [nxt]; grind [oI]) dX6_beside_44
  · skip
    by_cases c_3 : w = 2
    · refine lv_tableIn (off := 44) (tgt := 45) hx hb dX6_beside_1 (by rw [c_3]; decide) (by rw [c_3]; decide) (by rw [c_3]; rfl) (by decide) ?_
      refine lv_iload_n hx hb dX6_beside_45 rfl (lv_at hl 0 rfl) ?_
      refine lv_iconst (v := nI 5) hx hb dX6_beside_46 (by decide) ?_
      refine w_iremN hx hb (by omega) (by omega) (by omega) dX6_beside_47 ?_
      refine lv_iconst (v := nI 4) hx hb dX6_beside_48 (by decide) ?_
      refine w_icmp_neN (tgt := 56) hx hb (by omega) (by omega) dX6_beside_49 (by decide) (fun c_4 => ?_) (fun c_4 => ?_)
      · refine lv_iload_n hx hb dX6_beside_56 rfl (lv_at hl 0 rfl) ?_
        refine lv_iconst (v := nI 1) hx hb dX6_beside_57 (by decide) ?_
        refine w_iaddN hx hb dX6_beside_58 ?_
        exact hret (by simp only [nxt]; grind [oI]) dX6_beside_59
      · refine lv_iconst (v := (-1 : Int32)) hx hb dX6_beside_52 (by decide) ?_
        refine lv_goto (tgt := 59) hx hb dX6_beside_53 (by decide) ?_
        exact hret (by simp only [nxt]; grind [oI]) dX6_beside_59
    · skip
      by_cases c_5 : w = 3
      · refine lv_tableIn (off := 59) (tgt := 60) hx hb dX6_beside_1 (by rw [c_5]; decide) (by rw [c_5]; decide) (by rw [c_5]; rfl) (by decide) ?_
        refine lv_iload_n hx hb dX6_beside_60 rfl (lv_at hl 0 rfl) ?_
        refine lv_bipush (v := nI 20) hx hb dX6_beside_61 (by decide) ?_
        refine w_icmp_ltN (tgt := 70) hx hb (by omega) (by omega) dX6_beside_63 (by decide) (fun c_6 => ?_) (fun c_6 => ?_)
        · refine lv_iload_n hx hb dX6_beside_70 rfl (lv_at hl 0 rfl) ?_
          refine lv_iconst (v := nI 5) hx hb dX6_beside_71 (by decide) ?_
          refine w_iaddN hx hb dX6_beside_72 ?_
          exact hret (by simp only [nxt]; grind [oI]) dX6_beside_73
        · refine lv_iconst (v := (-1 : Int32)) hx hb dX6_beside_66 (by decide) ?_
          refine lv_goto (tgt := 73) hx hb dX6_beside_67 (by decide) ?_
          exact hret (by simp only [nxt]; grind [oI]) dX6_beside_73
      · skip
        by_cases c_7 : w = 4
        · refine lv_tableIn (off := 73) (tgt := 74) hx hb dX6_beside_1 (by rw [c_7]; decide) (by rw [c_7]; decide) (by rw [c_7]; rfl) (by decide) ?_
          refine lv_iload_n hx hb dX6_beside_74 rfl (lv_at hl 0 rfl) ?_
          refine lv_iconst (v := nI 5) hx hb dX6_beside_75 (by decide) ?_
          refine w_iremN hx hb (by omega) (by omega) (by omega) dX6_beside_76 ?_
          refine w_if_neN (tgt := 84) hx hb (by omega) dX6_beside_77 (by decide) (fun c_8 => ?_) (fun c_8 => ?_)
          · refine lv_iload_n hx hb dX6_beside_84 rfl (lv_at hl 0 rfl) ?_
            refine lv_iconst (v := nI 1) hx hb dX6_beside_85 (by decide) ?_
            refine w_isubN hx hb (by omega) dX6_beside_86 ?_
            exact hret (by simp only [nxt]; grind [oI]) dX6_beside_87
          · refine lv_iconst (v := (-1 : Int32)) hx hb dX6_beside_80 (by decide) ?_
            refine lv_goto (tgt := 87) hx hb dX6_beside_81 (by decide) ?_
            exact hret (by simp only [nxt]; grind [oI]) dX6_beside_87
        · skip
          refine lv_tableOut (tgt := 88) hx hb dX6_beside_1 (w_tout 1 4 (by decide) (fun k hk => by intro q; have := (nI_eq (by omega) (by omega)).mp q; omega)) (by decide) ?_
          refine lv_iload_n hx hb dX6_beside_88 rfl (lv_at hl 0 rfl) ?_
          exact hret (by simp only [nxt]; grind [oI]) dX6_beside_89
def abv (k : Int32) : Int32 := if k = 0 then -1 else if k = nI 4 then nI 1 else if k = nI 5 then nI 2 else if k = nI 6 then nI 3 else nI 0
theorem ndX6_above : yX6_above.cls ≠ "java/lang/invoke/MethodHandle" ∧ yX6_above.cls ≠ "java/lang/invoke/VarHandle" ∧ (parseMethodDescriptor yX6_above.desc).map (fun d => d.parameters.length) = some 1 := by decide +kernel
set_option maxHeartbeats 400000 in
theorem met_above (k : Int32) : StF yX6_above cX6_above 1 (some .int) 0 0 [.int k] (some (.int (abv k))) := by
  refine StF.ofI (by decide) (own := RX6) rfl (Nat.le_of_ble_eq_true rfl) ?_
  intro p l e R s m args below meth c Q H locs ls hx hb hml hRf hRl hts hown hl hret
  have hl : lv_has ls 1 [(0, .int k)] := hl
  refine lv_iload_n hx hb dX6_above_0 rfl (lv_at hl 0 rfl) ?_
  refine lv_if_ne (tgt := 8) hx hb dX6_above_1 (by decide) (fun c_1 => ?_) (fun c_1 => ?_)
  · refine lv_iload_n hx hb dX6_above_8 rfl (lv_at hl 0 rfl) ?_
    refine lv_iconst (v := nI 4) hx hb dX6_above_9 (by decide) ?_
    refine lv_icmp_ne (tgt := 17) hx hb dX6_above_10 (by decide) (fun c_2 => ?_) (fun c_2 => ?_)
    · refine lv_iload_n hx hb dX6_above_17 rfl (lv_at hl 0 rfl) ?_
      refine lv_iconst (v := nI 5) hx hb dX6_above_18 (by decide) ?_
      refine lv_icmp_ne (tgt := 26) hx hb dX6_above_19 (by decide) (fun c_3 => ?_) (fun c_3 => ?_)
      · refine lv_iload_n hx hb dX6_above_26 rfl (lv_at hl 0 rfl) ?_
        refine lv_bipush (v := nI 6) hx hb dX6_above_27 (by decide) ?_
        refine lv_icmp_ne (tgt := 36) hx hb dX6_above_29 (by decide) (fun c_4 => ?_) (fun c_4 => ?_)
        · refine lv_iconst (v := nI 0) hx hb dX6_above_36 (by decide) ?_
          exact hret (by simp only [abv]; first | rfl | (simp_all; done) | grind) dX6_above_37
        · refine lv_iconst (v := nI 3) hx hb dX6_above_32 (by decide) ?_
          refine lv_goto (tgt := 37) hx hb dX6_above_33 (by decide) ?_
          exact hret (by simp only [abv]; first | rfl | (simp_all; done) | grind) dX6_above_37
      · refine lv_iconst (v := nI 2) hx hb dX6_above_22 (by decide) ?_
        refine lv_goto (tgt := 37) hx hb dX6_above_23 (by decide) ?_
        exact hret (by simp only [abv]; first | rfl | (simp_all; done) | grind) dX6_above_37
    · refine lv_iconst (v := nI 1) hx hb dX6_above_13 (by decide) ?_
      refine lv_goto (tgt := 37) hx hb dX6_above_14 (by decide) ?_
      exact hret (by simp only [abv]; first | rfl | (simp_all; done) | grind) dX6_above_37
  · refine lv_iconst (v := (-1 : Int32)) hx hb dX6_above_4 (by decide) ?_
    refine lv_goto (tgt := 37) hx hb dX6_above_5 (by decide) ?_
    exact hret (by simp only [abv]; first | rfl | (simp_all; done) | grind) dX6_above_37
def szI (k : Int32) : Int32 := if k < 0 then -k else k
theorem ndX6_size : yX6_size.cls ≠ "java/lang/invoke/MethodHandle" ∧ yX6_size.cls ≠ "java/lang/invoke/VarHandle" ∧ (parseMethodDescriptor yX6_size.desc).map (fun d => d.parameters.length) = some 1 := by decide +kernel
set_option maxHeartbeats 400000 in
theorem met_size (k : Int32) : StF yX6_size cX6_size 1 (some .int) 0 0 [.int k] (some (.int (szI k))) := by
  refine StF.ofI (by decide) (own := RX6) rfl (Nat.le_of_ble_eq_true rfl) ?_
  intro p l e R s m args below meth c Q H locs ls hx hb hml hRf hRl hts hown hl hret
  have hl : lv_has ls 1 [(0, .int k)] := hl
  refine lv_iload_n hx hb dX6_size_0 rfl (lv_at hl 0 rfl) ?_
  refine lv_if_ge (tgt := 9) hx hb dX6_size_1 (by decide) (fun c_1 => ?_) (fun c_1 => ?_)
  · refine lv_iload_n hx hb dX6_size_9 rfl (lv_at hl 0 rfl) ?_
    exact hret (by simp only [szI]; grind) dX6_size_10
  · refine lv_iload_n hx hb dX6_size_4 rfl (lv_at hl 0 rfl) ?_
    refine lv_ineg hx hb dX6_size_5 ?_
    refine lv_goto (tgt := 10) hx hb dX6_size_6 (by decide) ?_
    exact hret (by simp only [szI]; grind) dX6_size_10
def narF (b v : Int32) : Int32 := if b = nI 8 then v.toInt8.toInt32 else if b = nI 16 then v.toInt16.toInt32 else v
theorem ndX6_narrow : yX6_narrow.cls ≠ "java/lang/invoke/MethodHandle" ∧ yX6_narrow.cls ≠ "java/lang/invoke/VarHandle" ∧ (parseMethodDescriptor yX6_narrow.desc).map (fun d => d.parameters.length) = some 2 := by decide +kernel
set_option maxHeartbeats 400000 in
theorem met_narrow (b v : Int32) : StF yX6_narrow cX6_narrow 2 (some .int) 0 0 [.int b, .int v] (some (.int (narF b v))) := by
  refine StF.ofI (by decide) (own := RX6) rfl (Nat.le_of_ble_eq_true rfl) ?_
  intro p l e R s m args below meth c Q H locs ls hx hb hml hRf hRl hts hown hl hret
  have hl : lv_has ls 2 [(0, .int b), (1, .int v)] := hl
  refine lv_iload_n hx hb dX6_narrow_0 rfl (lv_at hl 0 rfl) ?_
  refine lv_bipush (v := nI 8) hx hb dX6_narrow_1 (by decide) ?_
  refine lv_icmp_ne (tgt := 11) hx hb dX6_narrow_3 (by decide) (fun c_1 => ?_) (fun c_1 => ?_)
  · refine lv_iload_n hx hb dX6_narrow_11 rfl (lv_at hl 0 rfl) ?_
    refine lv_bipush (v := nI 16) hx hb dX6_narrow_12 (by decide) ?_
    refine lv_icmp_ne (tgt := 22) hx hb dX6_narrow_14 (by decide) (fun c_2 => ?_) (fun c_2 => ?_)
    · refine lv_iload_n hx hb dX6_narrow_22 rfl (lv_at hl 1 rfl) ?_
      exact hret (by simp only [narF]; grind) dX6_narrow_23
    · refine lv_iload_n hx hb dX6_narrow_17 rfl (lv_at hl 1 rfl) ?_
      refine lv_i2s (v := (v).toInt16.toInt32) hx hb dX6_narrow_18 rfl ?_
      refine lv_goto (tgt := 23) hx hb dX6_narrow_19 (by decide) ?_
      exact hret (by simp only [narF]; grind) dX6_narrow_23
  · refine lv_iload_n hx hb dX6_narrow_6 rfl (lv_at hl 1 rfl) ?_
    refine lv_i2b (v := (v).toInt8.toInt32) hx hb dX6_narrow_7 rfl ?_
    refine lv_goto (tgt := 23) hx hb dX6_narrow_8 (by decide) ?_
    exact hret (by simp only [narF]; grind) dX6_narrow_23
def eatF (k m : Int32) : Int32 := if k = nI 1 then nI 5 + m else if k = nI 4 then (nI 5 + m) / nI 2 else if k = nI 3 ∨ k = nI 6 then nI 15 else nI 10
def spanF (k m : Int32) : Int32 := if k = nI 2 ∨ k = nI 5 then nI 8 else if k = nI 4 then nI 4 else if k = nI 6 then nI 6 + m / nI 2 else nI 6
theorem ndX6_eatsOf : yX6_eatsOf.cls = RX6 ∧ yX6_eatsOf.cls ≠ "java/lang/invoke/MethodHandle" ∧ yX6_eatsOf.cls ≠ "java/lang/invoke/VarHandle" ∧ (parseMethodDescriptor yX6_eatsOf.desc).map (fun d => d.parameters.length) = some 1 := by decide +kernel
set_option maxHeartbeats 400000 in
theorem met_eatsOf (f : Nat → Int32) (a : Nat → Nat → Int32) (i : Nat) (hi : i < 5) : MdF yX6_eatsOf cX6_eatsOf 4 (some .int) 1 22 [.int (nI i)] f a (some (.int (eatF (a 1 (58 + 14 * i + 0)) (a 1 (58 + 14 * i + 1))))) f a := by
  refine MdF.ofI (by decide) rfl (Nat.le_of_ble_eq_true rfl) ?_
  intro p l e R s m args below meth c Q D h dA ls hx hb hml hRf hRl hts hown hK hI hM hl hret
  have hl : lv_has ls 4 [(0, .ref (h 0)), (1, .int (nI i))] := hl
  refine lv_aload_n hx hb dX6_eatsOf_0 rfl (lv_at hl 0 rfl) ?_
  refine lv_iload_n hx hb dX6_eatsOf_1 rfl (lv_at hl 1 rfl) ?_
  refine lv_iconst (v := nI 0) hx hb dX6_eatsOf_2 (by decide) ?_
  refine md_callI (y := yX6_its) hx hb hml hown hts hK hI hM (met_its f a i 0 (by omega)) q1557 q1559 qs35 q1560 ndX6_its rfl (by rw [hRf]; decide) (by rw [hRl]; decide) hl.1 rfl (Nat.le_of_ble_eq_true rfl) dX6_eatsOf_3 (fun H locs hM => ?_)
  refine lv_istore_n (lv' := [(2, .int (a 1 (58 + 14 * i + 0))), (0, .ref (h 0)), (1, .int (nI i))]) hx hb dX6_eatsOf_6 rfl hl (by decide) rfl (fun ls hl => ?_)
  refine lv_iconst (v := nI 5) hx hb dX6_eatsOf_7 (by decide) ?_
  refine lv_aload_n hx hb dX6_eatsOf_8 rfl (lv_at hl 1 rfl) ?_
  refine lv_iload_n hx hb dX6_eatsOf_9 rfl (lv_at hl 2 rfl) ?_
  refine lv_iconst (v := nI 1) hx hb dX6_eatsOf_10 (by decide) ?_
  refine md_callI (y := yX6_its) hx hb hml hown hts hK hI hM (met_its f a i 1 (by omega)) q1557 q1559 qs35 q1560 ndX6_its rfl (by rw [hRf]; decide) (by rw [hRl]; decide) hl.1 rfl (Nat.le_of_ble_eq_true rfl) dX6_eatsOf_11 (fun H locs hM => ?_)
  refine lv_iadd hx hb dX6_eatsOf_14 ?_
  refine lv_istore_n (lv' := [(3, .int ((nI 5) + (a 1 (58 + 14 * i + 1)))), (2, .int (a 1 (58 + 14 * i + 0))), (0, .ref (h 0)), (1, .int (nI i))]) hx hb dX6_eatsOf_15 rfl hl (by decide) rfl (fun ls hl => ?_)
  refine lv_iload_n hx hb dX6_eatsOf_16 rfl (lv_at hl 1 rfl) ?_
  refine lv_iconst (v := nI 1) hx hb dX6_eatsOf_17 (by decide) ?_
  refine lv_icmp_ne (tgt := 25) hx hb dX6_eatsOf_18 (by decide) (fun c_1 => ?_) (fun c_1 => ?_)
  · refine lv_iload_n hx hb dX6_eatsOf_25 rfl (lv_at hl 1 rfl) ?_
    refine lv_iconst (v := nI 4) hx hb dX6_eatsOf_26 (by decide) ?_
    refine lv_icmp_ne (tgt := 36) hx hb dX6_eatsOf_27 (by decide) (fun c_2 => ?_) (fun c_2 => ?_)
    · refine lv_iload_n hx hb dX6_eatsOf_36 rfl (lv_at hl 1 rfl) ?_
      refine lv_iconst (v := nI 3) hx hb dX6_eatsOf_37 (by decide) ?_
      refine lv_icmp_eq (tgt := 47) hx hb dX6_eatsOf_38 (by decide) (fun c_3 => ?_) (fun c_3 => ?_)
      · refine lv_bipush (v := nI 15) hx hb dX6_eatsOf_47 (by decide) ?_
        refine lv_goto (tgt := 54) hx hb dX6_eatsOf_49 (by decide) ?_
        exact hret hM (by simp only [eatF]; grind) dX6_eatsOf_54
      · refine lv_iload_n hx hb dX6_eatsOf_41 rfl (lv_at hl 1 rfl) ?_
        refine lv_bipush (v := nI 6) hx hb dX6_eatsOf_42 (by decide) ?_
        refine lv_icmp_ne (tgt := 52) hx hb dX6_eatsOf_44 (by decide) (fun c_4 => ?_) (fun c_4 => ?_)
        · refine lv_bipush (v := nI 10) hx hb dX6_eatsOf_52 (by decide) ?_
          exact hret hM (by simp only [eatF]; grind) dX6_eatsOf_54
        · refine lv_bipush (v := nI 15) hx hb dX6_eatsOf_47 (by decide) ?_
          refine lv_goto (tgt := 54) hx hb dX6_eatsOf_49 (by decide) ?_
          exact hret hM (by simp only [eatF]; grind) dX6_eatsOf_54
    · refine lv_iload_n hx hb dX6_eatsOf_30 rfl (lv_at hl 0 rfl) ?_
      refine lv_iconst (v := nI 2) hx hb dX6_eatsOf_31 (by decide) ?_
      refine lv_idiv hx hb dX6_eatsOf_32 (by decide) ?_
      refine lv_goto (tgt := 54) hx hb dX6_eatsOf_33 (by decide) ?_
      exact hret hM (by simp only [eatF]; grind) dX6_eatsOf_54
  · refine lv_iload_n hx hb dX6_eatsOf_21 rfl (lv_at hl 0 rfl) ?_
    refine lv_goto (tgt := 54) hx hb dX6_eatsOf_22 (by decide) ?_
    exact hret hM (by simp only [eatF]; grind) dX6_eatsOf_54
theorem ndX6_spanOf : yX6_spanOf.cls = RX6 ∧ yX6_spanOf.cls ≠ "java/lang/invoke/MethodHandle" ∧ yX6_spanOf.cls ≠ "java/lang/invoke/VarHandle" ∧ (parseMethodDescriptor yX6_spanOf.desc).map (fun d => d.parameters.length) = some 1 := by decide +kernel
set_option maxHeartbeats 400000 in
theorem met_spanOf (f : Nat → Int32) (a : Nat → Nat → Int32) (i : Nat) (hi : i < 5) : MdF yX6_spanOf cX6_spanOf 3 (some .int) 1 22 [.int (nI i)] f a (some (.int (spanF (a 1 (58 + 14 * i + 0)) (a 1 (58 + 14 * i + 1))))) f a := by
  refine MdF.ofI (by decide) rfl (Nat.le_of_ble_eq_true rfl) ?_
  intro p l e R s m args below meth c Q D h dA ls hx hb hml hRf hRl hts hown hK hI hM hl hret
  have hl : lv_has ls 3 [(0, .ref (h 0)), (1, .int (nI i))] := hl
  refine lv_aload_n hx hb dX6_spanOf_0 rfl (lv_at hl 0 rfl) ?_
  refine lv_iload_n hx hb dX6_spanOf_1 rfl (lv_at hl 1 rfl) ?_
  refine lv_iconst (v := nI 0) hx hb dX6_spanOf_2 (by decide) ?_
  refine md_callI (y := yX6_its) hx hb hml hown hts hK hI hM (met_its f a i 0 (by omega)) q1557 q1559 qs35 q1560 ndX6_its rfl (by rw [hRf]; decide) (by rw [hRl]; decide) hl.1 rfl (Nat.le_of_ble_eq_true rfl) dX6_spanOf_3 (fun H locs hM => ?_)
  refine lv_istore_n (lv' := [(2, .int (a 1 (58 + 14 * i + 0))), (0, .ref (h 0)), (1, .int (nI i))]) hx hb dX6_spanOf_6 rfl hl (by decide) rfl (fun ls hl => ?_)
  refine lv_iload_n hx hb dX6_spanOf_7 rfl (lv_at hl 0 rfl) ?_
  refine lv_iconst (v := nI 2) hx hb dX6_spanOf_8 (by decide) ?_
  refine lv_icmp_eq (tgt := 17) hx hb dX6_spanOf_9 (by decide) (fun c_1 => ?_) (fun c_1 => ?_)
  · refine lv_bipush (v := nI 8) hx hb dX6_spanOf_17 (by decide) ?_
    refine lv_goto (tgt := 53) hx hb dX6_spanOf_19 (by decide) ?_
    exact hret hM (by simp only [spanF]; grind) dX6_spanOf_53
  · refine lv_iload_n hx hb dX6_spanOf_12 rfl (lv_at hl 0 rfl) ?_
    refine lv_iconst (v := nI 5) hx hb dX6_spanOf_13 (by decide) ?_
    refine lv_icmp_ne (tgt := 22) hx hb dX6_spanOf_14 (by decide) (fun c_2 => ?_) (fun c_2 => ?_)
    · refine lv_iload_n hx hb dX6_spanOf_22 rfl (lv_at hl 0 rfl) ?_
      refine lv_iconst (v := nI 4) hx hb dX6_spanOf_23 (by decide) ?_
      refine lv_icmp_ne (tgt := 31) hx hb dX6_spanOf_24 (by decide) (fun c_3 => ?_) (fun c_3 => ?_)
      · refine lv_iload_n hx hb dX6_spanOf_31 rfl (lv_at hl 0 rfl) ?_
        refine lv_bipush (v := nI 6) hx hb dX6_spanOf_32 (by decide) ?_
        refine lv_icmp_ne (tgt := 51) hx hb dX6_spanOf_34 (by decide) (fun c_4 => ?_) (fun c_4 => ?_)
        · refine lv_bipush (v := nI 6) hx hb dX6_spanOf_51 (by decide) ?_
          exact hret hM (by simp only [spanF]; grind) dX6_spanOf_53
        · refine lv_bipush (v := nI 6) hx hb dX6_spanOf_37 (by decide) ?_
          refine lv_aload_n hx hb dX6_spanOf_39 rfl (lv_at hl 1 rfl) ?_
          refine lv_iload_n hx hb dX6_spanOf_40 rfl (lv_at hl 2 rfl) ?_
          refine lv_iconst (v := nI 1) hx hb dX6_spanOf_41 (by decide) ?_
          refine md_callI (y := yX6_its) hx hb hml hown hts hK hI hM (met_its f a i 1 (by omega)) q1557 q1559 qs35 q1560 ndX6_its rfl (by rw [hRf]; decide) (by rw [hRl]; decide) hl.1 rfl (Nat.le_of_ble_eq_true rfl) dX6_spanOf_42 (fun H locs hM => ?_)
          refine lv_iconst (v := nI 2) hx hb dX6_spanOf_45 (by decide) ?_
          refine lv_idiv hx hb dX6_spanOf_46 (by decide) ?_
          refine lv_iadd hx hb dX6_spanOf_47 ?_
          refine lv_goto (tgt := 53) hx hb dX6_spanOf_48 (by decide) ?_
          exact hret hM (by simp only [spanF]; grind) dX6_spanOf_53
      · refine lv_iconst (v := nI 4) hx hb dX6_spanOf_27 (by decide) ?_
        refine lv_goto (tgt := 53) hx hb dX6_spanOf_28 (by decide) ?_
        exact hret hM (by simp only [spanF]; grind) dX6_spanOf_53
    · refine lv_bipush (v := nI 8) hx hb dX6_spanOf_17 (by decide) ?_
      refine lv_goto (tgt := 53) hx hb dX6_spanOf_19 (by decide) ?_
      exact hret hM (by simp only [spanF]; grind) dX6_spanOf_53
/-- the first of n places from k on that holds c; else -1 -/
def finM (g : Nat → Int32) (c : Int32) : Nat → Nat → Int32
  | 0, _ => -1
  | n + 1, k => if g k = c then nI k else finM g c n (k + 1)
theorem ndX6_inMilk : yX6_inMilk.cls = RX6 ∧ yX6_inMilk.cls ≠ "java/lang/invoke/MethodHandle" ∧ yX6_inMilk.cls ≠ "java/lang/invoke/VarHandle" ∧ (parseMethodDescriptor yX6_inMilk.desc).map (fun d => d.parameters.length) = some 3 := by decide +kernel
set_option maxHeartbeats 400000 in
theorem met_inMilk (f : Nat → Int32) (a : Nat → Nat → Int32) (i k0 : Nat) (v : Int32) (hi : i < 5) (hq : okN (a 1 (58 + 14 * i + 3)) 10) (hk0 : k0 < 2 ^ 31) : MdF yX6_inMilk cX6_inMilk 5 (some .int) 1 22 [.int (nI i), .int v, .int (nI k0)] f a (some (.int (finM (fun k => a 1 (58 + 14 * i + (4 + k))) v (cl (a 1 (58 + 14 * i + 3)) - k0) k0))) f a := by
  refine MdF.ofI (by decide) rfl (Nat.le_of_ble_eq_true rfl) ?_
  intro p l e R s m args below meth c Q D h dA ls hx hb hml hRf hRl hts hown hK hI hM hl hret
  have hl : lv_has ls 5 [(0, .ref (h 0)), (1, .int (nI i)), (2, .int v), (3, .int (nI k0))] := hl
  refine lv_iload_n hx hb dX6_inMilk_0 rfl (lv_at hl 3 rfl) ?_
  refine lv_istore (lv' := [(4, .int (nI k0)), (0, .ref (h 0)), (1, .int (nI i)), (2, .int v), (3, .int (nI k0))]) hx hb dX6_inMilk_1 hl (by decide) rfl (fun ls hl => ?_)
  have loop3 : ∀ (fu : Nat) (k : Nat), (k0 ≤ k) → (cl (a 1 (58 + 14 * i + 3)) - k < fu) → (k < 2 ^ 31) → (finM (fun k => a 1 (58 + 14 * i + (4 + k))) v (cl (a 1 (58 + 14 * i + 3)) - k0) k0 = finM (fun k => a 1 (58 + 14 * i + (4 + k))) v (cl (a 1 (58 + 14 * i + 3)) - k) k) → ∀ (H : Heap) (locs : List Loc), mdH D h dA s.heap H locs f a → ∀ (ls : Array Slot), lv_has ls 5 [(4, .int (nI k)), (0, .ref (h 0)), (1, .int (nI i)), (2, .int v)] → W p l e R s m args below meth c H locs 0 0 Q (F0 m 3 ls []) := by
    intro fu
    induction fu with
    | zero =>
      intro k hk hn hkb e
      omega
    | succ fu ih3 =>
      intro k hk hn hkb e H locs hM ls hl
      have hq1 := hq.2
      refine lv_iload hx hb dX6_inMilk_3 (lv_at hl 0 rfl) ?_
      refine lv_aload_n hx hb dX6_inMilk_5 rfl (lv_at hl 1 rfl) ?_
      refine lv_iload_n hx hb dX6_inMilk_6 rfl (lv_at hl 2 rfl) ?_
      refine lv_iconst (v := nI 3) hx hb dX6_inMilk_7 (by decide) ?_
      refine md_callI (y := yX6_its) hx hb hml hown hts hK hI hM (met_its f a i 3 (by omega)) q1557 q1559 qs35 q1560 ndX6_its rfl (by rw [hRf]; decide) (by rw [hRl]; decide) hl.1 rfl (Nat.le_of_ble_eq_true rfl) dX6_inMilk_8 (fun H locs hM => ?_)
      refine w_top (nI (cl (a 1 (58 + 14 * i + 3)))) (hq.1) ?_
      refine w_icmp_geN (tgt := 36) hx hb (by omega) (by omega) dX6_inMilk_11 (by decide) (fun c_1 => ?_) (fun c_1 => ?_)
      · refine lv_iconst (v := (-1 : Int32)) hx hb dX6_inMilk_36 (by decide) ?_
        exact hret hM (by rw [e, show cl (a 1 (58 + 14 * i + 3)) - k = 0 by omega, finM]) dX6_inMilk_37
      · have hkq : k < 10 := by omega
        refine lv_aload_n hx hb dX6_inMilk_14 rfl (lv_at hl 1 rfl) ?_
        refine lv_iload_n hx hb dX6_inMilk_15 rfl (lv_at hl 2 rfl) ?_
        refine lv_iconst (v := nI 4) hx hb dX6_inMilk_16 (by decide) ?_
        refine lv_iload hx hb dX6_inMilk_17 (lv_at hl 0 rfl) ?_
        refine w_iaddN hx hb dX6_inMilk_19 ?_
        refine md_callI (y := yX6_its) hx hb hml hown hts hK hI hM (met_its f a i (4 + k) (by omega)) q1557 q1559 qs35 q1560 ndX6_its rfl (by rw [hRf]; decide) (by rw [hRl]; decide) hl.1 rfl (Nat.le_of_ble_eq_true rfl) dX6_inMilk_20 (fun H locs hM => ?_)
        refine lv_iload_n hx hb dX6_inMilk_23 rfl (lv_at hl 3 rfl) ?_
        refine lv_icmp_ne (tgt := 30) hx hb dX6_inMilk_24 (by decide) (fun c_2 => ?_) (fun c_2 => ?_)
        · refine lv_iinc (v := nI (k + 1)) (lv' := [(4, .int (nI (k + 1))), (0, .ref (h 0)), (1, .int (nI i)), (2, .int v)]) hx hb dX6_inMilk_30 hl (k := 0) rfl (by rw [show Int32.ofInt 1 = nI 1 from by decide]; exact nI_add _ _) (by decide) rfl (fun ls hl => ?_)
          refine lv_goto (tgt := 3) hx hb dX6_inMilk_33 (by decide) ?_
          exact ih3 (k + 1) (by omega) (by omega) (by omega) (by rw [e, show cl (a 1 (58 + 14 * i + 3)) - k = (cl (a 1 (58 + 14 * i + 3)) - (k + 1)) + 1 by omega, finM, if_neg c_2]) _ _ hM ls (lv_sub hl [0, 1, 2, 3] rfl)
        · refine lv_iload hx hb dX6_inMilk_27 (lv_at hl 0 rfl) ?_
          exact hret hM (by rw [e, show cl (a 1 (58 + 14 * i + 3)) - k = (cl (a 1 (58 + 14 * i + 3)) - (k + 1)) + 1 by omega, finM, if_pos c_2]) dX6_inMilk_29
  exact loop3 (cl (a 1 (58 + 14 * i + 3)) + 1) k0 (Nat.le_refl _) (by omega) hk0 rfl _ _ hM ls (lv_sub hl [0, 1, 2, 3] rfl)
theorem ndX6_moveAll : yX6_moveAll.cls = RX6 ∧ yX6_moveAll.cls ≠ "java/lang/invoke/MethodHandle" ∧ yX6_moveAll.cls ≠ "java/lang/invoke/VarHandle" ∧ (parseMethodDescriptor yX6_moveAll.desc).map (fun d => d.parameters.length) = some 2 := by decide +kernel
set_option maxHeartbeats 400000 in
theorem met_moveAll_1_4 (f : Nat → Int32) (a : Nat → Nat → Int32) : MdG yX6_moveAll cX6_moveAll 4 none 0 0 (fun h => [.ref (h 1), .ref (h 4)]) f a none f (va_up a 4 (a 1)) := by
  refine MdG.ofV (by decide) rfl (fun h => Nat.le_of_ble_eq_true rfl) ?_
  intro p l e R s m args below meth c Q D h dA ls hx hb hml hRf hRl hts hown hK hI hM hl hret
  have hl : lv_has ls 4 [(0, .ref (h 0)), (1, .ref (h 1)), (2, .ref (h 4))] := hl
  refine lv_iconst (v := nI 0) hx hb dX6_moveAll_0 (by decide) ?_
  refine lv_istore_n (lv' := [(3, .int (nI 0)), (0, .ref (h 0)), (1, .ref (h 1)), (2, .ref (h 4))]) hx hb dX6_moveAll_1 rfl hl (by decide) rfl (fun ls hl => ?_)
  have loop2 : ∀ (fu : Nat) (k : Nat), (k ≤ 298) → (298 < k + fu) → ∀ (H : Heap) (locs : List Loc), mdH D h dA s.heap H locs f (va_up a 4 (cpk (a 1) (a 4) k)) → ∀ (ls : Array Slot), lv_has ls 4 [(3, .int (nI k)), (0, .ref (h 0)), (1, .ref (h 1)), (2, .ref (h 4))] → W p l e R s m args below meth c H locs 0 0 Q (F0 m 2 ls []) := by
    intro fu
    induction fu with
    | zero =>
      intro k hk hn
      omega
    | succ fu ih2 =>
      intro k hk hn H locs hM ls hl
      refine lv_iload_n hx hb dX6_moveAll_2 rfl (lv_at hl 0 rfl) ?_
      refine lv_sipush (v := nI 298) hx hb dX6_moveAll_3 (by decide) ?_
      refine w_icmp_geN (tgt := 21) hx hb (by omega) (by omega) dX6_moveAll_6 (by decide) (fun c_1 => ?_) (fun c_1 => ?_)
      · exact hret (by have hk2 : k = 298 := (by omega); subst hk2; exact (hM.cong 4 (a 1) rfl rfl (fun i hi => by rw [va_us]; simp [cpk, hi])).to rfl (va_uu a 4 _ _)) dX6_moveAll_21
      · refine lv_aload_n hx hb dX6_moveAll_9 rfl (lv_at hl 3 rfl) ?_
        refine lv_iload_n hx hb dX6_moveAll_10 rfl (lv_at hl 0 rfl) ?_
        refine lv_aload_n hx hb dX6_moveAll_11 rfl (lv_at hl 2 rfl) ?_
        refine lv_iload_n hx hb dX6_moveAll_12 rfl (lv_at hl 0 rfl) ?_
        refine md_iald hx hb hK hM 1 rfl k ⟨by omega, by decide, rfl⟩ dX6_moveAll_13 ?_
        refine md_iast hx hb hK hI hM 4 rfl k ⟨by omega, by decide, rfl⟩ rfl dX6_moveAll_14 (fun H locs hM => ?_)
        refine lv_iinc (v := nI (k + 1)) (lv' := [(3, .int (nI (k + 1))), (0, .ref (h 0)), (1, .ref (h 1)), (2, .ref (h 4))]) hx hb dX6_moveAll_15 hl (k := 0) rfl (by rw [show Int32.ofInt 1 = nI 1 from by decide]; exact nI_add _ _) (by decide) rfl (fun ls hl => ?_)
        refine lv_goto (tgt := 2) hx hb dX6_moveAll_18 (by decide) ?_
        exact ih2 (k + 1) (by omega) (by omega) _ _ (hM.to rfl (cpk_s (by decide))) ls (lv_sub hl [0, 1, 2, 3] rfl)
  exact loop2 299 0 (by omega) (by omega) _ _ (hM.to rfl (cpk_0 a 1 4)) ls (lv_sub hl [0, 1, 2, 3] rfl)
set_option maxHeartbeats 400000 in
theorem met_moveAll_4_1 (f : Nat → Int32) (a : Nat → Nat → Int32) : MdG yX6_moveAll cX6_moveAll 4 none 0 0 (fun h => [.ref (h 4), .ref (h 1)]) f a none f (va_up a 1 (a 4)) := by
  refine MdG.ofV (by decide) rfl (fun h => Nat.le_of_ble_eq_true rfl) ?_
  intro p l e R s m args below meth c Q D h dA ls hx hb hml hRf hRl hts hown hK hI hM hl hret
  have hl : lv_has ls 4 [(0, .ref (h 0)), (1, .ref (h 4)), (2, .ref (h 1))] := hl
  refine lv_iconst (v := nI 0) hx hb dX6_moveAll_0 (by decide) ?_
  refine lv_istore_n (lv' := [(3, .int (nI 0)), (0, .ref (h 0)), (1, .ref (h 4)), (2, .ref (h 1))]) hx hb dX6_moveAll_1 rfl hl (by decide) rfl (fun ls hl => ?_)
  have loop2 : ∀ (fu : Nat) (k : Nat), (k ≤ 298) → (298 < k + fu) → ∀ (H : Heap) (locs : List Loc), mdH D h dA s.heap H locs f (va_up a 1 (cpk (a 4) (a 1) k)) → ∀ (ls : Array Slot), lv_has ls 4 [(3, .int (nI k)), (0, .ref (h 0)), (1, .ref (h 4)), (2, .ref (h 1))] → W p l e R s m args below meth c H locs 0 0 Q (F0 m 2 ls []) := by
    intro fu
    induction fu with
    | zero =>
      intro k hk hn
      omega
    | succ fu ih2 =>
      intro k hk hn H locs hM ls hl
      refine lv_iload_n hx hb dX6_moveAll_2 rfl (lv_at hl 0 rfl) ?_
      refine lv_sipush (v := nI 298) hx hb dX6_moveAll_3 (by decide) ?_
      refine w_icmp_geN (tgt := 21) hx hb (by omega) (by omega) dX6_moveAll_6 (by decide) (fun c_1 => ?_) (fun c_1 => ?_)
      · exact hret (by have hk2 : k = 298 := (by omega); subst hk2; exact (hM.cong 1 (a 4) rfl rfl (fun i hi => by rw [va_us]; simp [cpk, hi])).to rfl (va_uu a 1 _ _)) dX6_moveAll_21
      · refine lv_aload_n hx hb dX6_moveAll_9 rfl (lv_at hl 3 rfl) ?_
        refine lv_iload_n hx hb dX6_moveAll_10 rfl (lv_at hl 0 rfl) ?_
        refine lv_aload_n hx hb dX6_moveAll_11 rfl (lv_at hl 2 rfl) ?_
        refine lv_iload_n hx hb dX6_moveAll_12 rfl (lv_at hl 0 rfl) ?_
        refine md_iald hx hb hK hM 4 rfl k ⟨by omega, by decide, rfl⟩ dX6_moveAll_13 ?_
        refine md_iast hx hb hK hI hM 1 rfl k ⟨by omega, by decide, rfl⟩ rfl dX6_moveAll_14 (fun H locs hM => ?_)
        refine lv_iinc (v := nI (k + 1)) (lv' := [(3, .int (nI (k + 1))), (0, .ref (h 0)), (1, .ref (h 4)), (2, .ref (h 1))]) hx hb dX6_moveAll_15 hl (k := 0) rfl (by rw [show Int32.ofInt 1 = nI 1 from by decide]; exact nI_add _ _) (by decide) rfl (fun ls hl => ?_)
        refine lv_goto (tgt := 2) hx hb dX6_moveAll_18 (by decide) ?_
        exact ih2 (k + 1) (by omega) (by omega) _ _ (hM.to rfl (cpk_s (by decide))) ls (lv_sub hl [0, 1, 2, 3] rfl)
  exact loop2 299 0 (by omega) (by omega) _ _ (hM.to rfl (cpk_0 a 4 1)) ls (lv_sub hl [0, 1, 2, 3] rfl)
set_option maxHeartbeats 400000 in
theorem met_moveAll_1_3 (f : Nat → Int32) (a : Nat → Nat → Int32) : MdG yX6_moveAll cX6_moveAll 4 none 0 0 (fun h => [.ref (h 1), .ref (h 3)]) f a none f (va_up a 3 (a 1)) := by
  refine MdG.ofV (by decide) rfl (fun h => Nat.le_of_ble_eq_true rfl) ?_
  intro p l e R s m args below meth c Q D h dA ls hx hb hml hRf hRl hts hown hK hI hM hl hret
  have hl : lv_has ls 4 [(0, .ref (h 0)), (1, .ref (h 1)), (2, .ref (h 3))] := hl
  refine lv_iconst (v := nI 0) hx hb dX6_moveAll_0 (by decide) ?_
  refine lv_istore_n (lv' := [(3, .int (nI 0)), (0, .ref (h 0)), (1, .ref (h 1)), (2, .ref (h 3))]) hx hb dX6_moveAll_1 rfl hl (by decide) rfl (fun ls hl => ?_)
  have loop2 : ∀ (fu : Nat) (k : Nat), (k ≤ 298) → (298 < k + fu) → ∀ (H : Heap) (locs : List Loc), mdH D h dA s.heap H locs f (va_up a 3 (cpk (a 1) (a 3) k)) → ∀ (ls : Array Slot), lv_has ls 4 [(3, .int (nI k)), (0, .ref (h 0)), (1, .ref (h 1)), (2, .ref (h 3))] → W p l e R s m args below meth c H locs 0 0 Q (F0 m 2 ls []) := by
    intro fu
    induction fu with
    | zero =>
      intro k hk hn
      omega
    | succ fu ih2 =>
      intro k hk hn H locs hM ls hl
      refine lv_iload_n hx hb dX6_moveAll_2 rfl (lv_at hl 0 rfl) ?_
      refine lv_sipush (v := nI 298) hx hb dX6_moveAll_3 (by decide) ?_
      refine w_icmp_geN (tgt := 21) hx hb (by omega) (by omega) dX6_moveAll_6 (by decide) (fun c_1 => ?_) (fun c_1 => ?_)
      · exact hret (by have hk2 : k = 298 := (by omega); subst hk2; exact (hM.cong 3 (a 1) rfl rfl (fun i hi => by rw [va_us]; simp [cpk, hi])).to rfl (va_uu a 3 _ _)) dX6_moveAll_21
      · refine lv_aload_n hx hb dX6_moveAll_9 rfl (lv_at hl 3 rfl) ?_
        refine lv_iload_n hx hb dX6_moveAll_10 rfl (lv_at hl 0 rfl) ?_
        refine lv_aload_n hx hb dX6_moveAll_11 rfl (lv_at hl 2 rfl) ?_
        refine lv_iload_n hx hb dX6_moveAll_12 rfl (lv_at hl 0 rfl) ?_
        refine md_iald hx hb hK hM 1 rfl k ⟨by omega, by decide, rfl⟩ dX6_moveAll_13 ?_
        refine md_iast hx hb hK hI hM 3 rfl k ⟨by omega, by decide, rfl⟩ rfl dX6_moveAll_14 (fun H locs hM => ?_)
        refine lv_iinc (v := nI (k + 1)) (lv' := [(3, .int (nI (k + 1))), (0, .ref (h 0)), (1, .ref (h 1)), (2, .ref (h 3))]) hx hb dX6_moveAll_15 hl (k := 0) rfl (by rw [show Int32.ofInt 1 = nI 1 from by decide]; exact nI_add _ _) (by decide) rfl (fun ls hl => ?_)
        refine lv_goto (tgt := 2) hx hb dX6_moveAll_18 (by decide) ?_
        exact ih2 (k + 1) (by omega) (by omega) _ _ (hM.to rfl (cpk_s (by decide))) ls (lv_sub hl [0, 1, 2, 3] rfl)
  exact loop2 299 0 (by omega) (by omega) _ _ (hM.to rfl (cpk_0 a 1 3)) ls (lv_sub hl [0, 1, 2, 3] rfl)
set_option maxHeartbeats 400000 in
theorem met_moveAll_3_1 (f : Nat → Int32) (a : Nat → Nat → Int32) : MdG yX6_moveAll cX6_moveAll 4 none 0 0 (fun h => [.ref (h 3), .ref (h 1)]) f a none f (va_up a 1 (a 3)) := by
  refine MdG.ofV (by decide) rfl (fun h => Nat.le_of_ble_eq_true rfl) ?_
  intro p l e R s m args below meth c Q D h dA ls hx hb hml hRf hRl hts hown hK hI hM hl hret
  have hl : lv_has ls 4 [(0, .ref (h 0)), (1, .ref (h 3)), (2, .ref (h 1))] := hl
  refine lv_iconst (v := nI 0) hx hb dX6_moveAll_0 (by decide) ?_
  refine lv_istore_n (lv' := [(3, .int (nI 0)), (0, .ref (h 0)), (1, .ref (h 3)), (2, .ref (h 1))]) hx hb dX6_moveAll_1 rfl hl (by decide) rfl (fun ls hl => ?_)
  have loop2 : ∀ (fu : Nat) (k : Nat), (k ≤ 298) → (298 < k + fu) → ∀ (H : Heap) (locs : List Loc), mdH D h dA s.heap H locs f (va_up a 1 (cpk (a 3) (a 1) k)) → ∀ (ls : Array Slot), lv_has ls 4 [(3, .int (nI k)), (0, .ref (h 0)), (1, .ref (h 3)), (2, .ref (h 1))] → W p l e R s m args below meth c H locs 0 0 Q (F0 m 2 ls []) := by
    intro fu
    induction fu with
    | zero =>
      intro k hk hn
      omega
    | succ fu ih2 =>
      intro k hk hn H locs hM ls hl
      refine lv_iload_n hx hb dX6_moveAll_2 rfl (lv_at hl 0 rfl) ?_
      refine lv_sipush (v := nI 298) hx hb dX6_moveAll_3 (by decide) ?_
      refine w_icmp_geN (tgt := 21) hx hb (by omega) (by omega) dX6_moveAll_6 (by decide) (fun c_1 => ?_) (fun c_1 => ?_)
      · exact hret (by have hk2 : k = 298 := (by omega); subst hk2; exact (hM.cong 1 (a 3) rfl rfl (fun i hi => by rw [va_us]; simp [cpk, hi])).to rfl (va_uu a 1 _ _)) dX6_moveAll_21
      · refine lv_aload_n hx hb dX6_moveAll_9 rfl (lv_at hl 3 rfl) ?_
        refine lv_iload_n hx hb dX6_moveAll_10 rfl (lv_at hl 0 rfl) ?_
        refine lv_aload_n hx hb dX6_moveAll_11 rfl (lv_at hl 2 rfl) ?_
        refine lv_iload_n hx hb dX6_moveAll_12 rfl (lv_at hl 0 rfl) ?_
        refine md_iald hx hb hK hM 3 rfl k ⟨by omega, by decide, rfl⟩ dX6_moveAll_13 ?_
        refine md_iast hx hb hK hI hM 1 rfl k ⟨by omega, by decide, rfl⟩ rfl dX6_moveAll_14 (fun H locs hM => ?_)
        refine lv_iinc (v := nI (k + 1)) (lv' := [(3, .int (nI (k + 1))), (0, .ref (h 0)), (1, .ref (h 3)), (2, .ref (h 1))]) hx hb dX6_moveAll_15 hl (k := 0) rfl (by rw [show Int32.ofInt 1 = nI 1 from by decide]; exact nI_add _ _) (by decide) rfl (fun ls hl => ?_)
        refine lv_goto (tgt := 2) hx hb dX6_moveAll_18 (by decide) ?_
        exact ih2 (k + 1) (by omega) (by omega) _ _ (hM.to rfl (cpk_s (by decide))) ls (lv_sub hl [0, 1, 2, 3] rfl)
  exact loop2 299 0 (by omega) (by omega) _ _ (hM.to rfl (cpk_0 a 3 1)) ls (lv_sub hl [0, 1, 2, 3] rfl)
set_option maxHeartbeats 400000 in
theorem met_moveAll_1_2 (f : Nat → Int32) (a : Nat → Nat → Int32) : MdG yX6_moveAll cX6_moveAll 4 none 0 0 (fun h => [.ref (h 1), .ref (h 2)]) f a none f (va_up a 2 (a 1)) := by
  refine MdG.ofV (by decide) rfl (fun h => Nat.le_of_ble_eq_true rfl) ?_
  intro p l e R s m args below meth c Q D h dA ls hx hb hml hRf hRl hts hown hK hI hM hl hret
  have hl : lv_has ls 4 [(0, .ref (h 0)), (1, .ref (h 1)), (2, .ref (h 2))] := hl
  refine lv_iconst (v := nI 0) hx hb dX6_moveAll_0 (by decide) ?_
  refine lv_istore_n (lv' := [(3, .int (nI 0)), (0, .ref (h 0)), (1, .ref (h 1)), (2, .ref (h 2))]) hx hb dX6_moveAll_1 rfl hl (by decide) rfl (fun ls hl => ?_)
  have loop2 : ∀ (fu : Nat) (k : Nat), (k ≤ 298) → (298 < k + fu) → ∀ (H : Heap) (locs : List Loc), mdH D h dA s.heap H locs f (va_up a 2 (cpk (a 1) (a 2) k)) → ∀ (ls : Array Slot), lv_has ls 4 [(3, .int (nI k)), (0, .ref (h 0)), (1, .ref (h 1)), (2, .ref (h 2))] → W p l e R s m args below meth c H locs 0 0 Q (F0 m 2 ls []) := by
    intro fu
    induction fu with
    | zero =>
      intro k hk hn
      omega
    | succ fu ih2 =>
      intro k hk hn H locs hM ls hl
      refine lv_iload_n hx hb dX6_moveAll_2 rfl (lv_at hl 0 rfl) ?_
      refine lv_sipush (v := nI 298) hx hb dX6_moveAll_3 (by decide) ?_
      refine w_icmp_geN (tgt := 21) hx hb (by omega) (by omega) dX6_moveAll_6 (by decide) (fun c_1 => ?_) (fun c_1 => ?_)
      · exact hret (by have hk2 : k = 298 := (by omega); subst hk2; exact (hM.cong 2 (a 1) rfl rfl (fun i hi => by rw [va_us]; simp [cpk, hi])).to rfl (va_uu a 2 _ _)) dX6_moveAll_21
      · refine lv_aload_n hx hb dX6_moveAll_9 rfl (lv_at hl 3 rfl) ?_
        refine lv_iload_n hx hb dX6_moveAll_10 rfl (lv_at hl 0 rfl) ?_
        refine lv_aload_n hx hb dX6_moveAll_11 rfl (lv_at hl 2 rfl) ?_
        refine lv_iload_n hx hb dX6_moveAll_12 rfl (lv_at hl 0 rfl) ?_
        refine md_iald hx hb hK hM 1 rfl k ⟨by omega, by decide, rfl⟩ dX6_moveAll_13 ?_
        refine md_iast hx hb hK hI hM 2 rfl k ⟨by omega, by decide, rfl⟩ rfl dX6_moveAll_14 (fun H locs hM => ?_)
        refine lv_iinc (v := nI (k + 1)) (lv' := [(3, .int (nI (k + 1))), (0, .ref (h 0)), (1, .ref (h 1)), (2, .ref (h 2))]) hx hb dX6_moveAll_15 hl (k := 0) rfl (by rw [show Int32.ofInt 1 = nI 1 from by decide]; exact nI_add _ _) (by decide) rfl (fun ls hl => ?_)
        refine lv_goto (tgt := 2) hx hb dX6_moveAll_18 (by decide) ?_
        exact ih2 (k + 1) (by omega) (by omega) _ _ (hM.to rfl (cpk_s (by decide))) ls (lv_sub hl [0, 1, 2, 3] rfl)
  exact loop2 299 0 (by omega) (by omega) _ _ (hM.to rfl (cpk_0 a 1 2)) ls (lv_sub hl [0, 1, 2, 3] rfl)
set_option maxHeartbeats 400000 in
theorem met_moveAll_2_1 (f : Nat → Int32) (a : Nat → Nat → Int32) : MdG yX6_moveAll cX6_moveAll 4 none 0 0 (fun h => [.ref (h 2), .ref (h 1)]) f a none f (va_up a 1 (a 2)) := by
  refine MdG.ofV (by decide) rfl (fun h => Nat.le_of_ble_eq_true rfl) ?_
  intro p l e R s m args below meth c Q D h dA ls hx hb hml hRf hRl hts hown hK hI hM hl hret
  have hl : lv_has ls 4 [(0, .ref (h 0)), (1, .ref (h 2)), (2, .ref (h 1))] := hl
  refine lv_iconst (v := nI 0) hx hb dX6_moveAll_0 (by decide) ?_
  refine lv_istore_n (lv' := [(3, .int (nI 0)), (0, .ref (h 0)), (1, .ref (h 2)), (2, .ref (h 1))]) hx hb dX6_moveAll_1 rfl hl (by decide) rfl (fun ls hl => ?_)
  have loop2 : ∀ (fu : Nat) (k : Nat), (k ≤ 298) → (298 < k + fu) → ∀ (H : Heap) (locs : List Loc), mdH D h dA s.heap H locs f (va_up a 1 (cpk (a 2) (a 1) k)) → ∀ (ls : Array Slot), lv_has ls 4 [(3, .int (nI k)), (0, .ref (h 0)), (1, .ref (h 2)), (2, .ref (h 1))] → W p l e R s m args below meth c H locs 0 0 Q (F0 m 2 ls []) := by
    intro fu
    induction fu with
    | zero =>
      intro k hk hn
      omega
    | succ fu ih2 =>
      intro k hk hn H locs hM ls hl
      refine lv_iload_n hx hb dX6_moveAll_2 rfl (lv_at hl 0 rfl) ?_
      refine lv_sipush (v := nI 298) hx hb dX6_moveAll_3 (by decide) ?_
      refine w_icmp_geN (tgt := 21) hx hb (by omega) (by omega) dX6_moveAll_6 (by decide) (fun c_1 => ?_) (fun c_1 => ?_)
      · exact hret (by have hk2 : k = 298 := (by omega); subst hk2; exact (hM.cong 1 (a 2) rfl rfl (fun i hi => by rw [va_us]; simp [cpk, hi])).to rfl (va_uu a 1 _ _)) dX6_moveAll_21
      · refine lv_aload_n hx hb dX6_moveAll_9 rfl (lv_at hl 3 rfl) ?_
        refine lv_iload_n hx hb dX6_moveAll_10 rfl (lv_at hl 0 rfl) ?_
        refine lv_aload_n hx hb dX6_moveAll_11 rfl (lv_at hl 2 rfl) ?_
        refine lv_iload_n hx hb dX6_moveAll_12 rfl (lv_at hl 0 rfl) ?_
        refine md_iald hx hb hK hM 2 rfl k ⟨by omega, by decide, rfl⟩ dX6_moveAll_13 ?_
        refine md_iast hx hb hK hI hM 1 rfl k ⟨by omega, by decide, rfl⟩ rfl dX6_moveAll_14 (fun H locs hM => ?_)
        refine lv_iinc (v := nI (k + 1)) (lv' := [(3, .int (nI (k + 1))), (0, .ref (h 0)), (1, .ref (h 2)), (2, .ref (h 1))]) hx hb dX6_moveAll_15 hl (k := 0) rfl (by rw [show Int32.ofInt 1 = nI 1 from by decide]; exact nI_add _ _) (by decide) rfl (fun ls hl => ?_)
        refine lv_goto (tgt := 2) hx hb dX6_moveAll_18 (by decide) ?_
        exact ih2 (k + 1) (by omega) (by omega) _ _ (hM.to rfl (cpk_s (by decide))) ls (lv_sub hl [0, 1, 2, 3] rfl)
  exact loop2 299 0 (by omega) (by omega) _ _ (hM.to rfl (cpk_0 a 2 1)) ls (lv_sub hl [0, 1, 2, 3] rfl)
