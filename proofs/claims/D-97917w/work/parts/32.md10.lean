/-! the model: acts, 3 (printed by model10.py) -/
set_option maxRecDepth 100000
theorem ndX6_image : yX6_image.cls = RX6 ∧ yX6_image.cls ≠ "java/lang/invoke/MethodHandle" ∧ yX6_image.cls ≠ "java/lang/invoke/VarHandle" ∧ (parseMethodDescriptor yX6_image.desc).map (fun d => d.parameters.length) = some 0 := by decide +kernel
set_option maxHeartbeats 400000 in
theorem met_image_ok (f : Nat → Int32) (a : Nat → Nat → Int32)  : MdF yX6_image cX6_image 1 (some .int) 1 23 [] f a (some (.int (f 5 + nI 1))) (upd (upd f 4 (nI 1)) 5 (f 5 + nI 1)) (va_up a 2 (a 1)) := by
  refine MdF.ofI (by decide) rfl (Nat.le_of_ble_eq_true rfl) ?_
  intro p l e R s m args below meth c Q D h dA ls hx hb hml hRf hRl hts hown hK hI hM hl hret
  have hl : lv_has ls 1 [(0, .ref (h 0))] := hl
  refine lv_aload_n hx hb dX6_image_0 rfl (lv_at hl 0 rfl) ?_
  refine lv_aload_n hx hb dX6_image_1 rfl (lv_at hl 0 rfl) ?_
  refine md_get (v := .ref (h 1)) hx hb hts hown hK hM 0 (by decide) q1390 rfl rfl dX6_image_2 ?_
  refine lv_aload_n hx hb dX6_image_5 rfl (lv_at hl 0 rfl) ?_
  refine md_get (v := .ref (h 2)) hx hb hts hown hK hM 1 (by decide) q1391 rfl rfl dX6_image_6 ?_
  refine md_callG (y := yX6_moveAll) hx hb hml hown hts hK hI hM (met_moveAll_1_2 f a) q1639 q1641 qs43 q1642 ndX6_moveAll rfl (by rw [hRf]; decide) (by rw [hRl]; decide) hl.1 rfl (Nat.le_of_ble_eq_true rfl) dX6_image_9 (fun H locs hM => ?_)
  refine lv_aload_n hx hb dX6_image_12 rfl (lv_at hl 0 rfl) ?_
  refine lv_iconst (v := nI 1) hx hb dX6_image_13 (by decide) ?_
  refine md_put hx hb hts hown hK hI hM 4 (by decide) q1394 rfl rfl rfl rfl rfl dX6_image_14 (fun H locs hM => ?_)
  refine lv_aload_n hx hb dX6_image_17 rfl (lv_at hl 0 rfl) ?_
  refine lv_dup hx hb dX6_image_18 rfl ?_
  refine md_get (v := .int ((upd f 4 (nI 1)) 5)) hx hb hts hown hK hM 5 (by decide) q1395 rfl rfl dX6_image_19 ?_
  refine w_top (f 5) (rfl) ?_
  refine lv_iconst (v := nI 1) hx hb dX6_image_22 (by decide) ?_
  refine lv_iadd hx hb dX6_image_23 ?_
  refine md_put hx hb hts hown hK hI hM 5 (by decide) q1395 rfl rfl rfl rfl rfl dX6_image_24 (fun H locs hM => ?_)
  refine lv_aload_n hx hb dX6_image_27 rfl (lv_at hl 0 rfl) ?_
  refine md_get (v := .int ((upd (upd f 4 (nI 1)) 5 ((f 5) + (nI 1))) 5)) hx hb hts hown hK hM 5 (by decide) q1395 rfl rfl dX6_image_28 ?_
  refine w_top (f 5 + nI 1) (rfl) ?_
  exact hret hM (by first | rfl | (simp only [iI, nI_0, nI_one]; grind)) dX6_image_31
theorem ndX6_restore : yX6_restore.cls = RX6 ∧ yX6_restore.cls ≠ "java/lang/invoke/MethodHandle" ∧ yX6_restore.cls ≠ "java/lang/invoke/VarHandle" ∧ (parseMethodDescriptor yX6_restore.desc).map (fun d => d.parameters.length) = some 0 := by decide +kernel
set_option maxHeartbeats 400000 in
theorem met_restore_ok (f : Nat → Int32) (a : Nat → Nat → Int32) (hk : ¬ f 4 = 0) : MdF yX6_restore cX6_restore 1 (some .int) 1 23 [] f a (some (.int (a 2 0))) f (va_up a 1 (a 2)) := by
  refine MdF.ofI (by decide) rfl (Nat.le_of_ble_eq_true rfl) ?_
  intro p l e R s m args below meth c Q D h dA ls hx hb hml hRf hRl hts hown hK hI hM hl hret
  have hl : lv_has ls 1 [(0, .ref (h 0))] := hl
  refine lv_aload_n hx hb dX6_restore_0 rfl (lv_at hl 0 rfl) ?_
  refine md_get (v := .int (f 4)) hx hb hts hown hK hM 4 (by decide) q1394 rfl rfl dX6_restore_1 ?_
  refine lv_if_ne (tgt := 14) hx hb dX6_restore_4 (by decide) (fun c_1 => ?_) (fun c_1 => ?_)
  · refine lv_aload_n hx hb dX6_restore_14 rfl (lv_at hl 0 rfl) ?_
    refine lv_aload_n hx hb dX6_restore_15 rfl (lv_at hl 0 rfl) ?_
    refine md_get (v := .ref (h 2)) hx hb hts hown hK hM 1 (by decide) q1391 rfl rfl dX6_restore_16 ?_
    refine lv_aload_n hx hb dX6_restore_19 rfl (lv_at hl 0 rfl) ?_
    refine md_get (v := .ref (h 1)) hx hb hts hown hK hM 0 (by decide) q1390 rfl rfl dX6_restore_20 ?_
    refine md_callG (y := yX6_moveAll) hx hb hml hown hts hK hI hM (met_moveAll_2_1 f a) q1639 q1641 qs43 q1642 ndX6_moveAll rfl (by rw [hRf]; decide) (by rw [hRl]; decide) hl.1 rfl (Nat.le_of_ble_eq_true rfl) dX6_restore_23 (fun H locs hM => ?_)
    refine lv_aload_n hx hb dX6_restore_26 rfl (lv_at hl 0 rfl) ?_
    refine md_get (v := .ref (h 1)) hx hb hts hown hK hM 0 (by decide) q1390 rfl rfl dX6_restore_27 ?_
    refine lv_iconst (v := nI 0) hx hb dX6_restore_30 (by decide) ?_
    refine md_iald hx hb hK hM 1 rfl 0 ⟨by omega, by decide, rfl⟩ dX6_restore_31 ?_
    refine w_top ((a 2) 0) (by rw [va_us]) ?_
    refine w_top (a 2 0) (rfl) ?_
    exact hret hM (by first | rfl | (simp only [iI, nI_0, nI_one]; grind)) dX6_restore_32
  · exact absurd c_1 hk
set_option maxHeartbeats 400000 in
theorem met_restore_e (f : Nat → Int32) (a : Nat → Nat → Int32) (hk : f 4 = 0) : MdF yX6_restore cX6_restore 1 (some .int) 1 21 [] f a (some (.int (-1000000002 : Int32))) f (mErr a 2) := by
  refine MdF.ofI (by decide) rfl (Nat.le_of_ble_eq_true rfl) ?_
  intro p l e R s m args below meth c Q D h dA ls hx hb hml hRf hRl hts hown hK hI hM hl hret
  have hl : lv_has ls 1 [(0, .ref (h 0))] := hl
  refine lv_aload_n hx hb dX6_restore_0 rfl (lv_at hl 0 rfl) ?_
  refine md_get (v := .int (f 4)) hx hb hts hown hK hM 4 (by decide) q1394 rfl rfl dX6_restore_1 ?_
  refine lv_if_ne (tgt := 14) hx hb dX6_restore_4 (by decide) (fun c_1 => ?_) (fun c_1 => ?_)
  · exact absurd hk c_1
  · refine lv_aload_n hx hb dX6_restore_7 rfl (lv_at hl 0 rfl) ?_
    refine lv_ldc hx hb hown (hts _ q1605) dX6_restore_8 ?_
    refine md_callI (y := yX6_errs) hx hb hml hown hts hK hI hM (met_errs f a (-1000000002 : Int32) 2 (by decide) (by decide)) q1486 q1488 qs21 q1489 ndX6_errs rfl (by rw [hRf]; decide) (by rw [hRl]; decide) hl.1 rfl (Nat.le_of_ble_eq_true rfl) dX6_restore_10 (fun H locs hM => ?_)
    exact hret hM (by first | rfl | (simp only [iI, nI_0, nI_one]; grind)) dX6_restore_13
theorem ndX6_count : yX6_count.cls = RX6 ∧ yX6_count.cls ≠ "java/lang/invoke/MethodHandle" ∧ yX6_count.cls ≠ "java/lang/invoke/VarHandle" ∧ (parseMethodDescriptor yX6_count.desc).map (fun d => d.parameters.length) = some 1 := by decide +kernel
set_option maxHeartbeats 400000 in
theorem met_count_ok0 (f : Nat → Int32) (a : Nat → Nat → Int32)  : MdF yX6_count cX6_count 2 (some .int) 0 0 [.int (nI 0)] f a (some (.int (a 1 3))) f a := by
  refine MdF.ofI (by decide) rfl (Nat.le_of_ble_eq_true rfl) ?_
  intro p l e R s m args below meth c Q D h dA ls hx hb hml hRf hRl hts hown hK hI hM hl hret
  have hl : lv_has ls 2 [(0, .ref (h 0)), (1, .int (nI 0))] := hl
  refine lv_iload_n hx hb dX6_count_0 rfl (lv_at hl 1 rfl) ?_
  refine lv_tableIn (off := 47) (tgt := 48) hx hb dX6_count_1 (by decide) (by decide) (by rfl) (by decide) ?_
  refine lv_aload_n hx hb dX6_count_48 rfl (lv_at hl 0 rfl) ?_
  refine md_get (v := .ref (h 1)) hx hb hts hown hK hM 0 (by decide) q1390 rfl rfl dX6_count_49 ?_
  refine lv_iconst (v := nI 3) hx hb dX6_count_52 (by decide) ?_
  refine md_iald hx hb hK hM 1 rfl 3 ⟨by omega, by decide, rfl⟩ dX6_count_53 ?_
  exact hret hM (by first | rfl | (simp only [iI, nI_0, nI_one]; grind)) dX6_count_54
set_option maxHeartbeats 400000 in
theorem met_count_ok1 (f : Nat → Int32) (a : Nat → Nat → Int32)  : MdF yX6_count cX6_count 2 (some .int) 0 0 [.int (nI 1)] f a (some (.int (a 1 0))) f a := by
  refine MdF.ofI (by decide) rfl (Nat.le_of_ble_eq_true rfl) ?_
  intro p l e R s m args below meth c Q D h dA ls hx hb hml hRf hRl hts hown hK hI hM hl hret
  have hl : lv_has ls 2 [(0, .ref (h 0)), (1, .int (nI 1))] := hl
  refine lv_iload_n hx hb dX6_count_0 rfl (lv_at hl 1 rfl) ?_
  refine lv_tableIn (off := 54) (tgt := 55) hx hb dX6_count_1 (by decide) (by decide) (by rfl) (by decide) ?_
  refine lv_aload_n hx hb dX6_count_55 rfl (lv_at hl 0 rfl) ?_
  refine md_get (v := .ref (h 1)) hx hb hts hown hK hM 0 (by decide) q1390 rfl rfl dX6_count_56 ?_
  refine lv_iconst (v := nI 0) hx hb dX6_count_59 (by decide) ?_
  refine md_iald hx hb hK hM 1 rfl 0 ⟨by omega, by decide, rfl⟩ dX6_count_60 ?_
  exact hret hM (by first | rfl | (simp only [iI, nI_0, nI_one]; grind)) dX6_count_61
set_option maxHeartbeats 400000 in
theorem met_count_ok2 (f : Nat → Int32) (a : Nat → Nat → Int32)  : MdF yX6_count cX6_count 2 (some .int) 1 22 [.int (nI 2)] f a (some (.int (sumG (a 1) 25))) f a := by
  refine MdF.ofI (by decide) rfl (Nat.le_of_ble_eq_true rfl) ?_
  intro p l e R s m args below meth c Q D h dA ls hx hb hml hRf hRl hts hown hK hI hM hl hret
  have hl : lv_has ls 2 [(0, .ref (h 0)), (1, .int (nI 2))] := hl
  refine lv_iload_n hx hb dX6_count_0 rfl (lv_at hl 1 rfl) ?_
  refine lv_tableIn (off := 61) (tgt := 62) hx hb dX6_count_1 (by decide) (by decide) (by rfl) (by decide) ?_
  refine lv_aload_n hx hb dX6_count_62 rfl (lv_at hl 0 rfl) ?_
  refine md_callI (y := yX6_grassOfAll) hx hb hml hown hts hK hI hM (met_grassOfAll f a) q1660 q1662 qs47 q1663 ndX6_grassOfAll rfl (by rw [hRf]; decide) (by rw [hRl]; decide) hl.1 rfl (Nat.le_of_ble_eq_true rfl) dX6_count_63 (fun H locs hM => ?_)
  exact hret hM (by first | rfl | (simp only [iI, nI_0, nI_one]; grind)) dX6_count_66
set_option maxHeartbeats 400000 in
theorem met_count_ok3 (f : Nat → Int32) (a : Nat → Nat → Int32)  : MdF yX6_count cX6_count 2 (some .int) 0 0 [.int (nI 3)] f a (some (.int (a 1 1))) f a := by
  refine MdF.ofI (by decide) rfl (Nat.le_of_ble_eq_true rfl) ?_
  intro p l e R s m args below meth c Q D h dA ls hx hb hml hRf hRl hts hown hK hI hM hl hret
  have hl : lv_has ls 2 [(0, .ref (h 0)), (1, .int (nI 3))] := hl
  refine lv_iload_n hx hb dX6_count_0 rfl (lv_at hl 1 rfl) ?_
  refine lv_tableIn (off := 66) (tgt := 67) hx hb dX6_count_1 (by decide) (by decide) (by rfl) (by decide) ?_
  refine lv_aload_n hx hb dX6_count_67 rfl (lv_at hl 0 rfl) ?_
  refine md_get (v := .ref (h 1)) hx hb hts hown hK hM 0 (by decide) q1390 rfl rfl dX6_count_68 ?_
  refine lv_iconst (v := nI 1) hx hb dX6_count_71 (by decide) ?_
  refine md_iald hx hb hK hM 1 rfl 1 ⟨by omega, by decide, rfl⟩ dX6_count_72 ?_
  exact hret hM (by first | rfl | (simp only [iI, nI_0, nI_one]; grind)) dX6_count_73
set_option maxHeartbeats 400000 in
theorem met_count_ok4 (f : Nat → Int32) (a : Nat → Nat → Int32)  : MdF yX6_count cX6_count 2 (some .int) 0 0 [.int (nI 4)] f a (some (.int (a 1 4))) f a := by
  refine MdF.ofI (by decide) rfl (Nat.le_of_ble_eq_true rfl) ?_
  intro p l e R s m args below meth c Q D h dA ls hx hb hml hRf hRl hts hown hK hI hM hl hret
  have hl : lv_has ls 2 [(0, .ref (h 0)), (1, .int (nI 4))] := hl
  refine lv_iload_n hx hb dX6_count_0 rfl (lv_at hl 1 rfl) ?_
  refine lv_tableIn (off := 73) (tgt := 74) hx hb dX6_count_1 (by decide) (by decide) (by rfl) (by decide) ?_
  refine lv_aload_n hx hb dX6_count_74 rfl (lv_at hl 0 rfl) ?_
  refine md_get (v := .ref (h 1)) hx hb hts hown hK hM 0 (by decide) q1390 rfl rfl dX6_count_75 ?_
  refine lv_iconst (v := nI 4) hx hb dX6_count_78 (by decide) ?_
  refine md_iald hx hb hK hM 1 rfl 4 ⟨by omega, by decide, rfl⟩ dX6_count_79 ?_
  exact hret hM (by first | rfl | (simp only [iI, nI_0, nI_one]; grind)) dX6_count_80
set_option maxHeartbeats 400000 in
theorem met_count_ok5 (f : Nat → Int32) (a : Nat → Nat → Int32)  : MdF yX6_count cX6_count 2 (some .int) 0 0 [.int (nI 5)] f a (some (.int (a 1 5))) f a := by
  refine MdF.ofI (by decide) rfl (Nat.le_of_ble_eq_true rfl) ?_
  intro p l e R s m args below meth c Q D h dA ls hx hb hml hRf hRl hts hown hK hI hM hl hret
  have hl : lv_has ls 2 [(0, .ref (h 0)), (1, .int (nI 5))] := hl
  refine lv_iload_n hx hb dX6_count_0 rfl (lv_at hl 1 rfl) ?_
  refine lv_tableIn (off := 80) (tgt := 81) hx hb dX6_count_1 (by decide) (by decide) (by rfl) (by decide) ?_
  refine lv_aload_n hx hb dX6_count_81 rfl (lv_at hl 0 rfl) ?_
  refine md_get (v := .ref (h 1)) hx hb hts hown hK hM 0 (by decide) q1390 rfl rfl dX6_count_82 ?_
  refine lv_iconst (v := nI 5) hx hb dX6_count_85 (by decide) ?_
  refine md_iald hx hb hK hM 1 rfl 5 ⟨by omega, by decide, rfl⟩ dX6_count_86 ?_
  exact hret hM (by first | rfl | (simp only [iI, nI_0, nI_one]; grind)) dX6_count_87
set_option maxHeartbeats 400000 in
theorem met_count_ok6 (f : Nat → Int32) (a : Nat → Nat → Int32)  : MdF yX6_count cX6_count 2 (some .int) 0 0 [.int (nI 6)] f a (some (.int (f 24))) f a := by
  refine MdF.ofI (by decide) rfl (Nat.le_of_ble_eq_true rfl) ?_
  intro p l e R s m args below meth c Q D h dA ls hx hb hml hRf hRl hts hown hK hI hM hl hret
  have hl : lv_has ls 2 [(0, .ref (h 0)), (1, .int (nI 6))] := hl
  refine lv_iload_n hx hb dX6_count_0 rfl (lv_at hl 1 rfl) ?_
  refine lv_tableIn (off := 87) (tgt := 88) hx hb dX6_count_1 (by decide) (by decide) (by rfl) (by decide) ?_
  refine lv_aload_n hx hb dX6_count_88 rfl (lv_at hl 0 rfl) ?_
  refine md_get (v := .int (f 24)) hx hb hts hown hK hM 24 (by decide) q1414 rfl rfl dX6_count_89 ?_
  exact hret hM (by first | rfl | (simp only [iI, nI_0, nI_one]; grind)) dX6_count_92
set_option maxHeartbeats 400000 in
theorem met_count_ok7 (f : Nat → Int32) (a : Nat → Nat → Int32)  : MdF yX6_count cX6_count 2 (some .int) 0 0 [.int (nI 7)] f a (some (.int (a 1 2))) f a := by
  refine MdF.ofI (by decide) rfl (Nat.le_of_ble_eq_true rfl) ?_
  intro p l e R s m args below meth c Q D h dA ls hx hb hml hRf hRl hts hown hK hI hM hl hret
  have hl : lv_has ls 2 [(0, .ref (h 0)), (1, .int (nI 7))] := hl
  refine lv_iload_n hx hb dX6_count_0 rfl (lv_at hl 1 rfl) ?_
  refine lv_tableIn (off := 92) (tgt := 93) hx hb dX6_count_1 (by decide) (by decide) (by rfl) (by decide) ?_
  refine lv_aload_n hx hb dX6_count_93 rfl (lv_at hl 0 rfl) ?_
  refine md_get (v := .ref (h 1)) hx hb hts hown hK hM 0 (by decide) q1390 rfl rfl dX6_count_94 ?_
  refine lv_iconst (v := nI 2) hx hb dX6_count_97 (by decide) ?_
  refine md_iald hx hb hK hM 1 rfl 2 ⟨by omega, by decide, rfl⟩ dX6_count_98 ?_
  exact hret hM (by first | rfl | (simp only [iI, nI_0, nI_one]; grind)) dX6_count_99
set_option maxHeartbeats 400000 in
theorem met_count_e (f : Nat → Int32) (a : Nat → Nat → Int32) (k : Int32) (hk : ∀ j, j < 8 → ¬ k = nI j) : MdF yX6_count cX6_count 2 (some .int) 1 21 [.int k] f a (some (.int (-1000000001 : Int32))) f (mErr a 1) := by
  refine MdF.ofI (by decide) rfl (Nat.le_of_ble_eq_true rfl) ?_
  intro p l e R s m args below meth c Q D h dA ls hx hb hml hRf hRl hts hown hK hI hM hl hret
  have hl : lv_has ls 2 [(0, .ref (h 0)), (1, .int k)] := hl
  refine lv_iload_n hx hb dX6_count_0 rfl (lv_at hl 1 rfl) ?_
  by_cases c_1 : k = nI 0
  · exact absurd c_1 (hk 0 (by decide))
  · skip
    by_cases c_2 : k = nI 1
    · exact absurd c_2 (hk 1 (by decide))
    · skip
      by_cases c_3 : k = nI 2
      · exact absurd c_3 (hk 2 (by decide))
      · skip
        by_cases c_4 : k = nI 3
        · exact absurd c_4 (hk 3 (by decide))
        · skip
          by_cases c_5 : k = nI 4
          · exact absurd c_5 (hk 4 (by decide))
          · skip
            by_cases c_6 : k = nI 5
            · exact absurd c_6 (hk 5 (by decide))
            · skip
              by_cases c_7 : k = nI 6
              · exact absurd c_7 (hk 6 (by decide))
              · skip
                by_cases c_8 : k = nI 7
                · exact absurd c_8 (hk 7 (by decide))
                · skip
                  refine lv_tableOut (tgt := 100) hx hb dX6_count_1 (w_tout 0 8 (by decide) (fun k hk => by rcases (show k = 0 ∨ k = 1 ∨ k = 2 ∨ k = 3 ∨ k = 4 ∨ k = 5 ∨ k = 6 ∨ k = 7 by omega) with rfl | rfl | rfl | rfl | rfl | rfl | rfl | rfl <;> assumption)) (by decide) ?_
                  refine lv_aload_n hx hb dX6_count_100 rfl (lv_at hl 0 rfl) ?_
                  refine lv_ldc hx hb hown (hts _ q1485) dX6_count_101 ?_
                  refine md_callI (y := yX6_errs) hx hb hml hown hts hK hI hM (met_errs f a (-1000000001 : Int32) 1 (by decide) (by decide)) q1486 q1488 qs21 q1489 ndX6_errs rfl (by rw [hRf]; decide) (by rw [hRl]; decide) hl.1 rfl (Nat.le_of_ble_eq_true rfl) dX6_count_103 (fun H locs hM => ?_)
                  exact hret hM (by first | rfl | (simp only [iI, nI_0, nI_one]; grind)) dX6_count_106
theorem okR_2 {r : Nat → Int32} (h : okR r) (x : Int32) : okR (upd r 2 x) := by
  have ho : ∀ y, y ≠ 2 → upd r 2 x y = r y := fun y hy => pk_un hy
  obtain ⟨h1, h2, h3, h4, h5, h6, h7⟩ := h
  refine ⟨fun u hu => by rw [ho _ (by omega)]; exact h1 u hu, by rw [ho _ (by omega)]; exact h2, by rw [ho _ (by omega)]; exact h3, by rw [ho _ (by omega)]; exact h4, by rw [ho _ (by omega)]; exact h5, fun i hi => ?_, fun c hc => ⟨by rw [ho _ (by omega)]; exact (h7 c hc).1, by rw [ho _ (by omega)]; exact (h7 c hc).2⟩⟩
  obtain ⟨c0, c1, c2, c3, c4⟩ := h6 i hi
  exact ⟨by rw [ho _ (by omega)]; exact c0, by rw [ho _ (by omega)]; exact c1, by rw [ho _ (by omega)]; exact c2, by rw [ho _ (by omega)]; exact c3, fun j hj => by rw [ho _ (by omega)]; exact c4 j hj⟩
theorem okR_g {r : Nat → Int32} (h : okR r) {c : Nat} (hc : c < 25) {x : Int32} (hx : okN x 99) : okR (upd r (33 + c) x) := by
  have ho : ∀ y, (y < 33 ∨ 58 ≤ y) → upd r (33 + c) x y = r y := fun y hy => pk_un (by omega)
  obtain ⟨h1, h2, h3, h4, h5, h6, h7⟩ := h
  refine ⟨fun u hu => by rw [ho _ (by omega)]; exact h1 u hu, by rw [ho _ (by omega)]; exact h2, by rw [ho _ (by omega)]; exact h3, by rw [ho _ (by omega)]; exact h4, by rw [ho _ (by omega)]; exact h5, fun i hi => ?_, fun c' hc' => ⟨?_, by rw [ho _ (by omega)]; exact (h7 c' hc').2⟩⟩
  · obtain ⟨c0, c1, c2, c3, c4⟩ := h6 i hi
    exact ⟨by rw [ho _ (by omega)]; exact c0, by rw [ho _ (by omega)]; exact c1, by rw [ho _ (by omega)]; exact c2, by rw [ho _ (by omega)]; exact c3, fun j hj => by rw [ho _ (by omega)]; exact c4 j hj⟩
  · by_cases e : c' = c
    · subst e; rw [pk_us]; exact hx
    · rw [pk_un (by omega)]; exact (h7 c' hc').1
/-- a loose day: what is drawn -/
def lsD (dz : Int32 → Int32) (dwN : Int32 → Nat) (r : Nat → Int32) : Nat → Int32 := upd (upd (upd r 2 (dz (r 2))) 2 (dz (dz (r 2)))) (33 + dwN (dz (r 2)) % 25) (nI (dwN (dz (dz (r 2))) % 100))
def lsI (dz : Int32 → Int32) (dwN : Int32 → Nat) (r : Nat → Int32) : Nat → Nat → Int32
  | 0 => r
  | k + 1 => dayR (lsD dz dwN (lsI dz dwN r k))
theorem okR_lsD {dz : Int32 → Int32} {dwN : Int32 → Nat} {r : Nat → Int32} (h : okR r) : okR (lsD dz dwN r) := okR_g (okR_2 (okR_2 h _) _) (by omega) (okN_of (by omega) (by omega))
theorem okR_lsI {dz : Int32 → Int32} {dwN : Int32 → Nat} {r : Nat → Int32} (h : okR r) : ∀ k, okR (lsI dz dwN r k)
  | 0 => h
  | k + 1 => okR_day (okR_lsD (okR_lsI h k))
theorem upd_22 (r : Nat → Int32) (x : Int32) : upd r 2 x 2 = x := pk_us
theorem ndX6_loose : yX6_loose.cls = RX6 ∧ yX6_loose.cls ≠ "java/lang/invoke/MethodHandle" ∧ yX6_loose.cls ≠ "java/lang/invoke/VarHandle" ∧ (parseMethodDescriptor yX6_loose.desc).map (fun d => d.parameters.length) = some 1 := by decide +kernel
set_option maxHeartbeats 400000 in
theorem met_loose_ok (f : Nat → Int32) (a : Nat → Nat → Int32) (dz : Int32 → Int32) (dwN : Int32 → Nat) (hdr : ∀ (f : Nat → Int32) (a : Nat → Nat → Int32) (b : Nat), 0 < b → b < 2 ^ 31 → MdF yX6_drawn cX6_drawn 2 (some .int) 0 0 [.int (nI b)] f a (some (.int (nI (dwN (dz (a 1 2)) % b)))) f (va_up a 1 (upd (a 1) 2 (dz (a 1 2))))) (n : Nat) (h1 : 1 ≤ n) (h2 : n ≤ 40) (hd : a 1 0 + nI n ≤ nI 9999) (hR : okR (a 1)) : MdX yX6_loose cX6_loose 4 (some .int) 46 1162 [.int (nI n)] f a (some (.int (sumG (lsI dz dwN (a 1) n) 25))) (va_up a 1 (lsI dz dwN (a 1) n)) := by
  refine MdX.ofI (by decide) rfl (Nat.le_of_ble_eq_true rfl) ?_
  intro p l e R s m args below meth c Q D h dA ls hx hb hml hRf hRl hts hown hK hI hM hl hret
  have hl : lv_has ls 4 [(0, .ref (h 0)), (1, .int (nI n))] := hl
  refine lv_iload_n hx hb dX6_loose_0 rfl (lv_at hl 1 rfl) ?_
  refine lv_iconst (v := nI 1) hx hb dX6_loose_1 (by decide) ?_
  refine lv_bipush (v := nI 40) hx hb dX6_loose_2 (by decide) ?_
  refine st_callI (y := yX6_in) hx hb hml hown hts (met_in (nI n) (nI 1) (nI 40)) q1482 q1483 q70 q1484 ndX6_in rfl (by rw [hRf]; decide) (by rw [hRl]; decide) ⟨Nat.zero_le _, Nat.zero_le _⟩ hl.1 rfl (Nat.le_of_ble_eq_true rfl) dX6_loose_4 ?_
  refine w_if_neT (tgt := 17) hx hb dX6_loose_7 (by decide) (fun c_1 => ?_) (fun c_1 => ?_)
  · refine lv_aload_n hx hb dX6_loose_17 rfl (lv_at hl 0 rfl) ?_
    refine md_get (v := .ref (h 1)) hx hb hts hown hK hM 0 (by decide) q1390 rfl rfl dX6_loose_18 ?_
    refine lv_iconst (v := nI 0) hx hb dX6_loose_21 (by decide) ?_
    refine md_iald hx hb hK hM 1 rfl 0 ⟨by omega, by decide, rfl⟩ dX6_loose_22 ?_
    refine lv_iload_n hx hb dX6_loose_23 rfl (lv_at hl 1 rfl) ?_
    refine lv_iadd hx hb dX6_loose_24 ?_
    refine lv_sipush (v := nI 9999) hx hb dX6_loose_25 (by decide) ?_
    refine lv_icmp_le (tgt := 38) hx hb dX6_loose_28 (by decide) (fun c_2 => ?_) (fun c_2 => ?_)
    · refine lv_iconst (v := nI 0) hx hb dX6_loose_38 (by decide) ?_
      refine lv_istore_n (lv' := [(2, .int (nI 0)), (0, .ref (h 0)), (1, .int (nI n))]) hx hb dX6_loose_39 rfl hl (by decide) rfl (fun ls hl => ?_)
      have loop40 : ∀ (fu : Nat) (k : Nat), (k ≤ n) → (n < k + fu) → ∀ (f1 : Nat → Int32), fE f f1 → ∀ (H : Heap) (locs : List Loc), mdH D h dA s.heap H locs f1 (va_up a 1 (lsI dz dwN (a 1) k)) → ∀ (ls : Array Slot), lv_has ls 4 [(2, .int (nI k)), (0, .ref (h 0)), (1, .int (nI n))] → W p l e R s m args below meth c H locs 0 0 Q (F0 m 40 ls []) := by
        intro fu
        induction fu with
        | zero =>
          intro k hk hn
          omega
        | succ fu ih40 =>
          intro k hk hn f40 he40 H locs hM ls hl
          refine lv_iload_n hx hb dX6_loose_40 rfl (lv_at hl 0 rfl) ?_
          refine lv_iload_n hx hb dX6_loose_41 rfl (lv_at hl 2 rfl) ?_
          refine w_icmp_geN (tgt := 77) hx hb (by omega) (by omega) dX6_loose_42 (by decide) (fun c_3 => ?_) (fun c_3 => ?_)
          · have hM := hM.to (a' := va_up a 1 (lsI dz dwN (a 1) n)) rfl (by rw [show k = n by omega])
            refine lv_aload_n hx hb dX6_loose_77 rfl (lv_at hl 1 rfl) ?_
            refine md_callI (y := yX6_grassOfAll) hx hb hml hown hts hK hI hM (met_grassOfAll f40 (va_up a 1 (lsI dz dwN (a 1) n))) q1660 q1662 qs47 q1663 ndX6_grassOfAll rfl (by rw [hRf]; decide) (by rw [hRl]; decide) hl.1 rfl (Nat.le_of_ble_eq_true rfl) dX6_loose_78 (fun H locs hM => ?_)
            refine w_top (sumG (lsI dz dwN (a 1) n) 25) (by rw [va_us]) ?_
            exact hret he40 hM (by first | rfl | (simp only [iI, nI_0, nI_one]; grind)) dX6_loose_81
          · refine lv_aload_n hx hb dX6_loose_45 rfl (lv_at hl 1 rfl) ?_
            refine lv_bipush (v := nI 25) hx hb dX6_loose_46 (by decide) ?_
            refine md_callI (y := yX6_drawn) hx hb hml hown hts hK hI hM (hdr f40 (va_up a 1 (lsI dz dwN (a 1) k)) 25 (by omega) (by omega)) q1668 q1670 qs48 q1671 ndX6_drawn rfl (by rw [hRf]; decide) (by rw [hRl]; decide) hl.1 rfl (Nat.le_of_ble_eq_true rfl) dX6_loose_48 (fun H locs hM => ?_)
            refine w_top (nI (dwN (dz (lsI dz dwN (a 1) k 2)) % 25)) (by rw [va_us]) ?_
            have hM := hM.to (a' := va_up a 1 (upd (lsI dz dwN (a 1) k) 2 (dz (lsI dz dwN (a 1) k 2)))) rfl (by rw [va_uu, va_us])
            refine lv_istore_n (lv' := [(3, .int (nI (dwN (dz (lsI dz dwN (a 1) k 2)) % 25))), (2, .int (nI k)), (0, .ref (h 0)), (1, .int (nI n))]) hx hb dX6_loose_51 rfl hl (by decide) rfl (fun ls hl => ?_)
            refine lv_aload_n hx hb dX6_loose_52 rfl (lv_at hl 2 rfl) ?_
            refine md_get (v := .ref (h 1)) hx hb hts hown hK hM 0 (by decide) q1390 rfl rfl dX6_loose_53 ?_
            refine lv_bipush (v := nI 33) hx hb dX6_loose_56 (by decide) ?_
            refine lv_iload_n hx hb dX6_loose_58 rfl (lv_at hl 0 rfl) ?_
            refine w_iaddN hx hb dX6_loose_59 ?_
            refine lv_aload_n hx hb dX6_loose_60 rfl (lv_at hl 2 rfl) ?_
            refine lv_bipush (v := nI 100) hx hb dX6_loose_61 (by decide) ?_
            refine md_callI (y := yX6_drawn) hx hb hml hown hts hK hI hM (hdr f40 (va_up a 1 (upd (lsI dz dwN (a 1) k) 2 (dz (lsI dz dwN (a 1) k 2)))) 100 (by omega) (by omega)) q1668 q1670 qs48 q1671 ndX6_drawn rfl (by rw [hRf]; decide) (by rw [hRl]; decide) hl.1 rfl (Nat.le_of_ble_eq_true rfl) dX6_loose_63 (fun H locs hM => ?_)
            refine w_top (nI (dwN (dz (dz (lsI dz dwN (a 1) k 2))) % 100)) (by rw [va_us, upd_22]) ?_
            have hM := hM.to (a' := va_up a 1 (upd (upd (lsI dz dwN (a 1) k) 2 (dz (lsI dz dwN (a 1) k 2))) 2 (dz (dz (lsI dz dwN (a 1) k 2))))) rfl (by rw [va_uu, va_us, upd_22])
            refine md_iast hx hb hK hI hM 1 rfl (33 + (dwN (dz (lsI dz dwN (a 1) k 2)) % 25)) ⟨by omega, by decide, rfl⟩ rfl dX6_loose_66 (fun H locs hM => ?_)
            have hM := hM.to (a' := va_up a 1 (upd (upd (upd (lsI dz dwN (a 1) k) 2 (dz (lsI dz dwN (a 1) k 2))) 2 (dz (dz (lsI dz dwN (a 1) k 2)))) (33 + (dwN (dz (lsI dz dwN (a 1) k 2)) % 25)) (nI (dwN (dz (dz (lsI dz dwN (a 1) k 2))) % 100)))) rfl (va_uu a 1 _ _)
            have hM := hM.to (a' := va_up a 1 (lsD dz dwN (lsI dz dwN (a 1) k))) rfl (by rw [lsD])
            refine lv_aload_n hx hb dX6_loose_67 rfl (lv_at hl 2 rfl) ?_
            refine md_callXV (y := yX6_oneDay) hx hb hml hown hts hK hI hM (met_oneDay f40 (va_up a 1 (lsD dz dwN (lsI dz dwN (a 1) k))) (by rw [va_us]; exact okR_lsD (okR_lsI hR k))) q1652 q1654 qs45 q1655 ndX6_oneDay rfl (by rw [hRf]; decide) (by rw [hRl]; decide) hl.1 rfl (Nat.le_of_ble_eq_true rfl) dX6_loose_68 (fun H locs f_4 hf_4 hM => ?_)
            have ef_4 : fE f f_4 := he40.tr hf_4
            have hM := hM.to (a' := va_up a 1 (lsI dz dwN (a 1) (k + 1))) rfl (by rw [va_uu, va_us, lsI])
            refine lv_iinc (v := nI (k + 1)) (lv' := [(2, .int (nI (k + 1))), (3, .int (nI (dwN (dz (lsI dz dwN (a 1) k 2)) % 25))), (0, .ref (h 0)), (1, .int (nI n))]) hx hb dX6_loose_71 hl (k := 1) rfl (by rw [show Int32.ofInt 1 = nI 1 from by decide]; exact nI_add _ _) (by decide) rfl (fun ls hl => ?_)
            refine lv_goto (tgt := 40) hx hb dX6_loose_74 (by decide) ?_
            exact ih40 (k + 1) (by omega) (by omega) _ ef_4 _ _ hM ls (lv_sub hl [0, 2, 3] rfl)
      exact loop40 (n + 1) 0 (by omega) (by omega) _ fE.rf _ _ (hM.to rfl (va_self a 1)) ls (lv_sub hl [0, 1, 2] rfl)
    · exact absurd hd c_2
  · exact absurd (by first | exact (in_nat (by decide)).mpr ⟨_, by omega, rfl⟩ | exact (in_nat1 _ (by decide) (by decide)).mpr ⟨_, by omega, by omega, rfl⟩ | exact cow_in hN (by omega) | assumption) c_1
set_option maxHeartbeats 400000 in
theorem met_loose_s (f : Nat → Int32) (a : Nat → Nat → Int32) (n : Nat) (h1 : 1 ≤ n) (h2 : n ≤ 40) (hd : ¬ a 1 0 + nI n ≤ nI 9999) : MdF yX6_loose cX6_loose 4 (some .int) 1 22 [.int (nI n)] f a (some (.int (-1000000003 : Int32))) f (mErr a 3) := by
  refine MdF.ofI (by decide) rfl (Nat.le_of_ble_eq_true rfl) ?_
  intro p l e R s m args below meth c Q D h dA ls hx hb hml hRf hRl hts hown hK hI hM hl hret
  have hl : lv_has ls 4 [(0, .ref (h 0)), (1, .int (nI n))] := hl
  refine lv_iload_n hx hb dX6_loose_0 rfl (lv_at hl 1 rfl) ?_
  refine lv_iconst (v := nI 1) hx hb dX6_loose_1 (by decide) ?_
  refine lv_bipush (v := nI 40) hx hb dX6_loose_2 (by decide) ?_
  refine st_callI (y := yX6_in) hx hb hml hown hts (met_in (nI n) (nI 1) (nI 40)) q1482 q1483 q70 q1484 ndX6_in rfl (by rw [hRf]; decide) (by rw [hRl]; decide) ⟨Nat.zero_le _, Nat.zero_le _⟩ hl.1 rfl (Nat.le_of_ble_eq_true rfl) dX6_loose_4 ?_
  refine w_if_neT (tgt := 17) hx hb dX6_loose_7 (by decide) (fun c_1 => ?_) (fun c_1 => ?_)
  · refine lv_aload_n hx hb dX6_loose_17 rfl (lv_at hl 0 rfl) ?_
    refine md_get (v := .ref (h 1)) hx hb hts hown hK hM 0 (by decide) q1390 rfl rfl dX6_loose_18 ?_
    refine lv_iconst (v := nI 0) hx hb dX6_loose_21 (by decide) ?_
    refine md_iald hx hb hK hM 1 rfl 0 ⟨by omega, by decide, rfl⟩ dX6_loose_22 ?_
    refine lv_iload_n hx hb dX6_loose_23 rfl (lv_at hl 1 rfl) ?_
    refine lv_iadd hx hb dX6_loose_24 ?_
    refine lv_sipush (v := nI 9999) hx hb dX6_loose_25 (by decide) ?_
    refine lv_icmp_le (tgt := 38) hx hb dX6_loose_28 (by decide) (fun c_2 => ?_) (fun c_2 => ?_)
    · exact absurd c_2 hd
    · refine lv_aload_n hx hb dX6_loose_31 rfl (lv_at hl 0 rfl) ?_
      refine lv_ldc hx hb hown (hts _ q1647) dX6_loose_32 ?_
      refine md_callI (y := yX6_errs) hx hb hml hown hts hK hI hM (met_errs f a (-1000000003 : Int32) 3 (by decide) (by decide)) q1486 q1488 qs21 q1489 ndX6_errs rfl (by rw [hRf]; decide) (by rw [hRl]; decide) hl.1 rfl (Nat.le_of_ble_eq_true rfl) dX6_loose_34 (fun H locs hM => ?_)
      exact hret hM (by first | rfl | (simp only [iI, nI_0, nI_one]; grind)) dX6_loose_37
  · exact absurd (by first | exact (in_nat (by decide)).mpr ⟨_, by omega, rfl⟩ | exact (in_nat1 _ (by decide) (by decide)).mpr ⟨_, by omega, by omega, rfl⟩ | exact cow_in hN (by omega) | assumption) c_1
set_option maxHeartbeats 400000 in
theorem met_loose_e (f : Nat → Int32) (a : Nat → Nat → Int32) (n : Int32) (he : ¬ (nI 1 ≤ n ∧ n ≤ nI 40)) : MdF yX6_loose cX6_loose 4 (some .int) 1 22 [.int n] f a (some (.int (-1000000001 : Int32))) f (mErr a 1) := by
  refine MdF.ofI (by decide) rfl (Nat.le_of_ble_eq_true rfl) ?_
  intro p l e R s m args below meth c Q D h dA ls hx hb hml hRf hRl hts hown hK hI hM hl hret
  have hl : lv_has ls 4 [(0, .ref (h 0)), (1, .int n)] := hl
  refine lv_iload_n hx hb dX6_loose_0 rfl (lv_at hl 1 rfl) ?_
  refine lv_iconst (v := nI 1) hx hb dX6_loose_1 (by decide) ?_
  refine lv_bipush (v := nI 40) hx hb dX6_loose_2 (by decide) ?_
  refine st_callI (y := yX6_in) hx hb hml hown hts (met_in n (nI 1) (nI 40)) q1482 q1483 q70 q1484 ndX6_in rfl (by rw [hRf]; decide) (by rw [hRl]; decide) ⟨Nat.zero_le _, Nat.zero_le _⟩ hl.1 rfl (Nat.le_of_ble_eq_true rfl) dX6_loose_4 ?_
  refine w_if_neT (tgt := 17) hx hb dX6_loose_7 (by decide) (fun c_1 => ?_) (fun c_1 => ?_)
  · exact absurd c_1 he
  · refine lv_aload_n hx hb dX6_loose_10 rfl (lv_at hl 0 rfl) ?_
    refine lv_ldc hx hb hown (hts _ q1485) dX6_loose_11 ?_
    refine md_callI (y := yX6_errs) hx hb hml hown hts hK hI hM (met_errs f a (-1000000001 : Int32) 1 (by decide) (by decide)) q1486 q1488 qs21 q1489 ndX6_errs rfl (by rw [hRf]; decide) (by rw [hRl]; decide) hl.1 rfl (Nat.le_of_ble_eq_true rfl) dX6_loose_13 (fun H locs hM => ?_)
    exact hret hM (by first | rfl | (simp only [iI, nI_0, nI_one]; grind)) dX6_loose_16
theorem ndX6_ofCell : yX6_ofCell.cls = RX6 ∧ yX6_ofCell.cls ≠ "java/lang/invoke/MethodHandle" ∧ yX6_ofCell.cls ≠ "java/lang/invoke/VarHandle" ∧ (parseMethodDescriptor yX6_ofCell.desc).map (fun d => d.parameters.length) = some 2 := by decide +kernel
set_option maxHeartbeats 400000 in
theorem met_ofCell_ok0 (f : Nat → Int32) (a : Nat → Nat → Int32) (c0 : Nat) (hc : c0 < 25) : MdF yX6_ofCell cX6_ofCell 5 (some .int) 2 42 [.int (nI c0), .int (nI 0)] f a (some (.int (a 1 (8 + c0)))) f a := by
  refine MdF.ofI (by decide) rfl (Nat.le_of_ble_eq_true rfl) ?_
  intro p l e R s m args below meth c Q D h dA ls hx hb hml hRf hRl hts hown hK hI hM hl hret
  have hl : lv_has ls 5 [(0, .ref (h 0)), (1, .int (nI c0)), (2, .int (nI 0))] := hl
  refine lv_iload_n hx hb dX6_ofCell_0 rfl (lv_at hl 1 rfl) ?_
  refine st_callI (y := yX6_isCell) hx hb hml hown hts (met_isCell (nI c0)) q1479 q1480 q70 q1481 ndX6_isCell rfl (by rw [hRf]; decide) (by rw [hRl]; decide) ⟨Nat.zero_le _, Nat.zero_le _⟩ hl.1 rfl (Nat.le_of_ble_eq_true rfl) dX6_ofCell_1 ?_
  refine w_if_eqT (tgt := 16) hx hb dX6_ofCell_4 (by decide) (fun c_1 => ?_) (fun c_1 => ?_)
  · exact absurd (by first | exact (in_nat (by decide)).mpr ⟨_, by omega, rfl⟩ | exact (in_nat1 _ (by decide) (by decide)).mpr ⟨_, by omega, by omega, rfl⟩ | exact cow_in hN (by omega) | assumption) c_1
  · refine lv_iload_n hx hb dX6_ofCell_7 rfl (lv_at hl 2 rfl) ?_
    refine lv_iconst (v := nI 0) hx hb dX6_ofCell_8 (by decide) ?_
    refine lv_iconst (v := nI 3) hx hb dX6_ofCell_9 (by decide) ?_
    refine st_callI (y := yX6_in) hx hb hml hown hts (met_in (nI 0) (nI 0) (nI 3)) q1482 q1483 q70 q1484 ndX6_in rfl (by rw [hRf]; decide) (by rw [hRl]; decide) ⟨Nat.zero_le _, Nat.zero_le _⟩ hl.1 rfl (Nat.le_of_ble_eq_true rfl) dX6_ofCell_10 ?_
    refine w_if_neT (tgt := 23) hx hb dX6_ofCell_13 (by decide) (fun c_2 => ?_) (fun c_2 => ?_)
    · refine lv_iload_n hx hb dX6_ofCell_23 rfl (lv_at hl 2 rfl) ?_
      refine lv_iconst (v := nI 2) hx hb dX6_ofCell_24 (by decide) ?_
      refine lv_icmp_ge (tgt := 47) hx hb dX6_ofCell_25 (by decide) (fun q => absurd q (by decide)) (fun _ => ?_)
      refine lv_aload_n hx hb dX6_ofCell_28 rfl (lv_at hl 0 rfl) ?_
      refine md_get (v := .ref (h 1)) hx hb hts hown hK hM 0 (by decide) q1390 rfl rfl dX6_ofCell_29 ?_
      refine lv_iload_n hx hb dX6_ofCell_32 rfl (lv_at hl 2 rfl) ?_
      refine lv_if_ne (tgt := 41) hx hb dX6_ofCell_33 (by decide) (fun q => absurd q (by decide)) (fun _ => ?_)
      refine lv_bipush (v := nI 8) hx hb dX6_ofCell_36 (by decide) ?_
      refine lv_goto (tgt := 43) hx hb dX6_ofCell_38 (by decide) ?_
      refine lv_iload_n hx hb dX6_ofCell_43 rfl (lv_at hl 1 rfl) ?_
      refine w_iaddN hx hb dX6_ofCell_44 ?_
      refine md_iald hx hb hK hM 1 rfl (8 + c0) ⟨by omega, by decide, rfl⟩ dX6_ofCell_45 ?_
      exact hret hM (by first | rfl | (simp only [iI, nI_0, nI_one]; grind)) dX6_ofCell_46
    · exact absurd (by first | exact (in_nat (by decide)).mpr ⟨_, by omega, rfl⟩ | exact (in_nat1 _ (by decide) (by decide)).mpr ⟨_, by omega, by omega, rfl⟩ | exact cow_in hN (by omega) | assumption) c_2
set_option maxHeartbeats 400000 in
theorem met_ofCell_ok1 (f : Nat → Int32) (a : Nat → Nat → Int32) (c0 : Nat) (hc : c0 < 25) : MdF yX6_ofCell cX6_ofCell 5 (some .int) 2 42 [.int (nI c0), .int (nI 1)] f a (some (.int (a 1 (33 + c0)))) f a := by
  refine MdF.ofI (by decide) rfl (Nat.le_of_ble_eq_true rfl) ?_
  intro p l e R s m args below meth c Q D h dA ls hx hb hml hRf hRl hts hown hK hI hM hl hret
  have hl : lv_has ls 5 [(0, .ref (h 0)), (1, .int (nI c0)), (2, .int (nI 1))] := hl
  refine lv_iload_n hx hb dX6_ofCell_0 rfl (lv_at hl 1 rfl) ?_
  refine st_callI (y := yX6_isCell) hx hb hml hown hts (met_isCell (nI c0)) q1479 q1480 q70 q1481 ndX6_isCell rfl (by rw [hRf]; decide) (by rw [hRl]; decide) ⟨Nat.zero_le _, Nat.zero_le _⟩ hl.1 rfl (Nat.le_of_ble_eq_true rfl) dX6_ofCell_1 ?_
  refine w_if_eqT (tgt := 16) hx hb dX6_ofCell_4 (by decide) (fun c_1 => ?_) (fun c_1 => ?_)
  · exact absurd (by first | exact (in_nat (by decide)).mpr ⟨_, by omega, rfl⟩ | exact (in_nat1 _ (by decide) (by decide)).mpr ⟨_, by omega, by omega, rfl⟩ | exact cow_in hN (by omega) | assumption) c_1
  · refine lv_iload_n hx hb dX6_ofCell_7 rfl (lv_at hl 2 rfl) ?_
    refine lv_iconst (v := nI 0) hx hb dX6_ofCell_8 (by decide) ?_
    refine lv_iconst (v := nI 3) hx hb dX6_ofCell_9 (by decide) ?_
    refine st_callI (y := yX6_in) hx hb hml hown hts (met_in (nI 1) (nI 0) (nI 3)) q1482 q1483 q70 q1484 ndX6_in rfl (by rw [hRf]; decide) (by rw [hRl]; decide) ⟨Nat.zero_le _, Nat.zero_le _⟩ hl.1 rfl (Nat.le_of_ble_eq_true rfl) dX6_ofCell_10 ?_
    refine w_if_neT (tgt := 23) hx hb dX6_ofCell_13 (by decide) (fun c_2 => ?_) (fun c_2 => ?_)
    · refine lv_iload_n hx hb dX6_ofCell_23 rfl (lv_at hl 2 rfl) ?_
      refine lv_iconst (v := nI 2) hx hb dX6_ofCell_24 (by decide) ?_
      refine lv_icmp_ge (tgt := 47) hx hb dX6_ofCell_25 (by decide) (fun q => absurd q (by decide)) (fun _ => ?_)
      refine lv_aload_n hx hb dX6_ofCell_28 rfl (lv_at hl 0 rfl) ?_
      refine md_get (v := .ref (h 1)) hx hb hts hown hK hM 0 (by decide) q1390 rfl rfl dX6_ofCell_29 ?_
      refine lv_iload_n hx hb dX6_ofCell_32 rfl (lv_at hl 2 rfl) ?_
      refine lv_if_ne (tgt := 41) hx hb dX6_ofCell_33 (by decide) (fun _ => ?_) (fun q => absurd q (by decide))
      refine lv_bipush (v := nI 33) hx hb dX6_ofCell_41 (by decide) ?_
      refine lv_iload_n hx hb dX6_ofCell_43 rfl (lv_at hl 1 rfl) ?_
      refine w_iaddN hx hb dX6_ofCell_44 ?_
      refine md_iald hx hb hK hM 1 rfl (33 + c0) ⟨by omega, by decide, rfl⟩ dX6_ofCell_45 ?_
      exact hret hM (by first | rfl | (simp only [iI, nI_0, nI_one]; grind)) dX6_ofCell_46
    · exact absurd (by first | exact (in_nat (by decide)).mpr ⟨_, by omega, rfl⟩ | exact (in_nat1 _ (by decide) (by decide)).mpr ⟨_, by omega, by omega, rfl⟩ | exact cow_in hN (by omega) | assumption) c_2
set_option maxHeartbeats 400000 in
theorem met_ofCell_ok3 (f : Nat → Int32) (a : Nat → Nat → Int32) (c0 : Nat) (hc : c0 < 25) (hT : okT (a 1)) : MdX yX6_ofCell cX6_ofCell 5 (some .int) 42 1064 [.int (nI c0), .int (nI 3)] f a (some (.int (drwV a c0))) a := by
  refine MdX.ofI (by decide) rfl (Nat.le_of_ble_eq_true rfl) ?_
  intro p l e R s m args below meth c Q D h dA ls hx hb hml hRf hRl hts hown hK hI hM hl hret
  have hl : lv_has ls 5 [(0, .ref (h 0)), (1, .int (nI c0)), (2, .int (nI 3))] := hl
  refine lv_iload_n hx hb dX6_ofCell_0 rfl (lv_at hl 1 rfl) ?_
  refine st_callI (y := yX6_isCell) hx hb hml hown hts (met_isCell (nI c0)) q1479 q1480 q70 q1481 ndX6_isCell rfl (by rw [hRf]; decide) (by rw [hRl]; decide) ⟨Nat.zero_le _, Nat.zero_le _⟩ hl.1 rfl (Nat.le_of_ble_eq_true rfl) dX6_ofCell_1 ?_
  refine w_if_eqT (tgt := 16) hx hb dX6_ofCell_4 (by decide) (fun c_1 => ?_) (fun c_1 => ?_)
  · exact absurd (by first | exact (in_nat (by decide)).mpr ⟨_, by omega, rfl⟩ | exact (in_nat1 _ (by decide) (by decide)).mpr ⟨_, by omega, by omega, rfl⟩ | exact cow_in hN (by omega) | assumption) c_1
  · refine lv_iload_n hx hb dX6_ofCell_7 rfl (lv_at hl 2 rfl) ?_
    refine lv_iconst (v := nI 0) hx hb dX6_ofCell_8 (by decide) ?_
    refine lv_iconst (v := nI 3) hx hb dX6_ofCell_9 (by decide) ?_
    refine st_callI (y := yX6_in) hx hb hml hown hts (met_in (nI 3) (nI 0) (nI 3)) q1482 q1483 q70 q1484 ndX6_in rfl (by rw [hRf]; decide) (by rw [hRl]; decide) ⟨Nat.zero_le _, Nat.zero_le _⟩ hl.1 rfl (Nat.le_of_ble_eq_true rfl) dX6_ofCell_10 ?_
    refine w_if_neT (tgt := 23) hx hb dX6_ofCell_13 (by decide) (fun c_2 => ?_) (fun c_2 => ?_)
    · refine lv_iload_n hx hb dX6_ofCell_23 rfl (lv_at hl 2 rfl) ?_
      refine lv_iconst (v := nI 2) hx hb dX6_ofCell_24 (by decide) ?_
      refine lv_icmp_ge (tgt := 47) hx hb dX6_ofCell_25 (by decide) (fun _ => ?_) (fun q => absurd q (by decide))
      refine lv_iload_n hx hb dX6_ofCell_47 rfl (lv_at hl 2 rfl) ?_
      refine lv_iconst (v := nI 3) hx hb dX6_ofCell_48 (by decide) ?_
      refine lv_icmp_ne (tgt := 58) hx hb dX6_ofCell_49 (by decide) (fun q => absurd q (by decide)) (fun _ => ?_)
      refine lv_aload_n hx hb dX6_ofCell_52 rfl (lv_at hl 0 rfl) ?_
      refine lv_iload_n hx hb dX6_ofCell_53 rfl (lv_at hl 1 rfl) ?_
      refine md_callXI (y := yX6_drawnBy) hx hb hml hown hts hK hI hM (met_drawnBy f a c0 (by omega) (hT)) q1499 q1501 qs22 q1502 ndX6_drawnBy rfl (by rw [hRf]; decide) (by rw [hRl]; decide) hl.1 rfl (Nat.le_of_ble_eq_true rfl) dX6_ofCell_54 (fun H locs f_5 hf_5 hM => ?_)
      have ef_5 : fE f f_5 := fE.rf.tr hf_5
      exact hret ef_5 hM (by first | rfl | (simp only [iI, nI_0, nI_one]; grind)) dX6_ofCell_57
    · exact absurd (by first | exact (in_nat (by decide)).mpr ⟨_, by omega, rfl⟩ | exact (in_nat1 _ (by decide) (by decide)).mpr ⟨_, by omega, by omega, rfl⟩ | exact cow_in hN (by omega) | assumption) c_2
/-- how many of the first k cows are at c -/
def atS (r : Nat → Int32) (c : Nat) : Nat → Int32
  | 0 => nI 0
  | k + 1 => atS r c k + (if r (58 + 14 * k + 2) = nI c then nI 1 else nI 0)
set_option maxHeartbeats 400000 in
theorem met_ofCell_ok2 (f : Nat → Int32) (a : Nat → Nat → Int32) (c0 : Nat) (hc : c0 < 25) (hN : okN (a 1 3) 5) : MdF yX6_ofCell cX6_ofCell 5 (some .int) 2 42 [.int (nI c0), .int (nI 2)] f a (some (.int (atS (a 1) c0 (cl (a 1 3))))) f a := by
  refine MdF.ofI (by decide) rfl (Nat.le_of_ble_eq_true rfl) ?_
  intro p l e R s m args below meth c Q D h dA ls hx hb hml hRf hRl hts hown hK hI hM hl hret
  have hl : lv_has ls 5 [(0, .ref (h 0)), (1, .int (nI c0)), (2, .int (nI 2))] := hl
  have hN2 := hN.2
  refine lv_iload_n hx hb dX6_ofCell_0 rfl (lv_at hl 1 rfl) ?_
  refine st_callI (y := yX6_isCell) hx hb hml hown hts (met_isCell (nI c0)) q1479 q1480 q70 q1481 ndX6_isCell rfl (by rw [hRf]; decide) (by rw [hRl]; decide) ⟨Nat.zero_le _, Nat.zero_le _⟩ hl.1 rfl (Nat.le_of_ble_eq_true rfl) dX6_ofCell_1 ?_
  refine w_if_eqT (tgt := 16) hx hb dX6_ofCell_4 (by decide) (fun c_1 => ?_) (fun c_1 => ?_)
  · exact absurd (by first | exact (in_nat (by decide)).mpr ⟨_, by omega, rfl⟩ | exact (in_nat1 _ (by decide) (by decide)).mpr ⟨_, by omega, by omega, rfl⟩ | exact cow_in hN (by omega) | assumption) c_1
  · refine lv_iload_n hx hb dX6_ofCell_7 rfl (lv_at hl 2 rfl) ?_
    refine lv_iconst (v := nI 0) hx hb dX6_ofCell_8 (by decide) ?_
    refine lv_iconst (v := nI 3) hx hb dX6_ofCell_9 (by decide) ?_
    refine st_callI (y := yX6_in) hx hb hml hown hts (met_in (nI 2) (nI 0) (nI 3)) q1482 q1483 q70 q1484 ndX6_in rfl (by rw [hRf]; decide) (by rw [hRl]; decide) ⟨Nat.zero_le _, Nat.zero_le _⟩ hl.1 rfl (Nat.le_of_ble_eq_true rfl) dX6_ofCell_10 ?_
    refine w_if_neT (tgt := 23) hx hb dX6_ofCell_13 (by decide) (fun c_2 => ?_) (fun c_2 => ?_)
    · refine lv_iload_n hx hb dX6_ofCell_23 rfl (lv_at hl 2 rfl) ?_
      refine lv_iconst (v := nI 2) hx hb dX6_ofCell_24 (by decide) ?_
      refine lv_icmp_ge (tgt := 47) hx hb dX6_ofCell_25 (by decide) (fun _ => ?_) (fun q => absurd q (by decide))
      refine lv_iload_n hx hb dX6_ofCell_47 rfl (lv_at hl 2 rfl) ?_
      refine lv_iconst (v := nI 3) hx hb dX6_ofCell_48 (by decide) ?_
      refine lv_icmp_ne (tgt := 58) hx hb dX6_ofCell_49 (by decide) (fun _ => ?_) (fun q => absurd q (by decide))
      refine lv_iconst (v := nI 0) hx hb dX6_ofCell_58 (by decide) ?_
      refine lv_istore_n (lv' := [(3, .int (nI 0)), (0, .ref (h 0)), (1, .int (nI c0)), (2, .int (nI 2))]) hx hb dX6_ofCell_59 rfl hl (by decide) rfl (fun ls hl => ?_)
      refine lv_iconst (v := nI 0) hx hb dX6_ofCell_60 (by decide) ?_
      refine lv_istore (lv' := [(4, .int (nI 0)), (3, .int (nI 0)), (0, .ref (h 0)), (1, .int (nI c0)), (2, .int (nI 2))]) hx hb dX6_ofCell_61 hl (by decide) rfl (fun ls hl => ?_)
      have loop63 : ∀ (fu : Nat) (k : Nat), (k ≤ cl (a 1 3)) → (cl (a 1 3) < k + fu) → ∀ (H : Heap) (locs : List Loc), mdH D h dA s.heap H locs f a → ∀ (ls : Array Slot), lv_has ls 5 [(4, .int (nI k)), (3, .int (atS (a 1) c0 k)), (0, .ref (h 0)), (1, .int (nI c0)), (2, .int (nI 2))] → W p l e R s m args below meth c H locs 0 0 Q (F0 m 63 ls []) := by
        intro fu
        induction fu with
        | zero =>
          intro k hk hn
          omega
        | succ fu ih63 =>
          intro k hk hn H locs hM ls hl
          refine lv_iload hx hb dX6_ofCell_63 (lv_at hl 0 rfl) ?_
          refine lv_aload_n hx hb dX6_ofCell_65 rfl (lv_at hl 2 rfl) ?_
          refine md_get (v := .ref (h 1)) hx hb hts hown hK hM 0 (by decide) q1390 rfl rfl dX6_ofCell_66 ?_
          refine lv_iconst (v := nI 3) hx hb dX6_ofCell_69 (by decide) ?_
          refine md_iald hx hb hK hM 1 rfl 3 ⟨by omega, by decide, rfl⟩ dX6_ofCell_70 ?_
          refine w_top (nI (cl (a 1 3))) (hN.1) ?_
          refine w_icmp_geN (tgt := 99) hx hb (by omega) (by omega) dX6_ofCell_71 (by decide) (fun c_5 => ?_) (fun c_5 => ?_)
          · refine lv_iload_n hx hb dX6_ofCell_99 rfl (lv_at hl 1 rfl) ?_
            exact hret hM (by rw [show k = cl (a 1 3) by omega]) dX6_ofCell_100
          · refine lv_iload_n hx hb dX6_ofCell_74 rfl (lv_at hl 1 rfl) ?_
            refine lv_aload_n hx hb dX6_ofCell_75 rfl (lv_at hl 2 rfl) ?_
            refine lv_iload hx hb dX6_ofCell_76 (lv_at hl 0 rfl) ?_
            refine lv_iconst (v := nI 2) hx hb dX6_ofCell_78 (by decide) ?_
            refine md_callI (y := yX6_its) hx hb hml hown hts hK hI hM (met_its f a k 2 (by omega)) q1557 q1559 qs35 q1560 ndX6_its rfl (by rw [hRf]; decide) (by rw [hRl]; decide) hl.1 rfl (Nat.le_of_ble_eq_true rfl) dX6_ofCell_79 (fun H locs hM => ?_)
            refine lv_iload_n hx hb dX6_ofCell_82 rfl (lv_at hl 3 rfl) ?_
            have j91 : ∀ (H : Heap) (locs : List Loc), mdH D h dA s.heap H locs f a → ∀ (ls : Array Slot), lv_has ls 5 [(4, .int (nI k)), (3, .int (atS (a 1) c0 k)), (0, .ref (h 0)), (1, .int (nI c0)), (2, .int (nI 2))] → W p l e R s m args below meth c H locs 0 0 Q (F0 m 91 ls [.int (if a 1 (58 + 14 * k + 2) = nI c0 then nI 1 else nI 0), .int (atS (a 1) c0 k)]) := by
              intro   H locs hM ls hl
              refine lv_iadd hx hb dX6_ofCell_91 ?_
              refine lv_istore_n (lv' := [(3, .int ((atS (a 1) c0 k) + (if a 1 (58 + 14 * k + 2) = nI c0 then nI 1 else nI 0))), (4, .int (nI k)), (0, .ref (h 0)), (1, .int (nI c0)), (2, .int (nI 2))]) hx hb dX6_ofCell_92 rfl hl (by decide) rfl (fun ls hl => ?_)
              refine lv_iinc (v := nI (k + 1)) (lv' := [(4, .int (nI (k + 1))), (3, .int ((atS (a 1) c0 k) + (if a 1 (58 + 14 * k + 2) = nI c0 then nI 1 else nI 0))), (0, .ref (h 0)), (1, .int (nI c0)), (2, .int (nI 2))]) hx hb dX6_ofCell_93 hl (k := 1) rfl (by rw [show Int32.ofInt 1 = nI 1 from by decide]; exact nI_add _ _) (by decide) rfl (fun ls hl => ?_)
              refine lv_goto (tgt := 63) hx hb dX6_ofCell_96 (by decide) ?_
              exact ih63 (k + 1) (by omega) (by omega) _ _ hM ls (lv_sub hl [0, 1, 2, 3, 4] rfl)
            refine lv_icmp_ne (tgt := 90) hx hb dX6_ofCell_83 (by decide) (fun c_6 => ?_) (fun c_6 => ?_)
            · refine lv_iconst (v := nI 0) hx hb dX6_ofCell_90 (by decide) ?_
              refine w_top (if a 1 (58 + 14 * k + 2) = nI c0 then nI 1 else nI 0) ((if_neg c_6).symm) ?_
              exact j91   _ _ hM ls (lv_sub hl [0, 1, 2, 3, 4] rfl)
            · refine lv_iconst (v := nI 1) hx hb dX6_ofCell_86 (by decide) ?_
              refine lv_goto (tgt := 91) hx hb dX6_ofCell_87 (by decide) ?_
              refine w_top (if a 1 (58 + 14 * k + 2) = nI c0 then nI 1 else nI 0) ((if_pos c_6).symm) ?_
              exact j91   _ _ hM ls (lv_sub hl [0, 1, 2, 3, 4] rfl)
      exact loop63 (cl (a 1 3) + 1) 0 (by omega) (by omega) _ _ hM ls (lv_sub hl [0, 1, 2, 3, 4] rfl)
    · exact absurd (by first | exact (in_nat (by decide)).mpr ⟨_, by omega, rfl⟩ | exact (in_nat1 _ (by decide) (by decide)).mpr ⟨_, by omega, by omega, rfl⟩ | exact cow_in hN (by omega) | assumption) c_2
set_option maxHeartbeats 400000 in
theorem met_ofCell_e (f : Nat → Int32) (a : Nat → Nat → Int32) (c0 w : Int32) (he : ¬ ((nI 0 ≤ c0 ∧ c0 ≤ nI 24) ∧ (nI 0 ≤ w ∧ w ≤ nI 3))) : MdF yX6_ofCell cX6_ofCell 5 (some .int) 2 42 [.int c0, .int w] f a (some (.int (-1000000001 : Int32))) f (mErr a 1) := by
  refine MdF.ofI (by decide) rfl (Nat.le_of_ble_eq_true rfl) ?_
  intro p l e R s m args below meth c Q D h dA ls hx hb hml hRf hRl hts hown hK hI hM hl hret
  have hl : lv_has ls 5 [(0, .ref (h 0)), (1, .int c0), (2, .int w)] := hl
  refine lv_iload_n hx hb dX6_ofCell_0 rfl (lv_at hl 1 rfl) ?_
  refine st_callI (y := yX6_isCell) hx hb hml hown hts (met_isCell c0) q1479 q1480 q70 q1481 ndX6_isCell rfl (by rw [hRf]; decide) (by rw [hRl]; decide) ⟨Nat.zero_le _, Nat.zero_le _⟩ hl.1 rfl (Nat.le_of_ble_eq_true rfl) dX6_ofCell_1 ?_
  refine w_if_eqT (tgt := 16) hx hb dX6_ofCell_4 (by decide) (fun c_1 => ?_) (fun c_1 => ?_)
  · refine lv_aload_n hx hb dX6_ofCell_16 rfl (lv_at hl 0 rfl) ?_
    refine lv_ldc hx hb hown (hts _ q1485) dX6_ofCell_17 ?_
    refine md_callI (y := yX6_errs) hx hb hml hown hts hK hI hM (met_errs f a (-1000000001 : Int32) 1 (by decide) (by decide)) q1486 q1488 qs21 q1489 ndX6_errs rfl (by rw [hRf]; decide) (by rw [hRl]; decide) hl.1 rfl (Nat.le_of_ble_eq_true rfl) dX6_ofCell_19 (fun H locs hM => ?_)
    exact hret hM (by first | rfl | (simp only [iI, nI_0, nI_one]; grind)) dX6_ofCell_22
  · refine lv_iload_n hx hb dX6_ofCell_7 rfl (lv_at hl 2 rfl) ?_
    refine lv_iconst (v := nI 0) hx hb dX6_ofCell_8 (by decide) ?_
    refine lv_iconst (v := nI 3) hx hb dX6_ofCell_9 (by decide) ?_
    refine st_callI (y := yX6_in) hx hb hml hown hts (met_in w (nI 0) (nI 3)) q1482 q1483 q70 q1484 ndX6_in rfl (by rw [hRf]; decide) (by rw [hRl]; decide) ⟨Nat.zero_le _, Nat.zero_le _⟩ hl.1 rfl (Nat.le_of_ble_eq_true rfl) dX6_ofCell_10 ?_
    refine w_if_neT (tgt := 23) hx hb dX6_ofCell_13 (by decide) (fun c_2 => ?_) (fun c_2 => ?_)
    · exact absurd ⟨c_1, c_2⟩ he
    · refine lv_aload_n hx hb dX6_ofCell_16 rfl (lv_at hl 0 rfl) ?_
      refine lv_ldc hx hb hown (hts _ q1485) dX6_ofCell_17 ?_
      refine md_callI (y := yX6_errs) hx hb hml hown hts hK hI hM (met_errs f a (-1000000001 : Int32) 1 (by decide) (by decide)) q1486 q1488 qs21 q1489 ndX6_errs rfl (by rw [hRf]; decide) (by rw [hRl]; decide) hl.1 rfl (Nat.le_of_ble_eq_true rfl) dX6_ofCell_19 (fun H locs hM => ?_)
      exact hret hM (by first | rfl | (simp only [iI, nI_0, nI_one]; grind)) dX6_ofCell_22
