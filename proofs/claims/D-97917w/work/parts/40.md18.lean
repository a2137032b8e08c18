/-! the model: acts, 11 (printed by model18.py) -/
set_option maxRecDepth 100000
def mkN (x : Nat → Int32) : Nat → Nat → Nat
  | 0, k => k
  | n + 1, k => if nI 0 ≤ x k ∧ x k ≤ nI 9 then mkN x n (k + 1) else k
def mkR (r x : Nat → Int32) (k : Nat) : Nat → Int32 := fun y => if 8 ≤ y ∧ y < 8 + k then x (y - 8) else r y
theorem mkR_0 (r x : Nat → Int32) : mkR r x 0 = r := by
  funext y; unfold mkR; rw [if_neg (by omega)]
theorem mkR_s (r x : Nat → Int32) (k : Nat) : upd (mkR r x k) (8 + k) (x k) = mkR r x (k + 1) := by
  funext y
  simp only [upd, mkR]
  by_cases h : y = 8 + k
  · subst h
    rw [if_pos rfl, if_pos (by omega)]
    congr 1; omega
  · rw [if_neg h]
    by_cases h2 : 8 ≤ y ∧ y < 8 + k
    · rw [if_pos h2, if_pos (by omega)]
    · rw [if_neg h2, if_neg (by omega)]
def zrK (x : Nat → Int32) (sh k : Nat) : Nat → Int32 := fun y => if 40 * sh ≤ y ∧ y < 40 * sh + k then nI 0 else x y
theorem zrK_0 (x : Nat → Int32) (sh : Nat) : zrK x sh 0 = x := by
  funext y; unfold zrK; rw [if_neg (by omega)]
theorem zrK_s (x : Nat → Int32) (sh k : Nat) : upd (zrK x sh k) (40 * sh + k) (nI 0) = zrK x sh (k + 1) := by
  funext y
  simp only [upd, zrK]
  by_cases h : y = 40 * sh + k
  · subst h
    rw [if_pos rfl, if_pos (by omega)]
  · rw [if_neg h]
    by_cases h2 : 40 * sh ≤ y ∧ y < 40 * sh + k
    · rw [if_pos h2, if_pos (by omega)]
    · rw [if_neg h2, if_neg (by omega)]
theorem ndX6_marks : yX6_marks.cls = RX6 ∧ yX6_marks.cls ≠ "java/lang/invoke/MethodHandle" ∧ yX6_marks.cls ≠ "java/lang/invoke/VarHandle" ∧ (parseMethodDescriptor yX6_marks.desc).map (fun d => d.parameters.length) = some 1 := by decide +kernel
set_option maxHeartbeats 400000 in
theorem met_marks_ok (f : Nat → Int32) (a : Nat → Nat → Int32) (sh : Nat) (hs : sh < 4) (hb0 : ¬ a 6 sh = 0) (hz : okN (a 7 sh) 40) : MdF yX6_marks cX6_marks 3 (some .int) 2 42 [.int (nI sh)] f a (some (.int (nI (mkN (fun q => a 8 (40 * sh + q)) (min (cl (a 7 sh)) 25) 0)))) f (va_up a 1 (mkR (a 1) (fun q => a 8 (40 * sh + q)) (mkN (fun q => a 8 (40 * sh + q)) (min (cl (a 7 sh)) 25) 0))) := by
  refine MdF.ofI (by decide) rfl (Nat.le_of_ble_eq_true rfl) ?_
  intro p l e R s m args below meth c Q D h dA ls hx hb hml hRf hRl hts hown hK hI hM hl hret
  have hl : lv_has ls 3 [(0, .ref (h 0)), (1, .int (nI sh))] := hl
  have hz2 := hz.2
  refine lv_iload_n hx hb dX6_marks_0 rfl (lv_at hl 1 rfl) ?_
  refine st_callI (y := yX6_isSheet) hx hb hml hown hts (met_isSheet (nI sh)) q1726 q1727 q70 q1728 ndX6_isSheet rfl (by rw [hRf]; decide) (by rw [hRl]; decide) ⟨Nat.zero_le _, Nat.zero_le _⟩ hl.1 rfl (Nat.le_of_ble_eq_true rfl) dX6_marks_1 ?_
  refine w_if_neT (tgt := 14) hx hb dX6_marks_4 (by decide) (fun c_1 => ?_) (fun c_1 => ?_)
  · refine lv_aload_n hx hb dX6_marks_14 rfl (lv_at hl 0 rfl) ?_
    refine md_get (v := .ref (h 6)) hx hb hts hown hK hM 15 (by decide) q1405 rfl rfl dX6_marks_15 ?_
    refine lv_iload_n hx hb dX6_marks_18 rfl (lv_at hl 1 rfl) ?_
    refine md_iald hx hb hK hM 6 rfl sh ⟨by omega, by decide, rfl⟩ dX6_marks_19 ?_
    refine lv_if_ne (tgt := 30) hx hb dX6_marks_20 (by decide) (fun c_2 => ?_) (fun c_2 => ?_)
    · refine lv_iconst (v := nI 0) hx hb dX6_marks_30 (by decide) ?_
      refine lv_istore_n (lv' := [(2, .int (nI 0)), (0, .ref (h 0)), (1, .int (nI sh))]) hx hb dX6_marks_31 rfl hl (by decide) rfl (fun ls hl => ?_)
      have loop32 : ∀ (fu : Nat) (k : Nat), (k ≤ min (cl (a 7 sh)) 25) → (min (cl (a 7 sh)) 25 < k + fu) → (mkN (fun q => a 8 (40 * sh + q)) (min (cl (a 7 sh)) 25 - k) k = mkN (fun q => a 8 (40 * sh + q)) (min (cl (a 7 sh)) 25) 0) → ∀ (H : Heap) (locs : List Loc), mdH D h dA s.heap H locs f (va_up a 1 (mkR (a 1) (fun q => a 8 (40 * sh + q)) k)) → ∀ (ls : Array Slot), lv_has ls 3 [(2, .int (nI k)), (0, .ref (h 0)), (1, .int (nI sh))] → W p l e R s m args below meth c H locs 0 0 Q (F0 m 32 ls []) := by
        intro fu
        induction fu with
        | zero =>
          intro k hk hn ee
          omega
        | succ fu ih32 =>
          intro k hk hn ee H locs hM ls hl
          refine lv_iload_n hx hb dX6_marks_32 rfl (lv_at hl 0 rfl) ?_
          refine lv_aload_n hx hb dX6_marks_33 rfl (lv_at hl 1 rfl) ?_
          refine md_get (v := .ref (h 7)) hx hb hts hown hK hM 16 (by decide) q1406 rfl rfl dX6_marks_34 ?_
          refine lv_iload_n hx hb dX6_marks_37 rfl (lv_at hl 2 rfl) ?_
          refine md_iald hx hb hK hM 7 rfl sh ⟨by omega, by decide, rfl⟩ dX6_marks_38 ?_
          refine w_top (nI (cl (a 7 sh))) (hz.1) ?_
          refine w_icmp_geN (tgt := 94) hx hb (by omega) (by omega) dX6_marks_39 (by decide) (fun c_3 => ?_) (fun c_3 => ?_)
          · have hJ : mkN (fun q => a 8 (40 * sh + q)) (min (cl (a 7 sh)) 25) 0 = k := by rw [← ee, show min (cl (a 7 sh)) 25 - k = 0 by omega, mkN]
            refine lv_iload_n hx hb dX6_marks_94 rfl (lv_at hl 0 rfl) ?_
            exact hret (hM.to rfl (by rw [hJ])) (by rw [hJ]) dX6_marks_95
          · refine lv_iload_n hx hb dX6_marks_42 rfl (lv_at hl 0 rfl) ?_
            refine lv_bipush (v := nI 25) hx hb dX6_marks_43 (by decide) ?_
            refine w_icmp_geN (tgt := 94) hx hb (by omega) (by omega) dX6_marks_45 (by decide) (fun c_4 => ?_) (fun c_4 => ?_)
            · have hJ : mkN (fun q => a 8 (40 * sh + q)) (min (cl (a 7 sh)) 25) 0 = k := by rw [← ee, show min (cl (a 7 sh)) 25 - k = 0 by omega, mkN]
              refine lv_iload_n hx hb dX6_marks_94 rfl (lv_at hl 0 rfl) ?_
              exact hret (hM.to rfl (by rw [hJ])) (by rw [hJ]) dX6_marks_95
            · refine lv_aload_n hx hb dX6_marks_48 rfl (lv_at hl 1 rfl) ?_
              refine md_get (v := .ref (h 8)) hx hb hts hown hK hM 17 (by decide) q1407 rfl rfl dX6_marks_49 ?_
              refine lv_bipush (v := nI 40) hx hb dX6_marks_52 (by decide) ?_
              refine lv_iload_n hx hb dX6_marks_54 rfl (lv_at hl 2 rfl) ?_
              refine w_imulN hx hb dX6_marks_55 ?_
              refine lv_iload_n hx hb dX6_marks_56 rfl (lv_at hl 0 rfl) ?_
              refine w_iaddN hx hb dX6_marks_57 ?_
              refine md_iald hx hb hK hM 8 rfl ((40 * sh) + k) ⟨by omega, by decide, rfl⟩ dX6_marks_58 ?_
              refine w_top (a 8 (40 * sh + k)) (rfl) ?_
              refine lv_iconst (v := nI 0) hx hb dX6_marks_59 (by decide) ?_
              refine lv_bipush (v := nI 9) hx hb dX6_marks_60 (by decide) ?_
              refine st_callI (y := yX6_in) hx hb hml hown hts (met_in (a 8 (40 * sh + k)) (nI 0) (nI 9)) q1482 q1483 q70 q1484 ndX6_in rfl (by rw [hRf]; decide) (by rw [hRl]; decide) ⟨Nat.zero_le _, Nat.zero_le _⟩ hl.1 rfl (Nat.le_of_ble_eq_true rfl) dX6_marks_62 ?_
              refine w_if_eqT (tgt := 94) hx hb dX6_marks_65 (by decide) (fun c_5 => ?_) (fun c_5 => ?_)
              · have hJ : mkN (fun q => a 8 (40 * sh + q)) (min (cl (a 7 sh)) 25) 0 = k := by rw [← ee, show min (cl (a 7 sh)) 25 - k = (min (cl (a 7 sh)) 25 - (k + 1)) + 1 by omega, mkN, if_neg c_5]
                refine lv_iload_n hx hb dX6_marks_94 rfl (lv_at hl 0 rfl) ?_
                exact hret (hM.to rfl (by rw [hJ])) (by rw [hJ]) dX6_marks_95
              · refine lv_aload_n hx hb dX6_marks_68 rfl (lv_at hl 1 rfl) ?_
                refine md_get (v := .ref (h 1)) hx hb hts hown hK hM 0 (by decide) q1390 rfl rfl dX6_marks_69 ?_
                refine lv_bipush (v := nI 8) hx hb dX6_marks_72 (by decide) ?_
                refine lv_iload_n hx hb dX6_marks_74 rfl (lv_at hl 0 rfl) ?_
                refine w_iaddN hx hb dX6_marks_75 ?_
                refine lv_aload_n hx hb dX6_marks_76 rfl (lv_at hl 1 rfl) ?_
                refine md_get (v := .ref (h 8)) hx hb hts hown hK hM 17 (by decide) q1407 rfl rfl dX6_marks_77 ?_
                refine lv_bipush (v := nI 40) hx hb dX6_marks_80 (by decide) ?_
                refine lv_iload_n hx hb dX6_marks_82 rfl (lv_at hl 2 rfl) ?_
                refine w_imulN hx hb dX6_marks_83 ?_
                refine lv_iload_n hx hb dX6_marks_84 rfl (lv_at hl 0 rfl) ?_
                refine w_iaddN hx hb dX6_marks_85 ?_
                refine md_iald hx hb hK hM 8 rfl ((40 * sh) + k) ⟨by omega, by decide, rfl⟩ dX6_marks_86 ?_
                refine w_top (a 8 (40 * sh + k)) (rfl) ?_
                refine md_iast hx hb hK hI hM 1 rfl (8 + k) ⟨by omega, by decide, rfl⟩ rfl dX6_marks_87 (fun H locs hM => ?_)
                refine lv_iinc (v := nI (k + 1)) (lv' := [(2, .int (nI (k + 1))), (0, .ref (h 0)), (1, .int (nI sh))]) hx hb dX6_marks_88 hl (k := 0) rfl (by rw [show Int32.ofInt 1 = nI 1 from by decide]; exact nI_add _ _) (by decide) rfl (fun ls hl => ?_)
                refine lv_goto (tgt := 32) hx hb dX6_marks_91 (by decide) ?_
                exact ih32 (k + 1) (by omega) (by omega) (by rw [← ee, show min (cl (a 7 sh)) 25 - k = (min (cl (a 7 sh)) 25 - (k + 1)) + 1 by omega, mkN, if_pos c_5]) _ _ (hM.to rfl (by rw [va_uu, va_us]; exact congrArg (va_up a 1) (mkR_s _ _ _))) ls (lv_sub hl [0, 1, 2] rfl)
      exact loop32 (min (cl (a 7 sh)) 25 + 1) 0 (by omega) (by omega) rfl _ _ (hM.to rfl (by rw [mkR_0]; exact va_self a 1)) ls (lv_sub hl [0, 1, 2] rfl)
    · exact absurd c_2 hb0
  · exact absurd (by first | exact (in_nat (by decide)).mpr ⟨_, by omega, rfl⟩ | exact (in_nat1 _ (by decide) (by decide)).mpr ⟨_, by omega, by omega, rfl⟩ | exact cow_in hN (by omega) | assumption) c_1
set_option maxHeartbeats 400000 in
theorem met_marks_n (f : Nat → Int32) (a : Nat → Nat → Int32) (sh : Nat) (hs : sh < 4) (hb0 : a 6 sh = 0) : MdF yX6_marks cX6_marks 3 (some .int) 2 42 [.int (nI sh)] f a (some (.int (-1000000002 : Int32))) f (mErr a 2) := by
  refine MdF.ofI (by decide) rfl (Nat.le_of_ble_eq_true rfl) ?_
  intro p l e R s m args below meth c Q D h dA ls hx hb hml hRf hRl hts hown hK hI hM hl hret
  have hl : lv_has ls 3 [(0, .ref (h 0)), (1, .int (nI sh))] := hl
  refine lv_iload_n hx hb dX6_marks_0 rfl (lv_at hl 1 rfl) ?_
  refine st_callI (y := yX6_isSheet) hx hb hml hown hts (met_isSheet (nI sh)) q1726 q1727 q70 q1728 ndX6_isSheet rfl (by rw [hRf]; decide) (by rw [hRl]; decide) ⟨Nat.zero_le _, Nat.zero_le _⟩ hl.1 rfl (Nat.le_of_ble_eq_true rfl) dX6_marks_1 ?_
  refine w_if_neT (tgt := 14) hx hb dX6_marks_4 (by decide) (fun c_1 => ?_) (fun c_1 => ?_)
  · refine lv_aload_n hx hb dX6_marks_14 rfl (lv_at hl 0 rfl) ?_
    refine md_get (v := .ref (h 6)) hx hb hts hown hK hM 15 (by decide) q1405 rfl rfl dX6_marks_15 ?_
    refine lv_iload_n hx hb dX6_marks_18 rfl (lv_at hl 1 rfl) ?_
    refine md_iald hx hb hK hM 6 rfl sh ⟨by omega, by decide, rfl⟩ dX6_marks_19 ?_
    refine lv_if_ne (tgt := 30) hx hb dX6_marks_20 (by decide) (fun c_2 => ?_) (fun c_2 => ?_)
    · exact absurd hb0 c_2
    · refine lv_aload_n hx hb dX6_marks_23 rfl (lv_at hl 0 rfl) ?_
      refine lv_ldc hx hb hown (hts _ q1605) dX6_marks_24 ?_
      refine md_callI (y := yX6_errs) hx hb hml hown hts hK hI hM (met_errs f a (-1000000002 : Int32) 2 (by decide) (by decide)) q1486 q1488 qs21 q1489 ndX6_errs rfl (by rw [hRf]; decide) (by rw [hRl]; decide) hl.1 rfl (Nat.le_of_ble_eq_true rfl) dX6_marks_26 (fun H locs hM => ?_)
      exact hret hM (by first | rfl | (simp only [iI, nI_0, nI_one]; grind)) dX6_marks_29
  · exact absurd (by first | exact (in_nat (by decide)).mpr ⟨_, by omega, rfl⟩ | exact (in_nat1 _ (by decide) (by decide)).mpr ⟨_, by omega, by omega, rfl⟩ | exact cow_in hN (by omega) | assumption) c_1
set_option maxHeartbeats 400000 in
theorem met_marks_e (f : Nat → Int32) (a : Nat → Nat → Int32) (sh : Int32) (he : ¬ (nI 0 ≤ sh ∧ sh ≤ nI 3)) : MdF yX6_marks cX6_marks 3 (some .int) 2 42 [.int sh] f a (some (.int (-1000000001 : Int32))) f (mErr a 1) := by
  refine MdF.ofI (by decide) rfl (Nat.le_of_ble_eq_true rfl) ?_
  intro p l e R s m args below meth c Q D h dA ls hx hb hml hRf hRl hts hown hK hI hM hl hret
  have hl : lv_has ls 3 [(0, .ref (h 0)), (1, .int sh)] := hl
  refine lv_iload_n hx hb dX6_marks_0 rfl (lv_at hl 1 rfl) ?_
  refine st_callI (y := yX6_isSheet) hx hb hml hown hts (met_isSheet sh) q1726 q1727 q70 q1728 ndX6_isSheet rfl (by rw [hRf]; decide) (by rw [hRl]; decide) ⟨Nat.zero_le _, Nat.zero_le _⟩ hl.1 rfl (Nat.le_of_ble_eq_true rfl) dX6_marks_1 ?_
  refine w_if_neT (tgt := 14) hx hb dX6_marks_4 (by decide) (fun c_1 => ?_) (fun c_1 => ?_)
  · exact absurd c_1 he
  · refine lv_aload_n hx hb dX6_marks_7 rfl (lv_at hl 0 rfl) ?_
    refine lv_ldc hx hb hown (hts _ q1485) dX6_marks_8 ?_
    refine md_callI (y := yX6_errs) hx hb hml hown hts hK hI hM (met_errs f a (-1000000001 : Int32) 1 (by decide) (by decide)) q1486 q1488 qs21 q1489 ndX6_errs rfl (by rw [hRf]; decide) (by rw [hRl]; decide) hl.1 rfl (Nat.le_of_ble_eq_true rfl) dX6_marks_10 (fun H locs hM => ?_)
    exact hret hM (by first | rfl | (simp only [iI, nI_0, nI_one]; grind)) dX6_marks_13
theorem ndX6_sheet : yX6_sheet.cls = RX6 ∧ yX6_sheet.cls ≠ "java/lang/invoke/MethodHandle" ∧ yX6_sheet.cls ≠ "java/lang/invoke/VarHandle" ∧ (parseMethodDescriptor yX6_sheet.desc).map (fun d => d.parameters.length) = some 3 := by decide +kernel
set_option maxHeartbeats 400000 in
theorem met_sheet_ok0 (f : Nat → Int32) (a : Nat → Nat → Int32) (sh : Nat) (hs : sh < 4) (n : Int32) : MdF yX6_sheet cX6_sheet 5 (some .int) 2 42 [.int (nI sh), .int (nI 0), .int n] f a (some (.int (nI 1))) f (va_up (va_up (va_up a 6 (upd (a 6) sh (nI 0))) 7 (upd (a 7) sh (nI 0))) 8 (zrK (a 8) sh 40)) := by
  refine MdF.ofI (by decide) rfl (Nat.le_of_ble_eq_true rfl) ?_
  intro p l e R s m args below meth c Q D h dA ls hx hb hml hRf hRl hts hown hK hI hM hl hret
  have hl : lv_has ls 5 [(0, .ref (h 0)), (1, .int (nI sh)), (2, .int (nI 0)), (3, .int n)] := hl
  refine lv_iload_n hx hb dX6_sheet_0 rfl (lv_at hl 1 rfl) ?_
  refine st_callI (y := yX6_isSheet) hx hb hml hown hts (met_isSheet (nI sh)) q1726 q1727 q70 q1728 ndX6_isSheet rfl (by rw [hRf]; decide) (by rw [hRl]; decide) ⟨Nat.zero_le _, Nat.zero_le _⟩ hl.1 rfl (Nat.le_of_ble_eq_true rfl) dX6_sheet_1 ?_
  refine w_if_eqT (tgt := 29) hx hb dX6_sheet_4 (by decide) (fun c_1 => ?_) (fun c_1 => ?_)
  · exact absurd (by first | exact (in_nat (by decide)).mpr ⟨_, by omega, rfl⟩ | exact (in_nat1 _ (by decide) (by decide)).mpr ⟨_, by omega, by omega, rfl⟩ | exact cow_in hN (by omega) | assumption) c_1
  · refine lv_iload_n hx hb dX6_sheet_7 rfl (lv_at hl 2 rfl) ?_
    refine lv_if_eq (tgt := 36) hx hb dX6_sheet_8 (by decide) (fun _ => ?_) (fun q => absurd q (by decide))
    refine lv_iload_n hx hb dX6_sheet_36 rfl (lv_at hl 2 rfl) ?_
    refine lv_if_eq (tgt := 51) hx hb dX6_sheet_37 (by decide) (fun _ => ?_) (fun q => absurd q (by decide))
    refine lv_iload_n hx hb dX6_sheet_51 rfl (lv_at hl 2 rfl) ?_
    refine lv_if_eq (tgt := 68) hx hb dX6_sheet_52 (by decide) (fun _ => ?_) (fun q => absurd q (by decide))
    refine lv_aload_n hx hb dX6_sheet_68 rfl (lv_at hl 0 rfl) ?_
    refine md_get (v := .ref (h 6)) hx hb hts hown hK hM 15 (by decide) q1405 rfl rfl dX6_sheet_69 ?_
    refine lv_iload_n hx hb dX6_sheet_72 rfl (lv_at hl 1 rfl) ?_
    refine lv_iload_n hx hb dX6_sheet_73 rfl (lv_at hl 2 rfl) ?_
    refine md_iast hx hb hK hI hM 6 rfl sh ⟨by omega, by decide, rfl⟩ rfl dX6_sheet_74 (fun H locs hM => ?_)
    refine lv_aload_n hx hb dX6_sheet_75 rfl (lv_at hl 0 rfl) ?_
    refine md_get (v := .ref (h 7)) hx hb hts hown hK hM 16 (by decide) q1406 rfl rfl dX6_sheet_76 ?_
    refine lv_iload_n hx hb dX6_sheet_79 rfl (lv_at hl 1 rfl) ?_
    refine lv_iload_n hx hb dX6_sheet_80 rfl (lv_at hl 2 rfl) ?_
    refine lv_if_ne (tgt := 88) hx hb dX6_sheet_81 (by decide) (fun q => absurd q (by decide)) (fun _ => ?_)
    refine lv_iconst (v := nI 0) hx hb dX6_sheet_84 (by decide) ?_
    refine lv_goto (tgt := 89) hx hb dX6_sheet_85 (by decide) ?_
    refine md_iast hx hb hK hI hM 7 rfl sh ⟨by omega, by decide, rfl⟩ rfl dX6_sheet_89 (fun H locs hM => ?_)
    have hM := hM.to (a' := va_up (va_up a 6 (upd (a 6) sh (nI 0))) 7 (upd (a 7) sh (nI 0))) rfl (rfl)
    refine lv_iconst (v := nI 0) hx hb dX6_sheet_90 (by decide) ?_
    refine lv_istore (lv' := [(4, .int (nI 0)), (0, .ref (h 0)), (1, .int (nI sh)), (2, .int (nI 0)), (3, .int n)]) hx hb dX6_sheet_91 hl (by decide) rfl (fun ls hl => ?_)
    have loop93 : ∀ (fu : Nat) (k : Nat), (k ≤ 40) → (40 < k + fu) → ∀ (H : Heap) (locs : List Loc), mdH D h dA s.heap H locs f (va_up (va_up (va_up a 6 (upd (a 6) sh (nI 0))) 7 (upd (a 7) sh (nI 0))) 8 (zrK (a 8) sh k)) → ∀ (ls : Array Slot), lv_has ls 5 [(4, .int (nI k)), (0, .ref (h 0)), (1, .int (nI sh))] → W p l e R s m args below meth c H locs 0 0 Q (F0 m 93 ls []) := by
      intro fu
      induction fu with
      | zero =>
        intro k hk hn
        omega
      | succ fu ih93 =>
        intro k hk hn H locs hM ls hl
        refine lv_iload hx hb dX6_sheet_93 (lv_at hl 0 rfl) ?_
        refine lv_bipush (v := nI 40) hx hb dX6_sheet_95 (by decide) ?_
        refine w_icmp_geN (tgt := 119) hx hb (by omega) (by omega) dX6_sheet_97 (by decide) (fun c_6 => ?_) (fun c_6 => ?_)
        · refine lv_iconst (v := nI 1) hx hb dX6_sheet_119 (by decide) ?_
          exact hret (hM.to rfl (by rw [show k = 40 by omega])) (by first | rfl | (simp only [iI, nI_0, nI_one]; grind)) dX6_sheet_120
        · refine lv_aload_n hx hb dX6_sheet_100 rfl (lv_at hl 1 rfl) ?_
          refine md_get (v := .ref (h 8)) hx hb hts hown hK hM 17 (by decide) q1407 rfl rfl dX6_sheet_101 ?_
          refine lv_bipush (v := nI 40) hx hb dX6_sheet_104 (by decide) ?_
          refine lv_iload_n hx hb dX6_sheet_106 rfl (lv_at hl 2 rfl) ?_
          refine w_imulN hx hb dX6_sheet_107 ?_
          refine lv_iload hx hb dX6_sheet_108 (lv_at hl 0 rfl) ?_
          refine w_iaddN hx hb dX6_sheet_110 ?_
          refine lv_iconst (v := nI 0) hx hb dX6_sheet_111 (by decide) ?_
          refine md_iast hx hb hK hI hM 8 rfl ((40 * sh) + k) ⟨by omega, by decide, rfl⟩ rfl dX6_sheet_112 (fun H locs hM => ?_)
          refine lv_iinc (v := nI (k + 1)) (lv' := [(4, .int (nI (k + 1))), (0, .ref (h 0)), (1, .int (nI sh))]) hx hb dX6_sheet_113 hl (k := 0) rfl (by rw [show Int32.ofInt 1 = nI 1 from by decide]; exact nI_add _ _) (by decide) rfl (fun ls hl => ?_)
          refine lv_goto (tgt := 93) hx hb dX6_sheet_116 (by decide) ?_
          exact ih93 (k + 1) (by omega) (by omega) _ _ (hM.to rfl (by rw [va_uu, va_us, zrK_s])) ls (lv_sub hl [0, 1, 2] rfl)
    exact loop93 41 0 (by omega) (by omega) _ _ (hM.to rfl (by rw [zrK_0]; exact va_self (va_up (va_up a 6 (upd (a 6) sh (nI 0))) 7 (upd (a 7) sh (nI 0))) 8)) ls (lv_sub hl [0, 1, 2] rfl)
set_option maxHeartbeats 400000 in
theorem met_sheet_ok8 (f : Nat → Int32) (a : Nat → Nat → Int32) (sh : Nat) (hs : sh < 4) (n : Nat) (hn0 : n ≤ 40) : MdF yX6_sheet cX6_sheet 5 (some .int) 2 42 [.int (nI sh), .int (nI 8), .int (nI n)] f a (some (.int (nI 1))) f (va_up (va_up (va_up a 6 (upd (a 6) sh (nI 8))) 7 (upd (a 7) sh (nI n))) 8 (zrK (a 8) sh 40)) := by
  refine MdF.ofI (by decide) rfl (Nat.le_of_ble_eq_true rfl) ?_
  intro p l e R s m args below meth c Q D h dA ls hx hb hml hRf hRl hts hown hK hI hM hl hret
  have hl : lv_has ls 5 [(0, .ref (h 0)), (1, .int (nI sh)), (2, .int (nI 8)), (3, .int (nI n))] := hl
  refine lv_iload_n hx hb dX6_sheet_0 rfl (lv_at hl 1 rfl) ?_
  refine st_callI (y := yX6_isSheet) hx hb hml hown hts (met_isSheet (nI sh)) q1726 q1727 q70 q1728 ndX6_isSheet rfl (by rw [hRf]; decide) (by rw [hRl]; decide) ⟨Nat.zero_le _, Nat.zero_le _⟩ hl.1 rfl (Nat.le_of_ble_eq_true rfl) dX6_sheet_1 ?_
  refine w_if_eqT (tgt := 29) hx hb dX6_sheet_4 (by decide) (fun c_1 => ?_) (fun c_1 => ?_)
  · exact absurd (by first | exact (in_nat (by decide)).mpr ⟨_, by omega, rfl⟩ | exact (in_nat1 _ (by decide) (by decide)).mpr ⟨_, by omega, by omega, rfl⟩ | exact cow_in hN (by omega) | assumption) c_1
  · refine lv_iload_n hx hb dX6_sheet_7 rfl (lv_at hl 2 rfl) ?_
    refine lv_if_eq (tgt := 36) hx hb dX6_sheet_8 (by decide) (fun q => absurd q (by decide)) (fun _ => ?_)
    refine lv_iload_n hx hb dX6_sheet_11 rfl (lv_at hl 2 rfl) ?_
    refine lv_bipush (v := nI 8) hx hb dX6_sheet_12 (by decide) ?_
    refine lv_icmp_eq (tgt := 36) hx hb dX6_sheet_14 (by decide) (fun _ => ?_) (fun q => absurd q (by decide))
    refine lv_iload_n hx hb dX6_sheet_36 rfl (lv_at hl 2 rfl) ?_
    refine lv_if_eq (tgt := 51) hx hb dX6_sheet_37 (by decide) (fun q => absurd q (by decide)) (fun _ => ?_)
    refine lv_iload_n hx hb dX6_sheet_40 rfl (lv_at hl 3 rfl) ?_
    refine w_if_geN (tgt := 51) hx hb (by omega) dX6_sheet_41 (by decide) ?_
    refine lv_iload_n hx hb dX6_sheet_51 rfl (lv_at hl 2 rfl) ?_
    refine lv_if_eq (tgt := 68) hx hb dX6_sheet_52 (by decide) (fun q => absurd q (by decide)) (fun _ => ?_)
    refine lv_iload_n hx hb dX6_sheet_55 rfl (lv_at hl 3 rfl) ?_
    refine lv_bipush (v := nI 40) hx hb dX6_sheet_56 (by decide) ?_
    refine w_icmp_leN (tgt := 68) hx hb (by omega) (by omega) dX6_sheet_58 (by decide) (fun c_7 => ?_) (fun c_7 => ?_)
    · refine lv_aload_n hx hb dX6_sheet_68 rfl (lv_at hl 0 rfl) ?_
      refine md_get (v := .ref (h 6)) hx hb hts hown hK hM 15 (by decide) q1405 rfl rfl dX6_sheet_69 ?_
      refine lv_iload_n hx hb dX6_sheet_72 rfl (lv_at hl 1 rfl) ?_
      refine lv_iload_n hx hb dX6_sheet_73 rfl (lv_at hl 2 rfl) ?_
      refine md_iast hx hb hK hI hM 6 rfl sh ⟨by omega, by decide, rfl⟩ rfl dX6_sheet_74 (fun H locs hM => ?_)
      refine lv_aload_n hx hb dX6_sheet_75 rfl (lv_at hl 0 rfl) ?_
      refine md_get (v := .ref (h 7)) hx hb hts hown hK hM 16 (by decide) q1406 rfl rfl dX6_sheet_76 ?_
      refine lv_iload_n hx hb dX6_sheet_79 rfl (lv_at hl 1 rfl) ?_
      refine lv_iload_n hx hb dX6_sheet_80 rfl (lv_at hl 2 rfl) ?_
      refine lv_if_ne (tgt := 88) hx hb dX6_sheet_81 (by decide) (fun _ => ?_) (fun q => absurd q (by decide))
      refine lv_iload_n hx hb dX6_sheet_88 rfl (lv_at hl 3 rfl) ?_
      refine md_iast hx hb hK hI hM 7 rfl sh ⟨by omega, by decide, rfl⟩ rfl dX6_sheet_89 (fun H locs hM => ?_)
      have hM := hM.to (a' := va_up (va_up a 6 (upd (a 6) sh (nI 8))) 7 (upd (a 7) sh (nI n))) rfl (rfl)
      refine lv_iconst (v := nI 0) hx hb dX6_sheet_90 (by decide) ?_
      refine lv_istore (lv' := [(4, .int (nI 0)), (0, .ref (h 0)), (1, .int (nI sh)), (2, .int (nI 8)), (3, .int (nI n))]) hx hb dX6_sheet_91 hl (by decide) rfl (fun ls hl => ?_)
      have loop93 : ∀ (fu : Nat) (k : Nat), (k ≤ 40) → (40 < k + fu) → ∀ (H : Heap) (locs : List Loc), mdH D h dA s.heap H locs f (va_up (va_up (va_up a 6 (upd (a 6) sh (nI 8))) 7 (upd (a 7) sh (nI n))) 8 (zrK (a 8) sh k)) → ∀ (ls : Array Slot), lv_has ls 5 [(4, .int (nI k)), (0, .ref (h 0)), (1, .int (nI sh))] → W p l e R s m args below meth c H locs 0 0 Q (F0 m 93 ls []) := by
        intro fu
        induction fu with
        | zero =>
          intro k hk hn
          omega
        | succ fu ih93 =>
          intro k hk hn H locs hM ls hl
          refine lv_iload hx hb dX6_sheet_93 (lv_at hl 0 rfl) ?_
          refine lv_bipush (v := nI 40) hx hb dX6_sheet_95 (by decide) ?_
          refine w_icmp_geN (tgt := 119) hx hb (by omega) (by omega) dX6_sheet_97 (by decide) (fun c_9 => ?_) (fun c_9 => ?_)
          · refine lv_iconst (v := nI 1) hx hb dX6_sheet_119 (by decide) ?_
            exact hret (hM.to rfl (by rw [show k = 40 by omega])) (by first | rfl | (simp only [iI, nI_0, nI_one]; grind)) dX6_sheet_120
          · refine lv_aload_n hx hb dX6_sheet_100 rfl (lv_at hl 1 rfl) ?_
            refine md_get (v := .ref (h 8)) hx hb hts hown hK hM 17 (by decide) q1407 rfl rfl dX6_sheet_101 ?_
            refine lv_bipush (v := nI 40) hx hb dX6_sheet_104 (by decide) ?_
            refine lv_iload_n hx hb dX6_sheet_106 rfl (lv_at hl 2 rfl) ?_
            refine w_imulN hx hb dX6_sheet_107 ?_
            refine lv_iload hx hb dX6_sheet_108 (lv_at hl 0 rfl) ?_
            refine w_iaddN hx hb dX6_sheet_110 ?_
            refine lv_iconst (v := nI 0) hx hb dX6_sheet_111 (by decide) ?_
            refine md_iast hx hb hK hI hM 8 rfl ((40 * sh) + k) ⟨by omega, by decide, rfl⟩ rfl dX6_sheet_112 (fun H locs hM => ?_)
            refine lv_iinc (v := nI (k + 1)) (lv' := [(4, .int (nI (k + 1))), (0, .ref (h 0)), (1, .int (nI sh))]) hx hb dX6_sheet_113 hl (k := 0) rfl (by rw [show Int32.ofInt 1 = nI 1 from by decide]; exact nI_add _ _) (by decide) rfl (fun ls hl => ?_)
            refine lv_goto (tgt := 93) hx hb dX6_sheet_116 (by decide) ?_
            exact ih93 (k + 1) (by omega) (by omega) _ _ (hM.to rfl (by rw [va_uu, va_us, zrK_s])) ls (lv_sub hl [0, 1, 2] rfl)
      exact loop93 41 0 (by omega) (by omega) _ _ (hM.to rfl (by rw [zrK_0]; exact va_self (va_up (va_up a 6 (upd (a 6) sh (nI 8))) 7 (upd (a 7) sh (nI n))) 8)) ls (lv_sub hl [0, 1, 2] rfl)
    · exact absurd c_7 (by omega)
set_option maxHeartbeats 400000 in
theorem met_sheet_s8 (f : Nat → Int32) (a : Nat → Nat → Int32) (sh : Nat) (hs : sh < 4) (n : Int32) (hn0 : ¬ 0 ≤ n) : MdF yX6_sheet cX6_sheet 5 (some .int) 2 42 [.int (nI sh), .int (nI 8), .int n] f a (some (.int (-1000000003 : Int32))) f (mErr a 3) := by
  refine MdF.ofI (by decide) rfl (Nat.le_of_ble_eq_true rfl) ?_
  intro p l e R s m args below meth c Q D h dA ls hx hb hml hRf hRl hts hown hK hI hM hl hret
  have hl : lv_has ls 5 [(0, .ref (h 0)), (1, .int (nI sh)), (2, .int (nI 8)), (3, .int n)] := hl
  refine lv_iload_n hx hb dX6_sheet_0 rfl (lv_at hl 1 rfl) ?_
  refine st_callI (y := yX6_isSheet) hx hb hml hown hts (met_isSheet (nI sh)) q1726 q1727 q70 q1728 ndX6_isSheet rfl (by rw [hRf]; decide) (by rw [hRl]; decide) ⟨Nat.zero_le _, Nat.zero_le _⟩ hl.1 rfl (Nat.le_of_ble_eq_true rfl) dX6_sheet_1 ?_
  refine w_if_eqT (tgt := 29) hx hb dX6_sheet_4 (by decide) (fun c_1 => ?_) (fun c_1 => ?_)
  · exact absurd (by first | exact (in_nat (by decide)).mpr ⟨_, by omega, rfl⟩ | exact (in_nat1 _ (by decide) (by decide)).mpr ⟨_, by omega, by omega, rfl⟩ | exact cow_in hN (by omega) | assumption) c_1
  · refine lv_iload_n hx hb dX6_sheet_7 rfl (lv_at hl 2 rfl) ?_
    refine lv_if_eq (tgt := 36) hx hb dX6_sheet_8 (by decide) (fun q => absurd q (by decide)) (fun _ => ?_)
    refine lv_iload_n hx hb dX6_sheet_11 rfl (lv_at hl 2 rfl) ?_
    refine lv_bipush (v := nI 8) hx hb dX6_sheet_12 (by decide) ?_
    refine lv_icmp_eq (tgt := 36) hx hb dX6_sheet_14 (by decide) (fun _ => ?_) (fun q => absurd q (by decide))
    refine lv_iload_n hx hb dX6_sheet_36 rfl (lv_at hl 2 rfl) ?_
    refine lv_if_eq (tgt := 51) hx hb dX6_sheet_37 (by decide) (fun q => absurd q (by decide)) (fun _ => ?_)
    refine lv_iload_n hx hb dX6_sheet_40 rfl (lv_at hl 3 rfl) ?_
    refine lv_if_ge (tgt := 51) hx hb dX6_sheet_41 (by decide) (fun c_5 => ?_) (fun c_5 => ?_)
    · exact absurd c_5 hn0
    · refine lv_aload_n hx hb dX6_sheet_44 rfl (lv_at hl 0 rfl) ?_
      refine lv_ldc hx hb hown (hts _ q1647) dX6_sheet_45 ?_
      refine md_callI (y := yX6_errs) hx hb hml hown hts hK hI hM (met_errs f a (-1000000003 : Int32) 3 (by decide) (by decide)) q1486 q1488 qs21 q1489 ndX6_errs rfl (by rw [hRf]; decide) (by rw [hRl]; decide) hl.1 rfl (Nat.le_of_ble_eq_true rfl) dX6_sheet_47 (fun H locs hM => ?_)
      exact hret hM (by first | rfl | (simp only [iI, nI_0, nI_one]; grind)) dX6_sheet_50
set_option maxHeartbeats 400000 in
theorem met_sheet_b8 (f : Nat → Int32) (a : Nat → Nat → Int32) (sh : Nat) (hs : sh < 4) (n : Int32) (hn0 : 0 ≤ n) (hn1 : ¬ n ≤ nI 40) : MdF yX6_sheet cX6_sheet 5 (some .int) 2 42 [.int (nI sh), .int (nI 8), .int n] f a (some (.int (-1000000001 : Int32))) f (mErr a 1) := by
  refine MdF.ofI (by decide) rfl (Nat.le_of_ble_eq_true rfl) ?_
  intro p l e R s m args below meth c Q D h dA ls hx hb hml hRf hRl hts hown hK hI hM hl hret
  have hl : lv_has ls 5 [(0, .ref (h 0)), (1, .int (nI sh)), (2, .int (nI 8)), (3, .int n)] := hl
  refine lv_iload_n hx hb dX6_sheet_0 rfl (lv_at hl 1 rfl) ?_
  refine st_callI (y := yX6_isSheet) hx hb hml hown hts (met_isSheet (nI sh)) q1726 q1727 q70 q1728 ndX6_isSheet rfl (by rw [hRf]; decide) (by rw [hRl]; decide) ⟨Nat.zero_le _, Nat.zero_le _⟩ hl.1 rfl (Nat.le_of_ble_eq_true rfl) dX6_sheet_1 ?_
  refine w_if_eqT (tgt := 29) hx hb dX6_sheet_4 (by decide) (fun c_1 => ?_) (fun c_1 => ?_)
  · exact absurd (by first | exact (in_nat (by decide)).mpr ⟨_, by omega, rfl⟩ | exact (in_nat1 _ (by decide) (by decide)).mpr ⟨_, by omega, by omega, rfl⟩ | exact cow_in hN (by omega) | assumption) c_1
  · refine lv_iload_n hx hb dX6_sheet_7 rfl (lv_at hl 2 rfl) ?_
    refine lv_if_eq (tgt := 36) hx hb dX6_sheet_8 (by decide) (fun q => absurd q (by decide)) (fun _ => ?_)
    refine lv_iload_n hx hb dX6_sheet_11 rfl (lv_at hl 2 rfl) ?_
    refine lv_bipush (v := nI 8) hx hb dX6_sheet_12 (by decide) ?_
    refine lv_icmp_eq (tgt := 36) hx hb dX6_sheet_14 (by decide) (fun _ => ?_) (fun q => absurd q (by decide))
    refine lv_iload_n hx hb dX6_sheet_36 rfl (lv_at hl 2 rfl) ?_
    refine lv_if_eq (tgt := 51) hx hb dX6_sheet_37 (by decide) (fun q => absurd q (by decide)) (fun _ => ?_)
    refine lv_iload_n hx hb dX6_sheet_40 rfl (lv_at hl 3 rfl) ?_
    refine lv_if_ge (tgt := 51) hx hb dX6_sheet_41 (by decide) (fun c_5 => ?_) (fun c_5 => ?_)
    · refine lv_iload_n hx hb dX6_sheet_51 rfl (lv_at hl 2 rfl) ?_
      refine lv_if_eq (tgt := 68) hx hb dX6_sheet_52 (by decide) (fun q => absurd q (by decide)) (fun _ => ?_)
      refine lv_iload_n hx hb dX6_sheet_55 rfl (lv_at hl 3 rfl) ?_
      refine lv_bipush (v := nI 40) hx hb dX6_sheet_56 (by decide) ?_
      refine lv_icmp_le (tgt := 68) hx hb dX6_sheet_58 (by decide) (fun c_7 => ?_) (fun c_7 => ?_)
      · exact absurd c_7 hn1
      · refine lv_aload_n hx hb dX6_sheet_61 rfl (lv_at hl 0 rfl) ?_
        refine lv_ldc hx hb hown (hts _ q1485) dX6_sheet_62 ?_
        refine md_callI (y := yX6_errs) hx hb hml hown hts hK hI hM (met_errs f a (-1000000001 : Int32) 1 (by decide) (by decide)) q1486 q1488 qs21 q1489 ndX6_errs rfl (by rw [hRf]; decide) (by rw [hRl]; decide) hl.1 rfl (Nat.le_of_ble_eq_true rfl) dX6_sheet_64 (fun H locs hM => ?_)
        exact hret hM (by first | rfl | (simp only [iI, nI_0, nI_one]; grind)) dX6_sheet_67
    · exact absurd hn0 c_5
set_option maxHeartbeats 400000 in
theorem met_sheet_ok16 (f : Nat → Int32) (a : Nat → Nat → Int32) (sh : Nat) (hs : sh < 4) (n : Nat) (hn0 : n ≤ 40) : MdF yX6_sheet cX6_sheet 5 (some .int) 2 42 [.int (nI sh), .int (nI 16), .int (nI n)] f a (some (.int (nI 1))) f (va_up (va_up (va_up a 6 (upd (a 6) sh (nI 16))) 7 (upd (a 7) sh (nI n))) 8 (zrK (a 8) sh 40)) := by
  refine MdF.ofI (by decide) rfl (Nat.le_of_ble_eq_true rfl) ?_
  intro p l e R s m args below meth c Q D h dA ls hx hb hml hRf hRl hts hown hK hI hM hl hret
  have hl : lv_has ls 5 [(0, .ref (h 0)), (1, .int (nI sh)), (2, .int (nI 16)), (3, .int (nI n))] := hl
  refine lv_iload_n hx hb dX6_sheet_0 rfl (lv_at hl 1 rfl) ?_
  refine st_callI (y := yX6_isSheet) hx hb hml hown hts (met_isSheet (nI sh)) q1726 q1727 q70 q1728 ndX6_isSheet rfl (by rw [hRf]; decide) (by rw [hRl]; decide) ⟨Nat.zero_le _, Nat.zero_le _⟩ hl.1 rfl (Nat.le_of_ble_eq_true rfl) dX6_sheet_1 ?_
  refine w_if_eqT (tgt := 29) hx hb dX6_sheet_4 (by decide) (fun c_1 => ?_) (fun c_1 => ?_)
  · exact absurd (by first | exact (in_nat (by decide)).mpr ⟨_, by omega, rfl⟩ | exact (in_nat1 _ (by decide) (by decide)).mpr ⟨_, by omega, by omega, rfl⟩ | exact cow_in hN (by omega) | assumption) c_1
  · refine lv_iload_n hx hb dX6_sheet_7 rfl (lv_at hl 2 rfl) ?_
    refine lv_if_eq (tgt := 36) hx hb dX6_sheet_8 (by decide) (fun q => absurd q (by decide)) (fun _ => ?_)
    refine lv_iload_n hx hb dX6_sheet_11 rfl (lv_at hl 2 rfl) ?_
    refine lv_bipush (v := nI 8) hx hb dX6_sheet_12 (by decide) ?_
    refine lv_icmp_eq (tgt := 36) hx hb dX6_sheet_14 (by decide) (fun q => absurd q (by decide)) (fun _ => ?_)
    refine lv_iload_n hx hb dX6_sheet_17 rfl (lv_at hl 2 rfl) ?_
    refine lv_bipush (v := nI 16) hx hb dX6_sheet_18 (by decide) ?_
    refine lv_icmp_eq (tgt := 36) hx hb dX6_sheet_20 (by decide) (fun _ => ?_) (fun q => absurd q (by decide))
    refine lv_iload_n hx hb dX6_sheet_36 rfl (lv_at hl 2 rfl) ?_
    refine lv_if_eq (tgt := 51) hx hb dX6_sheet_37 (by decide) (fun q => absurd q (by decide)) (fun _ => ?_)
    refine lv_iload_n hx hb dX6_sheet_40 rfl (lv_at hl 3 rfl) ?_
    refine w_if_geN (tgt := 51) hx hb (by omega) dX6_sheet_41 (by decide) ?_
    refine lv_iload_n hx hb dX6_sheet_51 rfl (lv_at hl 2 rfl) ?_
    refine lv_if_eq (tgt := 68) hx hb dX6_sheet_52 (by decide) (fun q => absurd q (by decide)) (fun _ => ?_)
    refine lv_iload_n hx hb dX6_sheet_55 rfl (lv_at hl 3 rfl) ?_
    refine lv_bipush (v := nI 40) hx hb dX6_sheet_56 (by decide) ?_
    refine w_icmp_leN (tgt := 68) hx hb (by omega) (by omega) dX6_sheet_58 (by decide) (fun c_8 => ?_) (fun c_8 => ?_)
    · refine lv_aload_n hx hb dX6_sheet_68 rfl (lv_at hl 0 rfl) ?_
      refine md_get (v := .ref (h 6)) hx hb hts hown hK hM 15 (by decide) q1405 rfl rfl dX6_sheet_69 ?_
      refine lv_iload_n hx hb dX6_sheet_72 rfl (lv_at hl 1 rfl) ?_
      refine lv_iload_n hx hb dX6_sheet_73 rfl (lv_at hl 2 rfl) ?_
      refine md_iast hx hb hK hI hM 6 rfl sh ⟨by omega, by decide, rfl⟩ rfl dX6_sheet_74 (fun H locs hM => ?_)
      refine lv_aload_n hx hb dX6_sheet_75 rfl (lv_at hl 0 rfl) ?_
      refine md_get (v := .ref (h 7)) hx hb hts hown hK hM 16 (by decide) q1406 rfl rfl dX6_sheet_76 ?_
      refine lv_iload_n hx hb dX6_sheet_79 rfl (lv_at hl 1 rfl) ?_
      refine lv_iload_n hx hb dX6_sheet_80 rfl (lv_at hl 2 rfl) ?_
      refine lv_if_ne (tgt := 88) hx hb dX6_sheet_81 (by decide) (fun _ => ?_) (fun q => absurd q (by decide))
      refine lv_iload_n hx hb dX6_sheet_88 rfl (lv_at hl 3 rfl) ?_
      refine md_iast hx hb hK hI hM 7 rfl sh ⟨by omega, by decide, rfl⟩ rfl dX6_sheet_89 (fun H locs hM => ?_)
      have hM := hM.to (a' := va_up (va_up a 6 (upd (a 6) sh (nI 16))) 7 (upd (a 7) sh (nI n))) rfl (rfl)
      refine lv_iconst (v := nI 0) hx hb dX6_sheet_90 (by decide) ?_
      refine lv_istore (lv' := [(4, .int (nI 0)), (0, .ref (h 0)), (1, .int (nI sh)), (2, .int (nI 16)), (3, .int (nI n))]) hx hb dX6_sheet_91 hl (by decide) rfl (fun ls hl => ?_)
      have loop93 : ∀ (fu : Nat) (k : Nat), (k ≤ 40) → (40 < k + fu) → ∀ (H : Heap) (locs : List Loc), mdH D h dA s.heap H locs f (va_up (va_up (va_up a 6 (upd (a 6) sh (nI 16))) 7 (upd (a 7) sh (nI n))) 8 (zrK (a 8) sh k)) → ∀ (ls : Array Slot), lv_has ls 5 [(4, .int (nI k)), (0, .ref (h 0)), (1, .int (nI sh))] → W p l e R s m args below meth c H locs 0 0 Q (F0 m 93 ls []) := by
        intro fu
        induction fu with
        | zero =>
          intro k hk hn
          omega
        | succ fu ih93 =>
          intro k hk hn H locs hM ls hl
          refine lv_iload hx hb dX6_sheet_93 (lv_at hl 0 rfl) ?_
          refine lv_bipush (v := nI 40) hx hb dX6_sheet_95 (by decide) ?_
          refine w_icmp_geN (tgt := 119) hx hb (by omega) (by omega) dX6_sheet_97 (by decide) (fun c_10 => ?_) (fun c_10 => ?_)
          · refine lv_iconst (v := nI 1) hx hb dX6_sheet_119 (by decide) ?_
            exact hret (hM.to rfl (by rw [show k = 40 by omega])) (by first | rfl | (simp only [iI, nI_0, nI_one]; grind)) dX6_sheet_120
          · refine lv_aload_n hx hb dX6_sheet_100 rfl (lv_at hl 1 rfl) ?_
            refine md_get (v := .ref (h 8)) hx hb hts hown hK hM 17 (by decide) q1407 rfl rfl dX6_sheet_101 ?_
            refine lv_bipush (v := nI 40) hx hb dX6_sheet_104 (by decide) ?_
            refine lv_iload_n hx hb dX6_sheet_106 rfl (lv_at hl 2 rfl) ?_
            refine w_imulN hx hb dX6_sheet_107 ?_
            refine lv_iload hx hb dX6_sheet_108 (lv_at hl 0 rfl) ?_
            refine w_iaddN hx hb dX6_sheet_110 ?_
            refine lv_iconst (v := nI 0) hx hb dX6_sheet_111 (by decide) ?_
            refine md_iast hx hb hK hI hM 8 rfl ((40 * sh) + k) ⟨by omega, by decide, rfl⟩ rfl dX6_sheet_112 (fun H locs hM => ?_)
            refine lv_iinc (v := nI (k + 1)) (lv' := [(4, .int (nI (k + 1))), (0, .ref (h 0)), (1, .int (nI sh))]) hx hb dX6_sheet_113 hl (k := 0) rfl (by rw [show Int32.ofInt 1 = nI 1 from by decide]; exact nI_add _ _) (by decide) rfl (fun ls hl => ?_)
            refine lv_goto (tgt := 93) hx hb dX6_sheet_116 (by decide) ?_
            exact ih93 (k + 1) (by omega) (by omega) _ _ (hM.to rfl (by rw [va_uu, va_us, zrK_s])) ls (lv_sub hl [0, 1, 2] rfl)
      exact loop93 41 0 (by omega) (by omega) _ _ (hM.to rfl (by rw [zrK_0]; exact va_self (va_up (va_up a 6 (upd (a 6) sh (nI 16))) 7 (upd (a 7) sh (nI n))) 8)) ls (lv_sub hl [0, 1, 2] rfl)
    · exact absurd c_8 (by omega)
set_option maxHeartbeats 400000 in
theorem met_sheet_s16 (f : Nat → Int32) (a : Nat → Nat → Int32) (sh : Nat) (hs : sh < 4) (n : Int32) (hn0 : ¬ 0 ≤ n) : MdF yX6_sheet cX6_sheet 5 (some .int) 2 42 [.int (nI sh), .int (nI 16), .int n] f a (some (.int (-1000000003 : Int32))) f (mErr a 3) := by
  refine MdF.ofI (by decide) rfl (Nat.le_of_ble_eq_true rfl) ?_
  intro p l e R s m args below meth c Q D h dA ls hx hb hml hRf hRl hts hown hK hI hM hl hret
  have hl : lv_has ls 5 [(0, .ref (h 0)), (1, .int (nI sh)), (2, .int (nI 16)), (3, .int n)] := hl
  refine lv_iload_n hx hb dX6_sheet_0 rfl (lv_at hl 1 rfl) ?_
  refine st_callI (y := yX6_isSheet) hx hb hml hown hts (met_isSheet (nI sh)) q1726 q1727 q70 q1728 ndX6_isSheet rfl (by rw [hRf]; decide) (by rw [hRl]; decide) ⟨Nat.zero_le _, Nat.zero_le _⟩ hl.1 rfl (Nat.le_of_ble_eq_true rfl) dX6_sheet_1 ?_
  refine w_if_eqT (tgt := 29) hx hb dX6_sheet_4 (by decide) (fun c_1 => ?_) (fun c_1 => ?_)
  · exact absurd (by first | exact (in_nat (by decide)).mpr ⟨_, by omega, rfl⟩ | exact (in_nat1 _ (by decide) (by decide)).mpr ⟨_, by omega, by omega, rfl⟩ | exact cow_in hN (by omega) | assumption) c_1
  · refine lv_iload_n hx hb dX6_sheet_7 rfl (lv_at hl 2 rfl) ?_
    refine lv_if_eq (tgt := 36) hx hb dX6_sheet_8 (by decide) (fun q => absurd q (by decide)) (fun _ => ?_)
    refine lv_iload_n hx hb dX6_sheet_11 rfl (lv_at hl 2 rfl) ?_
    refine lv_bipush (v := nI 8) hx hb dX6_sheet_12 (by decide) ?_
    refine lv_icmp_eq (tgt := 36) hx hb dX6_sheet_14 (by decide) (fun q => absurd q (by decide)) (fun _ => ?_)
    refine lv_iload_n hx hb dX6_sheet_17 rfl (lv_at hl 2 rfl) ?_
    refine lv_bipush (v := nI 16) hx hb dX6_sheet_18 (by decide) ?_
    refine lv_icmp_eq (tgt := 36) hx hb dX6_sheet_20 (by decide) (fun _ => ?_) (fun q => absurd q (by decide))
    refine lv_iload_n hx hb dX6_sheet_36 rfl (lv_at hl 2 rfl) ?_
    refine lv_if_eq (tgt := 51) hx hb dX6_sheet_37 (by decide) (fun q => absurd q (by decide)) (fun _ => ?_)
    refine lv_iload_n hx hb dX6_sheet_40 rfl (lv_at hl 3 rfl) ?_
    refine lv_if_ge (tgt := 51) hx hb dX6_sheet_41 (by decide) (fun c_6 => ?_) (fun c_6 => ?_)
    · exact absurd c_6 hn0
    · refine lv_aload_n hx hb dX6_sheet_44 rfl (lv_at hl 0 rfl) ?_
      refine lv_ldc hx hb hown (hts _ q1647) dX6_sheet_45 ?_
      refine md_callI (y := yX6_errs) hx hb hml hown hts hK hI hM (met_errs f a (-1000000003 : Int32) 3 (by decide) (by decide)) q1486 q1488 qs21 q1489 ndX6_errs rfl (by rw [hRf]; decide) (by rw [hRl]; decide) hl.1 rfl (Nat.le_of_ble_eq_true rfl) dX6_sheet_47 (fun H locs hM => ?_)
      exact hret hM (by first | rfl | (simp only [iI, nI_0, nI_one]; grind)) dX6_sheet_50
set_option maxHeartbeats 400000 in
theorem met_sheet_b16 (f : Nat → Int32) (a : Nat → Nat → Int32) (sh : Nat) (hs : sh < 4) (n : Int32) (hn0 : 0 ≤ n) (hn1 : ¬ n ≤ nI 40) : MdF yX6_sheet cX6_sheet 5 (some .int) 2 42 [.int (nI sh), .int (nI 16), .int n] f a (some (.int (-1000000001 : Int32))) f (mErr a 1) := by
  refine MdF.ofI (by decide) rfl (Nat.le_of_ble_eq_true rfl) ?_
  intro p l e R s m args below meth c Q D h dA ls hx hb hml hRf hRl hts hown hK hI hM hl hret
  have hl : lv_has ls 5 [(0, .ref (h 0)), (1, .int (nI sh)), (2, .int (nI 16)), (3, .int n)] := hl
  refine lv_iload_n hx hb dX6_sheet_0 rfl (lv_at hl 1 rfl) ?_
  refine st_callI (y := yX6_isSheet) hx hb hml hown hts (met_isSheet (nI sh)) q1726 q1727 q70 q1728 ndX6_isSheet rfl (by rw [hRf]; decide) (by rw [hRl]; decide) ⟨Nat.zero_le _, Nat.zero_le _⟩ hl.1 rfl (Nat.le_of_ble_eq_true rfl) dX6_sheet_1 ?_
  refine w_if_eqT (tgt := 29) hx hb dX6_sheet_4 (by decide) (fun c_1 => ?_) (fun c_1 => ?_)
  · exact absurd (by first | exact (in_nat (by decide)).mpr ⟨_, by omega, rfl⟩ | exact (in_nat1 _ (by decide) (by decide)).mpr ⟨_, by omega, by omega, rfl⟩ | exact cow_in hN (by omega) | assumption) c_1
  · refine lv_iload_n hx hb dX6_sheet_7 rfl (lv_at hl 2 rfl) ?_
    refine lv_if_eq (tgt := 36) hx hb dX6_sheet_8 (by decide) (fun q => absurd q (by decide)) (fun _ => ?_)
    refine lv_iload_n hx hb dX6_sheet_11 rfl (lv_at hl 2 rfl) ?_
    refine lv_bipush (v := nI 8) hx hb dX6_sheet_12 (by decide) ?_
    refine lv_icmp_eq (tgt := 36) hx hb dX6_sheet_14 (by decide) (fun q => absurd q (by decide)) (fun _ => ?_)
    refine lv_iload_n hx hb dX6_sheet_17 rfl (lv_at hl 2 rfl) ?_
    refine lv_bipush (v := nI 16) hx hb dX6_sheet_18 (by decide) ?_
    refine lv_icmp_eq (tgt := 36) hx hb dX6_sheet_20 (by decide) (fun _ => ?_) (fun q => absurd q (by decide))
    refine lv_iload_n hx hb dX6_sheet_36 rfl (lv_at hl 2 rfl) ?_
    refine lv_if_eq (tgt := 51) hx hb dX6_sheet_37 (by decide) (fun q => absurd q (by decide)) (fun _ => ?_)
    refine lv_iload_n hx hb dX6_sheet_40 rfl (lv_at hl 3 rfl) ?_
    refine lv_if_ge (tgt := 51) hx hb dX6_sheet_41 (by decide) (fun c_6 => ?_) (fun c_6 => ?_)
    · refine lv_iload_n hx hb dX6_sheet_51 rfl (lv_at hl 2 rfl) ?_
      refine lv_if_eq (tgt := 68) hx hb dX6_sheet_52 (by decide) (fun q => absurd q (by decide)) (fun _ => ?_)
      refine lv_iload_n hx hb dX6_sheet_55 rfl (lv_at hl 3 rfl) ?_
      refine lv_bipush (v := nI 40) hx hb dX6_sheet_56 (by decide) ?_
      refine lv_icmp_le (tgt := 68) hx hb dX6_sheet_58 (by decide) (fun c_8 => ?_) (fun c_8 => ?_)
      · exact absurd c_8 hn1
      · refine lv_aload_n hx hb dX6_sheet_61 rfl (lv_at hl 0 rfl) ?_
        refine lv_ldc hx hb hown (hts _ q1485) dX6_sheet_62 ?_
        refine md_callI (y := yX6_errs) hx hb hml hown hts hK hI hM (met_errs f a (-1000000001 : Int32) 1 (by decide) (by decide)) q1486 q1488 qs21 q1489 ndX6_errs rfl (by rw [hRf]; decide) (by rw [hRl]; decide) hl.1 rfl (Nat.le_of_ble_eq_true rfl) dX6_sheet_64 (fun H locs hM => ?_)
        exact hret hM (by first | rfl | (simp only [iI, nI_0, nI_one]; grind)) dX6_sheet_67
    · exact absurd hn0 c_6
set_option maxHeartbeats 400000 in
theorem met_sheet_ok32 (f : Nat → Int32) (a : Nat → Nat → Int32) (sh : Nat) (hs : sh < 4) (n : Nat) (hn0 : n ≤ 40) : MdF yX6_sheet cX6_sheet 5 (some .int) 2 42 [.int (nI sh), .int (nI 32), .int (nI n)] f a (some (.int (nI 1))) f (va_up (va_up (va_up a 6 (upd (a 6) sh (nI 32))) 7 (upd (a 7) sh (nI n))) 8 (zrK (a 8) sh 40)) := by
  refine MdF.ofI (by decide) rfl (Nat.le_of_ble_eq_true rfl) ?_
  intro p l e R s m args below meth c Q D h dA ls hx hb hml hRf hRl hts hown hK hI hM hl hret
  have hl : lv_has ls 5 [(0, .ref (h 0)), (1, .int (nI sh)), (2, .int (nI 32)), (3, .int (nI n))] := hl
  refine lv_iload_n hx hb dX6_sheet_0 rfl (lv_at hl 1 rfl) ?_
  refine st_callI (y := yX6_isSheet) hx hb hml hown hts (met_isSheet (nI sh)) q1726 q1727 q70 q1728 ndX6_isSheet rfl (by rw [hRf]; decide) (by rw [hRl]; decide) ⟨Nat.zero_le _, Nat.zero_le _⟩ hl.1 rfl (Nat.le_of_ble_eq_true rfl) dX6_sheet_1 ?_
  refine w_if_eqT (tgt := 29) hx hb dX6_sheet_4 (by decide) (fun c_1 => ?_) (fun c_1 => ?_)
  · exact absurd (by first | exact (in_nat (by decide)).mpr ⟨_, by omega, rfl⟩ | exact (in_nat1 _ (by decide) (by decide)).mpr ⟨_, by omega, by omega, rfl⟩ | exact cow_in hN (by omega) | assumption) c_1
  · refine lv_iload_n hx hb dX6_sheet_7 rfl (lv_at hl 2 rfl) ?_
    refine lv_if_eq (tgt := 36) hx hb dX6_sheet_8 (by decide) (fun q => absurd q (by decide)) (fun _ => ?_)
    refine lv_iload_n hx hb dX6_sheet_11 rfl (lv_at hl 2 rfl) ?_
    refine lv_bipush (v := nI 8) hx hb dX6_sheet_12 (by decide) ?_
    refine lv_icmp_eq (tgt := 36) hx hb dX6_sheet_14 (by decide) (fun q => absurd q (by decide)) (fun _ => ?_)
    refine lv_iload_n hx hb dX6_sheet_17 rfl (lv_at hl 2 rfl) ?_
    refine lv_bipush (v := nI 16) hx hb dX6_sheet_18 (by decide) ?_
    refine lv_icmp_eq (tgt := 36) hx hb dX6_sheet_20 (by decide) (fun q => absurd q (by decide)) (fun _ => ?_)
    refine lv_iload_n hx hb dX6_sheet_23 rfl (lv_at hl 2 rfl) ?_
    refine lv_bipush (v := nI 32) hx hb dX6_sheet_24 (by decide) ?_
    refine lv_icmp_eq (tgt := 36) hx hb dX6_sheet_26 (by decide) (fun _ => ?_) (fun q => absurd q (by decide))
    refine lv_iload_n hx hb dX6_sheet_36 rfl (lv_at hl 2 rfl) ?_
    refine lv_if_eq (tgt := 51) hx hb dX6_sheet_37 (by decide) (fun q => absurd q (by decide)) (fun _ => ?_)
    refine lv_iload_n hx hb dX6_sheet_40 rfl (lv_at hl 3 rfl) ?_
    refine w_if_geN (tgt := 51) hx hb (by omega) dX6_sheet_41 (by decide) ?_
    refine lv_iload_n hx hb dX6_sheet_51 rfl (lv_at hl 2 rfl) ?_
    refine lv_if_eq (tgt := 68) hx hb dX6_sheet_52 (by decide) (fun q => absurd q (by decide)) (fun _ => ?_)
    refine lv_iload_n hx hb dX6_sheet_55 rfl (lv_at hl 3 rfl) ?_
    refine lv_bipush (v := nI 40) hx hb dX6_sheet_56 (by decide) ?_
    refine w_icmp_leN (tgt := 68) hx hb (by omega) (by omega) dX6_sheet_58 (by decide) (fun c_9 => ?_) (fun c_9 => ?_)
    · refine lv_aload_n hx hb dX6_sheet_68 rfl (lv_at hl 0 rfl) ?_
      refine md_get (v := .ref (h 6)) hx hb hts hown hK hM 15 (by decide) q1405 rfl rfl dX6_sheet_69 ?_
      refine lv_iload_n hx hb dX6_sheet_72 rfl (lv_at hl 1 rfl) ?_
      refine lv_iload_n hx hb dX6_sheet_73 rfl (lv_at hl 2 rfl) ?_
      refine md_iast hx hb hK hI hM 6 rfl sh ⟨by omega, by decide, rfl⟩ rfl dX6_sheet_74 (fun H locs hM => ?_)
      refine lv_aload_n hx hb dX6_sheet_75 rfl (lv_at hl 0 rfl) ?_
      refine md_get (v := .ref (h 7)) hx hb hts hown hK hM 16 (by decide) q1406 rfl rfl dX6_sheet_76 ?_
      refine lv_iload_n hx hb dX6_sheet_79 rfl (lv_at hl 1 rfl) ?_
      refine lv_iload_n hx hb dX6_sheet_80 rfl (lv_at hl 2 rfl) ?_
      refine lv_if_ne (tgt := 88) hx hb dX6_sheet_81 (by decide) (fun _ => ?_) (fun q => absurd q (by decide))
      refine lv_iload_n hx hb dX6_sheet_88 rfl (lv_at hl 3 rfl) ?_
      refine md_iast hx hb hK hI hM 7 rfl sh ⟨by omega, by decide, rfl⟩ rfl dX6_sheet_89 (fun H locs hM => ?_)
      have hM := hM.to (a' := va_up (va_up a 6 (upd (a 6) sh (nI 32))) 7 (upd (a 7) sh (nI n))) rfl (rfl)
      refine lv_iconst (v := nI 0) hx hb dX6_sheet_90 (by decide) ?_
      refine lv_istore (lv' := [(4, .int (nI 0)), (0, .ref (h 0)), (1, .int (nI sh)), (2, .int (nI 32)), (3, .int (nI n))]) hx hb dX6_sheet_91 hl (by decide) rfl (fun ls hl => ?_)
      have loop93 : ∀ (fu : Nat) (k : Nat), (k ≤ 40) → (40 < k + fu) → ∀ (H : Heap) (locs : List Loc), mdH D h dA s.heap H locs f (va_up (va_up (va_up a 6 (upd (a 6) sh (nI 32))) 7 (upd (a 7) sh (nI n))) 8 (zrK (a 8) sh k)) → ∀ (ls : Array Slot), lv_has ls 5 [(4, .int (nI k)), (0, .ref (h 0)), (1, .int (nI sh))] → W p l e R s m args below meth c H locs 0 0 Q (F0 m 93 ls []) := by
        intro fu
        induction fu with
        | zero =>
          intro k hk hn
          omega
        | succ fu ih93 =>
          intro k hk hn H locs hM ls hl
          refine lv_iload hx hb dX6_sheet_93 (lv_at hl 0 rfl) ?_
          refine lv_bipush (v := nI 40) hx hb dX6_sheet_95 (by decide) ?_
          refine w_icmp_geN (tgt := 119) hx hb (by omega) (by omega) dX6_sheet_97 (by decide) (fun c_11 => ?_) (fun c_11 => ?_)
          · refine lv_iconst (v := nI 1) hx hb dX6_sheet_119 (by decide) ?_
            exact hret (hM.to rfl (by rw [show k = 40 by omega])) (by first | rfl | (simp only [iI, nI_0, nI_one]; grind)) dX6_sheet_120
          · refine lv_aload_n hx hb dX6_sheet_100 rfl (lv_at hl 1 rfl) ?_
            refine md_get (v := .ref (h 8)) hx hb hts hown hK hM 17 (by decide) q1407 rfl rfl dX6_sheet_101 ?_
            refine lv_bipush (v := nI 40) hx hb dX6_sheet_104 (by decide) ?_
            refine lv_iload_n hx hb dX6_sheet_106 rfl (lv_at hl 2 rfl) ?_
            refine w_imulN hx hb dX6_sheet_107 ?_
            refine lv_iload hx hb dX6_sheet_108 (lv_at hl 0 rfl) ?_
            refine w_iaddN hx hb dX6_sheet_110 ?_
            refine lv_iconst (v := nI 0) hx hb dX6_sheet_111 (by decide) ?_
            refine md_iast hx hb hK hI hM 8 rfl ((40 * sh) + k) ⟨by omega, by decide, rfl⟩ rfl dX6_sheet_112 (fun H locs hM => ?_)
            refine lv_iinc (v := nI (k + 1)) (lv' := [(4, .int (nI (k + 1))), (0, .ref (h 0)), (1, .int (nI sh))]) hx hb dX6_sheet_113 hl (k := 0) rfl (by rw [show Int32.ofInt 1 = nI 1 from by decide]; exact nI_add _ _) (by decide) rfl (fun ls hl => ?_)
            refine lv_goto (tgt := 93) hx hb dX6_sheet_116 (by decide) ?_
            exact ih93 (k + 1) (by omega) (by omega) _ _ (hM.to rfl (by rw [va_uu, va_us, zrK_s])) ls (lv_sub hl [0, 1, 2] rfl)
      exact loop93 41 0 (by omega) (by omega) _ _ (hM.to rfl (by rw [zrK_0]; exact va_self (va_up (va_up a 6 (upd (a 6) sh (nI 32))) 7 (upd (a 7) sh (nI n))) 8)) ls (lv_sub hl [0, 1, 2] rfl)
    · exact absurd c_9 (by omega)
set_option maxHeartbeats 400000 in
theorem met_sheet_s32 (f : Nat → Int32) (a : Nat → Nat → Int32) (sh : Nat) (hs : sh < 4) (n : Int32) (hn0 : ¬ 0 ≤ n) : MdF yX6_sheet cX6_sheet 5 (some .int) 2 42 [.int (nI sh), .int (nI 32), .int n] f a (some (.int (-1000000003 : Int32))) f (mErr a 3) := by
  refine MdF.ofI (by decide) rfl (Nat.le_of_ble_eq_true rfl) ?_
  intro p l e R s m args below meth c Q D h dA ls hx hb hml hRf hRl hts hown hK hI hM hl hret
  have hl : lv_has ls 5 [(0, .ref (h 0)), (1, .int (nI sh)), (2, .int (nI 32)), (3, .int n)] := hl
  refine lv_iload_n hx hb dX6_sheet_0 rfl (lv_at hl 1 rfl) ?_
  refine st_callI (y := yX6_isSheet) hx hb hml hown hts (met_isSheet (nI sh)) q1726 q1727 q70 q1728 ndX6_isSheet rfl (by rw [hRf]; decide) (by rw [hRl]; decide) ⟨Nat.zero_le _, Nat.zero_le _⟩ hl.1 rfl (Nat.le_of_ble_eq_true rfl) dX6_sheet_1 ?_
  refine w_if_eqT (tgt := 29) hx hb dX6_sheet_4 (by decide) (fun c_1 => ?_) (fun c_1 => ?_)
  · exact absurd (by first | exact (in_nat (by decide)).mpr ⟨_, by omega, rfl⟩ | exact (in_nat1 _ (by decide) (by decide)).mpr ⟨_, by omega, by omega, rfl⟩ | exact cow_in hN (by omega) | assumption) c_1
  · refine lv_iload_n hx hb dX6_sheet_7 rfl (lv_at hl 2 rfl) ?_
    refine lv_if_eq (tgt := 36) hx hb dX6_sheet_8 (by decide) (fun q => absurd q (by decide)) (fun _ => ?_)
    refine lv_iload_n hx hb dX6_sheet_11 rfl (lv_at hl 2 rfl) ?_
    refine lv_bipush (v := nI 8) hx hb dX6_sheet_12 (by decide) ?_
    refine lv_icmp_eq (tgt := 36) hx hb dX6_sheet_14 (by decide) (fun q => absurd q (by decide)) (fun _ => ?_)
    refine lv_iload_n hx hb dX6_sheet_17 rfl (lv_at hl 2 rfl) ?_
    refine lv_bipush (v := nI 16) hx hb dX6_sheet_18 (by decide) ?_
    refine lv_icmp_eq (tgt := 36) hx hb dX6_sheet_20 (by decide) (fun q => absurd q (by decide)) (fun _ => ?_)
    refine lv_iload_n hx hb dX6_sheet_23 rfl (lv_at hl 2 rfl) ?_
    refine lv_bipush (v := nI 32) hx hb dX6_sheet_24 (by decide) ?_
    refine lv_icmp_eq (tgt := 36) hx hb dX6_sheet_26 (by decide) (fun _ => ?_) (fun q => absurd q (by decide))
    refine lv_iload_n hx hb dX6_sheet_36 rfl (lv_at hl 2 rfl) ?_
    refine lv_if_eq (tgt := 51) hx hb dX6_sheet_37 (by decide) (fun q => absurd q (by decide)) (fun _ => ?_)
    refine lv_iload_n hx hb dX6_sheet_40 rfl (lv_at hl 3 rfl) ?_
    refine lv_if_ge (tgt := 51) hx hb dX6_sheet_41 (by decide) (fun c_7 => ?_) (fun c_7 => ?_)
    · exact absurd c_7 hn0
    · refine lv_aload_n hx hb dX6_sheet_44 rfl (lv_at hl 0 rfl) ?_
      refine lv_ldc hx hb hown (hts _ q1647) dX6_sheet_45 ?_
      refine md_callI (y := yX6_errs) hx hb hml hown hts hK hI hM (met_errs f a (-1000000003 : Int32) 3 (by decide) (by decide)) q1486 q1488 qs21 q1489 ndX6_errs rfl (by rw [hRf]; decide) (by rw [hRl]; decide) hl.1 rfl (Nat.le_of_ble_eq_true rfl) dX6_sheet_47 (fun H locs hM => ?_)
      exact hret hM (by first | rfl | (simp only [iI, nI_0, nI_one]; grind)) dX6_sheet_50
set_option maxHeartbeats 400000 in
theorem met_sheet_b32 (f : Nat → Int32) (a : Nat → Nat → Int32) (sh : Nat) (hs : sh < 4) (n : Int32) (hn0 : 0 ≤ n) (hn1 : ¬ n ≤ nI 40) : MdF yX6_sheet cX6_sheet 5 (some .int) 2 42 [.int (nI sh), .int (nI 32), .int n] f a (some (.int (-1000000001 : Int32))) f (mErr a 1) := by
  refine MdF.ofI (by decide) rfl (Nat.le_of_ble_eq_true rfl) ?_
  intro p l e R s m args below meth c Q D h dA ls hx hb hml hRf hRl hts hown hK hI hM hl hret
  have hl : lv_has ls 5 [(0, .ref (h 0)), (1, .int (nI sh)), (2, .int (nI 32)), (3, .int n)] := hl
  refine lv_iload_n hx hb dX6_sheet_0 rfl (lv_at hl 1 rfl) ?_
  refine st_callI (y := yX6_isSheet) hx hb hml hown hts (met_isSheet (nI sh)) q1726 q1727 q70 q1728 ndX6_isSheet rfl (by rw [hRf]; decide) (by rw [hRl]; decide) ⟨Nat.zero_le _, Nat.zero_le _⟩ hl.1 rfl (Nat.le_of_ble_eq_true rfl) dX6_sheet_1 ?_
  refine w_if_eqT (tgt := 29) hx hb dX6_sheet_4 (by decide) (fun c_1 => ?_) (fun c_1 => ?_)
  · exact absurd (by first | exact (in_nat (by decide)).mpr ⟨_, by omega, rfl⟩ | exact (in_nat1 _ (by decide) (by decide)).mpr ⟨_, by omega, by omega, rfl⟩ | exact cow_in hN (by omega) | assumption) c_1
  · refine lv_iload_n hx hb dX6_sheet_7 rfl (lv_at hl 2 rfl) ?_
    refine lv_if_eq (tgt := 36) hx hb dX6_sheet_8 (by decide) (fun q => absurd q (by decide)) (fun _ => ?_)
    refine lv_iload_n hx hb dX6_sheet_11 rfl (lv_at hl 2 rfl) ?_
    refine lv_bipush (v := nI 8) hx hb dX6_sheet_12 (by decide) ?_
    refine lv_icmp_eq (tgt := 36) hx hb dX6_sheet_14 (by decide) (fun q => absurd q (by decide)) (fun _ => ?_)
    refine lv_iload_n hx hb dX6_sheet_17 rfl (lv_at hl 2 rfl) ?_
    refine lv_bipush (v := nI 16) hx hb dX6_sheet_18 (by decide) ?_
    refine lv_icmp_eq (tgt := 36) hx hb dX6_sheet_20 (by decide) (fun q => absurd q (by decide)) (fun _ => ?_)
    refine lv_iload_n hx hb dX6_sheet_23 rfl (lv_at hl 2 rfl) ?_
    refine lv_bipush (v := nI 32) hx hb dX6_sheet_24 (by decide) ?_
    refine lv_icmp_eq (tgt := 36) hx hb dX6_sheet_26 (by decide) (fun _ => ?_) (fun q => absurd q (by decide))
    refine lv_iload_n hx hb dX6_sheet_36 rfl (lv_at hl 2 rfl) ?_
    refine lv_if_eq (tgt := 51) hx hb dX6_sheet_37 (by decide) (fun q => absurd q (by decide)) (fun _ => ?_)
    refine lv_iload_n hx hb dX6_sheet_40 rfl (lv_at hl 3 rfl) ?_
    refine lv_if_ge (tgt := 51) hx hb dX6_sheet_41 (by decide) (fun c_7 => ?_) (fun c_7 => ?_)
    · refine lv_iload_n hx hb dX6_sheet_51 rfl (lv_at hl 2 rfl) ?_
      refine lv_if_eq (tgt := 68) hx hb dX6_sheet_52 (by decide) (fun q => absurd q (by decide)) (fun _ => ?_)
      refine lv_iload_n hx hb dX6_sheet_55 rfl (lv_at hl 3 rfl) ?_
      refine lv_bipush (v := nI 40) hx hb dX6_sheet_56 (by decide) ?_
      refine lv_icmp_le (tgt := 68) hx hb dX6_sheet_58 (by decide) (fun c_9 => ?_) (fun c_9 => ?_)
      · exact absurd c_9 hn1
      · refine lv_aload_n hx hb dX6_sheet_61 rfl (lv_at hl 0 rfl) ?_
        refine lv_ldc hx hb hown (hts _ q1485) dX6_sheet_62 ?_
        refine md_callI (y := yX6_errs) hx hb hml hown hts hK hI hM (met_errs f a (-1000000001 : Int32) 1 (by decide) (by decide)) q1486 q1488 qs21 q1489 ndX6_errs rfl (by rw [hRf]; decide) (by rw [hRl]; decide) hl.1 rfl (Nat.le_of_ble_eq_true rfl) dX6_sheet_64 (fun H locs hM => ?_)
        exact hret hM (by first | rfl | (simp only [iI, nI_0, nI_one]; grind)) dX6_sheet_67
    · exact absurd hn0 c_7
set_option maxHeartbeats 400000 in
theorem met_sheet_e (f : Nat → Int32) (a : Nat → Nat → Int32) (sh b n : Int32) (he : ¬ ((nI 0 ≤ sh ∧ sh ≤ nI 3) ∧ (b = 0 ∨ b = nI 8 ∨ b = nI 16 ∨ b = nI 32))) : MdF yX6_sheet cX6_sheet 5 (some .int) 2 42 [.int sh, .int b, .int n] f a (some (.int (-1000000001 : Int32))) f (mErr a 1) := by
  refine MdF.ofI (by decide) rfl (Nat.le_of_ble_eq_true rfl) ?_
  intro p l e R s m args below meth c Q D h dA ls hx hb hml hRf hRl hts hown hK hI hM hl hret
  have hl : lv_has ls 5 [(0, .ref (h 0)), (1, .int sh), (2, .int b), (3, .int n)] := hl
  refine lv_iload_n hx hb dX6_sheet_0 rfl (lv_at hl 1 rfl) ?_
  refine st_callI (y := yX6_isSheet) hx hb hml hown hts (met_isSheet sh) q1726 q1727 q70 q1728 ndX6_isSheet rfl (by rw [hRf]; decide) (by rw [hRl]; decide) ⟨Nat.zero_le _, Nat.zero_le _⟩ hl.1 rfl (Nat.le_of_ble_eq_true rfl) dX6_sheet_1 ?_
  refine w_if_eqT (tgt := 29) hx hb dX6_sheet_4 (by decide) (fun c_1 => ?_) (fun c_1 => ?_)
  · refine lv_aload_n hx hb dX6_sheet_29 rfl (lv_at hl 0 rfl) ?_
    refine lv_ldc hx hb hown (hts _ q1485) dX6_sheet_30 ?_
    refine md_callI (y := yX6_errs) hx hb hml hown hts hK hI hM (met_errs f a (-1000000001 : Int32) 1 (by decide) (by decide)) q1486 q1488 qs21 q1489 ndX6_errs rfl (by rw [hRf]; decide) (by rw [hRl]; decide) hl.1 rfl (Nat.le_of_ble_eq_true rfl) dX6_sheet_32 (fun H locs hM => ?_)
    exact hret hM (by first | rfl | (simp only [iI, nI_0, nI_one]; grind)) dX6_sheet_35
  · refine lv_iload_n hx hb dX6_sheet_7 rfl (lv_at hl 2 rfl) ?_
    refine lv_if_eq (tgt := 36) hx hb dX6_sheet_8 (by decide) (fun c_2 => ?_) (fun c_2 => ?_)
    · exact absurd ⟨c_1, Or.inl c_2⟩ he
    · refine lv_iload_n hx hb dX6_sheet_11 rfl (lv_at hl 2 rfl) ?_
      refine lv_bipush (v := nI 8) hx hb dX6_sheet_12 (by decide) ?_
      refine lv_icmp_eq (tgt := 36) hx hb dX6_sheet_14 (by decide) (fun c_3 => ?_) (fun c_3 => ?_)
      · exact absurd ⟨c_1, Or.inr (Or.inl c_3)⟩ he
      · refine lv_iload_n hx hb dX6_sheet_17 rfl (lv_at hl 2 rfl) ?_
        refine lv_bipush (v := nI 16) hx hb dX6_sheet_18 (by decide) ?_
        refine lv_icmp_eq (tgt := 36) hx hb dX6_sheet_20 (by decide) (fun c_4 => ?_) (fun c_4 => ?_)
        · exact absurd ⟨c_1, Or.inr (Or.inr (Or.inl c_4))⟩ he
        · refine lv_iload_n hx hb dX6_sheet_23 rfl (lv_at hl 2 rfl) ?_
          refine lv_bipush (v := nI 32) hx hb dX6_sheet_24 (by decide) ?_
          refine lv_icmp_eq (tgt := 36) hx hb dX6_sheet_26 (by decide) (fun c_5 => ?_) (fun c_5 => ?_)
          · exact absurd ⟨c_1, Or.inr (Or.inr (Or.inr c_5))⟩ he
          · refine lv_aload_n hx hb dX6_sheet_29 rfl (lv_at hl 0 rfl) ?_
            refine lv_ldc hx hb hown (hts _ q1485) dX6_sheet_30 ?_
            refine md_callI (y := yX6_errs) hx hb hml hown hts hK hI hM (met_errs f a (-1000000001 : Int32) 1 (by decide) (by decide)) q1486 q1488 qs21 q1489 ndX6_errs rfl (by rw [hRf]; decide) (by rw [hRl]; decide) hl.1 rfl (Nat.le_of_ble_eq_true rfl) dX6_sheet_32 (fun H locs hM => ?_)
            exact hret hM (by first | rfl | (simp only [iI, nI_0, nI_one]; grind)) dX6_sheet_35
