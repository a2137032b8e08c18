/-! the model: acts, 10 (printed by model17.py) -/
set_option maxRecDepth 100000
theorem ndX6_write : yX6_write.cls = RX6 ∧ yX6_write.cls ≠ "java/lang/invoke/MethodHandle" ∧ yX6_write.cls ≠ "java/lang/invoke/VarHandle" ∧ (parseMethodDescriptor yX6_write.desc).map (fun d => d.parameters.length) = some 3 := by decide +kernel
set_option maxHeartbeats 400000 in
theorem met_write_ok (f : Nat → Int32) (a : Nat → Nat → Int32) (sh : Nat) (hs : sh < 4) (i : Nat) (v : Int32) (hb0 : ¬ a 6 sh = 0) (hz : okN (a 7 sh) 40) (hi : i < cl (a 7 sh)) : MdF yX6_write cX6_write 4 (some .int) 2 42 [.int (nI sh), .int (nI i), .int v] f a (some (.int (nI 1))) f (va_up a 8 (upd (a 8) (40 * sh + i) (narF (a 6 sh) v))) := by
  refine MdF.ofI (by decide) rfl (Nat.le_of_ble_eq_true rfl) ?_
  intro p l e R s m args below meth c Q D h dA ls hx hb hml hRf hRl hts hown hK hI hM hl hret
  have hl : lv_has ls 4 [(0, .ref (h 0)), (1, .int (nI sh)), (2, .int (nI i)), (3, .int v)] := hl
  have hz2 := hz.2
  refine lv_iload_n hx hb dX6_write_0 rfl (lv_at hl 1 rfl) ?_
  refine st_callI (y := yX6_isSheet) hx hb hml hown hts (met_isSheet (nI sh)) q1726 q1727 q70 q1728 ndX6_isSheet rfl (by rw [hRf]; decide) (by rw [hRl]; decide) ⟨Nat.zero_le _, Nat.zero_le _⟩ hl.1 rfl (Nat.le_of_ble_eq_true rfl) dX6_write_1 ?_
  refine w_if_neT (tgt := 14) hx hb dX6_write_4 (by decide) (fun c_1 => ?_) (fun c_1 => ?_)
  · refine lv_aload_n hx hb dX6_write_14 rfl (lv_at hl 0 rfl) ?_
    refine md_get (v := .ref (h 6)) hx hb hts hown hK hM 15 (by decide) q1405 rfl rfl dX6_write_15 ?_
    refine lv_iload_n hx hb dX6_write_18 rfl (lv_at hl 1 rfl) ?_
    refine md_iald hx hb hK hM 6 rfl sh ⟨by omega, by decide, rfl⟩ dX6_write_19 ?_
    refine lv_if_ne (tgt := 30) hx hb dX6_write_20 (by decide) (fun c_2 => ?_) (fun c_2 => ?_)
    · refine lv_iload_n hx hb dX6_write_30 rfl (lv_at hl 2 rfl) ?_
      refine lv_iconst (v := nI 0) hx hb dX6_write_31 (by decide) ?_
      refine lv_aload_n hx hb dX6_write_32 rfl (lv_at hl 0 rfl) ?_
      refine md_get (v := .ref (h 7)) hx hb hts hown hK hM 16 (by decide) q1406 rfl rfl dX6_write_33 ?_
      refine lv_iload_n hx hb dX6_write_36 rfl (lv_at hl 1 rfl) ?_
      refine md_iald hx hb hK hM 7 rfl sh ⟨by omega, by decide, rfl⟩ dX6_write_37 ?_
      refine w_top (nI (cl (a 7 sh))) (hz.1) ?_
      refine lv_iconst (v := nI 1) hx hb dX6_write_38 (by decide) ?_
      refine w_isubN hx hb (by omega) dX6_write_39 ?_
      refine st_callI (y := yX6_in) hx hb hml hown hts (met_in (nI i) (nI 0) (nI ((cl (a 7 sh)) - 1))) q1482 q1483 q70 q1484 ndX6_in rfl (by rw [hRf]; decide) (by rw [hRl]; decide) ⟨Nat.zero_le _, Nat.zero_le _⟩ hl.1 rfl (Nat.le_of_ble_eq_true rfl) dX6_write_40 ?_
      refine w_if_neT (tgt := 53) hx hb dX6_write_43 (by decide) (fun c_3 => ?_) (fun c_3 => ?_)
      · refine lv_aload_n hx hb dX6_write_53 rfl (lv_at hl 0 rfl) ?_
        refine md_get (v := .ref (h 8)) hx hb hts hown hK hM 17 (by decide) q1407 rfl rfl dX6_write_54 ?_
        refine lv_bipush (v := nI 40) hx hb dX6_write_57 (by decide) ?_
        refine lv_iload_n hx hb dX6_write_59 rfl (lv_at hl 1 rfl) ?_
        refine w_imulN hx hb dX6_write_60 ?_
        refine lv_iload_n hx hb dX6_write_61 rfl (lv_at hl 2 rfl) ?_
        refine w_iaddN hx hb dX6_write_62 ?_
        refine lv_aload_n hx hb dX6_write_63 rfl (lv_at hl 0 rfl) ?_
        refine md_get (v := .ref (h 6)) hx hb hts hown hK hM 15 (by decide) q1405 rfl rfl dX6_write_64 ?_
        refine lv_iload_n hx hb dX6_write_67 rfl (lv_at hl 1 rfl) ?_
        refine md_iald hx hb hK hM 6 rfl sh ⟨by omega, by decide, rfl⟩ dX6_write_68 ?_
        refine lv_iload_n hx hb dX6_write_69 rfl (lv_at hl 3 rfl) ?_
        refine st_callI (y := yX6_narrow) hx hb hml hown hts (met_narrow (a 6 sh) v) q1789 q1790 q70 q1791 ndX6_narrow rfl (by rw [hRf]; decide) (by rw [hRl]; decide) ⟨Nat.zero_le _, Nat.zero_le _⟩ hl.1 rfl (Nat.le_of_ble_eq_true rfl) dX6_write_70 ?_
        refine md_iast hx hb hK hI hM 8 rfl ((40 * sh) + i) ⟨by omega, by decide, rfl⟩ rfl dX6_write_73 (fun H locs hM => ?_)
        refine lv_iconst (v := nI 1) hx hb dX6_write_74 (by decide) ?_
        exact hret hM (by first | rfl | (simp only [iI, nI_0, nI_one]; grind)) dX6_write_75
      · exact absurd ((in_nat (by omega)).mpr ⟨_, by omega, rfl⟩) c_3
    · exact absurd c_2 hb0
  · exact absurd (by first | exact (in_nat (by decide)).mpr ⟨_, by omega, rfl⟩ | exact (in_nat1 _ (by decide) (by decide)).mpr ⟨_, by omega, by omega, rfl⟩ | exact cow_in hN (by omega) | assumption) c_1
set_option maxHeartbeats 400000 in
theorem met_write_n (f : Nat → Int32) (a : Nat → Nat → Int32) (sh : Nat) (hs : sh < 4) (i v : Int32) (hb0 : a 6 sh = 0) : MdF yX6_write cX6_write 4 (some .int) 2 42 [.int (nI sh), .int i, .int v] f a (some (.int (-1000000002 : Int32))) f (mErr a 2) := by
  refine MdF.ofI (by decide) rfl (Nat.le_of_ble_eq_true rfl) ?_
  intro p l e R s m args below meth c Q D h dA ls hx hb hml hRf hRl hts hown hK hI hM hl hret
  have hl : lv_has ls 4 [(0, .ref (h 0)), (1, .int (nI sh)), (2, .int i), (3, .int v)] := hl
  refine lv_iload_n hx hb dX6_write_0 rfl (lv_at hl 1 rfl) ?_
  refine st_callI (y := yX6_isSheet) hx hb hml hown hts (met_isSheet (nI sh)) q1726 q1727 q70 q1728 ndX6_isSheet rfl (by rw [hRf]; decide) (by rw [hRl]; decide) ⟨Nat.zero_le _, Nat.zero_le _⟩ hl.1 rfl (Nat.le_of_ble_eq_true rfl) dX6_write_1 ?_
  refine w_if_neT (tgt := 14) hx hb dX6_write_4 (by decide) (fun c_1 => ?_) (fun c_1 => ?_)
  · refine lv_aload_n hx hb dX6_write_14 rfl (lv_at hl 0 rfl) ?_
    refine md_get (v := .ref (h 6)) hx hb hts hown hK hM 15 (by decide) q1405 rfl rfl dX6_write_15 ?_
    refine lv_iload_n hx hb dX6_write_18 rfl (lv_at hl 1 rfl) ?_
    refine md_iald hx hb hK hM 6 rfl sh ⟨by omega, by decide, rfl⟩ dX6_write_19 ?_
    refine lv_if_ne (tgt := 30) hx hb dX6_write_20 (by decide) (fun c_2 => ?_) (fun c_2 => ?_)
    · exact absurd hb0 c_2
    · refine lv_aload_n hx hb dX6_write_23 rfl (lv_at hl 0 rfl) ?_
      refine lv_ldc hx hb hown (hts _ q1605) dX6_write_24 ?_
      refine md_callI (y := yX6_errs) hx hb hml hown hts hK hI hM (met_errs f a (-1000000002 : Int32) 2 (by decide) (by decide)) q1486 q1488 qs21 q1489 ndX6_errs rfl (by rw [hRf]; decide) (by rw [hRl]; decide) hl.1 rfl (Nat.le_of_ble_eq_true rfl) dX6_write_26 (fun H locs hM => ?_)
      exact hret hM (by first | rfl | (simp only [iI, nI_0, nI_one]; grind)) dX6_write_29
  · exact absurd (by first | exact (in_nat (by decide)).mpr ⟨_, by omega, rfl⟩ | exact (in_nat1 _ (by decide) (by decide)).mpr ⟨_, by omega, by omega, rfl⟩ | exact cow_in hN (by omega) | assumption) c_1
set_option maxHeartbeats 400000 in
theorem met_write_i (f : Nat → Int32) (a : Nat → Nat → Int32) (sh : Nat) (hs : sh < 4) (i v : Int32) (hb0 : ¬ a 6 sh = 0) (hi : ¬ (nI 0 ≤ i ∧ i ≤ a 7 sh - nI 1)) : MdF yX6_write cX6_write 4 (some .int) 2 42 [.int (nI sh), .int i, .int v] f a (some (.int (-1000000001 : Int32))) f (mErr a 1) := by
  refine MdF.ofI (by decide) rfl (Nat.le_of_ble_eq_true rfl) ?_
  intro p l e R s m args below meth c Q D h dA ls hx hb hml hRf hRl hts hown hK hI hM hl hret
  have hl : lv_has ls 4 [(0, .ref (h 0)), (1, .int (nI sh)), (2, .int i), (3, .int v)] := hl
  refine lv_iload_n hx hb dX6_write_0 rfl (lv_at hl 1 rfl) ?_
  refine st_callI (y := yX6_isSheet) hx hb hml hown hts (met_isSheet (nI sh)) q1726 q1727 q70 q1728 ndX6_isSheet rfl (by rw [hRf]; decide) (by rw [hRl]; decide) ⟨Nat.zero_le _, Nat.zero_le _⟩ hl.1 rfl (Nat.le_of_ble_eq_true rfl) dX6_write_1 ?_
  refine w_if_neT (tgt := 14) hx hb dX6_write_4 (by decide) (fun c_1 => ?_) (fun c_1 => ?_)
  · refine lv_aload_n hx hb dX6_write_14 rfl (lv_at hl 0 rfl) ?_
    refine md_get (v := .ref (h 6)) hx hb hts hown hK hM 15 (by decide) q1405 rfl rfl dX6_write_15 ?_
    refine lv_iload_n hx hb dX6_write_18 rfl (lv_at hl 1 rfl) ?_
    refine md_iald hx hb hK hM 6 rfl sh ⟨by omega, by decide, rfl⟩ dX6_write_19 ?_
    refine lv_if_ne (tgt := 30) hx hb dX6_write_20 (by decide) (fun c_2 => ?_) (fun c_2 => ?_)
    · refine lv_iload_n hx hb dX6_write_30 rfl (lv_at hl 2 rfl) ?_
      refine lv_iconst (v := nI 0) hx hb dX6_write_31 (by decide) ?_
      refine lv_aload_n hx hb dX6_write_32 rfl (lv_at hl 0 rfl) ?_
      refine md_get (v := .ref (h 7)) hx hb hts hown hK hM 16 (by decide) q1406 rfl rfl dX6_write_33 ?_
      refine lv_iload_n hx hb dX6_write_36 rfl (lv_at hl 1 rfl) ?_
      refine md_iald hx hb hK hM 7 rfl sh ⟨by omega, by decide, rfl⟩ dX6_write_37 ?_
      refine lv_iconst (v := nI 1) hx hb dX6_write_38 (by decide) ?_
      refine lv_isub hx hb dX6_write_39 ?_
      refine st_callI (y := yX6_in) hx hb hml hown hts (met_in i (nI 0) ((a 7 sh) - (nI 1))) q1482 q1483 q70 q1484 ndX6_in rfl (by rw [hRf]; decide) (by rw [hRl]; decide) ⟨Nat.zero_le _, Nat.zero_le _⟩ hl.1 rfl (Nat.le_of_ble_eq_true rfl) dX6_write_40 ?_
      refine w_if_neT (tgt := 53) hx hb dX6_write_43 (by decide) (fun c_3 => ?_) (fun c_3 => ?_)
      · exact absurd c_3 hi
      · refine lv_aload_n hx hb dX6_write_46 rfl (lv_at hl 0 rfl) ?_
        refine lv_ldc hx hb hown (hts _ q1485) dX6_write_47 ?_
        refine md_callI (y := yX6_errs) hx hb hml hown hts hK hI hM (met_errs f a (-1000000001 : Int32) 1 (by decide) (by decide)) q1486 q1488 qs21 q1489 ndX6_errs rfl (by rw [hRf]; decide) (by rw [hRl]; decide) hl.1 rfl (Nat.le_of_ble_eq_true rfl) dX6_write_49 (fun H locs hM => ?_)
        exact hret hM (by first | rfl | (simp only [iI, nI_0, nI_one]; grind)) dX6_write_52
    · exact absurd c_2 hb0
  · exact absurd (by first | exact (in_nat (by decide)).mpr ⟨_, by omega, rfl⟩ | exact (in_nat1 _ (by decide) (by decide)).mpr ⟨_, by omega, by omega, rfl⟩ | exact cow_in hN (by omega) | assumption) c_1
set_option maxHeartbeats 400000 in
theorem met_write_e (f : Nat → Int32) (a : Nat → Nat → Int32) (sh i v : Int32) (he : ¬ (nI 0 ≤ sh ∧ sh ≤ nI 3)) : MdF yX6_write cX6_write 4 (some .int) 2 42 [.int sh, .int i, .int v] f a (some (.int (-1000000001 : Int32))) f (mErr a 1) := by
  refine MdF.ofI (by decide) rfl (Nat.le_of_ble_eq_true rfl) ?_
  intro p l e R s m args below meth c Q D h dA ls hx hb hml hRf hRl hts hown hK hI hM hl hret
  have hl : lv_has ls 4 [(0, .ref (h 0)), (1, .int sh), (2, .int i), (3, .int v)] := hl
  refine lv_iload_n hx hb dX6_write_0 rfl (lv_at hl 1 rfl) ?_
  refine st_callI (y := yX6_isSheet) hx hb hml hown hts (met_isSheet sh) q1726 q1727 q70 q1728 ndX6_isSheet rfl (by rw [hRf]; decide) (by rw [hRl]; decide) ⟨Nat.zero_le _, Nat.zero_le _⟩ hl.1 rfl (Nat.le_of_ble_eq_true rfl) dX6_write_1 ?_
  refine w_if_neT (tgt := 14) hx hb dX6_write_4 (by decide) (fun c_1 => ?_) (fun c_1 => ?_)
  · exact absurd c_1 he
  · refine lv_aload_n hx hb dX6_write_7 rfl (lv_at hl 0 rfl) ?_
    refine lv_ldc hx hb hown (hts _ q1485) dX6_write_8 ?_
    refine md_callI (y := yX6_errs) hx hb hml hown hts hK hI hM (met_errs f a (-1000000001 : Int32) 1 (by decide) (by decide)) q1486 q1488 qs21 q1489 ndX6_errs rfl (by rw [hRf]; decide) (by rw [hRl]; decide) hl.1 rfl (Nat.le_of_ble_eq_true rfl) dX6_write_10 (fun H locs hM => ?_)
    exact hret hM (by first | rfl | (simp only [iI, nI_0, nI_one]; grind)) dX6_write_13
/-- the first of n places from k on at which two rows differ -/
def jdN (x y : Nat → Int32) : Nat → Nat → Nat
  | 0, k => k
  | n + 1, k => if x k = y k then jdN x y n (k + 1) else k
theorem jdN_le (x y : Nat → Int32) : ∀ n k, jdN x y n k ≤ k + n := by
  intro n
  induction n with
  | zero => intro k; exact Nat.le_refl _
  | succ n ih =>
    intro k
    unfold jdN
    split
    · have := ih (k + 1); omega
    · omega
theorem ndX6_judge : yX6_judge.cls = RX6 ∧ yX6_judge.cls ≠ "java/lang/invoke/MethodHandle" ∧ yX6_judge.cls ≠ "java/lang/invoke/VarHandle" ∧ (parseMethodDescriptor yX6_judge.desc).map (fun d => d.parameters.length) = some 2 := by decide +kernel
set_option maxHeartbeats 400000 in
theorem met_judge_ok (f : Nat → Int32) (a : Nat → Nat → Int32) (sh : Nat) (hs : sh < 4) (i : Nat) (hi : i < cl (a 1 3)) (hN : okN (a 1 3) 5) (hb0 : ¬ a 6 sh = 0) (hz : okN (a 7 sh) 40) (hq : okN (a 1 (58 + 14 * i + 3)) 10) : MdF yX6_judge cX6_judge 4 (some .int) 2 43 [.int (nI sh), .int (nI i)] f a (some (.int (if jdN (fun q => a 8 (40 * sh + q)) (fun q => a 1 (58 + 14 * i + (4 + q))) (min (cl (a 7 sh)) (cl (a 1 (58 + 14 * i + 3)))) 0 = cl (a 7 sh) ∧ jdN (fun q => a 8 (40 * sh + q)) (fun q => a 1 (58 + 14 * i + (4 + q))) (min (cl (a 7 sh)) (cl (a 1 (58 + 14 * i + 3)))) 0 = cl (a 1 (58 + 14 * i + 3)) then (-1 : Int32) else nI (jdN (fun q => a 8 (40 * sh + q)) (fun q => a 1 (58 + 14 * i + (4 + q))) (min (cl (a 7 sh)) (cl (a 1 (58 + 14 * i + 3)))) 0)))) f a := by
  refine MdF.ofI (by decide) rfl (Nat.le_of_ble_eq_true rfl) ?_
  intro p l e R s m args below meth c Q D h dA ls hx hb hml hRf hRl hts hown hK hI hM hl hret
  have hl : lv_has ls 4 [(0, .ref (h 0)), (1, .int (nI sh)), (2, .int (nI i))] := hl
  have hN2 := hN.2
  have hz2 := hz.2
  have hq2 := hq.2
  refine lv_iload_n hx hb dX6_judge_0 rfl (lv_at hl 1 rfl) ?_
  refine st_callI (y := yX6_isSheet) hx hb hml hown hts (met_isSheet (nI sh)) q1726 q1727 q70 q1728 ndX6_isSheet rfl (by rw [hRf]; decide) (by rw [hRl]; decide) ⟨Nat.zero_le _, Nat.zero_le _⟩ hl.1 rfl (Nat.le_of_ble_eq_true rfl) dX6_judge_1 ?_
  refine w_if_eqT (tgt := 15) hx hb dX6_judge_4 (by decide) (fun c_1 => ?_) (fun c_1 => ?_)
  · exact absurd (by first | exact (in_nat (by decide)).mpr ⟨_, by omega, rfl⟩ | exact (in_nat1 _ (by decide) (by decide)).mpr ⟨_, by omega, by omega, rfl⟩ | exact cow_in hN (by omega) | assumption) c_1
  · refine lv_aload_n hx hb dX6_judge_7 rfl (lv_at hl 0 rfl) ?_
    refine lv_iload_n hx hb dX6_judge_8 rfl (lv_at hl 2 rfl) ?_
    refine md_callI (y := yX6_isCow) hx hb hml hown hts hK hI hM (met_isCow f a (nI i)) q1574 q1576 qs37 q1577 ndX6_isCow rfl (by rw [hRf]; decide) (by rw [hRl]; decide) hl.1 rfl (Nat.le_of_ble_eq_true rfl) dX6_judge_9 (fun H locs hM => ?_)
    refine w_if_neT (tgt := 22) hx hb dX6_judge_12 (by decide) (fun c_2 => ?_) (fun c_2 => ?_)
    · refine lv_aload_n hx hb dX6_judge_22 rfl (lv_at hl 0 rfl) ?_
      refine md_get (v := .ref (h 6)) hx hb hts hown hK hM 15 (by decide) q1405 rfl rfl dX6_judge_23 ?_
      refine lv_iload_n hx hb dX6_judge_26 rfl (lv_at hl 1 rfl) ?_
      refine md_iald hx hb hK hM 6 rfl sh ⟨by omega, by decide, rfl⟩ dX6_judge_27 ?_
      refine lv_if_ne (tgt := 38) hx hb dX6_judge_28 (by decide) (fun c_3 => ?_) (fun c_3 => ?_)
      · refine lv_iconst (v := nI 0) hx hb dX6_judge_38 (by decide) ?_
        refine lv_istore_n (lv' := [(3, .int (nI 0)), (0, .ref (h 0)), (1, .int (nI sh)), (2, .int (nI i))]) hx hb dX6_judge_39 rfl hl (by decide) rfl (fun ls hl => ?_)
        have loop40 : ∀ (fu : Nat) (k : Nat), (k ≤ min (cl (a 7 sh)) (cl (a 1 (58 + 14 * i + 3)))) → (min (cl (a 7 sh)) (cl (a 1 (58 + 14 * i + 3))) < k + fu) → (jdN (fun q => a 8 (40 * sh + q)) (fun q => a 1 (58 + 14 * i + (4 + q))) (min (cl (a 7 sh)) (cl (a 1 (58 + 14 * i + 3))) - k) k = jdN (fun q => a 8 (40 * sh + q)) (fun q => a 1 (58 + 14 * i + (4 + q))) (min (cl (a 7 sh)) (cl (a 1 (58 + 14 * i + 3)))) 0) → ∀ (H : Heap) (locs : List Loc), mdH D h dA s.heap H locs f a → ∀ (ls : Array Slot), lv_has ls 4 [(3, .int (nI k)), (0, .ref (h 0)), (1, .int (nI sh)), (2, .int (nI i))] → W p l e R s m args below meth c H locs 0 0 Q (F0 m 40 ls []) := by
          intro fu
          induction fu with
          | zero =>
            intro k hk hn ee
            omega
          | succ fu ih40 =>
            intro k hk hn ee H locs hM ls hl
            refine lv_iload_n hx hb dX6_judge_40 rfl (lv_at hl 0 rfl) ?_
            refine lv_aload_n hx hb dX6_judge_41 rfl (lv_at hl 1 rfl) ?_
            refine md_get (v := .ref (h 7)) hx hb hts hown hK hM 16 (by decide) q1406 rfl rfl dX6_judge_42 ?_
            refine lv_iload_n hx hb dX6_judge_45 rfl (lv_at hl 2 rfl) ?_
            refine md_iald hx hb hK hM 7 rfl sh ⟨by omega, by decide, rfl⟩ dX6_judge_46 ?_
            refine w_top (nI (cl (a 7 sh))) (hz.1) ?_
            refine w_icmp_geN (tgt := 88) hx hb (by omega) (by omega) dX6_judge_47 (by decide) (fun c_4 => ?_) (fun c_4 => ?_)
            · have hJ : jdN (fun q => a 8 (40 * sh + q)) (fun q => a 1 (58 + 14 * i + (4 + q))) (min (cl (a 7 sh)) (cl (a 1 (58 + 14 * i + 3)))) 0 = k := by rw [← ee, show min (cl (a 7 sh)) (cl (a 1 (58 + 14 * i + 3))) - k = 0 by omega, jdN]
              refine lv_iload_n hx hb dX6_judge_88 rfl (lv_at hl 0 rfl) ?_
              refine lv_aload_n hx hb dX6_judge_89 rfl (lv_at hl 1 rfl) ?_
              refine md_get (v := .ref (h 7)) hx hb hts hown hK hM 16 (by decide) q1406 rfl rfl dX6_judge_90 ?_
              refine lv_iload_n hx hb dX6_judge_93 rfl (lv_at hl 2 rfl) ?_
              refine md_iald hx hb hK hM 7 rfl sh ⟨by omega, by decide, rfl⟩ dX6_judge_94 ?_
              refine w_top (nI (cl (a 7 sh))) (hz.1) ?_
              refine w_icmp_neN (tgt := 112) hx hb (by omega) (by omega) dX6_judge_95 (by decide) (fun c_5 => ?_) (fun c_5 => ?_)
              · refine lv_iload_n hx hb dX6_judge_112 rfl (lv_at hl 0 rfl) ?_
                exact hret hM (by rw [hJ, if_neg (fun q => c_5 q.1)]) dX6_judge_113
              · refine lv_iload_n hx hb dX6_judge_98 rfl (lv_at hl 0 rfl) ?_
                refine lv_aload_n hx hb dX6_judge_99 rfl (lv_at hl 1 rfl) ?_
                refine lv_iload_n hx hb dX6_judge_100 rfl (lv_at hl 3 rfl) ?_
                refine lv_iconst (v := nI 3) hx hb dX6_judge_101 (by decide) ?_
                refine md_callI (y := yX6_its) hx hb hml hown hts hK hI hM (met_its f a i 3 (by omega)) q1557 q1559 qs35 q1560 ndX6_its rfl (by rw [hRf]; decide) (by rw [hRl]; decide) hl.1 rfl (Nat.le_of_ble_eq_true rfl) dX6_judge_102 (fun H locs hM => ?_)
                refine w_top (nI (cl (a 1 (58 + 14 * i + 3)))) (hq.1) ?_
                refine w_icmp_neN (tgt := 112) hx hb (by omega) (by omega) dX6_judge_105 (by decide) (fun c_6 => ?_) (fun c_6 => ?_)
                · refine lv_iload_n hx hb dX6_judge_112 rfl (lv_at hl 0 rfl) ?_
                  exact hret hM (by rw [hJ, if_neg (fun q => c_6 q.2)]) dX6_judge_113
                · refine lv_iconst (v := (-1 : Int32)) hx hb dX6_judge_108 (by decide) ?_
                  refine lv_goto (tgt := 113) hx hb dX6_judge_109 (by decide) ?_
                  exact hret hM (by rw [hJ, if_pos ⟨c_5, c_6⟩]) dX6_judge_113
            · refine lv_iload_n hx hb dX6_judge_50 rfl (lv_at hl 0 rfl) ?_
              refine lv_aload_n hx hb dX6_judge_51 rfl (lv_at hl 1 rfl) ?_
              refine lv_iload_n hx hb dX6_judge_52 rfl (lv_at hl 3 rfl) ?_
              refine lv_iconst (v := nI 3) hx hb dX6_judge_53 (by decide) ?_
              refine md_callI (y := yX6_its) hx hb hml hown hts hK hI hM (met_its f a i 3 (by omega)) q1557 q1559 qs35 q1560 ndX6_its rfl (by rw [hRf]; decide) (by rw [hRl]; decide) hl.1 rfl (Nat.le_of_ble_eq_true rfl) dX6_judge_54 (fun H locs hM => ?_)
              refine w_top (nI (cl (a 1 (58 + 14 * i + 3)))) (hq.1) ?_
              refine w_icmp_geN (tgt := 88) hx hb (by omega) (by omega) dX6_judge_57 (by decide) (fun c_7 => ?_) (fun c_7 => ?_)
              · have hJ : jdN (fun q => a 8 (40 * sh + q)) (fun q => a 1 (58 + 14 * i + (4 + q))) (min (cl (a 7 sh)) (cl (a 1 (58 + 14 * i + 3)))) 0 = k := by rw [← ee, show min (cl (a 7 sh)) (cl (a 1 (58 + 14 * i + 3))) - k = 0 by omega, jdN]
                refine lv_iload_n hx hb dX6_judge_88 rfl (lv_at hl 0 rfl) ?_
                refine lv_aload_n hx hb dX6_judge_89 rfl (lv_at hl 1 rfl) ?_
                refine md_get (v := .ref (h 7)) hx hb hts hown hK hM 16 (by decide) q1406 rfl rfl dX6_judge_90 ?_
                refine lv_iload_n hx hb dX6_judge_93 rfl (lv_at hl 2 rfl) ?_
                refine md_iald hx hb hK hM 7 rfl sh ⟨by omega, by decide, rfl⟩ dX6_judge_94 ?_
                refine w_top (nI (cl (a 7 sh))) (hz.1) ?_
                refine w_icmp_neN (tgt := 112) hx hb (by omega) (by omega) dX6_judge_95 (by decide) (fun c_8 => ?_) (fun c_8 => ?_)
                · refine lv_iload_n hx hb dX6_judge_112 rfl (lv_at hl 0 rfl) ?_
                  exact hret hM (by rw [hJ, if_neg (fun q => c_8 q.1)]) dX6_judge_113
                · refine lv_iload_n hx hb dX6_judge_98 rfl (lv_at hl 0 rfl) ?_
                  refine lv_aload_n hx hb dX6_judge_99 rfl (lv_at hl 1 rfl) ?_
                  refine lv_iload_n hx hb dX6_judge_100 rfl (lv_at hl 3 rfl) ?_
                  refine lv_iconst (v := nI 3) hx hb dX6_judge_101 (by decide) ?_
                  refine md_callI (y := yX6_its) hx hb hml hown hts hK hI hM (met_its f a i 3 (by omega)) q1557 q1559 qs35 q1560 ndX6_its rfl (by rw [hRf]; decide) (by rw [hRl]; decide) hl.1 rfl (Nat.le_of_ble_eq_true rfl) dX6_judge_102 (fun H locs hM => ?_)
                  refine w_top (nI (cl (a 1 (58 + 14 * i + 3)))) (hq.1) ?_
                  refine w_icmp_neN (tgt := 112) hx hb (by omega) (by omega) dX6_judge_105 (by decide) (fun c_9 => ?_) (fun c_9 => ?_)
                  · refine lv_iload_n hx hb dX6_judge_112 rfl (lv_at hl 0 rfl) ?_
                    exact hret hM (by rw [hJ, if_neg (fun q => c_9 q.2)]) dX6_judge_113
                  · refine lv_iconst (v := (-1 : Int32)) hx hb dX6_judge_108 (by decide) ?_
                    refine lv_goto (tgt := 113) hx hb dX6_judge_109 (by decide) ?_
                    exact hret hM (by rw [hJ, if_pos ⟨c_8, c_9⟩]) dX6_judge_113
              · refine lv_aload_n hx hb dX6_judge_60 rfl (lv_at hl 1 rfl) ?_
                refine md_get (v := .ref (h 8)) hx hb hts hown hK hM 17 (by decide) q1407 rfl rfl dX6_judge_61 ?_
                refine lv_bipush (v := nI 40) hx hb dX6_judge_64 (by decide) ?_
                refine lv_iload_n hx hb dX6_judge_66 rfl (lv_at hl 2 rfl) ?_
                refine w_imulN hx hb dX6_judge_67 ?_
                refine lv_iload_n hx hb dX6_judge_68 rfl (lv_at hl 0 rfl) ?_
                refine w_iaddN hx hb dX6_judge_69 ?_
                refine md_iald hx hb hK hM 8 rfl ((40 * sh) + k) ⟨by omega, by decide, rfl⟩ dX6_judge_70 ?_
                refine lv_aload_n hx hb dX6_judge_71 rfl (lv_at hl 1 rfl) ?_
                refine lv_iload_n hx hb dX6_judge_72 rfl (lv_at hl 3 rfl) ?_
                refine lv_iconst (v := nI 4) hx hb dX6_judge_73 (by decide) ?_
                refine lv_iload_n hx hb dX6_judge_74 rfl (lv_at hl 0 rfl) ?_
                refine w_iaddN hx hb dX6_judge_75 ?_
                refine md_callI (y := yX6_its) hx hb hml hown hts hK hI hM (met_its f a i (4 + k) (by omega)) q1557 q1559 qs35 q1560 ndX6_its rfl (by rw [hRf]; decide) (by rw [hRl]; decide) hl.1 rfl (Nat.le_of_ble_eq_true rfl) dX6_judge_76 (fun H locs hM => ?_)
                refine lv_icmp_ne (tgt := 88) hx hb dX6_judge_79 (by decide) (fun c_10 => ?_) (fun c_10 => ?_)
                · have hJ : jdN (fun q => a 8 (40 * sh + q)) (fun q => a 1 (58 + 14 * i + (4 + q))) (min (cl (a 7 sh)) (cl (a 1 (58 + 14 * i + 3)))) 0 = k := by rw [← ee, show min (cl (a 7 sh)) (cl (a 1 (58 + 14 * i + 3))) - k = (min (cl (a 7 sh)) (cl (a 1 (58 + 14 * i + 3))) - (k + 1)) + 1 by omega, jdN, if_neg c_10]
                  refine lv_iload_n hx hb dX6_judge_88 rfl (lv_at hl 0 rfl) ?_
                  refine lv_aload_n hx hb dX6_judge_89 rfl (lv_at hl 1 rfl) ?_
                  refine md_get (v := .ref (h 7)) hx hb hts hown hK hM 16 (by decide) q1406 rfl rfl dX6_judge_90 ?_
                  refine lv_iload_n hx hb dX6_judge_93 rfl (lv_at hl 2 rfl) ?_
                  refine md_iald hx hb hK hM 7 rfl sh ⟨by omega, by decide, rfl⟩ dX6_judge_94 ?_
                  refine w_top (nI (cl (a 7 sh))) (hz.1) ?_
                  refine w_icmp_neN (tgt := 112) hx hb (by omega) (by omega) dX6_judge_95 (by decide) (fun c_11 => ?_) (fun c_11 => ?_)
                  · refine lv_iload_n hx hb dX6_judge_112 rfl (lv_at hl 0 rfl) ?_
                    exact hret hM (by rw [hJ, if_neg (fun q => c_11 q.1)]) dX6_judge_113
                  · refine lv_iload_n hx hb dX6_judge_98 rfl (lv_at hl 0 rfl) ?_
                    refine lv_aload_n hx hb dX6_judge_99 rfl (lv_at hl 1 rfl) ?_
                    refine lv_iload_n hx hb dX6_judge_100 rfl (lv_at hl 3 rfl) ?_
                    refine lv_iconst (v := nI 3) hx hb dX6_judge_101 (by decide) ?_
                    refine md_callI (y := yX6_its) hx hb hml hown hts hK hI hM (met_its f a i 3 (by omega)) q1557 q1559 qs35 q1560 ndX6_its rfl (by rw [hRf]; decide) (by rw [hRl]; decide) hl.1 rfl (Nat.le_of_ble_eq_true rfl) dX6_judge_102 (fun H locs hM => ?_)
                    refine w_top (nI (cl (a 1 (58 + 14 * i + 3)))) (hq.1) ?_
                    refine w_icmp_neN (tgt := 112) hx hb (by omega) (by omega) dX6_judge_105 (by decide) (fun c_12 => ?_) (fun c_12 => ?_)
                    · refine lv_iload_n hx hb dX6_judge_112 rfl (lv_at hl 0 rfl) ?_
                      exact hret hM (by rw [hJ, if_neg (fun q => c_12 q.2)]) dX6_judge_113
                    · refine lv_iconst (v := (-1 : Int32)) hx hb dX6_judge_108 (by decide) ?_
                      refine lv_goto (tgt := 113) hx hb dX6_judge_109 (by decide) ?_
                      exact hret hM (by rw [hJ, if_pos ⟨c_11, c_12⟩]) dX6_judge_113
                · refine lv_iinc (v := nI (k + 1)) (lv' := [(3, .int (nI (k + 1))), (0, .ref (h 0)), (1, .int (nI sh)), (2, .int (nI i))]) hx hb dX6_judge_82 hl (k := 0) rfl (by rw [show Int32.ofInt 1 = nI 1 from by decide]; exact nI_add _ _) (by decide) rfl (fun ls hl => ?_)
                  refine lv_goto (tgt := 40) hx hb dX6_judge_85 (by decide) ?_
                  exact ih40 (k + 1) (by omega) (by omega) (by rw [← ee, show min (cl (a 7 sh)) (cl (a 1 (58 + 14 * i + 3))) - k = (min (cl (a 7 sh)) (cl (a 1 (58 + 14 * i + 3))) - (k + 1)) + 1 by omega, jdN, if_pos c_10]) _ _ hM ls (lv_sub hl [0, 1, 2, 3] rfl)
        exact loop40 (min (cl (a 7 sh)) (cl (a 1 (58 + 14 * i + 3))) + 1) 0 (by omega) (by omega) rfl _ _ hM ls (lv_sub hl [0, 1, 2, 3] rfl)
      · exact absurd c_3 hb0
    · exact absurd (by first | exact (in_nat (by decide)).mpr ⟨_, by omega, rfl⟩ | exact (in_nat1 _ (by decide) (by decide)).mpr ⟨_, by omega, by omega, rfl⟩ | exact cow_in hN (by omega) | assumption) c_2
set_option maxHeartbeats 400000 in
theorem met_judge_n (f : Nat → Int32) (a : Nat → Nat → Int32) (sh : Nat) (hs : sh < 4) (i : Nat) (hi : i < cl (a 1 3)) (hN : okN (a 1 3) 5) (hb0 : a 6 sh = 0) : MdF yX6_judge cX6_judge 4 (some .int) 2 43 [.int (nI sh), .int (nI i)] f a (some (.int (-1000000002 : Int32))) f (mErr a 2) := by
  refine MdF.ofI (by decide) rfl (Nat.le_of_ble_eq_true rfl) ?_
  intro p l e R s m args below meth c Q D h dA ls hx hb hml hRf hRl hts hown hK hI hM hl hret
  have hl : lv_has ls 4 [(0, .ref (h 0)), (1, .int (nI sh)), (2, .int (nI i))] := hl
  have hN2 := hN.2
  refine lv_iload_n hx hb dX6_judge_0 rfl (lv_at hl 1 rfl) ?_
  refine st_callI (y := yX6_isSheet) hx hb hml hown hts (met_isSheet (nI sh)) q1726 q1727 q70 q1728 ndX6_isSheet rfl (by rw [hRf]; decide) (by rw [hRl]; decide) ⟨Nat.zero_le _, Nat.zero_le _⟩ hl.1 rfl (Nat.le_of_ble_eq_true rfl) dX6_judge_1 ?_
  refine w_if_eqT (tgt := 15) hx hb dX6_judge_4 (by decide) (fun c_1 => ?_) (fun c_1 => ?_)
  · exact absurd (by first | exact (in_nat (by decide)).mpr ⟨_, by omega, rfl⟩ | exact (in_nat1 _ (by decide) (by decide)).mpr ⟨_, by omega, by omega, rfl⟩ | exact cow_in hN (by omega) | assumption) c_1
  · refine lv_aload_n hx hb dX6_judge_7 rfl (lv_at hl 0 rfl) ?_
    refine lv_iload_n hx hb dX6_judge_8 rfl (lv_at hl 2 rfl) ?_
    refine md_callI (y := yX6_isCow) hx hb hml hown hts hK hI hM (met_isCow f a (nI i)) q1574 q1576 qs37 q1577 ndX6_isCow rfl (by rw [hRf]; decide) (by rw [hRl]; decide) hl.1 rfl (Nat.le_of_ble_eq_true rfl) dX6_judge_9 (fun H locs hM => ?_)
    refine w_if_neT (tgt := 22) hx hb dX6_judge_12 (by decide) (fun c_2 => ?_) (fun c_2 => ?_)
    · refine lv_aload_n hx hb dX6_judge_22 rfl (lv_at hl 0 rfl) ?_
      refine md_get (v := .ref (h 6)) hx hb hts hown hK hM 15 (by decide) q1405 rfl rfl dX6_judge_23 ?_
      refine lv_iload_n hx hb dX6_judge_26 rfl (lv_at hl 1 rfl) ?_
      refine md_iald hx hb hK hM 6 rfl sh ⟨by omega, by decide, rfl⟩ dX6_judge_27 ?_
      refine lv_if_ne (tgt := 38) hx hb dX6_judge_28 (by decide) (fun c_3 => ?_) (fun c_3 => ?_)
      · exact absurd hb0 c_3
      · refine lv_aload_n hx hb dX6_judge_31 rfl (lv_at hl 0 rfl) ?_
        refine lv_ldc hx hb hown (hts _ q1605) dX6_judge_32 ?_
        refine md_callI (y := yX6_errs) hx hb hml hown hts hK hI hM (met_errs f a (-1000000002 : Int32) 2 (by decide) (by decide)) q1486 q1488 qs21 q1489 ndX6_errs rfl (by rw [hRf]; decide) (by rw [hRl]; decide) hl.1 rfl (Nat.le_of_ble_eq_true rfl) dX6_judge_34 (fun H locs hM => ?_)
        exact hret hM (by first | rfl | (simp only [iI, nI_0, nI_one]; grind)) dX6_judge_37
    · exact absurd (by first | exact (in_nat (by decide)).mpr ⟨_, by omega, rfl⟩ | exact (in_nat1 _ (by decide) (by decide)).mpr ⟨_, by omega, by omega, rfl⟩ | exact cow_in hN (by omega) | assumption) c_2
set_option maxHeartbeats 400000 in
theorem met_judge_e (f : Nat → Int32) (a : Nat → Nat → Int32) (sh v : Int32) (he : ¬ ((nI 0 ≤ sh ∧ sh ≤ nI 3) ∧ cowP (a 1) v)) : MdF yX6_judge cX6_judge 4 (some .int) 2 43 [.int sh, .int v] f a (some (.int (-1000000001 : Int32))) f (mErr a 1) := by
  refine MdF.ofI (by decide) rfl (Nat.le_of_ble_eq_true rfl) ?_
  intro p l e R s m args below meth c Q D h dA ls hx hb hml hRf hRl hts hown hK hI hM hl hret
  have hl : lv_has ls 4 [(0, .ref (h 0)), (1, .int sh), (2, .int v)] := hl
  refine lv_iload_n hx hb dX6_judge_0 rfl (lv_at hl 1 rfl) ?_
  refine st_callI (y := yX6_isSheet) hx hb hml hown hts (met_isSheet sh) q1726 q1727 q70 q1728 ndX6_isSheet rfl (by rw [hRf]; decide) (by rw [hRl]; decide) ⟨Nat.zero_le _, Nat.zero_le _⟩ hl.1 rfl (Nat.le_of_ble_eq_true rfl) dX6_judge_1 ?_
  refine w_if_eqT (tgt := 15) hx hb dX6_judge_4 (by decide) (fun c_1 => ?_) (fun c_1 => ?_)
  · refine lv_aload_n hx hb dX6_judge_15 rfl (lv_at hl 0 rfl) ?_
    refine lv_ldc hx hb hown (hts _ q1485) dX6_judge_16 ?_
    refine md_callI (y := yX6_errs) hx hb hml hown hts hK hI hM (met_errs f a (-1000000001 : Int32) 1 (by decide) (by decide)) q1486 q1488 qs21 q1489 ndX6_errs rfl (by rw [hRf]; decide) (by rw [hRl]; decide) hl.1 rfl (Nat.le_of_ble_eq_true rfl) dX6_judge_18 (fun H locs hM => ?_)
    exact hret hM (by first | rfl | (simp only [iI, nI_0, nI_one]; grind)) dX6_judge_21
  · refine lv_aload_n hx hb dX6_judge_7 rfl (lv_at hl 0 rfl) ?_
    refine lv_iload_n hx hb dX6_judge_8 rfl (lv_at hl 2 rfl) ?_
    refine md_callI (y := yX6_isCow) hx hb hml hown hts hK hI hM (met_isCow f a v) q1574 q1576 qs37 q1577 ndX6_isCow rfl (by rw [hRf]; decide) (by rw [hRl]; decide) hl.1 rfl (Nat.le_of_ble_eq_true rfl) dX6_judge_9 (fun H locs hM => ?_)
    refine w_if_neT (tgt := 22) hx hb dX6_judge_12 (by decide) (fun c_2 => ?_) (fun c_2 => ?_)
    · exact absurd ⟨c_1, c_2⟩ he
    · refine lv_aload_n hx hb dX6_judge_15 rfl (lv_at hl 0 rfl) ?_
      refine lv_ldc hx hb hown (hts _ q1485) dX6_judge_16 ?_
      refine md_callI (y := yX6_errs) hx hb hml hown hts hK hI hM (met_errs f a (-1000000001 : Int32) 1 (by decide) (by decide)) q1486 q1488 qs21 q1489 ndX6_errs rfl (by rw [hRf]; decide) (by rw [hRl]; decide) hl.1 rfl (Nat.le_of_ble_eq_true rfl) dX6_judge_18 (fun H locs hM => ?_)
      exact hret hM (by first | rfl | (simp only [iI, nI_0, nI_one]; grind)) dX6_judge_21
