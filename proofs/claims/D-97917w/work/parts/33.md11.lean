/-! the model: acts, 4 (printed by model11.py) -/
set_option maxRecDepth 100000
def rkK (k : Int32) : Nat := if k < 0 then 0 else if k = 0 then 1 else if k = nI 4 ∨ k = nI 5 ∨ k = nI 6 then 3 else 2
theorem rkK_le (k : Int32) : rkK k ≤ 3 := by
  unfold rkK; split
  · omega
  · split
    · omega
    · split <;> omega
theorem rkK_abv {k : Int32} (h : ¬ k < 0) : rkK (abv k) < rkK k := by
  by_cases h0 : k = 0
  · subst h0; decide
  · by_cases h4 : k = nI 4
    · subst h4; decide
    · by_cases h5 : k = nI 5
      · subst h5; decide
      · by_cases h6 : k = nI 6
        · subst h6; decide
        · have e1 : abv k = nI 0 := by simp [abv, h0, h4, h5, h6]
          have e2 : rkK k = 2 := by simp [rkK, h, h0, h4, h5, h6]
          rw [e1, e2]; decide
/-- up from k till kd, or past the top -/
def asI (kd : Int32) : Nat → Int32 → Int32
  | 0, k => k
  | n + 1, k => if k < 0 ∨ k = kd then k else asI kd n (abv k)
theorem ndX6_as : yX6_as.cls = RX6 ∧ yX6_as.cls ≠ "java/lang/invoke/MethodHandle" ∧ yX6_as.cls ≠ "java/lang/invoke/VarHandle" ∧ (parseMethodDescriptor yX6_as.desc).map (fun d => d.parameters.length) = some 2 := by decide +kernel
set_option maxHeartbeats 400000 in
theorem met_as_ok (f : Nat → Int32) (a : Nat → Nat → Int32) (i : Nat) (hi : i < cl (a 1 3)) (hN : okN (a 1 3) 5) (kd : Nat) (hk : kd ≤ 6) (hres : 0 ≤ asI (nI kd) 4 (a 1 (58 + 14 * i + 0))) : MdF yX6_as cX6_as 4 (some .int) 2 43 [.int (nI i), .int (nI kd)] f a (some (.int (a 1 (58 + 14 * i + 1)))) f a := by
  refine MdF.ofI (by decide) rfl (Nat.le_of_ble_eq_true rfl) ?_
  intro p l e R s m args below meth c Q D h dA ls hx hb hml hRf hRl hts hown hK hI hM hl hret
  have hl : lv_has ls 4 [(0, .ref (h 0)), (1, .int (nI i)), (2, .int (nI kd))] := hl
  have hN2 := hN.2
  refine lv_aload_n hx hb dX6_as_0 rfl (lv_at hl 0 rfl) ?_
  refine lv_iload_n hx hb dX6_as_1 rfl (lv_at hl 1 rfl) ?_
  refine md_callI (y := yX6_isCow) hx hb hml hown hts hK hI hM (met_isCow f a (nI i)) q1574 q1576 qs37 q1577 ndX6_isCow rfl (by rw [hRf]; decide) (by rw [hRl]; decide) hl.1 rfl (Nat.le_of_ble_eq_true rfl) dX6_as_2 (fun H locs hM => ?_)
  refine w_if_eqT (tgt := 18) hx hb dX6_as_5 (by decide) (fun c_1 => ?_) (fun c_1 => ?_)
  · exact absurd (by first | exact (in_nat (by decide)).mpr ⟨_, by omega, rfl⟩ | exact (in_nat1 _ (by decide) (by decide)).mpr ⟨_, by omega, by omega, rfl⟩ | exact cow_in hN (by omega) | assumption) c_1
  · refine lv_iload_n hx hb dX6_as_8 rfl (lv_at hl 2 rfl) ?_
    refine lv_iconst (v := nI 0) hx hb dX6_as_9 (by decide) ?_
    refine lv_bipush (v := nI 6) hx hb dX6_as_10 (by decide) ?_
    refine st_callI (y := yX6_in) hx hb hml hown hts (met_in (nI kd) (nI 0) (nI 6)) q1482 q1483 q70 q1484 ndX6_in rfl (by rw [hRf]; decide) (by rw [hRl]; decide) ⟨Nat.zero_le _, Nat.zero_le _⟩ hl.1 rfl (Nat.le_of_ble_eq_true rfl) dX6_as_12 ?_
    refine w_if_neT (tgt := 25) hx hb dX6_as_15 (by decide) (fun c_2 => ?_) (fun c_2 => ?_)
    · refine lv_aload_n hx hb dX6_as_25 rfl (lv_at hl 0 rfl) ?_
      refine lv_iload_n hx hb dX6_as_26 rfl (lv_at hl 1 rfl) ?_
      refine lv_iconst (v := nI 0) hx hb dX6_as_27 (by decide) ?_
      refine md_callI (y := yX6_its) hx hb hml hown hts hK hI hM (met_its f a i 0 (by omega)) q1557 q1559 qs35 q1560 ndX6_its rfl (by rw [hRf]; decide) (by rw [hRl]; decide) hl.1 rfl (Nat.le_of_ble_eq_true rfl) dX6_as_28 (fun H locs hM => ?_)
      refine lv_istore_n (lv' := [(3, .int (a 1 (58 + 14 * i + 0))), (0, .ref (h 0)), (1, .int (nI i)), (2, .int (nI kd))]) hx hb dX6_as_31 rfl hl (by decide) rfl (fun ls hl => ?_)
      have loop32 : ∀ (fu : Nat) (k : Int32), (rkK k < fu) → (asI (nI kd) fu k = asI (nI kd) 4 (a 1 (58 + 14 * i + 0))) → ∀ (H : Heap) (locs : List Loc), mdH D h dA s.heap H locs f a → ∀ (ls : Array Slot), lv_has ls 4 [(3, .int k), (0, .ref (h 0)), (1, .int (nI i)), (2, .int (nI kd))] → W p l e R s m args below meth c H locs 0 0 Q (F0 m 32 ls []) := by
        intro fu
        induction fu with
        | zero =>
          intro k hr ee
          omega
        | succ fu ih32 =>
          intro k hr ee H locs hM ls hl
          refine lv_iload_n hx hb dX6_as_32 rfl (lv_at hl 0 rfl) ?_
          refine lv_if_lt (tgt := 49) hx hb dX6_as_33 (by decide) (fun c_3 => ?_) (fun c_3 => ?_)
          · have hE : asI (nI kd) 4 (a 1 (58 + 14 * i + 0)) = k := by rw [← ee, asI, if_pos (Or.inl c_3)]
            refine lv_iload_n hx hb dX6_as_49 rfl (lv_at hl 0 rfl) ?_
            refine lv_if_ge (tgt := 62) hx hb dX6_as_50 (by decide) (fun c_4 => ?_) (fun c_4 => ?_)
            · refine lv_aload_n hx hb dX6_as_62 rfl (lv_at hl 1 rfl) ?_
              refine lv_iload_n hx hb dX6_as_63 rfl (lv_at hl 2 rfl) ?_
              refine lv_iconst (v := nI 1) hx hb dX6_as_64 (by decide) ?_
              refine md_callI (y := yX6_its) hx hb hml hown hts hK hI hM (met_its f a i 1 (by omega)) q1557 q1559 qs35 q1560 ndX6_its rfl (by rw [hRf]; decide) (by rw [hRl]; decide) hl.1 rfl (Nat.le_of_ble_eq_true rfl) dX6_as_65 (fun H locs hM => ?_)
              exact hret hM (by first | rfl | (simp only [iI, nI_0, nI_one]; grind)) dX6_as_68
            · exact absurd (by rw [← hE]; exact hres) c_4
          · refine lv_iload_n hx hb dX6_as_36 rfl (lv_at hl 0 rfl) ?_
            refine lv_iload_n hx hb dX6_as_37 rfl (lv_at hl 3 rfl) ?_
            refine lv_icmp_eq (tgt := 49) hx hb dX6_as_38 (by decide) (fun c_5 => ?_) (fun c_5 => ?_)
            · have hE : asI (nI kd) 4 (a 1 (58 + 14 * i + 0)) = k := by rw [← ee, asI, if_pos (Or.inr c_5)]
              refine lv_iload_n hx hb dX6_as_49 rfl (lv_at hl 0 rfl) ?_
              refine lv_if_ge (tgt := 62) hx hb dX6_as_50 (by decide) (fun c_6 => ?_) (fun c_6 => ?_)
              · refine lv_aload_n hx hb dX6_as_62 rfl (lv_at hl 1 rfl) ?_
                refine lv_iload_n hx hb dX6_as_63 rfl (lv_at hl 2 rfl) ?_
                refine lv_iconst (v := nI 1) hx hb dX6_as_64 (by decide) ?_
                refine md_callI (y := yX6_its) hx hb hml hown hts hK hI hM (met_its f a i 1 (by omega)) q1557 q1559 qs35 q1560 ndX6_its rfl (by rw [hRf]; decide) (by rw [hRl]; decide) hl.1 rfl (Nat.le_of_ble_eq_true rfl) dX6_as_65 (fun H locs hM => ?_)
                exact hret hM (by first | rfl | (simp only [iI, nI_0, nI_one]; grind)) dX6_as_68
              · exact absurd (by rw [← hE]; exact hres) c_6
            · refine lv_iload_n hx hb dX6_as_41 rfl (lv_at hl 0 rfl) ?_
              refine st_callI (y := yX6_above) hx hb hml hown hts (met_above k) q1614 q1615 q70 q1616 ndX6_above rfl (by rw [hRf]; decide) (by rw [hRl]; decide) ⟨Nat.zero_le _, Nat.zero_le _⟩ hl.1 rfl (Nat.le_of_ble_eq_true rfl) dX6_as_42 ?_
              refine lv_istore_n (lv' := [(3, .int (abv k)), (0, .ref (h 0)), (1, .int (nI i)), (2, .int (nI kd))]) hx hb dX6_as_45 rfl hl (by decide) rfl (fun ls hl => ?_)
              refine lv_goto (tgt := 32) hx hb dX6_as_46 (by decide) ?_
              exact ih32 (abv k) (by have := rkK_abv c_3; omega) (by rw [← ee, asI, if_neg (fun q => q.elim c_3 c_5)]) _ _ hM ls (lv_sub hl [0, 1, 2, 3] rfl)
      exact loop32 4 (a 1 (58 + 14 * i + 0)) (by have := rkK_le (a 1 (58 + 14 * i + 0)); omega) rfl _ _ hM ls (lv_sub hl [0, 1, 2, 3] rfl)
    · exact absurd (by first | exact (in_nat (by decide)).mpr ⟨_, by omega, rfl⟩ | exact (in_nat1 _ (by decide) (by decide)).mpr ⟨_, by omega, by omega, rfl⟩ | exact cow_in hN (by omega) | assumption) c_2
set_option maxHeartbeats 400000 in
theorem met_as_k (f : Nat → Int32) (a : Nat → Nat → Int32) (i : Nat) (hi : i < cl (a 1 3)) (hN : okN (a 1 3) 5) (kd : Nat) (hk : kd ≤ 6) (hres : ¬ 0 ≤ asI (nI kd) 4 (a 1 (58 + 14 * i + 0))) : MdF yX6_as cX6_as 4 (some .int) 2 43 [.int (nI i), .int (nI kd)] f a (some (.int (-1000000005 : Int32))) f (mErr a 5) := by
  refine MdF.ofI (by decide) rfl (Nat.le_of_ble_eq_true rfl) ?_
  intro p l e R s m args below meth c Q D h dA ls hx hb hml hRf hRl hts hown hK hI hM hl hret
  have hl : lv_has ls 4 [(0, .ref (h 0)), (1, .int (nI i)), (2, .int (nI kd))] := hl
  have hN2 := hN.2
  refine lv_aload_n hx hb dX6_as_0 rfl (lv_at hl 0 rfl) ?_
  refine lv_iload_n hx hb dX6_as_1 rfl (lv_at hl 1 rfl) ?_
  refine md_callI (y := yX6_isCow) hx hb hml hown hts hK hI hM (met_isCow f a (nI i)) q1574 q1576 qs37 q1577 ndX6_isCow rfl (by rw [hRf]; decide) (by rw [hRl]; decide) hl.1 rfl (Nat.le_of_ble_eq_true rfl) dX6_as_2 (fun H locs hM => ?_)
  refine w_if_eqT (tgt := 18) hx hb dX6_as_5 (by decide) (fun c_1 => ?_) (fun c_1 => ?_)
  · exact absurd (by first | exact (in_nat (by decide)).mpr ⟨_, by omega, rfl⟩ | exact (in_nat1 _ (by decide) (by decide)).mpr ⟨_, by omega, by omega, rfl⟩ | exact cow_in hN (by omega) | assumption) c_1
  · refine lv_iload_n hx hb dX6_as_8 rfl (lv_at hl 2 rfl) ?_
    refine lv_iconst (v := nI 0) hx hb dX6_as_9 (by decide) ?_
    refine lv_bipush (v := nI 6) hx hb dX6_as_10 (by decide) ?_
    refine st_callI (y := yX6_in) hx hb hml hown hts (met_in (nI kd) (nI 0) (nI 6)) q1482 q1483 q70 q1484 ndX6_in rfl (by rw [hRf]; decide) (by rw [hRl]; decide) ⟨Nat.zero_le _, Nat.zero_le _⟩ hl.1 rfl (Nat.le_of_ble_eq_true rfl) dX6_as_12 ?_
    refine w_if_neT (tgt := 25) hx hb dX6_as_15 (by decide) (fun c_2 => ?_) (fun c_2 => ?_)
    · refine lv_aload_n hx hb dX6_as_25 rfl (lv_at hl 0 rfl) ?_
      refine lv_iload_n hx hb dX6_as_26 rfl (lv_at hl 1 rfl) ?_
      refine lv_iconst (v := nI 0) hx hb dX6_as_27 (by decide) ?_
      refine md_callI (y := yX6_its) hx hb hml hown hts hK hI hM (met_its f a i 0 (by omega)) q1557 q1559 qs35 q1560 ndX6_its rfl (by rw [hRf]; decide) (by rw [hRl]; decide) hl.1 rfl (Nat.le_of_ble_eq_true rfl) dX6_as_28 (fun H locs hM => ?_)
      refine lv_istore_n (lv' := [(3, .int (a 1 (58 + 14 * i + 0))), (0, .ref (h 0)), (1, .int (nI i)), (2, .int (nI kd))]) hx hb dX6_as_31 rfl hl (by decide) rfl (fun ls hl => ?_)
      have loop32 : ∀ (fu : Nat) (k : Int32), (rkK k < fu) → (asI (nI kd) fu k = asI (nI kd) 4 (a 1 (58 + 14 * i + 0))) → ∀ (H : Heap) (locs : List Loc), mdH D h dA s.heap H locs f a → ∀ (ls : Array Slot), lv_has ls 4 [(3, .int k), (0, .ref (h 0)), (1, .int (nI i)), (2, .int (nI kd))] → W p l e R s m args below meth c H locs 0 0 Q (F0 m 32 ls []) := by
        intro fu
        induction fu with
        | zero =>
          intro k hr ee
          omega
        | succ fu ih32 =>
          intro k hr ee H locs hM ls hl
          refine lv_iload_n hx hb dX6_as_32 rfl (lv_at hl 0 rfl) ?_
          refine lv_if_lt (tgt := 49) hx hb dX6_as_33 (by decide) (fun c_3 => ?_) (fun c_3 => ?_)
          · have hE : asI (nI kd) 4 (a 1 (58 + 14 * i + 0)) = k := by rw [← ee, asI, if_pos (Or.inl c_3)]
            refine lv_iload_n hx hb dX6_as_49 rfl (lv_at hl 0 rfl) ?_
            refine lv_if_ge (tgt := 62) hx hb dX6_as_50 (by decide) (fun c_4 => ?_) (fun c_4 => ?_)
            · exact absurd (by rw [hE]; exact c_4) hres
            · refine lv_aload_n hx hb dX6_as_53 rfl (lv_at hl 1 rfl) ?_
              refine lv_ldc hx hb hown (hts _ q1617) dX6_as_54 ?_
              refine md_callI (y := yX6_errs) hx hb hml hown hts hK hI hM (met_errs f a (-1000000005 : Int32) 5 (by decide) (by decide)) q1486 q1488 qs21 q1489 ndX6_errs rfl (by rw [hRf]; decide) (by rw [hRl]; decide) hl.1 rfl (Nat.le_of_ble_eq_true rfl) dX6_as_56 (fun H locs hM => ?_)
              refine lv_goto (tgt := 68) hx hb dX6_as_59 (by decide) ?_
              exact hret hM (by first | rfl | (simp only [iI, nI_0, nI_one]; grind)) dX6_as_68
          · refine lv_iload_n hx hb dX6_as_36 rfl (lv_at hl 0 rfl) ?_
            refine lv_iload_n hx hb dX6_as_37 rfl (lv_at hl 3 rfl) ?_
            refine lv_icmp_eq (tgt := 49) hx hb dX6_as_38 (by decide) (fun c_5 => ?_) (fun c_5 => ?_)
            · have hE : asI (nI kd) 4 (a 1 (58 + 14 * i + 0)) = k := by rw [← ee, asI, if_pos (Or.inr c_5)]
              refine lv_iload_n hx hb dX6_as_49 rfl (lv_at hl 0 rfl) ?_
              refine lv_if_ge (tgt := 62) hx hb dX6_as_50 (by decide) (fun c_6 => ?_) (fun c_6 => ?_)
              · exact absurd (by rw [hE]; exact c_6) hres
              · refine lv_aload_n hx hb dX6_as_53 rfl (lv_at hl 1 rfl) ?_
                refine lv_ldc hx hb hown (hts _ q1617) dX6_as_54 ?_
                refine md_callI (y := yX6_errs) hx hb hml hown hts hK hI hM (met_errs f a (-1000000005 : Int32) 5 (by decide) (by decide)) q1486 q1488 qs21 q1489 ndX6_errs rfl (by rw [hRf]; decide) (by rw [hRl]; decide) hl.1 rfl (Nat.le_of_ble_eq_true rfl) dX6_as_56 (fun H locs hM => ?_)
                refine lv_goto (tgt := 68) hx hb dX6_as_59 (by decide) ?_
                exact hret hM (by first | rfl | (simp only [iI, nI_0, nI_one]; grind)) dX6_as_68
            · refine lv_iload_n hx hb dX6_as_41 rfl (lv_at hl 0 rfl) ?_
              refine st_callI (y := yX6_above) hx hb hml hown hts (met_above k) q1614 q1615 q70 q1616 ndX6_above rfl (by rw [hRf]; decide) (by rw [hRl]; decide) ⟨Nat.zero_le _, Nat.zero_le _⟩ hl.1 rfl (Nat.le_of_ble_eq_true rfl) dX6_as_42 ?_
              refine lv_istore_n (lv' := [(3, .int (abv k)), (0, .ref (h 0)), (1, .int (nI i)), (2, .int (nI kd))]) hx hb dX6_as_45 rfl hl (by decide) rfl (fun ls hl => ?_)
              refine lv_goto (tgt := 32) hx hb dX6_as_46 (by decide) ?_
              exact ih32 (abv k) (by have := rkK_abv c_3; omega) (by rw [← ee, asI, if_neg (fun q => q.elim c_3 c_5)]) _ _ hM ls (lv_sub hl [0, 1, 2, 3] rfl)
      exact loop32 4 (a 1 (58 + 14 * i + 0)) (by have := rkK_le (a 1 (58 + 14 * i + 0)); omega) rfl _ _ hM ls (lv_sub hl [0, 1, 2, 3] rfl)
    · exact absurd (by first | exact (in_nat (by decide)).mpr ⟨_, by omega, rfl⟩ | exact (in_nat1 _ (by decide) (by decide)).mpr ⟨_, by omega, by omega, rfl⟩ | exact cow_in hN (by omega) | assumption) c_2
set_option maxHeartbeats 400000 in
theorem met_as_e (f : Nat → Int32) (a : Nat → Nat → Int32) (v kd : Int32) (he : ¬ (cowP (a 1) v ∧ (nI 0 ≤ kd ∧ kd ≤ nI 6))) : MdF yX6_as cX6_as 4 (some .int) 2 43 [.int v, .int kd] f a (some (.int (-1000000001 : Int32))) f (mErr a 1) := by
  refine MdF.ofI (by decide) rfl (Nat.le_of_ble_eq_true rfl) ?_
  intro p l e R s m args below meth c Q D h dA ls hx hb hml hRf hRl hts hown hK hI hM hl hret
  have hl : lv_has ls 4 [(0, .ref (h 0)), (1, .int v), (2, .int kd)] := hl
  refine lv_aload_n hx hb dX6_as_0 rfl (lv_at hl 0 rfl) ?_
  refine lv_iload_n hx hb dX6_as_1 rfl (lv_at hl 1 rfl) ?_
  refine md_callI (y := yX6_isCow) hx hb hml hown hts hK hI hM (met_isCow f a v) q1574 q1576 qs37 q1577 ndX6_isCow rfl (by rw [hRf]; decide) (by rw [hRl]; decide) hl.1 rfl (Nat.le_of_ble_eq_true rfl) dX6_as_2 (fun H locs hM => ?_)
  refine w_if_eqT (tgt := 18) hx hb dX6_as_5 (by decide) (fun c_1 => ?_) (fun c_1 => ?_)
  · refine lv_aload_n hx hb dX6_as_18 rfl (lv_at hl 0 rfl) ?_
    refine lv_ldc hx hb hown (hts _ q1485) dX6_as_19 ?_
    refine md_callI (y := yX6_errs) hx hb hml hown hts hK hI hM (met_errs f a (-1000000001 : Int32) 1 (by decide) (by decide)) q1486 q1488 qs21 q1489 ndX6_errs rfl (by rw [hRf]; decide) (by rw [hRl]; decide) hl.1 rfl (Nat.le_of_ble_eq_true rfl) dX6_as_21 (fun H locs hM => ?_)
    exact hret hM (by first | rfl | (simp only [iI, nI_0, nI_one]; grind)) dX6_as_24
  · refine lv_iload_n hx hb dX6_as_8 rfl (lv_at hl 2 rfl) ?_
    refine lv_iconst (v := nI 0) hx hb dX6_as_9 (by decide) ?_
    refine lv_bipush (v := nI 6) hx hb dX6_as_10 (by decide) ?_
    refine st_callI (y := yX6_in) hx hb hml hown hts (met_in kd (nI 0) (nI 6)) q1482 q1483 q70 q1484 ndX6_in rfl (by rw [hRf]; decide) (by rw [hRl]; decide) ⟨Nat.zero_le _, Nat.zero_le _⟩ hl.1 rfl (Nat.le_of_ble_eq_true rfl) dX6_as_12 ?_
    refine w_if_neT (tgt := 25) hx hb dX6_as_15 (by decide) (fun c_2 => ?_) (fun c_2 => ?_)
    · exact absurd ⟨c_1, c_2⟩ he
    · refine lv_aload_n hx hb dX6_as_18 rfl (lv_at hl 0 rfl) ?_
      refine lv_ldc hx hb hown (hts _ q1485) dX6_as_19 ?_
      refine md_callI (y := yX6_errs) hx hb hml hown hts hK hI hM (met_errs f a (-1000000001 : Int32) 1 (by decide) (by decide)) q1486 q1488 qs21 q1489 ndX6_errs rfl (by rw [hRf]; decide) (by rw [hRl]; decide) hl.1 rfl (Nat.le_of_ble_eq_true rfl) dX6_as_21 (fun H locs hM => ?_)
      exact hret hM (by first | rfl | (simp only [iI, nI_0, nI_one]; grind)) dX6_as_24
theorem gzI_out {r : Nat → Int32} (h : okR r) {x : Nat} (hx : 128 ≤ x) : ∀ k, k ≤ 5 → gzI r k x = r x := by
  intro k
  induction k with
  | zero => intro _; rfl
  | succ k ih =>
    intro hk
    obtain ⟨⟨-, -, -, -, -, h6, -⟩, -⟩ := okR_gzI h k (by omega)
    obtain ⟨c0, c1, c2, c3, c4⟩ := h6 k (by omega)
    have hc : gzC (gzI r k) k < 25 := gzC_lt c2.2
    obtain ⟨n0, n1, n2⟩ := gzN_in hc c1 c3
    rw [gzI, gzR_out (by omega) hc n2 (by omega)]
    exact ih (by omega)
theorem dayR_out {r : Nat → Int32} (h : okR r) {x : Nat} (hx : 128 ≤ x) : dayR r x = r x := by
  unfold dayR
  rw [pk_un (by omega)]
  unfold grI
  rw [if_neg (by omega)]
  exact gzI_out h hx _ h.2.1.2
theorem dayI_out {r : Nat → Int32} (h : okR r) {x : Nat} (hx : 128 ≤ x) : ∀ k, dayI r k x = r x
  | 0 => rfl
  | k + 1 => (dayR_out (okR_dayI h k) hx).trans (dayI_out h hx k)
/-- the first of n days from k on whose grass isn't what was told, and one; else 0 -/
def chk (r : Nat → Int32) : Nat → Nat → Nat
  | 0, _ => 0
  | n + 1, k => if sumG (dayI r (k + 1)) 25 = r (178 + k) then chk r n (k + 1) else 1 + k
theorem okR_5 {r : Nat → Int32} (h : okR r) {x : Int32} (hx : okN x 20) : okR (upd r 5 x) := by
  have ho : ∀ y, y ≠ 5 → upd r 5 x y = r y := fun y hy => pk_un hy
  obtain ⟨h1, h2, h3, h4, h5, h6, h7⟩ := h
  refine ⟨fun u hu => by rw [ho _ (by omega)]; exact h1 u hu, by rw [ho _ (by omega)]; exact h2, by rw [ho _ (by omega)]; exact h3, by rw [pk_us]; exact hx, by rw [ho _ (by omega)]; exact h5, fun i hi => ?_, fun c hc => ⟨by rw [ho _ (by omega)]; exact (h7 c hc).1, by rw [ho _ (by omega)]; exact (h7 c hc).2⟩⟩
  obtain ⟨c0, c1, c2, c3, c4⟩ := h6 i hi
  exact ⟨by rw [ho _ (by omega)]; exact c0, by rw [ho _ (by omega)]; exact c1, by rw [ho _ (by omega)]; exact c2, by rw [ho _ (by omega)]; exact c3, fun j hj => by rw [ho _ (by omega)]; exact c4 j hj⟩
