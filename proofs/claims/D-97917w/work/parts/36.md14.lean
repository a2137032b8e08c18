/-! the model: acts, 7 (printed by model14.py) -/
set_option maxRecDepth 100000
theorem shl5 {n : Nat} (h : n ≤ 5) : nI 1 <<< (nI n &&& 31) = nI (2 ^ n) := by
  have h2 : n = 0 ∨ n = 1 ∨ n = 2 ∨ n = 3 ∨ n = 4 ∨ n = 5 := by omega
  rcases h2 with rfl | rfl | rfl | rfl | rfl | rfl <;> decide
theorem pw5 {n : Nat} (h : n ≤ 5) : 1 ≤ 2 ^ n ∧ 2 ^ n ≤ 32 := by
  have h2 : n = 0 ∨ n = 1 ∨ n = 2 ∨ n = 3 ∨ n = 4 ∨ n = 5 := by omega
  rcases h2 with rfl | rfl | rfl | rfl | rfl | rfl <;> decide
/-- among the jugs 1 .. j: the best, and how many cows it has -/
def leS (r : Nat → Int32) (x : Int32) : Nat → Int32 × Int32
  | 0 => (nI 0, nI 6)
  | j + 1 => if cowS (nI (j + 1)) 5 < (leS r x j).2 ∧ x &&& (knS r (nI (j + 1)) 25 ^^^ (-1)) = 0 then (nI (j + 1), cowS (nI (j + 1)) 5) else leS r x j
theorem ndX6_least : yX6_least.cls = RX6 ∧ yX6_least.cls ≠ "java/lang/invoke/MethodHandle" ∧ yX6_least.cls ≠ "java/lang/invoke/VarHandle" ∧ (parseMethodDescriptor yX6_least.desc).map (fun d => d.parameters.length) = some 1 := by decide +kernel
set_option maxHeartbeats 400000 in
theorem met_least_ok (f : Nat → Int32) (a : Nat → Nat → Int32) (x : Int32) (hx0 : nI 0 ≤ x ∧ x ≤ nI 33554431) (hR : okR (a 1)) (hres : ¬ (leS (a 1) x (2 ^ cl (a 1 3) - 1)).1 = 0) : MdX yX6_least cX6_least 5 (some .int) 43 1093 [.int x] f a (some (.int ((leS (a 1) x (2 ^ cl (a 1 3) - 1)).1))) a := by
  refine MdX.ofI (by decide) rfl (Nat.le_of_ble_eq_true rfl) ?_
  intro p l e R s m args below meth c Q D h dA ls hx hb hml hRf hRl hts hown hK hI hM hl hret
  have hl : lv_has ls 5 [(0, .ref (h 0)), (1, .int x)] := hl
  have hN := hR.2.1
  have hN2 := hN.2
  have hpw := pw5 hN2
  refine lv_iload_n hx hb dX6_least_0 rfl (lv_at hl 1 rfl) ?_
  refine lv_iconst (v := nI 0) hx hb dX6_least_1 (by decide) ?_
  refine lv_ldc hx hb hown (hts _ q1713) dX6_least_2 ?_
  refine w_top (nI 33554431) (by decide) ?_
  refine st_callI (y := yX6_in) hx hb hml hown hts (met_in x (nI 0) (nI 33554431)) q1482 q1483 q70 q1484 ndX6_in rfl (by rw [hRf]; decide) (by rw [hRl]; decide) ⟨Nat.zero_le _, Nat.zero_le _⟩ hl.1 rfl (Nat.le_of_ble_eq_true rfl) dX6_least_4 ?_
  refine w_if_neT (tgt := 17) hx hb dX6_least_7 (by decide) (fun c_1 => ?_) (fun c_1 => ?_)
  · refine lv_iconst (v := nI 0) hx hb dX6_least_17 (by decide) ?_
    refine lv_istore_n (lv' := [(2, .int (nI 0)), (0, .ref (h 0)), (1, .int x)]) hx hb dX6_least_18 rfl hl (by decide) rfl (fun ls hl => ?_)
    refine lv_bipush (v := nI 6) hx hb dX6_least_19 (by decide) ?_
    refine lv_istore_n (lv' := [(3, .int (nI 6)), (2, .int (nI 0)), (0, .ref (h 0)), (1, .int x)]) hx hb dX6_least_21 rfl hl (by decide) rfl (fun ls hl => ?_)
    refine lv_iconst (v := nI 1) hx hb dX6_least_22 (by decide) ?_
    refine lv_istore (lv' := [(4, .int (nI 1)), (3, .int (nI 6)), (2, .int (nI 0)), (0, .ref (h 0)), (1, .int x)]) hx hb dX6_least_23 hl (by decide) rfl (fun ls hl => ?_)
    have loop25 : ∀ (fu : Nat) (j : Nat), (j + 1 ≤ 2 ^ cl (a 1 3)) → (2 ^ cl (a 1 3) < j + 1 + fu) → ∀ (f1 : Nat → Int32), fE f f1 → ∀ (H : Heap) (locs : List Loc), mdH D h dA s.heap H locs f1 a → ∀ (ls : Array Slot), lv_has ls 5 [(4, .int (nI (j + 1))), (3, .int ((leS (a 1) x j).2)), (2, .int ((leS (a 1) x j).1)), (0, .ref (h 0)), (1, .int x)] → W p l e R s m args below meth c H locs 0 0 Q (F0 m 25 ls []) := by
      intro fu
      induction fu with
      | zero =>
        intro j hj hn
        omega
      | succ fu ih25 =>
        intro j hj hn f25 he25 H locs hM ls hl
        refine lv_iload hx hb dX6_least_25 (lv_at hl 0 rfl) ?_
        refine lv_iconst (v := nI 1) hx hb dX6_least_27 (by decide) ?_
        refine lv_aload_n hx hb dX6_least_28 rfl (lv_at hl 3 rfl) ?_
        refine md_get (v := .ref (h 1)) hx hb hts hown hK hM 0 (by decide) q1390 rfl rfl dX6_least_29 ?_
        refine lv_iconst (v := nI 3) hx hb dX6_least_32 (by decide) ?_
        refine md_iald hx hb hK hM 1 rfl 3 ⟨by omega, by decide, rfl⟩ dX6_least_33 ?_
        refine w_top (nI (cl (a 1 3))) (hN.1) ?_
        refine lv_ishl hx hb dX6_least_34 ?_
        refine w_top (nI (2 ^ cl (a 1 3))) (shl5 hN2) ?_
        refine w_icmp_geN (tgt := 77) hx hb (by omega) (by omega) dX6_least_35 (by decide) (fun c_2 => ?_) (fun c_2 => ?_)
        · have hjj : j = 2 ^ cl (a 1 3) - 1 := by omega
          refine lv_iload_n hx hb dX6_least_77 rfl (lv_at hl 2 rfl) ?_
          refine lv_if_ne (tgt := 90) hx hb dX6_least_78 (by decide) (fun c_3 => ?_) (fun c_3 => ?_)
          · refine lv_iload_n hx hb dX6_least_90 rfl (lv_at hl 2 rfl) ?_
            exact hret he25 hM (by rw [hjj]) dX6_least_91
          · exact absurd (by rw [← hjj]; exact c_3) hres
        · refine lv_aload_n hx hb dX6_least_38 rfl (lv_at hl 3 rfl) ?_
          refine lv_iload hx hb dX6_least_39 (lv_at hl 0 rfl) ?_
          refine md_callI (y := yX6_cowsOf) hx hb hml hown hts hK hI hM (met_cowsOf f25 a (nI (j + 1))) q1685 q1687 qs51 q1688 ndX6_cowsOf rfl (by rw [hRf]; decide) (by rw [hRl]; decide) hl.1 rfl (Nat.le_of_ble_eq_true rfl) dX6_least_41 (fun H locs hM => ?_)
          refine lv_iload_n hx hb dX6_least_44 rfl (lv_at hl 1 rfl) ?_
          refine lv_icmp_ge (tgt := 71) hx hb dX6_least_45 (by decide) (fun c_4 => ?_) (fun c_4 => ?_)
          · have hw : leS (a 1) x (j + 1) = leS (a 1) x j := by rw [leS, if_neg (fun q => absurd q.1 (Int32.not_lt.mpr c_4))]
            refine lv_iinc (v := nI (j + 1 + 1)) (lv' := [(4, .int (nI (j + 1 + 1))), (3, .int ((leS (a 1) x j).2)), (2, .int ((leS (a 1) x j).1)), (0, .ref (h 0)), (1, .int x)]) hx hb dX6_least_71 hl (k := 0) rfl (by rw [show Int32.ofInt 1 = nI 1 from by decide]; exact nI_add _ _) (by decide) rfl (fun ls hl => ?_)
            refine lv_goto (tgt := 25) hx hb dX6_least_74 (by decide) ?_
            exact ih25 (j + 1) (by omega) (by omega) _ he25 _ _ hM ls (by rw [hw]; exact lv_sub hl [0, 1, 2, 3, 4] rfl)
          · refine lv_iload_n hx hb dX6_least_48 rfl (lv_at hl 4 rfl) ?_
            refine lv_aload_n hx hb dX6_least_49 rfl (lv_at hl 3 rfl) ?_
            refine lv_iload hx hb dX6_least_50 (lv_at hl 0 rfl) ?_
            refine md_callXI (y := yX6_knownBy) hx hb hml hown hts hK hI hM (met_knownBy f25 a (nI (j + 1)) (hR)) q1693 q1695 qs52 q1696 ndX6_knownBy rfl (by rw [hRf]; decide) (by rw [hRl]; decide) hl.1 rfl (Nat.le_of_ble_eq_true rfl) dX6_least_52 (fun H locs f_5 hf_5 hM => ?_)
            have ef_5 : fE f f_5 := he25.tr hf_5
            refine lv_iconst (v := (-1 : Int32)) hx hb dX6_least_55 (by decide) ?_
            refine lv_ixor hx hb dX6_least_56 ?_
            refine lv_iand hx hb dX6_least_57 ?_
            refine lv_if_ne (tgt := 71) hx hb dX6_least_58 (by decide) (fun c_6 => ?_) (fun c_6 => ?_)
            · have hw : leS (a 1) x (j + 1) = leS (a 1) x j := by rw [leS, if_neg (fun q => c_6 q.2)]
              refine lv_iinc (v := nI (j + 1 + 1)) (lv' := [(4, .int (nI (j + 1 + 1))), (3, .int ((leS (a 1) x j).2)), (2, .int ((leS (a 1) x j).1)), (0, .ref (h 0)), (1, .int x)]) hx hb dX6_least_71 hl (k := 0) rfl (by rw [show Int32.ofInt 1 = nI 1 from by decide]; exact nI_add _ _) (by decide) rfl (fun ls hl => ?_)
              refine lv_goto (tgt := 25) hx hb dX6_least_74 (by decide) ?_
              exact ih25 (j + 1) (by omega) (by omega) _ ef_5 _ _ hM ls (by rw [hw]; exact lv_sub hl [0, 1, 2, 3, 4] rfl)
            · refine lv_iload hx hb dX6_least_61 (lv_at hl 0 rfl) ?_
              refine lv_istore_n (lv' := [(2, .int (nI (j + 1))), (4, .int (nI (j + 1))), (3, .int ((leS (a 1) x j).2)), (0, .ref (h 0)), (1, .int x)]) hx hb dX6_least_63 rfl hl (by decide) rfl (fun ls hl => ?_)
              refine lv_aload_n hx hb dX6_least_64 rfl (lv_at hl 3 rfl) ?_
              refine lv_iload hx hb dX6_least_65 (lv_at hl 1 rfl) ?_
              refine md_callI (y := yX6_cowsOf) hx hb hml hown hts hK hI hM (met_cowsOf f_5 a (nI (j + 1))) q1685 q1687 qs51 q1688 ndX6_cowsOf rfl (by rw [hRf]; decide) (by rw [hRl]; decide) hl.1 rfl (Nat.le_of_ble_eq_true rfl) dX6_least_67 (fun H locs hM => ?_)
              refine lv_istore_n (lv' := [(3, .int (cowS (nI (j + 1)) 5)), (2, .int (nI (j + 1))), (4, .int (nI (j + 1))), (0, .ref (h 0)), (1, .int x)]) hx hb dX6_least_70 rfl hl (by decide) rfl (fun ls hl => ?_)
              have hw : leS (a 1) x (j + 1) = (nI (j + 1), cowS (nI (j + 1)) 5) := by rw [leS, if_pos ⟨Int32.not_le.mp c_4, c_6⟩]
              refine lv_iinc (v := nI (j + 1 + 1)) (lv' := [(4, .int (nI (j + 1 + 1))), (3, .int (cowS (nI (j + 1)) 5)), (2, .int (nI (j + 1))), (0, .ref (h 0)), (1, .int x)]) hx hb dX6_least_71 hl (k := 2) rfl (by rw [show Int32.ofInt 1 = nI 1 from by decide]; exact nI_add _ _) (by decide) rfl (fun ls hl => ?_)
              refine lv_goto (tgt := 25) hx hb dX6_least_74 (by decide) ?_
              exact ih25 (j + 1) (by omega) (by omega) _ ef_5 _ _ hM ls (by rw [hw]; exact lv_sub hl [0, 1, 2, 3, 4] rfl)
    exact loop25 (2 ^ cl (a 1 3) + 1) 0 (by omega) (by omega) _ fE.rf _ _ hM ls (lv_sub hl [0, 1, 2, 3, 4] rfl)
  · exact absurd (by first | exact (in_nat (by decide)).mpr ⟨_, by omega, rfl⟩ | exact (in_nat1 _ (by decide) (by decide)).mpr ⟨_, by omega, by omega, rfl⟩ | exact cow_in hN (by omega) | assumption) c_1
set_option maxHeartbeats 400000 in
theorem met_least_n (f : Nat → Int32) (a : Nat → Nat → Int32) (x : Int32) (hx0 : nI 0 ≤ x ∧ x ≤ nI 33554431) (hR : okR (a 1)) (hres : (leS (a 1) x (2 ^ cl (a 1 3) - 1)).1 = 0) : MdX yX6_least cX6_least 5 (some .int) 43 1093 [.int x] f a (some (.int (-1000000002 : Int32))) (mErr a 2) := by
  refine MdX.ofI (by decide) rfl (Nat.le_of_ble_eq_true rfl) ?_
  intro p l e R s m args below meth c Q D h dA ls hx hb hml hRf hRl hts hown hK hI hM hl hret
  have hl : lv_has ls 5 [(0, .ref (h 0)), (1, .int x)] := hl
  have hN := hR.2.1
  have hN2 := hN.2
  have hpw := pw5 hN2
  refine lv_iload_n hx hb dX6_least_0 rfl (lv_at hl 1 rfl) ?_
  refine lv_iconst (v := nI 0) hx hb dX6_least_1 (by decide) ?_
  refine lv_ldc hx hb hown (hts _ q1713) dX6_least_2 ?_
  refine w_top (nI 33554431) (by decide) ?_
  refine st_callI (y := yX6_in) hx hb hml hown hts (met_in x (nI 0) (nI 33554431)) q1482 q1483 q70 q1484 ndX6_in rfl (by rw [hRf]; decide) (by rw [hRl]; decide) ⟨Nat.zero_le _, Nat.zero_le _⟩ hl.1 rfl (Nat.le_of_ble_eq_true rfl) dX6_least_4 ?_
  refine w_if_neT (tgt := 17) hx hb dX6_least_7 (by decide) (fun c_1 => ?_) (fun c_1 => ?_)
  · refine lv_iconst (v := nI 0) hx hb dX6_least_17 (by decide) ?_
    refine lv_istore_n (lv' := [(2, .int (nI 0)), (0, .ref (h 0)), (1, .int x)]) hx hb dX6_least_18 rfl hl (by decide) rfl (fun ls hl => ?_)
    refine lv_bipush (v := nI 6) hx hb dX6_least_19 (by decide) ?_
    refine lv_istore_n (lv' := [(3, .int (nI 6)), (2, .int (nI 0)), (0, .ref (h 0)), (1, .int x)]) hx hb dX6_least_21 rfl hl (by decide) rfl (fun ls hl => ?_)
    refine lv_iconst (v := nI 1) hx hb dX6_least_22 (by decide) ?_
    refine lv_istore (lv' := [(4, .int (nI 1)), (3, .int (nI 6)), (2, .int (nI 0)), (0, .ref (h 0)), (1, .int x)]) hx hb dX6_least_23 hl (by decide) rfl (fun ls hl => ?_)
    have loop25 : ∀ (fu : Nat) (j : Nat), (j + 1 ≤ 2 ^ cl (a 1 3)) → (2 ^ cl (a 1 3) < j + 1 + fu) → ∀ (f1 : Nat → Int32), fE f f1 → ∀ (H : Heap) (locs : List Loc), mdH D h dA s.heap H locs f1 a → ∀ (ls : Array Slot), lv_has ls 5 [(4, .int (nI (j + 1))), (3, .int ((leS (a 1) x j).2)), (2, .int ((leS (a 1) x j).1)), (0, .ref (h 0)), (1, .int x)] → W p l e R s m args below meth c H locs 0 0 Q (F0 m 25 ls []) := by
      intro fu
      induction fu with
      | zero =>
        intro j hj hn
        omega
      | succ fu ih25 =>
        intro j hj hn f25 he25 H locs hM ls hl
        refine lv_iload hx hb dX6_least_25 (lv_at hl 0 rfl) ?_
        refine lv_iconst (v := nI 1) hx hb dX6_least_27 (by decide) ?_
        refine lv_aload_n hx hb dX6_least_28 rfl (lv_at hl 3 rfl) ?_
        refine md_get (v := .ref (h 1)) hx hb hts hown hK hM 0 (by decide) q1390 rfl rfl dX6_least_29 ?_
        refine lv_iconst (v := nI 3) hx hb dX6_least_32 (by decide) ?_
        refine md_iald hx hb hK hM 1 rfl 3 ⟨by omega, by decide, rfl⟩ dX6_least_33 ?_
        refine w_top (nI (cl (a 1 3))) (hN.1) ?_
        refine lv_ishl hx hb dX6_least_34 ?_
        refine w_top (nI (2 ^ cl (a 1 3))) (shl5 hN2) ?_
        refine w_icmp_geN (tgt := 77) hx hb (by omega) (by omega) dX6_least_35 (by decide) (fun c_2 => ?_) (fun c_2 => ?_)
        · have hjj : j = 2 ^ cl (a 1 3) - 1 := by omega
          refine lv_iload_n hx hb dX6_least_77 rfl (lv_at hl 2 rfl) ?_
          refine lv_if_ne (tgt := 90) hx hb dX6_least_78 (by decide) (fun c_3 => ?_) (fun c_3 => ?_)
          · exact absurd (by rw [hjj]; exact hres) c_3
          · refine lv_aload_n hx hb dX6_least_81 rfl (lv_at hl 3 rfl) ?_
            refine lv_ldc hx hb hown (hts _ q1605) dX6_least_82 ?_
            refine md_callI (y := yX6_errs) hx hb hml hown hts hK hI hM (met_errs f25 a (-1000000002 : Int32) 2 (by decide) (by decide)) q1486 q1488 qs21 q1489 ndX6_errs rfl (by rw [hRf]; decide) (by rw [hRl]; decide) hl.1 rfl (Nat.le_of_ble_eq_true rfl) dX6_least_84 (fun H locs hM => ?_)
            refine lv_goto (tgt := 91) hx hb dX6_least_87 (by decide) ?_
            exact hret he25 hM (rfl) dX6_least_91
        · refine lv_aload_n hx hb dX6_least_38 rfl (lv_at hl 3 rfl) ?_
          refine lv_iload hx hb dX6_least_39 (lv_at hl 0 rfl) ?_
          refine md_callI (y := yX6_cowsOf) hx hb hml hown hts hK hI hM (met_cowsOf f25 a (nI (j + 1))) q1685 q1687 qs51 q1688 ndX6_cowsOf rfl (by rw [hRf]; decide) (by rw [hRl]; decide) hl.1 rfl (Nat.le_of_ble_eq_true rfl) dX6_least_41 (fun H locs hM => ?_)
          refine lv_iload_n hx hb dX6_least_44 rfl (lv_at hl 1 rfl) ?_
          refine lv_icmp_ge (tgt := 71) hx hb dX6_least_45 (by decide) (fun c_4 => ?_) (fun c_4 => ?_)
          · have hw : leS (a 1) x (j + 1) = leS (a 1) x j := by rw [leS, if_neg (fun q => absurd q.1 (Int32.not_lt.mpr c_4))]
            refine lv_iinc (v := nI (j + 1 + 1)) (lv' := [(4, .int (nI (j + 1 + 1))), (3, .int ((leS (a 1) x j).2)), (2, .int ((leS (a 1) x j).1)), (0, .ref (h 0)), (1, .int x)]) hx hb dX6_least_71 hl (k := 0) rfl (by rw [show Int32.ofInt 1 = nI 1 from by decide]; exact nI_add _ _) (by decide) rfl (fun ls hl => ?_)
            refine lv_goto (tgt := 25) hx hb dX6_least_74 (by decide) ?_
            exact ih25 (j + 1) (by omega) (by omega) _ he25 _ _ hM ls (by rw [hw]; exact lv_sub hl [0, 1, 2, 3, 4] rfl)
          · refine lv_iload_n hx hb dX6_least_48 rfl (lv_at hl 4 rfl) ?_
            refine lv_aload_n hx hb dX6_least_49 rfl (lv_at hl 3 rfl) ?_
            refine lv_iload hx hb dX6_least_50 (lv_at hl 0 rfl) ?_
            refine md_callXI (y := yX6_knownBy) hx hb hml hown hts hK hI hM (met_knownBy f25 a (nI (j + 1)) (hR)) q1693 q1695 qs52 q1696 ndX6_knownBy rfl (by rw [hRf]; decide) (by rw [hRl]; decide) hl.1 rfl (Nat.le_of_ble_eq_true rfl) dX6_least_52 (fun H locs f_5 hf_5 hM => ?_)
            have ef_5 : fE f f_5 := he25.tr hf_5
            refine lv_iconst (v := (-1 : Int32)) hx hb dX6_least_55 (by decide) ?_
            refine lv_ixor hx hb dX6_least_56 ?_
            refine lv_iand hx hb dX6_least_57 ?_
            refine lv_if_ne (tgt := 71) hx hb dX6_least_58 (by decide) (fun c_6 => ?_) (fun c_6 => ?_)
            · have hw : leS (a 1) x (j + 1) = leS (a 1) x j := by rw [leS, if_neg (fun q => c_6 q.2)]
              refine lv_iinc (v := nI (j + 1 + 1)) (lv' := [(4, .int (nI (j + 1 + 1))), (3, .int ((leS (a 1) x j).2)), (2, .int ((leS (a 1) x j).1)), (0, .ref (h 0)), (1, .int x)]) hx hb dX6_least_71 hl (k := 0) rfl (by rw [show Int32.ofInt 1 = nI 1 from by decide]; exact nI_add _ _) (by decide) rfl (fun ls hl => ?_)
              refine lv_goto (tgt := 25) hx hb dX6_least_74 (by decide) ?_
              exact ih25 (j + 1) (by omega) (by omega) _ ef_5 _ _ hM ls (by rw [hw]; exact lv_sub hl [0, 1, 2, 3, 4] rfl)
            · refine lv_iload hx hb dX6_least_61 (lv_at hl 0 rfl) ?_
              refine lv_istore_n (lv' := [(2, .int (nI (j + 1))), (4, .int (nI (j + 1))), (3, .int ((leS (a 1) x j).2)), (0, .ref (h 0)), (1, .int x)]) hx hb dX6_least_63 rfl hl (by decide) rfl (fun ls hl => ?_)
              refine lv_aload_n hx hb dX6_least_64 rfl (lv_at hl 3 rfl) ?_
              refine lv_iload hx hb dX6_least_65 (lv_at hl 1 rfl) ?_
              refine md_callI (y := yX6_cowsOf) hx hb hml hown hts hK hI hM (met_cowsOf f_5 a (nI (j + 1))) q1685 q1687 qs51 q1688 ndX6_cowsOf rfl (by rw [hRf]; decide) (by rw [hRl]; decide) hl.1 rfl (Nat.le_of_ble_eq_true rfl) dX6_least_67 (fun H locs hM => ?_)
              refine lv_istore_n (lv' := [(3, .int (cowS (nI (j + 1)) 5)), (2, .int (nI (j + 1))), (4, .int (nI (j + 1))), (0, .ref (h 0)), (1, .int x)]) hx hb dX6_least_70 rfl hl (by decide) rfl (fun ls hl => ?_)
              have hw : leS (a 1) x (j + 1) = (nI (j + 1), cowS (nI (j + 1)) 5) := by rw [leS, if_pos ⟨Int32.not_le.mp c_4, c_6⟩]
              refine lv_iinc (v := nI (j + 1 + 1)) (lv' := [(4, .int (nI (j + 1 + 1))), (3, .int (cowS (nI (j + 1)) 5)), (2, .int (nI (j + 1))), (0, .ref (h 0)), (1, .int x)]) hx hb dX6_least_71 hl (k := 2) rfl (by rw [show Int32.ofInt 1 = nI 1 from by decide]; exact nI_add _ _) (by decide) rfl (fun ls hl => ?_)
              refine lv_goto (tgt := 25) hx hb dX6_least_74 (by decide) ?_
              exact ih25 (j + 1) (by omega) (by omega) _ ef_5 _ _ hM ls (by rw [hw]; exact lv_sub hl [0, 1, 2, 3, 4] rfl)
    exact loop25 (2 ^ cl (a 1 3) + 1) 0 (by omega) (by omega) _ fE.rf _ _ hM ls (lv_sub hl [0, 1, 2, 3, 4] rfl)
  · exact absurd (by first | exact (in_nat (by decide)).mpr ⟨_, by omega, rfl⟩ | exact (in_nat1 _ (by decide) (by decide)).mpr ⟨_, by omega, by omega, rfl⟩ | exact cow_in hN (by omega) | assumption) c_1
set_option maxHeartbeats 400000 in
theorem met_least_e (f : Nat → Int32) (a : Nat → Nat → Int32) (x : Int32) (he : ¬ (nI 0 ≤ x ∧ x ≤ nI 33554431)) : MdF yX6_least cX6_least 5 (some .int) 1 22 [.int x] f a (some (.int (-1000000001 : Int32))) f (mErr a 1) := by
  refine MdF.ofI (by decide) rfl (Nat.le_of_ble_eq_true rfl) ?_
  intro p l e R s m args below meth c Q D h dA ls hx hb hml hRf hRl hts hown hK hI hM hl hret
  have hl : lv_has ls 5 [(0, .ref (h 0)), (1, .int x)] := hl
  refine lv_iload_n hx hb dX6_least_0 rfl (lv_at hl 1 rfl) ?_
  refine lv_iconst (v := nI 0) hx hb dX6_least_1 (by decide) ?_
  refine lv_ldc hx hb hown (hts _ q1713) dX6_least_2 ?_
  refine w_top (nI 33554431) (by decide) ?_
  refine st_callI (y := yX6_in) hx hb hml hown hts (met_in x (nI 0) (nI 33554431)) q1482 q1483 q70 q1484 ndX6_in rfl (by rw [hRf]; decide) (by rw [hRl]; decide) ⟨Nat.zero_le _, Nat.zero_le _⟩ hl.1 rfl (Nat.le_of_ble_eq_true rfl) dX6_least_4 ?_
  refine w_if_neT (tgt := 17) hx hb dX6_least_7 (by decide) (fun c_1 => ?_) (fun c_1 => ?_)
  · exact absurd c_1 he
  · refine lv_aload_n hx hb dX6_least_10 rfl (lv_at hl 0 rfl) ?_
    refine lv_ldc hx hb hown (hts _ q1485) dX6_least_11 ?_
    refine md_callI (y := yX6_errs) hx hb hml hown hts hK hI hM (met_errs f a (-1000000001 : Int32) 1 (by decide) (by decide)) q1486 q1488 qs21 q1489 ndX6_errs rfl (by rw [hRf]; decide) (by rw [hRl]; decide) hl.1 rfl (Nat.le_of_ble_eq_true rfl) dX6_least_13 (fun H locs hM => ?_)
    exact hret hM (by first | rfl | (simp only [iI, nI_0, nI_one]; grind)) dX6_least_16
