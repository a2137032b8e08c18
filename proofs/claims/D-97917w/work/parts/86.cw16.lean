/-! least (printed by comp18.py) -/
set_option maxRecDepth 100000
theorem cow_6 : ∀ j, j < 32 → cowS (nI j) 5 < nI 6 := by decide +kernel
/-- the best of the jugs 1 .. j, as the component keeps it -/
def leB (r : Nat → Int32) (x : Int32) : Nat → Nat
  | 0 => 0
  | j + 1 => if (leB r x j = 0 ∨ cowS (nI (j + 1)) 5 < cowS (nI (leB r x j)) 5) ∧ x &&& (knS r (nI (j + 1)) 25 ^^^ (-1)) = 0 then j + 1 else leB r x j
theorem leB_le (r : Nat → Int32) (x : Int32) : ∀ j, leB r x j ≤ j
  | 0 => Nat.le_refl _
  | j + 1 => by
    unfold leB
    split
    · omega
    · have := leB_le r x j; omega
theorem leS_B {r : Nat → Int32} {x : Int32} : ∀ j, j < 32 → leS r x j = (nI (leB r x j), if leB r x j = 0 then nI 6 else cowS (nI (leB r x j)) 5)
  | 0, _ => rfl
  | j + 1, h => by
    have ih := leS_B (r := r) (x := x) j (by omega)
    have h6 := cow_6 (j + 1) h
    rw [leS, ih, leB]
    by_cases hb : leB r x j = 0
    · simp only [hb, true_or, true_and, if_true]
      by_cases hz : x &&& (knS r (nI (j + 1)) 25 ^^^ (-1)) = 0
      · rw [if_pos ⟨h6, hz⟩, if_pos hz, if_neg (by omega)]
      · rw [if_neg (fun q => hz q.2), if_neg hz]; rfl
    · simp only [hb, false_or, if_false]
      by_cases hz : cowS (nI (j + 1)) 5 < cowS (nI (leB r x j)) 5 ∧ x &&& (knS r (nI (j + 1)) 25 ^^^ (-1)) = 0
      · rw [if_pos hz, if_pos hz, if_neg (by omega)]
      · rw [if_neg hz, if_neg hz, if_neg hb]
theorem nI_z {n : Nat} (h : n < 2 ^ 31) : nI n = 0 ↔ n = 0 := by
  constructor
  · intro q
    have q2 : (nI n).toInt = (0 : Int32).toInt := by rw [q]
    rw [nI_toInt h] at q2
    have : ((0 : Int32).toInt) = 0 := rfl
    omega
  · rintro rfl; rfl
set_option maxHeartbeats 400000 in
theorem ca_least_ok (f : Nat → Int32) (a : Nat → Nat → Int32) (x : Int32) (hx0 : nI 0 ≤ x ∧ x ≤ nI 33554431) (hR : okR (a 1)) (hres : ¬ (leS (a 1) x (2 ^ cl (a 1 3) - 1)).1 = 0) : CmF yX0_least cX0_least 5 [(0, 98, 99, 8)] 65 1493 [.int x] f a ((leS (a 1) x (2 ^ cl (a 1 3) - 1)).1) f a := by
  refine CmF.ofI (by decide) rfl (Nat.le_of_ble_eq_true rfl) ?_
  intro p l e R s m args below meth c Q D dA h fc wk hd ri rt cw tx nm B S ls hx hb hml hRf hRl hRc hRs htab hts hown hK hI hB hS0 hQ hN hIm hZ hSh hM hl hret hret0
  have hl : lv_has ls 5 [(0, .ref (h 0)), (1, .int x)] := hl
  have hN0 := hR.2.1
  have hN2 := hN0.2
  have hpw := pw5 hN2
  refine lv_aload_n hx hb dX0_least_0 rfl (lv_at hl 0 rfl) ?_
  refine lv_iload_n hx hb dX0_least_1 rfl (lv_at hl 1 rfl) ?_
  refine lv_iconst (v := nI 0) hx hb dX0_least_2 (by decide) ?_
  refine lv_ldc hx hb hown (hts _ q1004) dX0_least_3 ?_
  refine w_top (nI 33554431) (by decide) ?_
  refine st_callS (y := yX0_in) hx hb hml hown hts (cmX0_in x (nI 0) (nI 33554431)) q330 q331 q61 q332 ndX0_in rfl (by rw [hRf]; decide) (by rw [hRl]; decide) (Nat.zero_le _) (Nat.zero_le _) hl.1 rfl (Nat.le_of_ble_eq_true rfl) dX0_least_5 ?_
  refine lv_iconst (v := nI 1) hx hb dX0_least_8 (by decide) ?_
  refine cm_need hx hb hml hown hts hK hI hM htab (hpc := 99) rfl q333 (by rw [hRf]; decide) (by rw [hRl]; decide) (Nat.zero_le _) (Nat.zero_le _) hl.1 (Nat.le_of_ble_eq_true rfl) dX0_least_9 (fun c_1 locs hM => ?_) (fun c_1 H locs hM => ?_)
  · refine lv_iconst (v := nI 0) hx hb dX0_least_12 (by decide) ?_
    refine lv_istore_n (lv' := [(2, .int (nI 0)), (0, .ref (h 0)), (1, .int x)]) hx hb dX0_least_13 rfl hl (by decide) rfl (fun ls hl => ?_)
    refine lv_iconst (v := nI 1) hx hb dX0_least_14 (by decide) ?_
    refine lv_istore_n (lv' := [(3, .int (nI 1)), (2, .int (nI 0)), (0, .ref (h 0)), (1, .int x)]) hx hb dX0_least_15 rfl hl (by decide) rfl (fun ls hl => ?_)
    have loop16 : ∀ (fu : Nat) (j : Nat), (j + 1 ≤ 2 ^ cl (a 1 3)) → (2 ^ cl (a 1 3) < j + 1 + fu) → ∀ (fc : Int32) (wk nm : Nat → Nat → Int32) (H : Heap) (locs : List Loc), cmH D h dA s.heap H locs f a fc wk hd ri rt cw tx nm → ∀ (ls : Array Slot), lv_has ls 5 [(3, .int (nI (j + 1))), (2, .int (nI (leB (a 1) x j))), (0, .ref (h 0)), (1, .int x)] → W p l e R s m args below meth c H locs 0 0 Q (F0 m 16 ls []) := by
      intro fu
      induction fu with
      | zero =>
        intro j hj hf
        omega
      | succ fu ih16 =>
        intro j hj hf fc wk nm H locs hM ls hl
        refine lv_iload_n hx hb dX0_least_16 rfl (lv_at hl 0 rfl) ?_
        refine lv_iconst (v := nI 1) hx hb dX0_least_17 (by decide) ?_
        refine lv_aload_n hx hb dX0_least_18 rfl (lv_at hl 2 rfl) ?_
        refine c_get (v := .ref (hm0 h 0)) hx hb hts in_X0 hown hK (hM.1 0 _ rfl) rfl 1 (by decide) q287 rfl rfl dX0_least_19 ?_
        have nq := hK.F 1 rfl
        refine c_getN (v := .int (a 1 3)) hx hb hts in_X2 hown hK ((cm_parts hM.1).2.1 0 _ rfl) rfl 3 (by decide) nq rfl rfl dX0_least_22 ?_
        refine w_top (nI (cl (a 1 3))) (hN0.1) ?_
        refine lv_ishl hx hb dX0_least_25 ?_
        refine w_top (nI (2 ^ cl (a 1 3))) (shl5 hN2) ?_
        refine w_icmp_geN (tgt := 83) hx hb (by omega) (by omega) dX0_least_26 (by decide) (fun c_2 => ?_) (fun c_2 => ?_)
        · have hjj : j = 2 ^ cl (a 1 3) - 1 := by omega
          have hlb := leB_le (a 1) x j
          refine lv_aload_n hx hb dX0_least_83 rfl (lv_at hl 2 rfl) ?_
          refine lv_iload_n hx hb dX0_least_84 rfl (lv_at hl 1 rfl) ?_
          refine w_if_leN (tgt := 92) hx hb (by omega) dX0_least_85 (by decide) (fun c_3 => ?_) (fun c_3 => ?_)
          · exact absurd (by rw [leS_B _ (by omega), ← hjj]; exact (nI_z (by omega)).mpr c_3) hres
          · refine lv_iconst (v := nI 1) hx hb dX0_least_88 (by decide) ?_
            refine lv_goto (tgt := 93) hx hb dX0_least_89 (by decide) ?_
            refine lv_iconst (v := nI 2) hx hb dX0_least_93 (by decide) ?_
            refine cm_n1 hx hb hml hown hts hK hI hM htab (hpc := 99) rfl q333 (by rw [hRf]; decide) (by rw [hRl]; decide) (Nat.zero_le _) (Nat.zero_le _) hl.1 (Nat.le_of_ble_eq_true rfl) dX0_least_94 (fun locs hM => ?_)
            refine lv_iload_n hx hb dX0_least_97 rfl (lv_at hl 1 rfl) ?_
            exact hret0 hM (mwEq.rf) rfl rfl ⟨rfl, rfl, rfl⟩ (by rw [leS_B _ (by omega), ← hjj]) dX0_least_98
        · have hlb := leB_le (a 1) x j
          refine lv_iload_n hx hb dX0_least_29 rfl (lv_at hl 1 rfl) ?_
          have j76 : ∀ (fc : Int32) (wk nm : Nat → Nat → Int32) (H : Heap) (locs : List Loc), cmH D h dA s.heap H locs f a fc wk hd ri rt cw tx nm → ∀ (ls : Array Slot), lv_has ls 5 [(3, .int (nI (j + 1))), (2, .int (nI (leB (a 1) x j))), (0, .ref (h 0)), (1, .int x)] → W p l e R s m args below meth c H locs 0 0 Q (F0 m 76 ls [.int (nI (leB (a 1) x (j + 1)))]) := by
            intro   fc wk nm H locs hM ls hl
            refine lv_istore_n (lv' := [(2, .int (nI (leB (a 1) x (j + 1)))), (3, .int (nI (j + 1))), (0, .ref (h 0)), (1, .int x)]) hx hb dX0_least_76 rfl hl (by decide) rfl (fun ls hl => ?_)
            refine lv_iinc (v := nI (j + 1 + 1)) (lv' := [(3, .int (nI (j + 1 + 1))), (2, .int (nI (leB (a 1) x (j + 1)))), (0, .ref (h 0)), (1, .int x)]) hx hb dX0_least_77 hl (k := 1) rfl (by rw [show Int32.ofInt 1 = nI 1 from by decide]; exact nI_add _ _) (by decide) rfl (fun ls hl => ?_)
            refine lv_goto (tgt := 16) hx hb dX0_least_80 (by decide) ?_
            exact ih16 (j + 1) (by omega) (by omega) _ _ _ _ _ hM ls (lv_sub hl [0, 1, 2, 3] rfl)
          refine w_if_eqN (tgt := 44) hx hb (by omega) dX0_least_30 (by decide) (fun c_4 => ?_) (fun c_4 => ?_)
          · refine lv_iconst (v := nI 1) hx hb dX0_least_44 (by decide) ?_
            refine lv_goto (tgt := 49) hx hb dX0_least_45 (by decide) ?_
            refine lv_istore (lv' := [(4, .int (nI 1)), (3, .int (nI (j + 1))), (2, .int (nI (leB (a 1) x j))), (0, .ref (h 0)), (1, .int x)]) hx hb dX0_least_49 hl (by decide) rfl (fun ls hl => ?_)
            refine lv_iload hx hb dX0_least_51 (lv_at hl 0 rfl) ?_
            refine lv_if_eq (tgt := 75) hx hb dX0_least_53 (by decide) (fun q => absurd q (by decide)) (fun _ => ?_)
            refine lv_iload_n hx hb dX0_least_56 rfl (lv_at hl 4 rfl) ?_
            refine lv_aload_n hx hb dX0_least_57 rfl (lv_at hl 3 rfl) ?_
            refine c_get (v := .ref (hm0 h 0)) hx hb hts in_X0 hown hK (hM.1 0 _ rfl) rfl 1 (by decide) q287 rfl rfl dX0_least_58 ?_
            refine lv_iload_n hx hb dX0_least_61 rfl (lv_at hl 1 rfl) ?_
            refine cm_mcall0 (y := yX2_known) hx hb hml hown hts hK hI hB hM (hQ.at hB hN mwEq.rf mwEq.rf mwEq.rf hM.2.2) (hN.1) (mw_known (a 1) hR (j + 1) (by omega)) q982 q983 q984 q985 ndX2_known rfl (by rw [hRf]; decide) (by rw [hRl]; decide) (Nat.zero_le _) (Nat.zero_le _) hl.1 rfl (Nat.le_of_ble_eq_true rfl) dX0_least_62 (fun H locs nm hM => ?_)
            rw [va_uself] at hM
            refine lv_iconst (v := (-1 : Int32)) hx hb dX0_least_65 (by decide) ?_
            refine lv_ixor hx hb dX0_least_66 ?_
            refine lv_iand hx hb dX0_least_67 ?_
            refine lv_if_ne (tgt := 75) hx hb dX0_least_68 (by decide) (fun c_6 => ?_) (fun c_6 => ?_)
            · refine lv_iload_n hx hb dX0_least_75 rfl (lv_at hl 2 rfl) ?_
              refine w_top (nI (leB (a 1) x (j + 1))) (by rw [leB, if_neg (fun q => c_6 q.2)]) ?_
              exact j76   _ _ _ _ _ hM ls (lv_sub hl [1, 2, 3, 4] rfl)
            · refine lv_iload_n hx hb dX0_least_71 rfl (lv_at hl 1 rfl) ?_
              refine lv_goto (tgt := 76) hx hb dX0_least_72 (by decide) ?_
              refine w_top (nI (leB (a 1) x (j + 1))) (by rw [leB, if_pos ⟨Or.inl c_4, c_6⟩]) ?_
              exact j76   _ _ _ _ _ hM ls (lv_sub hl [1, 2, 3, 4] rfl)
          · refine lv_iload_n hx hb dX0_least_33 rfl (lv_at hl 0 rfl) ?_
            refine st_callS (y := yJ9_bitCount) hx hb hml hown hts (cmJ9_bitCount (j + 1) (by omega)) q1005 q965 q91 q966 ndJ9_bitCount rfl (by rw [hRf]; decide) (by rw [hRl]; decide) (Nat.zero_le _) (Nat.zero_le _) hl.1 rfl (Nat.le_of_ble_eq_true rfl) dX0_least_34 ?_
            refine lv_iload_n hx hb dX0_least_37 rfl (lv_at hl 1 rfl) ?_
            refine st_callS (y := yJ9_bitCount) hx hb hml hown hts (cmJ9_bitCount (leB (a 1) x j) (by omega)) q1005 q965 q91 q966 ndJ9_bitCount rfl (by rw [hRf]; decide) (by rw [hRl]; decide) (Nat.zero_le _) (Nat.zero_le _) hl.1 rfl (Nat.le_of_ble_eq_true rfl) dX0_least_38 ?_
            refine lv_icmp_ge (tgt := 48) hx hb dX0_least_41 (by decide) (fun c_7 => ?_) (fun c_7 => ?_)
            · refine lv_iconst (v := nI 0) hx hb dX0_least_48 (by decide) ?_
              refine lv_istore (lv' := [(4, .int (nI 0)), (3, .int (nI (j + 1))), (2, .int (nI (leB (a 1) x j))), (0, .ref (h 0)), (1, .int x)]) hx hb dX0_least_49 hl (by decide) rfl (fun ls hl => ?_)
              refine lv_iload hx hb dX0_least_51 (lv_at hl 0 rfl) ?_
              refine lv_if_eq (tgt := 75) hx hb dX0_least_53 (by decide) (fun _ => ?_) (fun q => absurd q (by decide))
              refine lv_iload_n hx hb dX0_least_75 rfl (lv_at hl 2 rfl) ?_
              refine w_top (nI (leB (a 1) x (j + 1))) (by rw [leB, if_neg (fun q => q.1.elim (fun z => by omega) (fun z => absurd z (by first | exact c_7 | exact Int32.not_lt.mpr c_7)))]) ?_
              exact j76   _ _ _ _ _ hM ls (lv_sub hl [1, 2, 3, 4] rfl)
            · refine lv_iconst (v := nI 1) hx hb dX0_least_44 (by decide) ?_
              refine lv_goto (tgt := 49) hx hb dX0_least_45 (by decide) ?_
              refine lv_istore (lv' := [(4, .int (nI 1)), (3, .int (nI (j + 1))), (2, .int (nI (leB (a 1) x j))), (0, .ref (h 0)), (1, .int x)]) hx hb dX0_least_49 hl (by decide) rfl (fun ls hl => ?_)
              refine lv_iload hx hb dX0_least_51 (lv_at hl 0 rfl) ?_
              refine lv_if_eq (tgt := 75) hx hb dX0_least_53 (by decide) (fun q => absurd q (by decide)) (fun _ => ?_)
              refine lv_iload_n hx hb dX0_least_56 rfl (lv_at hl 4 rfl) ?_
              refine lv_aload_n hx hb dX0_least_57 rfl (lv_at hl 3 rfl) ?_
              refine c_get (v := .ref (hm0 h 0)) hx hb hts in_X0 hown hK (hM.1 0 _ rfl) rfl 1 (by decide) q287 rfl rfl dX0_least_58 ?_
              refine lv_iload_n hx hb dX0_least_61 rfl (lv_at hl 1 rfl) ?_
              refine cm_mcall0 (y := yX2_known) hx hb hml hown hts hK hI hB hM (hQ.at hB hN mwEq.rf mwEq.rf mwEq.rf hM.2.2) (hN.1) (mw_known (a 1) hR (j + 1) (by omega)) q982 q983 q984 q985 ndX2_known rfl (by rw [hRf]; decide) (by rw [hRl]; decide) (Nat.zero_le _) (Nat.zero_le _) hl.1 rfl (Nat.le_of_ble_eq_true rfl) dX0_least_62 (fun H locs nm hM => ?_)
              rw [va_uself] at hM
              refine lv_iconst (v := (-1 : Int32)) hx hb dX0_least_65 (by decide) ?_
              refine lv_ixor hx hb dX0_least_66 ?_
              refine lv_iand hx hb dX0_least_67 ?_
              refine lv_if_ne (tgt := 75) hx hb dX0_least_68 (by decide) (fun c_10 => ?_) (fun c_10 => ?_)
              · refine lv_iload_n hx hb dX0_least_75 rfl (lv_at hl 2 rfl) ?_
                refine w_top (nI (leB (a 1) x (j + 1))) (by rw [leB, if_neg (fun q => c_10 q.2)]) ?_
                exact j76   _ _ _ _ _ hM ls (lv_sub hl [1, 2, 3, 4] rfl)
              · refine lv_iload_n hx hb dX0_least_71 rfl (lv_at hl 1 rfl) ?_
                refine lv_goto (tgt := 76) hx hb dX0_least_72 (by decide) ?_
                refine w_top (nI (leB (a 1) x (j + 1))) (by rw [leB, if_pos ⟨Or.inr (by first | exact c_7 | exact Int32.not_le.mp c_7), c_10⟩]) ?_
                exact j76   _ _ _ _ _ hM ls (lv_sub hl [1, 2, 3, 4] rfl)
    exact loop16 (2 ^ cl (a 1 3) + 1) 0 (by omega) (by omega) _ _ _ _ _ hM ls (lv_sub hl [0, 1, 2, 3] rfl)
  · exact absurd (by first | exact (in_nat (by decide)).mpr ⟨_, by omega, rfl⟩ | exact (in_nat1 _ (by decide) (by decide)).mpr ⟨_, by omega, by omega, rfl⟩ | exact cow_in hN0 (by omega) | assumption) c_1
set_option maxHeartbeats 400000 in
theorem ca_least_n (f : Nat → Int32) (a : Nat → Nat → Int32) (x : Int32) (hx0 : nI 0 ≤ x ∧ x ≤ nI 33554431) (hR : okR (a 1)) (hres : (leS (a 1) x (2 ^ cl (a 1 3) - 1)).1 = 0) : CmF yX0_least cX0_least 5 [(0, 98, 99, 8)] 65 1493 [.int x] f a (-1000000002 : Int32) f (mErr a 2) := by
  refine CmF.ofI (by decide) rfl (Nat.le_of_ble_eq_true rfl) ?_
  intro p l e R s m args below meth c Q D dA h fc wk hd ri rt cw tx nm B S ls hx hb hml hRf hRl hRc hRs htab hts hown hK hI hB hS0 hQ hN hIm hZ hSh hM hl hret hret0
  have hl : lv_has ls 5 [(0, .ref (h 0)), (1, .int x)] := hl
  have hN0 := hR.2.1
  have hN2 := hN0.2
  have hpw := pw5 hN2
  refine lv_aload_n hx hb dX0_least_0 rfl (lv_at hl 0 rfl) ?_
  refine lv_iload_n hx hb dX0_least_1 rfl (lv_at hl 1 rfl) ?_
  refine lv_iconst (v := nI 0) hx hb dX0_least_2 (by decide) ?_
  refine lv_ldc hx hb hown (hts _ q1004) dX0_least_3 ?_
  refine w_top (nI 33554431) (by decide) ?_
  refine st_callS (y := yX0_in) hx hb hml hown hts (cmX0_in x (nI 0) (nI 33554431)) q330 q331 q61 q332 ndX0_in rfl (by rw [hRf]; decide) (by rw [hRl]; decide) (Nat.zero_le _) (Nat.zero_le _) hl.1 rfl (Nat.le_of_ble_eq_true rfl) dX0_least_5 ?_
  refine lv_iconst (v := nI 1) hx hb dX0_least_8 (by decide) ?_
  refine cm_need hx hb hml hown hts hK hI hM htab (hpc := 99) rfl q333 (by rw [hRf]; decide) (by rw [hRl]; decide) (Nat.zero_le _) (Nat.zero_le _) hl.1 (Nat.le_of_ble_eq_true rfl) dX0_least_9 (fun c_1 locs hM => ?_) (fun c_1 H locs hM => ?_)
  · refine lv_iconst (v := nI 0) hx hb dX0_least_12 (by decide) ?_
    refine lv_istore_n (lv' := [(2, .int (nI 0)), (0, .ref (h 0)), (1, .int x)]) hx hb dX0_least_13 rfl hl (by decide) rfl (fun ls hl => ?_)
    refine lv_iconst (v := nI 1) hx hb dX0_least_14 (by decide) ?_
    refine lv_istore_n (lv' := [(3, .int (nI 1)), (2, .int (nI 0)), (0, .ref (h 0)), (1, .int x)]) hx hb dX0_least_15 rfl hl (by decide) rfl (fun ls hl => ?_)
    have loop16 : ∀ (fu : Nat) (j : Nat), (j + 1 ≤ 2 ^ cl (a 1 3)) → (2 ^ cl (a 1 3) < j + 1 + fu) → ∀ (fc : Int32) (wk nm : Nat → Nat → Int32) (H : Heap) (locs : List Loc), cmH D h dA s.heap H locs f a fc wk hd ri rt cw tx nm → ∀ (ls : Array Slot), lv_has ls 5 [(3, .int (nI (j + 1))), (2, .int (nI (leB (a 1) x j))), (0, .ref (h 0)), (1, .int x)] → W p l e R s m args below meth c H locs 0 0 Q (F0 m 16 ls []) := by
      intro fu
      induction fu with
      | zero =>
        intro j hj hf
        omega
      | succ fu ih16 =>
        intro j hj hf fc wk nm H locs hM ls hl
        refine lv_iload_n hx hb dX0_least_16 rfl (lv_at hl 0 rfl) ?_
        refine lv_iconst (v := nI 1) hx hb dX0_least_17 (by decide) ?_
        refine lv_aload_n hx hb dX0_least_18 rfl (lv_at hl 2 rfl) ?_
        refine c_get (v := .ref (hm0 h 0)) hx hb hts in_X0 hown hK (hM.1 0 _ rfl) rfl 1 (by decide) q287 rfl rfl dX0_least_19 ?_
        have nq := hK.F 1 rfl
        refine c_getN (v := .int (a 1 3)) hx hb hts in_X2 hown hK ((cm_parts hM.1).2.1 0 _ rfl) rfl 3 (by decide) nq rfl rfl dX0_least_22 ?_
        refine w_top (nI (cl (a 1 3))) (hN0.1) ?_
        refine lv_ishl hx hb dX0_least_25 ?_
        refine w_top (nI (2 ^ cl (a 1 3))) (shl5 hN2) ?_
        refine w_icmp_geN (tgt := 83) hx hb (by omega) (by omega) dX0_least_26 (by decide) (fun c_2 => ?_) (fun c_2 => ?_)
        · have hjj : j = 2 ^ cl (a 1 3) - 1 := by omega
          have hlb := leB_le (a 1) x j
          refine lv_aload_n hx hb dX0_least_83 rfl (lv_at hl 2 rfl) ?_
          refine lv_iload_n hx hb dX0_least_84 rfl (lv_at hl 1 rfl) ?_
          refine w_if_leN (tgt := 92) hx hb (by omega) dX0_least_85 (by decide) (fun c_3 => ?_) (fun c_3 => ?_)
          · refine lv_iconst (v := nI 0) hx hb dX0_least_92 (by decide) ?_
            refine lv_iconst (v := nI 2) hx hb dX0_least_93 (by decide) ?_
            refine cm_n0 hx hb hml hown hts hK hI hM htab (hpc := 99) rfl q333 (by rw [hRf]; decide) (by rw [hRl]; decide) (Nat.zero_le _) (Nat.zero_le _) hl.1 (Nat.le_of_ble_eq_true rfl) dX0_least_94 (fun H locs hM => ?_)
            refine lv_astore_n (lv' := [(2, .ref (h 1)), (3, .int (nI (j + 1))), (0, .ref (h 0)), (1, .int x)]) hx hb dX0_least_99 rfl hl (by decide) rfl (fun ls hl => ?_)
            refine lv_aload_n hx hb dX0_least_100 rfl (lv_at hl 2 rfl) ?_
            refine lv_aload_n hx hb dX0_least_101 rfl (lv_at hl 0 rfl) ?_
            refine cm_fin hx hb hml hown hts hK hI 2 (by decide) hM q341 (by rw [hRf]; decide) (by rw [hRl]; decide) (Nat.zero_le _) (Nat.zero_le _) hl.1 (Nat.le_of_ble_eq_true rfl) dX0_least_102 (fun H locs hM => ?_)
            exact hret0 hM (mwEq.rf) rfl rfl ⟨rfl, rfl, rfl⟩ (by decide) dX0_least_105
          · exact absurd c_3 (by rw [leS_B _ (by omega), ← hjj] at hres; have := (nI_z (by omega)).mp hres; omega)
        · have hlb := leB_le (a 1) x j
          refine lv_iload_n hx hb dX0_least_29 rfl (lv_at hl 1 rfl) ?_
          have j76 : ∀ (fc : Int32) (wk nm : Nat → Nat → Int32) (H : Heap) (locs : List Loc), cmH D h dA s.heap H locs f a fc wk hd ri rt cw tx nm → ∀ (ls : Array Slot), lv_has ls 5 [(3, .int (nI (j + 1))), (2, .int (nI (leB (a 1) x j))), (0, .ref (h 0)), (1, .int x)] → W p l e R s m args below meth c H locs 0 0 Q (F0 m 76 ls [.int (nI (leB (a 1) x (j + 1)))]) := by
            intro   fc wk nm H locs hM ls hl
            refine lv_istore_n (lv' := [(2, .int (nI (leB (a 1) x (j + 1)))), (3, .int (nI (j + 1))), (0, .ref (h 0)), (1, .int x)]) hx hb dX0_least_76 rfl hl (by decide) rfl (fun ls hl => ?_)
            refine lv_iinc (v := nI (j + 1 + 1)) (lv' := [(3, .int (nI (j + 1 + 1))), (2, .int (nI (leB (a 1) x (j + 1)))), (0, .ref (h 0)), (1, .int x)]) hx hb dX0_least_77 hl (k := 1) rfl (by rw [show Int32.ofInt 1 = nI 1 from by decide]; exact nI_add _ _) (by decide) rfl (fun ls hl => ?_)
            refine lv_goto (tgt := 16) hx hb dX0_least_80 (by decide) ?_
            exact ih16 (j + 1) (by omega) (by omega) _ _ _ _ _ hM ls (lv_sub hl [0, 1, 2, 3] rfl)
          refine w_if_eqN (tgt := 44) hx hb (by omega) dX0_least_30 (by decide) (fun c_4 => ?_) (fun c_4 => ?_)
          · refine lv_iconst (v := nI 1) hx hb dX0_least_44 (by decide) ?_
            refine lv_goto (tgt := 49) hx hb dX0_least_45 (by decide) ?_
            refine lv_istore (lv' := [(4, .int (nI 1)), (3, .int (nI (j + 1))), (2, .int (nI (leB (a 1) x j))), (0, .ref (h 0)), (1, .int x)]) hx hb dX0_least_49 hl (by decide) rfl (fun ls hl => ?_)
            refine lv_iload hx hb dX0_least_51 (lv_at hl 0 rfl) ?_
            refine lv_if_eq (tgt := 75) hx hb dX0_least_53 (by decide) (fun q => absurd q (by decide)) (fun _ => ?_)
            refine lv_iload_n hx hb dX0_least_56 rfl (lv_at hl 4 rfl) ?_
            refine lv_aload_n hx hb dX0_least_57 rfl (lv_at hl 3 rfl) ?_
            refine c_get (v := .ref (hm0 h 0)) hx hb hts in_X0 hown hK (hM.1 0 _ rfl) rfl 1 (by decide) q287 rfl rfl dX0_least_58 ?_
            refine lv_iload_n hx hb dX0_least_61 rfl (lv_at hl 1 rfl) ?_
            refine cm_mcall0 (y := yX2_known) hx hb hml hown hts hK hI hB hM (hQ.at hB hN mwEq.rf mwEq.rf mwEq.rf hM.2.2) (hN.1) (mw_known (a 1) hR (j + 1) (by omega)) q982 q983 q984 q985 ndX2_known rfl (by rw [hRf]; decide) (by rw [hRl]; decide) (Nat.zero_le _) (Nat.zero_le _) hl.1 rfl (Nat.le_of_ble_eq_true rfl) dX0_least_62 (fun H locs nm hM => ?_)
            rw [va_uself] at hM
            refine lv_iconst (v := (-1 : Int32)) hx hb dX0_least_65 (by decide) ?_
            refine lv_ixor hx hb dX0_least_66 ?_
            refine lv_iand hx hb dX0_least_67 ?_
            refine lv_if_ne (tgt := 75) hx hb dX0_least_68 (by decide) (fun c_6 => ?_) (fun c_6 => ?_)
            · refine lv_iload_n hx hb dX0_least_75 rfl (lv_at hl 2 rfl) ?_
              refine w_top (nI (leB (a 1) x (j + 1))) (by rw [leB, if_neg (fun q => c_6 q.2)]) ?_
              exact j76   _ _ _ _ _ hM ls (lv_sub hl [1, 2, 3, 4] rfl)
            · refine lv_iload_n hx hb dX0_least_71 rfl (lv_at hl 1 rfl) ?_
              refine lv_goto (tgt := 76) hx hb dX0_least_72 (by decide) ?_
              refine w_top (nI (leB (a 1) x (j + 1))) (by rw [leB, if_pos ⟨Or.inl c_4, c_6⟩]) ?_
              exact j76   _ _ _ _ _ hM ls (lv_sub hl [1, 2, 3, 4] rfl)
          · refine lv_iload_n hx hb dX0_least_33 rfl (lv_at hl 0 rfl) ?_
            refine st_callS (y := yJ9_bitCount) hx hb hml hown hts (cmJ9_bitCount (j + 1) (by omega)) q1005 q965 q91 q966 ndJ9_bitCount rfl (by rw [hRf]; decide) (by rw [hRl]; decide) (Nat.zero_le _) (Nat.zero_le _) hl.1 rfl (Nat.le_of_ble_eq_true rfl) dX0_least_34 ?_
            refine lv_iload_n hx hb dX0_least_37 rfl (lv_at hl 1 rfl) ?_
            refine st_callS (y := yJ9_bitCount) hx hb hml hown hts (cmJ9_bitCount (leB (a 1) x j) (by omega)) q1005 q965 q91 q966 ndJ9_bitCount rfl (by rw [hRf]; decide) (by rw [hRl]; decide) (Nat.zero_le _) (Nat.zero_le _) hl.1 rfl (Nat.le_of_ble_eq_true rfl) dX0_least_38 ?_
            refine lv_icmp_ge (tgt := 48) hx hb dX0_least_41 (by decide) (fun c_7 => ?_) (fun c_7 => ?_)
            · refine lv_iconst (v := nI 0) hx hb dX0_least_48 (by decide) ?_
              refine lv_istore (lv' := [(4, .int (nI 0)), (3, .int (nI (j + 1))), (2, .int (nI (leB (a 1) x j))), (0, .ref (h 0)), (1, .int x)]) hx hb dX0_least_49 hl (by decide) rfl (fun ls hl => ?_)
              refine lv_iload hx hb dX0_least_51 (lv_at hl 0 rfl) ?_
              refine lv_if_eq (tgt := 75) hx hb dX0_least_53 (by decide) (fun _ => ?_) (fun q => absurd q (by decide))
              refine lv_iload_n hx hb dX0_least_75 rfl (lv_at hl 2 rfl) ?_
              refine w_top (nI (leB (a 1) x (j + 1))) (by rw [leB, if_neg (fun q => q.1.elim (fun z => by omega) (fun z => absurd z (by first | exact c_7 | exact Int32.not_lt.mpr c_7)))]) ?_
              exact j76   _ _ _ _ _ hM ls (lv_sub hl [1, 2, 3, 4] rfl)
            · refine lv_iconst (v := nI 1) hx hb dX0_least_44 (by decide) ?_
              refine lv_goto (tgt := 49) hx hb dX0_least_45 (by decide) ?_
              refine lv_istore (lv' := [(4, .int (nI 1)), (3, .int (nI (j + 1))), (2, .int (nI (leB (a 1) x j))), (0, .ref (h 0)), (1, .int x)]) hx hb dX0_least_49 hl (by decide) rfl (fun ls hl => ?_)
              refine lv_iload hx hb dX0_least_51 (lv_at hl 0 rfl) ?_
              refine lv_if_eq (tgt := 75) hx hb dX0_least_53 (by decide) (fun q => absurd q (by decide)) (fun _ => ?_)
              refine lv_iload_n hx hb dX0_least_56 rfl (lv_at hl 4 rfl) ?_
              refine lv_aload_n hx hb dX0_least_57 rfl (lv_at hl 3 rfl) ?_
              refine c_get (v := .ref (hm0 h 0)) hx hb hts in_X0 hown hK (hM.1 0 _ rfl) rfl 1 (by decide) q287 rfl rfl dX0_least_58 ?_
              refine lv_iload_n hx hb dX0_least_61 rfl (lv_at hl 1 rfl) ?_
              refine cm_mcall0 (y := yX2_known) hx hb hml hown hts hK hI hB hM (hQ.at hB hN mwEq.rf mwEq.rf mwEq.rf hM.2.2) (hN.1) (mw_known (a 1) hR (j + 1) (by omega)) q982 q983 q984 q985 ndX2_known rfl (by rw [hRf]; decide) (by rw [hRl]; decide) (Nat.zero_le _) (Nat.zero_le _) hl.1 rfl (Nat.le_of_ble_eq_true rfl) dX0_least_62 (fun H locs nm hM => ?_)
              rw [va_uself] at hM
              refine lv_iconst (v := (-1 : Int32)) hx hb dX0_least_65 (by decide) ?_
              refine lv_ixor hx hb dX0_least_66 ?_
              refine lv_iand hx hb dX0_least_67 ?_
              refine lv_if_ne (tgt := 75) hx hb dX0_least_68 (by decide) (fun c_10 => ?_) (fun c_10 => ?_)
              · refine lv_iload_n hx hb dX0_least_75 rfl (lv_at hl 2 rfl) ?_
                refine w_top (nI (leB (a 1) x (j + 1))) (by rw [leB, if_neg (fun q => c_10 q.2)]) ?_
                exact j76   _ _ _ _ _ hM ls (lv_sub hl [1, 2, 3, 4] rfl)
              · refine lv_iload_n hx hb dX0_least_71 rfl (lv_at hl 1 rfl) ?_
                refine lv_goto (tgt := 76) hx hb dX0_least_72 (by decide) ?_
                refine w_top (nI (leB (a 1) x (j + 1))) (by rw [leB, if_pos ⟨Or.inr (by first | exact c_7 | exact Int32.not_le.mp c_7), c_10⟩]) ?_
                exact j76   _ _ _ _ _ hM ls (lv_sub hl [1, 2, 3, 4] rfl)
    exact loop16 (2 ^ cl (a 1 3) + 1) 0 (by omega) (by omega) _ _ _ _ _ hM ls (lv_sub hl [0, 1, 2, 3] rfl)
  · exact absurd (by first | exact (in_nat (by decide)).mpr ⟨_, by omega, rfl⟩ | exact (in_nat1 _ (by decide) (by decide)).mpr ⟨_, by omega, by omega, rfl⟩ | exact cow_in hN0 (by omega) | assumption) c_1
set_option maxHeartbeats 400000 in
theorem ca_least_e (f : Nat → Int32) (a : Nat → Nat → Int32) (x : Int32) (he : ¬ (nI 0 ≤ x ∧ x ≤ nI 33554431)) : CmF yX0_least cX0_least 5 [(0, 98, 99, 8)] 2 60 [.int x] f a (-1000000001 : Int32) f (mErr a 1) := by
  refine CmF.ofI (by decide) rfl (Nat.le_of_ble_eq_true rfl) ?_
  intro p l e R s m args below meth c Q D dA h fc wk hd ri rt cw tx nm B S ls hx hb hml hRf hRl hRc hRs htab hts hown hK hI hB hS0 hQ hN hIm hZ hSh hM hl hret hret0
  have hl : lv_has ls 5 [(0, .ref (h 0)), (1, .int x)] := hl
  refine lv_aload_n hx hb dX0_least_0 rfl (lv_at hl 0 rfl) ?_
  refine lv_iload_n hx hb dX0_least_1 rfl (lv_at hl 1 rfl) ?_
  refine lv_iconst (v := nI 0) hx hb dX0_least_2 (by decide) ?_
  refine lv_ldc hx hb hown (hts _ q1004) dX0_least_3 ?_
  refine w_top (nI 33554431) (by decide) ?_
  refine st_callS (y := yX0_in) hx hb hml hown hts (cmX0_in x (nI 0) (nI 33554431)) q330 q331 q61 q332 ndX0_in rfl (by rw [hRf]; decide) (by rw [hRl]; decide) (Nat.zero_le _) (Nat.zero_le _) hl.1 rfl (Nat.le_of_ble_eq_true rfl) dX0_least_5 ?_
  refine lv_iconst (v := nI 1) hx hb dX0_least_8 (by decide) ?_
  refine cm_need hx hb hml hown hts hK hI hM htab (hpc := 99) rfl q333 (by rw [hRf]; decide) (by rw [hRl]; decide) (Nat.zero_le _) (Nat.zero_le _) hl.1 (Nat.le_of_ble_eq_true rfl) dX0_least_9 (fun c_1 locs hM => ?_) (fun c_1 H locs hM => ?_)
  · exact absurd c_1 he
  · refine lv_astore_n (lv' := [(2, .ref (h 1)), (0, .ref (h 0)), (1, .int x)]) hx hb dX0_least_99 rfl hl (by decide) rfl (fun ls hl => ?_)
    refine lv_aload_n hx hb dX0_least_100 rfl (lv_at hl 1 rfl) ?_
    refine lv_aload_n hx hb dX0_least_101 rfl (lv_at hl 0 rfl) ?_
    refine cm_fin hx hb hml hown hts hK hI 1 (by decide) hM q341 (by rw [hRf]; decide) (by rw [hRl]; decide) (Nat.zero_le _) (Nat.zero_le _) hl.1 (Nat.le_of_ble_eq_true rfl) dX0_least_102 (fun H locs hM => ?_)
    exact hret0 hM (mwEq.rf) rfl rfl ⟨rfl, rfl, rfl⟩ (by decide) dX0_least_105
