/-! the model: acts, 6 (printed by model13.py) -/
set_option maxRecDepth 100000
/-- how far two cells are apart -/
def farI (t c : Nat) : Int32 := szI (nI (t / 5) - nI (c / 5)) + szI (nI (t % 5) - nI (c % 5))
/-- the nearest of the first k cows, and how far it is -/
def nrS (r : Nat → Int32) (c : Nat) : Nat → Int32 × Int32
  | 0 => (-1, nI 25)
  | k + 1 => if farI (cl (r (58 + 14 * k + 2))) c < (nrS r c k).2 then (nI k, farI (cl (r (58 + 14 * k + 2))) c) else nrS r c k
theorem ndX6_near : yX6_near.cls = RX6 ∧ yX6_near.cls ≠ "java/lang/invoke/MethodHandle" ∧ yX6_near.cls ≠ "java/lang/invoke/VarHandle" ∧ (parseMethodDescriptor yX6_near.desc).map (fun d => d.parameters.length) = some 1 := by decide +kernel
set_option maxHeartbeats 400000 in
theorem met_near_ok (f : Nat → Int32) (a : Nat → Nat → Int32) (c0 : Nat) (hc : c0 < 25) (hR : okR (a 1)) (hres : 0 ≤ (nrS (a 1) c0 (cl (a 1 3))).1) : MdF yX6_near cX6_near 7 (some .int) 2 42 [.int (nI c0)] f a (some (.int ((nrS (a 1) c0 (cl (a 1 3))).1))) f a := by
  refine MdF.ofI (by decide) rfl (Nat.le_of_ble_eq_true rfl) ?_
  intro p l e R s m args below meth c Q D h dA ls hx hb hml hRf hRl hts hown hK hI hM hl hret
  have hl : lv_has ls 7 [(0, .ref (h 0)), (1, .int (nI c0))] := hl
  have hN := hR.2.1
  have hN2 := hN.2
  refine lv_iload_n hx hb dX6_near_0 rfl (lv_at hl 1 rfl) ?_
  refine st_callI (y := yX6_isCell) hx hb hml hown hts (met_isCell (nI c0)) q1479 q1480 q70 q1481 ndX6_isCell rfl (by rw [hRf]; decide) (by rw [hRl]; decide) ⟨Nat.zero_le _, Nat.zero_le _⟩ hl.1 rfl (Nat.le_of_ble_eq_true rfl) dX6_near_1 ?_
  refine w_if_neT (tgt := 14) hx hb dX6_near_4 (by decide) (fun c_1 => ?_) (fun c_1 => ?_)
  · refine lv_iconst (v := (-1 : Int32)) hx hb dX6_near_14 (by decide) ?_
    refine lv_istore_n (lv' := [(2, .int (-1 : Int32)), (0, .ref (h 0)), (1, .int (nI c0))]) hx hb dX6_near_15 rfl hl (by decide) rfl (fun ls hl => ?_)
    refine lv_bipush (v := nI 25) hx hb dX6_near_16 (by decide) ?_
    refine lv_istore_n (lv' := [(3, .int (nI 25)), (2, .int (-1 : Int32)), (0, .ref (h 0)), (1, .int (nI c0))]) hx hb dX6_near_18 rfl hl (by decide) rfl (fun ls hl => ?_)
    refine lv_iconst (v := nI 0) hx hb dX6_near_19 (by decide) ?_
    refine lv_istore (lv' := [(4, .int (nI 0)), (3, .int (nI 25)), (2, .int (-1 : Int32)), (0, .ref (h 0)), (1, .int (nI c0))]) hx hb dX6_near_20 hl (by decide) rfl (fun ls hl => ?_)
    have loop22 : ∀ (fu : Nat) (k : Nat), (k ≤ cl (a 1 3)) → (cl (a 1 3) < k + fu) → ∀ (H : Heap) (locs : List Loc), mdH D h dA s.heap H locs f a → ∀ (ls : Array Slot), lv_has ls 7 [(4, .int (nI k)), (3, .int ((nrS (a 1) c0 k).2)), (2, .int ((nrS (a 1) c0 k).1)), (0, .ref (h 0)), (1, .int (nI c0))] → W p l e R s m args below meth c H locs 0 0 Q (F0 m 22 ls []) := by
      intro fu
      induction fu with
      | zero =>
        intro k hk hn
        omega
      | succ fu ih22 =>
        intro k hk hn H locs hM ls hl
        refine lv_iload hx hb dX6_near_22 (lv_at hl 0 rfl) ?_
        refine lv_aload_n hx hb dX6_near_24 rfl (lv_at hl 3 rfl) ?_
        refine md_get (v := .ref (h 1)) hx hb hts hown hK hM 0 (by decide) q1390 rfl rfl dX6_near_25 ?_
        refine lv_iconst (v := nI 3) hx hb dX6_near_28 (by decide) ?_
        refine md_iald hx hb hK hM 1 rfl 3 ⟨by omega, by decide, rfl⟩ dX6_near_29 ?_
        refine w_top (nI (cl (a 1 3))) (hN.1) ?_
        refine w_icmp_geN (tgt := 99) hx hb (by omega) (by omega) dX6_near_30 (by decide) (fun c_2 => ?_) (fun c_2 => ?_)
        · have hkk : k = cl (a 1 3) := by omega
          refine lv_iload_n hx hb dX6_near_99 rfl (lv_at hl 2 rfl) ?_
          refine lv_if_ge (tgt := 112) hx hb dX6_near_100 (by decide) (fun c_3 => ?_) (fun c_3 => ?_)
          · refine lv_iload_n hx hb dX6_near_112 rfl (lv_at hl 2 rfl) ?_
            exact hret hM (by rw [hkk]) dX6_near_113
          · exact absurd (by rw [hkk]; exact hres) c_3
        · have hat := (hR.2.2.2.2.2.1 k (by omega)).2.2.1
          have hat2 := hat.2
          refine lv_aload_n hx hb dX6_near_33 rfl (lv_at hl 3 rfl) ?_
          refine lv_iload hx hb dX6_near_34 (lv_at hl 0 rfl) ?_
          refine lv_iconst (v := nI 2) hx hb dX6_near_36 (by decide) ?_
          refine md_callI (y := yX6_its) hx hb hml hown hts hK hI hM (met_its f a k 2 (by omega)) q1557 q1559 qs35 q1560 ndX6_its rfl (by rw [hRf]; decide) (by rw [hRl]; decide) hl.1 rfl (Nat.le_of_ble_eq_true rfl) dX6_near_37 (fun H locs hM => ?_)
          refine w_top (nI (cl (a 1 (58 + 14 * k + 2)))) (hat.1) ?_
          refine lv_istore (lv' := [(5, .int (nI (cl (a 1 (58 + 14 * k + 2))))), (4, .int (nI k)), (3, .int ((nrS (a 1) c0 k).2)), (2, .int ((nrS (a 1) c0 k).1)), (0, .ref (h 0)), (1, .int (nI c0))]) hx hb dX6_near_40 hl (by decide) rfl (fun ls hl => ?_)
          refine lv_iload hx hb dX6_near_42 (lv_at hl 0 rfl) ?_
          refine lv_iconst (v := nI 5) hx hb dX6_near_44 (by decide) ?_
          refine w_idivN hx hb (by omega) (by omega) (by omega) dX6_near_45 ?_
          refine lv_iload_n hx hb dX6_near_46 rfl (lv_at hl 5 rfl) ?_
          refine lv_iconst (v := nI 5) hx hb dX6_near_47 (by decide) ?_
          refine w_idivN hx hb (by omega) (by omega) (by omega) dX6_near_48 ?_
          refine lv_isub hx hb dX6_near_49 ?_
          refine st_callI (y := yX6_size) hx hb hml hown hts (met_size ((nI ((cl (a 1 (58 + 14 * k + 2))) / 5)) - (nI (c0 / 5)))) q1746 q1747 q70 q1748 ndX6_size rfl (by rw [hRf]; decide) (by rw [hRl]; decide) ⟨Nat.zero_le _, Nat.zero_le _⟩ hl.1 rfl (Nat.le_of_ble_eq_true rfl) dX6_near_50 ?_
          refine lv_iload hx hb dX6_near_53 (lv_at hl 0 rfl) ?_
          refine lv_iconst (v := nI 5) hx hb dX6_near_55 (by decide) ?_
          refine w_iremN hx hb (by omega) (by omega) (by omega) dX6_near_56 ?_
          refine lv_iload_n hx hb dX6_near_57 rfl (lv_at hl 5 rfl) ?_
          refine lv_iconst (v := nI 5) hx hb dX6_near_58 (by decide) ?_
          refine w_iremN hx hb (by omega) (by omega) (by omega) dX6_near_59 ?_
          refine lv_isub hx hb dX6_near_60 ?_
          refine st_callI (y := yX6_size) hx hb hml hown hts (met_size ((nI ((cl (a 1 (58 + 14 * k + 2))) % 5)) - (nI (c0 % 5)))) q1746 q1747 q70 q1748 ndX6_size rfl (by rw [hRf]; decide) (by rw [hRl]; decide) ⟨Nat.zero_le _, Nat.zero_le _⟩ hl.1 rfl (Nat.le_of_ble_eq_true rfl) dX6_near_61 ?_
          refine lv_iadd hx hb dX6_near_64 ?_
          refine w_top (farI (cl (a 1 (58 + 14 * k + 2))) c0) (rfl) ?_
          refine lv_istore (lv' := [(6, .int (farI (cl (a 1 (58 + 14 * k + 2))) c0)), (5, .int (nI (cl (a 1 (58 + 14 * k + 2))))), (4, .int (nI k)), (3, .int ((nrS (a 1) c0 k).2)), (2, .int ((nrS (a 1) c0 k).1)), (0, .ref (h 0)), (1, .int (nI c0))]) hx hb dX6_near_65 hl (by decide) rfl (fun ls hl => ?_)
          refine lv_iload hx hb dX6_near_67 (lv_at hl 0 rfl) ?_
          refine lv_iload_n hx hb dX6_near_69 rfl (lv_at hl 3 rfl) ?_
          refine lv_icmp_ge (tgt := 78) hx hb dX6_near_70 (by decide) (fun c_4 => ?_) (fun c_4 => ?_)
          · refine lv_iload_n hx hb dX6_near_78 rfl (lv_at hl 4 rfl) ?_
            have hw : nrS (a 1) c0 (k + 1) = nrS (a 1) c0 k := by rw [nrS, if_neg (Int32.not_lt.mpr c_4)]
            refine w_top (nrS (a 1) c0 (k + 1)).1 (by rw [hw]) ?_
            refine lv_istore_n (lv' := [(2, .int ((nrS (a 1) c0 (k + 1)).1)), (6, .int (farI (cl (a 1 (58 + 14 * k + 2))) c0)), (5, .int (nI (cl (a 1 (58 + 14 * k + 2))))), (4, .int (nI k)), (3, .int ((nrS (a 1) c0 k).2)), (0, .ref (h 0)), (1, .int (nI c0))]) hx hb dX6_near_79 rfl hl (by decide) rfl (fun ls hl => ?_)
            refine lv_iload hx hb dX6_near_80 (lv_at hl 1 rfl) ?_
            refine lv_iload_n hx hb dX6_near_82 rfl (lv_at hl 4 rfl) ?_
            refine lv_icmp_ge (tgt := 91) hx hb dX6_near_83 (by decide) (fun c_5 => ?_) (fun c_5 => ?_)
            · refine lv_iload_n hx hb dX6_near_91 rfl (lv_at hl 4 rfl) ?_
              refine w_top (nrS (a 1) c0 (k + 1)).2 (by rw [hw]) ?_
              refine lv_istore_n (lv' := [(3, .int ((nrS (a 1) c0 (k + 1)).2)), (2, .int ((nrS (a 1) c0 (k + 1)).1)), (6, .int (farI (cl (a 1 (58 + 14 * k + 2))) c0)), (5, .int (nI (cl (a 1 (58 + 14 * k + 2))))), (4, .int (nI k)), (0, .ref (h 0)), (1, .int (nI c0))]) hx hb dX6_near_92 rfl hl (by decide) rfl (fun ls hl => ?_)
              refine lv_iinc (v := nI (k + 1)) (lv' := [(4, .int (nI (k + 1))), (3, .int ((nrS (a 1) c0 (k + 1)).2)), (2, .int ((nrS (a 1) c0 (k + 1)).1)), (6, .int (farI (cl (a 1 (58 + 14 * k + 2))) c0)), (5, .int (nI (cl (a 1 (58 + 14 * k + 2))))), (0, .ref (h 0)), (1, .int (nI c0))]) hx hb dX6_near_93 hl (k := 4) rfl (by rw [show Int32.ofInt 1 = nI 1 from by decide]; exact nI_add _ _) (by decide) rfl (fun ls hl => ?_)
              refine lv_goto (tgt := 22) hx hb dX6_near_96 (by decide) ?_
              exact ih22 (k + 1) (by omega) (by omega) _ _ hM ls (lv_sub hl [0, 1, 2, 5, 6] rfl)
            · exact absurd c_4 c_5
          · refine lv_iload hx hb dX6_near_73 (lv_at hl 2 rfl) ?_
            refine lv_goto (tgt := 79) hx hb dX6_near_75 (by decide) ?_
            have hw : nrS (a 1) c0 (k + 1) = (nI k, farI (cl (a 1 (58 + 14 * k + 2))) c0) := by rw [nrS, if_pos (Int32.not_le.mp c_4)]
            refine w_top (nrS (a 1) c0 (k + 1)).1 (by rw [hw]) ?_
            refine lv_istore_n (lv' := [(2, .int ((nrS (a 1) c0 (k + 1)).1)), (6, .int (farI (cl (a 1 (58 + 14 * k + 2))) c0)), (5, .int (nI (cl (a 1 (58 + 14 * k + 2))))), (4, .int (nI k)), (3, .int ((nrS (a 1) c0 k).2)), (0, .ref (h 0)), (1, .int (nI c0))]) hx hb dX6_near_79 rfl hl (by decide) rfl (fun ls hl => ?_)
            refine lv_iload hx hb dX6_near_80 (lv_at hl 1 rfl) ?_
            refine lv_iload_n hx hb dX6_near_82 rfl (lv_at hl 4 rfl) ?_
            refine lv_icmp_ge (tgt := 91) hx hb dX6_near_83 (by decide) (fun c_6 => ?_) (fun c_6 => ?_)
            · exact absurd c_6 c_4
            · refine lv_iload hx hb dX6_near_86 (lv_at hl 1 rfl) ?_
              refine lv_goto (tgt := 92) hx hb dX6_near_88 (by decide) ?_
              refine w_top (nrS (a 1) c0 (k + 1)).2 (by rw [hw]) ?_
              refine lv_istore_n (lv' := [(3, .int ((nrS (a 1) c0 (k + 1)).2)), (2, .int ((nrS (a 1) c0 (k + 1)).1)), (6, .int (farI (cl (a 1 (58 + 14 * k + 2))) c0)), (5, .int (nI (cl (a 1 (58 + 14 * k + 2))))), (4, .int (nI k)), (0, .ref (h 0)), (1, .int (nI c0))]) hx hb dX6_near_92 rfl hl (by decide) rfl (fun ls hl => ?_)
              refine lv_iinc (v := nI (k + 1)) (lv' := [(4, .int (nI (k + 1))), (3, .int ((nrS (a 1) c0 (k + 1)).2)), (2, .int ((nrS (a 1) c0 (k + 1)).1)), (6, .int (farI (cl (a 1 (58 + 14 * k + 2))) c0)), (5, .int (nI (cl (a 1 (58 + 14 * k + 2))))), (0, .ref (h 0)), (1, .int (nI c0))]) hx hb dX6_near_93 hl (k := 4) rfl (by rw [show Int32.ofInt 1 = nI 1 from by decide]; exact nI_add _ _) (by decide) rfl (fun ls hl => ?_)
              refine lv_goto (tgt := 22) hx hb dX6_near_96 (by decide) ?_
              exact ih22 (k + 1) (by omega) (by omega) _ _ hM ls (lv_sub hl [0, 1, 2, 5, 6] rfl)
    exact loop22 (cl (a 1 3) + 1) 0 (by omega) (by omega) _ _ hM ls (lv_sub hl [0, 1, 2, 3, 4] rfl)
  · exact absurd (by first | exact (in_nat (by decide)).mpr ⟨_, by omega, rfl⟩ | exact (in_nat1 _ (by decide) (by decide)).mpr ⟨_, by omega, by omega, rfl⟩ | exact cow_in hN (by omega) | assumption) c_1
set_option maxHeartbeats 400000 in
theorem met_near_n (f : Nat → Int32) (a : Nat → Nat → Int32) (c0 : Nat) (hc : c0 < 25) (hR : okR (a 1)) (hres : ¬ 0 ≤ (nrS (a 1) c0 (cl (a 1 3))).1) : MdF yX6_near cX6_near 7 (some .int) 2 42 [.int (nI c0)] f a (some (.int (-1000000002 : Int32))) f (mErr a 2) := by
  refine MdF.ofI (by decide) rfl (Nat.le_of_ble_eq_true rfl) ?_
  intro p l e R s m args below meth c Q D h dA ls hx hb hml hRf hRl hts hown hK hI hM hl hret
  have hl : lv_has ls 7 [(0, .ref (h 0)), (1, .int (nI c0))] := hl
  have hN := hR.2.1
  have hN2 := hN.2
  refine lv_iload_n hx hb dX6_near_0 rfl (lv_at hl 1 rfl) ?_
  refine st_callI (y := yX6_isCell) hx hb hml hown hts (met_isCell (nI c0)) q1479 q1480 q70 q1481 ndX6_isCell rfl (by rw [hRf]; decide) (by rw [hRl]; decide) ⟨Nat.zero_le _, Nat.zero_le _⟩ hl.1 rfl (Nat.le_of_ble_eq_true rfl) dX6_near_1 ?_
  refine w_if_neT (tgt := 14) hx hb dX6_near_4 (by decide) (fun c_1 => ?_) (fun c_1 => ?_)
  · refine lv_iconst (v := (-1 : Int32)) hx hb dX6_near_14 (by decide) ?_
    refine lv_istore_n (lv' := [(2, .int (-1 : Int32)), (0, .ref (h 0)), (1, .int (nI c0))]) hx hb dX6_near_15 rfl hl (by decide) rfl (fun ls hl => ?_)
    refine lv_bipush (v := nI 25) hx hb dX6_near_16 (by decide) ?_
    refine lv_istore_n (lv' := [(3, .int (nI 25)), (2, .int (-1 : Int32)), (0, .ref (h 0)), (1, .int (nI c0))]) hx hb dX6_near_18 rfl hl (by decide) rfl (fun ls hl => ?_)
    refine lv_iconst (v := nI 0) hx hb dX6_near_19 (by decide) ?_
    refine lv_istore (lv' := [(4, .int (nI 0)), (3, .int (nI 25)), (2, .int (-1 : Int32)), (0, .ref (h 0)), (1, .int (nI c0))]) hx hb dX6_near_20 hl (by decide) rfl (fun ls hl => ?_)
    have loop22 : ∀ (fu : Nat) (k : Nat), (k ≤ cl (a 1 3)) → (cl (a 1 3) < k + fu) → ∀ (H : Heap) (locs : List Loc), mdH D h dA s.heap H locs f a → ∀ (ls : Array Slot), lv_has ls 7 [(4, .int (nI k)), (3, .int ((nrS (a 1) c0 k).2)), (2, .int ((nrS (a 1) c0 k).1)), (0, .ref (h 0)), (1, .int (nI c0))] → W p l e R s m args below meth c H locs 0 0 Q (F0 m 22 ls []) := by
      intro fu
      induction fu with
      | zero =>
        intro k hk hn
        omega
      | succ fu ih22 =>
        intro k hk hn H locs hM ls hl
        refine lv_iload hx hb dX6_near_22 (lv_at hl 0 rfl) ?_
        refine lv_aload_n hx hb dX6_near_24 rfl (lv_at hl 3 rfl) ?_
        refine md_get (v := .ref (h 1)) hx hb hts hown hK hM 0 (by decide) q1390 rfl rfl dX6_near_25 ?_
        refine lv_iconst (v := nI 3) hx hb dX6_near_28 (by decide) ?_
        refine md_iald hx hb hK hM 1 rfl 3 ⟨by omega, by decide, rfl⟩ dX6_near_29 ?_
        refine w_top (nI (cl (a 1 3))) (hN.1) ?_
        refine w_icmp_geN (tgt := 99) hx hb (by omega) (by omega) dX6_near_30 (by decide) (fun c_2 => ?_) (fun c_2 => ?_)
        · have hkk : k = cl (a 1 3) := by omega
          refine lv_iload_n hx hb dX6_near_99 rfl (lv_at hl 2 rfl) ?_
          refine lv_if_ge (tgt := 112) hx hb dX6_near_100 (by decide) (fun c_3 => ?_) (fun c_3 => ?_)
          · exact absurd (by rw [← hkk]; exact c_3) hres
          · refine lv_aload_n hx hb dX6_near_103 rfl (lv_at hl 3 rfl) ?_
            refine lv_ldc hx hb hown (hts _ q1605) dX6_near_104 ?_
            refine md_callI (y := yX6_errs) hx hb hml hown hts hK hI hM (met_errs f a (-1000000002 : Int32) 2 (by decide) (by decide)) q1486 q1488 qs21 q1489 ndX6_errs rfl (by rw [hRf]; decide) (by rw [hRl]; decide) hl.1 rfl (Nat.le_of_ble_eq_true rfl) dX6_near_106 (fun H locs hM => ?_)
            refine lv_goto (tgt := 113) hx hb dX6_near_109 (by decide) ?_
            exact hret hM (rfl) dX6_near_113
        · have hat := (hR.2.2.2.2.2.1 k (by omega)).2.2.1
          have hat2 := hat.2
          refine lv_aload_n hx hb dX6_near_33 rfl (lv_at hl 3 rfl) ?_
          refine lv_iload hx hb dX6_near_34 (lv_at hl 0 rfl) ?_
          refine lv_iconst (v := nI 2) hx hb dX6_near_36 (by decide) ?_
          refine md_callI (y := yX6_its) hx hb hml hown hts hK hI hM (met_its f a k 2 (by omega)) q1557 q1559 qs35 q1560 ndX6_its rfl (by rw [hRf]; decide) (by rw [hRl]; decide) hl.1 rfl (Nat.le_of_ble_eq_true rfl) dX6_near_37 (fun H locs hM => ?_)
          refine w_top (nI (cl (a 1 (58 + 14 * k + 2)))) (hat.1) ?_
          refine lv_istore (lv' := [(5, .int (nI (cl (a 1 (58 + 14 * k + 2))))), (4, .int (nI k)), (3, .int ((nrS (a 1) c0 k).2)), (2, .int ((nrS (a 1) c0 k).1)), (0, .ref (h 0)), (1, .int (nI c0))]) hx hb dX6_near_40 hl (by decide) rfl (fun ls hl => ?_)
          refine lv_iload hx hb dX6_near_42 (lv_at hl 0 rfl) ?_
          refine lv_iconst (v := nI 5) hx hb dX6_near_44 (by decide) ?_
          refine w_idivN hx hb (by omega) (by omega) (by omega) dX6_near_45 ?_
          refine lv_iload_n hx hb dX6_near_46 rfl (lv_at hl 5 rfl) ?_
          refine lv_iconst (v := nI 5) hx hb dX6_near_47 (by decide) ?_
          refine w_idivN hx hb (by omega) (by omega) (by omega) dX6_near_48 ?_
          refine lv_isub hx hb dX6_near_49 ?_
          refine st_callI (y := yX6_size) hx hb hml hown hts (met_size ((nI ((cl (a 1 (58 + 14 * k + 2))) / 5)) - (nI (c0 / 5)))) q1746 q1747 q70 q1748 ndX6_size rfl (by rw [hRf]; decide) (by rw [hRl]; decide) ⟨Nat.zero_le _, Nat.zero_le _⟩ hl.1 rfl (Nat.le_of_ble_eq_true rfl) dX6_near_50 ?_
          refine lv_iload hx hb dX6_near_53 (lv_at hl 0 rfl) ?_
          refine lv_iconst (v := nI 5) hx hb dX6_near_55 (by decide) ?_
          refine w_iremN hx hb (by omega) (by omega) (by omega) dX6_near_56 ?_
          refine lv_iload_n hx hb dX6_near_57 rfl (lv_at hl 5 rfl) ?_
          refine lv_iconst (v := nI 5) hx hb dX6_near_58 (by decide) ?_
          refine w_iremN hx hb (by omega) (by omega) (by omega) dX6_near_59 ?_
          refine lv_isub hx hb dX6_near_60 ?_
          refine st_callI (y := yX6_size) hx hb hml hown hts (met_size ((nI ((cl (a 1 (58 + 14 * k + 2))) % 5)) - (nI (c0 % 5)))) q1746 q1747 q70 q1748 ndX6_size rfl (by rw [hRf]; decide) (by rw [hRl]; decide) ⟨Nat.zero_le _, Nat.zero_le _⟩ hl.1 rfl (Nat.le_of_ble_eq_true rfl) dX6_near_61 ?_
          refine lv_iadd hx hb dX6_near_64 ?_
          refine w_top (farI (cl (a 1 (58 + 14 * k + 2))) c0) (rfl) ?_
          refine lv_istore (lv' := [(6, .int (farI (cl (a 1 (58 + 14 * k + 2))) c0)), (5, .int (nI (cl (a 1 (58 + 14 * k + 2))))), (4, .int (nI k)), (3, .int ((nrS (a 1) c0 k).2)), (2, .int ((nrS (a 1) c0 k).1)), (0, .ref (h 0)), (1, .int (nI c0))]) hx hb dX6_near_65 hl (by decide) rfl (fun ls hl => ?_)
          refine lv_iload hx hb dX6_near_67 (lv_at hl 0 rfl) ?_
          refine lv_iload_n hx hb dX6_near_69 rfl (lv_at hl 3 rfl) ?_
          refine lv_icmp_ge (tgt := 78) hx hb dX6_near_70 (by decide) (fun c_4 => ?_) (fun c_4 => ?_)
          · refine lv_iload_n hx hb dX6_near_78 rfl (lv_at hl 4 rfl) ?_
            have hw : nrS (a 1) c0 (k + 1) = nrS (a 1) c0 k := by rw [nrS, if_neg (Int32.not_lt.mpr c_4)]
            refine w_top (nrS (a 1) c0 (k + 1)).1 (by rw [hw]) ?_
            refine lv_istore_n (lv' := [(2, .int ((nrS (a 1) c0 (k + 1)).1)), (6, .int (farI (cl (a 1 (58 + 14 * k + 2))) c0)), (5, .int (nI (cl (a 1 (58 + 14 * k + 2))))), (4, .int (nI k)), (3, .int ((nrS (a 1) c0 k).2)), (0, .ref (h 0)), (1, .int (nI c0))]) hx hb dX6_near_79 rfl hl (by decide) rfl (fun ls hl => ?_)
            refine lv_iload hx hb dX6_near_80 (lv_at hl 1 rfl) ?_
            refine lv_iload_n hx hb dX6_near_82 rfl (lv_at hl 4 rfl) ?_
            refine lv_icmp_ge (tgt := 91) hx hb dX6_near_83 (by decide) (fun c_5 => ?_) (fun c_5 => ?_)
            · refine lv_iload_n hx hb dX6_near_91 rfl (lv_at hl 4 rfl) ?_
              refine w_top (nrS (a 1) c0 (k + 1)).2 (by rw [hw]) ?_
              refine lv_istore_n (lv' := [(3, .int ((nrS (a 1) c0 (k + 1)).2)), (2, .int ((nrS (a 1) c0 (k + 1)).1)), (6, .int (farI (cl (a 1 (58 + 14 * k + 2))) c0)), (5, .int (nI (cl (a 1 (58 + 14 * k + 2))))), (4, .int (nI k)), (0, .ref (h 0)), (1, .int (nI c0))]) hx hb dX6_near_92 rfl hl (by decide) rfl (fun ls hl => ?_)
              refine lv_iinc (v := nI (k + 1)) (lv' := [(4, .int (nI (k + 1))), (3, .int ((nrS (a 1) c0 (k + 1)).2)), (2, .int ((nrS (a 1) c0 (k + 1)).1)), (6, .int (farI (cl (a 1 (58 + 14 * k + 2))) c0)), (5, .int (nI (cl (a 1 (58 + 14 * k + 2))))), (0, .ref (h 0)), (1, .int (nI c0))]) hx hb dX6_near_93 hl (k := 4) rfl (by rw [show Int32.ofInt 1 = nI 1 from by decide]; exact nI_add _ _) (by decide) rfl (fun ls hl => ?_)
              refine lv_goto (tgt := 22) hx hb dX6_near_96 (by decide) ?_
              exact ih22 (k + 1) (by omega) (by omega) _ _ hM ls (lv_sub hl [0, 1, 2, 5, 6] rfl)
            · exact absurd c_4 c_5
          · refine lv_iload hx hb dX6_near_73 (lv_at hl 2 rfl) ?_
            refine lv_goto (tgt := 79) hx hb dX6_near_75 (by decide) ?_
            have hw : nrS (a 1) c0 (k + 1) = (nI k, farI (cl (a 1 (58 + 14 * k + 2))) c0) := by rw [nrS, if_pos (Int32.not_le.mp c_4)]
            refine w_top (nrS (a 1) c0 (k + 1)).1 (by rw [hw]) ?_
            refine lv_istore_n (lv' := [(2, .int ((nrS (a 1) c0 (k + 1)).1)), (6, .int (farI (cl (a 1 (58 + 14 * k + 2))) c0)), (5, .int (nI (cl (a 1 (58 + 14 * k + 2))))), (4, .int (nI k)), (3, .int ((nrS (a 1) c0 k).2)), (0, .ref (h 0)), (1, .int (nI c0))]) hx hb dX6_near_79 rfl hl (by decide) rfl (fun ls hl => ?_)
            refine lv_iload hx hb dX6_near_80 (lv_at hl 1 rfl) ?_
            refine lv_iload_n hx hb dX6_near_82 rfl (lv_at hl 4 rfl) ?_
            refine lv_icmp_ge (tgt := 91) hx hb dX6_near_83 (by decide) (fun c_6 => ?_) (fun c_6 => ?_)
            · exact absurd c_6 c_4
            · refine lv_iload hx hb dX6_near_86 (lv_at hl 1 rfl) ?_
              refine lv_goto (tgt := 92) hx hb dX6_near_88 (by decide) ?_
              refine w_top (nrS (a 1) c0 (k + 1)).2 (by rw [hw]) ?_
              refine lv_istore_n (lv' := [(3, .int ((nrS (a 1) c0 (k + 1)).2)), (2, .int ((nrS (a 1) c0 (k + 1)).1)), (6, .int (farI (cl (a 1 (58 + 14 * k + 2))) c0)), (5, .int (nI (cl (a 1 (58 + 14 * k + 2))))), (4, .int (nI k)), (0, .ref (h 0)), (1, .int (nI c0))]) hx hb dX6_near_92 rfl hl (by decide) rfl (fun ls hl => ?_)
              refine lv_iinc (v := nI (k + 1)) (lv' := [(4, .int (nI (k + 1))), (3, .int ((nrS (a 1) c0 (k + 1)).2)), (2, .int ((nrS (a 1) c0 (k + 1)).1)), (6, .int (farI (cl (a 1 (58 + 14 * k + 2))) c0)), (5, .int (nI (cl (a 1 (58 + 14 * k + 2))))), (0, .ref (h 0)), (1, .int (nI c0))]) hx hb dX6_near_93 hl (k := 4) rfl (by rw [show Int32.ofInt 1 = nI 1 from by decide]; exact nI_add _ _) (by decide) rfl (fun ls hl => ?_)
              refine lv_goto (tgt := 22) hx hb dX6_near_96 (by decide) ?_
              exact ih22 (k + 1) (by omega) (by omega) _ _ hM ls (lv_sub hl [0, 1, 2, 5, 6] rfl)
    exact loop22 (cl (a 1 3) + 1) 0 (by omega) (by omega) _ _ hM ls (lv_sub hl [0, 1, 2, 3, 4] rfl)
  · exact absurd (by first | exact (in_nat (by decide)).mpr ⟨_, by omega, rfl⟩ | exact (in_nat1 _ (by decide) (by decide)).mpr ⟨_, by omega, by omega, rfl⟩ | exact cow_in hN (by omega) | assumption) c_1
set_option maxHeartbeats 400000 in
theorem met_near_e (f : Nat → Int32) (a : Nat → Nat → Int32) (c0 : Int32) (he : ¬ (nI 0 ≤ c0 ∧ c0 ≤ nI 24)) : MdF yX6_near cX6_near 7 (some .int) 2 42 [.int c0] f a (some (.int (-1000000001 : Int32))) f (mErr a 1) := by
  refine MdF.ofI (by decide) rfl (Nat.le_of_ble_eq_true rfl) ?_
  intro p l e R s m args below meth c Q D h dA ls hx hb hml hRf hRl hts hown hK hI hM hl hret
  have hl : lv_has ls 7 [(0, .ref (h 0)), (1, .int c0)] := hl
  refine lv_iload_n hx hb dX6_near_0 rfl (lv_at hl 1 rfl) ?_
  refine st_callI (y := yX6_isCell) hx hb hml hown hts (met_isCell c0) q1479 q1480 q70 q1481 ndX6_isCell rfl (by rw [hRf]; decide) (by rw [hRl]; decide) ⟨Nat.zero_le _, Nat.zero_le _⟩ hl.1 rfl (Nat.le_of_ble_eq_true rfl) dX6_near_1 ?_
  refine w_if_neT (tgt := 14) hx hb dX6_near_4 (by decide) (fun c_1 => ?_) (fun c_1 => ?_)
  · exact absurd c_1 he
  · refine lv_aload_n hx hb dX6_near_7 rfl (lv_at hl 0 rfl) ?_
    refine lv_ldc hx hb hown (hts _ q1485) dX6_near_8 ?_
    refine md_callI (y := yX6_errs) hx hb hml hown hts hK hI hM (met_errs f a (-1000000001 : Int32) 1 (by decide) (by decide)) q1486 q1488 qs21 q1489 ndX6_errs rfl (by rw [hRf]; decide) (by rw [hRl]; decide) hl.1 rfl (Nat.le_of_ble_eq_true rfl) dX6_near_10 (fun H locs hM => ?_)
    exact hret hM (by first | rfl | (simp only [iI, nI_0, nI_one]; grind)) dX6_near_13
