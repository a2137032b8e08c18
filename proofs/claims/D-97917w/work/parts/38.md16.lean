/-! the model: acts, 9 (printed by model16.py) -/
set_option maxRecDepth 100000
/-- the first i cows have the cell in their milk just as they are of g -/
def wlB (r : Nat → Int32) (g : Int32) (c : Nat) : Nat → Bool
  | 0 => true
  | i + 1 => wlB r g c i && (decide (¬ finR r i (nI c) 0 < 0) == decide (bitI g i = nI 1))
theorem wlB_s {r : Nat → Int32} {g : Int32} {c i : Nat} : wlB r g c (i + 1) = true ↔ wlB r g c i = true ∧ ((¬ finR r i (nI c) 0 < 0) ↔ bitI g i = nI 1) := by
  rw [wlB, Bool.and_eq_true, beq_iff_eq, decide_eq_decide]
def wlS (r : Nat → Int32) (g : Int32) : Nat → Int32
  | 0 => nI 0
  | c + 1 => wlS r g c ||| (if wlB r g c (cl (r 3)) = true then nI 1 <<< (nI c &&& 31) else nI 0)
theorem ndX6_well : yX6_well.cls = RX6 ∧ yX6_well.cls ≠ "java/lang/invoke/MethodHandle" ∧ yX6_well.cls ≠ "java/lang/invoke/VarHandle" ∧ (parseMethodDescriptor yX6_well.desc).map (fun d => d.parameters.length) = some 1 := by decide +kernel
set_option maxHeartbeats 400000 in
theorem met_well_ok (f : Nat → Int32) (a : Nat → Nat → Int32) (g : Int32) (hg : jugP (a 1) g) (hR : okR (a 1)) : MdF yX6_well cX6_well 6 (some .int) 2 46 [.int g] f a (some (.int (wlS (a 1) g 25))) f a := by
  refine MdF.ofI (by decide) rfl (Nat.le_of_ble_eq_true rfl) ?_
  intro p l e R s m args below meth c Q D h dA ls hx hb hml hRf hRl hts hown hK hI hM hl hret
  have hl : lv_has ls 6 [(0, .ref (h 0)), (1, .int g)] := hl
  have hN := hR.2.1
  have hN2 := hN.2
  refine lv_aload_n hx hb dX6_well_0 rfl (lv_at hl 0 rfl) ?_
  refine lv_iload_n hx hb dX6_well_1 rfl (lv_at hl 1 rfl) ?_
  refine md_callI (y := yX6_isJug) hx hb hml hown hts hK hI hM (met_isJug f a g) q1677 q1679 qs49 q1680 ndX6_isJug rfl (by rw [hRf]; decide) (by rw [hRl]; decide) hl.1 rfl (Nat.le_of_ble_eq_true rfl) dX6_well_2 (fun H locs hM => ?_)
  refine w_if_neT (tgt := 15) hx hb dX6_well_5 (by decide) (fun c_1 => ?_) (fun c_1 => ?_)
  · refine lv_iconst (v := nI 0) hx hb dX6_well_15 (by decide) ?_
    refine lv_istore_n (lv' := [(2, .int (nI 0)), (0, .ref (h 0)), (1, .int g)]) hx hb dX6_well_16 rfl hl (by decide) rfl (fun ls hl => ?_)
    refine lv_iconst (v := nI 0) hx hb dX6_well_17 (by decide) ?_
    refine lv_istore_n (lv' := [(3, .int (nI 0)), (2, .int (nI 0)), (0, .ref (h 0)), (1, .int g)]) hx hb dX6_well_18 rfl hl (by decide) rfl (fun ls hl => ?_)
    have loop19 : ∀ (fu : Nat) (c2 : Nat), (c2 ≤ 25) → (25 < c2 + fu) → ∀ (H : Heap) (locs : List Loc), mdH D h dA s.heap H locs f a → ∀ (ls : Array Slot), lv_has ls 6 [(3, .int (nI c2)), (2, .int (wlS (a 1) g c2)), (0, .ref (h 0)), (1, .int g)] → W p l e R s m args below meth c H locs 0 0 Q (F0 m 19 ls []) := by
      intro fu
      induction fu with
      | zero =>
        intro c2 hk hn
        omega
      | succ fu ih19 =>
        intro c2 hk hn H locs hM ls hl
        refine lv_iload_n hx hb dX6_well_19 rfl (lv_at hl 0 rfl) ?_
        refine lv_bipush (v := nI 25) hx hb dX6_well_20 (by decide) ?_
        refine w_icmp_geN (tgt := 115) hx hb (by omega) (by omega) dX6_well_22 (by decide) (fun c_2 => ?_) (fun c_2 => ?_)
        · refine lv_iload_n hx hb dX6_well_115 rfl (lv_at hl 1 rfl) ?_
          exact hret hM (by rw [show c2 = 25 by omega]) dX6_well_116
        · refine lv_iconst (v := nI 1) hx hb dX6_well_25 (by decide) ?_
          refine lv_istore (lv' := [(4, .int (nI 1)), (3, .int (nI c2)), (2, .int (wlS (a 1) g c2)), (0, .ref (h 0)), (1, .int g)]) hx hb dX6_well_26 hl (by decide) rfl (fun ls hl => ?_)
          refine lv_iconst (v := nI 0) hx hb dX6_well_28 (by decide) ?_
          refine lv_istore (lv' := [(5, .int (nI 0)), (4, .int (nI 1)), (3, .int (nI c2)), (2, .int (wlS (a 1) g c2)), (0, .ref (h 0)), (1, .int g)]) hx hb dX6_well_29 hl (by decide) rfl (fun ls hl => ?_)
          have loop31 : ∀ (fu : Nat) (i : Nat), (i ≤ cl (a 1 3)) → (cl (a 1 3) < i + fu) → ∀ (H : Heap) (locs : List Loc), mdH D h dA s.heap H locs f a → ∀ (ls : Array Slot), lv_has ls 6 [(5, .int (nI i)), (4, .int (iI (wlB (a 1) g c2 i = true))), (3, .int (nI c2)), (2, .int (wlS (a 1) g c2)), (0, .ref (h 0)), (1, .int g)] → W p l e R s m args below meth c H locs 0 0 Q (F0 m 31 ls []) := by
            intro fu
            induction fu with
            | zero =>
              intro i hi hn2
              omega
            | succ fu ih31 =>
              intro i hi hn2 H locs hM ls hl
              refine lv_iload hx hb dX6_well_31 (lv_at hl 0 rfl) ?_
              refine lv_aload_n hx hb dX6_well_33 rfl (lv_at hl 4 rfl) ?_
              refine md_get (v := .ref (h 1)) hx hb hts hown hK hM 0 (by decide) q1390 rfl rfl dX6_well_34 ?_
              refine lv_iconst (v := nI 3) hx hb dX6_well_37 (by decide) ?_
              refine md_iald hx hb hK hM 1 rfl 3 ⟨by omega, by decide, rfl⟩ dX6_well_38 ?_
              refine w_top (nI (cl (a 1 3))) (hN.1) ?_
              refine w_icmp_geN (tgt := 94) hx hb (by omega) (by omega) dX6_well_39 (by decide) (fun c_3 => ?_) (fun c_3 => ?_)
              · have hii : i = cl (a 1 3) := by omega
                refine lv_iload_n hx hb dX6_well_94 rfl (lv_at hl 3 rfl) ?_
                refine lv_iload hx hb dX6_well_95 (lv_at hl 1 rfl) ?_
                have j107 : ∀ (H : Heap) (locs : List Loc), mdH D h dA s.heap H locs f a → ∀ (ls : Array Slot), lv_has ls 6 [(3, .int (nI c2)), (2, .int (wlS (a 1) g c2)), (0, .ref (h 0)), (1, .int g)] → W p l e R s m args below meth c H locs 0 0 Q (F0 m 107 ls [.int (if wlB (a 1) g c2 (cl (a 1 3)) = true then nI 1 <<< (nI c2 &&& 31) else nI 0), .int (wlS (a 1) g c2)]) := by
                  intro   H locs hM ls hl
                  refine lv_ior hx hb dX6_well_107 ?_
                  refine lv_istore_n (lv' := [(2, .int ((wlS (a 1) g c2) ||| (if wlB (a 1) g c2 (cl (a 1 3)) = true then nI 1 <<< (nI c2 &&& 31) else nI 0))), (3, .int (nI c2)), (0, .ref (h 0)), (1, .int g)]) hx hb dX6_well_108 rfl hl (by decide) rfl (fun ls hl => ?_)
                  refine lv_iinc (v := nI (c2 + 1)) (lv' := [(3, .int (nI (c2 + 1))), (2, .int ((wlS (a 1) g c2) ||| (if wlB (a 1) g c2 (cl (a 1 3)) = true then nI 1 <<< (nI c2 &&& 31) else nI 0))), (0, .ref (h 0)), (1, .int g)]) hx hb dX6_well_109 hl (k := 1) rfl (by rw [show Int32.ofInt 1 = nI 1 from by decide]; exact nI_add _ _) (by decide) rfl (fun ls hl => ?_)
                  refine lv_goto (tgt := 19) hx hb dX6_well_112 (by decide) ?_
                  exact ih19 (c2 + 1) (by omega) (by omega) _ _ hM ls (lv_sub hl [0, 1, 2, 3] rfl)
                refine w_if_eqT (tgt := 106) hx hb dX6_well_97 (by decide) (fun c_4 => ?_) (fun c_4 => ?_)
                · refine lv_iconst (v := nI 0) hx hb dX6_well_106 (by decide) ?_
                  refine w_top (if wlB (a 1) g c2 (cl (a 1 3)) = true then nI 1 <<< (nI c2 &&& 31) else nI 0) ((if_neg (by rw [← hii]; exact c_4)).symm) ?_
                  exact j107   _ _ hM ls (lv_sub hl [2, 3, 4, 5] rfl)
                · refine lv_iconst (v := nI 1) hx hb dX6_well_100 (by decide) ?_
                  refine lv_iload_n hx hb dX6_well_101 rfl (lv_at hl 2 rfl) ?_
                  refine lv_ishl hx hb dX6_well_102 ?_
                  refine lv_goto (tgt := 107) hx hb dX6_well_103 (by decide) ?_
                  refine w_top (if wlB (a 1) g c2 (cl (a 1 3)) = true then nI 1 <<< (nI c2 &&& 31) else nI 0) ((if_pos (by rw [← hii]; exact c_4)).symm) ?_
                  exact j107   _ _ hM ls (lv_sub hl [2, 3, 4, 5] rfl)
              · have hq : okN (a 1 (58 + 14 * i + 3)) 10 := (hR.2.2.2.2.2.1 i (by omega)).2.2.2.1
                have hq2 := hq.2
                have j86 : ∀ (H : Heap) (locs : List Loc), mdH D h dA s.heap H locs f a → ∀ (ls : Array Slot), lv_has ls 6 [(5, .int (nI i)), (4, .int (iI (wlB (a 1) g c2 i = true))), (3, .int (nI c2)), (2, .int (wlS (a 1) g c2)), (0, .ref (h 0)), (1, .int g)] → W p l e R s m args below meth c H locs 0 0 Q (F0 m 86 ls [.int (iI (wlB (a 1) g c2 (i + 1) = true))]) := by
                  intro   H locs hM ls hl
                  refine lv_istore (lv' := [(4, .int (iI (wlB (a 1) g c2 (i + 1) = true))), (5, .int (nI i)), (3, .int (nI c2)), (2, .int (wlS (a 1) g c2)), (0, .ref (h 0)), (1, .int g)]) hx hb dX6_well_86 hl (by decide) rfl (fun ls hl => ?_)
                  refine lv_iinc (v := nI (i + 1)) (lv' := [(5, .int (nI (i + 1))), (4, .int (iI (wlB (a 1) g c2 (i + 1) = true))), (3, .int (nI c2)), (2, .int (wlS (a 1) g c2)), (0, .ref (h 0)), (1, .int g)]) hx hb dX6_well_88 hl (k := 1) rfl (by rw [show Int32.ofInt 1 = nI 1 from by decide]; exact nI_add _ _) (by decide) rfl (fun ls hl => ?_)
                  refine lv_goto (tgt := 31) hx hb dX6_well_91 (by decide) ?_
                  exact ih31 (i + 1) (by omega) (by omega) _ _ hM ls (lv_sub hl [0, 1, 2, 3, 4, 5] rfl)
                refine lv_iload hx hb dX6_well_42 (lv_at hl 1 rfl) ?_
                refine w_if_eqT (tgt := 85) hx hb dX6_well_44 (by decide) (fun c_5 => ?_) (fun c_5 => ?_)
                · refine lv_iconst (v := nI 0) hx hb dX6_well_85 (by decide) ?_
                  refine w_top (iI (wlB (a 1) g c2 (i + 1) = true)) (iI_0 (fun q => c_5 (wlB_s.mp q).1)) ?_
                  exact j86   _ _ hM ls (lv_sub hl [0, 1, 2, 3, 4, 5] rfl)
                · refine lv_aload_n hx hb dX6_well_47 rfl (lv_at hl 4 rfl) ?_
                  refine lv_iload hx hb dX6_well_48 (lv_at hl 0 rfl) ?_
                  refine lv_iload_n hx hb dX6_well_50 rfl (lv_at hl 2 rfl) ?_
                  refine lv_iconst (v := nI 0) hx hb dX6_well_51 (by decide) ?_
                  refine md_callI (y := yX6_inMilk) hx hb hml hown hts hK hI hM (met_inMilk f a i 0 (nI c2) (by omega) hq (by omega)) q1594 q1596 qs42 q1597 ndX6_inMilk rfl (by rw [hRf]; decide) (by rw [hRl]; decide) hl.1 rfl (Nat.le_of_ble_eq_true rfl) dX6_well_52 (fun H locs hM => ?_)
                  refine lv_if_lt (tgt := 62) hx hb dX6_well_55 (by decide) (fun c_6 => ?_) (fun c_6 => ?_)
                  · refine lv_iconst (v := nI 0) hx hb dX6_well_62 (by decide) ?_
                    refine lv_iload_n hx hb dX6_well_63 rfl (lv_at hl 5 rfl) ?_
                    refine lv_iload hx hb dX6_well_64 (lv_at hl 0 rfl) ?_
                    refine lv_ishr hx hb dX6_well_66 ?_
                    refine lv_iconst (v := nI 1) hx hb dX6_well_67 (by decide) ?_
                    refine lv_iand hx hb dX6_well_68 ?_
                    refine lv_iconst (v := nI 1) hx hb dX6_well_69 (by decide) ?_
                    refine lv_icmp_ne (tgt := 77) hx hb dX6_well_70 (by decide) (fun c_7 => ?_) (fun c_7 => ?_)
                    · refine lv_iconst (v := nI 0) hx hb dX6_well_77 (by decide) ?_
                      refine lv_icmp_ne (tgt := 85) hx hb dX6_well_78 (by decide) (fun q => absurd q (by decide)) (fun _ => ?_)
                      refine lv_iconst (v := nI 1) hx hb dX6_well_81 (by decide) ?_
                      refine lv_goto (tgt := 86) hx hb dX6_well_82 (by decide) ?_
                      refine w_top (iI (wlB (a 1) g c2 (i + 1) = true)) (iI_1 (wlB_s.mpr ⟨c_5, ⟨fun q => absurd c_6 q, fun q => absurd q c_7⟩⟩)) ?_
                      exact j86   _ _ hM ls (lv_sub hl [0, 1, 2, 3, 4, 5] rfl)
                    · refine lv_iconst (v := nI 1) hx hb dX6_well_73 (by decide) ?_
                      refine lv_goto (tgt := 78) hx hb dX6_well_74 (by decide) ?_
                      refine lv_icmp_ne (tgt := 85) hx hb dX6_well_78 (by decide) (fun _ => ?_) (fun q => absurd q (by decide))
                      refine lv_iconst (v := nI 0) hx hb dX6_well_85 (by decide) ?_
                      refine w_top (iI (wlB (a 1) g c2 (i + 1) = true)) (iI_0 (fun q => ((wlB_s.mp q).2.mpr c_7) c_6)) ?_
                      exact j86   _ _ hM ls (lv_sub hl [0, 1, 2, 3, 4, 5] rfl)
                  · refine lv_iconst (v := nI 1) hx hb dX6_well_58 (by decide) ?_
                    refine lv_goto (tgt := 63) hx hb dX6_well_59 (by decide) ?_
                    refine lv_iload_n hx hb dX6_well_63 rfl (lv_at hl 5 rfl) ?_
                    refine lv_iload hx hb dX6_well_64 (lv_at hl 0 rfl) ?_
                    refine lv_ishr hx hb dX6_well_66 ?_
                    refine lv_iconst (v := nI 1) hx hb dX6_well_67 (by decide) ?_
                    refine lv_iand hx hb dX6_well_68 ?_
                    refine lv_iconst (v := nI 1) hx hb dX6_well_69 (by decide) ?_
                    refine lv_icmp_ne (tgt := 77) hx hb dX6_well_70 (by decide) (fun c_10 => ?_) (fun c_10 => ?_)
                    · refine lv_iconst (v := nI 0) hx hb dX6_well_77 (by decide) ?_
                      refine lv_icmp_ne (tgt := 85) hx hb dX6_well_78 (by decide) (fun _ => ?_) (fun q => absurd q (by decide))
                      refine lv_iconst (v := nI 0) hx hb dX6_well_85 (by decide) ?_
                      refine w_top (iI (wlB (a 1) g c2 (i + 1) = true)) (iI_0 (fun q => c_10 ((wlB_s.mp q).2.mp c_6))) ?_
                      exact j86   _ _ hM ls (lv_sub hl [0, 1, 2, 3, 4, 5] rfl)
                    · refine lv_iconst (v := nI 1) hx hb dX6_well_73 (by decide) ?_
                      refine lv_goto (tgt := 78) hx hb dX6_well_74 (by decide) ?_
                      refine lv_icmp_ne (tgt := 85) hx hb dX6_well_78 (by decide) (fun q => absurd q (by decide)) (fun _ => ?_)
                      refine lv_iconst (v := nI 1) hx hb dX6_well_81 (by decide) ?_
                      refine lv_goto (tgt := 86) hx hb dX6_well_82 (by decide) ?_
                      refine w_top (iI (wlB (a 1) g c2 (i + 1) = true)) (iI_1 (wlB_s.mpr ⟨c_5, ⟨fun _ => c_10, fun _ => c_6⟩⟩)) ?_
                      exact j86   _ _ hM ls (lv_sub hl [0, 1, 2, 3, 4, 5] rfl)
          exact loop31 (cl (a 1 3) + 1) 0 (by omega) (by omega) _ _ hM ls (lv_sub hl [0, 1, 2, 3, 4, 5] rfl)
    exact loop19 26 0 (by omega) (by omega) _ _ hM ls (lv_sub hl [0, 1, 2, 3] rfl)
  · exact absurd (by first | exact (in_nat (by decide)).mpr ⟨_, by omega, rfl⟩ | exact (in_nat1 _ (by decide) (by decide)).mpr ⟨_, by omega, by omega, rfl⟩ | exact cow_in hN (by omega) | assumption) c_1
set_option maxHeartbeats 400000 in
theorem met_well_e (f : Nat → Int32) (a : Nat → Nat → Int32) (g : Int32) (he : ¬ jugP (a 1) g) : MdF yX6_well cX6_well 6 (some .int) 2 43 [.int g] f a (some (.int (-1000000001 : Int32))) f (mErr a 1) := by
  refine MdF.ofI (by decide) rfl (Nat.le_of_ble_eq_true rfl) ?_
  intro p l e R s m args below meth c Q D h dA ls hx hb hml hRf hRl hts hown hK hI hM hl hret
  have hl : lv_has ls 6 [(0, .ref (h 0)), (1, .int g)] := hl
  refine lv_aload_n hx hb dX6_well_0 rfl (lv_at hl 0 rfl) ?_
  refine lv_iload_n hx hb dX6_well_1 rfl (lv_at hl 1 rfl) ?_
  refine md_callI (y := yX6_isJug) hx hb hml hown hts hK hI hM (met_isJug f a g) q1677 q1679 qs49 q1680 ndX6_isJug rfl (by rw [hRf]; decide) (by rw [hRl]; decide) hl.1 rfl (Nat.le_of_ble_eq_true rfl) dX6_well_2 (fun H locs hM => ?_)
  refine w_if_neT (tgt := 15) hx hb dX6_well_5 (by decide) (fun c_1 => ?_) (fun c_1 => ?_)
  · exact absurd c_1 he
  · refine lv_aload_n hx hb dX6_well_8 rfl (lv_at hl 0 rfl) ?_
    refine lv_ldc hx hb hown (hts _ q1485) dX6_well_9 ?_
    refine md_callI (y := yX6_errs) hx hb hml hown hts hK hI hM (met_errs f a (-1000000001 : Int32) 1 (by decide) (by decide)) q1486 q1488 qs21 q1489 ndX6_errs rfl (by rw [hRf]; decide) (by rw [hRl]; decide) hl.1 rfl (Nat.le_of_ble_eq_true rfl) dX6_well_11 (fun H locs hM => ?_)
    exact hret hM (by first | rfl | (simp only [iI, nI_0, nI_one]; grind)) dX6_well_14
