/-! the model: acts, 8 (printed by model15.py) -/
set_option maxRecDepth 100000
abbrev btI (x : Int32) (k : Nat) : Int32 := (x >>> (nI k &&& 31)) &&& nI 1
def brT (A B : Int32) (c w : Nat) : Int32 := match nxt c w with
  | none => nI 0
  | some d => if btI (B &&& (A ^^^ (-1))) d = nI 1 then nI 1 else nI 0
def brI (A B : Int32) (c : Nat) (n0 : Int32) : Nat → Int32
  | 0 => n0
  | w + 1 => brI A B c n0 w + brT A B c (w + 1)
def brS (A B : Int32) : Nat → Int32
  | 0 => nI 0
  | c + 1 => if btI (A &&& (B ^^^ (-1))) c = nI 1 then brI A B c (brS A B c) 4 else brS A B c
theorem brT_n {A B : Int32} {c w : Nat} (h : nxt c w = none) : nI 0 = brT A B c w := by unfold brT; rw [h]
theorem brT_y {A B : Int32} {c w d : Nat} (h : nxt c w = some d) (h2 : btI (B &&& (A ^^^ (-1))) d = nI 1) : nI 1 = brT A B c w := by unfold brT; rw [h]; exact (if_pos h2).symm
theorem brT_z {A B : Int32} {c w d : Nat} (h : nxt c w = some d) (h2 : ¬ btI (B &&& (A ^^^ (-1))) d = nI 1) : nI 0 = brT A B c w := by unfold brT; rw [h]; exact (if_neg h2).symm
abbrev knC (r : Nat → Int32) (i : Nat) : Int32 := knS r (nI 1 <<< (nI i &&& 31)) 25
theorem ndX6_borders : yX6_borders.cls = RX6 ∧ yX6_borders.cls ≠ "java/lang/invoke/MethodHandle" ∧ yX6_borders.cls ≠ "java/lang/invoke/VarHandle" ∧ (parseMethodDescriptor yX6_borders.desc).map (fun d => d.parameters.length) = some 2 := by decide +kernel
set_option maxHeartbeats 400000 in
theorem met_borders_ok (f : Nat → Int32) (a : Nat → Nat → Int32) (i1 i2 : Nat) (h1 : i1 < cl (a 1 3)) (h2 : i2 < cl (a 1 3)) (hne : ¬ i1 = i2) (hR : okR (a 1)) : MdX yX6_borders cX6_borders 9 (some .int) 43 1093 [.int (nI i1), .int (nI i2)] f a (some (.int (brS (knC (a 1) i1) (knC (a 1) i2) 25))) a := by
  refine MdX.ofI (by decide) rfl (Nat.le_of_ble_eq_true rfl) ?_
  intro p l e R s m args below meth c Q D h dA ls hx hb hml hRf hRl hts hown hK hI hM hl hret
  have hl : lv_has ls 9 [(0, .ref (h 0)), (1, .int (nI i1)), (2, .int (nI i2))] := hl
  have hN := hR.2.1
  have hN2 := hN.2
  refine lv_aload_n hx hb dX6_borders_0 rfl (lv_at hl 0 rfl) ?_
  refine lv_iload_n hx hb dX6_borders_1 rfl (lv_at hl 1 rfl) ?_
  refine md_callI (y := yX6_isCow) hx hb hml hown hts hK hI hM (met_isCow f a (nI i1)) q1574 q1576 qs37 q1577 ndX6_isCow rfl (by rw [hRf]; decide) (by rw [hRl]; decide) hl.1 rfl (Nat.le_of_ble_eq_true rfl) dX6_borders_2 (fun H locs hM => ?_)
  refine w_if_eqT (tgt := 21) hx hb dX6_borders_5 (by decide) (fun c_1 => ?_) (fun c_1 => ?_)
  · exact absurd (by first | exact (in_nat (by decide)).mpr ⟨_, by omega, rfl⟩ | exact (in_nat1 _ (by decide) (by decide)).mpr ⟨_, by omega, by omega, rfl⟩ | exact cow_in hN (by omega) | assumption) c_1
  · refine lv_aload_n hx hb dX6_borders_8 rfl (lv_at hl 0 rfl) ?_
    refine lv_iload_n hx hb dX6_borders_9 rfl (lv_at hl 2 rfl) ?_
    refine md_callI (y := yX6_isCow) hx hb hml hown hts hK hI hM (met_isCow f a (nI i2)) q1574 q1576 qs37 q1577 ndX6_isCow rfl (by rw [hRf]; decide) (by rw [hRl]; decide) hl.1 rfl (Nat.le_of_ble_eq_true rfl) dX6_borders_10 (fun H locs hM => ?_)
    refine w_if_eqT (tgt := 21) hx hb dX6_borders_13 (by decide) (fun c_2 => ?_) (fun c_2 => ?_)
    · exact absurd (by first | exact (in_nat (by decide)).mpr ⟨_, by omega, rfl⟩ | exact (in_nat1 _ (by decide) (by decide)).mpr ⟨_, by omega, by omega, rfl⟩ | exact cow_in hN (by omega) | assumption) c_2
    · refine lv_iload_n hx hb dX6_borders_16 rfl (lv_at hl 1 rfl) ?_
      refine lv_iload_n hx hb dX6_borders_17 rfl (lv_at hl 2 rfl) ?_
      refine w_icmp_neN (tgt := 28) hx hb (by omega) (by omega) dX6_borders_18 (by decide) (fun c_3 => ?_) (fun c_3 => ?_)
      · refine lv_aload_n hx hb dX6_borders_28 rfl (lv_at hl 0 rfl) ?_
        refine lv_iconst (v := nI 1) hx hb dX6_borders_29 (by decide) ?_
        refine lv_iload_n hx hb dX6_borders_30 rfl (lv_at hl 1 rfl) ?_
        refine lv_ishl hx hb dX6_borders_31 ?_
        refine md_callXI (y := yX6_knownBy) hx hb hml hown hts hK hI hM (met_knownBy f a ((nI 1) <<< ((nI i1) &&& 31)) (hR)) q1693 q1695 qs52 q1696 ndX6_knownBy rfl (by rw [hRf]; decide) (by rw [hRl]; decide) hl.1 rfl (Nat.le_of_ble_eq_true rfl) dX6_borders_32 (fun H locs f_4 hf_4 hM => ?_)
        have ef_4 : fE f f_4 := fE.rf.tr hf_4
        refine w_top (knC (a 1) i1) (rfl) ?_
        refine lv_istore_n (lv' := [(3, .int (knC (a 1) i1)), (0, .ref (h 0)), (1, .int (nI i1)), (2, .int (nI i2))]) hx hb dX6_borders_35 rfl hl (by decide) rfl (fun ls hl => ?_)
        refine lv_aload_n hx hb dX6_borders_36 rfl (lv_at hl 1 rfl) ?_
        refine lv_iconst (v := nI 1) hx hb dX6_borders_37 (by decide) ?_
        refine lv_iload_n hx hb dX6_borders_38 rfl (lv_at hl 3 rfl) ?_
        refine lv_ishl hx hb dX6_borders_39 ?_
        refine md_callXI (y := yX6_knownBy) hx hb hml hown hts hK hI hM (met_knownBy f_4 a ((nI 1) <<< ((nI i2) &&& 31)) (hR)) q1693 q1695 qs52 q1696 ndX6_knownBy rfl (by rw [hRf]; decide) (by rw [hRl]; decide) hl.1 rfl (Nat.le_of_ble_eq_true rfl) dX6_borders_40 (fun H locs f_5 hf_5 hM => ?_)
        have ef_5 : fE f f_5 := ef_4.tr hf_5
        refine w_top (knC (a 1) i2) (rfl) ?_
        refine lv_istore (lv' := [(4, .int (knC (a 1) i2)), (3, .int (knC (a 1) i1)), (0, .ref (h 0)), (1, .int (nI i1)), (2, .int (nI i2))]) hx hb dX6_borders_43 hl (by decide) rfl (fun ls hl => ?_)
        refine lv_iconst (v := nI 0) hx hb dX6_borders_45 (by decide) ?_
        refine lv_istore (lv' := [(5, .int (nI 0)), (4, .int (knC (a 1) i2)), (3, .int (knC (a 1) i1)), (0, .ref (h 0)), (1, .int (nI i1)), (2, .int (nI i2))]) hx hb dX6_borders_46 hl (by decide) rfl (fun ls hl => ?_)
        refine lv_iconst (v := nI 0) hx hb dX6_borders_48 (by decide) ?_
        refine lv_istore (lv' := [(6, .int (nI 0)), (5, .int (nI 0)), (4, .int (knC (a 1) i2)), (3, .int (knC (a 1) i1)), (0, .ref (h 0)), (1, .int (nI i1)), (2, .int (nI i2))]) hx hb dX6_borders_49 hl (by decide) rfl (fun ls hl => ?_)
        have loop51 : ∀ (fu : Nat) (c2 : Nat), (c2 ≤ 25) → (25 < c2 + fu) → ∀ (f1 : Nat → Int32), fE f f1 → ∀ (H : Heap) (locs : List Loc), mdH D h dA s.heap H locs f1 a → ∀ (ls : Array Slot), lv_has ls 9 [(6, .int (nI c2)), (5, .int (brS (knC (a 1) i1) (knC (a 1) i2) c2)), (4, .int (knC (a 1) i2)), (3, .int (knC (a 1) i1)), (0, .ref (h 0)), (1, .int (nI i1)), (2, .int (nI i2))] → W p l e R s m args below meth c H locs 0 0 Q (F0 m 51 ls []) := by
          intro fu
          induction fu with
          | zero =>
            intro c2 hk hn
            omega
          | succ fu ih51 =>
            intro c2 hk hn f51 he51 H locs hM ls hl
            refine lv_iload hx hb dX6_borders_51 (lv_at hl 0 rfl) ?_
            refine lv_bipush (v := nI 25) hx hb dX6_borders_53 (by decide) ?_
            refine w_icmp_geN (tgt := 133) hx hb (by omega) (by omega) dX6_borders_55 (by decide) (fun c_6 => ?_) (fun c_6 => ?_)
            · refine lv_iload hx hb dX6_borders_133 (lv_at hl 1 rfl) ?_
              exact hret he51 hM (by rw [show c2 = 25 by omega]) dX6_borders_135
            · refine lv_iconst (v := nI 1) hx hb dX6_borders_58 (by decide) ?_
              refine lv_istore (lv' := [(7, .int (nI 1)), (6, .int (nI c2)), (5, .int (brS (knC (a 1) i1) (knC (a 1) i2) c2)), (4, .int (knC (a 1) i2)), (3, .int (knC (a 1) i1)), (0, .ref (h 0)), (1, .int (nI i1)), (2, .int (nI i2))]) hx hb dX6_borders_59 hl (by decide) rfl (fun ls hl => ?_)
              have loop61 : ∀ (fu : Nat) (w : Nat), (w ≤ 4) → (4 < w + fu) → (w = 0 ∨ btI ((knC (a 1) i1) &&& ((knC (a 1) i2) ^^^ (-1))) c2 = nI 1) → ∀ (f1 : Nat → Int32), fE f f1 → ∀ (H : Heap) (locs : List Loc), mdH D h dA s.heap H locs f1 a → ∀ (ls : Array Slot), lv_has ls 9 [(7, .int (nI (w + 1))), (6, .int (nI c2)), (5, .int (brI (knC (a 1) i1) (knC (a 1) i2) c2 (brS (knC (a 1) i1) (knC (a 1) i2) c2) w)), (4, .int (knC (a 1) i2)), (3, .int (knC (a 1) i1)), (0, .ref (h 0)), (1, .int (nI i1)), (2, .int (nI i2))] → W p l e R s m args below meth c H locs 0 0 Q (F0 m 61 ls []) := by
                intro fu
                induction fu with
                | zero =>
                  intro w hw hn2 hbit
                  omega
                | succ fu ih61 =>
                  intro w hw hn2 hbit f61 he61 H locs hM ls hl
                  refine lv_iload hx hb dX6_borders_61 (lv_at hl 0 rfl) ?_
                  refine lv_iconst (v := nI 5) hx hb dX6_borders_63 (by decide) ?_
                  refine w_icmp_geN (tgt := 127) hx hb (by omega) (by omega) dX6_borders_64 (by decide) (fun c_7 => ?_) (fun c_7 => ?_)
                  · have hbs : brS (knC (a 1) i1) (knC (a 1) i2) (c2 + 1) = brI (knC (a 1) i1) (knC (a 1) i2) c2 (brS (knC (a 1) i1) (knC (a 1) i2) c2) w := by rw [brS, if_pos (hbit.resolve_left (by omega)), show w = 4 by omega]
                    refine lv_iinc (v := nI (c2 + 1)) (lv' := [(6, .int (nI (c2 + 1))), (7, .int (nI (w + 1))), (5, .int (brI (knC (a 1) i1) (knC (a 1) i2) c2 (brS (knC (a 1) i1) (knC (a 1) i2) c2) w)), (4, .int (knC (a 1) i2)), (3, .int (knC (a 1) i1)), (0, .ref (h 0)), (1, .int (nI i1)), (2, .int (nI i2))]) hx hb dX6_borders_127 hl (k := 1) rfl (by rw [show Int32.ofInt 1 = nI 1 from by decide]; exact nI_add _ _) (by decide) rfl (fun ls hl => ?_)
                    refine lv_goto (tgt := 51) hx hb dX6_borders_130 (by decide) ?_
                    exact ih51 (c2 + 1) (by omega) (by omega) _ he61 _ _ hM ls (by rw [hbs]; exact lv_sub hl [0, 2, 3, 4, 5, 6, 7] rfl)
                  · refine lv_iload_n hx hb dX6_borders_67 rfl (lv_at hl 4 rfl) ?_
                    refine lv_iload hx hb dX6_borders_68 (lv_at hl 3 rfl) ?_
                    refine lv_iconst (v := (-1 : Int32)) hx hb dX6_borders_70 (by decide) ?_
                    refine lv_ixor hx hb dX6_borders_71 ?_
                    refine lv_iand hx hb dX6_borders_72 ?_
                    refine lv_iload hx hb dX6_borders_73 (lv_at hl 1 rfl) ?_
                    refine lv_ishr hx hb dX6_borders_75 ?_
                    refine lv_iconst (v := nI 1) hx hb dX6_borders_76 (by decide) ?_
                    refine lv_iand hx hb dX6_borders_77 ?_
                    refine lv_iconst (v := nI 1) hx hb dX6_borders_78 (by decide) ?_
                    refine lv_icmp_ne (tgt := 127) hx hb dX6_borders_79 (by decide) (fun c_8 => ?_) (fun c_8 => ?_)
                    · have hbs : brS (knC (a 1) i1) (knC (a 1) i2) (c2 + 1) = brI (knC (a 1) i1) (knC (a 1) i2) c2 (brS (knC (a 1) i1) (knC (a 1) i2) c2) w := by rw [brS, if_neg c_8, show w = 0 from hbit.resolve_right c_8, brI]
                      refine lv_iinc (v := nI (c2 + 1)) (lv' := [(6, .int (nI (c2 + 1))), (7, .int (nI (w + 1))), (5, .int (brI (knC (a 1) i1) (knC (a 1) i2) c2 (brS (knC (a 1) i1) (knC (a 1) i2) c2) w)), (4, .int (knC (a 1) i2)), (3, .int (knC (a 1) i1)), (0, .ref (h 0)), (1, .int (nI i1)), (2, .int (nI i2))]) hx hb dX6_borders_127 hl (k := 1) rfl (by rw [show Int32.ofInt 1 = nI 1 from by decide]; exact nI_add _ _) (by decide) rfl (fun ls hl => ?_)
                      refine lv_goto (tgt := 51) hx hb dX6_borders_130 (by decide) ?_
                      exact ih51 (c2 + 1) (by omega) (by omega) _ he61 _ _ hM ls (by rw [hbs]; exact lv_sub hl [0, 2, 3, 4, 5, 6, 7] rfl)
                    · refine lv_iload hx hb dX6_borders_82 (lv_at hl 1 rfl) ?_
                      refine lv_iload hx hb dX6_borders_84 (lv_at hl 0 rfl) ?_
                      refine st_callI (y := yX6_beside) hx hb hml hown hts (met_beside c2 (w + 1) (by omega) (by omega)) q1598 q1599 q70 q1600 ndX6_beside rfl (by rw [hRf]; decide) (by rw [hRl]; decide) ⟨Nat.zero_le _, Nat.zero_le _⟩ hl.1 rfl (Nat.le_of_ble_eq_true rfl) dX6_borders_86 ?_
                      refine lv_istore (lv' := [(8, .int (oI (nxt c2 (w + 1)))), (7, .int (nI (w + 1))), (6, .int (nI c2)), (5, .int (brI (knC (a 1) i1) (knC (a 1) i2) c2 (brS (knC (a 1) i1) (knC (a 1) i2) c2) w)), (4, .int (knC (a 1) i2)), (3, .int (knC (a 1) i1)), (0, .ref (h 0)), (1, .int (nI i1)), (2, .int (nI i2))]) hx hb dX6_borders_89 hl (by decide) rfl (fun ls hl => ?_)
                      refine lv_iload hx hb dX6_borders_91 (lv_at hl 3 rfl) ?_
                      refine lv_iload hx hb dX6_borders_93 (lv_at hl 0 rfl) ?_
                      have j118 : ∀ (f1 : Nat → Int32), fE f f1 → ∀ (H : Heap) (locs : List Loc), mdH D h dA s.heap H locs f1 a → ∀ (ls : Array Slot), lv_has ls 9 [(7, .int (nI (w + 1))), (6, .int (nI c2)), (5, .int (brI (knC (a 1) i1) (knC (a 1) i2) c2 (brS (knC (a 1) i1) (knC (a 1) i2) c2) w)), (4, .int (knC (a 1) i2)), (3, .int (knC (a 1) i1)), (0, .ref (h 0)), (1, .int (nI i1)), (2, .int (nI i2))] → W p l e R s m args below meth c H locs 0 0 Q (F0 m 118 ls [.int (brT (knC (a 1) i1) (knC (a 1) i2) c2 (w + 1)), .int (brI (knC (a 1) i1) (knC (a 1) i2) c2 (brS (knC (a 1) i1) (knC (a 1) i2) c2) w)]) := by
                        intro   fj118 hj118 H locs hM ls hl
                        refine lv_iadd hx hb dX6_borders_118 ?_
                        refine lv_istore (lv' := [(5, .int ((brI (knC (a 1) i1) (knC (a 1) i2) c2 (brS (knC (a 1) i1) (knC (a 1) i2) c2) w) + (brT (knC (a 1) i1) (knC (a 1) i2) c2 (w + 1)))), (7, .int (nI (w + 1))), (6, .int (nI c2)), (4, .int (knC (a 1) i2)), (3, .int (knC (a 1) i1)), (0, .ref (h 0)), (1, .int (nI i1)), (2, .int (nI i2))]) hx hb dX6_borders_119 hl (by decide) rfl (fun ls hl => ?_)
                        refine lv_iinc (v := nI (w + 1 + 1)) (lv' := [(7, .int (nI (w + 1 + 1))), (5, .int ((brI (knC (a 1) i1) (knC (a 1) i2) c2 (brS (knC (a 1) i1) (knC (a 1) i2) c2) w) + (brT (knC (a 1) i1) (knC (a 1) i2) c2 (w + 1)))), (6, .int (nI c2)), (4, .int (knC (a 1) i2)), (3, .int (knC (a 1) i1)), (0, .ref (h 0)), (1, .int (nI i1)), (2, .int (nI i2))]) hx hb dX6_borders_121 hl (k := 1) rfl (by rw [show Int32.ofInt 1 = nI 1 from by decide]; exact nI_add _ _) (by decide) rfl (fun ls hl => ?_)
                        refine lv_goto (tgt := 61) hx hb dX6_borders_124 (by decide) ?_
                        exact ih61 (w + 1) (by omega) (by omega) (Or.inr c_8) _ hj118 _ _ hM ls (lv_sub hl [0, 2, 1, 3, 4, 5, 6, 7] rfl)
                      refine lv_if_lt (tgt := 117) hx hb dX6_borders_95 (by decide) (fun c_9 => ?_) (fun c_9 => ?_)
                      · refine lv_iconst (v := nI 0) hx hb dX6_borders_117 (by decide) ?_
                        refine w_top (brT (knC (a 1) i1) (knC (a 1) i2) c2 (w + 1)) (brT_n (oI_neg (Int32.not_le.mpr c_9) (fun z hz => by have := nxt_lt (by omega) hz; omega))) ?_
                        exact j118   _ he61 _ _ hM ls (lv_sub hl [1, 2, 3, 4, 5, 6, 7, 8] rfl)
                      · obtain ⟨d, hd1, hd2⟩ := oI_pos (Int32.not_lt.mp c_9)
                        refine lv_iload hx hb dX6_borders_98 (lv_at hl 4 rfl) ?_
                        refine lv_iload_n hx hb dX6_borders_100 rfl (lv_at hl 5 rfl) ?_
                        refine lv_iconst (v := (-1 : Int32)) hx hb dX6_borders_101 (by decide) ?_
                        refine lv_ixor hx hb dX6_borders_102 ?_
                        refine lv_iand hx hb dX6_borders_103 ?_
                        refine lv_iload hx hb dX6_borders_104 (lv_at hl 0 rfl) ?_
                        refine w_top (nI d) (hd2) ?_
                        refine lv_ishr hx hb dX6_borders_106 ?_
                        refine lv_iconst (v := nI 1) hx hb dX6_borders_107 (by decide) ?_
                        refine lv_iand hx hb dX6_borders_108 ?_
                        refine lv_iconst (v := nI 1) hx hb dX6_borders_109 (by decide) ?_
                        refine lv_icmp_ne (tgt := 117) hx hb dX6_borders_110 (by decide) (fun c_10 => ?_) (fun c_10 => ?_)
                        · refine lv_iconst (v := nI 0) hx hb dX6_borders_117 (by decide) ?_
                          refine w_top (brT (knC (a 1) i1) (knC (a 1) i2) c2 (w + 1)) (brT_z hd1 c_10) ?_
                          exact j118   _ he61 _ _ hM ls (lv_sub hl [1, 2, 3, 4, 5, 6, 7, 8] rfl)
                        · refine lv_iconst (v := nI 1) hx hb dX6_borders_113 (by decide) ?_
                          refine lv_goto (tgt := 118) hx hb dX6_borders_114 (by decide) ?_
                          refine w_top (brT (knC (a 1) i1) (knC (a 1) i2) c2 (w + 1)) (brT_y hd1 c_10) ?_
                          exact j118   _ he61 _ _ hM ls (lv_sub hl [1, 2, 3, 4, 5, 6, 7, 8] rfl)
              exact loop61 5 0 (by omega) (by omega) (Or.inl rfl) _ he51 _ _ hM ls (lv_sub hl [0, 1, 2, 3, 4, 5, 6, 7] rfl)
        exact loop51 26 0 (by omega) (by omega) _ ef_5 _ _ hM ls (lv_sub hl [0, 1, 2, 3, 4, 5, 6] rfl)
      · exact absurd c_3 hne
set_option maxHeartbeats 400000 in
theorem met_borders_e (f : Nat → Int32) (a : Nat → Nat → Int32) (v1 v2 : Int32) (he : ¬ (cowP (a 1) v1 ∧ cowP (a 1) v2 ∧ ¬ v1 = v2)) : MdF yX6_borders cX6_borders 9 (some .int) 2 43 [.int v1, .int v2] f a (some (.int (-1000000001 : Int32))) f (mErr a 1) := by
  refine MdF.ofI (by decide) rfl (Nat.le_of_ble_eq_true rfl) ?_
  intro p l e R s m args below meth c Q D h dA ls hx hb hml hRf hRl hts hown hK hI hM hl hret
  have hl : lv_has ls 9 [(0, .ref (h 0)), (1, .int v1), (2, .int v2)] := hl
  refine lv_aload_n hx hb dX6_borders_0 rfl (lv_at hl 0 rfl) ?_
  refine lv_iload_n hx hb dX6_borders_1 rfl (lv_at hl 1 rfl) ?_
  refine md_callI (y := yX6_isCow) hx hb hml hown hts hK hI hM (met_isCow f a v1) q1574 q1576 qs37 q1577 ndX6_isCow rfl (by rw [hRf]; decide) (by rw [hRl]; decide) hl.1 rfl (Nat.le_of_ble_eq_true rfl) dX6_borders_2 (fun H locs hM => ?_)
  refine w_if_eqT (tgt := 21) hx hb dX6_borders_5 (by decide) (fun c_1 => ?_) (fun c_1 => ?_)
  · refine lv_aload_n hx hb dX6_borders_21 rfl (lv_at hl 0 rfl) ?_
    refine lv_ldc hx hb hown (hts _ q1485) dX6_borders_22 ?_
    refine md_callI (y := yX6_errs) hx hb hml hown hts hK hI hM (met_errs f a (-1000000001 : Int32) 1 (by decide) (by decide)) q1486 q1488 qs21 q1489 ndX6_errs rfl (by rw [hRf]; decide) (by rw [hRl]; decide) hl.1 rfl (Nat.le_of_ble_eq_true rfl) dX6_borders_24 (fun H locs hM => ?_)
    exact hret hM (by first | rfl | (simp only [iI, nI_0, nI_one]; grind)) dX6_borders_27
  · refine lv_aload_n hx hb dX6_borders_8 rfl (lv_at hl 0 rfl) ?_
    refine lv_iload_n hx hb dX6_borders_9 rfl (lv_at hl 2 rfl) ?_
    refine md_callI (y := yX6_isCow) hx hb hml hown hts hK hI hM (met_isCow f a v2) q1574 q1576 qs37 q1577 ndX6_isCow rfl (by rw [hRf]; decide) (by rw [hRl]; decide) hl.1 rfl (Nat.le_of_ble_eq_true rfl) dX6_borders_10 (fun H locs hM => ?_)
    refine w_if_eqT (tgt := 21) hx hb dX6_borders_13 (by decide) (fun c_2 => ?_) (fun c_2 => ?_)
    · refine lv_aload_n hx hb dX6_borders_21 rfl (lv_at hl 0 rfl) ?_
      refine lv_ldc hx hb hown (hts _ q1485) dX6_borders_22 ?_
      refine md_callI (y := yX6_errs) hx hb hml hown hts hK hI hM (met_errs f a (-1000000001 : Int32) 1 (by decide) (by decide)) q1486 q1488 qs21 q1489 ndX6_errs rfl (by rw [hRf]; decide) (by rw [hRl]; decide) hl.1 rfl (Nat.le_of_ble_eq_true rfl) dX6_borders_24 (fun H locs hM => ?_)
      exact hret hM (by first | rfl | (simp only [iI, nI_0, nI_one]; grind)) dX6_borders_27
    · refine lv_iload_n hx hb dX6_borders_16 rfl (lv_at hl 1 rfl) ?_
      refine lv_iload_n hx hb dX6_borders_17 rfl (lv_at hl 2 rfl) ?_
      refine lv_icmp_ne (tgt := 28) hx hb dX6_borders_18 (by decide) (fun c_3 => ?_) (fun c_3 => ?_)
      · exact absurd ⟨c_1, c_2, c_3⟩ he
      · refine lv_aload_n hx hb dX6_borders_21 rfl (lv_at hl 0 rfl) ?_
        refine lv_ldc hx hb hown (hts _ q1485) dX6_borders_22 ?_
        refine md_callI (y := yX6_errs) hx hb hml hown hts hK hI hM (met_errs f a (-1000000001 : Int32) 1 (by decide) (by decide)) q1486 q1488 qs21 q1489 ndX6_errs rfl (by rw [hRf]; decide) (by rw [hRl]; decide) hl.1 rfl (Nat.le_of_ble_eq_true rfl) dX6_borders_24 (fun H locs hM => ?_)
        exact hret hM (by first | rfl | (simp only [iI, nI_0, nI_one]; grind)) dX6_borders_27
