/-! the model: wants, ways (printed by model5.py) -/
set_option maxRecDepth 100000
/-- a number of the row is what it must be -/
def okR (r : Nat → Int32) : Prop := okT r ∧ okN (r 3) 5 ∧ okN (r 4) 50 ∧ okN (r 5) 20 ∧ okN (r 1) 9 ∧ (∀ i, i < 5 → okN (r (58 + 14 * i + 0)) 6 ∧ okN (r (58 + 14 * i + 1)) 9 ∧ okN (r (58 + 14 * i + 2)) 24 ∧ okN (r (58 + 14 * i + 3)) 10 ∧ ∀ j, j < 10 → okN (r (58 + 14 * i + (4 + j))) 24) ∧ (∀ c, c < 25 → okN (r (33 + c)) 99 ∧ okN (r (8 + c)) 9)
abbrev finR (r : Nat → Int32) (i : Nat) (c : Int32) (k : Nat) : Int32 := finM (fun k => r (58 + 14 * i + (4 + k))) c (cl (r (58 + 14 * i + 3)) - k) k
def wantV (r : Nat → Int32) (i c : Nat) (b : Bool) : Int32 :=
  if r (58 + 14 * i + 0) = nI 1 then drwV (rA r) c + nI 10 * r (8 + c)
  else if r (58 + 14 * i + 0) = nI 2 then (if finR r i (nI c) 0 < 0 then drwV (rA r) c else drwV (rA r) c - nI 50)
  else if r (58 + 14 * i + 0) = nI 3 then (if b = true then drwV (rA r) c + r (58 + 14 * i + 1) else drwV (rA r) c)
  else if r (58 + 14 * i + 0) = nI 4 then drwV (rA r) c + nI 10 * r (8 + c) - (if b = true then nI 20 else nI 0)
  else if r (58 + 14 * i + 0) = nI 5 then (if finR r i (nI c) 0 < 0 then drwV (rA r) c + nI 5 * r (58 + 14 * i + 1) else drwV (rA r) c - nI 50)
  else if r (58 + 14 * i + 0) = nI 6 then drwV (rA r) c + (if b = true then r (58 + 14 * i + 1) else nI 0) + (if finR r i (nI c) 0 < 0 then nI 0 else nI 20)
  else drwV (rA r) c
theorem ndX6_wantsOf : yX6_wantsOf.cls = RX6 ∧ yX6_wantsOf.cls ≠ "java/lang/invoke/MethodHandle" ∧ yX6_wantsOf.cls ≠ "java/lang/invoke/VarHandle" ∧ (parseMethodDescriptor yX6_wantsOf.desc).map (fun d => d.parameters.length) = some 3 := by decide +kernel
set_option maxHeartbeats 400000 in
theorem met_wantsOf1 (f : Nat → Int32) (a : Nat → Nat → Int32) (i c0 : Nat) (hi : i < 5) (hc : c0 < 25) (hT : okT (a 1)) (hq : okN (a 1 (58 + 14 * i + 3)) 10) : MdX yX6_wantsOf cX6_wantsOf 7 (some .int) 42 1064 [.int (nI i), .int (nI c0), .int (nI 1)] f a (some (.int (wantV (a 1) i c0 true))) a := by
  refine MdX.ofI (by decide) rfl (Nat.le_of_ble_eq_true rfl) ?_
  intro p l e R s m args below meth c Q D h dA ls hx hb hml hRf hRl hts hown hK hI hM hl hret
  have hl : lv_has ls 7 [(0, .ref (h 0)), (1, .int (nI i)), (2, .int (nI c0)), (3, .int (nI 1))] := hl
  refine lv_aload_n hx hb dX6_wantsOf_0 rfl (lv_at hl 0 rfl) ?_
  refine lv_iload_n hx hb dX6_wantsOf_1 rfl (lv_at hl 2 rfl) ?_
  refine md_callXI (y := yX6_drawnBy) hx hb hml hown hts hK hI hM (met_drawnBy f a c0 (by omega) (hT)) q1499 q1501 qs22 q1502 ndX6_drawnBy rfl (by rw [hRf]; decide) (by rw [hRl]; decide) hl.1 rfl (Nat.le_of_ble_eq_true rfl) dX6_wantsOf_2 (fun H locs f_1 hf_1 hM => ?_)
  have ef_1 : fE f f_1 := fE.rf.tr hf_1
  refine lv_istore (lv' := [(4, .int (drwV a c0)), (0, .ref (h 0)), (1, .int (nI i)), (2, .int (nI c0)), (3, .int (nI 1))]) hx hb dX6_wantsOf_5 hl (by decide) rfl (fun ls hl => ?_)
  refine lv_aload_n hx hb dX6_wantsOf_7 rfl (lv_at hl 1 rfl) ?_
  refine lv_iload_n hx hb dX6_wantsOf_8 rfl (lv_at hl 2 rfl) ?_
  refine lv_iconst (v := nI 1) hx hb dX6_wantsOf_9 (by decide) ?_
  refine md_callI (y := yX6_its) hx hb hml hown hts hK hI hM (met_its f_1 a i 1 (by omega)) q1557 q1559 qs35 q1560 ndX6_its rfl (by rw [hRf]; decide) (by rw [hRl]; decide) hl.1 rfl (Nat.le_of_ble_eq_true rfl) dX6_wantsOf_10 (fun H locs hM => ?_)
  refine lv_istore (lv' := [(5, .int (a 1 (58 + 14 * i + 1))), (4, .int (drwV a c0)), (0, .ref (h 0)), (1, .int (nI i)), (2, .int (nI c0)), (3, .int (nI 1))]) hx hb dX6_wantsOf_13 hl (by decide) rfl (fun ls hl => ?_)
  refine lv_aload_n hx hb dX6_wantsOf_15 rfl (lv_at hl 2 rfl) ?_
  refine lv_iload_n hx hb dX6_wantsOf_16 rfl (lv_at hl 3 rfl) ?_
  refine lv_iload_n hx hb dX6_wantsOf_17 rfl (lv_at hl 4 rfl) ?_
  refine lv_iconst (v := nI 0) hx hb dX6_wantsOf_18 (by decide) ?_
  refine md_callI (y := yX6_inMilk) hx hb hml hown hts hK hI hM (met_inMilk f_1 a i 0 (nI c0) hi hq (by omega)) q1594 q1596 qs42 q1597 ndX6_inMilk rfl (by rw [hRf]; decide) (by rw [hRl]; decide) hl.1 rfl (Nat.le_of_ble_eq_true rfl) dX6_wantsOf_19 (fun H locs hM => ?_)
  refine lv_if_lt (tgt := 29) hx hb dX6_wantsOf_22 (by decide) (fun c_2 => ?_) (fun c_2 => ?_)
  · refine lv_iconst (v := nI 0) hx hb dX6_wantsOf_29 (by decide) ?_
    refine lv_istore (lv' := [(6, .int (nI 0)), (5, .int (a 1 (58 + 14 * i + 1))), (4, .int (drwV a c0)), (0, .ref (h 0)), (1, .int (nI i)), (2, .int (nI c0)), (3, .int (nI 1))]) hx hb dX6_wantsOf_30 hl (by decide) rfl (fun ls hl => ?_)
    refine lv_aload_n hx hb dX6_wantsOf_32 rfl (lv_at hl 3 rfl) ?_
    refine lv_iload_n hx hb dX6_wantsOf_33 rfl (lv_at hl 4 rfl) ?_
    refine lv_iconst (v := nI 0) hx hb dX6_wantsOf_34 (by decide) ?_
    refine md_callI (y := yX6_its) hx hb hml hown hts hK hI hM (met_its f_1 a i 0 (by omega)) q1557 q1559 qs35 q1560 ndX6_its rfl (by rw [hRf]; decide) (by rw [hRl]; decide) hl.1 rfl (Nat.le_of_ble_eq_true rfl) dX6_wantsOf_35 (fun H locs hM => ?_)
    by_cases c_3 : a 1 (58 + 14 * i + 0) = nI 1
    · refine lv_tableIn (off := 38) (tgt := 76) hx hb dX6_wantsOf_38 (by rw [c_3]; decide) (by rw [c_3]; decide) (by rw [c_3]; rfl) (by decide) ?_
      refine lv_iload hx hb dX6_wantsOf_76 (lv_at hl 2 rfl) ?_
      refine lv_bipush (v := nI 10) hx hb dX6_wantsOf_78 (by decide) ?_
      refine lv_aload_n hx hb dX6_wantsOf_80 rfl (lv_at hl 3 rfl) ?_
      refine md_get (v := .ref (h 1)) hx hb hts hown hK hM 0 (by decide) q1390 rfl rfl dX6_wantsOf_81 ?_
      refine lv_bipush (v := nI 8) hx hb dX6_wantsOf_84 (by decide) ?_
      refine lv_iload_n hx hb dX6_wantsOf_86 rfl (lv_at hl 5 rfl) ?_
      refine w_iaddN hx hb dX6_wantsOf_87 ?_
      refine md_iald hx hb hK hM 1 rfl (8 + c0) ⟨by omega, by decide, rfl⟩ dX6_wantsOf_88 ?_
      refine lv_imul hx hb dX6_wantsOf_89 ?_
      refine lv_iadd hx hb dX6_wantsOf_90 ?_
      exact hret ef_1 hM (by show _ = wantV (a 1) i c0 true; unfold wantV; rw [if_pos c_3]; rfl) dX6_wantsOf_91
    · skip
      by_cases c_4 : a 1 (58 + 14 * i + 0) = nI 2
      · refine lv_tableIn (off := 81) (tgt := 119) hx hb dX6_wantsOf_38 (by rw [c_4]; decide) (by rw [c_4]; decide) (by rw [c_4]; rfl) (by decide) ?_
        refine lv_iload hx hb dX6_wantsOf_119 (lv_at hl 0 rfl) ?_
        refine lv_if_eq (tgt := 132) hx hb dX6_wantsOf_121 (by decide) (fun _ => ?_) (fun q => absurd q (by decide))
        refine lv_iload hx hb dX6_wantsOf_132 (lv_at hl 2 rfl) ?_
        exact hret ef_1 hM (by show _ = wantV (a 1) i c0 true; unfold wantV; rw [if_neg c_3, if_pos c_4, if_pos c_2]; rfl) dX6_wantsOf_134
      · skip
        by_cases c_6 : a 1 (58 + 14 * i + 0) = nI 3
        · refine lv_tableIn (off := 118) (tgt := 156) hx hb dX6_wantsOf_38 (by rw [c_6]; decide) (by rw [c_6]; decide) (by rw [c_6]; rfl) (by decide) ?_
          refine lv_iload_n hx hb dX6_wantsOf_156 rfl (lv_at hl 6 rfl) ?_
          refine lv_if_eq (tgt := 168) hx hb dX6_wantsOf_157 (by decide) (fun q => absurd q (by decide)) (fun _ => ?_)
          refine lv_iload hx hb dX6_wantsOf_160 (lv_at hl 2 rfl) ?_
          refine lv_iload hx hb dX6_wantsOf_162 (lv_at hl 1 rfl) ?_
          refine lv_iadd hx hb dX6_wantsOf_164 ?_
          refine lv_goto (tgt := 170) hx hb dX6_wantsOf_165 (by decide) ?_
          exact hret ef_1 hM (by show _ = wantV (a 1) i c0 true; unfold wantV; rw [if_neg c_3, if_neg c_4, if_pos c_6, if_pos rfl]; rfl) dX6_wantsOf_170
        · skip
          by_cases c_8 : a 1 (58 + 14 * i + 0) = nI 4
          · refine lv_tableIn (off := 54) (tgt := 92) hx hb dX6_wantsOf_38 (by rw [c_8]; decide) (by rw [c_8]; decide) (by rw [c_8]; rfl) (by decide) ?_
            refine lv_iload hx hb dX6_wantsOf_92 (lv_at hl 2 rfl) ?_
            refine lv_bipush (v := nI 10) hx hb dX6_wantsOf_94 (by decide) ?_
            refine lv_aload_n hx hb dX6_wantsOf_96 rfl (lv_at hl 3 rfl) ?_
            refine md_get (v := .ref (h 1)) hx hb hts hown hK hM 0 (by decide) q1390 rfl rfl dX6_wantsOf_97 ?_
            refine lv_bipush (v := nI 8) hx hb dX6_wantsOf_100 (by decide) ?_
            refine lv_iload_n hx hb dX6_wantsOf_102 rfl (lv_at hl 5 rfl) ?_
            refine w_iaddN hx hb dX6_wantsOf_103 ?_
            refine md_iald hx hb hK hM 1 rfl (8 + c0) ⟨by omega, by decide, rfl⟩ dX6_wantsOf_104 ?_
            refine lv_imul hx hb dX6_wantsOf_105 ?_
            refine lv_iadd hx hb dX6_wantsOf_106 ?_
            refine lv_iload_n hx hb dX6_wantsOf_107 rfl (lv_at hl 6 rfl) ?_
            refine lv_if_eq (tgt := 116) hx hb dX6_wantsOf_108 (by decide) (fun q => absurd q (by decide)) (fun _ => ?_)
            refine lv_bipush (v := nI 20) hx hb dX6_wantsOf_111 (by decide) ?_
            refine lv_goto (tgt := 117) hx hb dX6_wantsOf_113 (by decide) ?_
            refine lv_isub hx hb dX6_wantsOf_117 ?_
            exact hret ef_1 hM (by show _ = wantV (a 1) i c0 true; unfold wantV; rw [if_neg c_3, if_neg c_4, if_neg c_6, if_pos c_8, if_pos rfl]; rfl) dX6_wantsOf_118
          · skip
            by_cases c_10 : a 1 (58 + 14 * i + 0) = nI 5
            · refine lv_tableIn (off := 97) (tgt := 135) hx hb dX6_wantsOf_38 (by rw [c_10]; decide) (by rw [c_10]; decide) (by rw [c_10]; rfl) (by decide) ?_
              refine lv_iload hx hb dX6_wantsOf_135 (lv_at hl 0 rfl) ?_
              refine lv_if_eq (tgt := 148) hx hb dX6_wantsOf_137 (by decide) (fun _ => ?_) (fun q => absurd q (by decide))
              refine lv_iload hx hb dX6_wantsOf_148 (lv_at hl 2 rfl) ?_
              refine lv_iconst (v := nI 5) hx hb dX6_wantsOf_150 (by decide) ?_
              refine lv_iload hx hb dX6_wantsOf_151 (lv_at hl 1 rfl) ?_
              refine lv_imul hx hb dX6_wantsOf_153 ?_
              refine lv_iadd hx hb dX6_wantsOf_154 ?_
              exact hret ef_1 hM (by show _ = wantV (a 1) i c0 true; unfold wantV; rw [if_neg c_3, if_neg c_4, if_neg c_6, if_neg c_8, if_pos c_10, if_pos c_2]; rfl) dX6_wantsOf_155
            · skip
              by_cases c_12 : a 1 (58 + 14 * i + 0) = nI 6
              · refine lv_tableIn (off := 133) (tgt := 171) hx hb dX6_wantsOf_38 (by rw [c_12]; decide) (by rw [c_12]; decide) (by rw [c_12]; rfl) (by decide) ?_
                refine lv_iload hx hb dX6_wantsOf_171 (lv_at hl 2 rfl) ?_
                refine lv_iload_n hx hb dX6_wantsOf_173 rfl (lv_at hl 6 rfl) ?_
                refine lv_if_eq (tgt := 182) hx hb dX6_wantsOf_174 (by decide) (fun q => absurd q (by decide)) (fun _ => ?_)
                refine lv_iload hx hb dX6_wantsOf_177 (lv_at hl 1 rfl) ?_
                refine lv_goto (tgt := 183) hx hb dX6_wantsOf_179 (by decide) ?_
                refine lv_iadd hx hb dX6_wantsOf_183 ?_
                refine lv_iload hx hb dX6_wantsOf_184 (lv_at hl 0 rfl) ?_
                refine lv_if_eq (tgt := 194) hx hb dX6_wantsOf_186 (by decide) (fun _ => ?_) (fun q => absurd q (by decide))
                refine lv_iconst (v := nI 0) hx hb dX6_wantsOf_194 (by decide) ?_
                refine lv_iadd hx hb dX6_wantsOf_195 ?_
                exact hret ef_1 hM (by show _ = wantV (a 1) i c0 true; unfold wantV; rw [if_neg c_3, if_neg c_4, if_neg c_6, if_neg c_8, if_neg c_10, if_pos c_12, if_pos rfl, if_pos c_2]; rfl) dX6_wantsOf_196
              · skip
                refine lv_tableOut (tgt := 197) hx hb dX6_wantsOf_38 (w_tout 1 6 (by decide) (fun k hk => by rcases (show k = 0 ∨ k = 1 ∨ k = 2 ∨ k = 3 ∨ k = 4 ∨ k = 5 by omega) with rfl | rfl | rfl | rfl | rfl | rfl <;> assumption)) (by decide) ?_
                refine lv_iload hx hb dX6_wantsOf_197 (lv_at hl 2 rfl) ?_
                exact hret ef_1 hM (by show _ = wantV (a 1) i c0 true; unfold wantV; rw [if_neg c_3, if_neg c_4, if_neg c_6, if_neg c_8, if_neg c_10, if_neg c_12]; rfl) dX6_wantsOf_199
  · refine lv_iconst (v := nI 1) hx hb dX6_wantsOf_25 (by decide) ?_
    refine lv_goto (tgt := 30) hx hb dX6_wantsOf_26 (by decide) ?_
    refine lv_istore (lv' := [(6, .int (nI 1)), (5, .int (a 1 (58 + 14 * i + 1))), (4, .int (drwV a c0)), (0, .ref (h 0)), (1, .int (nI i)), (2, .int (nI c0)), (3, .int (nI 1))]) hx hb dX6_wantsOf_30 hl (by decide) rfl (fun ls hl => ?_)
    refine lv_aload_n hx hb dX6_wantsOf_32 rfl (lv_at hl 3 rfl) ?_
    refine lv_iload_n hx hb dX6_wantsOf_33 rfl (lv_at hl 4 rfl) ?_
    refine lv_iconst (v := nI 0) hx hb dX6_wantsOf_34 (by decide) ?_
    refine md_callI (y := yX6_its) hx hb hml hown hts hK hI hM (met_its f_1 a i 0 (by omega)) q1557 q1559 qs35 q1560 ndX6_its rfl (by rw [hRf]; decide) (by rw [hRl]; decide) hl.1 rfl (Nat.le_of_ble_eq_true rfl) dX6_wantsOf_35 (fun H locs hM => ?_)
    by_cases c_15 : a 1 (58 + 14 * i + 0) = nI 1
    · refine lv_tableIn (off := 38) (tgt := 76) hx hb dX6_wantsOf_38 (by rw [c_15]; decide) (by rw [c_15]; decide) (by rw [c_15]; rfl) (by decide) ?_
      refine lv_iload hx hb dX6_wantsOf_76 (lv_at hl 2 rfl) ?_
      refine lv_bipush (v := nI 10) hx hb dX6_wantsOf_78 (by decide) ?_
      refine lv_aload_n hx hb dX6_wantsOf_80 rfl (lv_at hl 3 rfl) ?_
      refine md_get (v := .ref (h 1)) hx hb hts hown hK hM 0 (by decide) q1390 rfl rfl dX6_wantsOf_81 ?_
      refine lv_bipush (v := nI 8) hx hb dX6_wantsOf_84 (by decide) ?_
      refine lv_iload_n hx hb dX6_wantsOf_86 rfl (lv_at hl 5 rfl) ?_
      refine w_iaddN hx hb dX6_wantsOf_87 ?_
      refine md_iald hx hb hK hM 1 rfl (8 + c0) ⟨by omega, by decide, rfl⟩ dX6_wantsOf_88 ?_
      refine lv_imul hx hb dX6_wantsOf_89 ?_
      refine lv_iadd hx hb dX6_wantsOf_90 ?_
      exact hret ef_1 hM (by show _ = wantV (a 1) i c0 true; unfold wantV; rw [if_pos c_15]; rfl) dX6_wantsOf_91
    · skip
      by_cases c_16 : a 1 (58 + 14 * i + 0) = nI 2
      · refine lv_tableIn (off := 81) (tgt := 119) hx hb dX6_wantsOf_38 (by rw [c_16]; decide) (by rw [c_16]; decide) (by rw [c_16]; rfl) (by decide) ?_
        refine lv_iload hx hb dX6_wantsOf_119 (lv_at hl 0 rfl) ?_
        refine lv_if_eq (tgt := 132) hx hb dX6_wantsOf_121 (by decide) (fun q => absurd q (by decide)) (fun _ => ?_)
        refine lv_iload hx hb dX6_wantsOf_124 (lv_at hl 2 rfl) ?_
        refine lv_bipush (v := nI 50) hx hb dX6_wantsOf_126 (by decide) ?_
        refine lv_isub hx hb dX6_wantsOf_128 ?_
        refine lv_goto (tgt := 134) hx hb dX6_wantsOf_129 (by decide) ?_
        exact hret ef_1 hM (by show _ = wantV (a 1) i c0 true; unfold wantV; rw [if_neg c_15, if_pos c_16, if_neg c_2]; rfl) dX6_wantsOf_134
      · skip
        by_cases c_18 : a 1 (58 + 14 * i + 0) = nI 3
        · refine lv_tableIn (off := 118) (tgt := 156) hx hb dX6_wantsOf_38 (by rw [c_18]; decide) (by rw [c_18]; decide) (by rw [c_18]; rfl) (by decide) ?_
          refine lv_iload_n hx hb dX6_wantsOf_156 rfl (lv_at hl 6 rfl) ?_
          refine lv_if_eq (tgt := 168) hx hb dX6_wantsOf_157 (by decide) (fun q => absurd q (by decide)) (fun _ => ?_)
          refine lv_iload hx hb dX6_wantsOf_160 (lv_at hl 2 rfl) ?_
          refine lv_iload hx hb dX6_wantsOf_162 (lv_at hl 1 rfl) ?_
          refine lv_iadd hx hb dX6_wantsOf_164 ?_
          refine lv_goto (tgt := 170) hx hb dX6_wantsOf_165 (by decide) ?_
          exact hret ef_1 hM (by show _ = wantV (a 1) i c0 true; unfold wantV; rw [if_neg c_15, if_neg c_16, if_pos c_18, if_pos rfl]; rfl) dX6_wantsOf_170
        · skip
          by_cases c_20 : a 1 (58 + 14 * i + 0) = nI 4
          · refine lv_tableIn (off := 54) (tgt := 92) hx hb dX6_wantsOf_38 (by rw [c_20]; decide) (by rw [c_20]; decide) (by rw [c_20]; rfl) (by decide) ?_
            refine lv_iload hx hb dX6_wantsOf_92 (lv_at hl 2 rfl) ?_
            refine lv_bipush (v := nI 10) hx hb dX6_wantsOf_94 (by decide) ?_
            refine lv_aload_n hx hb dX6_wantsOf_96 rfl (lv_at hl 3 rfl) ?_
            refine md_get (v := .ref (h 1)) hx hb hts hown hK hM 0 (by decide) q1390 rfl rfl dX6_wantsOf_97 ?_
            refine lv_bipush (v := nI 8) hx hb dX6_wantsOf_100 (by decide) ?_
            refine lv_iload_n hx hb dX6_wantsOf_102 rfl (lv_at hl 5 rfl) ?_
            refine w_iaddN hx hb dX6_wantsOf_103 ?_
            refine md_iald hx hb hK hM 1 rfl (8 + c0) ⟨by omega, by decide, rfl⟩ dX6_wantsOf_104 ?_
            refine lv_imul hx hb dX6_wantsOf_105 ?_
            refine lv_iadd hx hb dX6_wantsOf_106 ?_
            refine lv_iload_n hx hb dX6_wantsOf_107 rfl (lv_at hl 6 rfl) ?_
            refine lv_if_eq (tgt := 116) hx hb dX6_wantsOf_108 (by decide) (fun q => absurd q (by decide)) (fun _ => ?_)
            refine lv_bipush (v := nI 20) hx hb dX6_wantsOf_111 (by decide) ?_
            refine lv_goto (tgt := 117) hx hb dX6_wantsOf_113 (by decide) ?_
            refine lv_isub hx hb dX6_wantsOf_117 ?_
            exact hret ef_1 hM (by show _ = wantV (a 1) i c0 true; unfold wantV; rw [if_neg c_15, if_neg c_16, if_neg c_18, if_pos c_20, if_pos rfl]; rfl) dX6_wantsOf_118
          · skip
            by_cases c_22 : a 1 (58 + 14 * i + 0) = nI 5
            · refine lv_tableIn (off := 97) (tgt := 135) hx hb dX6_wantsOf_38 (by rw [c_22]; decide) (by rw [c_22]; decide) (by rw [c_22]; rfl) (by decide) ?_
              refine lv_iload hx hb dX6_wantsOf_135 (lv_at hl 0 rfl) ?_
              refine lv_if_eq (tgt := 148) hx hb dX6_wantsOf_137 (by decide) (fun q => absurd q (by decide)) (fun _ => ?_)
              refine lv_iload hx hb dX6_wantsOf_140 (lv_at hl 2 rfl) ?_
              refine lv_bipush (v := nI 50) hx hb dX6_wantsOf_142 (by decide) ?_
              refine lv_isub hx hb dX6_wantsOf_144 ?_
              refine lv_goto (tgt := 155) hx hb dX6_wantsOf_145 (by decide) ?_
              exact hret ef_1 hM (by show _ = wantV (a 1) i c0 true; unfold wantV; rw [if_neg c_15, if_neg c_16, if_neg c_18, if_neg c_20, if_pos c_22, if_neg c_2]; rfl) dX6_wantsOf_155
            · skip
              by_cases c_24 : a 1 (58 + 14 * i + 0) = nI 6
              · refine lv_tableIn (off := 133) (tgt := 171) hx hb dX6_wantsOf_38 (by rw [c_24]; decide) (by rw [c_24]; decide) (by rw [c_24]; rfl) (by decide) ?_
                refine lv_iload hx hb dX6_wantsOf_171 (lv_at hl 2 rfl) ?_
                refine lv_iload_n hx hb dX6_wantsOf_173 rfl (lv_at hl 6 rfl) ?_
                refine lv_if_eq (tgt := 182) hx hb dX6_wantsOf_174 (by decide) (fun q => absurd q (by decide)) (fun _ => ?_)
                refine lv_iload hx hb dX6_wantsOf_177 (lv_at hl 1 rfl) ?_
                refine lv_goto (tgt := 183) hx hb dX6_wantsOf_179 (by decide) ?_
                refine lv_iadd hx hb dX6_wantsOf_183 ?_
                refine lv_iload hx hb dX6_wantsOf_184 (lv_at hl 0 rfl) ?_
                refine lv_if_eq (tgt := 194) hx hb dX6_wantsOf_186 (by decide) (fun q => absurd q (by decide)) (fun _ => ?_)
                refine lv_bipush (v := nI 20) hx hb dX6_wantsOf_189 (by decide) ?_
                refine lv_goto (tgt := 195) hx hb dX6_wantsOf_191 (by decide) ?_
                refine lv_iadd hx hb dX6_wantsOf_195 ?_
                exact hret ef_1 hM (by show _ = wantV (a 1) i c0 true; unfold wantV; rw [if_neg c_15, if_neg c_16, if_neg c_18, if_neg c_20, if_neg c_22, if_pos c_24, if_pos rfl, if_neg c_2]; rfl) dX6_wantsOf_196
              · skip
                refine lv_tableOut (tgt := 197) hx hb dX6_wantsOf_38 (w_tout 1 6 (by decide) (fun k hk => by rcases (show k = 0 ∨ k = 1 ∨ k = 2 ∨ k = 3 ∨ k = 4 ∨ k = 5 by omega) with rfl | rfl | rfl | rfl | rfl | rfl <;> assumption)) (by decide) ?_
                refine lv_iload hx hb dX6_wantsOf_197 (lv_at hl 2 rfl) ?_
                exact hret ef_1 hM (by show _ = wantV (a 1) i c0 true; unfold wantV; rw [if_neg c_15, if_neg c_16, if_neg c_18, if_neg c_20, if_neg c_22, if_neg c_24]; rfl) dX6_wantsOf_199
set_option maxHeartbeats 400000 in
theorem met_wantsOf0 (f : Nat → Int32) (a : Nat → Nat → Int32) (i c0 : Nat) (hi : i < 5) (hc : c0 < 25) (hT : okT (a 1)) (hq : okN (a 1 (58 + 14 * i + 3)) 10) : MdX yX6_wantsOf cX6_wantsOf 7 (some .int) 42 1064 [.int (nI i), .int (nI c0), .int (nI 0)] f a (some (.int (wantV (a 1) i c0 false))) a := by
  refine MdX.ofI (by decide) rfl (Nat.le_of_ble_eq_true rfl) ?_
  intro p l e R s m args below meth c Q D h dA ls hx hb hml hRf hRl hts hown hK hI hM hl hret
  have hl : lv_has ls 7 [(0, .ref (h 0)), (1, .int (nI i)), (2, .int (nI c0)), (3, .int (nI 0))] := hl
  refine lv_aload_n hx hb dX6_wantsOf_0 rfl (lv_at hl 0 rfl) ?_
  refine lv_iload_n hx hb dX6_wantsOf_1 rfl (lv_at hl 2 rfl) ?_
  refine md_callXI (y := yX6_drawnBy) hx hb hml hown hts hK hI hM (met_drawnBy f a c0 (by omega) (hT)) q1499 q1501 qs22 q1502 ndX6_drawnBy rfl (by rw [hRf]; decide) (by rw [hRl]; decide) hl.1 rfl (Nat.le_of_ble_eq_true rfl) dX6_wantsOf_2 (fun H locs f_1 hf_1 hM => ?_)
  have ef_1 : fE f f_1 := fE.rf.tr hf_1
  refine lv_istore (lv' := [(4, .int (drwV a c0)), (0, .ref (h 0)), (1, .int (nI i)), (2, .int (nI c0)), (3, .int (nI 0))]) hx hb dX6_wantsOf_5 hl (by decide) rfl (fun ls hl => ?_)
  refine lv_aload_n hx hb dX6_wantsOf_7 rfl (lv_at hl 1 rfl) ?_
  refine lv_iload_n hx hb dX6_wantsOf_8 rfl (lv_at hl 2 rfl) ?_
  refine lv_iconst (v := nI 1) hx hb dX6_wantsOf_9 (by decide) ?_
  refine md_callI (y := yX6_its) hx hb hml hown hts hK hI hM (met_its f_1 a i 1 (by omega)) q1557 q1559 qs35 q1560 ndX6_its rfl (by rw [hRf]; decide) (by rw [hRl]; decide) hl.1 rfl (Nat.le_of_ble_eq_true rfl) dX6_wantsOf_10 (fun H locs hM => ?_)
  refine lv_istore (lv' := [(5, .int (a 1 (58 + 14 * i + 1))), (4, .int (drwV a c0)), (0, .ref (h 0)), (1, .int (nI i)), (2, .int (nI c0)), (3, .int (nI 0))]) hx hb dX6_wantsOf_13 hl (by decide) rfl (fun ls hl => ?_)
  refine lv_aload_n hx hb dX6_wantsOf_15 rfl (lv_at hl 2 rfl) ?_
  refine lv_iload_n hx hb dX6_wantsOf_16 rfl (lv_at hl 3 rfl) ?_
  refine lv_iload_n hx hb dX6_wantsOf_17 rfl (lv_at hl 4 rfl) ?_
  refine lv_iconst (v := nI 0) hx hb dX6_wantsOf_18 (by decide) ?_
  refine md_callI (y := yX6_inMilk) hx hb hml hown hts hK hI hM (met_inMilk f_1 a i 0 (nI c0) hi hq (by omega)) q1594 q1596 qs42 q1597 ndX6_inMilk rfl (by rw [hRf]; decide) (by rw [hRl]; decide) hl.1 rfl (Nat.le_of_ble_eq_true rfl) dX6_wantsOf_19 (fun H locs hM => ?_)
  refine lv_if_lt (tgt := 29) hx hb dX6_wantsOf_22 (by decide) (fun c_2 => ?_) (fun c_2 => ?_)
  · refine lv_iconst (v := nI 0) hx hb dX6_wantsOf_29 (by decide) ?_
    refine lv_istore (lv' := [(6, .int (nI 0)), (5, .int (a 1 (58 + 14 * i + 1))), (4, .int (drwV a c0)), (0, .ref (h 0)), (1, .int (nI i)), (2, .int (nI c0)), (3, .int (nI 0))]) hx hb dX6_wantsOf_30 hl (by decide) rfl (fun ls hl => ?_)
    refine lv_aload_n hx hb dX6_wantsOf_32 rfl (lv_at hl 3 rfl) ?_
    refine lv_iload_n hx hb dX6_wantsOf_33 rfl (lv_at hl 4 rfl) ?_
    refine lv_iconst (v := nI 0) hx hb dX6_wantsOf_34 (by decide) ?_
    refine md_callI (y := yX6_its) hx hb hml hown hts hK hI hM (met_its f_1 a i 0 (by omega)) q1557 q1559 qs35 q1560 ndX6_its rfl (by rw [hRf]; decide) (by rw [hRl]; decide) hl.1 rfl (Nat.le_of_ble_eq_true rfl) dX6_wantsOf_35 (fun H locs hM => ?_)
    by_cases c_3 : a 1 (58 + 14 * i + 0) = nI 1
    · refine lv_tableIn (off := 38) (tgt := 76) hx hb dX6_wantsOf_38 (by rw [c_3]; decide) (by rw [c_3]; decide) (by rw [c_3]; rfl) (by decide) ?_
      refine lv_iload hx hb dX6_wantsOf_76 (lv_at hl 2 rfl) ?_
      refine lv_bipush (v := nI 10) hx hb dX6_wantsOf_78 (by decide) ?_
      refine lv_aload_n hx hb dX6_wantsOf_80 rfl (lv_at hl 3 rfl) ?_
      refine md_get (v := .ref (h 1)) hx hb hts hown hK hM 0 (by decide) q1390 rfl rfl dX6_wantsOf_81 ?_
      refine lv_bipush (v := nI 8) hx hb dX6_wantsOf_84 (by decide) ?_
      refine lv_iload_n hx hb dX6_wantsOf_86 rfl (lv_at hl 5 rfl) ?_
      refine w_iaddN hx hb dX6_wantsOf_87 ?_
      refine md_iald hx hb hK hM 1 rfl (8 + c0) ⟨by omega, by decide, rfl⟩ dX6_wantsOf_88 ?_
      refine lv_imul hx hb dX6_wantsOf_89 ?_
      refine lv_iadd hx hb dX6_wantsOf_90 ?_
      exact hret ef_1 hM (by show _ = wantV (a 1) i c0 false; unfold wantV; rw [if_pos c_3]; rfl) dX6_wantsOf_91
    · skip
      by_cases c_4 : a 1 (58 + 14 * i + 0) = nI 2
      · refine lv_tableIn (off := 81) (tgt := 119) hx hb dX6_wantsOf_38 (by rw [c_4]; decide) (by rw [c_4]; decide) (by rw [c_4]; rfl) (by decide) ?_
        refine lv_iload hx hb dX6_wantsOf_119 (lv_at hl 0 rfl) ?_
        refine lv_if_eq (tgt := 132) hx hb dX6_wantsOf_121 (by decide) (fun _ => ?_) (fun q => absurd q (by decide))
        refine lv_iload hx hb dX6_wantsOf_132 (lv_at hl 2 rfl) ?_
        exact hret ef_1 hM (by show _ = wantV (a 1) i c0 false; unfold wantV; rw [if_neg c_3, if_pos c_4, if_pos c_2]; rfl) dX6_wantsOf_134
      · skip
        by_cases c_6 : a 1 (58 + 14 * i + 0) = nI 3
        · refine lv_tableIn (off := 118) (tgt := 156) hx hb dX6_wantsOf_38 (by rw [c_6]; decide) (by rw [c_6]; decide) (by rw [c_6]; rfl) (by decide) ?_
          refine lv_iload_n hx hb dX6_wantsOf_156 rfl (lv_at hl 6 rfl) ?_
          refine lv_if_eq (tgt := 168) hx hb dX6_wantsOf_157 (by decide) (fun _ => ?_) (fun q => absurd q (by decide))
          refine lv_iload hx hb dX6_wantsOf_168 (lv_at hl 2 rfl) ?_
          exact hret ef_1 hM (by show _ = wantV (a 1) i c0 false; unfold wantV; rw [if_neg c_3, if_neg c_4, if_pos c_6, if_neg (by decide)]; rfl) dX6_wantsOf_170
        · skip
          by_cases c_8 : a 1 (58 + 14 * i + 0) = nI 4
          · refine lv_tableIn (off := 54) (tgt := 92) hx hb dX6_wantsOf_38 (by rw [c_8]; decide) (by rw [c_8]; decide) (by rw [c_8]; rfl) (by decide) ?_
            refine lv_iload hx hb dX6_wantsOf_92 (lv_at hl 2 rfl) ?_
            refine lv_bipush (v := nI 10) hx hb dX6_wantsOf_94 (by decide) ?_
            refine lv_aload_n hx hb dX6_wantsOf_96 rfl (lv_at hl 3 rfl) ?_
            refine md_get (v := .ref (h 1)) hx hb hts hown hK hM 0 (by decide) q1390 rfl rfl dX6_wantsOf_97 ?_
            refine lv_bipush (v := nI 8) hx hb dX6_wantsOf_100 (by decide) ?_
            refine lv_iload_n hx hb dX6_wantsOf_102 rfl (lv_at hl 5 rfl) ?_
            refine w_iaddN hx hb dX6_wantsOf_103 ?_
            refine md_iald hx hb hK hM 1 rfl (8 + c0) ⟨by omega, by decide, rfl⟩ dX6_wantsOf_104 ?_
            refine lv_imul hx hb dX6_wantsOf_105 ?_
            refine lv_iadd hx hb dX6_wantsOf_106 ?_
            refine lv_iload_n hx hb dX6_wantsOf_107 rfl (lv_at hl 6 rfl) ?_
            refine lv_if_eq (tgt := 116) hx hb dX6_wantsOf_108 (by decide) (fun _ => ?_) (fun q => absurd q (by decide))
            refine lv_iconst (v := nI 0) hx hb dX6_wantsOf_116 (by decide) ?_
            refine lv_isub hx hb dX6_wantsOf_117 ?_
            exact hret ef_1 hM (by show _ = wantV (a 1) i c0 false; unfold wantV; rw [if_neg c_3, if_neg c_4, if_neg c_6, if_pos c_8, if_neg (by decide)]; rfl) dX6_wantsOf_118
          · skip
            by_cases c_10 : a 1 (58 + 14 * i + 0) = nI 5
            · refine lv_tableIn (off := 97) (tgt := 135) hx hb dX6_wantsOf_38 (by rw [c_10]; decide) (by rw [c_10]; decide) (by rw [c_10]; rfl) (by decide) ?_
              refine lv_iload hx hb dX6_wantsOf_135 (lv_at hl 0 rfl) ?_
              refine lv_if_eq (tgt := 148) hx hb dX6_wantsOf_137 (by decide) (fun _ => ?_) (fun q => absurd q (by decide))
              refine lv_iload hx hb dX6_wantsOf_148 (lv_at hl 2 rfl) ?_
              refine lv_iconst (v := nI 5) hx hb dX6_wantsOf_150 (by decide) ?_
              refine lv_iload hx hb dX6_wantsOf_151 (lv_at hl 1 rfl) ?_
              refine lv_imul hx hb dX6_wantsOf_153 ?_
              refine lv_iadd hx hb dX6_wantsOf_154 ?_
              exact hret ef_1 hM (by show _ = wantV (a 1) i c0 false; unfold wantV; rw [if_neg c_3, if_neg c_4, if_neg c_6, if_neg c_8, if_pos c_10, if_pos c_2]; rfl) dX6_wantsOf_155
            · skip
              by_cases c_12 : a 1 (58 + 14 * i + 0) = nI 6
              · refine lv_tableIn (off := 133) (tgt := 171) hx hb dX6_wantsOf_38 (by rw [c_12]; decide) (by rw [c_12]; decide) (by rw [c_12]; rfl) (by decide) ?_
                refine lv_iload hx hb dX6_wantsOf_171 (lv_at hl 2 rfl) ?_
                refine lv_iload_n hx hb dX6_wantsOf_173 rfl (lv_at hl 6 rfl) ?_
                refine lv_if_eq (tgt := 182) hx hb dX6_wantsOf_174 (by decide) (fun _ => ?_) (fun q => absurd q (by decide))
                refine lv_iconst (v := nI 0) hx hb dX6_wantsOf_182 (by decide) ?_
                refine lv_iadd hx hb dX6_wantsOf_183 ?_
                refine lv_iload hx hb dX6_wantsOf_184 (lv_at hl 0 rfl) ?_
                refine lv_if_eq (tgt := 194) hx hb dX6_wantsOf_186 (by decide) (fun _ => ?_) (fun q => absurd q (by decide))
                refine lv_iconst (v := nI 0) hx hb dX6_wantsOf_194 (by decide) ?_
                refine lv_iadd hx hb dX6_wantsOf_195 ?_
                exact hret ef_1 hM (by show _ = wantV (a 1) i c0 false; unfold wantV; rw [if_neg c_3, if_neg c_4, if_neg c_6, if_neg c_8, if_neg c_10, if_pos c_12, if_neg (by decide), if_pos c_2]; rfl) dX6_wantsOf_196
              · skip
                refine lv_tableOut (tgt := 197) hx hb dX6_wantsOf_38 (w_tout 1 6 (by decide) (fun k hk => by rcases (show k = 0 ∨ k = 1 ∨ k = 2 ∨ k = 3 ∨ k = 4 ∨ k = 5 by omega) with rfl | rfl | rfl | rfl | rfl | rfl <;> assumption)) (by decide) ?_
                refine lv_iload hx hb dX6_wantsOf_197 (lv_at hl 2 rfl) ?_
                exact hret ef_1 hM (by show _ = wantV (a 1) i c0 false; unfold wantV; rw [if_neg c_3, if_neg c_4, if_neg c_6, if_neg c_8, if_neg c_10, if_neg c_12]; rfl) dX6_wantsOf_199
  · refine lv_iconst (v := nI 1) hx hb dX6_wantsOf_25 (by decide) ?_
    refine lv_goto (tgt := 30) hx hb dX6_wantsOf_26 (by decide) ?_
    refine lv_istore (lv' := [(6, .int (nI 1)), (5, .int (a 1 (58 + 14 * i + 1))), (4, .int (drwV a c0)), (0, .ref (h 0)), (1, .int (nI i)), (2, .int (nI c0)), (3, .int (nI 0))]) hx hb dX6_wantsOf_30 hl (by decide) rfl (fun ls hl => ?_)
    refine lv_aload_n hx hb dX6_wantsOf_32 rfl (lv_at hl 3 rfl) ?_
    refine lv_iload_n hx hb dX6_wantsOf_33 rfl (lv_at hl 4 rfl) ?_
    refine lv_iconst (v := nI 0) hx hb dX6_wantsOf_34 (by decide) ?_
    refine md_callI (y := yX6_its) hx hb hml hown hts hK hI hM (met_its f_1 a i 0 (by omega)) q1557 q1559 qs35 q1560 ndX6_its rfl (by rw [hRf]; decide) (by rw [hRl]; decide) hl.1 rfl (Nat.le_of_ble_eq_true rfl) dX6_wantsOf_35 (fun H locs hM => ?_)
    by_cases c_15 : a 1 (58 + 14 * i + 0) = nI 1
    · refine lv_tableIn (off := 38) (tgt := 76) hx hb dX6_wantsOf_38 (by rw [c_15]; decide) (by rw [c_15]; decide) (by rw [c_15]; rfl) (by decide) ?_
      refine lv_iload hx hb dX6_wantsOf_76 (lv_at hl 2 rfl) ?_
      refine lv_bipush (v := nI 10) hx hb dX6_wantsOf_78 (by decide) ?_
      refine lv_aload_n hx hb dX6_wantsOf_80 rfl (lv_at hl 3 rfl) ?_
      refine md_get (v := .ref (h 1)) hx hb hts hown hK hM 0 (by decide) q1390 rfl rfl dX6_wantsOf_81 ?_
      refine lv_bipush (v := nI 8) hx hb dX6_wantsOf_84 (by decide) ?_
      refine lv_iload_n hx hb dX6_wantsOf_86 rfl (lv_at hl 5 rfl) ?_
      refine w_iaddN hx hb dX6_wantsOf_87 ?_
      refine md_iald hx hb hK hM 1 rfl (8 + c0) ⟨by omega, by decide, rfl⟩ dX6_wantsOf_88 ?_
      refine lv_imul hx hb dX6_wantsOf_89 ?_
      refine lv_iadd hx hb dX6_wantsOf_90 ?_
      exact hret ef_1 hM (by show _ = wantV (a 1) i c0 false; unfold wantV; rw [if_pos c_15]; rfl) dX6_wantsOf_91
    · skip
      by_cases c_16 : a 1 (58 + 14 * i + 0) = nI 2
      · refine lv_tableIn (off := 81) (tgt := 119) hx hb dX6_wantsOf_38 (by rw [c_16]; decide) (by rw [c_16]; decide) (by rw [c_16]; rfl) (by decide) ?_
        refine lv_iload hx hb dX6_wantsOf_119 (lv_at hl 0 rfl) ?_
        refine lv_if_eq (tgt := 132) hx hb dX6_wantsOf_121 (by decide) (fun q => absurd q (by decide)) (fun _ => ?_)
        refine lv_iload hx hb dX6_wantsOf_124 (lv_at hl 2 rfl) ?_
        refine lv_bipush (v := nI 50) hx hb dX6_wantsOf_126 (by decide) ?_
        refine lv_isub hx hb dX6_wantsOf_128 ?_
        refine lv_goto (tgt := 134) hx hb dX6_wantsOf_129 (by decide) ?_
        exact hret ef_1 hM (by show _ = wantV (a 1) i c0 false; unfold wantV; rw [if_neg c_15, if_pos c_16, if_neg c_2]; rfl) dX6_wantsOf_134
      · skip
        by_cases c_18 : a 1 (58 + 14 * i + 0) = nI 3
        · refine lv_tableIn (off := 118) (tgt := 156) hx hb dX6_wantsOf_38 (by rw [c_18]; decide) (by rw [c_18]; decide) (by rw [c_18]; rfl) (by decide) ?_
          refine lv_iload_n hx hb dX6_wantsOf_156 rfl (lv_at hl 6 rfl) ?_
          refine lv_if_eq (tgt := 168) hx hb dX6_wantsOf_157 (by decide) (fun _ => ?_) (fun q => absurd q (by decide))
          refine lv_iload hx hb dX6_wantsOf_168 (lv_at hl 2 rfl) ?_
          exact hret ef_1 hM (by show _ = wantV (a 1) i c0 false; unfold wantV; rw [if_neg c_15, if_neg c_16, if_pos c_18, if_neg (by decide)]; rfl) dX6_wantsOf_170
        · skip
          by_cases c_20 : a 1 (58 + 14 * i + 0) = nI 4
          · refine lv_tableIn (off := 54) (tgt := 92) hx hb dX6_wantsOf_38 (by rw [c_20]; decide) (by rw [c_20]; decide) (by rw [c_20]; rfl) (by decide) ?_
            refine lv_iload hx hb dX6_wantsOf_92 (lv_at hl 2 rfl) ?_
            refine lv_bipush (v := nI 10) hx hb dX6_wantsOf_94 (by decide) ?_
            refine lv_aload_n hx hb dX6_wantsOf_96 rfl (lv_at hl 3 rfl) ?_
            refine md_get (v := .ref (h 1)) hx hb hts hown hK hM 0 (by decide) q1390 rfl rfl dX6_wantsOf_97 ?_
            refine lv_bipush (v := nI 8) hx hb dX6_wantsOf_100 (by decide) ?_
            refine lv_iload_n hx hb dX6_wantsOf_102 rfl (lv_at hl 5 rfl) ?_
            refine w_iaddN hx hb dX6_wantsOf_103 ?_
            refine md_iald hx hb hK hM 1 rfl (8 + c0) ⟨by omega, by decide, rfl⟩ dX6_wantsOf_104 ?_
            refine lv_imul hx hb dX6_wantsOf_105 ?_
            refine lv_iadd hx hb dX6_wantsOf_106 ?_
            refine lv_iload_n hx hb dX6_wantsOf_107 rfl (lv_at hl 6 rfl) ?_
            refine lv_if_eq (tgt := 116) hx hb dX6_wantsOf_108 (by decide) (fun _ => ?_) (fun q => absurd q (by decide))
            refine lv_iconst (v := nI 0) hx hb dX6_wantsOf_116 (by decide) ?_
            refine lv_isub hx hb dX6_wantsOf_117 ?_
            exact hret ef_1 hM (by show _ = wantV (a 1) i c0 false; unfold wantV; rw [if_neg c_15, if_neg c_16, if_neg c_18, if_pos c_20, if_neg (by decide)]; rfl) dX6_wantsOf_118
          · skip
            by_cases c_22 : a 1 (58 + 14 * i + 0) = nI 5
            · refine lv_tableIn (off := 97) (tgt := 135) hx hb dX6_wantsOf_38 (by rw [c_22]; decide) (by rw [c_22]; decide) (by rw [c_22]; rfl) (by decide) ?_
              refine lv_iload hx hb dX6_wantsOf_135 (lv_at hl 0 rfl) ?_
              refine lv_if_eq (tgt := 148) hx hb dX6_wantsOf_137 (by decide) (fun q => absurd q (by decide)) (fun _ => ?_)
              refine lv_iload hx hb dX6_wantsOf_140 (lv_at hl 2 rfl) ?_
              refine lv_bipush (v := nI 50) hx hb dX6_wantsOf_142 (by decide) ?_
              refine lv_isub hx hb dX6_wantsOf_144 ?_
              refine lv_goto (tgt := 155) hx hb dX6_wantsOf_145 (by decide) ?_
              exact hret ef_1 hM (by show _ = wantV (a 1) i c0 false; unfold wantV; rw [if_neg c_15, if_neg c_16, if_neg c_18, if_neg c_20, if_pos c_22, if_neg c_2]; rfl) dX6_wantsOf_155
            · skip
              by_cases c_24 : a 1 (58 + 14 * i + 0) = nI 6
              · refine lv_tableIn (off := 133) (tgt := 171) hx hb dX6_wantsOf_38 (by rw [c_24]; decide) (by rw [c_24]; decide) (by rw [c_24]; rfl) (by decide) ?_
                refine lv_iload hx hb dX6_wantsOf_171 (lv_at hl 2 rfl) ?_
                refine lv_iload_n hx hb dX6_wantsOf_173 rfl (lv_at hl 6 rfl) ?_
                refine lv_if_eq (tgt := 182) hx hb dX6_wantsOf_174 (by decide) (fun _ => ?_) (fun q => absurd q (by decide))
                refine lv_iconst (v := nI 0) hx hb dX6_wantsOf_182 (by decide) ?_
                refine lv_iadd hx hb dX6_wantsOf_183 ?_
                refine lv_iload hx hb dX6_wantsOf_184 (lv_at hl 0 rfl) ?_
                refine lv_if_eq (tgt := 194) hx hb dX6_wantsOf_186 (by decide) (fun q => absurd q (by decide)) (fun _ => ?_)
                refine lv_bipush (v := nI 20) hx hb dX6_wantsOf_189 (by decide) ?_
                refine lv_goto (tgt := 195) hx hb dX6_wantsOf_191 (by decide) ?_
                refine lv_iadd hx hb dX6_wantsOf_195 ?_
                exact hret ef_1 hM (by show _ = wantV (a 1) i c0 false; unfold wantV; rw [if_neg c_15, if_neg c_16, if_neg c_18, if_neg c_20, if_neg c_22, if_pos c_24, if_neg (by decide), if_neg c_2]; rfl) dX6_wantsOf_196
              · skip
                refine lv_tableOut (tgt := 197) hx hb dX6_wantsOf_38 (w_tout 1 6 (by decide) (fun k hk => by rcases (show k = 0 ∨ k = 1 ∨ k = 2 ∨ k = 3 ∨ k = 4 ∨ k = 5 by omega) with rfl | rfl | rfl | rfl | rfl | rfl <;> assumption)) (by decide) ?_
                refine lv_iload hx hb dX6_wantsOf_197 (lv_at hl 2 rfl) ?_
                exact hret ef_1 hM (by show _ = wantV (a 1) i c0 false; unfold wantV; rw [if_neg c_15, if_neg c_16, if_neg c_18, if_neg c_20, if_neg c_22, if_neg c_24]; rfl) dX6_wantsOf_199
/-- the best way, and how much it is wanted, among the first n -/
def wayS (r : Nat → Int32) (i t : Nat) : Nat → Nat × Int32
  | 0 => (0, wantV r i t true)
  | n + 1 => match nxt t (n + 1) with
    | none => wayS r i t n
    | some c => if (wayS r i t n).2 < wantV r i c false then (n + 1, wantV r i c false) else wayS r i t n
theorem wayS_ok (r : Nat → Int32) (i t : Nat) : ∀ n, (wayS r i t n).1 ≤ n ∧ ∃ c, nxt t (wayS r i t n).1 = some c := by
  intro n
  induction n with
  | zero => exact ⟨Nat.le_refl _, t, by simp [wayS, nxt]⟩
  | succ n ih =>
    unfold wayS
    cases h : nxt t (n + 1) with
    | none => exact ⟨by have := ih.1; dsimp only; omega, ih.2⟩
    | some c =>
      dsimp only
      split
      · exact ⟨Nat.le_refl _, c, h⟩
      · exact ⟨by have := ih.1; omega, ih.2⟩
theorem oI_neg {o : Option Nat} (h : ¬ 0 ≤ oI o) (hb : ∀ k, o = some k → k < 2 ^ 31) : o = none := by
  cases o with
  | none => rfl
  | some k => exact absurd (nI_pos' (hb k rfl)) h
theorem oI_pos {o : Option Nat} (h : 0 ≤ oI o) : ∃ k, o = some k ∧ oI o = nI k := by
  cases o with
  | none => exact absurd h (by decide)
  | some k => exact ⟨k, rfl, rfl⟩
theorem wayS_le {r : Nat → Int32} {i t n : Nat} (h : nxt t (n + 1) = none ∨ ∃ c, nxt t (n + 1) = some c ∧ wantV r i c false ≤ (wayS r i t n).2) : wayS r i t (n + 1) = wayS r i t n := by
  rw [wayS]
  rcases h with h | ⟨c, h, h2⟩
  · rw [h]
  · rw [h]; exact if_neg (Int32.not_lt.mpr h2)
theorem wayS_gt {r : Nat → Int32} {i t n c : Nat} (h : nxt t (n + 1) = some c) (h2 : ¬ wantV r i c false ≤ (wayS r i t n).2) : wayS r i t (n + 1) = (n + 1, wantV r i c false) := by
  rw [wayS, h]; exact if_pos (Int32.not_le.mp h2)
theorem wayS_gt7 {r : Nat → Int32} {i t n : Nat} {v : Int32} (h : (nxt t (n + 1) = none ∧ v = (wayS r i t n).2) ∨ ∃ c, nxt t (n + 1) = some c ∧ v = wantV r i c false) (h2 : ¬ v ≤ (wayS r i t n).2) : wayS r i t (n + 1) = (n + 1, v) := by
  rcases h with ⟨_, h⟩ | ⟨c, h, hv⟩
  · subst h; exact absurd (Int32.le_refl _) h2
  · subst hv; exact wayS_gt h h2
theorem wayS_le7 {r : Nat → Int32} {i t n : Nat} {v : Int32} (h : (nxt t (n + 1) = none ∧ v = (wayS r i t n).2) ∨ ∃ c, nxt t (n + 1) = some c ∧ v = wantV r i c false) (h2 : v ≤ (wayS r i t n).2) : wayS r i t (n + 1) = wayS r i t n := by
  rcases h with ⟨h, _⟩ | ⟨c, h, hv⟩
  · exact wayS_le (Or.inl h)
  · subst hv; exact wayS_le (Or.inr ⟨c, h, h2⟩)
theorem ndX6_wayFrom : yX6_wayFrom.cls = RX6 ∧ yX6_wayFrom.cls ≠ "java/lang/invoke/MethodHandle" ∧ yX6_wayFrom.cls ≠ "java/lang/invoke/VarHandle" ∧ (parseMethodDescriptor yX6_wayFrom.desc).map (fun d => d.parameters.length) = some 2 := by decide +kernel
set_option maxHeartbeats 400000 in
theorem met_wayFrom (f : Nat → Int32) (a : Nat → Nat → Int32) (i t0 : Nat) (hi : i < 5) (ht : t0 < 25) (hT : okT (a 1)) (hq : okN (a 1 (58 + 14 * i + 3)) 10) : MdX yX6_wayFrom cX6_wayFrom 8 (some .int) 43 1090 [.int (nI i), .int (nI t0)] f a (some (.int (nI (wayS (a 1) i t0 4).1))) a := by
  refine MdX.ofI (by decide) rfl (Nat.le_of_ble_eq_true rfl) ?_
  intro p l e R s m args below meth c Q D h dA ls hx hb hml hRf hRl hts hown hK hI hM hl hret
  have hl : lv_has ls 8 [(0, .ref (h 0)), (1, .int (nI i)), (2, .int (nI t0))] := hl
  refine lv_iconst (v := nI 0) hx hb dX6_wayFrom_0 (by decide) ?_
  refine lv_istore_n (lv' := [(3, .int (nI 0)), (0, .ref (h 0)), (1, .int (nI i)), (2, .int (nI t0))]) hx hb dX6_wayFrom_1 rfl hl (by decide) rfl (fun ls hl => ?_)
  refine lv_aload_n hx hb dX6_wayFrom_2 rfl (lv_at hl 1 rfl) ?_
  refine lv_iload_n hx hb dX6_wayFrom_3 rfl (lv_at hl 2 rfl) ?_
  refine lv_iload_n hx hb dX6_wayFrom_4 rfl (lv_at hl 3 rfl) ?_
  refine lv_iconst (v := nI 1) hx hb dX6_wayFrom_5 (by decide) ?_
  refine md_callXI (y := yX6_wantsOf) hx hb hml hown hts hK hI hM (met_wantsOf1 f a i t0 hi ht hT hq) q1590 q1592 qs41 q1593 ndX6_wantsOf rfl (by rw [hRf]; decide) (by rw [hRl]; decide) hl.1 rfl (Nat.le_of_ble_eq_true rfl) dX6_wayFrom_6 (fun H locs f_1 hf_1 hM => ?_)
  have ef_1 : fE f f_1 := fE.rf.tr hf_1
  refine lv_istore (lv' := [(4, .int (wantV (a 1) i t0 true)), (3, .int (nI 0)), (0, .ref (h 0)), (1, .int (nI i)), (2, .int (nI t0))]) hx hb dX6_wayFrom_9 hl (by decide) rfl (fun ls hl => ?_)
  refine lv_iconst (v := nI 1) hx hb dX6_wayFrom_11 (by decide) ?_
  refine lv_istore (lv' := [(5, .int (nI 1)), (4, .int (wantV (a 1) i t0 true)), (3, .int (nI 0)), (0, .ref (h 0)), (1, .int (nI i)), (2, .int (nI t0))]) hx hb dX6_wayFrom_12 hl (by decide) rfl (fun ls hl => ?_)
  have loop14 : ∀ (fu : Nat) (k : Nat), (k ≤ 4) → (4 < k + fu) → ∀ (f1 : Nat → Int32), fE f f1 → ∀ (H : Heap) (locs : List Loc), mdH D h dA s.heap H locs f1 a → ∀ (ls : Array Slot), lv_has ls 8 [(5, .int (nI (k + 1))), (4, .int ((wayS (a 1) i t0 k).2)), (3, .int (nI ((wayS (a 1) i t0 k).1))), (0, .ref (h 0)), (1, .int (nI i)), (2, .int (nI t0))] → W p l e R s m args below meth c H locs 0 0 Q (F0 m 14 ls []) := by
    intro fu
    induction fu with
    | zero =>
      intro k hk hn
      omega
    | succ fu ih14 =>
      intro k hk hn f14 he14 H locs hM ls hl
      refine lv_iload hx hb dX6_wayFrom_14 (lv_at hl 0 rfl) ?_
      refine lv_iconst (v := nI 5) hx hb dX6_wayFrom_16 (by decide) ?_
      refine w_icmp_geN (tgt := 84) hx hb (by omega) (by omega) dX6_wayFrom_17 (by decide) (fun c_2 => ?_) (fun c_2 => ?_)
      · refine lv_iload_n hx hb dX6_wayFrom_84 rfl (lv_at hl 2 rfl) ?_
        exact hret he14 hM (by rw [show k = 4 by omega]) dX6_wayFrom_85
      · refine lv_iload_n hx hb dX6_wayFrom_20 rfl (lv_at hl 5 rfl) ?_
        refine lv_iload hx hb dX6_wayFrom_21 (lv_at hl 0 rfl) ?_
        refine st_callI (y := yX6_beside) hx hb hml hown hts (met_beside t0 (k + 1) ht (by omega)) q1598 q1599 q70 q1600 ndX6_beside rfl (by rw [hRf]; decide) (by rw [hRl]; decide) ⟨Nat.zero_le _, Nat.zero_le _⟩ hl.1 rfl (Nat.le_of_ble_eq_true rfl) dX6_wayFrom_23 ?_
        refine lv_istore (lv' := [(6, .int (oI (nxt t0 (k + 1)))), (5, .int (nI (k + 1))), (4, .int ((wayS (a 1) i t0 k).2)), (3, .int (nI ((wayS (a 1) i t0 k).1))), (0, .ref (h 0)), (1, .int (nI i)), (2, .int (nI t0))]) hx hb dX6_wayFrom_26 hl (by decide) rfl (fun ls hl => ?_)
        refine lv_iload hx hb dX6_wayFrom_28 (lv_at hl 0 rfl) ?_
        have j46 : ∀ (v7 : Int32), ((nxt t0 (k + 1) = none ∧ v7 = (wayS (a 1) i t0 k).2) ∨ ∃ c9, nxt t0 (k + 1) = some c9 ∧ v7 = wantV (a 1) i c9 false) → ∀ (f1 : Nat → Int32), fE f f1 → ∀ (H : Heap) (locs : List Loc), mdH D h dA s.heap H locs f1 a → ∀ (ls : Array Slot), lv_has ls 8 [(5, .int (nI (k + 1))), (4, .int ((wayS (a 1) i t0 k).2)), (3, .int (nI ((wayS (a 1) i t0 k).1))), (0, .ref (h 0)), (1, .int (nI i)), (2, .int (nI t0))] → W p l e R s m args below meth c H locs 0 0 Q (F0 m 46 ls [.int v7]) := by
          intro v7 h7 fj46 hj46 H locs hM ls hl
          refine lv_istore (lv' := [(7, .int v7), (5, .int (nI (k + 1))), (4, .int ((wayS (a 1) i t0 k).2)), (3, .int (nI ((wayS (a 1) i t0 k).1))), (0, .ref (h 0)), (1, .int (nI i)), (2, .int (nI t0))]) hx hb dX6_wayFrom_46 hl (by decide) rfl (fun ls hl => ?_)
          refine lv_iload hx hb dX6_wayFrom_48 (lv_at hl 0 rfl) ?_
          refine lv_iload hx hb dX6_wayFrom_50 (lv_at hl 2 rfl) ?_
          refine lv_icmp_le (tgt := 60) hx hb dX6_wayFrom_52 (by decide) (fun c_3 => ?_) (fun c_3 => ?_)
          · refine lv_iload_n hx hb dX6_wayFrom_60 rfl (lv_at hl 3 rfl) ?_
            have hw : wayS (a 1) i t0 (k + 1) = wayS (a 1) i t0 k := wayS_le7 h7 c_3
            refine w_top (nI (wayS (a 1) i t0 (k + 1)).1) (by rw [hw]) ?_
            refine lv_istore_n (lv' := [(3, .int (nI ((wayS (a 1) i t0 (k + 1)).1))), (7, .int v7), (5, .int (nI (k + 1))), (4, .int ((wayS (a 1) i t0 k).2)), (0, .ref (h 0)), (1, .int (nI i)), (2, .int (nI t0))]) hx hb dX6_wayFrom_61 rfl hl (by decide) rfl (fun ls hl => ?_)
            refine lv_iload hx hb dX6_wayFrom_62 (lv_at hl 1 rfl) ?_
            refine lv_iload hx hb dX6_wayFrom_64 (lv_at hl 3 rfl) ?_
            refine lv_icmp_le (tgt := 74) hx hb dX6_wayFrom_66 (by decide) (fun c_4 => ?_) (fun c_4 => ?_)
            · refine lv_iload hx hb dX6_wayFrom_74 (lv_at hl 3 rfl) ?_
              refine w_top (wayS (a 1) i t0 (k + 1)).2 (by rw [hw]) ?_
              refine lv_istore (lv' := [(4, .int ((wayS (a 1) i t0 (k + 1)).2)), (3, .int (nI ((wayS (a 1) i t0 (k + 1)).1))), (7, .int v7), (5, .int (nI (k + 1))), (0, .ref (h 0)), (1, .int (nI i)), (2, .int (nI t0))]) hx hb dX6_wayFrom_76 hl (by decide) rfl (fun ls hl => ?_)
              refine lv_iinc (v := nI (k + 1 + 1)) (lv' := [(5, .int (nI (k + 1 + 1))), (4, .int ((wayS (a 1) i t0 (k + 1)).2)), (3, .int (nI ((wayS (a 1) i t0 (k + 1)).1))), (7, .int v7), (0, .ref (h 0)), (1, .int (nI i)), (2, .int (nI t0))]) hx hb dX6_wayFrom_78 hl (k := 3) rfl (by rw [show Int32.ofInt 1 = nI 1 from by decide]; exact nI_add _ _) (by decide) rfl (fun ls hl => ?_)
              refine lv_goto (tgt := 14) hx hb dX6_wayFrom_81 (by decide) ?_
              exact ih14 (k + 1) (by omega) (by omega) _ hj46 _ _ hM ls (lv_sub hl [0, 1, 2, 4, 5, 6] rfl)
            · exact absurd c_3 c_4
          · refine lv_iload hx hb dX6_wayFrom_55 (lv_at hl 1 rfl) ?_
            refine lv_goto (tgt := 61) hx hb dX6_wayFrom_57 (by decide) ?_
            have hw : wayS (a 1) i t0 (k + 1) = (k + 1, v7) := wayS_gt7 h7 c_3
            refine w_top (nI (wayS (a 1) i t0 (k + 1)).1) (by rw [hw]) ?_
            refine lv_istore_n (lv' := [(3, .int (nI ((wayS (a 1) i t0 (k + 1)).1))), (7, .int v7), (5, .int (nI (k + 1))), (4, .int ((wayS (a 1) i t0 k).2)), (0, .ref (h 0)), (1, .int (nI i)), (2, .int (nI t0))]) hx hb dX6_wayFrom_61 rfl hl (by decide) rfl (fun ls hl => ?_)
            refine lv_iload hx hb dX6_wayFrom_62 (lv_at hl 1 rfl) ?_
            refine lv_iload hx hb dX6_wayFrom_64 (lv_at hl 3 rfl) ?_
            refine lv_icmp_le (tgt := 74) hx hb dX6_wayFrom_66 (by decide) (fun c_5 => ?_) (fun c_5 => ?_)
            · exact absurd c_5 c_3
            · refine lv_iload hx hb dX6_wayFrom_69 (lv_at hl 1 rfl) ?_
              refine lv_goto (tgt := 76) hx hb dX6_wayFrom_71 (by decide) ?_
              refine w_top (wayS (a 1) i t0 (k + 1)).2 (by rw [hw]) ?_
              refine lv_istore (lv' := [(4, .int ((wayS (a 1) i t0 (k + 1)).2)), (3, .int (nI ((wayS (a 1) i t0 (k + 1)).1))), (7, .int v7), (5, .int (nI (k + 1))), (0, .ref (h 0)), (1, .int (nI i)), (2, .int (nI t0))]) hx hb dX6_wayFrom_76 hl (by decide) rfl (fun ls hl => ?_)
              refine lv_iinc (v := nI (k + 1 + 1)) (lv' := [(5, .int (nI (k + 1 + 1))), (4, .int ((wayS (a 1) i t0 (k + 1)).2)), (3, .int (nI ((wayS (a 1) i t0 (k + 1)).1))), (7, .int v7), (0, .ref (h 0)), (1, .int (nI i)), (2, .int (nI t0))]) hx hb dX6_wayFrom_78 hl (k := 3) rfl (by rw [show Int32.ofInt 1 = nI 1 from by decide]; exact nI_add _ _) (by decide) rfl (fun ls hl => ?_)
              refine lv_goto (tgt := 14) hx hb dX6_wayFrom_81 (by decide) ?_
              exact ih14 (k + 1) (by omega) (by omega) _ hj46 _ _ hM ls (lv_sub hl [0, 1, 2, 4, 5, 6] rfl)
        refine lv_if_ge (tgt := 38) hx hb dX6_wayFrom_30 (by decide) (fun c_6 => ?_) (fun c_6 => ?_)
        · obtain ⟨c9, hc9, ho9⟩ := oI_pos c_6
          have hc9b := nxt_lt ht hc9
          refine lv_aload_n hx hb dX6_wayFrom_38 rfl (lv_at hl 4 rfl) ?_
          refine lv_iload_n hx hb dX6_wayFrom_39 rfl (lv_at hl 5 rfl) ?_
          refine lv_iload hx hb dX6_wayFrom_40 (lv_at hl 0 rfl) ?_
          refine w_top (nI c9) (ho9) ?_
          refine lv_iconst (v := nI 0) hx hb dX6_wayFrom_42 (by decide) ?_
          refine md_callXI (y := yX6_wantsOf) hx hb hml hown hts hK hI hM (met_wantsOf0 f14 a i c9 hi hc9b hT hq) q1590 q1592 qs41 q1593 ndX6_wantsOf rfl (by rw [hRf]; decide) (by rw [hRl]; decide) hl.1 rfl (Nat.le_of_ble_eq_true rfl) dX6_wayFrom_43 (fun H locs f_7 hf_7 hM => ?_)
          have ef_7 : fE f f_7 := he14.tr hf_7
          exact j46 (wantV (a 1) i c9 false) (Or.inr ⟨c9, hc9, rfl⟩) _ ef_7 _ _ hM ls (lv_sub hl [1, 2, 3, 4, 5, 6] rfl)
        · refine lv_iload hx hb dX6_wayFrom_33 (lv_at hl 2 rfl) ?_
          refine lv_goto (tgt := 46) hx hb dX6_wayFrom_35 (by decide) ?_
          exact j46 ((wayS (a 1) i t0 k).2) (Or.inl ⟨oI_neg c_6 (fun z hz => by have := nxt_lt ht hz; omega), rfl⟩) _ he14 _ _ hM ls (lv_sub hl [1, 2, 3, 4, 5, 6] rfl)
  exact loop14 5 0 (by omega) (by omega) _ ef_1 _ _ hM ls (lv_sub hl [0, 1, 2, 3, 4, 5] rfl)
