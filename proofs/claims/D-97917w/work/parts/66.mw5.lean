/-! the meadow: tastes (printed by comp7.py) -/
set_option maxRecDepth 100000
def bc1 (x : Int32) : Int32 := x - (((x).toUInt32 >>> ((nI 1).toUInt32 &&& Int32.toUInt32 31)).toInt32 &&& nI 1431655765)
def bc2 (x : Int32) : Int32 := (x &&& nI 858993459) + (((x).toUInt32 >>> ((nI 2).toUInt32 &&& Int32.toUInt32 31)).toInt32 &&& nI 858993459)
def bc3 (x : Int32) : Int32 := (x + ((x).toUInt32 >>> ((nI 4).toUInt32 &&& Int32.toUInt32 31)).toInt32) &&& nI 252645135
def bc4 (x : Int32) : Int32 := x + ((x).toUInt32 >>> ((nI 8).toUInt32 &&& Int32.toUInt32 31)).toInt32
def bc5 (x : Int32) : Int32 := x + ((x).toUInt32 >>> ((nI 16).toUInt32 &&& Int32.toUInt32 31)).toInt32
theorem bc_ok : ∀ g, g < 32 → bc5 (bc4 (bc3 (bc2 (bc1 (nI g))))) &&& nI 63 = cowS (nI g) 5 := by decide +kernel
set_option maxHeartbeats 400000 in
theorem cmJ9_bitCount (g : Nat) (hg : g < 32) : StF yJ9_bitCount cJ9_bitCount 1 (some .int) 0 0 [.int (nI g)] (some (.int (cowS (nI g) 5))) := by
  refine StF.ofI (by decide) (own := RJ9) rfl (Nat.le_of_ble_eq_true rfl) ?_
  intro p l e R s m args below meth c Q H locs ls hx hb hml hRf hRl hts hown hl hret
  have hl : lv_has ls 1 [(0, .int (nI g))] := hl
  refine lv_iload_n hx hb dJ9_bitCount_0 rfl (lv_at hl 0 rfl) ?_
  refine lv_iload_n hx hb dJ9_bitCount_1 rfl (lv_at hl 0 rfl) ?_
  refine lv_iconst (v := nI 1) hx hb dJ9_bitCount_2 (by decide) ?_
  refine lv_iushr (v := ((nI g).toUInt32 >>> ((nI 1).toUInt32 &&& Int32.toUInt32 31)).toInt32) hx hb dJ9_bitCount_3 rfl ?_
  refine lv_ldcw hx hb hown (hts _ q967) dJ9_bitCount_4 ?_
  refine w_top (nI 1431655765) (by decide) ?_
  refine lv_iand hx hb dJ9_bitCount_7 ?_
  refine lv_isub hx hb dJ9_bitCount_8 ?_
  refine w_top (bc1 (nI g)) (rfl) ?_
  refine lv_istore_n (lv' := [(0, .int (bc1 (nI g)))]) hx hb dJ9_bitCount_9 rfl hl (by decide) rfl (fun ls hl => ?_)
  refine lv_iload_n hx hb dJ9_bitCount_10 rfl (lv_at hl 0 rfl) ?_
  refine lv_ldcw hx hb hown (hts _ q968) dJ9_bitCount_11 ?_
  refine w_top (nI 858993459) (by decide) ?_
  refine lv_iand hx hb dJ9_bitCount_14 ?_
  refine lv_iload_n hx hb dJ9_bitCount_15 rfl (lv_at hl 0 rfl) ?_
  refine lv_iconst (v := nI 2) hx hb dJ9_bitCount_16 (by decide) ?_
  refine lv_iushr (v := ((bc1 (nI g)).toUInt32 >>> ((nI 2).toUInt32 &&& Int32.toUInt32 31)).toInt32) hx hb dJ9_bitCount_17 rfl ?_
  refine lv_ldcw hx hb hown (hts _ q968) dJ9_bitCount_18 ?_
  refine w_top (nI 858993459) (by decide) ?_
  refine lv_iand hx hb dJ9_bitCount_21 ?_
  refine lv_iadd hx hb dJ9_bitCount_22 ?_
  refine w_top (bc2 (bc1 (nI g))) (rfl) ?_
  refine lv_istore_n (lv' := [(0, .int (bc2 (bc1 (nI g))))]) hx hb dJ9_bitCount_23 rfl hl (by decide) rfl (fun ls hl => ?_)
  refine lv_iload_n hx hb dJ9_bitCount_24 rfl (lv_at hl 0 rfl) ?_
  refine lv_iload_n hx hb dJ9_bitCount_25 rfl (lv_at hl 0 rfl) ?_
  refine lv_iconst (v := nI 4) hx hb dJ9_bitCount_26 (by decide) ?_
  refine lv_iushr (v := ((bc2 (bc1 (nI g))).toUInt32 >>> ((nI 4).toUInt32 &&& Int32.toUInt32 31)).toInt32) hx hb dJ9_bitCount_27 rfl ?_
  refine lv_iadd hx hb dJ9_bitCount_28 ?_
  refine lv_ldcw hx hb hown (hts _ q969) dJ9_bitCount_29 ?_
  refine w_top (nI 252645135) (by decide) ?_
  refine lv_iand hx hb dJ9_bitCount_32 ?_
  refine w_top (bc3 (bc2 (bc1 (nI g)))) (rfl) ?_
  refine lv_istore_n (lv' := [(0, .int (bc3 (bc2 (bc1 (nI g)))))]) hx hb dJ9_bitCount_33 rfl hl (by decide) rfl (fun ls hl => ?_)
  refine lv_iload_n hx hb dJ9_bitCount_34 rfl (lv_at hl 0 rfl) ?_
  refine lv_iload_n hx hb dJ9_bitCount_35 rfl (lv_at hl 0 rfl) ?_
  refine lv_bipush (v := nI 8) hx hb dJ9_bitCount_36 (by decide) ?_
  refine lv_iushr (v := ((bc3 (bc2 (bc1 (nI g)))).toUInt32 >>> ((nI 8).toUInt32 &&& Int32.toUInt32 31)).toInt32) hx hb dJ9_bitCount_38 rfl ?_
  refine lv_iadd hx hb dJ9_bitCount_39 ?_
  refine w_top (bc4 (bc3 (bc2 (bc1 (nI g))))) (rfl) ?_
  refine lv_istore_n (lv' := [(0, .int (bc4 (bc3 (bc2 (bc1 (nI g))))))]) hx hb dJ9_bitCount_40 rfl hl (by decide) rfl (fun ls hl => ?_)
  refine lv_iload_n hx hb dJ9_bitCount_41 rfl (lv_at hl 0 rfl) ?_
  refine lv_iload_n hx hb dJ9_bitCount_42 rfl (lv_at hl 0 rfl) ?_
  refine lv_bipush (v := nI 16) hx hb dJ9_bitCount_43 (by decide) ?_
  refine lv_iushr (v := ((bc4 (bc3 (bc2 (bc1 (nI g))))).toUInt32 >>> ((nI 16).toUInt32 &&& Int32.toUInt32 31)).toInt32) hx hb dJ9_bitCount_45 rfl ?_
  refine lv_iadd hx hb dJ9_bitCount_46 ?_
  refine w_top (bc5 (bc4 (bc3 (bc2 (bc1 (nI g)))))) (rfl) ?_
  refine lv_istore_n (lv' := [(0, .int (bc5 (bc4 (bc3 (bc2 (bc1 (nI g)))))))]) hx hb dJ9_bitCount_47 rfl hl (by decide) rfl (fun ls hl => ?_)
  refine lv_iload_n hx hb dJ9_bitCount_48 rfl (lv_at hl 0 rfl) ?_
  refine lv_bipush (v := nI 63) hx hb dJ9_bitCount_49 (by decide) ?_
  refine lv_iand hx hb dJ9_bitCount_51 ?_
  exact hret (bc_ok g hg) dJ9_bitCount_52
theorem ndJ9_bitCount : yJ9_bitCount.cls ≠ "java/lang/invoke/MethodHandle" ∧ yJ9_bitCount.cls ≠ "java/lang/invoke/VarHandle" ∧ (parseMethodDescriptor yJ9_bitCount.desc).map (fun d => d.parameters.length) = some 1 := by decide +kernel
theorem ndX0_hasBit : yX0_hasBit.cls ≠ "java/lang/invoke/MethodHandle" ∧ yX0_hasBit.cls ≠ "java/lang/invoke/VarHandle" ∧ (parseMethodDescriptor yX0_hasBit.desc).map (fun d => d.parameters.length) = some 2 := by decide +kernel
theorem ndX2_tasteBy : yX2_tasteBy.cls = RX2 ∧ yX2_tasteBy.cls ≠ "java/lang/invoke/MethodHandle" ∧ yX2_tasteBy.cls ≠ "java/lang/invoke/VarHandle" ∧ (parseMethodDescriptor yX2_tasteBy.desc).map (fun d => d.parameters.length) = some 3 := by decide +kernel

set_option maxHeartbeats 400000 in
theorem mw_taste (r : Nat → Int32) (hR : okR r) (g : Nat) (hg : g < 32) (c0 : Nat) (hc : c0 < 25) : MwF yX2_taste cX2_taste 7 (some .int) 63 1444 [.int (nI g), .int (nI c0)] r (some (.int (tasR r (nI g) c0))) r := by
  refine MwF.ofI (by decide) rfl (Nat.le_of_ble_eq_true rfl) ?_
  intro p l e R s m args below meth c Q D dA h cw tx nm tr ls hx hb hml hRf hRl hRc hRs hts hown hK hI hQ hM hl hret
  have hl : lv_has ls 7 [(0, .ref (h 0)), (1, .int (nI g)), (2, .int (nI c0))] := hl
  have hN3 := hR.2.1
  have hN := hN3.2
  refine lv_iload_n hx hb dX2_taste_0 rfl (lv_at hl 1 rfl) ?_
  refine st_callS (y := yJ9_bitCount) hx hb hml hown hts (cmJ9_bitCount g (by omega)) q964 q965 q91 q966 ndJ9_bitCount rfl (by rw [hRf]; decide) (by rw [hRl]; decide) (Nat.zero_le _) (Nat.zero_le _) hl.1 rfl (Nat.le_of_ble_eq_true rfl) dX2_taste_1 ?_
  refine lv_istore_n (lv' := [(3, .int (cowS (nI g) 5)), (0, .ref (h 0)), (1, .int (nI g)), (2, .int (nI c0))]) hx hb dX2_taste_4 rfl hl (by decide) rfl (fun ls hl => ?_)
  refine lv_iconst (v := nI 0) hx hb dX2_taste_5 (by decide) ?_
  refine lv_istore (lv' := [(4, .int (nI 0)), (3, .int (cowS (nI g) 5)), (0, .ref (h 0)), (1, .int (nI g)), (2, .int (nI c0))]) hx hb dX2_taste_6 hl (by decide) rfl (fun ls hl => ?_)
  refine lv_iconst (v := nI 0) hx hb dX2_taste_8 (by decide) ?_
  refine lv_istore (lv' := [(5, .int (nI 0)), (4, .int (nI 0)), (3, .int (cowS (nI g) 5)), (0, .ref (h 0)), (1, .int (nI g)), (2, .int (nI c0))]) hx hb dX2_taste_9 hl (by decide) rfl (fun ls hl => ?_)
  have loop11 : ∀ (fu : Nat) (w : Nat), (w ≤ cl (r 3)) → (cl (r 3) < w + fu) → ∀ (nm : Nat → Int32) (H : Heap) (locs : List Loc), mwH D h dA s.heap H locs r cw tx nm → ∀ (ls : Array Slot), lv_has ls 7 [(5, .int (nI w)), (4, .int (tasW r (nI g) c0 w)), (3, .int (cowS (nI g) 5)), (0, .ref (h 0)), (1, .int (nI g)), (2, .int (nI c0))] → W p l e R s m args below meth c H locs 0 0 Q (F0 m 11 ls []) := by
    intro fu
    induction fu with
    | zero =>
      intro w hw hf
      omega
    | succ fu ih11 =>
      intro w hw hf nm H locs hM ls hl
      refine lv_iload hx hb dX2_taste_11 (lv_at hl 0 rfl) ?_
      refine lv_aload_n hx hb dX2_taste_13 rfl (lv_at hl 3 rfl) ?_
      refine c_get (v := .int (r 3)) hx hb hts in_X2 hown hK (hM.1 0 _ rfl) rfl 3 (by decide) q203 rfl rfl dX2_taste_14 ?_
      refine w_top (nI (cl (r 3))) (hN3.1) ?_
      refine w_icmp_geN (tgt := 93) hx hb (by omega) (by omega) dX2_taste_17 (by decide) (fun c_1 => ?_) (fun c_1 => ?_)
      · refine lv_iload hx hb dX2_taste_93 (lv_at hl 1 rfl) ?_
        exact hret hM (by rw [show w = cl (r 3) by omega]; rfl) dX2_taste_95
      · refine lv_iconst (v := nI 0) hx hb dX2_taste_20 (by decide) ?_
        refine lv_istore (lv' := [(6, .int (nI 0)), (5, .int (nI w)), (4, .int (tasW r (nI g) c0 w)), (3, .int (cowS (nI g) 5)), (0, .ref (h 0)), (1, .int (nI g)), (2, .int (nI c0))]) hx hb dX2_taste_21 hl (by decide) rfl (fun ls hl => ?_)
        have loop23 : ∀ (fu : Nat) (i : Nat), (i ≤ cl (r (58 + 14 * w + 3))) → (cl (r (58 + 14 * w + 3)) < i + fu) → (i = 0 ∨ btI (nI g) w = nI 1) → ∀ (nm : Nat → Int32) (H : Heap) (locs : List Loc), mwH D h dA s.heap H locs r cw tx nm → ∀ (ls : Array Slot), lv_has ls 7 [(6, .int (nI i)), (5, .int (nI w)), (4, .int (tasM r (cowS (nI g) 5) c0 w (tasW r (nI g) c0 w) i)), (3, .int (cowS (nI g) 5)), (0, .ref (h 0)), (1, .int (nI g)), (2, .int (nI c0))] → W p l e R s m args below meth c H locs 0 0 Q (F0 m 23 ls []) := by
          intro fu
          induction fu with
          | zero =>
            intro i hi hf2 hbit
            omega
          | succ fu ih23 =>
            intro i hi hf2 hbit nm H locs hM ls hl
            refine lv_iload hx hb dX2_taste_23 (lv_at hl 0 rfl) ?_
            refine lv_aload_n hx hb dX2_taste_25 rfl (lv_at hl 4 rfl) ?_
            refine c_get (v := .ref (h 6)) hx hb hts in_X2 hown hK (hM.1 0 _ rfl) rfl 7 (by decide) q210 rfl rfl dX2_taste_26 ?_
            refine lv_iload hx hb dX2_taste_29 (lv_at hl 1 rfl) ?_
            have hq := (hR.2.2.2.2.2.1 w (by omega)).2.2.2.1
            have hq2 := hq.2
            refine c_iald hx hb hK (hM.1 6 _ rfl) w ⟨by omega, by decide, rfl⟩ dX2_taste_31 ?_
            refine w_top (r (58 + 14 * w + 3)) (rfl) ?_
            refine w_top (nI (cl (r (58 + 14 * w + 3)))) (hq.1) ?_
            refine w_icmp_geN (tgt := 87) hx hb (by omega) (by omega) dX2_taste_32 (by decide) (fun c_2 => ?_) (fun c_2 => ?_)
            · have hbs : tasW r (nI g) c0 (w + 1) = tasM r (cowS (nI g) 5) c0 w (tasW r (nI g) c0 w) i := by
                by_cases hb9 : btI (nI g) w = nI 1
                · rw [tasW, if_pos hb9, show i = cl (r (58 + 14 * w + 3)) by omega]
                · rw [tasW, if_neg hb9, hbit.resolve_right hb9]; rfl
              refine lv_iinc (v := nI (w + 1)) (lv' := [(5, .int (nI (w + 1))), (6, .int (nI i)), (4, .int (tasM r (cowS (nI g) 5) c0 w (tasW r (nI g) c0 w) i)), (3, .int (cowS (nI g) 5)), (0, .ref (h 0)), (1, .int (nI g)), (2, .int (nI c0))]) hx hb dX2_taste_87 hl (k := 1) rfl (by rw [show Int32.ofInt 1 = nI 1 from by decide]; exact nI_add _ _) (by decide) rfl (fun ls hl => ?_)
              refine lv_goto (tgt := 11) hx hb dX2_taste_90 (by decide) ?_
              exact ih11 (w + 1) (by omega) (by omega) _ _ _ hM ls (by rw [hbs]; exact lv_sub hl [0, 2, 3, 4, 5, 6] rfl)
            · refine lv_iload_n hx hb dX2_taste_35 rfl (lv_at hl 5 rfl) ?_
              refine lv_iload hx hb dX2_taste_36 (lv_at hl 1 rfl) ?_
              have nq := hK.M 6 rfl
              refine st_callN (y := yX0_hasBit) hx hb hml hown hts (cmX0_hasBit (nI g) w) nq q591 q61 q592 ndX0_hasBit rfl (by rw [hRf]; decide) (by rw [hRl]; decide) (Nat.zero_le _) (Nat.zero_le _) hl.1 rfl (Nat.le_of_ble_eq_true rfl) dX2_taste_38 ?_
              refine w_if_eqT (tgt := 87) hx hb dX2_taste_41 (by decide) (fun c_3 => ?_) (fun c_3 => ?_)
              · have hbs : tasW r (nI g) c0 (w + 1) = tasM r (cowS (nI g) 5) c0 w (tasW r (nI g) c0 w) i := by
                  rw [tasW, if_neg c_3, hbit.resolve_right c_3]; rfl
                refine lv_iinc (v := nI (w + 1)) (lv' := [(5, .int (nI (w + 1))), (6, .int (nI i)), (4, .int (tasM r (cowS (nI g) 5) c0 w (tasW r (nI g) c0 w) i)), (3, .int (cowS (nI g) 5)), (0, .ref (h 0)), (1, .int (nI g)), (2, .int (nI c0))]) hx hb dX2_taste_87 hl (k := 1) rfl (by rw [show Int32.ofInt 1 = nI 1 from by decide]; exact nI_add _ _) (by decide) rfl (fun ls hl => ?_)
                refine lv_goto (tgt := 11) hx hb dX2_taste_90 (by decide) ?_
                exact ih11 (w + 1) (by omega) (by omega) _ _ _ hM ls (by rw [hbs]; exact lv_sub hl [0, 2, 3, 4, 5, 6] rfl)
              · refine lv_aload_n hx hb dX2_taste_44 rfl (lv_at hl 4 rfl) ?_
                refine lv_iload hx hb dX2_taste_45 (lv_at hl 1 rfl) ?_
                refine lv_iload hx hb dX2_taste_47 (lv_at hl 0 rfl) ?_
                refine rd_callV (y := yX2_milkAt) hx hb hml hown hts hK ((mw_milkAt r w i (by omega) (by omega)) D dA h cw tx _) hM.1 (cAt.recv hK (hM.1 0 _ rfl) rfl) q582 q583 q584 q66 q585 ndX2_milkAt rfl (by rw [hRf]; decide) (by rw [hRl]; decide) (Nat.zero_le _) (Nat.zero_le _) hl.1 rfl (Nat.le_of_ble_eq_true rfl) dX2_taste_49 ?_
                refine lv_iload_n hx hb dX2_taste_52 rfl (lv_at hl 6 rfl) ?_
                have j79 : ∀ (nm : Nat → Int32) (H : Heap) (locs : List Loc), mwH D h dA s.heap H locs r cw tx nm → ∀ (ls : Array Slot), lv_has ls 7 [(6, .int (nI i)), (5, .int (nI w)), (4, .int (tasM r (cowS (nI g) 5) c0 w (tasW r (nI g) c0 w) i)), (3, .int (cowS (nI g) 5)), (0, .ref (h 0)), (1, .int (nI g)), (2, .int (nI c0))] → W p l e R s m args below meth c H locs 0 0 Q (F0 m 79 ls [.int (tasM r (cowS (nI g) 5) c0 w (tasW r (nI g) c0 w) (i + 1))]) := by
                  intro   nm H locs hM ls hl
                  refine lv_istore (lv' := [(4, .int (tasM r (cowS (nI g) 5) c0 w (tasW r (nI g) c0 w) (i + 1))), (6, .int (nI i)), (5, .int (nI w)), (3, .int (cowS (nI g) 5)), (0, .ref (h 0)), (1, .int (nI g)), (2, .int (nI c0))]) hx hb dX2_taste_79 hl (by decide) rfl (fun ls hl => ?_)
                  refine lv_iinc (v := nI (i + 1)) (lv' := [(6, .int (nI (i + 1))), (4, .int (tasM r (cowS (nI g) 5) c0 w (tasW r (nI g) c0 w) (i + 1))), (5, .int (nI w)), (3, .int (cowS (nI g) 5)), (0, .ref (h 0)), (1, .int (nI g)), (2, .int (nI c0))]) hx hb dX2_taste_81 hl (k := 1) rfl (by rw [show Int32.ofInt 1 = nI 1 from by decide]; exact nI_add _ _) (by decide) rfl (fun ls hl => ?_)
                  refine lv_goto (tgt := 23) hx hb dX2_taste_84 (by decide) ?_
                  exact ih23 (i + 1) (by omega) (by omega) (Or.inr c_3) _ _ _ hM ls (lv_sub hl [0, 2, 1, 3, 4, 5, 6] rfl)
                refine lv_icmp_ne (tgt := 77) hx hb dX2_taste_53 (by decide) (fun c_4 => ?_) (fun c_4 => ?_)
                · refine lv_iload hx hb dX2_taste_77 (lv_at hl 2 rfl) ?_
                  refine w_top (tasM r (cowS (nI g) 5) c0 w (tasW r (nI g) c0 w) (i + 1)) (by rw [tasM, if_neg c_4]) ?_
                  exact j79   _ _ _ hM ls (lv_sub hl [0, 1, 2, 3, 4, 5, 6] rfl)
                · refine lv_iload hx hb dX2_taste_56 (lv_at hl 2 rfl) ?_
                  refine lv_aload_n hx hb dX2_taste_58 rfl (lv_at hl 4 rfl) ?_
                  refine lv_aload_n hx hb dX2_taste_59 rfl (lv_at hl 4 rfl) ?_
                  refine c_get (v := .ref (h 1)) hx hb hts in_X2 hown hK (hM.1 0 _ rfl) rfl 0 (by decide) q197 rfl rfl dX2_taste_60 ?_
                  refine lv_iload_n hx hb dX2_taste_63 rfl (lv_at hl 6 rfl) ?_
                  refine c_iald hx hb hK (hM.1 1 _ rfl) c0 ⟨by omega, by decide, rfl⟩ dX2_taste_64 ?_
                  refine w_top (r (8 + c0)) (rfl) ?_
                  refine lv_iload hx hb dX2_taste_65 (lv_at hl 0 rfl) ?_
                  refine lv_iload_n hx hb dX2_taste_67 rfl (lv_at hl 3 rfl) ?_
                  refine mw_call (y := yX2_tasteBy) (tr := tr) hx hb hml hown hts hK hI hM (hQ.at hN mwEq.rf hM.2.2) (mw_tasteBy r (r (8 + c0)) (nI i) (cowS (nI g) 5)) q970 q913 q914 q915 ndX2_tasteBy rfl (by rw [hRf]; decide) (by rw [hRl]; decide) hl.1 rfl (Nat.le_of_ble_eq_true rfl) dX2_taste_68 (fun H locs nm hM => ?_)
                  refine va_mmax hx hb (hml.trans hl.1.symm) hown (hts _ q388) (hts _ q389) (hts _ q73) (hts _ q390) (by rw [hRf]; decide) (by rw [hRl]; exact Nat.le_of_ble_eq_true rfl) (Nat.zero_le _) (Nat.zero_le _) dX2_taste_71 ?_
                  refine lv_goto (tgt := 79) hx hb dX2_taste_74 (by decide) ?_
                  refine w_top (tasM r (cowS (nI g) 5) c0 w (tasW r (nI g) c0 w) (i + 1)) (by rw [tasM, if_pos c_4]; rfl) ?_
                  exact j79   _ _ _ hM ls (lv_sub hl [0, 1, 2, 3, 4, 5, 6] rfl)
        exact loop23 (cl (r (58 + 14 * w + 3)) + 1) 0 (by omega) (by omega) (Or.inl rfl) _ _ _ hM ls (lv_sub hl [0, 1, 2, 3, 4, 5, 6] rfl)
  exact loop11 (cl (r 3) + 1) 0 (by omega) (by omega) _ _ _ hM ls (lv_sub hl [0, 1, 2, 3, 4, 5] rfl)
theorem ndX2_taste : yX2_taste.cls = RX2 ∧ yX2_taste.cls ≠ "java/lang/invoke/MethodHandle" ∧ yX2_taste.cls ≠ "java/lang/invoke/VarHandle" ∧ (parseMethodDescriptor yX2_taste.desc).map (fun d => d.parameters.length) = some 2 := by decide +kernel

set_option maxHeartbeats 400000 in
theorem mw_known (r : Nat → Int32) (hR : okR r) (g : Nat) (hg : g < 32) : MwF yX2_known cX2_known 4 (some .int) 64 1470 [.int (nI g)] r (some (.int (knS r (nI g) 25))) r := by
  refine MwF.ofI (by decide) rfl (Nat.le_of_ble_eq_true rfl) ?_
  intro p l e R s m args below meth c Q D dA h cw tx nm tr ls hx hb hml hRf hRl hRc hRs hts hown hK hI hQ hM hl hret
  have hl : lv_has ls 4 [(0, .ref (h 0)), (1, .int (nI g))] := hl
  have hN3 := hR.2.1
  have hN := hN3.2
  refine lv_iconst (v := nI 0) hx hb dX2_known_0 (by decide) ?_
  refine lv_istore_n (lv' := [(2, .int (nI 0)), (0, .ref (h 0)), (1, .int (nI g))]) hx hb dX2_known_1 rfl hl (by decide) rfl (fun ls hl => ?_)
  refine lv_iconst (v := nI 0) hx hb dX2_known_2 (by decide) ?_
  refine lv_istore_n (lv' := [(3, .int (nI 0)), (2, .int (nI 0)), (0, .ref (h 0)), (1, .int (nI g))]) hx hb dX2_known_3 rfl hl (by decide) rfl (fun ls hl => ?_)
  have loop4 : ∀ (fu : Nat) (k : Nat), (k ≤ 25) → (25 < k + fu) → ∀ (nm : Nat → Int32) (H : Heap) (locs : List Loc), mwH D h dA s.heap H locs r cw tx nm → ∀ (ls : Array Slot), lv_has ls 4 [(3, .int (nI k)), (2, .int (knS r (nI g) k)), (0, .ref (h 0)), (1, .int (nI g))] → W p l e R s m args below meth c H locs 0 0 Q (F0 m 4 ls []) := by
    intro fu
    induction fu with
    | zero =>
      intro k hk hf
      omega
    | succ fu ih4 =>
      intro k hk hf nm H locs hM ls hl
      refine lv_iload_n hx hb dX2_known_4 rfl (lv_at hl 0 rfl) ?_
      refine lv_bipush (v := nI 25) hx hb dX2_known_5 (by decide) ?_
      refine w_icmp_geN (tgt := 35) hx hb (by omega) (by omega) dX2_known_7 (by decide) (fun c_1 => ?_) (fun c_1 => ?_)
      · refine lv_iload_n hx hb dX2_known_35 rfl (lv_at hl 1 rfl) ?_
        exact hret hM (by rw [show k = 25 by omega]) dX2_known_36
      · refine lv_iload_n hx hb dX2_known_10 rfl (lv_at hl 1 rfl) ?_
        refine lv_aload_n hx hb dX2_known_11 rfl (lv_at hl 2 rfl) ?_
        refine lv_iload_n hx hb dX2_known_12 rfl (lv_at hl 3 rfl) ?_
        refine lv_iload_n hx hb dX2_known_13 rfl (lv_at hl 0 rfl) ?_
        refine mw_call (y := yX2_taste) (tr := tr) hx hb hml hown hts hK hI hM (hQ.at hN mwEq.rf hM.2.2) (mw_taste r hR g (by omega) k (by omega)) q986 q961 q962 q963 ndX2_taste rfl (by rw [hRf]; decide) (by rw [hRl]; decide) hl.1 rfl (Nat.le_of_ble_eq_true rfl) dX2_known_14 (fun H locs nm hM => ?_)
        have j27 : ∀ (nm : Nat → Int32) (H : Heap) (locs : List Loc), mwH D h dA s.heap H locs r cw tx nm → ∀ (ls : Array Slot), lv_has ls 4 [(3, .int (nI k)), (2, .int (knS r (nI g) k)), (0, .ref (h 0)), (1, .int (nI g))] → W p l e R s m args below meth c H locs 0 0 Q (F0 m 27 ls [.int (if 0 < tasR r (nI g) k then nI 1 <<< (nI k &&& 31) else nI 0), .int (knS r (nI g) k)]) := by
          intro   nm H locs hM ls hl
          refine lv_ior hx hb dX2_known_27 ?_
          refine w_top (knS r (nI g) (k + 1)) (rfl) ?_
          refine lv_istore_n (lv' := [(2, .int (knS r (nI g) (k + 1))), (3, .int (nI k)), (0, .ref (h 0)), (1, .int (nI g))]) hx hb dX2_known_28 rfl hl (by decide) rfl (fun ls hl => ?_)
          refine lv_iinc (v := nI (k + 1)) (lv' := [(3, .int (nI (k + 1))), (2, .int (knS r (nI g) (k + 1))), (0, .ref (h 0)), (1, .int (nI g))]) hx hb dX2_known_29 hl (k := 1) rfl (by rw [show Int32.ofInt 1 = nI 1 from by decide]; exact nI_add _ _) (by decide) rfl (fun ls hl => ?_)
          refine lv_goto (tgt := 4) hx hb dX2_known_32 (by decide) ?_
          exact ih4 (k + 1) (by omega) (by omega) _ _ _ hM ls (lv_sub hl [0, 1, 2, 3] rfl)
        refine lv_if_le (tgt := 26) hx hb dX2_known_17 (by decide) (fun c_2 => ?_) (fun c_2 => ?_)
        · refine lv_iconst (v := nI 0) hx hb dX2_known_26 (by decide) ?_
          refine w_top (if 0 < tasR r (nI g) k then nI 1 <<< (nI k &&& 31) else nI 0) ((if_neg (Int32.not_lt.mpr c_2)).symm) ?_
          exact j27   _ _ _ hM ls (lv_sub hl [0, 1, 2, 3] rfl)
        · refine lv_iconst (v := nI 1) hx hb dX2_known_20 (by decide) ?_
          refine lv_iload_n hx hb dX2_known_21 rfl (lv_at hl 0 rfl) ?_
          refine lv_ishl hx hb dX2_known_22 ?_
          refine lv_goto (tgt := 27) hx hb dX2_known_23 (by decide) ?_
          refine w_top (if 0 < tasR r (nI g) k then nI 1 <<< (nI k &&& 31) else nI 0) ((if_pos (Int32.not_le.mp c_2)).symm) ?_
          exact j27   _ _ _ hM ls (lv_sub hl [0, 1, 2, 3] rfl)
  exact loop4 26 0 (by omega) (by omega) _ _ _ hM ls (lv_sub hl [0, 1, 2, 3] rfl)
