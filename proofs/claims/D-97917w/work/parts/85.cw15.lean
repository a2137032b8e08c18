/-! borders (printed by comp17.py) -/
set_option maxRecDepth 100000
theorem shl_N {i : Nat} (h : i < 5) : ∃ j, j < 32 ∧ nI 1 <<< (nI i &&& 31) = nI j := by
  have h2 : i = 0 ∨ i = 1 ∨ i = 2 ∨ i = 3 ∨ i = 4 := by omega
  rcases h2 with rfl | rfl | rfl | rfl | rfl
  · exact ⟨1, by decide, by decide⟩
  · exact ⟨2, by decide, by decide⟩
  · exact ⟨4, by decide, by decide⟩
  · exact ⟨8, by decide, by decide⟩
  · exact ⟨16, by decide, by decide⟩
set_option maxHeartbeats 400000 in
theorem ca_borders_ok (f : Nat → Int32) (a : Nat → Nat → Int32) (i1 i2 : Nat) (h1 : i1 < cl (a 1 3)) (h2 : i2 < cl (a 1 3)) (hne : ¬ i1 = i2) (hR : okR (a 1)) : CmF yX0_borders cX0_borders 9 [(0, 143, 144, 8)] 65 1493 [.int (nI i1), .int (nI i2)] f a (brS (knC (a 1) i1) (knC (a 1) i2) 25) f a := by
  refine CmF.ofI (by decide) rfl (Nat.le_of_ble_eq_true rfl) ?_
  intro p l e R s m args below meth c Q D dA h fc wk hd ri rt cw tx nm B S ls hx hb hml hRf hRl hRc hRs htab hts hown hK hI hB hS0 hQ hN hIm hZ hSh hM hl hret hret0
  have hl : lv_has ls 9 [(0, .ref (h 0)), (1, .int (nI i1)), (2, .int (nI i2))] := hl
  have hN0 := hR.2.1
  have hN2 := hN0.2
  obtain ⟨j1, hj1, e1⟩ := shl_N (i := i1) (by omega)
  obtain ⟨j2, hj2, e2⟩ := shl_N (i := i2) (by omega)
  refine lv_aload_n hx hb dX0_borders_0 rfl (lv_at hl 0 rfl) ?_
  refine lv_aload_n hx hb dX0_borders_1 rfl (lv_at hl 0 rfl) ?_
  refine lv_iload_n hx hb dX0_borders_2 rfl (lv_at hl 1 rfl) ?_
  refine rd_callV (y := yX0_isCow) hx hb hml hown hts hK (ca_isCow D dA h _ _ _ _ _ _ _ _ _ _ (nI i1)) hM.1 (cAt.recv hK (hM.1 0 _ rfl) rfl) q512 q514 qs4 q61 q515 ndX0_isCow rfl (by rw [hRf]; decide) (by rw [hRl]; decide) (Nat.zero_le _) (Nat.zero_le _) hl.1 rfl (Nat.le_of_ble_eq_true rfl) dX0_borders_3 ?_
  refine w_if_eqT (tgt := 26) hx hb dX0_borders_6 (by decide) (fun c_1 => ?_) (fun c_1 => ?_)
  · exact absurd (by first | exact (in_nat (by decide)).mpr ⟨_, by omega, rfl⟩ | exact (in_nat1 _ (by decide) (by decide)).mpr ⟨_, by omega, by omega, rfl⟩ | exact cow_in hN0 (by omega) | assumption) c_1
  · refine lv_aload_n hx hb dX0_borders_9 rfl (lv_at hl 0 rfl) ?_
    refine lv_iload_n hx hb dX0_borders_10 rfl (lv_at hl 2 rfl) ?_
    refine rd_callV (y := yX0_isCow) hx hb hml hown hts hK (ca_isCow D dA h _ _ _ _ _ _ _ _ _ _ (nI i2)) hM.1 (cAt.recv hK (hM.1 0 _ rfl) rfl) q512 q514 qs4 q61 q515 ndX0_isCow rfl (by rw [hRf]; decide) (by rw [hRl]; decide) (Nat.zero_le _) (Nat.zero_le _) hl.1 rfl (Nat.le_of_ble_eq_true rfl) dX0_borders_11 ?_
    refine w_if_eqT (tgt := 26) hx hb dX0_borders_14 (by decide) (fun c_2 => ?_) (fun c_2 => ?_)
    · exact absurd (by first | exact (in_nat (by decide)).mpr ⟨_, by omega, rfl⟩ | exact (in_nat1 _ (by decide) (by decide)).mpr ⟨_, by omega, by omega, rfl⟩ | exact cow_in hN0 (by omega) | assumption) c_2
    · refine lv_iload_n hx hb dX0_borders_17 rfl (lv_at hl 1 rfl) ?_
      refine lv_iload_n hx hb dX0_borders_18 rfl (lv_at hl 2 rfl) ?_
      refine w_icmp_eqN (tgt := 26) hx hb (by omega) (by omega) dX0_borders_19 (by decide) (fun c_3 => ?_) (fun c_3 => ?_)
      · exact absurd c_3 hne
      · refine lv_iconst (v := nI 1) hx hb dX0_borders_22 (by decide) ?_
        refine lv_goto (tgt := 27) hx hb dX0_borders_23 (by decide) ?_
        refine lv_iconst (v := nI 1) hx hb dX0_borders_27 (by decide) ?_
        refine cm_n1 hx hb hml hown hts hK hI hM htab (hpc := 144) rfl q333 (by rw [hRf]; decide) (by rw [hRl]; decide) (Nat.zero_le _) (Nat.zero_le _) hl.1 (Nat.le_of_ble_eq_true rfl) dX0_borders_28 (fun locs hM => ?_)
        refine lv_aload_n hx hb dX0_borders_31 rfl (lv_at hl 0 rfl) ?_
        refine c_get (v := .ref (hm0 h 0)) hx hb hts in_X0 hown hK (hM.1 0 _ rfl) rfl 1 (by decide) q287 rfl rfl dX0_borders_32 ?_
        refine lv_iconst (v := nI 1) hx hb dX0_borders_35 (by decide) ?_
        refine lv_iload_n hx hb dX0_borders_36 rfl (lv_at hl 1 rfl) ?_
        refine lv_ishl hx hb dX0_borders_37 ?_
        refine w_top (nI j1) (e1) ?_
        refine cm_mcall0 (y := yX2_known) hx hb hml hown hts hK hI hB hM (hQ.at hB hN mwEq.rf mwEq.rf mwEq.rf hM.2.2) (hN.1) (mw_known (a 1) hR j1 (by omega)) q982 q983 q984 q985 ndX2_known rfl (by rw [hRf]; decide) (by rw [hRl]; decide) (Nat.zero_le _) (Nat.zero_le _) hl.1 rfl (Nat.le_of_ble_eq_true rfl) dX0_borders_38 (fun H locs nm hM => ?_)
        rw [va_uself] at hM
        refine w_top (knC (a 1) i1) (by rw [← e1]) ?_
        refine lv_istore_n (lv' := [(3, .int (knC (a 1) i1)), (0, .ref (h 0)), (1, .int (nI i1)), (2, .int (nI i2))]) hx hb dX0_borders_41 rfl hl (by decide) rfl (fun ls hl => ?_)
        refine lv_aload_n hx hb dX0_borders_42 rfl (lv_at hl 1 rfl) ?_
        refine c_get (v := .ref (hm0 h 0)) hx hb hts in_X0 hown hK (hM.1 0 _ rfl) rfl 1 (by decide) q287 rfl rfl dX0_borders_43 ?_
        refine lv_iconst (v := nI 1) hx hb dX0_borders_46 (by decide) ?_
        refine lv_iload_n hx hb dX0_borders_47 rfl (lv_at hl 3 rfl) ?_
        refine lv_ishl hx hb dX0_borders_48 ?_
        refine w_top (nI j2) (e2) ?_
        refine cm_mcall0 (y := yX2_known) hx hb hml hown hts hK hI hB hM (hQ.at hB hN mwEq.rf mwEq.rf mwEq.rf hM.2.2) (hN.1) (mw_known (a 1) hR j2 (by omega)) q982 q983 q984 q985 ndX2_known rfl (by rw [hRf]; decide) (by rw [hRl]; decide) (Nat.zero_le _) (Nat.zero_le _) hl.1 rfl (Nat.le_of_ble_eq_true rfl) dX0_borders_49 (fun H locs nm hM => ?_)
        rw [va_uself] at hM
        refine w_top (knC (a 1) i2) (by rw [← e2]) ?_
        refine lv_istore (lv' := [(4, .int (knC (a 1) i2)), (3, .int (knC (a 1) i1)), (0, .ref (h 0)), (1, .int (nI i1)), (2, .int (nI i2))]) hx hb dX0_borders_52 hl (by decide) rfl (fun ls hl => ?_)
        refine lv_iconst (v := nI 0) hx hb dX0_borders_54 (by decide) ?_
        refine lv_istore (lv' := [(5, .int (nI 0)), (4, .int (knC (a 1) i2)), (3, .int (knC (a 1) i1)), (0, .ref (h 0)), (1, .int (nI i1)), (2, .int (nI i2))]) hx hb dX0_borders_55 hl (by decide) rfl (fun ls hl => ?_)
        refine lv_iconst (v := nI 0) hx hb dX0_borders_57 (by decide) ?_
        refine lv_istore (lv' := [(6, .int (nI 0)), (5, .int (nI 0)), (4, .int (knC (a 1) i2)), (3, .int (knC (a 1) i1)), (0, .ref (h 0)), (1, .int (nI i1)), (2, .int (nI i2))]) hx hb dX0_borders_58 hl (by decide) rfl (fun ls hl => ?_)
        have loop60 : ∀ (fu : Nat) (c2 : Nat), (c2 ≤ 25) → (25 < c2 + fu) → ∀ (fc : Int32) (wk nm : Nat → Nat → Int32) (H : Heap) (locs : List Loc), cmH D h dA s.heap H locs f a fc wk hd ri rt cw tx nm → ∀ (ls : Array Slot), lv_has ls 9 [(6, .int (nI c2)), (5, .int (brS (knC (a 1) i1) (knC (a 1) i2) c2)), (4, .int (knC (a 1) i2)), (3, .int (knC (a 1) i1)), (0, .ref (h 0)), (1, .int (nI i1)), (2, .int (nI i2))] → W p l e R s m args below meth c H locs 0 0 Q (F0 m 60 ls []) := by
          intro fu
          induction fu with
          | zero =>
            intro c2 hk hn
            omega
          | succ fu ih60 =>
            intro c2 hk hn fc wk nm H locs hM ls hl
            refine lv_iload hx hb dX0_borders_60 (lv_at hl 0 rfl) ?_
            refine lv_bipush (v := nI 25) hx hb dX0_borders_62 (by decide) ?_
            refine w_icmp_geN (tgt := 141) hx hb (by omega) (by omega) dX0_borders_64 (by decide) (fun c_4 => ?_) (fun c_4 => ?_)
            · refine lv_iload hx hb dX0_borders_141 (lv_at hl 1 rfl) ?_
              exact hret0 hM (mwEq.rf) rfl rfl ⟨rfl, rfl, rfl⟩ (by rw [show c2 = 25 by omega]) dX0_borders_143
            · refine lv_iconst (v := nI 1) hx hb dX0_borders_67 (by decide) ?_
              refine lv_istore (lv' := [(7, .int (nI 1)), (6, .int (nI c2)), (5, .int (brS (knC (a 1) i1) (knC (a 1) i2) c2)), (4, .int (knC (a 1) i2)), (3, .int (knC (a 1) i1)), (0, .ref (h 0)), (1, .int (nI i1)), (2, .int (nI i2))]) hx hb dX0_borders_68 hl (by decide) rfl (fun ls hl => ?_)
              have loop70 : ∀ (fu : Nat) (w : Nat), (w ≤ 4) → (4 < w + fu) → (w = 0 ∨ btI ((knC (a 1) i1) &&& ((knC (a 1) i2) ^^^ (-1))) c2 = nI 1) → ∀ (fc : Int32) (wk nm : Nat → Nat → Int32) (H : Heap) (locs : List Loc), cmH D h dA s.heap H locs f a fc wk hd ri rt cw tx nm → ∀ (ls : Array Slot), lv_has ls 9 [(7, .int (nI (w + 1))), (6, .int (nI c2)), (5, .int (brI (knC (a 1) i1) (knC (a 1) i2) c2 (brS (knC (a 1) i1) (knC (a 1) i2) c2) w)), (4, .int (knC (a 1) i2)), (3, .int (knC (a 1) i1)), (0, .ref (h 0)), (1, .int (nI i1)), (2, .int (nI i2))] → W p l e R s m args below meth c H locs 0 0 Q (F0 m 70 ls []) := by
                intro fu
                induction fu with
                | zero =>
                  intro w hw hn2 hbit
                  omega
                | succ fu ih70 =>
                  intro w hw hn2 hbit fc wk nm H locs hM ls hl
                  refine lv_iload hx hb dX0_borders_70 (lv_at hl 0 rfl) ?_
                  refine lv_iconst (v := nI 5) hx hb dX0_borders_72 (by decide) ?_
                  refine w_icmp_geN (tgt := 135) hx hb (by omega) (by omega) dX0_borders_73 (by decide) (fun c_5 => ?_) (fun c_5 => ?_)
                  · have hbs : brS (knC (a 1) i1) (knC (a 1) i2) (c2 + 1) = brI (knC (a 1) i1) (knC (a 1) i2) c2 (brS (knC (a 1) i1) (knC (a 1) i2) c2) w := by rw [brS, if_pos (hbit.resolve_left (by omega)), show w = 4 by omega]
                    refine lv_iinc (v := nI (c2 + 1)) (lv' := [(6, .int (nI (c2 + 1))), (7, .int (nI (w + 1))), (5, .int (brI (knC (a 1) i1) (knC (a 1) i2) c2 (brS (knC (a 1) i1) (knC (a 1) i2) c2) w)), (4, .int (knC (a 1) i2)), (3, .int (knC (a 1) i1)), (0, .ref (h 0)), (1, .int (nI i1)), (2, .int (nI i2))]) hx hb dX0_borders_135 hl (k := 1) rfl (by rw [show Int32.ofInt 1 = nI 1 from by decide]; exact nI_add _ _) (by decide) rfl (fun ls hl => ?_)
                    refine lv_goto (tgt := 60) hx hb dX0_borders_138 (by decide) ?_
                    exact ih60 (c2 + 1) (by omega) (by omega) _ _ _ _ _ hM ls (by rw [hbs]; exact lv_sub hl [0, 2, 3, 4, 5, 6, 7] rfl)
                  · refine lv_iload_n hx hb dX0_borders_76 rfl (lv_at hl 4 rfl) ?_
                    refine lv_iload hx hb dX0_borders_77 (lv_at hl 3 rfl) ?_
                    refine lv_iconst (v := (-1 : Int32)) hx hb dX0_borders_79 (by decide) ?_
                    refine lv_ixor hx hb dX0_borders_80 ?_
                    refine lv_iand hx hb dX0_borders_81 ?_
                    refine lv_iload hx hb dX0_borders_82 (lv_at hl 1 rfl) ?_
                    refine st_callS (y := yX0_hasBit) hx hb hml hown hts (cmX0_hasBit ((knC (a 1) i1) &&& ((knC (a 1) i2) ^^^ (-1 : Int32))) c2) q1010 q591 q61 q592 ndX0_hasBit rfl (by rw [hRf]; decide) (by rw [hRl]; decide) (Nat.zero_le _) (Nat.zero_le _) hl.1 rfl (Nat.le_of_ble_eq_true rfl) dX0_borders_84 ?_
                    refine w_if_eqT (tgt := 135) hx hb dX0_borders_87 (by decide) (fun c_6 => ?_) (fun c_6 => ?_)
                    · have hbs : brS (knC (a 1) i1) (knC (a 1) i2) (c2 + 1) = brI (knC (a 1) i1) (knC (a 1) i2) c2 (brS (knC (a 1) i1) (knC (a 1) i2) c2) w := by rw [brS, if_neg c_6, show w = 0 from hbit.resolve_right c_6, brI]
                      refine lv_iinc (v := nI (c2 + 1)) (lv' := [(6, .int (nI (c2 + 1))), (7, .int (nI (w + 1))), (5, .int (brI (knC (a 1) i1) (knC (a 1) i2) c2 (brS (knC (a 1) i1) (knC (a 1) i2) c2) w)), (4, .int (knC (a 1) i2)), (3, .int (knC (a 1) i1)), (0, .ref (h 0)), (1, .int (nI i1)), (2, .int (nI i2))]) hx hb dX0_borders_135 hl (k := 1) rfl (by rw [show Int32.ofInt 1 = nI 1 from by decide]; exact nI_add _ _) (by decide) rfl (fun ls hl => ?_)
                      refine lv_goto (tgt := 60) hx hb dX0_borders_138 (by decide) ?_
                      exact ih60 (c2 + 1) (by omega) (by omega) _ _ _ _ _ hM ls (by rw [hbs]; exact lv_sub hl [0, 2, 3, 4, 5, 6, 7] rfl)
                    · refine lv_iload hx hb dX0_borders_90 (lv_at hl 1 rfl) ?_
                      refine lv_iload hx hb dX0_borders_92 (lv_at hl 0 rfl) ?_
                      refine st_callS (y := yX2_next) hx hb hml hown hts (cmX2_next c2 (w + 1) (by omega) (by omega)) q1011 q587 q66 q588 ndX2_next rfl (by rw [hRf]; decide) (by rw [hRl]; decide) (Nat.zero_le _) (Nat.zero_le _) hl.1 rfl (Nat.le_of_ble_eq_true rfl) dX0_borders_94 ?_
                      refine lv_istore (lv' := [(8, .int (oI (nxt c2 (w + 1)))), (7, .int (nI (w + 1))), (6, .int (nI c2)), (5, .int (brI (knC (a 1) i1) (knC (a 1) i2) c2 (brS (knC (a 1) i1) (knC (a 1) i2) c2) w)), (4, .int (knC (a 1) i2)), (3, .int (knC (a 1) i1)), (0, .ref (h 0)), (1, .int (nI i1)), (2, .int (nI i2))]) hx hb dX0_borders_97 hl (by decide) rfl (fun ls hl => ?_)
                      refine lv_iload hx hb dX0_borders_99 (lv_at hl 3 rfl) ?_
                      refine lv_iload hx hb dX0_borders_101 (lv_at hl 0 rfl) ?_
                      refine lv_iconst (v := (-1 : Int32)) hx hb dX0_borders_103 (by decide) ?_
                      have j126 : ∀ (fc : Int32) (wk nm : Nat → Nat → Int32) (H : Heap) (locs : List Loc), cmH D h dA s.heap H locs f a fc wk hd ri rt cw tx nm → ∀ (ls : Array Slot), lv_has ls 9 [(7, .int (nI (w + 1))), (6, .int (nI c2)), (5, .int (brI (knC (a 1) i1) (knC (a 1) i2) c2 (brS (knC (a 1) i1) (knC (a 1) i2) c2) w)), (4, .int (knC (a 1) i2)), (3, .int (knC (a 1) i1)), (0, .ref (h 0)), (1, .int (nI i1)), (2, .int (nI i2))] → W p l e R s m args below meth c H locs 0 0 Q (F0 m 126 ls [.int (brT (knC (a 1) i1) (knC (a 1) i2) c2 (w + 1)), .int (brI (knC (a 1) i1) (knC (a 1) i2) c2 (brS (knC (a 1) i1) (knC (a 1) i2) c2) w)]) := by
                        intro   fc wk nm H locs hM ls hl
                        refine lv_iadd hx hb dX0_borders_126 ?_
                        refine lv_istore (lv' := [(5, .int ((brI (knC (a 1) i1) (knC (a 1) i2) c2 (brS (knC (a 1) i1) (knC (a 1) i2) c2) w) + (brT (knC (a 1) i1) (knC (a 1) i2) c2 (w + 1)))), (7, .int (nI (w + 1))), (6, .int (nI c2)), (4, .int (knC (a 1) i2)), (3, .int (knC (a 1) i1)), (0, .ref (h 0)), (1, .int (nI i1)), (2, .int (nI i2))]) hx hb dX0_borders_127 hl (by decide) rfl (fun ls hl => ?_)
                        refine lv_iinc (v := nI (w + 1 + 1)) (lv' := [(7, .int (nI (w + 1 + 1))), (5, .int ((brI (knC (a 1) i1) (knC (a 1) i2) c2 (brS (knC (a 1) i1) (knC (a 1) i2) c2) w) + (brT (knC (a 1) i1) (knC (a 1) i2) c2 (w + 1)))), (6, .int (nI c2)), (4, .int (knC (a 1) i2)), (3, .int (knC (a 1) i1)), (0, .ref (h 0)), (1, .int (nI i1)), (2, .int (nI i2))]) hx hb dX0_borders_129 hl (k := 1) rfl (by rw [show Int32.ofInt 1 = nI 1 from by decide]; exact nI_add _ _) (by decide) rfl (fun ls hl => ?_)
                        refine lv_goto (tgt := 70) hx hb dX0_borders_132 (by decide) ?_
                        exact ih70 (w + 1) (by omega) (by omega) (Or.inr c_6) _ _ _ _ _ hM ls (lv_sub hl [0, 2, 1, 3, 4, 5, 6, 7] rfl)
                      refine lv_icmp_eq (tgt := 125) hx hb dX0_borders_104 (by decide) (fun c_7 => ?_) (fun c_7 => ?_)
                      · refine lv_iconst (v := nI 0) hx hb dX0_borders_125 (by decide) ?_
                        refine w_top (brT (knC (a 1) i1) (knC (a 1) i2) c2 (w + 1)) (brT_n (oI_neg (by rw [c_7]; decide) (fun z hz => by have := nxt_lt (by omega) hz; omega))) ?_
                        exact j126   _ _ _ _ _ hM ls (lv_sub hl [1, 2, 3, 4, 5, 6, 7, 8] rfl)
                      · obtain ⟨d, hd1, hd2⟩ := oI_ne c_7
                        have hd3 := nxt_lt (by omega) hd1
                        refine lv_iload hx hb dX0_borders_107 (lv_at hl 4 rfl) ?_
                        refine lv_iload_n hx hb dX0_borders_109 rfl (lv_at hl 5 rfl) ?_
                        refine lv_iconst (v := (-1 : Int32)) hx hb dX0_borders_110 (by decide) ?_
                        refine lv_ixor hx hb dX0_borders_111 ?_
                        refine lv_iand hx hb dX0_borders_112 ?_
                        refine lv_iload hx hb dX0_borders_113 (lv_at hl 0 rfl) ?_
                        refine w_top (nI d) (hd2) ?_
                        refine st_callS (y := yX0_hasBit) hx hb hml hown hts (cmX0_hasBit ((knC (a 1) i2) &&& ((knC (a 1) i1) ^^^ (-1 : Int32))) d) q1010 q591 q61 q592 ndX0_hasBit rfl (by rw [hRf]; decide) (by rw [hRl]; decide) (Nat.zero_le _) (Nat.zero_le _) hl.1 rfl (Nat.le_of_ble_eq_true rfl) dX0_borders_115 ?_
                        refine w_if_eqT (tgt := 125) hx hb dX0_borders_118 (by decide) (fun c_8 => ?_) (fun c_8 => ?_)
                        · refine lv_iconst (v := nI 0) hx hb dX0_borders_125 (by decide) ?_
                          refine w_top (brT (knC (a 1) i1) (knC (a 1) i2) c2 (w + 1)) (brT_z hd1 c_8) ?_
                          exact j126   _ _ _ _ _ hM ls (lv_sub hl [1, 2, 3, 4, 5, 6, 7, 8] rfl)
                        · refine lv_iconst (v := nI 1) hx hb dX0_borders_121 (by decide) ?_
                          refine lv_goto (tgt := 126) hx hb dX0_borders_122 (by decide) ?_
                          refine w_top (brT (knC (a 1) i1) (knC (a 1) i2) c2 (w + 1)) (brT_y hd1 c_8) ?_
                          exact j126   _ _ _ _ _ hM ls (lv_sub hl [1, 2, 3, 4, 5, 6, 7, 8] rfl)
              exact loop70 5 0 (by omega) (by omega) (Or.inl rfl) _ _ _ _ _ hM ls (lv_sub hl [0, 1, 2, 3, 4, 5, 6, 7] rfl)
        exact loop60 26 0 (by omega) (by omega) _ _ _ _ _ hM ls (lv_sub hl [0, 1, 2, 3, 4, 5, 6] rfl)
set_option maxHeartbeats 400000 in
theorem ca_borders_e (f : Nat → Int32) (a : Nat → Nat → Int32) (v1 v2 : Int32) (he : ¬ (cowP (a 1) v1 ∧ cowP (a 1) v2 ∧ ¬ v1 = v2)) : CmF yX0_borders cX0_borders 9 [(0, 143, 144, 8)] 2 60 [.int v1, .int v2] f a (-1000000001 : Int32) f (mErr a 1) := by
  refine CmF.ofI (by decide) rfl (Nat.le_of_ble_eq_true rfl) ?_
  intro p l e R s m args below meth c Q D dA h fc wk hd ri rt cw tx nm B S ls hx hb hml hRf hRl hRc hRs htab hts hown hK hI hB hS0 hQ hN hIm hZ hSh hM hl hret hret0
  have hl : lv_has ls 9 [(0, .ref (h 0)), (1, .int v1), (2, .int v2)] := hl
  refine lv_aload_n hx hb dX0_borders_0 rfl (lv_at hl 0 rfl) ?_
  refine lv_aload_n hx hb dX0_borders_1 rfl (lv_at hl 0 rfl) ?_
  refine lv_iload_n hx hb dX0_borders_2 rfl (lv_at hl 1 rfl) ?_
  refine rd_callV (y := yX0_isCow) hx hb hml hown hts hK (ca_isCow D dA h _ _ _ _ _ _ _ _ _ _ v1) hM.1 (cAt.recv hK (hM.1 0 _ rfl) rfl) q512 q514 qs4 q61 q515 ndX0_isCow rfl (by rw [hRf]; decide) (by rw [hRl]; decide) (Nat.zero_le _) (Nat.zero_le _) hl.1 rfl (Nat.le_of_ble_eq_true rfl) dX0_borders_3 ?_
  refine w_if_eqT (tgt := 26) hx hb dX0_borders_6 (by decide) (fun c_1 => ?_) (fun c_1 => ?_)
  · refine lv_iconst (v := nI 0) hx hb dX0_borders_26 (by decide) ?_
    refine lv_iconst (v := nI 1) hx hb dX0_borders_27 (by decide) ?_
    refine cm_n0 hx hb hml hown hts hK hI hM htab (hpc := 144) rfl q333 (by rw [hRf]; decide) (by rw [hRl]; decide) (Nat.zero_le _) (Nat.zero_le _) hl.1 (Nat.le_of_ble_eq_true rfl) dX0_borders_28 (fun H locs hM => ?_)
    refine lv_astore_n (lv' := [(3, .ref (h 1)), (0, .ref (h 0)), (1, .int v1), (2, .int v2)]) hx hb dX0_borders_144 rfl hl (by decide) rfl (fun ls hl => ?_)
    refine lv_aload_n hx hb dX0_borders_145 rfl (lv_at hl 1 rfl) ?_
    refine lv_aload_n hx hb dX0_borders_146 rfl (lv_at hl 0 rfl) ?_
    refine cm_fin hx hb hml hown hts hK hI 1 (by decide) hM q341 (by rw [hRf]; decide) (by rw [hRl]; decide) (Nat.zero_le _) (Nat.zero_le _) hl.1 (Nat.le_of_ble_eq_true rfl) dX0_borders_147 (fun H locs hM => ?_)
    exact hret0 hM (mwEq.rf) rfl rfl ⟨rfl, rfl, rfl⟩ (by decide) dX0_borders_150
  · refine lv_aload_n hx hb dX0_borders_9 rfl (lv_at hl 0 rfl) ?_
    refine lv_iload_n hx hb dX0_borders_10 rfl (lv_at hl 2 rfl) ?_
    refine rd_callV (y := yX0_isCow) hx hb hml hown hts hK (ca_isCow D dA h _ _ _ _ _ _ _ _ _ _ v2) hM.1 (cAt.recv hK (hM.1 0 _ rfl) rfl) q512 q514 qs4 q61 q515 ndX0_isCow rfl (by rw [hRf]; decide) (by rw [hRl]; decide) (Nat.zero_le _) (Nat.zero_le _) hl.1 rfl (Nat.le_of_ble_eq_true rfl) dX0_borders_11 ?_
    refine w_if_eqT (tgt := 26) hx hb dX0_borders_14 (by decide) (fun c_2 => ?_) (fun c_2 => ?_)
    · refine lv_iconst (v := nI 0) hx hb dX0_borders_26 (by decide) ?_
      refine lv_iconst (v := nI 1) hx hb dX0_borders_27 (by decide) ?_
      refine cm_n0 hx hb hml hown hts hK hI hM htab (hpc := 144) rfl q333 (by rw [hRf]; decide) (by rw [hRl]; decide) (Nat.zero_le _) (Nat.zero_le _) hl.1 (Nat.le_of_ble_eq_true rfl) dX0_borders_28 (fun H locs hM => ?_)
      refine lv_astore_n (lv' := [(3, .ref (h 1)), (0, .ref (h 0)), (1, .int v1), (2, .int v2)]) hx hb dX0_borders_144 rfl hl (by decide) rfl (fun ls hl => ?_)
      refine lv_aload_n hx hb dX0_borders_145 rfl (lv_at hl 1 rfl) ?_
      refine lv_aload_n hx hb dX0_borders_146 rfl (lv_at hl 0 rfl) ?_
      refine cm_fin hx hb hml hown hts hK hI 1 (by decide) hM q341 (by rw [hRf]; decide) (by rw [hRl]; decide) (Nat.zero_le _) (Nat.zero_le _) hl.1 (Nat.le_of_ble_eq_true rfl) dX0_borders_147 (fun H locs hM => ?_)
      exact hret0 hM (mwEq.rf) rfl rfl ⟨rfl, rfl, rfl⟩ (by decide) dX0_borders_150
    · refine lv_iload_n hx hb dX0_borders_17 rfl (lv_at hl 1 rfl) ?_
      refine lv_iload_n hx hb dX0_borders_18 rfl (lv_at hl 2 rfl) ?_
      refine lv_icmp_eq (tgt := 26) hx hb dX0_borders_19 (by decide) (fun c_3 => ?_) (fun c_3 => ?_)
      · refine lv_iconst (v := nI 0) hx hb dX0_borders_26 (by decide) ?_
        refine lv_iconst (v := nI 1) hx hb dX0_borders_27 (by decide) ?_
        refine cm_n0 hx hb hml hown hts hK hI hM htab (hpc := 144) rfl q333 (by rw [hRf]; decide) (by rw [hRl]; decide) (Nat.zero_le _) (Nat.zero_le _) hl.1 (Nat.le_of_ble_eq_true rfl) dX0_borders_28 (fun H locs hM => ?_)
        refine lv_astore_n (lv' := [(3, .ref (h 1)), (0, .ref (h 0)), (1, .int v1), (2, .int v2)]) hx hb dX0_borders_144 rfl hl (by decide) rfl (fun ls hl => ?_)
        refine lv_aload_n hx hb dX0_borders_145 rfl (lv_at hl 1 rfl) ?_
        refine lv_aload_n hx hb dX0_borders_146 rfl (lv_at hl 0 rfl) ?_
        refine cm_fin hx hb hml hown hts hK hI 1 (by decide) hM q341 (by rw [hRf]; decide) (by rw [hRl]; decide) (Nat.zero_le _) (Nat.zero_le _) hl.1 (Nat.le_of_ble_eq_true rfl) dX0_borders_147 (fun H locs hM => ?_)
        exact hret0 hM (mwEq.rf) rfl rfl ⟨rfl, rfl, rfl⟩ (by decide) dX0_borders_150
      · refine lv_iconst (v := nI 1) hx hb dX0_borders_22 (by decide) ?_
        refine lv_goto (tgt := 27) hx hb dX0_borders_23 (by decide) ?_
        refine lv_iconst (v := nI 1) hx hb dX0_borders_27 (by decide) ?_
        exact absurd ⟨c_1, c_2, c_3⟩ he
