/-! the meadow: milk, what texts give (printed by comp6.py) -/
set_option maxRecDepth 100000
theorem mwEq_u {r : Nat → Int32} {k : Nat} {x : Int32} (h : k < 198 ∧ k ≠ 3 ∧ k ≠ 6 ∧ k ≠ 7 ∧ ∀ w, w < 5 → k ≠ 58 + 14 * w + 0 ∧ k ≠ 58 + 14 * w + 1) : mwEq r (upd r k x) := by
  obtain ⟨h1, h2, h3, h4, h5⟩ := h
  refine ⟨pk_un (Ne.symm h2), fun u hu => pk_un (by omega), fun w hw => ⟨pk_un (Ne.symm (h5 w hw).1), pk_un (Ne.symm (h5 w hw).2)⟩, fun j => pk_un (by omega)⟩
theorem mwEq_g {r : Nat → Int32} {c : Nat} {x : Int32} (h : c < 25) : mwEq r (upd r (33 + c) x) := mwEq_u ⟨by omega, by omega, by omega, by omega, fun w hw => ⟨by omega, by omega⟩⟩
theorem mwEq_c {r : Nat → Int32} {w j : Nat} {x : Int32} (h : w < 5) (h2 : 2 ≤ j) (h3 : j < 14) : mwEq r (upd r (58 + 14 * w + j) x) := mwEq_u ⟨by omega, by omega, by omega, by omega, fun v hv => ⟨by omega, by omega⟩⟩
set_option maxHeartbeats 400000 in
theorem mw_milkAt (r : Nat → Int32) (w i : Nat) (hw : w < 5) (hi : i < 10) : MwR yX2_milkAt cX2_milkAt 3 (some .int) 0 0 [.int (nI w), .int (nI i)] r (some (.int (r (58 + 14 * w + (4 + i))))) := by
  intro D dA h cw tx nm
  refine Rd.ofI (by decide) (own := RX2) rfl (Nat.le_of_ble_eq_true rfl) ?_
  intro p l e R s m args below meth c Q ls hx hb hml hRf hRl hts hown hK hP hl hret
  have hl : lv_has ls 3 [(0, .ref (h 0)), (1, .int (nI w)), (2, .int (nI i))] := hl
  refine lv_aload_n hx hb dX2_milkAt_0 rfl (lv_at hl 0 rfl) ?_
  refine c_get (v := .ref (h 5)) hx hb hts in_X2 hown hK (hP 0 _ rfl) rfl 6 (by decide) q209 rfl rfl dX2_milkAt_1 ?_
  refine lv_bipush (v := nI 12) hx hb dX2_milkAt_4 (by decide) ?_
  refine lv_iload_n hx hb dX2_milkAt_6 rfl (lv_at hl 1 rfl) ?_
  refine w_imulN hx hb dX2_milkAt_7 ?_
  refine lv_iload_n hx hb dX2_milkAt_8 rfl (lv_at hl 2 rfl) ?_
  refine w_iaddN hx hb dX2_milkAt_9 ?_
  refine c_iald hx hb hK (hP 5 _ rfl) ((12 * w) + i) ⟨by omega, by decide, rfl⟩ dX2_milkAt_10 ?_
  exact hret (mwMk_at hi) dX2_milkAt_11
/-- all cells of the milk of one, as bits -/
def wkd (r : Nat → Int32) (w : Nat) : Nat → Int32
  | 0 => nI 0
  | n + 1 => wkd r w n ||| (nI 1 <<< (r (58 + 14 * w + (4 + n)) &&& 31))
theorem ndX2_milkAt : yX2_milkAt.cls = RX2 ∧ yX2_milkAt.cls ≠ "java/lang/invoke/MethodHandle" ∧ yX2_milkAt.cls ≠ "java/lang/invoke/VarHandle" ∧ (parseMethodDescriptor yX2_milkAt.desc).map (fun d => d.parameters.length) = some 2 := by decide +kernel

set_option maxHeartbeats 400000 in
theorem mw_walked (r : Nat → Int32) (w : Nat) (hw : w < 5) (hq : okN (r (58 + 14 * w + 3)) 10) : MwR yX2_walked cX2_walked 4 (some .int) 1 22 [.int (nI w)] r (some (.int (wkd r w (cl (r (58 + 14 * w + 3)))))) := by
  intro D dA h cw tx nm
  refine Rd.ofI (by decide) (own := RX2) rfl (Nat.le_of_ble_eq_true rfl) ?_
  intro p l e R s m args below meth c Q ls hx hb hml hRf hRl hts hown hK hP hl hret
  have hl : lv_has ls 4 [(0, .ref (h 0)), (1, .int (nI w))] := hl
  have hq2 := hq.2
  refine lv_iconst (v := nI 0) hx hb dX2_walked_0 (by decide) ?_
  refine lv_istore_n (lv' := [(2, .int (nI 0)), (0, .ref (h 0)), (1, .int (nI w))]) hx hb dX2_walked_1 rfl hl (by decide) rfl (fun ls hl => ?_)
  refine lv_iconst (v := nI 0) hx hb dX2_walked_2 (by decide) ?_
  refine lv_istore_n (lv' := [(3, .int (nI 0)), (2, .int (nI 0)), (0, .ref (h 0)), (1, .int (nI w))]) hx hb dX2_walked_3 rfl hl (by decide) rfl (fun ls hl => ?_)
  have loop4 : ∀ (fu : Nat) (k : Nat), (k ≤ cl (r (58 + 14 * w + 3))) → (cl (r (58 + 14 * w + 3)) < k + fu) → ∀ (ls : Array Slot), lv_has ls 4 [(3, .int (nI k)), (2, .int (wkd r w k)), (0, .ref (h 0)), (1, .int (nI w))] → W p l e R s m args below meth c s.heap [] 0 0 Q (F0 m 4 ls []) := by
    intro fu
    induction fu with
    | zero =>
      intro k hk hf
      omega
    | succ fu ih4 =>
      intro k hk hf ls hl
      refine lv_iload_n hx hb dX2_walked_4 rfl (lv_at hl 0 rfl) ?_
      refine lv_aload_n hx hb dX2_walked_5 rfl (lv_at hl 2 rfl) ?_
      refine c_get (v := .ref (h 6)) hx hb hts in_X2 hown hK (hP 0 _ rfl) rfl 7 (by decide) q210 rfl rfl dX2_walked_6 ?_
      refine lv_iload_n hx hb dX2_walked_9 rfl (lv_at hl 3 rfl) ?_
      refine c_iald hx hb hK (hP 6 _ rfl) w ⟨by omega, by decide, rfl⟩ dX2_walked_10 ?_
      refine w_top (r (58 + 14 * w + 3)) (rfl) ?_
      refine w_top (nI (cl (r (58 + 14 * w + 3)))) (hq.1) ?_
      refine w_icmp_geN (tgt := 31) hx hb (by omega) (by omega) dX2_walked_11 (by decide) (fun c_1 => ?_) (fun c_1 => ?_)
      · refine lv_iload_n hx hb dX2_walked_31 rfl (lv_at hl 1 rfl) ?_
        exact hret (by rw [show k = cl (r (58 + 14 * w + 3)) by omega]) dX2_walked_32
      · refine lv_iload_n hx hb dX2_walked_14 rfl (lv_at hl 1 rfl) ?_
        refine lv_iconst (v := nI 1) hx hb dX2_walked_15 (by decide) ?_
        refine lv_aload_n hx hb dX2_walked_16 rfl (lv_at hl 2 rfl) ?_
        refine lv_iload_n hx hb dX2_walked_17 rfl (lv_at hl 3 rfl) ?_
        refine lv_iload_n hx hb dX2_walked_18 rfl (lv_at hl 0 rfl) ?_
        refine rd_callV (y := yX2_milkAt) hx hb hml hown hts hK ((mw_milkAt r w k (by omega) (by omega)) D dA h cw tx _) hP (cAt.recv hK (hP 0 _ rfl) rfl) q582 q583 q584 q66 q585 ndX2_milkAt rfl (by rw [hRf]; decide) (by rw [hRl]; decide) (Nat.zero_le _) (Nat.zero_le _) hl.1 rfl (Nat.le_of_ble_eq_true rfl) dX2_walked_19 ?_
        refine lv_ishl hx hb dX2_walked_22 ?_
        refine lv_ior hx hb dX2_walked_23 ?_
        refine w_top (wkd r w (k + 1)) (rfl) ?_
        refine lv_istore_n (lv' := [(2, .int (wkd r w (k + 1))), (3, .int (nI k)), (0, .ref (h 0)), (1, .int (nI w))]) hx hb dX2_walked_24 rfl hl (by decide) rfl (fun ls hl => ?_)
        refine lv_iinc (v := nI (k + 1)) (lv' := [(3, .int (nI (k + 1))), (2, .int (wkd r w (k + 1))), (0, .ref (h 0)), (1, .int (nI w))]) hx hb dX2_walked_25 hl (k := 1) rfl (by rw [show Int32.ofInt 1 = nI 1 from by decide]; exact nI_add _ _) (by decide) rfl (fun ls hl => ?_)
        refine lv_goto (tgt := 4) hx hb dX2_walked_28 (by decide) ?_
        exact ih4 (k + 1) (by omega) (by omega) ls (lv_sub hl [0, 1, 2, 3] rfl)
  exact loop4 (cl (r (58 + 14 * w + 3)) + 1) 0 (by omega) (by omega) ls (lv_sub hl [0, 1, 2, 3] rfl)
set_option maxHeartbeats 400000 in
theorem mw_allGrass (r : Nat → Int32)  : MwR yX2_allGrass cX2_allGrass 3 (some .int) 0 0 [] r (some (.int (sumG r 25))) := by
  intro D dA h cw tx nm
  refine Rd.ofI (by decide) (own := RX2) rfl (Nat.le_of_ble_eq_true rfl) ?_
  intro p l e R s m args below meth c Q ls hx hb hml hRf hRl hts hown hK hP hl hret
  have hl : lv_has ls 3 [(0, .ref (h 0))] := hl
  refine lv_iconst (v := nI 0) hx hb dX2_allGrass_0 (by decide) ?_
  refine lv_istore_n (lv' := [(1, .int (nI 0)), (0, .ref (h 0))]) hx hb dX2_allGrass_1 rfl hl (by decide) rfl (fun ls hl => ?_)
  refine lv_iconst (v := nI 0) hx hb dX2_allGrass_2 (by decide) ?_
  refine lv_istore_n (lv' := [(2, .int (nI 0)), (1, .int (nI 0)), (0, .ref (h 0))]) hx hb dX2_allGrass_3 rfl hl (by decide) rfl (fun ls hl => ?_)
  have loop4 : ∀ (fu : Nat) (k : Nat), (k ≤ 25) → (25 < k + fu) → ∀ (ls : Array Slot), lv_has ls 3 [(2, .int (nI k)), (1, .int (sumG r k)), (0, .ref (h 0))] → W p l e R s m args below meth c s.heap [] 0 0 Q (F0 m 4 ls []) := by
    intro fu
    induction fu with
    | zero =>
      intro k hk hf
      omega
    | succ fu ih4 =>
      intro k hk hf ls hl
      refine lv_iload_n hx hb dX2_allGrass_4 rfl (lv_at hl 0 rfl) ?_
      refine lv_bipush (v := nI 25) hx hb dX2_allGrass_5 (by decide) ?_
      refine w_icmp_geN (tgt := 25) hx hb (by omega) (by omega) dX2_allGrass_7 (by decide) (fun c_1 => ?_) (fun c_1 => ?_)
      · refine lv_iload_n hx hb dX2_allGrass_25 rfl (lv_at hl 1 rfl) ?_
        exact hret (by rw [show k = 25 by omega]) dX2_allGrass_26
      · refine lv_iload_n hx hb dX2_allGrass_10 rfl (lv_at hl 1 rfl) ?_
        refine lv_aload_n hx hb dX2_allGrass_11 rfl (lv_at hl 2 rfl) ?_
        refine c_get (v := .ref (h 2)) hx hb hts in_X2 hown hK (hP 0 _ rfl) rfl 1 (by decide) q199 rfl rfl dX2_allGrass_12 ?_
        refine lv_iload_n hx hb dX2_allGrass_15 rfl (lv_at hl 0 rfl) ?_
        refine c_iald hx hb hK (hP 2 _ rfl) k ⟨by omega, by decide, rfl⟩ dX2_allGrass_16 ?_
        refine w_top (r (33 + k)) (rfl) ?_
        refine lv_iadd hx hb dX2_allGrass_17 ?_
        refine w_top (sumG r (k + 1)) (rfl) ?_
        refine lv_istore_n (lv' := [(1, .int (sumG r (k + 1))), (2, .int (nI k)), (0, .ref (h 0))]) hx hb dX2_allGrass_18 rfl hl (by decide) rfl (fun ls hl => ?_)
        refine lv_iinc (v := nI (k + 1)) (lv' := [(2, .int (nI (k + 1))), (1, .int (sumG r (k + 1))), (0, .ref (h 0))]) hx hb dX2_allGrass_19 hl (k := 1) rfl (by rw [show Int32.ofInt 1 = nI 1 from by decide]; exact nI_add _ _) (by decide) rfl (fun ls hl => ?_)
        refine lv_goto (tgt := 4) hx hb dX2_allGrass_22 (by decide) ?_
        exact ih4 (k + 1) (by omega) (by omega) ls (lv_sub hl [0, 1, 2] rfl)
  exact loop4 26 0 (by omega) (by omega) ls (lv_sub hl [0, 1, 2] rfl)
theorem ndX2_held : yX2_held.cls ≠ "java/lang/invoke/MethodHandle" ∧ yX2_held.cls ≠ "java/lang/invoke/VarHandle" ∧ (parseMethodDescriptor yX2_held.desc).map (fun d => d.parameters.length) = some 3 := by decide +kernel

set_option maxHeartbeats 400000 in
theorem mw_drawnBy_t (r : Nat → Int32) (g k d : Int32) (hneg : ¬ r (6 + 0) < 0) : MwF yX2_drawnBy cX2_drawnBy 5 (some .int) 62 1420 [.int g, .int k, .int d] r (some (.int (lawV (rA r) 0 g k d))) r := by
  refine MwF.ofI (by decide) rfl (Nat.le_of_ble_eq_true rfl) ?_
  intro p l e R s m args below meth c Q D dA h cw tx nm tr ls hx hb hml hRf hRl hRc hRs hts hown hK hI hQ hM hl hret
  have hl : lv_has ls 5 [(0, .ref (h 0)), (1, .int g), (2, .int k), (3, .int d)] := hl
  refine lv_aload_n hx hb dX2_drawnBy_0 rfl (lv_at hl 0 rfl) ?_
  refine c_get (v := .ref (h 7)) hx hb hts in_X2 hown hK (hM.1 0 _ rfl) rfl 9 (by decide) q214 rfl rfl dX2_drawnBy_1 ?_
  refine lv_iconst (v := nI 0) hx hb dX2_drawnBy_4 (by decide) ?_
  obtain ⟨x, F, htx, hTm, hF⟩ := ((hQ.2 0 (by omega)).resolve_left (fun q => hneg q.1)).2
  refine c_aldq hx hb hK 4 rfl (hM.1 7 _ rfl) 0 ⟨by omega, by decide, rfl⟩ dX2_drawnBy_5 ?_
  refine w_topV (.ref x) (by rw [htx]; rfl) ?_
  refine lv_ifnonnull (tgt := 13) hx hb dX2_drawnBy_6 (by decide) ?_
  refine lv_aload_n hx hb dX2_drawnBy_13 rfl (lv_at hl 0 rfl) ?_
  refine c_get (v := .ref (h 7)) hx hb hts in_X2 hown hK (hM.1 0 _ rfl) rfl 9 (by decide) q214 rfl rfl dX2_drawnBy_14 ?_
  refine lv_iconst (v := nI 0) hx hb dX2_drawnBy_17 (by decide) ?_
  refine c_aldq hx hb hK 4 rfl (hM.1 7 _ rfl) 0 ⟨by omega, by decide, rfl⟩ dX2_drawnBy_18 ?_
  refine w_topV (.ref x) (by rw [htx]; rfl) ?_
  refine lv_aload_n hx hb dX2_drawnBy_19 rfl (lv_at hl 0 rfl) ?_
  refine c_get (v := .ref (h 10)) hx hb hts in_X2 hown hK (hM.1 0 _ rfl) rfl 15 (by decide) q226 rfl rfl dX2_drawnBy_20 ?_
  refine lv_bipush (v := nI 103) hx hb dX2_drawnBy_23 (by decide) ?_
  refine lv_iload_n hx hb dX2_drawnBy_25 rfl (lv_at hl 1 rfl) ?_
  refine mw_with hx hb hml hown hts hK hI hM 103 (by decide) q358 (by rw [hRf]; decide) (by rw [hRl]; decide) hl.1 (Nat.le_of_ble_eq_true rfl) dX2_drawnBy_26 (fun H locs hM => ?_)
  refine lv_bipush (v := nI 107) hx hb dX2_drawnBy_29 (by decide) ?_
  refine lv_iload_n hx hb dX2_drawnBy_31 rfl (lv_at hl 2 rfl) ?_
  refine mw_with hx hb hml hown hts hK hI hM 107 (by decide) q358 (by rw [hRf]; decide) (by rw [hRl]; decide) hl.1 (Nat.le_of_ble_eq_true rfl) dX2_drawnBy_32 (fun H locs hM => ?_)
  refine lv_bipush (v := nI 100) hx hb dX2_drawnBy_35 (by decide) ?_
  refine lv_iload_n hx hb dX2_drawnBy_37 rfl (lv_at hl 3 rfl) ?_
  refine mw_with hx hb hml hown hts hK hI hM 100 (by decide) q358 (by rw [hRf]; decide) (by rw [hRl]; decide) hl.1 (Nat.le_of_ble_eq_true rfl) dX2_drawnBy_38 (fun H locs hM => ?_)
  refine tm_row D dA _ (h 10) (h 11) (upd (upd (upd nm 103 g) 107 k) 100 d) 60 x F p l e R s m args below meth c _ _ _ _ Q _ _ ls _ _ _ _ hx hb hml hown hts hK ⟨hTm.to (fun q h1 h2 => ⟨h2, hM.2.2.2.1 q h1 h2⟩) 60 x F, hM.1 10 _ rfl, hM.1 11 _ rfl⟩ q362 (by rw [hRf]; decide) (by rw [hRl]; decide) (Nat.zero_le _) (Nat.zero_le _) hl.1 (Nat.le_of_ble_eq_true rfl) dX2_drawnBy_41 ?_
  refine lv_istore (lv' := [(4, .int (F (upd (upd (upd nm 103 g) 107 k) 100 d))), (0, .ref (h 0)), (1, .int g), (2, .int k), (3, .int d)]) hx hb dX2_drawnBy_44 hl (by decide) rfl (fun ls hl => ?_)
  refine lv_iload hx hb dX2_drawnBy_46 (lv_at hl 0 rfl) ?_
  refine lv_sipush (v := (-999 : Int32)) hx hb dX2_drawnBy_48 (by decide) ?_
  refine lv_sipush (v := nI 999) hx hb dX2_drawnBy_51 (by decide) ?_
  refine st_callS (y := yX2_held) hx hb hml hown hts (cmX2_held (F (upd (upd (upd nm 103 g) 107 k) 100 d)) (-999 : Int32) (nI 999) (by decide)) q382 q383 q66 q384 ndX2_held rfl (by rw [hRf]; decide) (by rw [hRl]; decide) (Nat.zero_le _) (Nat.zero_le _) hl.1 rfl (Nat.le_of_ble_eq_true rfl) dX2_drawnBy_54 ?_
  exact hret hM (by rw [hF]; unfold lawV txV; rw [if_neg hneg]; rfl) dX2_drawnBy_57
set_option maxHeartbeats 400000 in
theorem mw_drawnBy_n (r : Nat → Int32) (g k d : Int32) (hneg : r (6 + 0) < 0) : MwF yX2_drawnBy cX2_drawnBy 5 (some .int) 62 1420 [.int g, .int k, .int d] r (some (.int (lawV (rA r) 0 g k d))) r := by
  refine MwF.ofI (by decide) rfl (Nat.le_of_ble_eq_true rfl) ?_
  intro p l e R s m args below meth c Q D dA h cw tx nm tr ls hx hb hml hRf hRl hRc hRs hts hown hK hI hQ hM hl hret
  have hl : lv_has ls 5 [(0, .ref (h 0)), (1, .int g), (2, .int k), (3, .int d)] := hl
  refine lv_aload_n hx hb dX2_drawnBy_0 rfl (lv_at hl 0 rfl) ?_
  refine c_get (v := .ref (h 7)) hx hb hts in_X2 hown hK (hM.1 0 _ rfl) rfl 9 (by decide) q214 rfl rfl dX2_drawnBy_1 ?_
  refine lv_iconst (v := nI 0) hx hb dX2_drawnBy_4 (by decide) ?_
  have htx : tx 0 = none := ((hQ.2 0 (by omega)).resolve_right (fun q => q.1 hneg)).2
  refine c_aldq hx hb hK 4 rfl (hM.1 7 _ rfl) 0 ⟨by omega, by decide, rfl⟩ dX2_drawnBy_5 ?_
  refine w_topV .null (by rw [htx]; rfl) ?_
  refine lv_ifnonnullN hx hb dX2_drawnBy_6 ?_
  refine lv_iload_n hx hb dX2_drawnBy_9 rfl (lv_at hl 1 rfl) ?_
  refine lv_goto (tgt := 44) hx hb dX2_drawnBy_10 (by decide) ?_
  refine lv_istore (lv' := [(4, .int g), (0, .ref (h 0)), (1, .int g), (2, .int k), (3, .int d)]) hx hb dX2_drawnBy_44 hl (by decide) rfl (fun ls hl => ?_)
  refine lv_iload hx hb dX2_drawnBy_46 (lv_at hl 0 rfl) ?_
  refine lv_sipush (v := (-999 : Int32)) hx hb dX2_drawnBy_48 (by decide) ?_
  refine lv_sipush (v := nI 999) hx hb dX2_drawnBy_51 (by decide) ?_
  refine st_callS (y := yX2_held) hx hb hml hown hts (cmX2_held g (-999 : Int32) (nI 999) (by decide)) q382 q383 q66 q384 ndX2_held rfl (by rw [hRf]; decide) (by rw [hRl]; decide) (Nat.zero_le _) (Nat.zero_le _) hl.1 rfl (Nat.le_of_ble_eq_true rfl) dX2_drawnBy_54 ?_
  exact hret hM (by unfold lawV; rw [if_pos hneg]; rfl) dX2_drawnBy_57
theorem mw_drawnBy (r : Nat → Int32) (g k d : Int32) : MwF yX2_drawnBy cX2_drawnBy 5 (some .int) 62 1420 [.int g, .int k, .int d] r (some (.int (lawV (rA r) 0 g k d))) r := by
  by_cases hneg : r (6 + 0) < 0
  · exact mw_drawnBy_n r g k d hneg
  · exact mw_drawnBy_t r g k d hneg
set_option maxHeartbeats 400000 in
theorem mw_tasteBy_t (r : Nat → Int32) (k a n : Int32) (hneg : ¬ r (6 + 1) < 0) : MwF yX2_tasteBy cX2_tasteBy 5 (some .int) 62 1420 [.int k, .int a, .int n] r (some (.int (lawV (rA r) 1 k a n))) r := by
  refine MwF.ofI (by decide) rfl (Nat.le_of_ble_eq_true rfl) ?_
  intro p l e R s m args below meth c Q D dA h cw tx nm tr ls hx hb hml hRf hRl hRc hRs hts hown hK hI hQ hM hl hret
  have hl : lv_has ls 5 [(0, .ref (h 0)), (1, .int k), (2, .int a), (3, .int n)] := hl
  refine lv_aload_n hx hb dX2_tasteBy_0 rfl (lv_at hl 0 rfl) ?_
  refine c_get (v := .ref (h 7)) hx hb hts in_X2 hown hK (hM.1 0 _ rfl) rfl 9 (by decide) q214 rfl rfl dX2_tasteBy_1 ?_
  refine lv_iconst (v := nI 1) hx hb dX2_tasteBy_4 (by decide) ?_
  obtain ⟨x, F, htx, hTm, hF⟩ := ((hQ.2 1 (by omega)).resolve_left (fun q => hneg q.1)).2
  refine c_aldq hx hb hK 4 rfl (hM.1 7 _ rfl) 1 ⟨by omega, by decide, rfl⟩ dX2_tasteBy_5 ?_
  refine w_topV (.ref x) (by rw [htx]; rfl) ?_
  refine lv_ifnonnull (tgt := 18) hx hb dX2_tasteBy_6 (by decide) ?_
  refine lv_aload_n hx hb dX2_tasteBy_18 rfl (lv_at hl 0 rfl) ?_
  refine c_get (v := .ref (h 7)) hx hb hts in_X2 hown hK (hM.1 0 _ rfl) rfl 9 (by decide) q214 rfl rfl dX2_tasteBy_19 ?_
  refine lv_iconst (v := nI 1) hx hb dX2_tasteBy_22 (by decide) ?_
  refine c_aldq hx hb hK 4 rfl (hM.1 7 _ rfl) 1 ⟨by omega, by decide, rfl⟩ dX2_tasteBy_23 ?_
  refine w_topV (.ref x) (by rw [htx]; rfl) ?_
  refine lv_aload_n hx hb dX2_tasteBy_24 rfl (lv_at hl 0 rfl) ?_
  refine c_get (v := .ref (h 10)) hx hb hts in_X2 hown hK (hM.1 0 _ rfl) rfl 15 (by decide) q226 rfl rfl dX2_tasteBy_25 ?_
  refine lv_bipush (v := nI 107) hx hb dX2_tasteBy_28 (by decide) ?_
  refine lv_iload_n hx hb dX2_tasteBy_30 rfl (lv_at hl 1 rfl) ?_
  refine mw_with hx hb hml hown hts hK hI hM 107 (by decide) q358 (by rw [hRf]; decide) (by rw [hRl]; decide) hl.1 (Nat.le_of_ble_eq_true rfl) dX2_tasteBy_31 (fun H locs hM => ?_)
  refine lv_bipush (v := nI 97) hx hb dX2_tasteBy_34 (by decide) ?_
  refine lv_iload_n hx hb dX2_tasteBy_36 rfl (lv_at hl 2 rfl) ?_
  refine mw_with hx hb hml hown hts hK hI hM 97 (by decide) q358 (by rw [hRf]; decide) (by rw [hRl]; decide) hl.1 (Nat.le_of_ble_eq_true rfl) dX2_tasteBy_37 (fun H locs hM => ?_)
  refine lv_bipush (v := nI 110) hx hb dX2_tasteBy_40 (by decide) ?_
  refine lv_iload_n hx hb dX2_tasteBy_42 rfl (lv_at hl 3 rfl) ?_
  refine mw_with hx hb hml hown hts hK hI hM 110 (by decide) q358 (by rw [hRf]; decide) (by rw [hRl]; decide) hl.1 (Nat.le_of_ble_eq_true rfl) dX2_tasteBy_43 (fun H locs hM => ?_)
  refine tm_row D dA _ (h 10) (h 11) (upd (upd (upd nm 107 k) 97 a) 110 n) 60 x F p l e R s m args below meth c _ _ _ _ Q _ _ ls _ _ _ _ hx hb hml hown hts hK ⟨hTm.to (fun q h1 h2 => ⟨h2, hM.2.2.2.1 q h1 h2⟩) 60 x F, hM.1 10 _ rfl, hM.1 11 _ rfl⟩ q362 (by rw [hRf]; decide) (by rw [hRl]; decide) (Nat.zero_le _) (Nat.zero_le _) hl.1 (Nat.le_of_ble_eq_true rfl) dX2_tasteBy_46 ?_
  refine lv_istore (lv' := [(4, .int (F (upd (upd (upd nm 107 k) 97 a) 110 n))), (0, .ref (h 0)), (1, .int k), (2, .int a), (3, .int n)]) hx hb dX2_tasteBy_49 hl (by decide) rfl (fun ls hl => ?_)
  refine lv_iload hx hb dX2_tasteBy_51 (lv_at hl 0 rfl) ?_
  refine lv_iconst (v := nI 0) hx hb dX2_tasteBy_53 (by decide) ?_
  refine lv_bipush (v := nI 99) hx hb dX2_tasteBy_54 (by decide) ?_
  refine st_callS (y := yX2_held) hx hb hml hown hts (cmX2_held (F (upd (upd (upd nm 107 k) 97 a) 110 n)) (nI 0) (nI 99) (by decide)) q382 q383 q66 q384 ndX2_held rfl (by rw [hRf]; decide) (by rw [hRl]; decide) (Nat.zero_le _) (Nat.zero_le _) hl.1 rfl (Nat.le_of_ble_eq_true rfl) dX2_tasteBy_56 ?_
  exact hret hM (by rw [hF]; unfold lawV txV; rw [if_neg hneg]; rfl) dX2_tasteBy_59
set_option maxHeartbeats 400000 in
theorem mw_tasteBy_n (r : Nat → Int32) (k a n : Int32) (hneg : r (6 + 1) < 0) : MwF yX2_tasteBy cX2_tasteBy 5 (some .int) 62 1420 [.int k, .int a, .int n] r (some (.int (lawV (rA r) 1 k a n))) r := by
  refine MwF.ofI (by decide) rfl (Nat.le_of_ble_eq_true rfl) ?_
  intro p l e R s m args below meth c Q D dA h cw tx nm tr ls hx hb hml hRf hRl hRc hRs hts hown hK hI hQ hM hl hret
  have hl : lv_has ls 5 [(0, .ref (h 0)), (1, .int k), (2, .int a), (3, .int n)] := hl
  refine lv_aload_n hx hb dX2_tasteBy_0 rfl (lv_at hl 0 rfl) ?_
  refine c_get (v := .ref (h 7)) hx hb hts in_X2 hown hK (hM.1 0 _ rfl) rfl 9 (by decide) q214 rfl rfl dX2_tasteBy_1 ?_
  refine lv_iconst (v := nI 1) hx hb dX2_tasteBy_4 (by decide) ?_
  have htx : tx 1 = none := ((hQ.2 1 (by omega)).resolve_right (fun q => q.1 hneg)).2
  refine c_aldq hx hb hK 4 rfl (hM.1 7 _ rfl) 1 ⟨by omega, by decide, rfl⟩ dX2_tasteBy_5 ?_
  refine w_topV .null (by rw [htx]; rfl) ?_
  refine lv_ifnonnullN hx hb dX2_tasteBy_6 ?_
  refine lv_bipush (v := nI 10) hx hb dX2_tasteBy_9 (by decide) ?_
  refine lv_iload_n hx hb dX2_tasteBy_11 rfl (lv_at hl 2 rfl) ?_
  refine lv_iconst (v := nI 2) hx hb dX2_tasteBy_12 (by decide) ?_
  refine lv_imul hx hb dX2_tasteBy_13 ?_
  refine lv_isub hx hb dX2_tasteBy_14 ?_
  refine lv_goto (tgt := 49) hx hb dX2_tasteBy_15 (by decide) ?_
  refine lv_istore (lv' := [(4, .int ((nI 10) - (a * (nI 2)))), (0, .ref (h 0)), (1, .int k), (2, .int a), (3, .int n)]) hx hb dX2_tasteBy_49 hl (by decide) rfl (fun ls hl => ?_)
  refine lv_iload hx hb dX2_tasteBy_51 (lv_at hl 0 rfl) ?_
  refine lv_iconst (v := nI 0) hx hb dX2_tasteBy_53 (by decide) ?_
  refine lv_bipush (v := nI 99) hx hb dX2_tasteBy_54 (by decide) ?_
  refine st_callS (y := yX2_held) hx hb hml hown hts (cmX2_held ((nI 10) - (a * (nI 2))) (nI 0) (nI 99) (by decide)) q382 q383 q66 q384 ndX2_held rfl (by rw [hRf]; decide) (by rw [hRl]; decide) (Nat.zero_le _) (Nat.zero_le _) hl.1 rfl (Nat.le_of_ble_eq_true rfl) dX2_tasteBy_56 ?_
  exact hret hM (by unfold lawV; rw [if_pos hneg]; rfl) dX2_tasteBy_59
theorem mw_tasteBy (r : Nat → Int32) (k a n : Int32) : MwF yX2_tasteBy cX2_tasteBy 5 (some .int) 62 1420 [.int k, .int a, .int n] r (some (.int (lawV (rA r) 1 k a n))) r := by
  by_cases hneg : r (6 + 1) < 0
  · exact mw_tasteBy_n r k a n hneg
  · exact mw_tasteBy_t r k a n hneg
theorem ndX2_drawnBy : yX2_drawnBy.cls = RX2 ∧ yX2_drawnBy.cls ≠ "java/lang/invoke/MethodHandle" ∧ yX2_drawnBy.cls ≠ "java/lang/invoke/VarHandle" ∧ (parseMethodDescriptor yX2_drawnBy.desc).map (fun d => d.parameters.length) = some 3 := by decide +kernel

set_option maxHeartbeats 400000 in
theorem mw_draws (r : Nat → Int32) (c0 : Nat) (hc : c0 < 25) (hN : cl (r 3) ≤ 5) : MwF yX2_draws cX2_draws 2 (some .int) 63 1444 [.int (nI c0)] r (some (.int (drwV (rA r) c0))) r := by
  refine MwF.ofI (by decide) rfl (Nat.le_of_ble_eq_true rfl) ?_
  intro p l e R s m args below meth c Q D dA h cw tx nm tr ls hx hb hml hRf hRl hRc hRs hts hown hK hI hQ hM hl hret
  have hl : lv_has ls 2 [(0, .ref (h 0)), (1, .int (nI c0))] := hl
  refine lv_aload_n hx hb dX2_draws_0 rfl (lv_at hl 0 rfl) ?_
  refine lv_aload_n hx hb dX2_draws_1 rfl (lv_at hl 0 rfl) ?_
  refine c_get (v := .ref (h 2)) hx hb hts in_X2 hown hK (hM.1 0 _ rfl) rfl 1 (by decide) q199 rfl rfl dX2_draws_2 ?_
  refine lv_iload_n hx hb dX2_draws_5 rfl (lv_at hl 1 rfl) ?_
  refine c_iald hx hb hK (hM.1 2 _ rfl) c0 ⟨by omega, by decide, rfl⟩ dX2_draws_6 ?_
  refine w_top (r (33 + c0)) (rfl) ?_
  refine lv_aload_n hx hb dX2_draws_7 rfl (lv_at hl 0 rfl) ?_
  refine c_get (v := .ref (h 1)) hx hb hts in_X2 hown hK (hM.1 0 _ rfl) rfl 0 (by decide) q197 rfl rfl dX2_draws_8 ?_
  refine lv_iload_n hx hb dX2_draws_11 rfl (lv_at hl 1 rfl) ?_
  refine c_iald hx hb hK (hM.1 1 _ rfl) c0 ⟨by omega, by decide, rfl⟩ dX2_draws_12 ?_
  refine w_top (r (8 + c0)) (rfl) ?_
  refine lv_aload_n hx hb dX2_draws_13 rfl (lv_at hl 0 rfl) ?_
  refine c_get (v := .int (r 0)) hx hb hts in_X2 hown hK (hM.1 0 _ rfl) rfl 8 (by decide) q212 rfl rfl dX2_draws_14 ?_
  refine mw_call (y := yX2_drawnBy) (tr := tr) hx hb hml hown hts hK hI hM (hQ.at hN mwEq.rf hM.2.2) (mw_drawnBy r (r (33 + c0)) (r (8 + c0)) (r 0)) q354 q355 q356 q357 ndX2_drawnBy rfl (by rw [hRf]; decide) (by rw [hRl]; decide) hl.1 rfl (Nat.le_of_ble_eq_true rfl) dX2_draws_17 (fun H locs nm hM => ?_)
  exact hret hM (by first | rfl | (simp only [iI, nI_0, nI_one]; grind)) dX2_draws_20
