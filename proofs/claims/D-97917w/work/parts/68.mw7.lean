/-! the meadow: days (printed by comp8.py) -/
set_option maxRecDepth 100000
theorem ndX2_walked : yX2_walked.cls = RX2 ∧ yX2_walked.cls ≠ "java/lang/invoke/MethodHandle" ∧ yX2_walked.cls ≠ "java/lang/invoke/VarHandle" ∧ (parseMethodDescriptor yX2_walked.desc).map (fun d => d.parameters.length) = some 1 := by decide +kernel
theorem ndX2_next : yX2_next.cls ≠ "java/lang/invoke/MethodHandle" ∧ yX2_next.cls ≠ "java/lang/invoke/VarHandle" ∧ (parseMethodDescriptor yX2_next.desc).map (fun d => d.parameters.length) = some 2 := by decide +kernel
theorem ndX2_draws : yX2_draws.cls = RX2 ∧ yX2_draws.cls ≠ "java/lang/invoke/MethodHandle" ∧ yX2_draws.cls ≠ "java/lang/invoke/VarHandle" ∧ (parseMethodDescriptor yX2_draws.desc).map (fun d => d.parameters.length) = some 1 := by decide +kernel

set_option maxHeartbeats 400000 in
theorem mw_wayOf (r : Nat → Int32) (hR : okR r) (i t0 : Nat) (hi : i < cl (r 3)) (ht : t0 < 25) : MwF yX2_wayOf cX2_wayOf 9 (some .int) 64 1465 [.int (nI i), .int (nI t0)] r (some (.int (nI (wayS r i t0 4).1))) r := by
  refine MwF.ofI (by decide) rfl (Nat.le_of_ble_eq_true rfl) ?_
  intro p l e R s m args below meth c Q D dA h cw tx nm tr ls hx hb hml hRf hRl hRc hRs hts hown hK hI hQ hM hl hret
  have hl : lv_has ls 9 [(0, .ref (h 0)), (1, .int (nI i)), (2, .int (nI t0))] := hl
  have hN := hR.2.1.2
  obtain ⟨hkd, -, -, hq, hmk⟩ := okR_cow hR (show i < 5 by omega)
  have hq2 := hq.2
  refine lv_aload_n hx hb dX2_wayOf_0 rfl (lv_at hl 0 rfl) ?_
  refine lv_iload_n hx hb dX2_wayOf_1 rfl (lv_at hl 1 rfl) ?_
  refine rd_callV (y := yX2_walked) hx hb hml hown hts hK ((mw_walked r i (by omega) hq) D dA h cw tx _) hM.1 (cAt.recv hK (hM.1 0 _ rfl) rfl) q578 q579 q580 q66 q581 ndX2_walked rfl (by rw [hRf]; decide) (by rw [hRl]; decide) (Nat.zero_le _) (Nat.zero_le _) hl.1 rfl (Nat.le_of_ble_eq_true rfl) dX2_wayOf_2 ?_
  refine lv_istore_n (lv' := [(3, .int (wkd r i (cl (r (58 + 14 * i + 3))))), (0, .ref (h 0)), (1, .int (nI i)), (2, .int (nI t0))]) hx hb dX2_wayOf_5 rfl hl (by decide) rfl (fun ls hl => ?_)
  refine lv_iconst (v := nI 0) hx hb dX2_wayOf_6 (by decide) ?_
  refine lv_istore (lv' := [(4, .int (nI 0)), (3, .int (wkd r i (cl (r (58 + 14 * i + 3))))), (0, .ref (h 0)), (1, .int (nI i)), (2, .int (nI t0))]) hx hb dX2_wayOf_7 hl (by decide) rfl (fun ls hl => ?_)
  refine lv_iconst (v := nI 0) hx hb dX2_wayOf_9 (by decide) ?_
  refine lv_istore (lv' := [(5, .int (nI 0)), (4, .int (nI 0)), (3, .int (wkd r i (cl (r (58 + 14 * i + 3))))), (0, .ref (h 0)), (1, .int (nI i)), (2, .int (nI t0))]) hx hb dX2_wayOf_10 hl (by decide) rfl (fun ls hl => ?_)
  refine lv_iconst (v := nI 0) hx hb dX2_wayOf_12 (by decide) ?_
  refine lv_istore (lv' := [(6, .int (nI 0)), (5, .int (nI 0)), (4, .int (nI 0)), (3, .int (wkd r i (cl (r (58 + 14 * i + 3))))), (0, .ref (h 0)), (1, .int (nI i)), (2, .int (nI t0))]) hx hb dX2_wayOf_13 hl (by decide) rfl (fun ls hl => ?_)
  have loop15 : ∀ (fu : Nat) (k : Nat), (k ≤ 5) → (5 < k + fu) → ∀ (nm : Nat → Int32) (H : Heap) (locs : List Loc), mwH D h dA s.heap H locs r cw tx nm → ∀ (ls : Array Slot), lv_has ls 9 [(6, .int (nI k)), (5, .int ((wyS r i t0 k).2)), (4, .int (nI ((wyS r i t0 k).1))), (3, .int (wkd r i (cl (r (58 + 14 * i + 3))))), (0, .ref (h 0)), (1, .int (nI i)), (2, .int (nI t0))] → W p l e R s m args below meth c H locs 0 0 Q (F0 m 15 ls []) := by
    intro fu
    induction fu with
    | zero =>
      intro k hk hf
      omega
    | succ fu ih15 =>
      intro k hk hf nm H locs hM ls hl
      refine lv_iload hx hb dX2_wayOf_15 (lv_at hl 0 rfl) ?_
      refine lv_iconst (v := nI 5) hx hb dX2_wayOf_17 (by decide) ?_
      refine w_icmp_geN (tgt := 123) hx hb (by omega) (by omega) dX2_wayOf_18 (by decide) (fun c_1 => ?_) (fun c_1 => ?_)
      · refine lv_iload hx hb dX2_wayOf_123 (lv_at hl 2 rfl) ?_
        exact hret hM (by rw [show k = 5 by omega]; rfl) dX2_wayOf_125
      · refine lv_iload_n hx hb dX2_wayOf_21 rfl (lv_at hl 6 rfl) ?_
        refine lv_iload hx hb dX2_wayOf_22 (lv_at hl 0 rfl) ?_
        refine st_callS (y := yX2_next) hx hb hml hown hts (cmX2_next t0 k (by omega) (by omega)) q586 q587 q66 q588 ndX2_next rfl (by rw [hRf]; decide) (by rw [hRl]; decide) (Nat.zero_le _) (Nat.zero_le _) hl.1 rfl (Nat.le_of_ble_eq_true rfl) dX2_wayOf_24 ?_
        refine lv_istore (lv' := [(7, .int (oI (nxt t0 k))), (6, .int (nI k)), (5, .int ((wyS r i t0 k).2)), (4, .int (nI ((wyS r i t0 k).1))), (3, .int (wkd r i (cl (r (58 + 14 * i + 3))))), (0, .ref (h 0)), (1, .int (nI i)), (2, .int (nI t0))]) hx hb dX2_wayOf_27 hl (by decide) rfl (fun ls hl => ?_)
        refine lv_iload hx hb dX2_wayOf_29 (lv_at hl 0 rfl) ?_
        refine lv_iconst (v := (-1 : Int32)) hx hb dX2_wayOf_31 (by decide) ?_
        refine lv_icmp_eq (tgt := 117) hx hb dX2_wayOf_32 (by decide) (fun c_2 => ?_) (fun c_2 => ?_)
        · have hws : wyS r i t0 (k + 1) = wyS r i t0 k := wyS_n (oI_neg (by rw [c_2]; decide) (fun z hz => by have := nxt_lt (by omega) hz; omega))
          refine lv_iinc (v := nI (k + 1)) (lv' := [(6, .int (nI (k + 1))), (7, .int (oI (nxt t0 k))), (5, .int ((wyS r i t0 k).2)), (4, .int (nI ((wyS r i t0 k).1))), (3, .int (wkd r i (cl (r (58 + 14 * i + 3))))), (0, .ref (h 0)), (1, .int (nI i)), (2, .int (nI t0))]) hx hb dX2_wayOf_117 hl (k := 1) rfl (by rw [show Int32.ofInt 1 = nI 1 from by decide]; exact nI_add _ _) (by decide) rfl (fun ls hl => ?_)
          refine lv_goto (tgt := 15) hx hb dX2_wayOf_120 (by decide) ?_
          exact ih15 (k + 1) (by omega) (by omega) _ _ _ hM ls (by rw [hws]; exact lv_sub hl [0, 2, 3, 4, 5, 6, 7] rfl)
        · obtain ⟨c2, hc1, hc2⟩ := oI_ne c_2
          have hc3 := nxt_lt (by omega) hc1
          refine lv_aload_n hx hb dX2_wayOf_35 rfl (lv_at hl 5 rfl) ?_
          refine c_get (v := .ref (h 3)) hx hb hts in_X2 hown hK (hM.1 0 _ rfl) rfl 4 (by decide) q205 rfl rfl dX2_wayOf_36 ?_
          refine lv_iload_n hx hb dX2_wayOf_39 rfl (lv_at hl 6 rfl) ?_
          obtain ⟨x, hx1, hx2, hx3⟩ := hQ.1 i hi
          refine c_aldq hx hb hK 3 rfl (hM.1 3 _ rfl) i ⟨by omega, by decide, rfl⟩ dX2_wayOf_40 ?_
          refine w_topV (.ref x) (by rw [hx1]; rfl) ?_
          refine lv_aload_n hx hb dX2_wayOf_41 rfl (lv_at hl 5 rfl) ?_
          refine lv_iload hx hb dX2_wayOf_42 (lv_at hl 0 rfl) ?_
          refine w_top (nI c2) (hc2) ?_
          refine mw_call (y := yX2_draws) (tr := tr) hx hb hml hown hts hK hI hM (hQ.at hN mwEq.rf hM.2.2) (mw_draws r c2 (by omega) hN) q589 q351 q352 q353 ndX2_draws rfl (by rw [hRf]; decide) (by rw [hRl]; decide) hl.1 rfl (Nat.le_of_ble_eq_true rfl) dX2_wayOf_44 (fun H locs nm hM => ?_)
          refine lv_aload_n hx hb dX2_wayOf_47 rfl (lv_at hl 5 rfl) ?_
          refine c_get (v := .ref (h 1)) hx hb hts in_X2 hown hK (hM.1 0 _ rfl) rfl 0 (by decide) q197 rfl rfl dX2_wayOf_48 ?_
          refine lv_iload hx hb dX2_wayOf_51 (lv_at hl 0 rfl) ?_
          refine w_top (nI c2) (hc2) ?_
          refine c_iald hx hb hK (hM.1 1 _ rfl) c2 ⟨by omega, by decide, rfl⟩ dX2_wayOf_53 ?_
          refine w_top (r (8 + c2)) (rfl) ?_
          refine lv_iload_n hx hb dX2_wayOf_54 rfl (lv_at hl 4 rfl) ?_
          refine lv_iload hx hb dX2_wayOf_55 (lv_at hl 0 rfl) ?_
          refine w_top (nI c2) (hc2) ?_
          have nq := hK.M 6 rfl
          refine st_callN (y := yX0_hasBit) hx hb hml hown hts (cmX0_hasBit (wkd r i (cl (r (58 + 14 * i + 3)))) c2) nq q591 q61 q592 ndX0_hasBit rfl (by rw [hRf]; decide) (by rw [hRl]; decide) (Nat.zero_le _) (Nat.zero_le _) hl.1 rfl (Nat.le_of_ble_eq_true rfl) dX2_wayOf_57 ?_
          refine lv_iload hx hb dX2_wayOf_60 (lv_at hl 1 rfl) ?_
          have j70 : ∀ (nm : Nat → Int32) (H : Heap) (locs : List Loc), mwH D h dA s.heap H locs r cw tx nm → ∀ (ls : Array Slot), lv_has ls 9 [(7, .int (oI (nxt t0 k))), (6, .int (nI k)), (5, .int ((wyS r i t0 k).2)), (4, .int (nI ((wyS r i t0 k).1))), (3, .int (wkd r i (cl (r (58 + 14 * i + 3))))), (0, .ref (h 0)), (1, .int (nI i)), (2, .int (nI t0))] → W p l e R s m args below meth c H locs 0 0 Q (F0 m 70 ls [.int (iI (k = 0)), .int (iI (btI (wkd r i (cl (r (58 + 14 * i + 3)))) c2 = nI 1)), .int (r (8 + c2)), .int (drwV (rA r) c2), .ref x]) := by
            intro   nm H locs hM ls hl
            refine cv_wanted hx hb hml hown hts hK q593 (cl (r (58 + 14 * i + 0))) (hkd.2) x tr i (r (58 + 14 * i + 1)) (drwV (rA r) c2) (r (8 + c2)) (btI (wkd r i (cl (r (58 + 14 * i + 3)))) c2 = nI 1) (k = 0) (hx3.kept (hM.2.2.2.1 x hx3.lt hx2)) (by rw [hRf]; decide) (by rw [hRl]; decide) (Nat.zero_le _) (Nat.zero_le _) hl.1 (Nat.le_of_ble_eq_true rfl) dX2_wayOf_70 ?_
            refine w_top (wantV r i c2 (decide (k = 0))) (wnt_want hkd hc3 hq hmk) ?_
            refine lv_istore (lv' := [(8, .int (wantV r i c2 (decide (k = 0)))), (7, .int (oI (nxt t0 k))), (6, .int (nI k)), (5, .int ((wyS r i t0 k).2)), (4, .int (nI ((wyS r i t0 k).1))), (3, .int (wkd r i (cl (r (58 + 14 * i + 3))))), (0, .ref (h 0)), (1, .int (nI i)), (2, .int (nI t0))]) hx hb dX2_wayOf_73 hl (by decide) rfl (fun ls hl => ?_)
            refine lv_iload hx hb dX2_wayOf_75 (lv_at hl 2 rfl) ?_
            have j94 : ∀ (nm : Nat → Int32) (H : Heap) (locs : List Loc), mwH D h dA s.heap H locs r cw tx nm → ∀ (ls : Array Slot), lv_has ls 9 [(8, .int (wantV r i c2 (decide (k = 0)))), (7, .int (oI (nxt t0 k))), (6, .int (nI k)), (5, .int ((wyS r i t0 k).2)), (4, .int (nI ((wyS r i t0 k).1))), (3, .int (wkd r i (cl (r (58 + 14 * i + 3))))), (0, .ref (h 0)), (1, .int (nI i)), (2, .int (nI t0))] → W p l e R s m args below meth c H locs 0 0 Q (F0 m 94 ls [.int (nI ((wyS r i t0 (k + 1)).1))]) := by
              intro   nm H locs hM ls hl
              refine lv_istore (lv' := [(4, .int (nI ((wyS r i t0 (k + 1)).1))), (8, .int (wantV r i c2 (decide (k = 0)))), (7, .int (oI (nxt t0 k))), (6, .int (nI k)), (5, .int ((wyS r i t0 k).2)), (3, .int (wkd r i (cl (r (58 + 14 * i + 3))))), (0, .ref (h 0)), (1, .int (nI i)), (2, .int (nI t0))]) hx hb dX2_wayOf_94 hl (by decide) rfl (fun ls hl => ?_)
              refine lv_iload hx hb dX2_wayOf_96 (lv_at hl 3 rfl) ?_
              have j115 : ∀ (nm : Nat → Int32) (H : Heap) (locs : List Loc), mwH D h dA s.heap H locs r cw tx nm → ∀ (ls : Array Slot), lv_has ls 9 [(4, .int (nI ((wyS r i t0 (k + 1)).1))), (8, .int (wantV r i c2 (decide (k = 0)))), (7, .int (oI (nxt t0 k))), (6, .int (nI k)), (5, .int ((wyS r i t0 k).2)), (3, .int (wkd r i (cl (r (58 + 14 * i + 3))))), (0, .ref (h 0)), (1, .int (nI i)), (2, .int (nI t0))] → W p l e R s m args below meth c H locs 0 0 Q (F0 m 115 ls [.int ((wyS r i t0 (k + 1)).2)]) := by
                intro   nm H locs hM ls hl
                refine lv_istore (lv' := [(5, .int ((wyS r i t0 (k + 1)).2)), (4, .int (nI ((wyS r i t0 (k + 1)).1))), (8, .int (wantV r i c2 (decide (k = 0)))), (7, .int (oI (nxt t0 k))), (6, .int (nI k)), (3, .int (wkd r i (cl (r (58 + 14 * i + 3))))), (0, .ref (h 0)), (1, .int (nI i)), (2, .int (nI t0))]) hx hb dX2_wayOf_115 hl (by decide) rfl (fun ls hl => ?_)
                refine lv_iinc (v := nI (k + 1)) (lv' := [(6, .int (nI (k + 1))), (5, .int ((wyS r i t0 (k + 1)).2)), (4, .int (nI ((wyS r i t0 (k + 1)).1))), (8, .int (wantV r i c2 (decide (k = 0)))), (7, .int (oI (nxt t0 k))), (3, .int (wkd r i (cl (r (58 + 14 * i + 3))))), (0, .ref (h 0)), (1, .int (nI i)), (2, .int (nI t0))]) hx hb dX2_wayOf_117 hl (k := 4) rfl (by rw [show Int32.ofInt 1 = nI 1 from by decide]; exact nI_add _ _) (by decide) rfl (fun ls hl => ?_)
                refine lv_goto (tgt := 15) hx hb dX2_wayOf_120 (by decide) ?_
                exact ih15 (k + 1) (by omega) (by omega) _ _ _ hM ls (lv_sub hl [0, 1, 2, 5, 6, 7, 8] rfl)
              refine w_if_eqN (tgt := 108) hx hb (by omega) dX2_wayOf_98 (by decide) (fun c_3 => ?_) (fun c_3 => ?_)
              · refine lv_iload hx hb dX2_wayOf_108 (lv_at hl 1 rfl) ?_
                refine lv_goto (tgt := 115) hx hb dX2_wayOf_110 (by decide) ?_
                refine w_top ((wyS r i t0 (k + 1)).2) (by rw [wyS_up hc1 (Or.inl (by omega))]) ?_
                exact j115   _ _ _ hM ls (lv_sub hl [0, 1, 2, 3, 4, 5, 6, 7, 8] rfl)
              · refine lv_iload hx hb dX2_wayOf_101 (lv_at hl 1 rfl) ?_
                refine lv_iload hx hb dX2_wayOf_103 (lv_at hl 4 rfl) ?_
                refine lv_icmp_le (tgt := 113) hx hb dX2_wayOf_105 (by decide) (fun c_4 => ?_) (fun c_4 => ?_)
                · refine lv_iload hx hb dX2_wayOf_113 (lv_at hl 4 rfl) ?_
                  refine w_top ((wyS r i t0 (k + 1)).2) (by rw [wyS_le (by omega) hc1 c_4]) ?_
                  exact j115   _ _ _ hM ls (lv_sub hl [0, 1, 2, 3, 4, 5, 6, 7, 8] rfl)
                · refine lv_iload hx hb dX2_wayOf_108 (lv_at hl 1 rfl) ?_
                  refine lv_goto (tgt := 115) hx hb dX2_wayOf_110 (by decide) ?_
                  refine w_top ((wyS r i t0 (k + 1)).2) (by rw [wyS_up hc1 (Or.inr c_4)]) ?_
                  exact j115   _ _ _ hM ls (lv_sub hl [0, 1, 2, 3, 4, 5, 6, 7, 8] rfl)
            refine w_if_eqN (tgt := 87) hx hb (by omega) dX2_wayOf_77 (by decide) (fun c_5 => ?_) (fun c_5 => ?_)
            · refine lv_iload hx hb dX2_wayOf_87 (lv_at hl 2 rfl) ?_
              refine lv_goto (tgt := 94) hx hb dX2_wayOf_89 (by decide) ?_
              refine w_top (nI ((wyS r i t0 (k + 1)).1)) (by rw [wyS_up hc1 (Or.inl (by omega))]) ?_
              exact j94   _ _ _ hM ls (lv_sub hl [0, 1, 2, 3, 4, 5, 6, 7, 8] rfl)
            · refine lv_iload hx hb dX2_wayOf_80 (lv_at hl 0 rfl) ?_
              refine lv_iload hx hb dX2_wayOf_82 (lv_at hl 3 rfl) ?_
              refine lv_icmp_le (tgt := 92) hx hb dX2_wayOf_84 (by decide) (fun c_6 => ?_) (fun c_6 => ?_)
              · refine lv_iload hx hb dX2_wayOf_92 (lv_at hl 4 rfl) ?_
                refine w_top (nI ((wyS r i t0 (k + 1)).1)) (by rw [wyS_le (by omega) hc1 c_6]) ?_
                exact j94   _ _ _ hM ls (lv_sub hl [0, 1, 2, 3, 4, 5, 6, 7, 8] rfl)
              · refine lv_iload hx hb dX2_wayOf_87 (lv_at hl 2 rfl) ?_
                refine lv_goto (tgt := 94) hx hb dX2_wayOf_89 (by decide) ?_
                refine w_top (nI ((wyS r i t0 (k + 1)).1)) (by rw [wyS_up hc1 (Or.inr c_6)]) ?_
                exact j94   _ _ _ hM ls (lv_sub hl [0, 1, 2, 3, 4, 5, 6, 7, 8] rfl)
          refine w_if_neN (tgt := 69) hx hb (by omega) dX2_wayOf_62 (by decide) (fun c_7 => ?_) (fun c_7 => ?_)
          · refine lv_iconst (v := nI 0) hx hb dX2_wayOf_69 (by decide) ?_
            refine w_top (iI (k = 0)) (iI_0 (by omega)) ?_
            exact j70   _ _ _ hM ls (lv_sub hl [0, 1, 2, 3, 4, 5, 6, 7] rfl)
          · refine lv_iconst (v := nI 1) hx hb dX2_wayOf_65 (by decide) ?_
            refine lv_goto (tgt := 70) hx hb dX2_wayOf_66 (by decide) ?_
            refine w_top (iI (k = 0)) (iI_1 (by omega)) ?_
            exact j70   _ _ _ hM ls (lv_sub hl [0, 1, 2, 3, 4, 5, 6, 7] rfl)
  exact loop15 6 0 (by omega) (by omega) _ _ _ hM ls (lv_sub hl [0, 1, 2, 3, 4, 5, 6] rfl)
set_option maxHeartbeats 400000 in
theorem mw_remembers (r : Nat → Int32) (hR : okR r) (i : Nat) (hi : i < cl (r 3)) : MwF yX2_remembers cX2_remembers 5 none 1 24 [.int (nI i), .int (nI (gzC r i))] (gz2 r i) none (gzR r i) := by
  refine MwF.ofV (by decide) rfl (Nat.le_of_ble_eq_true rfl) ?_
  intro p l e R s m args below meth c Q D dA h cw tx nm tr ls hx hb hml hRf hRl hRc hRs hts hown hK hI hQ hM hl hret
  have hl : lv_has ls 5 [(0, .ref (h 0)), (1, .int (nI i)), (2, .int (nI (gzC r i)))] := hl
  have hN := hR.2.1.2
  have hi5 : i < 5 := by omega
  obtain ⟨hn1, hn2, hn3⟩ := okR_gn hR hi5
  have hgc := okR_gc hR hi5
  obtain ⟨k1, k2, k3, k4, k5⟩ := okR_cow hR hi5
  have hkd : okN (gz2 r i (58 + 14 * i + 0)) 6 := by rw [gz2_cow hgc 0 (by omega)]; exact k1
  have hmm : okN (gz2 r i (58 + 14 * i + 1)) 9 := by rw [gz2_cow hgc 1 (by omega)]; exact k2
  have hq : okN (gz2 r i (58 + 14 * i + 3)) 10 := by rw [gz2_cow hgc 3 (by omega)]; exact k4
  have hi2 : i < cl (gz2 r i 3) := by rw [(mwEq_gz2 hi5 hgc).1]; exact hi
  refine lv_aload_n hx hb dX2_remembers_0 rfl (lv_at hl 0 rfl) ?_
  refine c_get (v := .ref (h 6)) hx hb hts in_X2 hown hK (hM.1 0 _ rfl) rfl 7 (by decide) q210 rfl rfl dX2_remembers_1 ?_
  refine lv_iload_n hx hb dX2_remembers_4 rfl (lv_at hl 1 rfl) ?_
  refine c_iald hx hb hK (hM.1 6 _ rfl) i ⟨by omega, by decide, rfl⟩ dX2_remembers_5 ?_
  refine w_top ((gz2 r i) (58 + 14 * i + 3)) (rfl) ?_
  refine lv_aload_n hx hb dX2_remembers_6 rfl (lv_at hl 0 rfl) ?_
  refine c_get (v := .ref (h 3)) hx hb hts in_X2 hown hK (hM.1 0 _ rfl) rfl 4 (by decide) q205 rfl rfl dX2_remembers_7 ?_
  refine lv_iload_n hx hb dX2_remembers_10 rfl (lv_at hl 1 rfl) ?_
  obtain ⟨x, hx1, hx2, hx3⟩ := hQ.1 i hi2
  refine c_aldq hx hb hK 3 rfl (hM.1 3 _ rfl) i ⟨by omega, by decide, rfl⟩ dX2_remembers_11 ?_
  refine w_topV (.ref x) (by rw [hx1]; rfl) ?_
  refine cv_span hx hb hml hown hts hK q934 (cl ((gz2 r i) (58 + 14 * i + 0))) (hkd.2) x tr i ((gz2 r i) (58 + 14 * i + 1)) (hx3) (by rw [hRf]; decide) (by rw [hRl]; decide) (Nat.zero_le _) (Nat.zero_le _) hl.1 (Nat.le_of_ble_eq_true rfl) dX2_remembers_12 ?_
  refine w_top (spanF (gz2 r i (58 + 14 * i + 0)) (gz2 r i (58 + 14 * i + 1))) (by rw [← hkd.1]) ?_
  refine lv_iconst (v := nI 1) hx hb dX2_remembers_15 (by decide) ?_
  refine lv_isub hx hb dX2_remembers_16 ?_
  refine va_mmin hx hb (hml.trans hl.1.symm) hown (hts _ q385) (hts _ q386) (hts _ q73) (hts _ q387) (by rw [hRf]; decide) (by rw [hRl]; exact Nat.le_of_ble_eq_true rfl) (Nat.zero_le _) (Nat.zero_le _) dX2_remembers_17 ?_
  refine w_top (nI (gzN r i - 1)) (rem_keep hq (spanF_in hmm) (by omega) hn1) ?_
  refine lv_istore_n (lv' := [(3, .int (nI (gzN r i - 1))), (0, .ref (h 0)), (1, .int (nI i)), (2, .int (nI (gzC r i)))]) hx hb dX2_remembers_20 rfl hl (by decide) rfl (fun ls hl => ?_)
  refine lv_iload_n hx hb dX2_remembers_21 rfl (lv_at hl 0 rfl) ?_
  refine lv_istore (lv' := [(4, .int (nI (gzN r i - 1))), (3, .int (nI (gzN r i - 1))), (0, .ref (h 0)), (1, .int (nI i)), (2, .int (nI (gzC r i)))]) hx hb dX2_remembers_22 hl (by decide) rfl (fun ls hl => ?_)
  have loop24 : ∀ (fu : Nat) (k : Nat), (k ≤ gzN r i - 1) → (k < fu) → ∀ (nm : Nat → Int32) (H : Heap) (locs : List Loc), mwH D h dA s.heap H locs (gz3 (gz2 r i) i (gzN r i) k) cw tx nm → ∀ (ls : Array Slot), lv_has ls 5 [(4, .int (nI k)), (3, .int (nI (gzN r i - 1))), (0, .ref (h 0)), (1, .int (nI i)), (2, .int (nI (gzC r i)))] → W p l e R s m args below meth c H locs 0 0 Q (F0 m 24 ls []) := by
    intro fu
    induction fu with
    | zero =>
      intro k hk hf
      omega
    | succ fu ih24 =>
      intro k hk hf nm H locs hM ls hl
      refine lv_iload hx hb dX2_remembers_24 (lv_at hl 0 rfl) ?_
      refine w_if_leN (tgt := 56) hx hb (by omega) dX2_remembers_26 (by decide) (fun c_1 => ?_) (fun c_1 => ?_)
      · refine lv_aload_n hx hb dX2_remembers_56 rfl (lv_at hl 2 rfl) ?_
        refine c_get (v := .ref (h 5)) hx hb hts in_X2 hown hK (hM.1 0 _ rfl) rfl 6 (by decide) q209 rfl rfl dX2_remembers_57 ?_
        refine lv_bipush (v := nI 12) hx hb dX2_remembers_60 (by decide) ?_
        refine lv_iload_n hx hb dX2_remembers_62 rfl (lv_at hl 3 rfl) ?_
        refine w_imulN hx hb dX2_remembers_63 ?_
        refine lv_iload_n hx hb dX2_remembers_64 rfl (lv_at hl 4 rfl) ?_
        refine mw_ast_milk hx hb hK hI hM i 0 ⟨by omega, by omega, rfl⟩ dX2_remembers_65 (fun H locs hM => ?_)
        refine lv_aload_n hx hb dX2_remembers_66 rfl (lv_at hl 2 rfl) ?_
        refine c_get (v := .ref (h 6)) hx hb hts in_X2 hown hK (hM.1 0 _ rfl) rfl 7 (by decide) q210 rfl rfl dX2_remembers_67 ?_
        refine lv_iload_n hx hb dX2_remembers_70 rfl (lv_at hl 3 rfl) ?_
        refine lv_iload_n hx hb dX2_remembers_71 rfl (lv_at hl 1 rfl) ?_
        refine lv_iconst (v := nI 1) hx hb dX2_remembers_72 (by decide) ?_
        refine w_iaddN hx hb dX2_remembers_73 ?_
        refine mw_ast_many hx hb hK hI hM i ⟨by omega, rfl⟩ dX2_remembers_74 (fun H locs hM => ?_)
        exact hret (hM.to (by rw [show k = 0 by omega, show gzN r i - 1 + 1 = gzN r i by omega]; rfl)) dX2_remembers_75
      · refine lv_aload_n hx hb dX2_remembers_29 rfl (lv_at hl 2 rfl) ?_
        refine c_get (v := .ref (h 5)) hx hb hts in_X2 hown hK (hM.1 0 _ rfl) rfl 6 (by decide) q209 rfl rfl dX2_remembers_30 ?_
        refine lv_bipush (v := nI 12) hx hb dX2_remembers_33 (by decide) ?_
        refine lv_iload_n hx hb dX2_remembers_35 rfl (lv_at hl 3 rfl) ?_
        refine w_imulN hx hb dX2_remembers_36 ?_
        refine lv_iload hx hb dX2_remembers_37 (lv_at hl 0 rfl) ?_
        refine w_iaddN hx hb dX2_remembers_39 ?_
        refine lv_aload_n hx hb dX2_remembers_40 rfl (lv_at hl 2 rfl) ?_
        refine lv_iload_n hx hb dX2_remembers_41 rfl (lv_at hl 3 rfl) ?_
        refine lv_iload hx hb dX2_remembers_42 (lv_at hl 0 rfl) ?_
        refine lv_iconst (v := nI 1) hx hb dX2_remembers_44 (by decide) ?_
        refine w_isubN hx hb (by omega) dX2_remembers_45 ?_
        refine rd_callV (y := yX2_milkAt) hx hb hml hown hts hK ((mw_milkAt (gz3 (gz2 r i) i (gzN r i) k) i (k - 1) (by omega) (by omega)) D dA h cw tx _) hM.1 (cAt.recv hK (hM.1 0 _ rfl) rfl) q582 q583 q584 q66 q585 ndX2_milkAt rfl (by rw [hRf]; decide) (by rw [hRl]; decide) (Nat.zero_le _) (Nat.zero_le _) hl.1 rfl (Nat.le_of_ble_eq_true rfl) dX2_remembers_46 ?_
        refine mw_ast_milk hx hb hK hI hM i k ⟨by omega, by omega, rfl⟩ dX2_remembers_49 (fun H locs hM => ?_)
        refine lv_iinc (v := nI (k - 1)) (lv' := [(4, .int (nI (k - 1))), (3, .int (nI (gzN r i - 1))), (0, .ref (h 0)), (1, .int (nI i)), (2, .int (nI (gzC r i)))]) hx hb dX2_remembers_50 hl (k := 0) rfl (by exact sb_m1 (by omega)) (by decide) rfl (fun ls hl => ?_)
        refine lv_goto (tgt := 24) hx hb dX2_remembers_53 (by decide) ?_
        exact ih24 (k - 1) (by omega) (by omega) _ _ _ (hM.to (by rw [show 4 + (k - 1) = 4 + k - 1 by omega]; exact gz3_s (by omega) (by omega))) ls (lv_sub hl [0, 1, 2, 3, 4] rfl)
  exact loop24 (gzN r i - 1 + 1) (gzN r i - 1) (by omega) (by omega) _ _ _ (hM.to (gz3_0 _ _ _)) ls (lv_sub hl [0, 1, 2, 3, 4] rfl)
theorem ndX2_wayOf : yX2_wayOf.cls = RX2 ∧ yX2_wayOf.cls ≠ "java/lang/invoke/MethodHandle" ∧ yX2_wayOf.cls ≠ "java/lang/invoke/VarHandle" ∧ (parseMethodDescriptor yX2_wayOf.desc).map (fun d => d.parameters.length) = some 2 := by decide +kernel
theorem ndX2_remembers : yX2_remembers.cls = RX2 ∧ yX2_remembers.cls ≠ "java/lang/invoke/MethodHandle" ∧ yX2_remembers.cls ≠ "java/lang/invoke/VarHandle" ∧ (parseMethodDescriptor yX2_remembers.desc).map (fun d => d.parameters.length) = some 2 := by decide +kernel

set_option maxHeartbeats 400000 in
theorem mw_passes (r : Nat → Int32) (hR : okR r) : MwF yX2_passes cX2_passes 2 none 65 1493 [] r none (dayR r) := by
  refine MwF.ofV (by decide) rfl (Nat.le_of_ble_eq_true rfl) ?_
  intro p l e R s m args below meth c Q D dA h cw tx nm tr ls hx hb hml hRf hRl hRc hRs hts hown hK hI hQ hM hl hret
  have hl : lv_has ls 2 [(0, .ref (h 0))] := hl
  have hN3 := hR.2.1
  have hN := hN3.2
  refine lv_iconst (v := nI 0) hx hb dX2_passes_0 (by decide) ?_
  refine lv_istore_n (lv' := [(1, .int (nI 0)), (0, .ref (h 0))]) hx hb dX2_passes_1 rfl hl (by decide) rfl (fun ls hl => ?_)
  have loop2 : ∀ (fu : Nat) (w : Nat), (w ≤ cl (r 3)) → (cl (r 3) < w + fu) → ∀ (nm : Nat → Int32) (H : Heap) (locs : List Loc), mwH D h dA s.heap H locs (gzI r w) cw tx nm → ∀ (ls : Array Slot), lv_has ls 2 [(1, .int (nI w)), (0, .ref (h 0))] → W p l e R s m args below meth c H locs 0 0 Q (F0 m 2 ls []) := by
    intro fu
    induction fu with
    | zero =>
      intro w hw hf
      omega
    | succ fu ih2 =>
      intro w hw hf nm H locs hM ls hl
      refine lv_iload_n hx hb dX2_passes_2 rfl (lv_at hl 0 rfl) ?_
      refine lv_aload_n hx hb dX2_passes_3 rfl (lv_at hl 1 rfl) ?_
      obtain ⟨hRw, h3w⟩ := okR_gzI hR w (by omega)
      refine c_get (v := .int ((gzI r w) 3)) hx hb hts in_X2 hown hK (hM.1 0 _ rfl) rfl 3 (by decide) q203 rfl rfl dX2_passes_4 ?_
      refine w_top (nI (cl (r 3))) (by rw [h3w]; exact hN3.1) ?_
      refine w_icmp_geN (tgt := 89) hx hb (by omega) (by omega) dX2_passes_7 (by decide) (fun c_1 => ?_) (fun c_1 => ?_)
      · refine lv_iconst (v := nI 0) hx hb dX2_passes_89 (by decide) ?_
        refine lv_istore_n (lv' := [(1, .int (nI 0)), (0, .ref (h 0))]) hx hb dX2_passes_90 rfl hl (by decide) rfl (fun ls hl => ?_)
        have loop91 : ∀ (fu : Nat) (k : Nat), (k ≤ 25) → (25 < k + fu) → ∀ (nm : Nat → Int32) (H : Heap) (locs : List Loc), mwH D h dA s.heap H locs (grI (gzI r (cl (r 3))) k) cw tx nm → ∀ (ls : Array Slot), lv_has ls 2 [(1, .int (nI k)), (0, .ref (h 0))] → W p l e R s m args below meth c H locs 0 0 Q (F0 m 91 ls []) := by
          intro fu
          induction fu with
          | zero =>
            intro k hk hf2
            omega
          | succ fu ih91 =>
            intro k hk hf2 nm H locs hM ls hl
            refine lv_iload_n hx hb dX2_passes_91 rfl (lv_at hl 0 rfl) ?_
            refine lv_bipush (v := nI 25) hx hb dX2_passes_92 (by decide) ?_
            refine w_icmp_geN (tgt := 125) hx hb (by omega) (by omega) dX2_passes_94 (by decide) (fun c_2 => ?_) (fun c_2 => ?_)
            · refine lv_aload_n hx hb dX2_passes_125 rfl (lv_at hl 1 rfl) ?_
              refine lv_dup hx hb dX2_passes_126 rfl ?_
              refine c_get (v := .int ((grI (gzI r (cl (r 3))) k) 0)) hx hb hts in_X2 hown hK (hM.1 0 _ rfl) rfl 8 (by decide) q212 rfl rfl dX2_passes_127 ?_
              refine lv_iconst (v := nI 1) hx hb dX2_passes_130 (by decide) ?_
              refine lv_iadd hx hb dX2_passes_131 ?_
              refine mw_put_day hx hb hts hown hK hI hM q212 dX2_passes_132 (fun H locs hM => ?_)
              exact hret (hM.to (by rw [show k = 25 by omega]; rfl)) dX2_passes_135
            · have hR2 := (okR_gzI hR (cl (r 3)) hN).1
              refine lv_aload_n hx hb dX2_passes_97 rfl (lv_at hl 1 rfl) ?_
              refine c_get (v := .ref (h 2)) hx hb hts in_X2 hown hK (hM.1 0 _ rfl) rfl 1 (by decide) q199 rfl rfl dX2_passes_98 ?_
              refine lv_iload_n hx hb dX2_passes_101 rfl (lv_at hl 0 rfl) ?_
              refine lv_bipush (v := nI 99) hx hb dX2_passes_102 (by decide) ?_
              refine lv_aload_n hx hb dX2_passes_104 rfl (lv_at hl 1 rfl) ?_
              refine c_get (v := .ref (h 2)) hx hb hts in_X2 hown hK (hM.1 0 _ rfl) rfl 1 (by decide) q199 rfl rfl dX2_passes_105 ?_
              refine lv_iload_n hx hb dX2_passes_108 rfl (lv_at hl 0 rfl) ?_
              refine c_iald hx hb hK (hM.1 2 _ rfl) k ⟨by omega, by decide, rfl⟩ dX2_passes_109 ?_
              refine w_top ((grI (gzI r (cl (r 3))) k) (33 + k)) (rfl) ?_
              refine lv_aload_n hx hb dX2_passes_110 rfl (lv_at hl 1 rfl) ?_
              refine c_get (v := .int ((grI (gzI r (cl (r 3))) k) 1)) hx hb hts in_X2 hown hK (hM.1 0 _ rfl) rfl 2 (by decide) q201 rfl rfl dX2_passes_111 ?_
              refine lv_iadd hx hb dX2_passes_114 ?_
              refine va_mmin hx hb (hml.trans hl.1.symm) hown (hts _ q385) (hts _ q386) (hts _ q73) (hts _ q387) (by rw [hRf]; decide) (by rw [hRl]; exact Nat.le_of_ble_eq_true rfl) (Nat.zero_le _) (Nat.zero_le _) dX2_passes_115 ?_
              refine w_top (hel (grI (gzI r (cl (r 3))) k (33 + k) + grI (gzI r (cl (r 3))) k 1) (nI 0) (nI 99)) (min_hel (by rw [grI_out (by omega)]; exact (hR2.2.2.2.2.2.2 k (by omega)).1) (by rw [grI_out (by omega)]; exact hR2.2.2.2.2.1)) ?_
              refine mw_ast_grass hx hb hK hI hM k ⟨by omega, rfl⟩ dX2_passes_118 (fun H locs hM => ?_)
              refine lv_iinc (v := nI (k + 1)) (lv' := [(1, .int (nI (k + 1))), (0, .ref (h 0))]) hx hb dX2_passes_119 hl (k := 0) rfl (by rw [show Int32.ofInt 1 = nI 1 from by decide]; exact nI_add _ _) (by decide) rfl (fun ls hl => ?_)
              refine lv_goto (tgt := 91) hx hb dX2_passes_122 (by decide) ?_
              exact ih91 (k + 1) (by omega) (by omega) _ _ _ (hM.to (grI_s _ _)) ls (lv_sub hl [0, 1] rfl)
        exact loop91 26 0 (by omega) (by omega) _ _ _ (hM.to (by rw [show w = cl (r 3) by omega]; exact grI_0 _)) ls (lv_sub hl [0, 1] rfl)
      · have hw5 : w < 5 := by omega
        obtain ⟨k1, k2, k3, k4, k5⟩ := okR_cow hRw hw5
        have k32 := k3.2
        have hgc := okR_gc hRw hw5
        have hE := mwEq_gzI hR w (by omega)
        refine lv_aload_n hx hb dX2_passes_10 rfl (lv_at hl 1 rfl) ?_
        refine c_get (v := .ref (h 4)) hx hb hts in_X2 hown hK (hM.1 0 _ rfl) rfl 5 (by decide) q207 rfl rfl dX2_passes_11 ?_
        refine lv_iload_n hx hb dX2_passes_14 rfl (lv_at hl 0 rfl) ?_
        refine lv_aload_n hx hb dX2_passes_15 rfl (lv_at hl 1 rfl) ?_
        refine c_get (v := .ref (h 4)) hx hb hts in_X2 hown hK (hM.1 0 _ rfl) rfl 5 (by decide) q207 rfl rfl dX2_passes_16 ?_
        refine lv_iload_n hx hb dX2_passes_19 rfl (lv_at hl 0 rfl) ?_
        refine c_iald hx hb hK (hM.1 4 _ rfl) w ⟨by omega, by decide, rfl⟩ dX2_passes_20 ?_
        refine w_top ((gzI r w) (58 + 14 * w + 2)) (rfl) ?_
        refine w_top (nI (cl ((gzI r w) (58 + 14 * w + 2)))) (k3.1) ?_
        refine lv_aload_n hx hb dX2_passes_21 rfl (lv_at hl 1 rfl) ?_
        refine lv_iload_n hx hb dX2_passes_22 rfl (lv_at hl 0 rfl) ?_
        refine lv_aload_n hx hb dX2_passes_23 rfl (lv_at hl 1 rfl) ?_
        refine c_get (v := .ref (h 4)) hx hb hts in_X2 hown hK (hM.1 0 _ rfl) rfl 5 (by decide) q207 rfl rfl dX2_passes_24 ?_
        refine lv_iload_n hx hb dX2_passes_27 rfl (lv_at hl 0 rfl) ?_
        refine c_iald hx hb hK (hM.1 4 _ rfl) w ⟨by omega, by decide, rfl⟩ dX2_passes_28 ?_
        refine w_top ((gzI r w) (58 + 14 * w + 2)) (rfl) ?_
        refine w_top (nI (cl ((gzI r w) (58 + 14 * w + 2)))) (k3.1) ?_
        refine mw_call (y := yX2_wayOf) (tr := tr) hx hb hml hown hts hK hI hM (hQ.at hN hE hM.2.2) (mw_wayOf (gzI r w) hRw w (cl ((gzI r w) (58 + 14 * w + 2))) (by rw [h3w]; omega) (by omega)) q928 q575 q576 q577 ndX2_wayOf rfl (by rw [hRf]; decide) (by rw [hRl]; decide) hl.1 rfl (Nat.le_of_ble_eq_true rfl) dX2_passes_29 (fun H locs nm hM => ?_)
        refine st_callS (y := yX2_next) hx hb hml hown hts (cmX2_next (cl ((gzI r w) (58 + 14 * w + 2))) ((wayS (gzI r w) w (cl ((gzI r w) (58 + 14 * w + 2))) 4).1) (by omega) (by have := (wayS_ok (gzI r w) w (cl ((gzI r w) (58 + 14 * w + 2))) 4).1; omega)) q586 q587 q66 q588 ndX2_next rfl (by rw [hRf]; decide) (by rw [hRl]; decide) (Nat.zero_le _) (Nat.zero_le _) hl.1 rfl (Nat.le_of_ble_eq_true rfl) dX2_passes_32 ?_
        refine w_top (nI (gzC (gzI r w) w)) (gzC_eq _ _) ?_
        refine mw_ast_at hx hb hK hI hM w ⟨by omega, rfl⟩ dX2_passes_35 (fun H locs hM => ?_)
        have hM := hM.to (r' := gz1 (gzI r w) w) rfl
        have hE1 := hE.tr (mwEq_gz1 (r := (gzI r w)) hw5)
        refine lv_aload_n hx hb dX2_passes_36 rfl (lv_at hl 1 rfl) ?_
        refine c_get (v := .ref (h 2)) hx hb hts in_X2 hown hK (hM.1 0 _ rfl) rfl 1 (by decide) q199 rfl rfl dX2_passes_37 ?_
        refine lv_aload_n hx hb dX2_passes_40 rfl (lv_at hl 1 rfl) ?_
        refine c_get (v := .ref (h 4)) hx hb hts in_X2 hown hK (hM.1 0 _ rfl) rfl 5 (by decide) q207 rfl rfl dX2_passes_41 ?_
        refine lv_iload_n hx hb dX2_passes_44 rfl (lv_at hl 0 rfl) ?_
        refine c_iald hx hb hK (hM.1 4 _ rfl) w ⟨by omega, by decide, rfl⟩ dX2_passes_45 ?_
        refine w_top ((gz1 (gzI r w) w) (58 + 14 * w + 2)) (rfl) ?_
        refine w_top (nI (gzC (gzI r w) w)) (pk_us) ?_
        refine lv_iconst (v := nI 0) hx hb dX2_passes_46 (by decide) ?_
        refine lv_aload_n hx hb dX2_passes_47 rfl (lv_at hl 1 rfl) ?_
        refine c_get (v := .ref (h 2)) hx hb hts in_X2 hown hK (hM.1 0 _ rfl) rfl 1 (by decide) q199 rfl rfl dX2_passes_48 ?_
        refine lv_aload_n hx hb dX2_passes_51 rfl (lv_at hl 1 rfl) ?_
        refine c_get (v := .ref (h 4)) hx hb hts in_X2 hown hK (hM.1 0 _ rfl) rfl 5 (by decide) q207 rfl rfl dX2_passes_52 ?_
        refine lv_iload_n hx hb dX2_passes_55 rfl (lv_at hl 0 rfl) ?_
        refine c_iald hx hb hK (hM.1 4 _ rfl) w ⟨by omega, by decide, rfl⟩ dX2_passes_56 ?_
        refine w_top ((gz1 (gzI r w) w) (58 + 14 * w + 2)) (rfl) ?_
        refine w_top (nI (gzC (gzI r w) w)) (pk_us) ?_
        refine c_iald hx hb hK (hM.1 2 _ rfl) (gzC (gzI r w) w) ⟨by omega, by decide, rfl⟩ dX2_passes_57 ?_
        refine w_top ((gz1 (gzI r w) w) (33 + (gzC (gzI r w) w))) (rfl) ?_
        refine lv_aload_n hx hb dX2_passes_58 rfl (lv_at hl 1 rfl) ?_
        refine c_get (v := .ref (h 3)) hx hb hts in_X2 hown hK (hM.1 0 _ rfl) rfl 4 (by decide) q205 rfl rfl dX2_passes_59 ?_
        refine lv_iload_n hx hb dX2_passes_62 rfl (lv_at hl 0 rfl) ?_
        obtain ⟨x, hx1, hx2, hx3⟩ := (hQ.at hN hE1 hM.2.2).1 w (by rw [hE1.1]; omega)
        refine c_aldq hx hb hK 3 rfl (hM.1 3 _ rfl) w ⟨by omega, by decide, rfl⟩ dX2_passes_63 ?_
        refine w_topV (.ref x) (by rw [hx1]; rfl) ?_
        refine cv_eaten hx hb hml hown hts hK q929 (cl ((gz1 (gzI r w) w) (58 + 14 * w + 0))) (by rw [show (gz1 (gzI r w) w) (58 + 14 * w + 0) = (gzI r w) (58 + 14 * w + 0) from pk_un (by omega)]; exact k1.2) x tr w ((gz1 (gzI r w) w) (58 + 14 * w + 1)) (hx3) (by rw [hRf]; decide) (by rw [hRl]; decide) (Nat.zero_le _) (Nat.zero_le _) hl.1 (Nat.le_of_ble_eq_true rfl) dX2_passes_64 ?_
        refine w_top (eatF ((gz1 (gzI r w) w) (58 + 14 * w + 0)) ((gz1 (gzI r w) w) (58 + 14 * w + 1))) (by rw [show (gz1 (gzI r w) w) (58 + 14 * w + 0) = (gzI r w) (58 + 14 * w + 0) from pk_un (by omega), ← k1.1]) ?_
        refine lv_isub hx hb dX2_passes_67 ?_
        refine va_mmax hx hb (hml.trans hl.1.symm) hown (hts _ q388) (hts _ q389) (hts _ q73) (hts _ q390) (by rw [hRf]; decide) (by rw [hRl]; exact Nat.le_of_ble_eq_true rfl) (Nat.zero_le _) (Nat.zero_le _) dX2_passes_68 ?_
        refine w_top (hel ((gz1 (gzI r w) w) (33 + gzC (gzI r w) w) - eatF ((gz1 (gzI r w) w) (58 + 14 * w + 0)) ((gz1 (gzI r w) w) (58 + 14 * w + 1))) (nI 0) (nI 99)) (max_hel (by rw [show (gz1 (gzI r w) w) (33 + gzC (gzI r w) w) = (gzI r w) (33 + gzC (gzI r w) w) from pk_un (by omega)]; exact (hRw.2.2.2.2.2.2 _ hgc).1) (eatF_in (by rw [show (gz1 (gzI r w) w) (58 + 14 * w + 1) = (gzI r w) (58 + 14 * w + 1) from pk_un (by omega)]; exact k2))) ?_
        refine mw_ast_grass hx hb hK hI hM (gzC (gzI r w) w) ⟨by omega, rfl⟩ dX2_passes_71 (fun H locs hM => ?_)
        have hM := hM.to (r' := gz2 (gzI r w) w) rfl
        have hE2 := hE.tr (mwEq_gz2 (r := (gzI r w)) hw5 hgc)
        refine lv_aload_n hx hb dX2_passes_72 rfl (lv_at hl 1 rfl) ?_
        refine lv_iload_n hx hb dX2_passes_73 rfl (lv_at hl 0 rfl) ?_
        refine lv_aload_n hx hb dX2_passes_74 rfl (lv_at hl 1 rfl) ?_
        refine c_get (v := .ref (h 4)) hx hb hts in_X2 hown hK (hM.1 0 _ rfl) rfl 5 (by decide) q207 rfl rfl dX2_passes_75 ?_
        refine lv_iload_n hx hb dX2_passes_78 rfl (lv_at hl 0 rfl) ?_
        refine c_iald hx hb hK (hM.1 4 _ rfl) w ⟨by omega, by decide, rfl⟩ dX2_passes_79 ?_
        refine w_top ((gz2 (gzI r w) w) (58 + 14 * w + 2)) (rfl) ?_
        refine w_top (nI (gzC (gzI r w) w)) (by unfold gz2; rw [pk_un (by omega)]; exact pk_us) ?_
        refine mw_call (y := yX2_remembers) (tr := tr) hx hb hml hown hts hK hI hM (hQ.at hN hE2 hM.2.2) (mw_remembers (gzI r w) hRw w (by rw [h3w]; omega)) q930 q932 qs15 q933 ndX2_remembers rfl (by rw [hRf]; decide) (by rw [hRl]; decide) hl.1 rfl (Nat.le_of_ble_eq_true rfl) dX2_passes_80 (fun H locs nm hM => ?_)
        refine lv_iinc (v := nI (w + 1)) (lv' := [(1, .int (nI (w + 1))), (0, .ref (h 0))]) hx hb dX2_passes_83 hl (k := 0) rfl (by rw [show Int32.ofInt 1 = nI 1 from by decide]; exact nI_add _ _) (by decide) rfl (fun ls hl => ?_)
        refine lv_goto (tgt := 2) hx hb dX2_passes_86 (by decide) ?_
        exact ih2 (w + 1) (by omega) (by omega) _ _ _ (hM.to rfl) ls (lv_sub hl [0, 1] rfl)
  exact loop2 (cl (r 3) + 1) 0 (by omega) (by omega) _ _ _ hM ls (lv_sub hl [0, 1] rfl)
theorem ndX2_passes : yX2_passes.cls = RX2 ∧ yX2_passes.cls ≠ "java/lang/invoke/MethodHandle" ∧ yX2_passes.cls ≠ "java/lang/invoke/VarHandle" ∧ (parseMethodDescriptor yX2_passes.desc).map (fun d => d.parameters.length) = some 0 := by decide +kernel

set_option maxHeartbeats 400000 in
theorem mw_goes (r : Nat → Int32) (hR : okR r) (n : Nat) (hn : n ≤ 100) : MwF yX2_goes cX2_goes 3 none 66 1514 [.int (nI n)] r none (dayI r n) := by
  refine MwF.ofV (by decide) rfl (Nat.le_of_ble_eq_true rfl) ?_
  intro p l e R s m args below meth c Q D dA h cw tx nm tr ls hx hb hml hRf hRl hRc hRs hts hown hK hI hQ hM hl hret
  have hl : lv_has ls 3 [(0, .ref (h 0)), (1, .int (nI n))] := hl
  have hN := hR.2.1.2
  refine lv_iconst (v := nI 0) hx hb dX2_goes_0 (by decide) ?_
  refine lv_istore_n (lv' := [(2, .int (nI 0)), (0, .ref (h 0)), (1, .int (nI n))]) hx hb dX2_goes_1 rfl hl (by decide) rfl (fun ls hl => ?_)
  have loop2 : ∀ (fu : Nat) (k : Nat), (k ≤ n) → (n < k + fu) → ∀ (nm : Nat → Int32) (H : Heap) (locs : List Loc), mwH D h dA s.heap H locs (dayI r k) cw tx nm → ∀ (ls : Array Slot), lv_has ls 3 [(2, .int (nI k)), (0, .ref (h 0)), (1, .int (nI n))] → W p l e R s m args below meth c H locs 0 0 Q (F0 m 2 ls []) := by
    intro fu
    induction fu with
    | zero =>
      intro k hk hf
      omega
    | succ fu ih2 =>
      intro k hk hf nm H locs hM ls hl
      refine lv_iload_n hx hb dX2_goes_2 rfl (lv_at hl 0 rfl) ?_
      refine lv_iload_n hx hb dX2_goes_3 rfl (lv_at hl 2 rfl) ?_
      refine w_icmp_geN (tgt := 17) hx hb (by omega) (by omega) dX2_goes_4 (by decide) (fun c_1 => ?_) (fun c_1 => ?_)
      · exact hret (hM.to (by rw [show k = n by omega])) dX2_goes_17
      · refine lv_aload_n hx hb dX2_goes_7 rfl (lv_at hl 1 rfl) ?_
        refine mw_call (y := yX2_passes) (tr := tr) hx hb hml hown hts hK hI hM (hQ.at hN (mwEq_dayI hR k) hM.2.2) (mw_passes (dayI r k) (okR_dayI hR k)) q924 q925 q926 q927 ndX2_passes rfl (by rw [hRf]; decide) (by rw [hRl]; decide) hl.1 rfl (Nat.le_of_ble_eq_true rfl) dX2_goes_8 (fun H locs nm hM => ?_)
        refine lv_iinc (v := nI (k + 1)) (lv' := [(2, .int (nI (k + 1))), (0, .ref (h 0)), (1, .int (nI n))]) hx hb dX2_goes_11 hl (k := 0) rfl (by rw [show Int32.ofInt 1 = nI 1 from by decide]; exact nI_add _ _) (by decide) rfl (fun ls hl => ?_)
        refine lv_goto (tgt := 2) hx hb dX2_goes_14 (by decide) ?_
        exact ih2 (k + 1) (by omega) (by omega) _ _ _ (hM.to rfl) ls (lv_sub hl [0, 1, 2] rfl)
  exact loop2 (n + 1) 0 (by omega) (by omega) _ _ _ hM ls (lv_sub hl [0, 1, 2] rfl)
set_option maxHeartbeats 400000 in
theorem mw_draw (r : Nat → Int32)  : MwF yX2_draw cX2_draw 1 (some .int) 0 0 [] r (some (.int (nI (dwN (dz (r 2)))))) (upd r 2 (dz (r 2))) := by
  refine MwF.ofI (by decide) rfl (Nat.le_of_ble_eq_true rfl) ?_
  intro p l e R s m args below meth c Q D dA h cw tx nm tr ls hx hb hml hRf hRl hRc hRs hts hown hK hI hQ hM hl hret
  have hl : lv_has ls 1 [(0, .ref (h 0))] := hl
  refine lv_aload_n hx hb dX2_draw_0 rfl (lv_at hl 0 rfl) ?_
  refine lv_aload_n hx hb dX2_draw_1 rfl (lv_at hl 0 rfl) ?_
  refine c_get (v := .int (r 2)) hx hb hts in_X2 hown hK (hM.1 0 _ rfl) rfl 10 (by decide) q216 rfl rfl dX2_draw_2 ?_
  refine lv_ldc hx hb hown (hts _ q951) dX2_draw_5 ?_
  refine w_top (nI 1103515245) (by decide) ?_
  refine lv_imul hx hb dX2_draw_7 ?_
  refine lv_sipush (v := nI 12345) hx hb dX2_draw_8 (by decide) ?_
  refine lv_iadd hx hb dX2_draw_11 ?_
  refine w_top (dz (r 2)) (rfl) ?_
  refine mw_put_z hx hb hts hown hK hI hM q216 dX2_draw_12 (fun H locs hM => ?_)
  refine lv_aload_n hx hb dX2_draw_15 rfl (lv_at hl 0 rfl) ?_
  refine c_get (v := .int ((upd r 2 (dz (r 2))) 2)) hx hb hts in_X2 hown hK (hM.1 0 _ rfl) rfl 10 (by decide) q216 rfl rfl dX2_draw_16 ?_
  refine w_top (dz (r 2)) (pk_us) ?_
  refine lv_bipush (v := nI 8) hx hb dX2_draw_19 (by decide) ?_
  refine lv_iushr (v := ((dz (r 2)).toUInt32 >>> ((nI 8).toUInt32 &&& Int32.toUInt32 31)).toInt32) hx hb dX2_draw_21 rfl ?_
  exact hret hM (dwN_eq _) dX2_draw_22
/-- what a draw is held to, whatever the numbers -/
abbrev DrH (dz : Int32 → Int32) (dwN : Int32 → Nat) : Prop := ∀ r : Nat → Int32, MwF yX2_draw cX2_draw 1 (some .int) 0 0 [] r (some (.int (nI (dwN (dz (r 2)))))) (upd r 2 (dz (r 2)))
theorem ndX2_draw : yX2_draw.cls = RX2 ∧ yX2_draw.cls ≠ "java/lang/invoke/MethodHandle" ∧ yX2_draw.cls ≠ "java/lang/invoke/VarHandle" ∧ (parseMethodDescriptor yX2_draw.desc).map (fun d => d.parameters.length) = some 0 := by decide +kernel

set_option maxHeartbeats 400000 in
theorem mw_goesLoose (r : Nat → Int32) (dz : Int32 → Int32) (dwN : Int32 → Nat) (hdr : DrH dz dwN) (hdl : ∀ z, dwN z < 2 ^ 24) (hR : okR r) : MwF yX2_goesLoose cX2_goesLoose 2 none 66 1514 [] r none (dayR (lsD dz dwN r)) := by
  refine MwF.ofV (by decide) rfl (Nat.le_of_ble_eq_true rfl) ?_
  intro p l e R s m args below meth c Q D dA h cw tx nm tr ls hx hb hml hRf hRl hRc hRs hts hown hK hI hQ hM hl hret
  have hl : lv_has ls 2 [(0, .ref (h 0))] := hl
  have hN := hR.2.1.2
  refine lv_aload_n hx hb dX2_goesLoose_0 rfl (lv_at hl 0 rfl) ?_
  refine mw_call (y := yX2_draw) (tr := tr) hx hb hml hown hts hK hI hM (hQ.at hN mwEq.rf hM.2.2) (hdr r) q947 q948 q949 q950 ndX2_draw rfl (by rw [hRf]; decide) (by rw [hRl]; decide) hl.1 rfl (Nat.le_of_ble_eq_true rfl) dX2_goesLoose_1 (fun H locs nm hM => ?_)
  refine lv_bipush (v := nI 25) hx hb dX2_goesLoose_4 (by decide) ?_
  refine w_iremN hx hb (by have := hdl (dz (r 2)); omega) (by omega) (by omega) dX2_goesLoose_6 ?_
  refine lv_istore_n (lv' := [(1, .int (nI ((dwN (dz (r 2))) % 25))), (0, .ref (h 0))]) hx hb dX2_goesLoose_7 rfl hl (by decide) rfl (fun ls hl => ?_)
  refine lv_aload_n hx hb dX2_goesLoose_8 rfl (lv_at hl 1 rfl) ?_
  refine c_get (v := .ref (h 2)) hx hb hts in_X2 hown hK (hM.1 0 _ rfl) rfl 1 (by decide) q199 rfl rfl dX2_goesLoose_9 ?_
  refine lv_iload_n hx hb dX2_goesLoose_12 rfl (lv_at hl 0 rfl) ?_
  refine lv_aload_n hx hb dX2_goesLoose_13 rfl (lv_at hl 1 rfl) ?_
  refine mw_call (y := yX2_draw) (tr := tr) hx hb hml hown hts hK hI hM (hQ.at hN (mwEq_u ⟨by omega, by omega, by omega, by omega, fun w hw => ⟨by omega, by omega⟩⟩) hM.2.2) (hdr (upd r 2 (dz (r 2)))) q947 q948 q949 q950 ndX2_draw rfl (by rw [hRf]; decide) (by rw [hRl]; decide) hl.1 rfl (Nat.le_of_ble_eq_true rfl) dX2_goesLoose_14 (fun H locs nm hM => ?_)
  have hM := hM.to (r' := upd (upd r 2 (dz (r 2))) 2 (dz (dz (r 2)))) (by rw [pk_us])
  refine w_top (nI (dwN (dz (dz (r 2))))) (by rw [pk_us]) ?_
  refine lv_bipush (v := nI 100) hx hb dX2_goesLoose_17 (by decide) ?_
  refine w_iremN hx hb (by have := hdl (dz (dz (r 2))); omega) (by omega) (by omega) dX2_goesLoose_19 ?_
  refine mw_ast_grass hx hb hK hI hM ((dwN (dz (r 2))) % 25) ⟨by omega, rfl⟩ dX2_goesLoose_20 (fun H locs hM => ?_)
  have hM := hM.to (r' := lsD dz dwN r) rfl
  have hE : mwEq r (lsD dz dwN r) := ((mwEq_u ⟨by omega, by omega, by omega, by omega, fun w hw => ⟨by omega, by omega⟩⟩).tr (mwEq_u ⟨by omega, by omega, by omega, by omega, fun w hw => ⟨by omega, by omega⟩⟩)).tr (mwEq_g (by omega))
  refine lv_aload_n hx hb dX2_goesLoose_21 rfl (lv_at hl 1 rfl) ?_
  refine mw_call (y := yX2_passes) (tr := tr) hx hb hml hown hts hK hI hM (hQ.at hN hE hM.2.2) (mw_passes (lsD dz dwN r) (okR_lsD hR)) q924 q925 q926 q927 ndX2_passes rfl (by rw [hRf]; decide) (by rw [hRl]; decide) hl.1 rfl (Nat.le_of_ble_eq_true rfl) dX2_goesLoose_22 (fun H locs nm hM => ?_)
  exact hret hM dX2_goesLoose_25
