/-! the model: product, sum, both, whole (printed by model3c.py) -/
set_option maxRecDepth 100000
theorem ndX6_product : yX6_product.cls = RX6 ∧ yX6_product.cls ≠ "java/lang/invoke/MethodHandle" ∧ yX6_product.cls ≠ "java/lang/invoke/VarHandle" ∧ (parseMethodDescriptor yX6_product.desc).map (fun d => d.parameters.length) = some 0 := by decide +kernel
set_option maxHeartbeats 400000 in
theorem met_productL (f : Nat → Int32) (a : Nat → Nat → Int32) (u n : Nat) (x y z : Int32) (hS : txS f u n x y z) (d : Nat) (q : Nat → Rs Int32) (hm : mono n q) (hF : ∀ t, t ≤ n → MdF yX6_factor cX6_factor 3 (some .int) (6 * d + 3) (150 * d + 100) [] (fT f t true) a (some (.int (q t).1)) (fT f (q t).2.1 (q t).2.2) a) (t : Nat) (ht : t ≤ n) : MdF yX6_product cX6_product 4 (some .int) (6 * d + 4) (150 * d + 124) [] (fT f t true) a (some (.int ((lpF (opI u x y z) (bT a u) n op1 q (n + 1) (q t)).1))) (fT f (lpF (opI u x y z) (bT a u) n op1 q (n + 1) (q t)).2.1 (lpF (opI u x y z) (bT a u) n op1 q (n + 1) (q t)).2.2) a := by
  refine MdF.ofI (by decide) rfl (Nat.le_of_ble_eq_true rfl) ?_
  intro p l e R s m args below meth c Q D h dA ls hx hb hml hRf hRl hts hown hK hI hM hl hret
  have hl : lv_has ls 4 [(0, .ref (h 0))] := hl
  have hn50 : n ≤ 50 := hS.2.2.2.2.2.2
  have hm0 := hm t ht
  refine lv_aload_n hx hb dX6_product_0 rfl (lv_at hl 0 rfl) ?_
  refine md_callI (y := yX6_factor) hx hb hml hown hts hK hI hM (hF t (ht)) q1534 q1536 qs30 q1537 ndX6_factor rfl (by rw [hRf]; omega) (by rw [hRl]; omega) hl.1 rfl (Nat.le_of_ble_eq_true rfl) dX6_product_1 (fun H locs hM => ?_)
  refine lv_istore_n (lv' := [(1, .int ((q t).1)), (0, .ref (h 0))]) hx hb dX6_product_4 rfl hl (by decide) rfl (fun ls hl => ?_)
  have loop5 : ∀ (fu : Nat) (r : Rs Int32), (r.2.1 ≤ n) → (n < r.2.1 + fu) → (lpF (opI u x y z) (bT a u) n op1 q fu r = lpF (opI u x y z) (bT a u) n op1 q (n + 1) (q t)) → ∀ (H : Heap) (locs : List Loc), mdH D h dA s.heap H locs (fT f r.2.1 r.2.2) a → ∀ (ls : Array Slot), lv_has ls 4 [(1, .int r.1), (0, .ref (h 0))] → W p l e R s m args below meth c H locs 0 0 Q (F0 m 5 ls []) := by
    intro fu
    induction fu with
    | zero =>
      intro r hr hn ee
      omega
    | succ fu ih5 =>
      intro r hr hn ee H locs hM ls hl
      refine lv_aload_n hx hb dX6_product_5 rfl (lv_at hl 1 rfl) ?_
      refine md_get (v := .int (iI (r.2.2 = true))) hx hb hts hown hK hM 14 (by decide) q1404 rfl rfl dX6_product_6 ?_
      refine w_if_eqT (tgt := 114) hx hb dX6_product_9 (by decide) (fun c_1 => ?_) (fun c_1 => ?_)
      · have hrr : r = lpF (opI u x y z) (bT a u) n op1 q (n + 1) (q t) := by rw [← ee, lpF, if_neg (fun q9 => c_1 q9.1)]
        refine lv_iload_n hx hb dX6_product_114 rfl (lv_at hl 0 rfl) ?_
        exact hret (hM.to (by rw [hrr]) rfl) (by rw [hrr]) dX6_product_115
      · have hM := hM.to (f' := fT f r.2.1 true) (by rw [c_1]) rfl
        have j51 : (op1 (tk (bT a u) n r.2.1) = true) → ∀ (H : Heap) (locs : List Loc), mdH D h dA s.heap H locs (fT f r.2.1 true) a → ∀ (ls : Array Slot), lv_has ls 4 [(1, .int r.1), (0, .ref (h 0))] → W p l e R s m args below meth c H locs 0 0 Q (F0 m 51 ls []) := by
          intro  hop H locs hM ls hl
          have htn : r.2.1 < n := tk_lt (fun q9 => by rw [q9] at hop; exact absurd hop (by decide))
          have hm1 := hm (r.2.1 + 1) htn
          refine lv_aload_n hx hb dX6_product_51 rfl (lv_at hl 1 rfl) ?_
          refine lv_aload_n hx hb dX6_product_52 rfl (lv_at hl 1 rfl) ?_
          refine md_get (v := .int (nI r.2.1)) hx hb hts hown hK hM 8 (by decide) q1398 rfl rfl dX6_product_53 ?_
          refine md_callI (y := yX6_byteAt) hx hb hml hown hts hK hI hM (met_byteAt (fT f r.2.1 true) a u n r.2.1 hS.1 hS.2.1 hS.2.2.2.2.2.1 hS.2.2.2.2.2.2 (by omega)) q1538 q1540 qs31 q1541 ndX6_byteAt rfl (by rw [hRf]; omega) (by rw [hRl]; omega) hl.1 rfl (Nat.le_of_ble_eq_true rfl) dX6_product_56 (fun H locs hM => ?_)
          refine lv_istore_n (lv' := [(2, .int (tk (bT a u) n r.2.1)), (1, .int r.1), (0, .ref (h 0))]) hx hb dX6_product_59 rfl hl (by decide) rfl (fun ls hl => ?_)
          refine lv_aload_n hx hb dX6_product_60 rfl (lv_at hl 2 rfl) ?_
          refine lv_dup hx hb dX6_product_61 rfl ?_
          refine md_get (v := .int (nI r.2.1)) hx hb hts hown hK hM 8 (by decide) q1398 rfl rfl dX6_product_62 ?_
          refine lv_iconst (v := nI 1) hx hb dX6_product_65 (by decide) ?_
          refine w_iaddN hx hb dX6_product_66 ?_
          refine md_put hx hb hts hown hK hI hM 8 (by decide) q1398 rfl rfl rfl rfl rfl dX6_product_67 (fun H locs hM => ?_)
          have hM := hM.to (f' := fT f (r.2.1 + 1) true) (fT_8 _ _ _ _) rfl
          refine lv_aload_n hx hb dX6_product_70 rfl (lv_at hl 2 rfl) ?_
          refine md_callI (y := yX6_factor) hx hb hml hown hts hK hI hM (hF (r.2.1 + 1) (by omega)) q1534 q1536 qs30 q1537 ndX6_factor rfl (by rw [hRf]; omega) (by rw [hRl]; omega) hl.1 rfl (Nat.le_of_ble_eq_true rfl) dX6_product_71 (fun H locs hM => ?_)
          refine lv_istore_n (lv' := [(3, .int ((q (r.2.1 + 1)).1)), (2, .int (tk (bT a u) n r.2.1)), (1, .int r.1), (0, .ref (h 0))]) hx hb dX6_product_74 rfl hl (by decide) rfl (fun ls hl => ?_)
          have j110 : ∀ (H : Heap) (locs : List Loc), mdH D h dA s.heap H locs (fT f ((q (r.2.1 + 1)).2.1) ((q (r.2.1 + 1)).2.2)) a → ∀ (ls : Array Slot), lv_has ls 4 [(1, .int r.1), (0, .ref (h 0))] → W p l e R s m args below meth c H locs 0 0 Q (F0 m 110 ls [.int (opB (tk (bT a u) n r.2.1) r.1 ((q (r.2.1 + 1)).1))]) := by
            intro   H locs hM ls hl
            refine lv_istore_n (lv' := [(1, .int (opB (tk (bT a u) n r.2.1) r.1 ((q (r.2.1 + 1)).1))), (0, .ref (h 0))]) hx hb dX6_product_110 rfl hl (by decide) rfl (fun ls hl => ?_)
            refine lv_goto (tgt := 5) hx hb dX6_product_111 (by decide) ?_
            exact ih5 (opB (tk (bT a u) n r.2.1) r.1 (q (r.2.1 + 1)).1, (q (r.2.1 + 1)).2) hm1.2 (by dsimp only; omega) (by rw [← ee, lpF, if_pos ⟨c_1, hop⟩]) _ _ hM ls (lv_sub hl [0, 1] rfl)
          refine lv_iload_n hx hb dX6_product_75 rfl (lv_at hl 1 rfl) ?_
          refine lv_bipush (v := nI 42) hx hb dX6_product_76 (by decide) ?_
          refine lv_icmp_ne (tgt := 87) hx hb dX6_product_78 (by decide) (fun c_2 => ?_) (fun c_2 => ?_)
          · refine lv_iload_n hx hb dX6_product_87 rfl (lv_at hl 0 rfl) ?_
            refine lv_if_ne (tgt := 95) hx hb dX6_product_88 (by decide) (fun c_3 => ?_) (fun c_3 => ?_)
            · refine lv_iload_n hx hb dX6_product_95 rfl (lv_at hl 1 rfl) ?_
              refine lv_bipush (v := nI 47) hx hb dX6_product_96 (by decide) ?_
              refine lv_icmp_ne (tgt := 107) hx hb dX6_product_98 (by decide) (fun c_4 => ?_) (fun c_4 => ?_)
              · refine lv_iload_n hx hb dX6_product_107 rfl (lv_at hl 2 rfl) ?_
                refine lv_iload_n hx hb dX6_product_108 rfl (lv_at hl 0 rfl) ?_
                refine lv_irem hx hb dX6_product_109 c_3 ?_
                refine w_top (opB (tk (bT a u) n r.2.1) r.1 ((q (r.2.1 + 1)).1)) (opB_37 hop c_2 c_4 c_3 _) ?_
                exact j110   _ _ hM ls (lv_sub hl [2, 3] rfl)
              · refine lv_iload_n hx hb dX6_product_101 rfl (lv_at hl 2 rfl) ?_
                refine lv_iload_n hx hb dX6_product_102 rfl (lv_at hl 0 rfl) ?_
                refine lv_idiv hx hb dX6_product_103 c_3 ?_
                refine lv_goto (tgt := 110) hx hb dX6_product_104 (by decide) ?_
                refine w_top (opB (tk (bT a u) n r.2.1) r.1 ((q (r.2.1 + 1)).1)) (opB_47 c_4 c_3 _) ?_
                exact j110   _ _ hM ls (lv_sub hl [2, 3] rfl)
            · refine lv_iconst (v := nI 0) hx hb dX6_product_91 (by decide) ?_
              refine lv_goto (tgt := 110) hx hb dX6_product_92 (by decide) ?_
              refine w_top (opB (tk (bT a u) n r.2.1) r.1 ((q (r.2.1 + 1)).1)) (opB_z hop c_2 c_3 _) ?_
              exact j110   _ _ hM ls (lv_sub hl [2, 3] rfl)
          · refine lv_iload_n hx hb dX6_product_81 rfl (lv_at hl 2 rfl) ?_
            refine lv_iload_n hx hb dX6_product_82 rfl (lv_at hl 0 rfl) ?_
            refine lv_imul hx hb dX6_product_83 ?_
            refine lv_goto (tgt := 110) hx hb dX6_product_84 (by decide) ?_
            refine w_top (opB (tk (bT a u) n r.2.1) r.1 ((q (r.2.1 + 1)).1)) (opB_42 c_2 _ _) ?_
            exact j110   _ _ hM ls (lv_sub hl [2, 3] rfl)
        refine lv_aload_n hx hb dX6_product_12 rfl (lv_at hl 1 rfl) ?_
        refine lv_aload_n hx hb dX6_product_13 rfl (lv_at hl 1 rfl) ?_
        refine md_get (v := .int (nI r.2.1)) hx hb hts hown hK hM 8 (by decide) q1398 rfl rfl dX6_product_14 ?_
        refine md_callI (y := yX6_byteAt) hx hb hml hown hts hK hI hM (met_byteAt (fT f r.2.1 true) a u n r.2.1 hS.1 hS.2.1 hS.2.2.2.2.2.1 hS.2.2.2.2.2.2 (by omega)) q1538 q1540 qs31 q1541 ndX6_byteAt rfl (by rw [hRf]; omega) (by rw [hRl]; omega) hl.1 rfl (Nat.le_of_ble_eq_true rfl) dX6_product_17 (fun H locs hM => ?_)
        refine lv_bipush (v := nI 42) hx hb dX6_product_20 (by decide) ?_
        refine lv_icmp_eq (tgt := 51) hx hb dX6_product_22 (by decide) (fun c_5 => ?_) (fun c_5 => ?_)
        · exact j51  (op1_a c_5) _ _ hM ls (lv_sub hl [0, 1] rfl)
        · refine lv_aload_n hx hb dX6_product_25 rfl (lv_at hl 1 rfl) ?_
          refine lv_aload_n hx hb dX6_product_26 rfl (lv_at hl 1 rfl) ?_
          refine md_get (v := .int (nI r.2.1)) hx hb hts hown hK hM 8 (by decide) q1398 rfl rfl dX6_product_27 ?_
          refine md_callI (y := yX6_byteAt) hx hb hml hown hts hK hI hM (met_byteAt (fT f r.2.1 true) a u n r.2.1 hS.1 hS.2.1 hS.2.2.2.2.2.1 hS.2.2.2.2.2.2 (by omega)) q1538 q1540 qs31 q1541 ndX6_byteAt rfl (by rw [hRf]; omega) (by rw [hRl]; omega) hl.1 rfl (Nat.le_of_ble_eq_true rfl) dX6_product_30 (fun H locs hM => ?_)
          refine lv_bipush (v := nI 47) hx hb dX6_product_33 (by decide) ?_
          refine lv_icmp_eq (tgt := 51) hx hb dX6_product_35 (by decide) (fun c_6 => ?_) (fun c_6 => ?_)
          · exact j51  (op1_b c_6) _ _ hM ls (lv_sub hl [0, 1] rfl)
          · refine lv_aload_n hx hb dX6_product_38 rfl (lv_at hl 1 rfl) ?_
            refine lv_aload_n hx hb dX6_product_39 rfl (lv_at hl 1 rfl) ?_
            refine md_get (v := .int (nI r.2.1)) hx hb hts hown hK hM 8 (by decide) q1398 rfl rfl dX6_product_40 ?_
            refine md_callI (y := yX6_byteAt) hx hb hml hown hts hK hI hM (met_byteAt (fT f r.2.1 true) a u n r.2.1 hS.1 hS.2.1 hS.2.2.2.2.2.1 hS.2.2.2.2.2.2 (by omega)) q1538 q1540 qs31 q1541 ndX6_byteAt rfl (by rw [hRf]; omega) (by rw [hRl]; omega) hl.1 rfl (Nat.le_of_ble_eq_true rfl) dX6_product_43 (fun H locs hM => ?_)
            refine lv_bipush (v := nI 37) hx hb dX6_product_46 (by decide) ?_
            refine lv_icmp_ne (tgt := 114) hx hb dX6_product_48 (by decide) (fun c_7 => ?_) (fun c_7 => ?_)
            · have hrr : r = lpF (opI u x y z) (bT a u) n op1 q (n + 1) (q t) := by rw [← ee, lpF, if_neg (fun q9 => op1_n c_5 c_6 c_7 q9.2)]
              refine lv_iload_n hx hb dX6_product_114 rfl (lv_at hl 0 rfl) ?_
              exact hret (hM.to (by rw [← c_1, hrr]) rfl) (by rw [hrr]) dX6_product_115
            · exact j51  (op1_c c_7) _ _ hM ls (lv_sub hl [0, 1] rfl)
  exact loop5 (n + 1) (q t) (by omega) (by omega) rfl _ _ hM ls (lv_sub hl [0, 1] rfl)
theorem ndX6_sum : yX6_sum.cls = RX6 ∧ yX6_sum.cls ≠ "java/lang/invoke/MethodHandle" ∧ yX6_sum.cls ≠ "java/lang/invoke/VarHandle" ∧ (parseMethodDescriptor yX6_sum.desc).map (fun d => d.parameters.length) = some 0 := by decide +kernel
set_option maxHeartbeats 400000 in
theorem met_sumL (f : Nat → Int32) (a : Nat → Nat → Int32) (u n : Nat) (x y z : Int32) (hS : txS f u n x y z) (d : Nat) (q : Nat → Rs Int32) (hm : mono n q) (hF : ∀ t, t ≤ n → MdF yX6_product cX6_product 4 (some .int) (6 * d + 4) (150 * d + 124) [] (fT f t true) a (some (.int (q t).1)) (fT f (q t).2.1 (q t).2.2) a) (t : Nat) (ht : t ≤ n) : MdF yX6_sum cX6_sum 4 (some .int) (6 * d + 5) (150 * d + 148) [] (fT f t true) a (some (.int ((lpF (opI u x y z) (bT a u) n op2 q (n + 1) (q t)).1))) (fT f (lpF (opI u x y z) (bT a u) n op2 q (n + 1) (q t)).2.1 (lpF (opI u x y z) (bT a u) n op2 q (n + 1) (q t)).2.2) a := by
  refine MdF.ofI (by decide) rfl (Nat.le_of_ble_eq_true rfl) ?_
  intro p l e R s m args below meth c Q D h dA ls hx hb hml hRf hRl hts hown hK hI hM hl hret
  have hl : lv_has ls 4 [(0, .ref (h 0))] := hl
  have hn50 : n ≤ 50 := hS.2.2.2.2.2.2
  have hm0 := hm t ht
  refine lv_aload_n hx hb dX6_sum_0 rfl (lv_at hl 0 rfl) ?_
  refine md_callI (y := yX6_product) hx hb hml hown hts hK hI hM (hF t (ht)) q1530 q1532 qs29 q1533 ndX6_product rfl (by rw [hRf]; omega) (by rw [hRl]; omega) hl.1 rfl (Nat.le_of_ble_eq_true rfl) dX6_sum_1 (fun H locs hM => ?_)
  refine lv_istore_n (lv' := [(1, .int ((q t).1)), (0, .ref (h 0))]) hx hb dX6_sum_4 rfl hl (by decide) rfl (fun ls hl => ?_)
  have loop5 : ∀ (fu : Nat) (r : Rs Int32), (r.2.1 ≤ n) → (n < r.2.1 + fu) → (lpF (opI u x y z) (bT a u) n op2 q fu r = lpF (opI u x y z) (bT a u) n op2 q (n + 1) (q t)) → ∀ (H : Heap) (locs : List Loc), mdH D h dA s.heap H locs (fT f r.2.1 r.2.2) a → ∀ (ls : Array Slot), lv_has ls 4 [(1, .int r.1), (0, .ref (h 0))] → W p l e R s m args below meth c H locs 0 0 Q (F0 m 5 ls []) := by
    intro fu
    induction fu with
    | zero =>
      intro r hr hn ee
      omega
    | succ fu ih5 =>
      intro r hr hn ee H locs hM ls hl
      refine lv_aload_n hx hb dX6_sum_5 rfl (lv_at hl 1 rfl) ?_
      refine md_get (v := .int (iI (r.2.2 = true))) hx hb hts hown hK hM 14 (by decide) q1404 rfl rfl dX6_sum_6 ?_
      refine w_if_eqT (tgt := 81) hx hb dX6_sum_9 (by decide) (fun c_1 => ?_) (fun c_1 => ?_)
      · have hrr : r = lpF (opI u x y z) (bT a u) n op2 q (n + 1) (q t) := by rw [← ee, lpF, if_neg (fun q9 => c_1 q9.1)]
        refine lv_iload_n hx hb dX6_sum_81 rfl (lv_at hl 0 rfl) ?_
        exact hret (hM.to (by rw [hrr]) rfl) (by rw [hrr]) dX6_sum_82
      · have hM := hM.to (f' := fT f r.2.1 true) (by rw [c_1]) rfl
        have j38 : (op2 (tk (bT a u) n r.2.1) = true) → ∀ (H : Heap) (locs : List Loc), mdH D h dA s.heap H locs (fT f r.2.1 true) a → ∀ (ls : Array Slot), lv_has ls 4 [(1, .int r.1), (0, .ref (h 0))] → W p l e R s m args below meth c H locs 0 0 Q (F0 m 38 ls []) := by
          intro  hop H locs hM ls hl
          have htn : r.2.1 < n := tk_lt (fun q9 => by rw [q9] at hop; exact absurd hop (by decide))
          have hm1 := hm (r.2.1 + 1) htn
          refine lv_aload_n hx hb dX6_sum_38 rfl (lv_at hl 1 rfl) ?_
          refine lv_aload_n hx hb dX6_sum_39 rfl (lv_at hl 1 rfl) ?_
          refine md_get (v := .int (nI r.2.1)) hx hb hts hown hK hM 8 (by decide) q1398 rfl rfl dX6_sum_40 ?_
          refine md_callI (y := yX6_byteAt) hx hb hml hown hts hK hI hM (met_byteAt (fT f r.2.1 true) a u n r.2.1 hS.1 hS.2.1 hS.2.2.2.2.2.1 hS.2.2.2.2.2.2 (by omega)) q1538 q1540 qs31 q1541 ndX6_byteAt rfl (by rw [hRf]; omega) (by rw [hRl]; omega) hl.1 rfl (Nat.le_of_ble_eq_true rfl) dX6_sum_43 (fun H locs hM => ?_)
          refine lv_istore_n (lv' := [(2, .int (tk (bT a u) n r.2.1)), (1, .int r.1), (0, .ref (h 0))]) hx hb dX6_sum_46 rfl hl (by decide) rfl (fun ls hl => ?_)
          refine lv_aload_n hx hb dX6_sum_47 rfl (lv_at hl 2 rfl) ?_
          refine lv_dup hx hb dX6_sum_48 rfl ?_
          refine md_get (v := .int (nI r.2.1)) hx hb hts hown hK hM 8 (by decide) q1398 rfl rfl dX6_sum_49 ?_
          refine lv_iconst (v := nI 1) hx hb dX6_sum_52 (by decide) ?_
          refine w_iaddN hx hb dX6_sum_53 ?_
          refine md_put hx hb hts hown hK hI hM 8 (by decide) q1398 rfl rfl rfl rfl rfl dX6_sum_54 (fun H locs hM => ?_)
          have hM := hM.to (f' := fT f (r.2.1 + 1) true) (fT_8 _ _ _ _) rfl
          refine lv_aload_n hx hb dX6_sum_57 rfl (lv_at hl 2 rfl) ?_
          refine md_callI (y := yX6_product) hx hb hml hown hts hK hI hM (hF (r.2.1 + 1) (by omega)) q1530 q1532 qs29 q1533 ndX6_product rfl (by rw [hRf]; omega) (by rw [hRl]; omega) hl.1 rfl (Nat.le_of_ble_eq_true rfl) dX6_sum_58 (fun H locs hM => ?_)
          refine lv_istore_n (lv' := [(3, .int ((q (r.2.1 + 1)).1)), (2, .int (tk (bT a u) n r.2.1)), (1, .int r.1), (0, .ref (h 0))]) hx hb dX6_sum_61 rfl hl (by decide) rfl (fun ls hl => ?_)
          have j77 : ∀ (H : Heap) (locs : List Loc), mdH D h dA s.heap H locs (fT f ((q (r.2.1 + 1)).2.1) ((q (r.2.1 + 1)).2.2)) a → ∀ (ls : Array Slot), lv_has ls 4 [(1, .int r.1), (0, .ref (h 0))] → W p l e R s m args below meth c H locs 0 0 Q (F0 m 77 ls [.int (opB (tk (bT a u) n r.2.1) r.1 ((q (r.2.1 + 1)).1))]) := by
            intro   H locs hM ls hl
            refine lv_istore_n (lv' := [(1, .int (opB (tk (bT a u) n r.2.1) r.1 ((q (r.2.1 + 1)).1))), (0, .ref (h 0))]) hx hb dX6_sum_77 rfl hl (by decide) rfl (fun ls hl => ?_)
            refine lv_goto (tgt := 5) hx hb dX6_sum_78 (by decide) ?_
            exact ih5 (opB (tk (bT a u) n r.2.1) r.1 (q (r.2.1 + 1)).1, (q (r.2.1 + 1)).2) hm1.2 (by dsimp only; omega) (by rw [← ee, lpF, if_pos ⟨c_1, hop⟩]) _ _ hM ls (lv_sub hl [0, 1] rfl)
          refine lv_iload_n hx hb dX6_sum_62 rfl (lv_at hl 1 rfl) ?_
          refine lv_bipush (v := nI 43) hx hb dX6_sum_63 (by decide) ?_
          refine lv_icmp_ne (tgt := 74) hx hb dX6_sum_65 (by decide) (fun c_2 => ?_) (fun c_2 => ?_)
          · refine lv_iload_n hx hb dX6_sum_74 rfl (lv_at hl 2 rfl) ?_
            refine lv_iload_n hx hb dX6_sum_75 rfl (lv_at hl 0 rfl) ?_
            refine lv_isub hx hb dX6_sum_76 ?_
            refine w_top (opB (tk (bT a u) n r.2.1) r.1 ((q (r.2.1 + 1)).1)) (opB_45 hop c_2 _ _) ?_
            exact j77   _ _ hM ls (lv_sub hl [2, 3] rfl)
          · refine lv_iload_n hx hb dX6_sum_68 rfl (lv_at hl 2 rfl) ?_
            refine lv_iload_n hx hb dX6_sum_69 rfl (lv_at hl 0 rfl) ?_
            refine lv_iadd hx hb dX6_sum_70 ?_
            refine lv_goto (tgt := 77) hx hb dX6_sum_71 (by decide) ?_
            refine w_top (opB (tk (bT a u) n r.2.1) r.1 ((q (r.2.1 + 1)).1)) (opB_43 c_2 _ _) ?_
            exact j77   _ _ hM ls (lv_sub hl [2, 3] rfl)
        refine lv_aload_n hx hb dX6_sum_12 rfl (lv_at hl 1 rfl) ?_
        refine lv_aload_n hx hb dX6_sum_13 rfl (lv_at hl 1 rfl) ?_
        refine md_get (v := .int (nI r.2.1)) hx hb hts hown hK hM 8 (by decide) q1398 rfl rfl dX6_sum_14 ?_
        refine md_callI (y := yX6_byteAt) hx hb hml hown hts hK hI hM (met_byteAt (fT f r.2.1 true) a u n r.2.1 hS.1 hS.2.1 hS.2.2.2.2.2.1 hS.2.2.2.2.2.2 (by omega)) q1538 q1540 qs31 q1541 ndX6_byteAt rfl (by rw [hRf]; omega) (by rw [hRl]; omega) hl.1 rfl (Nat.le_of_ble_eq_true rfl) dX6_sum_17 (fun H locs hM => ?_)
        refine lv_bipush (v := nI 43) hx hb dX6_sum_20 (by decide) ?_
        refine lv_icmp_eq (tgt := 38) hx hb dX6_sum_22 (by decide) (fun c_3 => ?_) (fun c_3 => ?_)
        · exact j38  (op2_a c_3) _ _ hM ls (lv_sub hl [0, 1] rfl)
        · refine lv_aload_n hx hb dX6_sum_25 rfl (lv_at hl 1 rfl) ?_
          refine lv_aload_n hx hb dX6_sum_26 rfl (lv_at hl 1 rfl) ?_
          refine md_get (v := .int (nI r.2.1)) hx hb hts hown hK hM 8 (by decide) q1398 rfl rfl dX6_sum_27 ?_
          refine md_callI (y := yX6_byteAt) hx hb hml hown hts hK hI hM (met_byteAt (fT f r.2.1 true) a u n r.2.1 hS.1 hS.2.1 hS.2.2.2.2.2.1 hS.2.2.2.2.2.2 (by omega)) q1538 q1540 qs31 q1541 ndX6_byteAt rfl (by rw [hRf]; omega) (by rw [hRl]; omega) hl.1 rfl (Nat.le_of_ble_eq_true rfl) dX6_sum_30 (fun H locs hM => ?_)
          refine lv_bipush (v := nI 45) hx hb dX6_sum_33 (by decide) ?_
          refine lv_icmp_ne (tgt := 81) hx hb dX6_sum_35 (by decide) (fun c_4 => ?_) (fun c_4 => ?_)
          · have hrr : r = lpF (opI u x y z) (bT a u) n op2 q (n + 1) (q t) := by rw [← ee, lpF, if_neg (fun q9 => op2_n c_3 c_4 q9.2)]
            refine lv_iload_n hx hb dX6_sum_81 rfl (lv_at hl 0 rfl) ?_
            exact hret (hM.to (by rw [← c_1, hrr]) rfl) (by rw [hrr]) dX6_sum_82
          · exact j38  (op2_b c_4) _ _ hM ls (lv_sub hl [0, 1] rfl)
  exact loop5 (n + 1) (q t) (by omega) (by omega) rfl _ _ hM ls (lv_sub hl [0, 1] rfl)
theorem ndX6_compared : yX6_compared.cls = RX6 ∧ yX6_compared.cls ≠ "java/lang/invoke/MethodHandle" ∧ yX6_compared.cls ≠ "java/lang/invoke/VarHandle" ∧ (parseMethodDescriptor yX6_compared.desc).map (fun d => d.parameters.length) = some 0 := by decide +kernel
set_option maxHeartbeats 400000 in
theorem met_comparedL (f : Nat → Int32) (a : Nat → Nat → Int32) (u n : Nat) (x y z : Int32) (hS : txS f u n x y z) (d : Nat) (q : Nat → Rs Int32) (hm : mono n q) (hF : ∀ t, t ≤ n → MdF yX6_sum cX6_sum 4 (some .int) (6 * d + 5) (150 * d + 148) [] (fT f t true) a (some (.int (q t).1)) (fT f (q t).2.1 (q t).2.2) a) (t : Nat) (ht : t ≤ n) : MdF yX6_compared cX6_compared 5 (some .int) (6 * d + 6) (150 * d + 172) [] (fT f t true) a (some (.int ((if (q t).2.2 = true ∧ op3 (tk (bT a u) n (q t).2.1) = true then (opB (tk (bT a u) n (q t).2.1) (q t).1 (q ((q t).2.1 + 1)).1, (q ((q t).2.1 + 1)).2) else q t).1))) (fT f (if (q t).2.2 = true ∧ op3 (tk (bT a u) n (q t).2.1) = true then (opB (tk (bT a u) n (q t).2.1) (q t).1 (q ((q t).2.1 + 1)).1, (q ((q t).2.1 + 1)).2) else q t).2.1 (if (q t).2.2 = true ∧ op3 (tk (bT a u) n (q t).2.1) = true then (opB (tk (bT a u) n (q t).2.1) (q t).1 (q ((q t).2.1 + 1)).1, (q ((q t).2.1 + 1)).2) else q t).2.2) a := by
  refine MdF.ofI (by decide) rfl (Nat.le_of_ble_eq_true rfl) ?_
  intro p l e R s m args below meth c Q D h dA ls hx hb hml hRf hRl hts hown hK hI hM hl hret
  have hl : lv_has ls 5 [(0, .ref (h 0))] := hl
  have hn50 : n ≤ 50 := hS.2.2.2.2.2.2
  have hm0 := hm t ht
  refine lv_aload_n hx hb dX6_compared_0 rfl (lv_at hl 0 rfl) ?_
  refine md_callI (y := yX6_sum) hx hb hml hown hts hK hI hM (hF t (ht)) q1526 q1528 qs28 q1529 ndX6_sum rfl (by rw [hRf]; omega) (by rw [hRl]; omega) hl.1 rfl (Nat.le_of_ble_eq_true rfl) dX6_compared_1 (fun H locs hM => ?_)
  refine lv_istore_n (lv' := [(1, .int ((q t).1)), (0, .ref (h 0))]) hx hb dX6_compared_4 rfl hl (by decide) rfl (fun ls hl => ?_)
  refine lv_aload_n hx hb dX6_compared_5 rfl (lv_at hl 1 rfl) ?_
  refine md_get (v := .int (iI ((q t).2.2 = true))) hx hb hts hown hK hM 14 (by decide) q1404 rfl rfl dX6_compared_6 ?_
  refine w_if_eqT (tgt := 23) hx hb dX6_compared_9 (by decide) (fun c_1 => ?_) (fun c_1 => ?_)
  · refine lv_iconst (v := (-1 : Int32)) hx hb dX6_compared_23 (by decide) ?_
    refine lv_istore_n (lv' := [(2, .int (-1 : Int32)), (1, .int ((q t).1)), (0, .ref (h 0))]) hx hb dX6_compared_24 rfl hl (by decide) rfl (fun ls hl => ?_)
    refine lv_iload_n hx hb dX6_compared_25 rfl (lv_at hl 0 rfl) ?_
    refine lv_bipush (v := nI 60) hx hb dX6_compared_26 (by decide) ?_
    refine lv_icmp_eq (tgt := 45) hx hb dX6_compared_28 (by decide) (fun c_2 => ?_) (fun c_2 => ?_)
    · exact absurd c_2 (by decide)
    · refine lv_iload_n hx hb dX6_compared_31 rfl (lv_at hl 0 rfl) ?_
      refine lv_bipush (v := nI 61) hx hb dX6_compared_32 (by decide) ?_
      refine lv_icmp_eq (tgt := 45) hx hb dX6_compared_34 (by decide) (fun c_3 => ?_) (fun c_3 => ?_)
      · exact absurd c_3 (by decide)
      · refine lv_iload_n hx hb dX6_compared_37 rfl (lv_at hl 0 rfl) ?_
        refine lv_bipush (v := nI 62) hx hb dX6_compared_38 (by decide) ?_
        refine lv_icmp_eq (tgt := 45) hx hb dX6_compared_40 (by decide) (fun c_4 => ?_) (fun c_4 => ?_)
        · exact absurd c_4 (by decide)
        · have hE : (if (q t).2.2 = true ∧ op3 (tk (bT a u) n (q t).2.1) = true then (opB (tk (bT a u) n (q t).2.1) (q t).1 (q ((q t).2.1 + 1)).1, (q ((q t).2.1 + 1)).2) else q t) = q t := if_neg (fun q9 => c_1 q9.1)
          refine lv_iload_n hx hb dX6_compared_43 rfl (lv_at hl 1 rfl) ?_
          exact hret (hM.to (by rw [hE]) rfl) (by rw [hE]) dX6_compared_44
  · have hM := hM.to (f' := fT f ((q t).2.1) true) (by rw [c_1]) rfl
    refine lv_aload_n hx hb dX6_compared_12 rfl (lv_at hl 1 rfl) ?_
    refine lv_aload_n hx hb dX6_compared_13 rfl (lv_at hl 1 rfl) ?_
    refine md_get (v := .int (nI ((q t).2.1))) hx hb hts hown hK hM 8 (by decide) q1398 rfl rfl dX6_compared_14 ?_
    refine md_callI (y := yX6_byteAt) hx hb hml hown hts hK hI hM (met_byteAt (fT f ((q t).2.1) true) a u n ((q t).2.1) hS.1 hS.2.1 hS.2.2.2.2.2.1 hS.2.2.2.2.2.2 (by omega)) q1538 q1540 qs31 q1541 ndX6_byteAt rfl (by rw [hRf]; omega) (by rw [hRl]; omega) hl.1 rfl (Nat.le_of_ble_eq_true rfl) dX6_compared_17 (fun H locs hM => ?_)
    have j45 : (op3 (tk (bT a u) n (q t).2.1) = true) → ∀ (H : Heap) (locs : List Loc), mdH D h dA s.heap H locs (fT f ((q t).2.1) true) a → ∀ (ls : Array Slot), lv_has ls 5 [(2, .int (tk (bT a u) n (q t).2.1)), (1, .int ((q t).1)), (0, .ref (h 0))] → W p l e R s m args below meth c H locs 0 0 Q (F0 m 45 ls []) := by
      intro  hop H locs hM ls hl
      have htn : (q t).2.1 < n := tk_lt (fun q9 => by rw [q9] at hop; exact absurd hop (by decide))
      have hm1 := hm ((q t).2.1 + 1) htn
      have hE : (if (q t).2.2 = true ∧ op3 (tk (bT a u) n (q t).2.1) = true then (opB (tk (bT a u) n (q t).2.1) (q t).1 (q ((q t).2.1 + 1)).1, (q ((q t).2.1 + 1)).2) else q t) = (opB (tk (bT a u) n (q t).2.1) (q t).1 (q ((q t).2.1 + 1)).1, (q ((q t).2.1 + 1)).2) := if_pos ⟨c_1, hop⟩
      refine lv_aload_n hx hb dX6_compared_45 rfl (lv_at hl 2 rfl) ?_
      refine lv_dup hx hb dX6_compared_46 rfl ?_
      refine md_get (v := .int (nI ((q t).2.1))) hx hb hts hown hK hM 8 (by decide) q1398 rfl rfl dX6_compared_47 ?_
      refine lv_iconst (v := nI 1) hx hb dX6_compared_50 (by decide) ?_
      refine w_iaddN hx hb dX6_compared_51 ?_
      refine md_put hx hb hts hown hK hI hM 8 (by decide) q1398 rfl rfl rfl rfl rfl dX6_compared_52 (fun H locs hM => ?_)
      have hM := hM.to (f' := fT f (((q t).2.1) + 1) true) (fT_8 _ _ _ _) rfl
      refine lv_aload_n hx hb dX6_compared_55 rfl (lv_at hl 2 rfl) ?_
      refine md_callI (y := yX6_sum) hx hb hml hown hts hK hI hM (hF (((q t).2.1) + 1) (by omega)) q1526 q1528 qs28 q1529 ndX6_sum rfl (by rw [hRf]; omega) (by rw [hRl]; omega) hl.1 rfl (Nat.le_of_ble_eq_true rfl) dX6_compared_56 (fun H locs hM => ?_)
      refine lv_istore_n (lv' := [(3, .int ((q (((q t).2.1) + 1)).1)), (2, .int (tk (bT a u) n (q t).2.1)), (1, .int ((q t).1)), (0, .ref (h 0))]) hx hb dX6_compared_59 rfl hl (by decide) rfl (fun ls hl => ?_)
      have j108 : ∀ (H : Heap) (locs : List Loc), mdH D h dA s.heap H locs (fT f ((q (((q t).2.1) + 1)).2.1) ((q (((q t).2.1) + 1)).2.2)) a → ∀ (ls : Array Slot), lv_has ls 5 [(3, .int ((q (((q t).2.1) + 1)).1)), (2, .int (tk (bT a u) n (q t).2.1)), (1, .int ((q t).1)), (0, .ref (h 0))] → W p l e R s m args below meth c H locs 0 0 Q (F0 m 108 ls [.int (opB (tk (bT a u) n (q t).2.1) (q t).1 (q ((q t).2.1 + 1)).1)]) := by
        intro   H locs hM ls hl
        refine lv_istore (lv' := [(4, .int (opB (tk (bT a u) n (q t).2.1) (q t).1 (q ((q t).2.1 + 1)).1)), (3, .int ((q (((q t).2.1) + 1)).1)), (2, .int (tk (bT a u) n (q t).2.1)), (1, .int ((q t).1)), (0, .ref (h 0))]) hx hb dX6_compared_108 hl (by decide) rfl (fun ls hl => ?_)
        refine lv_iload hx hb dX6_compared_110 (lv_at hl 0 rfl) ?_
        refine lv_if_eq (tgt := 119) hx hb dX6_compared_112 (by decide) (fun c_5 => ?_) (fun c_5 => ?_)
        · refine lv_iconst (v := nI 0) hx hb dX6_compared_119 (by decide) ?_
          exact hret (hM.to (by rw [hE]) rfl) (by rw [hE]; exact c_5.symm) dX6_compared_120
        · refine lv_iconst (v := nI 1) hx hb dX6_compared_115 (by decide) ?_
          refine lv_goto (tgt := 120) hx hb dX6_compared_116 (by decide) ?_
          exact hret (hM.to (by rw [hE]) rfl) (by rw [hE]; exact op3_1 hop c_5) dX6_compared_120
      refine lv_iload_n hx hb dX6_compared_60 rfl (lv_at hl 1 rfl) ?_
      refine lv_bipush (v := nI 60) hx hb dX6_compared_61 (by decide) ?_
      refine lv_icmp_ne (tgt := 79) hx hb dX6_compared_63 (by decide) (fun c_6 => ?_) (fun c_6 => ?_)
      · refine lv_iload_n hx hb dX6_compared_79 rfl (lv_at hl 1 rfl) ?_
        refine lv_bipush (v := nI 61) hx hb dX6_compared_80 (by decide) ?_
        refine lv_icmp_ne (tgt := 98) hx hb dX6_compared_82 (by decide) (fun c_7 => ?_) (fun c_7 => ?_)
        · refine lv_iload_n hx hb dX6_compared_98 rfl (lv_at hl 2 rfl) ?_
          refine lv_iload_n hx hb dX6_compared_99 rfl (lv_at hl 0 rfl) ?_
          refine lv_icmp_le (tgt := 107) hx hb dX6_compared_100 (by decide) (fun c_8 => ?_) (fun c_8 => ?_)
          · refine lv_iconst (v := nI 0) hx hb dX6_compared_107 (by decide) ?_
            refine w_top (opB (tk (bT a u) n (q t).2.1) (q t).1 (q ((q t).2.1 + 1)).1) ((iI_0 (fun q9 => absurd q9 (Int32.not_lt.mpr c_8))).trans (opB_62 (op3_r hop c_6 c_7) _ _)) ?_
            exact j108   _ _ hM ls (lv_sub hl [0, 1, 2, 3] rfl)
          · refine lv_iconst (v := nI 1) hx hb dX6_compared_103 (by decide) ?_
            refine lv_goto (tgt := 108) hx hb dX6_compared_104 (by decide) ?_
            refine w_top (opB (tk (bT a u) n (q t).2.1) (q t).1 (q ((q t).2.1 + 1)).1) ((iI_1 (Int32.not_le.mp c_8)).trans (opB_62 (op3_r hop c_6 c_7) _ _)) ?_
            exact j108   _ _ hM ls (lv_sub hl [0, 1, 2, 3] rfl)
        · refine lv_iload_n hx hb dX6_compared_85 rfl (lv_at hl 2 rfl) ?_
          refine lv_iload_n hx hb dX6_compared_86 rfl (lv_at hl 0 rfl) ?_
          refine lv_icmp_ne (tgt := 94) hx hb dX6_compared_87 (by decide) (fun c_9 => ?_) (fun c_9 => ?_)
          · refine lv_iconst (v := nI 0) hx hb dX6_compared_94 (by decide) ?_
            refine lv_goto (tgt := 108) hx hb dX6_compared_95 (by decide) ?_
            refine w_top (opB (tk (bT a u) n (q t).2.1) (q t).1 (q ((q t).2.1 + 1)).1) ((iI_0 c_9).trans (opB_61 c_7 _ _)) ?_
            exact j108   _ _ hM ls (lv_sub hl [0, 1, 2, 3] rfl)
          · refine lv_iconst (v := nI 1) hx hb dX6_compared_90 (by decide) ?_
            refine lv_goto (tgt := 108) hx hb dX6_compared_91 (by decide) ?_
            refine w_top (opB (tk (bT a u) n (q t).2.1) (q t).1 (q ((q t).2.1 + 1)).1) ((iI_1 c_9).trans (opB_61 c_7 _ _)) ?_
            exact j108   _ _ hM ls (lv_sub hl [0, 1, 2, 3] rfl)
      · refine lv_iload_n hx hb dX6_compared_66 rfl (lv_at hl 2 rfl) ?_
        refine lv_iload_n hx hb dX6_compared_67 rfl (lv_at hl 0 rfl) ?_
        refine lv_icmp_ge (tgt := 75) hx hb dX6_compared_68 (by decide) (fun c_10 => ?_) (fun c_10 => ?_)
        · refine lv_iconst (v := nI 0) hx hb dX6_compared_75 (by decide) ?_
          refine lv_goto (tgt := 108) hx hb dX6_compared_76 (by decide) ?_
          refine w_top (opB (tk (bT a u) n (q t).2.1) (q t).1 (q ((q t).2.1 + 1)).1) ((iI_0 (fun q9 => absurd q9 (Int32.not_lt.mpr c_10))).trans (opB_60 c_6 _ _)) ?_
          exact j108   _ _ hM ls (lv_sub hl [0, 1, 2, 3] rfl)
        · refine lv_iconst (v := nI 1) hx hb dX6_compared_71 (by decide) ?_
          refine lv_goto (tgt := 108) hx hb dX6_compared_72 (by decide) ?_
          refine w_top (opB (tk (bT a u) n (q t).2.1) (q t).1 (q ((q t).2.1 + 1)).1) ((iI_1 (Int32.not_le.mp c_10)).trans (opB_60 c_6 _ _)) ?_
          exact j108   _ _ hM ls (lv_sub hl [0, 1, 2, 3] rfl)
    refine lv_goto (tgt := 24) hx hb dX6_compared_20 (by decide) ?_
    refine lv_istore_n (lv' := [(2, .int (tk (bT a u) n ((q t).2.1))), (1, .int ((q t).1)), (0, .ref (h 0))]) hx hb dX6_compared_24 rfl hl (by decide) rfl (fun ls hl => ?_)
    refine lv_iload_n hx hb dX6_compared_25 rfl (lv_at hl 0 rfl) ?_
    refine lv_bipush (v := nI 60) hx hb dX6_compared_26 (by decide) ?_
    refine lv_icmp_eq (tgt := 45) hx hb dX6_compared_28 (by decide) (fun c_11 => ?_) (fun c_11 => ?_)
    · exact j45  (op3_a c_11) _ _ hM ls (lv_sub hl [0, 1, 2] rfl)
    · refine lv_iload_n hx hb dX6_compared_31 rfl (lv_at hl 0 rfl) ?_
      refine lv_bipush (v := nI 61) hx hb dX6_compared_32 (by decide) ?_
      refine lv_icmp_eq (tgt := 45) hx hb dX6_compared_34 (by decide) (fun c_12 => ?_) (fun c_12 => ?_)
      · exact j45  (op3_b c_12) _ _ hM ls (lv_sub hl [0, 1, 2] rfl)
      · refine lv_iload_n hx hb dX6_compared_37 rfl (lv_at hl 0 rfl) ?_
        refine lv_bipush (v := nI 62) hx hb dX6_compared_38 (by decide) ?_
        refine lv_icmp_eq (tgt := 45) hx hb dX6_compared_40 (by decide) (fun c_13 => ?_) (fun c_13 => ?_)
        · exact j45  (op3_c c_13) _ _ hM ls (lv_sub hl [0, 1, 2] rfl)
        · have hE : (if (q t).2.2 = true ∧ op3 (tk (bT a u) n (q t).2.1) = true then (opB (tk (bT a u) n (q t).2.1) (q t).1 (q ((q t).2.1 + 1)).1, (q ((q t).2.1 + 1)).2) else q t) = q t := if_neg (fun q9 => op3_n c_11 c_12 c_13 q9.2)
          refine lv_iload_n hx hb dX6_compared_43 rfl (lv_at hl 1 rfl) ?_
          exact hret (hM.to (by rw [hE, c_1]) rfl) (by rw [hE]) dX6_compared_44
theorem ndX6_both : yX6_both.cls = RX6 ∧ yX6_both.cls ≠ "java/lang/invoke/MethodHandle" ∧ yX6_both.cls ≠ "java/lang/invoke/VarHandle" ∧ (parseMethodDescriptor yX6_both.desc).map (fun d => d.parameters.length) = some 0 := by decide +kernel
set_option maxHeartbeats 400000 in
theorem met_bothL (f : Nat → Int32) (a : Nat → Nat → Int32) (u n : Nat) (x y z : Int32) (hS : txS f u n x y z) (d : Nat) (q : Nat → Rs Int32) (hm : mono n q) (hF : ∀ t, t ≤ n → MdF yX6_compared cX6_compared 5 (some .int) (6 * d + 6) (150 * d + 172) [] (fT f t true) a (some (.int (q t).1)) (fT f (q t).2.1 (q t).2.2) a) (t : Nat) (ht : t ≤ n) : MdF yX6_both cX6_both 3 (some .int) (6 * d + 7) (150 * d + 196) [] (fT f t true) a (some (.int ((lpF (opI u x y z) (bT a u) n op4 q (n + 1) (q t)).1))) (fT f (lpF (opI u x y z) (bT a u) n op4 q (n + 1) (q t)).2.1 (lpF (opI u x y z) (bT a u) n op4 q (n + 1) (q t)).2.2) a := by
  refine MdF.ofI (by decide) rfl (Nat.le_of_ble_eq_true rfl) ?_
  intro p l e R s m args below meth c Q D h dA ls hx hb hml hRf hRl hts hown hK hI hM hl hret
  have hl : lv_has ls 3 [(0, .ref (h 0))] := hl
  have hn50 : n ≤ 50 := hS.2.2.2.2.2.2
  have hm0 := hm t ht
  refine lv_aload_n hx hb dX6_both_0 rfl (lv_at hl 0 rfl) ?_
  refine md_callI (y := yX6_compared) hx hb hml hown hts hK hI hM (hF t (ht)) q1522 q1524 qs27 q1525 ndX6_compared rfl (by rw [hRf]; omega) (by rw [hRl]; omega) hl.1 rfl (Nat.le_of_ble_eq_true rfl) dX6_both_1 (fun H locs hM => ?_)
  refine lv_istore_n (lv' := [(1, .int ((q t).1)), (0, .ref (h 0))]) hx hb dX6_both_4 rfl hl (by decide) rfl (fun ls hl => ?_)
  have loop5 : ∀ (fu : Nat) (r : Rs Int32), (r.2.1 ≤ n) → (n < r.2.1 + fu) → (lpF (opI u x y z) (bT a u) n op4 q fu r = lpF (opI u x y z) (bT a u) n op4 q (n + 1) (q t)) → ∀ (H : Heap) (locs : List Loc), mdH D h dA s.heap H locs (fT f r.2.1 r.2.2) a → ∀ (ls : Array Slot), lv_has ls 3 [(1, .int r.1), (0, .ref (h 0))] → W p l e R s m args below meth c H locs 0 0 Q (F0 m 5 ls []) := by
    intro fu
    induction fu with
    | zero =>
      intro r hr hn ee
      omega
    | succ fu ih5 =>
      intro r hr hn ee H locs hM ls hl
      refine lv_aload_n hx hb dX6_both_5 rfl (lv_at hl 1 rfl) ?_
      refine md_get (v := .int (iI (r.2.2 = true))) hx hb hts hown hK hM 14 (by decide) q1404 rfl rfl dX6_both_6 ?_
      refine w_if_eqT (tgt := 57) hx hb dX6_both_9 (by decide) (fun c_1 => ?_) (fun c_1 => ?_)
      · have hrr : r = lpF (opI u x y z) (bT a u) n op4 q (n + 1) (q t) := by rw [← ee, lpF, if_neg (fun q9 => c_1 q9.1)]
        refine lv_iload_n hx hb dX6_both_57 rfl (lv_at hl 0 rfl) ?_
        exact hret (hM.to (by rw [hrr]) rfl) (by rw [hrr]) dX6_both_58
      · have hM := hM.to (f' := fT f r.2.1 true) (by rw [c_1]) rfl
        refine lv_aload_n hx hb dX6_both_12 rfl (lv_at hl 1 rfl) ?_
        refine lv_aload_n hx hb dX6_both_13 rfl (lv_at hl 1 rfl) ?_
        refine md_get (v := .int (nI r.2.1)) hx hb hts hown hK hM 8 (by decide) q1398 rfl rfl dX6_both_14 ?_
        refine md_callI (y := yX6_byteAt) hx hb hml hown hts hK hI hM (met_byteAt (fT f r.2.1 true) a u n r.2.1 hS.1 hS.2.1 hS.2.2.2.2.2.1 hS.2.2.2.2.2.2 (by omega)) q1538 q1540 qs31 q1541 ndX6_byteAt rfl (by rw [hRf]; omega) (by rw [hRl]; omega) hl.1 rfl (Nat.le_of_ble_eq_true rfl) dX6_both_17 (fun H locs hM => ?_)
        refine lv_bipush (v := nI 38) hx hb dX6_both_20 (by decide) ?_
        refine lv_icmp_ne (tgt := 57) hx hb dX6_both_22 (by decide) (fun c_2 => ?_) (fun c_2 => ?_)
        · have hrr : r = lpF (opI u x y z) (bT a u) n op4 q (n + 1) (q t) := by rw [← ee, lpF, if_neg (fun q9 => op4_n c_2 q9.2)]
          refine lv_iload_n hx hb dX6_both_57 rfl (lv_at hl 0 rfl) ?_
          exact hret (hM.to (by rw [← c_1, hrr]) rfl) (by rw [hrr]) dX6_both_58
        · have hop := op4_a c_2
          have htn : r.2.1 < n := tk_lt (fun q9 => by rw [q9] at hop; exact absurd hop (by decide))
          have hm1 := hm (r.2.1 + 1) htn
          refine lv_aload_n hx hb dX6_both_25 rfl (lv_at hl 1 rfl) ?_
          refine lv_dup hx hb dX6_both_26 rfl ?_
          refine md_get (v := .int (nI r.2.1)) hx hb hts hown hK hM 8 (by decide) q1398 rfl rfl dX6_both_27 ?_
          refine lv_iconst (v := nI 1) hx hb dX6_both_30 (by decide) ?_
          refine w_iaddN hx hb dX6_both_31 ?_
          refine md_put hx hb hts hown hK hI hM 8 (by decide) q1398 rfl rfl rfl rfl rfl dX6_both_32 (fun H locs hM => ?_)
          have hM := hM.to (f' := fT f (r.2.1 + 1) true) (fT_8 _ _ _ _) rfl
          refine lv_aload_n hx hb dX6_both_35 rfl (lv_at hl 1 rfl) ?_
          refine md_callI (y := yX6_compared) hx hb hml hown hts hK hI hM (hF (r.2.1 + 1) (by omega)) q1522 q1524 qs27 q1525 ndX6_compared rfl (by rw [hRf]; omega) (by rw [hRl]; omega) hl.1 rfl (Nat.le_of_ble_eq_true rfl) dX6_both_36 (fun H locs hM => ?_)
          refine lv_istore_n (lv' := [(2, .int ((q (r.2.1 + 1)).1)), (1, .int r.1), (0, .ref (h 0))]) hx hb dX6_both_39 rfl hl (by decide) rfl (fun ls hl => ?_)
          have j53 : ∀ (H : Heap) (locs : List Loc), mdH D h dA s.heap H locs (fT f ((q (r.2.1 + 1)).2.1) ((q (r.2.1 + 1)).2.2)) a → ∀ (ls : Array Slot), lv_has ls 3 [(1, .int r.1), (0, .ref (h 0))] → W p l e R s m args below meth c H locs 0 0 Q (F0 m 53 ls [.int (opB (tk (bT a u) n r.2.1) r.1 ((q (r.2.1 + 1)).1))]) := by
            intro   H locs hM ls hl
            refine lv_istore_n (lv' := [(1, .int (opB (tk (bT a u) n r.2.1) r.1 ((q (r.2.1 + 1)).1))), (0, .ref (h 0))]) hx hb dX6_both_53 rfl hl (by decide) rfl (fun ls hl => ?_)
            refine lv_goto (tgt := 5) hx hb dX6_both_54 (by decide) ?_
            exact ih5 (opB (tk (bT a u) n r.2.1) r.1 (q (r.2.1 + 1)).1, (q (r.2.1 + 1)).2) hm1.2 (by dsimp only; omega) (by rw [← ee, lpF, if_pos ⟨c_1, hop⟩]) _ _ hM ls (lv_sub hl [0, 1] rfl)
          refine lv_iload_n hx hb dX6_both_40 rfl (lv_at hl 1 rfl) ?_
          refine lv_if_eq (tgt := 52) hx hb dX6_both_41 (by decide) (fun c_3 => ?_) (fun c_3 => ?_)
          · refine lv_iconst (v := nI 0) hx hb dX6_both_52 (by decide) ?_
            refine w_top (opB (tk (bT a u) n r.2.1) r.1 ((q (r.2.1 + 1)).1)) ((iI_0 (fun q9 => q9.1 c_3)).trans (opB_38 c_2 _ _)) ?_
            exact j53   _ _ hM ls (lv_sub hl [1, 2] rfl)
          · refine lv_iload_n hx hb dX6_both_44 rfl (lv_at hl 0 rfl) ?_
            refine lv_if_eq (tgt := 52) hx hb dX6_both_45 (by decide) (fun c_4 => ?_) (fun c_4 => ?_)
            · refine lv_iconst (v := nI 0) hx hb dX6_both_52 (by decide) ?_
              refine w_top (opB (tk (bT a u) n r.2.1) r.1 ((q (r.2.1 + 1)).1)) ((iI_0 (fun q9 => q9.2 c_4)).trans (opB_38 c_2 _ _)) ?_
              exact j53   _ _ hM ls (lv_sub hl [1, 2] rfl)
            · refine lv_iconst (v := nI 1) hx hb dX6_both_48 (by decide) ?_
              refine lv_goto (tgt := 53) hx hb dX6_both_49 (by decide) ?_
              refine w_top (opB (tk (bT a u) n r.2.1) r.1 ((q (r.2.1 + 1)).1)) ((iI_1 ⟨c_3, c_4⟩).trans (opB_38 c_2 _ _)) ?_
              exact j53   _ _ hM ls (lv_sub hl [1, 2] rfl)
  exact loop5 (n + 1) (q t) (by omega) (by omega) rfl _ _ hM ls (lv_sub hl [0, 1] rfl)
set_option maxHeartbeats 400000 in
theorem met_wholeL (f : Nat → Int32) (a : Nat → Nat → Int32) (u n : Nat) (x y z : Int32) (hS : txS f u n x y z) (d : Nat) (q : Nat → Rs Int32) (hm : mono n q) (hF : ∀ t, t ≤ n → MdF yX6_both cX6_both 3 (some .int) (6 * d + 7) (150 * d + 196) [] (fT f t true) a (some (.int (q t).1)) (fT f (q t).2.1 (q t).2.2) a) (t : Nat) (ht : t ≤ n) : MdF yX6_whole cX6_whole 3 (some .int) (6 * d + 8) (150 * d + 220) [] (fT f t true) a (some (.int ((lpF (opI u x y z) (bT a u) n op5 q (n + 1) (q t)).1))) (fT f (lpF (opI u x y z) (bT a u) n op5 q (n + 1) (q t)).2.1 (lpF (opI u x y z) (bT a u) n op5 q (n + 1) (q t)).2.2) a := by
  refine MdF.ofI (by decide) rfl (Nat.le_of_ble_eq_true rfl) ?_
  intro p l e R s m args below meth c Q D h dA ls hx hb hml hRf hRl hts hown hK hI hM hl hret
  have hl : lv_has ls 3 [(0, .ref (h 0))] := hl
  have hn50 : n ≤ 50 := hS.2.2.2.2.2.2
  have hm0 := hm t ht
  refine lv_aload_n hx hb dX6_whole_0 rfl (lv_at hl 0 rfl) ?_
  refine md_callI (y := yX6_both) hx hb hml hown hts hK hI hM (hF t (ht)) q1518 q1520 qs26 q1521 ndX6_both rfl (by rw [hRf]; omega) (by rw [hRl]; omega) hl.1 rfl (Nat.le_of_ble_eq_true rfl) dX6_whole_1 (fun H locs hM => ?_)
  refine lv_istore_n (lv' := [(1, .int ((q t).1)), (0, .ref (h 0))]) hx hb dX6_whole_4 rfl hl (by decide) rfl (fun ls hl => ?_)
  have loop5 : ∀ (fu : Nat) (r : Rs Int32), (r.2.1 ≤ n) → (n < r.2.1 + fu) → (lpF (opI u x y z) (bT a u) n op5 q fu r = lpF (opI u x y z) (bT a u) n op5 q (n + 1) (q t)) → ∀ (H : Heap) (locs : List Loc), mdH D h dA s.heap H locs (fT f r.2.1 r.2.2) a → ∀ (ls : Array Slot), lv_has ls 3 [(1, .int r.1), (0, .ref (h 0))] → W p l e R s m args below meth c H locs 0 0 Q (F0 m 5 ls []) := by
    intro fu
    induction fu with
    | zero =>
      intro r hr hn ee
      omega
    | succ fu ih5 =>
      intro r hr hn ee H locs hM ls hl
      refine lv_aload_n hx hb dX6_whole_5 rfl (lv_at hl 1 rfl) ?_
      refine md_get (v := .int (iI (r.2.2 = true))) hx hb hts hown hK hM 14 (by decide) q1404 rfl rfl dX6_whole_6 ?_
      refine w_if_eqT (tgt := 57) hx hb dX6_whole_9 (by decide) (fun c_1 => ?_) (fun c_1 => ?_)
      · have hrr : r = lpF (opI u x y z) (bT a u) n op5 q (n + 1) (q t) := by rw [← ee, lpF, if_neg (fun q9 => c_1 q9.1)]
        refine lv_iload_n hx hb dX6_whole_57 rfl (lv_at hl 0 rfl) ?_
        exact hret (hM.to (by rw [hrr]) rfl) (by rw [hrr]) dX6_whole_58
      · have hM := hM.to (f' := fT f r.2.1 true) (by rw [c_1]) rfl
        refine lv_aload_n hx hb dX6_whole_12 rfl (lv_at hl 1 rfl) ?_
        refine lv_aload_n hx hb dX6_whole_13 rfl (lv_at hl 1 rfl) ?_
        refine md_get (v := .int (nI r.2.1)) hx hb hts hown hK hM 8 (by decide) q1398 rfl rfl dX6_whole_14 ?_
        refine md_callI (y := yX6_byteAt) hx hb hml hown hts hK hI hM (met_byteAt (fT f r.2.1 true) a u n r.2.1 hS.1 hS.2.1 hS.2.2.2.2.2.1 hS.2.2.2.2.2.2 (by omega)) q1538 q1540 qs31 q1541 ndX6_byteAt rfl (by rw [hRf]; omega) (by rw [hRl]; omega) hl.1 rfl (Nat.le_of_ble_eq_true rfl) dX6_whole_17 (fun H locs hM => ?_)
        refine lv_bipush (v := nI 124) hx hb dX6_whole_20 (by decide) ?_
        refine lv_icmp_ne (tgt := 57) hx hb dX6_whole_22 (by decide) (fun c_2 => ?_) (fun c_2 => ?_)
        · have hrr : r = lpF (opI u x y z) (bT a u) n op5 q (n + 1) (q t) := by rw [← ee, lpF, if_neg (fun q9 => op5_n c_2 q9.2)]
          refine lv_iload_n hx hb dX6_whole_57 rfl (lv_at hl 0 rfl) ?_
          exact hret (hM.to (by rw [← c_1, hrr]) rfl) (by rw [hrr]) dX6_whole_58
        · have hop := op5_a c_2
          have htn : r.2.1 < n := tk_lt (fun q9 => by rw [q9] at hop; exact absurd hop (by decide))
          have hm1 := hm (r.2.1 + 1) htn
          refine lv_aload_n hx hb dX6_whole_25 rfl (lv_at hl 1 rfl) ?_
          refine lv_dup hx hb dX6_whole_26 rfl ?_
          refine md_get (v := .int (nI r.2.1)) hx hb hts hown hK hM 8 (by decide) q1398 rfl rfl dX6_whole_27 ?_
          refine lv_iconst (v := nI 1) hx hb dX6_whole_30 (by decide) ?_
          refine w_iaddN hx hb dX6_whole_31 ?_
          refine md_put hx hb hts hown hK hI hM 8 (by decide) q1398 rfl rfl rfl rfl rfl dX6_whole_32 (fun H locs hM => ?_)
          have hM := hM.to (f' := fT f (r.2.1 + 1) true) (fT_8 _ _ _ _) rfl
          refine lv_aload_n hx hb dX6_whole_35 rfl (lv_at hl 1 rfl) ?_
          refine md_callI (y := yX6_both) hx hb hml hown hts hK hI hM (hF (r.2.1 + 1) (by omega)) q1518 q1520 qs26 q1521 ndX6_both rfl (by rw [hRf]; omega) (by rw [hRl]; omega) hl.1 rfl (Nat.le_of_ble_eq_true rfl) dX6_whole_36 (fun H locs hM => ?_)
          refine lv_istore_n (lv' := [(2, .int ((q (r.2.1 + 1)).1)), (1, .int r.1), (0, .ref (h 0))]) hx hb dX6_whole_39 rfl hl (by decide) rfl (fun ls hl => ?_)
          have j53 : ∀ (H : Heap) (locs : List Loc), mdH D h dA s.heap H locs (fT f ((q (r.2.1 + 1)).2.1) ((q (r.2.1 + 1)).2.2)) a → ∀ (ls : Array Slot), lv_has ls 3 [(1, .int r.1), (0, .ref (h 0))] → W p l e R s m args below meth c H locs 0 0 Q (F0 m 53 ls [.int (opB (tk (bT a u) n r.2.1) r.1 ((q (r.2.1 + 1)).1))]) := by
            intro   H locs hM ls hl
            refine lv_istore_n (lv' := [(1, .int (opB (tk (bT a u) n r.2.1) r.1 ((q (r.2.1 + 1)).1))), (0, .ref (h 0))]) hx hb dX6_whole_53 rfl hl (by decide) rfl (fun ls hl => ?_)
            refine lv_goto (tgt := 5) hx hb dX6_whole_54 (by decide) ?_
            exact ih5 (opB (tk (bT a u) n r.2.1) r.1 (q (r.2.1 + 1)).1, (q (r.2.1 + 1)).2) hm1.2 (by dsimp only; omega) (by rw [← ee, lpF, if_pos ⟨c_1, hop⟩]) _ _ hM ls (lv_sub hl [0, 1] rfl)
          refine lv_iload_n hx hb dX6_whole_40 rfl (lv_at hl 1 rfl) ?_
          refine lv_if_ne (tgt := 48) hx hb dX6_whole_41 (by decide) (fun c_3 => ?_) (fun c_3 => ?_)
          · refine lv_iconst (v := nI 1) hx hb dX6_whole_48 (by decide) ?_
            refine lv_goto (tgt := 53) hx hb dX6_whole_49 (by decide) ?_
            refine w_top (opB (tk (bT a u) n r.2.1) r.1 ((q (r.2.1 + 1)).1)) ((iI_1 (Or.inl c_3)).trans (opB_124 c_2 _ _)) ?_
            exact j53   _ _ hM ls (lv_sub hl [1, 2] rfl)
          · refine lv_iload_n hx hb dX6_whole_44 rfl (lv_at hl 0 rfl) ?_
            refine lv_if_eq (tgt := 52) hx hb dX6_whole_45 (by decide) (fun c_4 => ?_) (fun c_4 => ?_)
            · refine lv_iconst (v := nI 0) hx hb dX6_whole_52 (by decide) ?_
              refine w_top (opB (tk (bT a u) n r.2.1) r.1 ((q (r.2.1 + 1)).1)) ((iI_0 (fun q9 => q9.elim (fun q8 => q8 c_3) (fun q8 => q8 c_4))).trans (opB_124 c_2 _ _)) ?_
              exact j53   _ _ hM ls (lv_sub hl [1, 2] rfl)
            · refine lv_iconst (v := nI 1) hx hb dX6_whole_48 (by decide) ?_
              refine lv_goto (tgt := 53) hx hb dX6_whole_49 (by decide) ?_
              refine w_top (opB (tk (bT a u) n r.2.1) r.1 ((q (r.2.1 + 1)).1)) ((iI_1 (Or.inr c_4)).trans (opB_124 c_2 _ _)) ?_
              exact j53   _ _ hM ls (lv_sub hl [1, 2] rfl)
  exact loop5 (n + 1) (q t) (by omega) (by omega) rfl _ _ hM ls (lv_sub hl [0, 1] rfl)
