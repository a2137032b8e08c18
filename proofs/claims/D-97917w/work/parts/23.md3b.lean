/-! the model: factor (printed by model3b.py) -/
set_option maxRecDepth 100000
theorem met_named (f : Nat → Int32) (a : Nat → Nat → Int32) (u n : Nat) (x y z : Int32) (hS : txS f u n x y z) (t : Nat) (c0 : Int32) : MdF yX6_named cX6_named 5 (some .int) 1 20 [.int c0] (fT f t true) a (some (.int (if isNm u c0 = true then nmV u x y z c0 else nI 0))) (fT f (if isNm u c0 = true then t + 1 else t) (isNm u c0)) a := by
  have hu : u < 2 := hS.2.2.2.2.2.1
  have hu2 : u = 0 ∨ u = 1 := by omega
  rcases hu2 with rfl | rfl
  · by_cases hc : isNm 0 c0 = true
    · rw [if_pos hc, if_pos hc, hc]; exact met_named0_y f a n x y z hS t c0 hc
    · rw [if_neg hc, if_neg hc, Bool.eq_false_iff.mpr hc]; exact met_named0_n f a n x y z hS t c0 hc
  · by_cases hc : isNm 1 c0 = true
    · rw [if_pos hc, if_pos hc, hc]; exact met_named1_y f a n x y z hS t c0 hc
    · rw [if_neg hc, if_neg hc, Bool.eq_false_iff.mpr hc]; exact met_named1_n f a n x y z hS t c0 hc
theorem nm_pair {α : Type} (g : Bool) (v w : α) (t t' : Nat) : (if g = true then (v, t, true) else (w, t', false)) = (if g = true then v else w, if g = true then t else t', g) := by
  cases g <;> rfl
theorem ndX6_factor : yX6_factor.cls = RX6 ∧ yX6_factor.cls ≠ "java/lang/invoke/MethodHandle" ∧ yX6_factor.cls ≠ "java/lang/invoke/VarHandle" ∧ (parseMethodDescriptor yX6_factor.desc).map (fun d => d.parameters.length) = some 0 := by decide +kernel
set_option maxHeartbeats 400000 in
theorem met_factor0 (f : Nat → Int32) (a : Nat → Nat → Int32) (u n : Nat) (x y z : Int32) (hS : txS f u n x y z) (t : Nat) (ht : t ≤ n) (o : Nat) (hO : f 10 = nI o) (ho : o = 5) : MdF yX6_factor cX6_factor 3 (some .int) 3 100 [] (fT f t true) a (some (.int ((facF (opI u x y z) (bT a u) n u none t).1))) (fT f (facF (opI u x y z) (bT a u) n u none t).2.1 (facF (opI u x y z) (bT a u) n u none t).2.2) a := by
  refine MdF.ofI (by decide) rfl (Nat.le_of_ble_eq_true rfl) ?_
  intro p l e R s m args below meth c Q D h dA ls hx hb hml hRf hRl hts hown hK hI hM hl hret
  have hl : lv_has ls 3 [(0, .ref (h 0))] := hl
  have hn50 : n ≤ 50 := hS.2.2.2.2.2.2
  refine lv_aload_n hx hb dX6_factor_0 rfl (lv_at hl 0 rfl) ?_
  refine lv_aload_n hx hb dX6_factor_1 rfl (lv_at hl 0 rfl) ?_
  refine md_get (v := .int (nI t)) hx hb hts hown hK hM 8 (by decide) q1398 rfl rfl dX6_factor_2 ?_
  refine md_callI (y := yX6_byteAt) hx hb hml hown hts hK hI hM (met_byteAt (fT f t true) a u n t hS.1 hS.2.1 hS.2.2.2.2.2.1 hS.2.2.2.2.2.2 (by omega)) q1538 q1540 qs31 q1541 ndX6_byteAt rfl (by rw [hRf]; decide) (by rw [hRl]; decide) hl.1 rfl (Nat.le_of_ble_eq_true rfl) dX6_factor_5 (fun H locs hM => ?_)
  refine lv_istore_n (lv' := [(1, .int (tk (bT a u) n t)), (0, .ref (h 0))]) hx hb dX6_factor_8 rfl hl (by decide) rfl (fun ls hl => ?_)
  refine lv_iload_n hx hb dX6_factor_9 rfl (lv_at hl 0 rfl) ?_
  refine st_callI (y := yX6_isDigit) hx hb hml hown hts (met_isDigit (tk (bT a u) n t)) q1542 q1543 q70 q1544 ndX6_isDigit rfl (by rw [hRf]; decide) (by rw [hRl]; decide) ⟨Nat.zero_le _, Nat.zero_le _⟩ hl.1 rfl (Nat.le_of_ble_eq_true rfl) dX6_factor_10 ?_
  refine w_if_eqT (tgt := 21) hx hb dX6_factor_13 (by decide) (fun c_1 => ?_) (fun c_1 => ?_)
  · refine lv_iload_n hx hb dX6_factor_21 rfl (lv_at hl 0 rfl) ?_
    refine lv_bipush (v := nI 33) hx hb dX6_factor_22 (by decide) ?_
    refine lv_icmp_eq (tgt := 39) hx hb dX6_factor_24 (by decide) (fun c_2 => ?_) (fun c_2 => ?_)
    · refine lv_aload_n hx hb dX6_factor_39 rfl (lv_at hl 1 rfl) ?_
      refine md_get (v := .int ((fT f t true) 10)) hx hb hts hown hK hM 10 (by decide) q1400 rfl rfl dX6_factor_40 ?_
      refine w_top (nI o) (hO) ?_
      refine lv_iconst (v := nI 5) hx hb dX6_factor_43 (by decide) ?_
      refine w_icmp_neN (tgt := 52) hx hb (by omega) (by omega) dX6_factor_44 (by decide) (fun c_3 => ?_) (fun c_3 => ?_)
      · exact absurd c_3 (by omega)
      · refine lv_aload_n hx hb dX6_factor_47 rfl (lv_at hl 1 rfl) ?_
        have hE : facF (opI u x y z) (bT a u) n u none t = (nI 0, t, false) := by unfold facF; rw [if_neg c_1, if_neg (fun q => q.1 c_2)]
        refine md_callI (y := yX6_fails) hx hb hml hown hts hK hI hM (met_failsT f a t true) q1553 q1555 qs34 q1556 ndX6_fails rfl (by rw [hRf]; decide) (by rw [hRl]; decide) hl.1 rfl (Nat.le_of_ble_eq_true rfl) dX6_factor_48 (fun H locs hM => ?_)
        exact hret (hM.to (by rw [hE]) rfl) (by rw [hE]) dX6_factor_51
    · refine lv_iload_n hx hb dX6_factor_27 rfl (lv_at hl 0 rfl) ?_
      refine lv_bipush (v := nI 40) hx hb dX6_factor_28 (by decide) ?_
      refine lv_icmp_eq (tgt := 39) hx hb dX6_factor_30 (by decide) (fun c_4 => ?_) (fun c_4 => ?_)
      · refine lv_aload_n hx hb dX6_factor_39 rfl (lv_at hl 1 rfl) ?_
        refine md_get (v := .int ((fT f t true) 10)) hx hb hts hown hK hM 10 (by decide) q1400 rfl rfl dX6_factor_40 ?_
        refine w_top (nI o) (hO) ?_
        refine lv_iconst (v := nI 5) hx hb dX6_factor_43 (by decide) ?_
        refine w_icmp_neN (tgt := 52) hx hb (by omega) (by omega) dX6_factor_44 (by decide) (fun c_5 => ?_) (fun c_5 => ?_)
        · exact absurd c_5 (by omega)
        · refine lv_aload_n hx hb dX6_factor_47 rfl (lv_at hl 1 rfl) ?_
          have hE : facF (opI u x y z) (bT a u) n u none t = (nI 0, t, false) := by unfold facF; rw [if_neg c_1, if_neg (fun q => q.2 c_4)]
          refine md_callI (y := yX6_fails) hx hb hml hown hts hK hI hM (met_failsT f a t true) q1553 q1555 qs34 q1556 ndX6_fails rfl (by rw [hRf]; decide) (by rw [hRl]; decide) hl.1 rfl (Nat.le_of_ble_eq_true rfl) dX6_factor_48 (fun H locs hM => ?_)
          exact hret (hM.to (by rw [hE]) rfl) (by rw [hE]) dX6_factor_51
      · refine lv_aload_n hx hb dX6_factor_33 rfl (lv_at hl 1 rfl) ?_
        refine lv_iload_n hx hb dX6_factor_34 rfl (lv_at hl 0 rfl) ?_
        have hE : facF (opI u x y z) (bT a u) n u none t = (if isNm u (tk (bT a u) n t) = true then nmV u x y z (tk (bT a u) n t) else nI 0, if isNm u (tk (bT a u) n t) = true then t + 1 else t, isNm u (tk (bT a u) n t)) := by unfold facF; rw [if_neg c_1, if_pos ⟨c_2, c_4⟩]; exact nm_pair (isNm u (tk (bT a u) n t)) _ _ _ _
        refine md_callI (y := yX6_named) hx hb hml hown hts hK hI hM (met_named f a u n x y z hS t (tk (bT a u) n t)) q1549 q1551 qs33 q1552 ndX6_named rfl (by rw [hRf]; decide) (by rw [hRl]; decide) hl.1 rfl (Nat.le_of_ble_eq_true rfl) dX6_factor_35 (fun H locs hM => ?_)
        exact hret (hM.to (by rw [hE]) rfl) (by rw [hE]) dX6_factor_38
  · refine lv_aload_n hx hb dX6_factor_16 rfl (lv_at hl 1 rfl) ?_
    have hE : facF (opI u x y z) (bT a u) n u none t = ((digs (bT a u) n 4 t (nI 0)).1, (digs (bT a u) n 4 t (nI 0)).2, true) := by unfold facF; rw [if_pos c_1]; rfl
    refine md_callI (y := yX6_number) hx hb hml hown hts hK hI hM (met_number f a u n x y z hS t ht) q1545 q1547 qs32 q1548 ndX6_number rfl (by rw [hRf]; decide) (by rw [hRl]; decide) hl.1 rfl (Nat.le_of_ble_eq_true rfl) dX6_factor_17 (fun H locs hM => ?_)
    exact hret (hM.to (by rw [hE]) rfl) (by rw [hE]) dX6_factor_20
theorem ndX6_whole : yX6_whole.cls = RX6 ∧ yX6_whole.cls ≠ "java/lang/invoke/MethodHandle" ∧ yX6_whole.cls ≠ "java/lang/invoke/VarHandle" ∧ (parseMethodDescriptor yX6_whole.desc).map (fun d => d.parameters.length) = some 0 := by decide +kernel
set_option maxHeartbeats 400000 in
theorem met_factorS (f : Nat → Int32) (a : Nat → Nat → Int32) (u n : Nat) (x y z : Int32) (hS : txS f u n x y z) (t : Nat) (ht : t ≤ n) (o : Nat) (hO : f 10 = nI o) (ho : o < 5) (d : Nat) (q1 q2 : Nat → Rs Int32) (hm1 : mono n q1) (hm2 : mono n q2) (hF : ∀ t, t ≤ n → MdF yX6_factor cX6_factor 3 (some .int) (6 * d + 3) (150 * d + 100) [] (fT (upd f 10 (nI (o + 1))) t true) a (some (.int (q1 t).1)) (fT (upd f 10 (nI (o + 1))) (q1 t).2.1 (q1 t).2.2) a) (hWh : ∀ t, t ≤ n → MdF yX6_whole cX6_whole 3 (some .int) (6 * d + 8) (150 * d + 220) [] (fT (upd f 10 (nI (o + 1))) t true) a (some (.int (q2 t).1)) (fT (upd f 10 (nI (o + 1))) (q2 t).2.1 (q2 t).2.2) a) : MdF yX6_factor cX6_factor 3 (some .int) (6 * d + 9) (150 * d + 250) [] (fT f t true) a (some (.int ((facF (opI u x y z) (bT a u) n u (some (q1, q2)) t).1))) (fT f (facF (opI u x y z) (bT a u) n u (some (q1, q2)) t).2.1 (facF (opI u x y z) (bT a u) n u (some (q1, q2)) t).2.2) a := by
  refine MdF.ofI (by decide) rfl (Nat.le_of_ble_eq_true rfl) ?_
  intro p l e R s m args below meth c Q D h dA ls hx hb hml hRf hRl hts hown hK hI hM hl hret
  have hl : lv_has ls 3 [(0, .ref (h 0))] := hl
  have hn50 : n ≤ 50 := hS.2.2.2.2.2.2
  refine lv_aload_n hx hb dX6_factor_0 rfl (lv_at hl 0 rfl) ?_
  refine lv_aload_n hx hb dX6_factor_1 rfl (lv_at hl 0 rfl) ?_
  refine md_get (v := .int (nI t)) hx hb hts hown hK hM 8 (by decide) q1398 rfl rfl dX6_factor_2 ?_
  refine md_callI (y := yX6_byteAt) hx hb hml hown hts hK hI hM (met_byteAt (fT f t true) a u n t hS.1 hS.2.1 hS.2.2.2.2.2.1 hS.2.2.2.2.2.2 (by omega)) q1538 q1540 qs31 q1541 ndX6_byteAt rfl (by rw [hRf]; omega) (by rw [hRl]; omega) hl.1 rfl (Nat.le_of_ble_eq_true rfl) dX6_factor_5 (fun H locs hM => ?_)
  refine lv_istore_n (lv' := [(1, .int (tk (bT a u) n t)), (0, .ref (h 0))]) hx hb dX6_factor_8 rfl hl (by decide) rfl (fun ls hl => ?_)
  refine lv_iload_n hx hb dX6_factor_9 rfl (lv_at hl 0 rfl) ?_
  refine st_callI (y := yX6_isDigit) hx hb hml hown hts (met_isDigit (tk (bT a u) n t)) q1542 q1543 q70 q1544 ndX6_isDigit rfl (by rw [hRf]; omega) (by rw [hRl]; omega) ⟨Nat.zero_le _, Nat.zero_le _⟩ hl.1 rfl (Nat.le_of_ble_eq_true rfl) dX6_factor_10 ?_
  refine w_if_eqT (tgt := 21) hx hb dX6_factor_13 (by decide) (fun c_1 => ?_) (fun c_1 => ?_)
  · refine lv_iload_n hx hb dX6_factor_21 rfl (lv_at hl 0 rfl) ?_
    refine lv_bipush (v := nI 33) hx hb dX6_factor_22 (by decide) ?_
    refine lv_icmp_eq (tgt := 39) hx hb dX6_factor_24 (by decide) (fun c_2 => ?_) (fun c_2 => ?_)
    · refine lv_aload_n hx hb dX6_factor_39 rfl (lv_at hl 1 rfl) ?_
      refine md_get (v := .int ((fT f t true) 10)) hx hb hts hown hK hM 10 (by decide) q1400 rfl rfl dX6_factor_40 ?_
      refine w_top (nI o) (hO) ?_
      refine lv_iconst (v := nI 5) hx hb dX6_factor_43 (by decide) ?_
      refine w_icmp_neN (tgt := 52) hx hb (by omega) (by omega) dX6_factor_44 (by decide) (fun c_3 => ?_) (fun c_3 => ?_)
      · refine lv_aload_n hx hb dX6_factor_52 rfl (lv_at hl 1 rfl) ?_
        refine lv_dup hx hb dX6_factor_53 rfl ?_
        refine md_get (v := .int ((fT f t true) 10)) hx hb hts hown hK hM 10 (by decide) q1400 rfl rfl dX6_factor_54 ?_
        refine w_top (nI o) (hO) ?_
        refine lv_iconst (v := nI 1) hx hb dX6_factor_57 (by decide) ?_
        refine w_iaddN hx hb dX6_factor_58 ?_
        refine md_put hx hb hts hown hK hI hM 10 (by decide) q1400 rfl rfl rfl rfl rfl dX6_factor_59 (fun H locs hM => ?_)
        have hM := hM.to (f' := fT (upd f 10 (nI (o + 1))) t true) (fT_10 _ _ _ _) rfl
        have htn : t < n := tk_lt (fun q => absurd (q.symm.trans c_2) (by decide))
        refine lv_aload_n hx hb dX6_factor_62 rfl (lv_at hl 1 rfl) ?_
        refine lv_dup hx hb dX6_factor_63 rfl ?_
        refine md_get (v := .int (nI t)) hx hb hts hown hK hM 8 (by decide) q1398 rfl rfl dX6_factor_64 ?_
        refine lv_iconst (v := nI 1) hx hb dX6_factor_67 (by decide) ?_
        refine w_iaddN hx hb dX6_factor_68 ?_
        refine md_put hx hb hts hown hK hI hM 8 (by decide) q1398 rfl rfl rfl rfl rfl dX6_factor_69 (fun H locs hM => ?_)
        have hM := hM.to (f' := fT (upd f 10 (nI (o + 1))) (t + 1) true) (fT_8 _ _ _ _) rfl
        refine lv_iload_n hx hb dX6_factor_72 rfl (lv_at hl 0 rfl) ?_
        refine lv_bipush (v := nI 33) hx hb dX6_factor_73 (by decide) ?_
        refine lv_icmp_ne (tgt := 85) hx hb dX6_factor_75 (by decide) (fun c_4 => ?_) (fun c_4 => ?_)
        · exact absurd c_2 c_4
        · refine lv_aload_n hx hb dX6_factor_78 rfl (lv_at hl 1 rfl) ?_
          refine md_callI (y := yX6_factor) hx hb hml hown hts hK hI hM (hF (t + 1) htn) q1534 q1536 qs30 q1537 ndX6_factor rfl (by rw [hRf]; omega) (by rw [hRl]; omega) hl.1 rfl (Nat.le_of_ble_eq_true rfl) dX6_factor_79 (fun H locs hM => ?_)
          refine lv_goto (tgt := 89) hx hb dX6_factor_82 (by decide) ?_
          refine lv_istore_n (lv' := [(2, .int ((q1 (t + 1)).1)), (1, .int (tk (bT a u) n t)), (0, .ref (h 0))]) hx hb dX6_factor_89 rfl hl (by decide) rfl (fun ls hl => ?_)
          refine lv_aload_n hx hb dX6_factor_90 rfl (lv_at hl 2 rfl) ?_
          refine lv_dup hx hb dX6_factor_91 rfl ?_
          refine md_get (v := .int (nI (o + 1))) hx hb hts hown hK hM 10 (by decide) q1400 rfl rfl dX6_factor_92 ?_
          refine lv_iconst (v := nI 1) hx hb dX6_factor_95 (by decide) ?_
          refine w_isubN hx hb (by omega) dX6_factor_96 ?_
          refine md_put hx hb hts hown hK hI hM 10 (by decide) q1400 rfl rfl rfl rfl rfl dX6_factor_97 (fun H locs hM => ?_)
          have hM := hM.to (f' := fT f ((q1 (t + 1)).2.1) ((q1 (t + 1)).2.2)) (fT_10c hO _ _) rfl
          refine lv_iload_n hx hb dX6_factor_100 rfl (lv_at hl 1 rfl) ?_
          refine lv_bipush (v := nI 33) hx hb dX6_factor_101 (by decide) ?_
          refine lv_icmp_ne (tgt := 116) hx hb dX6_factor_103 (by decide) (fun c_5 => ?_) (fun c_5 => ?_)
          · exact absurd c_2 c_5
          · have hE : facF (opI u x y z) (bT a u) n u (some (q1, q2)) t = (iI ((q1 (t + 1)).1 = 0), (q1 (t + 1)).2) := by unfold facF; rw [if_neg c_1, if_neg (fun q => q.1 c_2)]; dsimp only; rw [if_pos c_2]
            refine lv_iload_n hx hb dX6_factor_106 rfl (lv_at hl 0 rfl) ?_
            refine lv_if_ne (tgt := 114) hx hb dX6_factor_107 (by decide) (fun c_6 => ?_) (fun c_6 => ?_)
            · refine lv_iconst (v := nI 0) hx hb dX6_factor_114 (by decide) ?_
              exact hret (hM.to (by rw [hE]) rfl) (by rw [hE]; simp only [iI, nI_0, nI_one]; grind) dX6_factor_115
            · refine lv_iconst (v := nI 1) hx hb dX6_factor_110 (by decide) ?_
              refine lv_goto (tgt := 115) hx hb dX6_factor_111 (by decide) ?_
              exact hret (hM.to (by rw [hE]) rfl) (by rw [hE]; simp only [iI, nI_0, nI_one]; grind) dX6_factor_115
      · exact absurd c_3 (by omega)
    · refine lv_iload_n hx hb dX6_factor_27 rfl (lv_at hl 0 rfl) ?_
      refine lv_bipush (v := nI 40) hx hb dX6_factor_28 (by decide) ?_
      refine lv_icmp_eq (tgt := 39) hx hb dX6_factor_30 (by decide) (fun c_7 => ?_) (fun c_7 => ?_)
      · refine lv_aload_n hx hb dX6_factor_39 rfl (lv_at hl 1 rfl) ?_
        refine md_get (v := .int ((fT f t true) 10)) hx hb hts hown hK hM 10 (by decide) q1400 rfl rfl dX6_factor_40 ?_
        refine w_top (nI o) (hO) ?_
        refine lv_iconst (v := nI 5) hx hb dX6_factor_43 (by decide) ?_
        refine w_icmp_neN (tgt := 52) hx hb (by omega) (by omega) dX6_factor_44 (by decide) (fun c_8 => ?_) (fun c_8 => ?_)
        · refine lv_aload_n hx hb dX6_factor_52 rfl (lv_at hl 1 rfl) ?_
          refine lv_dup hx hb dX6_factor_53 rfl ?_
          refine md_get (v := .int ((fT f t true) 10)) hx hb hts hown hK hM 10 (by decide) q1400 rfl rfl dX6_factor_54 ?_
          refine w_top (nI o) (hO) ?_
          refine lv_iconst (v := nI 1) hx hb dX6_factor_57 (by decide) ?_
          refine w_iaddN hx hb dX6_factor_58 ?_
          refine md_put hx hb hts hown hK hI hM 10 (by decide) q1400 rfl rfl rfl rfl rfl dX6_factor_59 (fun H locs hM => ?_)
          have hM := hM.to (f' := fT (upd f 10 (nI (o + 1))) t true) (fT_10 _ _ _ _) rfl
          have htn : t < n := tk_lt (fun q => absurd (q.symm.trans c_7) (by decide))
          refine lv_aload_n hx hb dX6_factor_62 rfl (lv_at hl 1 rfl) ?_
          refine lv_dup hx hb dX6_factor_63 rfl ?_
          refine md_get (v := .int (nI t)) hx hb hts hown hK hM 8 (by decide) q1398 rfl rfl dX6_factor_64 ?_
          refine lv_iconst (v := nI 1) hx hb dX6_factor_67 (by decide) ?_
          refine w_iaddN hx hb dX6_factor_68 ?_
          refine md_put hx hb hts hown hK hI hM 8 (by decide) q1398 rfl rfl rfl rfl rfl dX6_factor_69 (fun H locs hM => ?_)
          have hM := hM.to (f' := fT (upd f 10 (nI (o + 1))) (t + 1) true) (fT_8 _ _ _ _) rfl
          refine lv_iload_n hx hb dX6_factor_72 rfl (lv_at hl 0 rfl) ?_
          refine lv_bipush (v := nI 33) hx hb dX6_factor_73 (by decide) ?_
          refine lv_icmp_ne (tgt := 85) hx hb dX6_factor_75 (by decide) (fun c_9 => ?_) (fun c_9 => ?_)
          · refine lv_aload_n hx hb dX6_factor_85 rfl (lv_at hl 1 rfl) ?_
            refine md_callI (y := yX6_whole) hx hb hml hown hts hK hI hM (hWh (t + 1) htn) q1514 q1516 qs25 q1517 ndX6_whole rfl (by rw [hRf]; omega) (by rw [hRl]; omega) hl.1 rfl (Nat.le_of_ble_eq_true rfl) dX6_factor_86 (fun H locs hM => ?_)
            refine lv_istore_n (lv' := [(2, .int ((q2 (t + 1)).1)), (1, .int (tk (bT a u) n t)), (0, .ref (h 0))]) hx hb dX6_factor_89 rfl hl (by decide) rfl (fun ls hl => ?_)
            refine lv_aload_n hx hb dX6_factor_90 rfl (lv_at hl 2 rfl) ?_
            refine lv_dup hx hb dX6_factor_91 rfl ?_
            refine md_get (v := .int (nI (o + 1))) hx hb hts hown hK hM 10 (by decide) q1400 rfl rfl dX6_factor_92 ?_
            refine lv_iconst (v := nI 1) hx hb dX6_factor_95 (by decide) ?_
            refine w_isubN hx hb (by omega) dX6_factor_96 ?_
            refine md_put hx hb hts hown hK hI hM 10 (by decide) q1400 rfl rfl rfl rfl rfl dX6_factor_97 (fun H locs hM => ?_)
            have hM := hM.to (f' := fT f ((q2 (t + 1)).2.1) ((q2 (t + 1)).2.2)) (fT_10c hO _ _) rfl
            refine lv_iload_n hx hb dX6_factor_100 rfl (lv_at hl 1 rfl) ?_
            refine lv_bipush (v := nI 33) hx hb dX6_factor_101 (by decide) ?_
            refine lv_icmp_ne (tgt := 116) hx hb dX6_factor_103 (by decide) (fun c_10 => ?_) (fun c_10 => ?_)
            · refine lv_aload_n hx hb dX6_factor_116 rfl (lv_at hl 2 rfl) ?_
              refine md_get (v := .int (iI ((q2 (t + 1)).2.2 = true))) hx hb hts hown hK hM 14 (by decide) q1404 rfl rfl dX6_factor_117 ?_
              refine w_if_eqT (tgt := 148) hx hb dX6_factor_120 (by decide) (fun c_11 => ?_) (fun c_11 => ?_)
              · have hE : facF (opI u x y z) (bT a u) n u (some (q1, q2)) t = (nI 0, (q2 (t + 1)).2.1, false) := by unfold facF; rw [if_neg c_1, if_neg (fun q => q.2 c_7)]; dsimp only; rw [if_neg c_2, if_neg (fun q => c_11 q.1)]
                refine lv_aload_n hx hb dX6_factor_148 rfl (lv_at hl 2 rfl) ?_
                refine md_callI (y := yX6_fails) hx hb hml hown hts hK hI hM (met_failsT f a ((q2 (t + 1)).2.1) ((q2 (t + 1)).2.2)) q1553 q1555 qs34 q1556 ndX6_fails rfl (by rw [hRf]; omega) (by rw [hRl]; omega) hl.1 rfl (Nat.le_of_ble_eq_true rfl) dX6_factor_149 (fun H locs hM => ?_)
                exact hret (hM.to (by rw [hE]) rfl) (by rw [hE]) dX6_factor_152
              · refine lv_aload_n hx hb dX6_factor_123 rfl (lv_at hl 2 rfl) ?_
                refine lv_aload_n hx hb dX6_factor_124 rfl (lv_at hl 2 rfl) ?_
                refine md_get (v := .int (nI ((q2 (t + 1)).2.1))) hx hb hts hown hK hM 8 (by decide) q1398 rfl rfl dX6_factor_125 ?_
                have hle : (q2 (t + 1)).2.1 ≤ n := (hm2 (t + 1) htn).2
                refine md_callI (y := yX6_byteAt) hx hb hml hown hts hK hI hM (met_byteAt (fT f ((q2 (t + 1)).2.1) ((q2 (t + 1)).2.2)) a u n ((q2 (t + 1)).2.1) hS.1 hS.2.1 hS.2.2.2.2.2.1 hS.2.2.2.2.2.2 (by omega)) q1538 q1540 qs31 q1541 ndX6_byteAt rfl (by rw [hRf]; omega) (by rw [hRl]; omega) hl.1 rfl (Nat.le_of_ble_eq_true rfl) dX6_factor_128 (fun H locs hM => ?_)
                refine lv_bipush (v := nI 41) hx hb dX6_factor_131 (by decide) ?_
                refine lv_icmp_ne (tgt := 148) hx hb dX6_factor_133 (by decide) (fun c_12 => ?_) (fun c_12 => ?_)
                · have hE : facF (opI u x y z) (bT a u) n u (some (q1, q2)) t = (nI 0, (q2 (t + 1)).2.1, false) := by unfold facF; rw [if_neg c_1, if_neg (fun q => q.2 c_7)]; dsimp only; rw [if_neg c_2, if_neg (fun q => c_12 q.2)]
                  refine lv_aload_n hx hb dX6_factor_148 rfl (lv_at hl 2 rfl) ?_
                  refine md_callI (y := yX6_fails) hx hb hml hown hts hK hI hM (met_failsT f a ((q2 (t + 1)).2.1) ((q2 (t + 1)).2.2)) q1553 q1555 qs34 q1556 ndX6_fails rfl (by rw [hRf]; omega) (by rw [hRl]; omega) hl.1 rfl (Nat.le_of_ble_eq_true rfl) dX6_factor_149 (fun H locs hM => ?_)
                  exact hret (hM.to (by rw [hE]) rfl) (by rw [hE]) dX6_factor_152
                · have hE : facF (opI u x y z) (bT a u) n u (some (q1, q2)) t = ((q2 (t + 1)).1, (q2 (t + 1)).2.1 + 1, true) := by unfold facF; rw [if_neg c_1, if_neg (fun q => q.2 c_7)]; dsimp only; rw [if_neg c_2, if_pos ⟨c_11, c_12⟩]
                  refine lv_aload_n hx hb dX6_factor_136 rfl (lv_at hl 2 rfl) ?_
                  refine lv_dup hx hb dX6_factor_137 rfl ?_
                  refine md_get (v := .int (nI ((q2 (t + 1)).2.1))) hx hb hts hown hK hM 8 (by decide) q1398 rfl rfl dX6_factor_138 ?_
                  refine lv_iconst (v := nI 1) hx hb dX6_factor_141 (by decide) ?_
                  refine w_iaddN hx hb dX6_factor_142 ?_
                  refine md_put hx hb hts hown hK hI hM 8 (by decide) q1398 rfl rfl rfl rfl rfl dX6_factor_143 (fun H locs hM => ?_)
                  have hM := hM.to (f' := fT f (((q2 (t + 1)).2.1) + 1) ((q2 (t + 1)).2.2)) (fT_8 _ _ _ _) rfl
                  refine lv_iload_n hx hb dX6_factor_146 rfl (lv_at hl 0 rfl) ?_
                  exact hret (hM.to (by rw [hE, c_11]) rfl) (by rw [hE]) dX6_factor_147
            · exact absurd c_10 c_2
          · exact absurd c_9 c_2
        · exact absurd c_8 (by omega)
      · refine lv_aload_n hx hb dX6_factor_33 rfl (lv_at hl 1 rfl) ?_
        refine lv_iload_n hx hb dX6_factor_34 rfl (lv_at hl 0 rfl) ?_
        have hE : facF (opI u x y z) (bT a u) n u (some (q1, q2)) t = (if isNm u (tk (bT a u) n t) = true then nmV u x y z (tk (bT a u) n t) else nI 0, if isNm u (tk (bT a u) n t) = true then t + 1 else t, isNm u (tk (bT a u) n t)) := by unfold facF; rw [if_neg c_1, if_pos ⟨c_2, c_7⟩]; exact nm_pair (isNm u (tk (bT a u) n t)) _ _ _ _
        refine md_callI (y := yX6_named) hx hb hml hown hts hK hI hM (met_named f a u n x y z hS t (tk (bT a u) n t)) q1549 q1551 qs33 q1552 ndX6_named rfl (by rw [hRf]; omega) (by rw [hRl]; omega) hl.1 rfl (Nat.le_of_ble_eq_true rfl) dX6_factor_35 (fun H locs hM => ?_)
        exact hret (hM.to (by rw [hE]) rfl) (by rw [hE]) dX6_factor_38
  · refine lv_aload_n hx hb dX6_factor_16 rfl (lv_at hl 1 rfl) ?_
    have hE : facF (opI u x y z) (bT a u) n u (some (q1, q2)) t = ((digs (bT a u) n 4 t (nI 0)).1, (digs (bT a u) n 4 t (nI 0)).2, true) := by unfold facF; rw [if_pos c_1]; rfl
    refine md_callI (y := yX6_number) hx hb hml hown hts hK hI hM (met_number f a u n x y z hS t ht) q1545 q1547 qs32 q1548 ndX6_number rfl (by rw [hRf]; omega) (by rw [hRl]; omega) hl.1 rfl (Nat.le_of_ble_eq_true rfl) dX6_factor_17 (fun H locs hM => ?_)
    exact hret (hM.to (by rw [hE]) rfl) (by rw [hE]) dX6_factor_20
