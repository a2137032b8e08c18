/-! the model: acts, 5 (printed by model12.py) -/
set_option maxRecDepth 100000
theorem va_ch (a : Nat → Nat → Int32) (r X : Nat → Int32) : va_up (va_up (va_up (va_up a 1 r) 3 r) 1 X) 1 ((va_up (va_up (va_up a 1 r) 3 r) 1 X) 3) = va_up (va_up a 1 r) 3 r := by
  funext j
  by_cases h1 : j = 1
  · subst h1; simp [va_up]
  · by_cases h3 : j = 3
    · subst h3; simp [va_up]
    · simp [va_up, h1, h3]
theorem ndX6_check : yX6_check.cls = RX6 ∧ yX6_check.cls ≠ "java/lang/invoke/MethodHandle" ∧ yX6_check.cls ≠ "java/lang/invoke/VarHandle" ∧ (parseMethodDescriptor yX6_check.desc).map (fun d => d.parameters.length) = some 0 := by decide +kernel
set_option maxHeartbeats 400000 in
theorem met_check_ok (f : Nat → Int32) (a : Nat → Nat → Int32) (hR : okR (a 1)) : MdX yX6_check cX6_check 4 (some .int) 46 1162 [] f a (some (.int (nI (chk (upd (a 1) 5 (nI 0)) (cl (a 1 5)) 0)))) (va_up (va_up a 1 (upd (a 1) 5 (nI 0))) 3 (upd (a 1) 5 (nI 0))) := by
  refine MdX.ofI (by decide) rfl (Nat.le_of_ble_eq_true rfl) ?_
  intro p l e R s m args below meth c Q D h dA ls hx hb hml hRf hRl hts hown hK hI hM hl hret
  have hl : lv_has ls 4 [(0, .ref (h 0))] := hl
  have hq := hR.2.2.2.1
  have hq2 := hq.2
  have hR1 : okR (upd (a 1) 5 (nI 0)) := okR_5 hR (okN_of (by omega) (by omega))
  refine lv_aload_n hx hb dX6_check_0 rfl (lv_at hl 0 rfl) ?_
  refine md_get (v := .ref (h 1)) hx hb hts hown hK hM 0 (by decide) q1390 rfl rfl dX6_check_1 ?_
  refine lv_iconst (v := nI 5) hx hb dX6_check_4 (by decide) ?_
  refine md_iald hx hb hK hM 1 rfl 5 ⟨by omega, by decide, rfl⟩ dX6_check_5 ?_
  refine w_top (nI (cl (a 1 5))) (hq.1) ?_
  refine lv_istore_n (lv' := [(1, .int (nI (cl (a 1 5)))), (0, .ref (h 0))]) hx hb dX6_check_6 rfl hl (by decide) rfl (fun ls hl => ?_)
  refine lv_aload_n hx hb dX6_check_7 rfl (lv_at hl 1 rfl) ?_
  refine md_get (v := .ref (h 1)) hx hb hts hown hK hM 0 (by decide) q1390 rfl rfl dX6_check_8 ?_
  refine lv_iconst (v := nI 5) hx hb dX6_check_11 (by decide) ?_
  refine lv_iconst (v := nI 0) hx hb dX6_check_12 (by decide) ?_
  refine md_iast hx hb hK hI hM 1 rfl 5 ⟨by omega, by decide, rfl⟩ rfl dX6_check_13 (fun H locs hM => ?_)
  refine lv_aload_n hx hb dX6_check_14 rfl (lv_at hl 1 rfl) ?_
  refine lv_aload_n hx hb dX6_check_15 rfl (lv_at hl 1 rfl) ?_
  refine md_get (v := .ref (h 1)) hx hb hts hown hK hM 0 (by decide) q1390 rfl rfl dX6_check_16 ?_
  refine lv_aload_n hx hb dX6_check_19 rfl (lv_at hl 1 rfl) ?_
  refine md_get (v := .ref (h 3)) hx hb hts hown hK hM 2 (by decide) q1392 rfl rfl dX6_check_20 ?_
  refine md_callG (y := yX6_moveAll) hx hb hml hown hts hK hI hM (met_moveAll_1_3 f (va_up a 1 (upd (a 1) 5 (nI 0)))) q1639 q1641 qs43 q1642 ndX6_moveAll rfl (by rw [hRf]; decide) (by rw [hRl]; decide) hl.1 rfl (Nat.le_of_ble_eq_true rfl) dX6_check_23 (fun H locs hM => ?_)
  have hM := hM.to (a' := va_up (va_up a 1 (upd (a 1) 5 (nI 0))) 3 (upd (a 1) 5 (nI 0))) rfl (rfl)
  refine lv_iconst (v := nI 0) hx hb dX6_check_26 (by decide) ?_
  refine lv_istore_n (lv' := [(2, .int (nI 0)), (1, .int (nI (cl (a 1 5)))), (0, .ref (h 0))]) hx hb dX6_check_27 rfl hl (by decide) rfl (fun ls hl => ?_)
  refine lv_iconst (v := nI 1) hx hb dX6_check_28 (by decide) ?_
  refine lv_istore_n (lv' := [(3, .int (nI 1)), (2, .int (nI 0)), (1, .int (nI (cl (a 1 5)))), (0, .ref (h 0))]) hx hb dX6_check_29 rfl hl (by decide) rfl (fun ls hl => ?_)
  have loop30 : ∀ (fu : Nat) (k d b : Nat), (k ≤ cl (a 1 5)) → (b ≤ 1) → (cl (a 1 5) - k + b < fu) → ((b = 1 ∧ d = k ∧ chk (upd (a 1) 5 (nI 0)) (cl (a 1 5) - k) k = chk (upd (a 1) 5 (nI 0)) (cl (a 1 5)) 0) ∨ (b = 0 ∧ chk (upd (a 1) 5 (nI 0)) (cl (a 1 5)) 0 = 1 + k ∧ k < cl (a 1 5))) → ∀ (f1 : Nat → Int32), fE f f1 → ∀ (H : Heap) (locs : List Loc), mdH D h dA s.heap H locs f1 (va_up (va_up (va_up a 1 (upd (a 1) 5 (nI 0))) 3 (upd (a 1) 5 (nI 0))) 1 (dayI (upd (a 1) 5 (nI 0)) d)) → ∀ (ls : Array Slot), lv_has ls 4 [(3, .int (nI b)), (2, .int (nI k)), (1, .int (nI (cl (a 1 5)))), (0, .ref (h 0))] → W p l e R s m args below meth c H locs 0 0 Q (F0 m 30 ls []) := by
    intro fu
    induction fu with
    | zero =>
      intro k d b hk hb1 hn hbb
      omega
    | succ fu ih30 =>
      intro k d b hk hb1 hn hbb f30 he30 H locs hM ls hl
      refine lv_iload_n hx hb dX6_check_30 rfl (lv_at hl 1 rfl) ?_
      refine lv_iload_n hx hb dX6_check_31 rfl (lv_at hl 2 rfl) ?_
      refine w_icmp_geN (tgt := 81) hx hb (by omega) (by omega) dX6_check_32 (by decide) (fun c_1 => ?_) (fun c_1 => ?_)
      · refine lv_aload_n hx hb dX6_check_81 rfl (lv_at hl 3 rfl) ?_
        refine lv_aload_n hx hb dX6_check_82 rfl (lv_at hl 3 rfl) ?_
        refine md_get (v := .ref (h 3)) hx hb hts hown hK hM 2 (by decide) q1392 rfl rfl dX6_check_83 ?_
        refine lv_aload_n hx hb dX6_check_86 rfl (lv_at hl 3 rfl) ?_
        refine md_get (v := .ref (h 1)) hx hb hts hown hK hM 0 (by decide) q1390 rfl rfl dX6_check_87 ?_
        refine md_callG (y := yX6_moveAll) hx hb hml hown hts hK hI hM (met_moveAll_3_1 f30 (va_up (va_up (va_up a 1 (upd (a 1) 5 (nI 0))) 3 (upd (a 1) 5 (nI 0))) 1 (dayI (upd (a 1) 5 (nI 0)) d))) q1639 q1641 qs43 q1642 ndX6_moveAll rfl (by rw [hRf]; decide) (by rw [hRl]; decide) hl.1 rfl (Nat.le_of_ble_eq_true rfl) dX6_check_90 (fun H locs hM => ?_)
        refine lv_iload_n hx hb dX6_check_93 rfl (lv_at hl 0 rfl) ?_
        refine w_if_eqN (tgt := 101) hx hb (by omega) dX6_check_94 (by decide) (fun c_2 => ?_) (fun c_2 => ?_)
        · refine lv_iconst (v := nI 1) hx hb dX6_check_101 (by decide) ?_
          refine lv_iload_n hx hb dX6_check_102 rfl (lv_at hl 1 rfl) ?_
          refine w_iaddN hx hb dX6_check_103 ?_
          exact hret he30 (hM.to rfl (va_ch _ _ _)) (hbb.elim (fun q => absurd q.1 (by omega)) (fun q => by rw [q.2.1])) dX6_check_104
        · refine lv_iconst (v := nI 0) hx hb dX6_check_97 (by decide) ?_
          refine lv_goto (tgt := 104) hx hb dX6_check_98 (by decide) ?_
          exact hret he30 (hM.to rfl (va_ch _ _ _)) (hbb.elim (fun q => by rw [← q.2.2, show cl (a 1 5) - k = 0 by omega, chk]) (fun q => absurd q.1 (by omega))) dX6_check_104
      · refine lv_iload_n hx hb dX6_check_35 rfl (lv_at hl 0 rfl) ?_
        refine w_if_eqN (tgt := 81) hx hb (by omega) dX6_check_36 (by decide) (fun c_3 => ?_) (fun c_3 => ?_)
        · refine lv_aload_n hx hb dX6_check_81 rfl (lv_at hl 3 rfl) ?_
          refine lv_aload_n hx hb dX6_check_82 rfl (lv_at hl 3 rfl) ?_
          refine md_get (v := .ref (h 3)) hx hb hts hown hK hM 2 (by decide) q1392 rfl rfl dX6_check_83 ?_
          refine lv_aload_n hx hb dX6_check_86 rfl (lv_at hl 3 rfl) ?_
          refine md_get (v := .ref (h 1)) hx hb hts hown hK hM 0 (by decide) q1390 rfl rfl dX6_check_87 ?_
          refine md_callG (y := yX6_moveAll) hx hb hml hown hts hK hI hM (met_moveAll_3_1 f30 (va_up (va_up (va_up a 1 (upd (a 1) 5 (nI 0))) 3 (upd (a 1) 5 (nI 0))) 1 (dayI (upd (a 1) 5 (nI 0)) d))) q1639 q1641 qs43 q1642 ndX6_moveAll rfl (by rw [hRf]; decide) (by rw [hRl]; decide) hl.1 rfl (Nat.le_of_ble_eq_true rfl) dX6_check_90 (fun H locs hM => ?_)
          refine lv_iload_n hx hb dX6_check_93 rfl (lv_at hl 0 rfl) ?_
          refine w_if_eqN (tgt := 101) hx hb (by omega) dX6_check_94 (by decide) (fun c_4 => ?_) (fun c_4 => ?_)
          · refine lv_iconst (v := nI 1) hx hb dX6_check_101 (by decide) ?_
            refine lv_iload_n hx hb dX6_check_102 rfl (lv_at hl 1 rfl) ?_
            refine w_iaddN hx hb dX6_check_103 ?_
            exact hret he30 (hM.to rfl (va_ch _ _ _)) (hbb.elim (fun q => absurd q.1 (by omega)) (fun q => by rw [q.2.1])) dX6_check_104
          · refine lv_iconst (v := nI 0) hx hb dX6_check_97 (by decide) ?_
            refine lv_goto (tgt := 104) hx hb dX6_check_98 (by decide) ?_
            exact hret he30 (hM.to rfl (va_ch _ _ _)) (absurd c_4 (by omega)) dX6_check_104
        · have hb2 : b = 1 ∧ d = k ∧ chk (upd (a 1) 5 (nI 0)) (cl (a 1 5) - k) k = chk (upd (a 1) 5 (nI 0)) (cl (a 1 5)) 0 := hbb.resolve_right (fun q => absurd q.1 (by omega))
          have hdk := hb2.2.1
          refine lv_aload_n hx hb dX6_check_39 rfl (lv_at hl 3 rfl) ?_
          refine md_callXV (y := yX6_oneDay) hx hb hml hown hts hK hI hM (met_oneDay f30 (va_up (va_up (va_up a 1 (upd (a 1) 5 (nI 0))) 3 (upd (a 1) 5 (nI 0))) 1 (dayI (upd (a 1) 5 (nI 0)) d)) (by rw [va_us]; exact okR_dayI hR1 d)) q1652 q1654 qs45 q1655 ndX6_oneDay rfl (by rw [hRf]; decide) (by rw [hRl]; decide) hl.1 rfl (Nat.le_of_ble_eq_true rfl) dX6_check_40 (fun H locs f_5 hf_5 hM => ?_)
          have ef_5 : fE f f_5 := he30.tr hf_5
          have hM := hM.to (a' := va_up (va_up (va_up a 1 (upd (a 1) 5 (nI 0))) 3 (upd (a 1) 5 (nI 0))) 1 (dayI (upd (a 1) 5 (nI 0)) (d + 1))) rfl (by rw [va_uu, va_us, dayI])
          refine lv_aload_n hx hb dX6_check_43 rfl (lv_at hl 3 rfl) ?_
          refine md_callI (y := yX6_grassOfAll) hx hb hml hown hts hK hI hM (met_grassOfAll f_5 (va_up (va_up (va_up a 1 (upd (a 1) 5 (nI 0))) 3 (upd (a 1) 5 (nI 0))) 1 (dayI (upd (a 1) 5 (nI 0)) (d + 1)))) q1660 q1662 qs47 q1663 ndX6_grassOfAll rfl (by rw [hRf]; decide) (by rw [hRl]; decide) hl.1 rfl (Nat.le_of_ble_eq_true rfl) dX6_check_44 (fun H locs hM => ?_)
          refine w_top (sumG (dayI (upd (a 1) 5 (nI 0)) (d + 1)) 25) (by rw [va_us]) ?_
          refine lv_aload_n hx hb dX6_check_47 rfl (lv_at hl 3 rfl) ?_
          refine md_get (v := .ref (h 1)) hx hb hts hown hK hM 0 (by decide) q1390 rfl rfl dX6_check_48 ?_
          refine lv_sipush (v := nI 178) hx hb dX6_check_51 (by decide) ?_
          refine lv_iload_n hx hb dX6_check_54 rfl (lv_at hl 1 rfl) ?_
          refine w_iaddN hx hb dX6_check_55 ?_
          refine md_iald hx hb hK hM 1 rfl (178 + k) ⟨by omega, by decide, rfl⟩ dX6_check_56 ?_
          refine w_top ((upd (a 1) 5 (nI 0)) (178 + k)) (by rw [va_us]; exact dayI_out hR1 (by omega) _) ?_
          refine lv_icmp_ne (tgt := 64) hx hb dX6_check_57 (by decide) (fun c_6 => ?_) (fun c_6 => ?_)
          · have hq0 : chk (upd (a 1) 5 (nI 0)) (cl (a 1 5)) 0 = 1 + (k + 0) := by rw [← hb2.2.2, show cl (a 1 5) - k = (cl (a 1 5) - (k + 1)) + 1 by omega, chk, if_neg (by rw [← hdk]; rw [← hdk] at c_6; exact c_6)]; rfl
            refine lv_iconst (v := nI 0) hx hb dX6_check_64 (by decide) ?_
            refine lv_istore_n (lv' := [(3, .int (nI 0)), (2, .int (nI k)), (1, .int (nI (cl (a 1 5)))), (0, .ref (h 0))]) hx hb dX6_check_65 rfl hl (by decide) rfl (fun ls hl => ?_)
            refine lv_iload_n hx hb dX6_check_66 rfl (lv_at hl 1 rfl) ?_
            refine lv_iload_n hx hb dX6_check_67 rfl (lv_at hl 0 rfl) ?_
            refine lv_if_eq (tgt := 75) hx hb dX6_check_68 (by decide) (fun _ => ?_) (fun q => absurd q (by decide))
            refine lv_iconst (v := nI 0) hx hb dX6_check_75 (by decide) ?_
            refine w_iaddN hx hb dX6_check_76 ?_
            refine lv_istore_n (lv' := [(2, .int (nI (k + 0))), (3, .int (nI 0)), (1, .int (nI (cl (a 1 5)))), (0, .ref (h 0))]) hx hb dX6_check_77 rfl hl (by decide) rfl (fun ls hl => ?_)
            refine lv_goto (tgt := 30) hx hb dX6_check_78 (by decide) ?_
            exact ih30 (k + 0) (d + 1) 0 (by omega) (by omega) (by omega) (Or.inr ⟨rfl, hq0, by omega⟩) _ ef_5 _ _ hM ls (lv_sub hl [1, 0, 2, 3] rfl)
          · have hq1 : chk (upd (a 1) 5 (nI 0)) (cl (a 1 5) - (k + 1)) (k + 1) = chk (upd (a 1) 5 (nI 0)) (cl (a 1 5)) 0 := by rw [← hb2.2.2, show cl (a 1 5) - k = (cl (a 1 5) - (k + 1)) + 1 by omega, chk, if_pos (by rw [← hdk]; rw [← hdk] at c_6; exact c_6)]
            refine lv_iconst (v := nI 1) hx hb dX6_check_60 (by decide) ?_
            refine lv_goto (tgt := 65) hx hb dX6_check_61 (by decide) ?_
            refine lv_istore_n (lv' := [(3, .int (nI 1)), (2, .int (nI k)), (1, .int (nI (cl (a 1 5)))), (0, .ref (h 0))]) hx hb dX6_check_65 rfl hl (by decide) rfl (fun ls hl => ?_)
            refine lv_iload_n hx hb dX6_check_66 rfl (lv_at hl 1 rfl) ?_
            refine lv_iload_n hx hb dX6_check_67 rfl (lv_at hl 0 rfl) ?_
            refine lv_if_eq (tgt := 75) hx hb dX6_check_68 (by decide) (fun q => absurd q (by decide)) (fun _ => ?_)
            refine lv_iconst (v := nI 1) hx hb dX6_check_71 (by decide) ?_
            refine lv_goto (tgt := 76) hx hb dX6_check_72 (by decide) ?_
            refine w_iaddN hx hb dX6_check_76 ?_
            refine lv_istore_n (lv' := [(2, .int (nI (k + 1))), (3, .int (nI 1)), (1, .int (nI (cl (a 1 5)))), (0, .ref (h 0))]) hx hb dX6_check_77 rfl hl (by decide) rfl (fun ls hl => ?_)
            refine lv_goto (tgt := 30) hx hb dX6_check_78 (by decide) ?_
            exact ih30 (k + 1) (d + 1) 1 (by omega) (by omega) (by omega) (Or.inl ⟨rfl, by omega, hq1⟩) _ ef_5 _ _ hM ls (lv_sub hl [1, 0, 2, 3] rfl)
  exact loop30 (cl (a 1 5) + 2) 0 0 1 (by omega) (by omega) (by omega) (Or.inl ⟨rfl, rfl, rfl⟩) _ fE.rf _ _ (hM.to rfl (va_self (va_up (va_up a 1 (upd (a 1) 5 (nI 0))) 3 (upd (a 1) 5 (nI 0))) 1)) ls (lv_sub hl [0, 1, 2, 3] rfl)
