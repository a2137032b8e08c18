/-! the model: the tape, a text (printed by model22.py) -/
set_option maxRecDepth 100000
/-- the byte k of a word -/
def byW (w : Int64) (k : Nat) : Int32 := ((w >>> ((nI (8 * k)).toInt64 &&& 63)) &&& (255 : Int64)).toInt32
/-- k bytes more on the tape -/
def feR (r : Nat → Int32) (w : Int64) (k : Nat) : Nat → Int32 := fun x => if x = 4 then nI (cl (r 4) + k) else if 128 + cl (r 4) ≤ x ∧ x < 128 + cl (r 4) + k then byW w (x - (128 + cl (r 4))) else r x
theorem feR_0 {r : Nat → Int32} (w : Int64) (h : r 4 = nI (cl (r 4))) : feR r w 0 = r := by
  funext x
  unfold feR
  by_cases h4 : x = 4
  · rw [if_pos h4, h4, Nat.add_zero]; exact h.symm
  · rw [if_neg h4, if_neg (by omega)]
theorem feR_4 (r : Nat → Int32) (w : Int64) (k : Nat) : feR r w k 4 = nI (cl (r 4) + k) := by
  unfold feR; rw [if_pos rfl]
theorem feR_u (r : Nat → Int32) (w : Int64) (k : Nat) (v : Int32) : upd (feR r w k) (128 + (cl (r 4) + k)) v 4 = nI (cl (r 4) + k) := by
  unfold upd; rw [if_neg (by omega)]; exact feR_4 r w k
theorem feR_s (r : Nat → Int32) (w : Int64) (k : Nat) : upd (upd (feR r w k) (128 + (cl (r 4) + k)) (byW w k)) 4 (nI (cl (r 4) + k + 1)) = feR r w (k + 1) := by
  funext x
  simp only [upd, feR]
  by_cases h4 : x = 4
  · simp only [if_pos h4]; rfl
  · simp only [if_neg h4]
    by_cases h : x = 128 + (cl (r 4) + k)
    · rw [if_pos h, if_pos (by omega), h]; congr 1; omega
    · rw [if_neg h]
      by_cases h2 : 128 + cl (r 4) ≤ x ∧ x < 128 + cl (r 4) + k
      · rw [if_pos h2, if_pos (by omega)]
      · rw [if_neg h2, if_neg (by omega)]
/-- k bytes of the tape as a text's -/
def txR (r : Nat → Int32) (u k : Nat) : Nat → Int32 := fun x => if 198 + 50 * u ≤ x ∧ x < 198 + 50 * u + k then r (128 + (x - (198 + 50 * u))) else r x
theorem txR_0 (r : Nat → Int32) (u : Nat) : txR r u 0 = r := by
  funext x; unfold txR; rw [if_neg (by omega)]
theorem txR_l {r : Nat → Int32} {u k j : Nat} (h : j < 70) : txR r u k (128 + j) = r (128 + j) := by
  unfold txR; rw [if_neg (by omega)]
theorem txR_s (r : Nat → Int32) (u k : Nat) : upd (txR r u k) (198 + 50 * u + k) (r (128 + k)) = txR r u (k + 1) := by
  funext x
  simp only [upd, txR]
  by_cases h : x = 198 + 50 * u + k
  · rw [if_pos h, if_pos (by omega), h]; congr 1; omega
  · rw [if_neg h]
    by_cases h2 : 198 + 50 * u ≤ x ∧ x < 198 + 50 * u + k
    · rw [if_pos h2, if_pos (by omega)]
    · rw [if_neg h2, if_neg (by omega)]
/-- the tape as the text u -/
def txF (r : Nat → Int32) (u : Nat) : Nat → Int32 := upd (txR r u 50) (6 + u) (r 4)
theorem txR_4 (r : Nat → Int32) (u : Nat) : txR r u 50 4 = r 4 := by
  unfold txR; rw [if_neg (by omega)]
theorem txF_z {r : Nat → Int32} {u : Nat} : txF r u (6 + u) = r 4 := by
  unfold txF upd; rw [if_pos rfl]
theorem ndX6_feed : yX6_feed.cls = RX6 ∧ yX6_feed.cls ≠ "java/lang/invoke/MethodHandle" ∧ yX6_feed.cls ≠ "java/lang/invoke/VarHandle" ∧ (parseMethodDescriptor yX6_feed.desc).map (fun d => d.parameters.length) = some 2 := by decide +kernel
set_option maxHeartbeats 400000 in
theorem met_feed_ok (f : Nat → Int32) (a : Nat → Nat → Int32) (w : Int64) (n : Nat) (h1 : 1 ≤ n) (h8 : n ≤ 8) (hq : okN (a 1 4) 50) (hk0 : cl (a 1 4) + n ≤ 50) : MdF yX6_feed cX6_feed 5 (some .int) 1 22 [.long w, .int (nI n)] f a (some (.int (nI (cl (a 1 4) + n)))) f (va_up a 1 (feR (a 1) w n)) := by
  refine MdF.ofI (by decide) rfl (Nat.le_of_ble_eq_true rfl) ?_
  intro p l e R s m args below meth c Q D h dA ls hx hb hml hRf hRl hts hown hK hI hM hl hret
  have hl : lv_has ls 5 [(0, .ref (h 0)), (1, .long w), (3, .int (nI n))] := hl
  have hq2 := hq.2
  refine lv_iload_n hx hb dX6_feed_0 rfl (lv_at hl 2 rfl) ?_
  refine lv_iconst (v := nI 1) hx hb dX6_feed_1 (by decide) ?_
  refine lv_bipush (v := nI 8) hx hb dX6_feed_2 (by decide) ?_
  refine st_callI (y := yX6_in) hx hb hml hown hts (met_in (nI n) (nI 1) (nI 8)) q1482 q1483 q70 q1484 ndX6_in rfl (by rw [hRf]; decide) (by rw [hRl]; decide) ⟨Nat.zero_le _, Nat.zero_le _⟩ hl.1 rfl (Nat.le_of_ble_eq_true rfl) dX6_feed_4 ?_
  refine w_if_neT (tgt := 17) hx hb dX6_feed_7 (by decide) (fun c_1 => ?_) (fun c_1 => ?_)
  · refine lv_aload_n hx hb dX6_feed_17 rfl (lv_at hl 0 rfl) ?_
    refine md_get (v := .ref (h 1)) hx hb hts hown hK hM 0 (by decide) q1390 rfl rfl dX6_feed_18 ?_
    refine lv_iconst (v := nI 4) hx hb dX6_feed_21 (by decide) ?_
    refine md_iald hx hb hK hM 1 rfl 4 ⟨by omega, by decide, rfl⟩ dX6_feed_22 ?_
    refine w_top (nI (cl (a 1 4))) (hq.1) ?_
    refine lv_iload_n hx hb dX6_feed_23 rfl (lv_at hl 2 rfl) ?_
    refine w_iaddN hx hb dX6_feed_24 ?_
    refine lv_bipush (v := nI 50) hx hb dX6_feed_25 (by decide) ?_
    refine w_icmp_leN (tgt := 37) hx hb (by omega) (by omega) dX6_feed_27 (by decide) (fun c_2 => ?_) (fun c_2 => ?_)
    · refine lv_iconst (v := nI 0) hx hb dX6_feed_37 (by decide) ?_
      refine lv_istore (lv' := [(4, .int (nI 0)), (0, .ref (h 0)), (1, .long w), (3, .int (nI n))]) hx hb dX6_feed_38 hl (by decide) rfl (fun ls hl => ?_)
      have loop40 : ∀ (fu : Nat) (k : Nat), (k ≤ n) → (n < k + fu) → ∀ (H : Heap) (locs : List Loc), mdH D h dA s.heap H locs f (va_up a 1 (feR (a 1) w k)) → ∀ (ls : Array Slot), lv_has ls 5 [(4, .int (nI k)), (0, .ref (h 0)), (1, .long w), (3, .int (nI n))] → W p l e R s m args below meth c H locs 0 0 Q (F0 m 40 ls []) := by
        intro fu
        induction fu with
        | zero =>
          intro k hk hf
          omega
        | succ fu ih40 =>
          intro k hk hf H locs hM ls hl
          refine lv_iload hx hb dX6_feed_40 (lv_at hl 0 rfl) ?_
          refine lv_iload_n hx hb dX6_feed_42 rfl (lv_at hl 3 rfl) ?_
          refine w_icmp_geN (tgt := 89) hx hb (by omega) (by omega) dX6_feed_43 (by decide) (fun c_3 => ?_) (fun c_3 => ?_)
          · refine lv_aload_n hx hb dX6_feed_89 rfl (lv_at hl 1 rfl) ?_
            refine md_get (v := .ref (h 1)) hx hb hts hown hK hM 0 (by decide) q1390 rfl rfl dX6_feed_90 ?_
            refine lv_iconst (v := nI 4) hx hb dX6_feed_93 (by decide) ?_
            refine md_iald hx hb hK hM 1 rfl 4 ⟨by omega, by decide, rfl⟩ dX6_feed_94 ?_
            refine w_top (nI (cl (a 1 4) + k)) (by rw [va_us]; exact feR_4 _ _ _) ?_
            exact hret (hM.to rfl (by rw [show k = n by omega])) (by rw [show k = n by omega]) dX6_feed_95
          · refine lv_aload_n hx hb dX6_feed_46 rfl (lv_at hl 1 rfl) ?_
            refine md_get (v := .ref (h 1)) hx hb hts hown hK hM 0 (by decide) q1390 rfl rfl dX6_feed_47 ?_
            refine lv_sipush (v := nI 128) hx hb dX6_feed_50 (by decide) ?_
            refine lv_aload_n hx hb dX6_feed_53 rfl (lv_at hl 1 rfl) ?_
            refine md_get (v := .ref (h 1)) hx hb hts hown hK hM 0 (by decide) q1390 rfl rfl dX6_feed_54 ?_
            refine lv_iconst (v := nI 4) hx hb dX6_feed_57 (by decide) ?_
            refine md_iald hx hb hK hM 1 rfl 4 ⟨by omega, by decide, rfl⟩ dX6_feed_58 ?_
            refine w_top (nI (cl (a 1 4) + k)) (by rw [va_us]; exact feR_4 _ _ _) ?_
            refine w_iaddN hx hb dX6_feed_59 ?_
            refine lv_lload_n hx hb dX6_feed_60 rfl (lv_at hl 2 rfl) ?_
            refine lv_bipush (v := nI 8) hx hb dX6_feed_61 (by decide) ?_
            refine lv_iload hx hb dX6_feed_63 (lv_at hl 0 rfl) ?_
            refine w_imulN hx hb dX6_feed_65 ?_
            refine lv_lshr (v := (w >>> ((nI (8 * k)).toInt64 &&& 63))) hx hb dX6_feed_66 rfl ?_
            refine lv_ldc2 hx hb hown (hts _ q1634) dX6_feed_67 ?_
            refine lv_land hx hb dX6_feed_70 ?_
            refine lv_l2i (v := (((w >>> ((nI (8 * k)).toInt64 &&& 63)) &&& (255 : Int64))).toInt32) hx hb dX6_feed_71 rfl ?_
            refine w_top (byW w k) (rfl) ?_
            refine md_iast hx hb hK hI hM 1 rfl (128 + (cl (a 1 4) + k)) ⟨by omega, by decide, rfl⟩ rfl dX6_feed_72 (fun H locs hM => ?_)
            have hM := hM.to (a' := va_up a 1 (upd (feR (a 1) w k) (128 + (cl (a 1 4) + k)) (byW w k))) rfl (by rw [va_uu, va_us])
            refine lv_aload_n hx hb dX6_feed_73 rfl (lv_at hl 1 rfl) ?_
            refine md_get (v := .ref (h 1)) hx hb hts hown hK hM 0 (by decide) q1390 rfl rfl dX6_feed_74 ?_
            refine lv_iconst (v := nI 4) hx hb dX6_feed_77 (by decide) ?_
            refine lv_dup2_11 hx hb dX6_feed_78 rfl rfl ?_
            refine md_iald hx hb hK hM 1 rfl 4 ⟨by omega, by decide, rfl⟩ dX6_feed_79 ?_
            refine w_top (nI (cl (a 1 4) + k)) (by rw [va_us]; exact feR_u _ _ _ _) ?_
            refine lv_iconst (v := nI 1) hx hb dX6_feed_80 (by decide) ?_
            refine w_iaddN hx hb dX6_feed_81 ?_
            refine md_iast hx hb hK hI hM 1 rfl 4 ⟨by omega, by decide, rfl⟩ rfl dX6_feed_82 (fun H locs hM => ?_)
            refine lv_iinc (v := nI (k + 1)) (lv' := [(4, .int (nI (k + 1))), (0, .ref (h 0)), (1, .long w), (3, .int (nI n))]) hx hb dX6_feed_83 hl (k := 0) rfl (by rw [show Int32.ofInt 1 = nI 1 from by decide]; exact nI_add _ _) (by decide) rfl (fun ls hl => ?_)
            refine lv_goto (tgt := 40) hx hb dX6_feed_86 (by decide) ?_
            exact ih40 (k + 1) (by omega) (by omega) _ _ (hM.to rfl (by rw [va_uu, va_us, feR_s])) ls (lv_sub hl [0, 1, 2, 3] rfl)
      exact loop40 (n + 1) 0 (by omega) (by omega) _ _ (hM.to rfl (by rw [feR_0 w hq.1]; exact va_self a 1)) ls (lv_sub hl [0, 1, 2, 3] rfl)
    · exact absurd hk0 (by omega)
  · exact absurd (by first | exact (in_nat (by decide)).mpr ⟨_, by omega, rfl⟩ | exact (in_nat1 _ (by decide) (by decide)).mpr ⟨_, by omega, by omega, rfl⟩ | exact cow_in hN (by omega) | assumption) c_1
set_option maxHeartbeats 400000 in
theorem met_feed_f (f : Nat → Int32) (a : Nat → Nat → Int32) (w : Int64) (n : Nat) (h1 : 1 ≤ n) (h8 : n ≤ 8) (hq : okN (a 1 4) 50) (hk0 : ¬ cl (a 1 4) + n ≤ 50) : MdF yX6_feed cX6_feed 5 (some .int) 1 22 [.long w, .int (nI n)] f a (some (.int (-1000000004 : Int32))) f (mErr a 4) := by
  refine MdF.ofI (by decide) rfl (Nat.le_of_ble_eq_true rfl) ?_
  intro p l e R s m args below meth c Q D h dA ls hx hb hml hRf hRl hts hown hK hI hM hl hret
  have hl : lv_has ls 5 [(0, .ref (h 0)), (1, .long w), (3, .int (nI n))] := hl
  have hq2 := hq.2
  refine lv_iload_n hx hb dX6_feed_0 rfl (lv_at hl 2 rfl) ?_
  refine lv_iconst (v := nI 1) hx hb dX6_feed_1 (by decide) ?_
  refine lv_bipush (v := nI 8) hx hb dX6_feed_2 (by decide) ?_
  refine st_callI (y := yX6_in) hx hb hml hown hts (met_in (nI n) (nI 1) (nI 8)) q1482 q1483 q70 q1484 ndX6_in rfl (by rw [hRf]; decide) (by rw [hRl]; decide) ⟨Nat.zero_le _, Nat.zero_le _⟩ hl.1 rfl (Nat.le_of_ble_eq_true rfl) dX6_feed_4 ?_
  refine w_if_neT (tgt := 17) hx hb dX6_feed_7 (by decide) (fun c_1 => ?_) (fun c_1 => ?_)
  · refine lv_aload_n hx hb dX6_feed_17 rfl (lv_at hl 0 rfl) ?_
    refine md_get (v := .ref (h 1)) hx hb hts hown hK hM 0 (by decide) q1390 rfl rfl dX6_feed_18 ?_
    refine lv_iconst (v := nI 4) hx hb dX6_feed_21 (by decide) ?_
    refine md_iald hx hb hK hM 1 rfl 4 ⟨by omega, by decide, rfl⟩ dX6_feed_22 ?_
    refine w_top (nI (cl (a 1 4))) (hq.1) ?_
    refine lv_iload_n hx hb dX6_feed_23 rfl (lv_at hl 2 rfl) ?_
    refine w_iaddN hx hb dX6_feed_24 ?_
    refine lv_bipush (v := nI 50) hx hb dX6_feed_25 (by decide) ?_
    refine w_icmp_leN (tgt := 37) hx hb (by omega) (by omega) dX6_feed_27 (by decide) (fun c_2 => ?_) (fun c_2 => ?_)
    · exact absurd c_2 hk0
    · refine lv_aload_n hx hb dX6_feed_30 rfl (lv_at hl 0 rfl) ?_
      refine lv_ldc hx hb hown (hts _ q1565) dX6_feed_31 ?_
      refine md_callI (y := yX6_errs) hx hb hml hown hts hK hI hM (met_errs f a (-1000000004 : Int32) 4 (by decide) (by decide)) q1486 q1488 qs21 q1489 ndX6_errs rfl (by rw [hRf]; decide) (by rw [hRl]; decide) hl.1 rfl (Nat.le_of_ble_eq_true rfl) dX6_feed_33 (fun H locs hM => ?_)
      exact hret hM (by first | rfl | (simp only [iI, nI_0, nI_one]; grind)) dX6_feed_36
  · exact absurd (by first | exact (in_nat (by decide)).mpr ⟨_, by omega, rfl⟩ | exact (in_nat1 _ (by decide) (by decide)).mpr ⟨_, by omega, by omega, rfl⟩ | exact cow_in hN (by omega) | assumption) c_1
set_option maxHeartbeats 400000 in
theorem met_feed_e (f : Nat → Int32) (a : Nat → Nat → Int32) (w : Int64) (n : Int32) (he : ¬ (nI 1 ≤ n ∧ n ≤ nI 8)) : MdF yX6_feed cX6_feed 5 (some .int) 1 22 [.long w, .int n] f a (some (.int (-1000000001 : Int32))) f (mErr a 1) := by
  refine MdF.ofI (by decide) rfl (Nat.le_of_ble_eq_true rfl) ?_
  intro p l e R s m args below meth c Q D h dA ls hx hb hml hRf hRl hts hown hK hI hM hl hret
  have hl : lv_has ls 5 [(0, .ref (h 0)), (1, .long w), (3, .int n)] := hl
  refine lv_iload_n hx hb dX6_feed_0 rfl (lv_at hl 2 rfl) ?_
  refine lv_iconst (v := nI 1) hx hb dX6_feed_1 (by decide) ?_
  refine lv_bipush (v := nI 8) hx hb dX6_feed_2 (by decide) ?_
  refine st_callI (y := yX6_in) hx hb hml hown hts (met_in n (nI 1) (nI 8)) q1482 q1483 q70 q1484 ndX6_in rfl (by rw [hRf]; decide) (by rw [hRl]; decide) ⟨Nat.zero_le _, Nat.zero_le _⟩ hl.1 rfl (Nat.le_of_ble_eq_true rfl) dX6_feed_4 ?_
  refine w_if_neT (tgt := 17) hx hb dX6_feed_7 (by decide) (fun c_1 => ?_) (fun c_1 => ?_)
  · exact absurd c_1 he
  · refine lv_aload_n hx hb dX6_feed_10 rfl (lv_at hl 0 rfl) ?_
    refine lv_ldc hx hb hown (hts _ q1485) dX6_feed_11 ?_
    refine md_callI (y := yX6_errs) hx hb hml hown hts hK hI hM (met_errs f a (-1000000001 : Int32) 1 (by decide) (by decide)) q1486 q1488 qs21 q1489 ndX6_errs rfl (by rw [hRf]; decide) (by rw [hRl]; decide) hl.1 rfl (Nat.le_of_ble_eq_true rfl) dX6_feed_13 (fun H locs hM => ?_)
    exact hret hM (by first | rfl | (simp only [iI, nI_0, nI_one]; grind)) dX6_feed_16
theorem ndX6_text : yX6_text.cls = RX6 ∧ yX6_text.cls ≠ "java/lang/invoke/MethodHandle" ∧ yX6_text.cls ≠ "java/lang/invoke/VarHandle" ∧ (parseMethodDescriptor yX6_text.desc).map (fun d => d.parameters.length) = some 1 := by decide +kernel
set_option maxHeartbeats 400000 in
theorem met_text_ok (f : Nat → Int32) (a : Nat → Nat → Int32) (u : Nat) (hu : u < 2) (hq : okN (a 1 4) 50) (hg : ((whI (va_up (va_up a 4 (a 1)) 1 (txF (a 1) u)) u (cl (a 1 4)) (nI 1) (nI 1) (nI 1) 5 0).2.2 && decide ((whI (va_up (va_up a 4 (a 1)) 1 (txF (a 1) u)) u (cl (a 1 4)) (nI 1) (nI 1) (nI 1) 5 0).2.1 = cl (a 1 4))) = true) : MdF yX6_text cX6_text 5 (some .int) 40 1017 [.int (nI u)] f a (some (.int (nI 1))) (fT (wB f u (cl (a 1 4)) (nI 1) (nI 1) (nI 1)) (whI (va_up (va_up a 4 (a 1)) 1 (txF (a 1) u)) u (cl (a 1 4)) (nI 1) (nI 1) (nI 1) 5 0).2.1 ((whI (va_up (va_up a 4 (a 1)) 1 (txF (a 1) u)) u (cl (a 1 4)) (nI 1) (nI 1) (nI 1) 5 0).2.2 && decide ((whI (va_up (va_up a 4 (a 1)) 1 (txF (a 1) u)) u (cl (a 1 4)) (nI 1) (nI 1) (nI 1) 5 0).2.1 = cl (a 1 4)))) (va_up (va_up a 4 (a 1)) 1 (upd (txF (a 1) u) 4 (nI 0))) := by
  refine MdF.ofI (by decide) rfl (Nat.le_of_ble_eq_true rfl) ?_
  intro p l e R s m args below meth c Q D h dA ls hx hb hml hRf hRl hts hown hK hI hM hl hret
  have hl : lv_has ls 5 [(0, .ref (h 0)), (1, .int (nI u))] := hl
  have hq2 := hq.2
  refine lv_iload_n hx hb dX6_text_0 rfl (lv_at hl 1 rfl) ?_
  refine lv_iconst (v := nI 0) hx hb dX6_text_1 (by decide) ?_
  refine lv_iconst (v := nI 1) hx hb dX6_text_2 (by decide) ?_
  refine st_callI (y := yX6_in) hx hb hml hown hts (met_in (nI u) (nI 0) (nI 1)) q1482 q1483 q70 q1484 ndX6_in rfl (by rw [hRf]; decide) (by rw [hRl]; decide) ⟨Nat.zero_le _, Nat.zero_le _⟩ hl.1 rfl (Nat.le_of_ble_eq_true rfl) dX6_text_3 ?_
  refine w_if_neT (tgt := 16) hx hb dX6_text_6 (by decide) (fun c_1 => ?_) (fun c_1 => ?_)
  · refine lv_aload_n hx hb dX6_text_16 rfl (lv_at hl 0 rfl) ?_
    refine lv_aload_n hx hb dX6_text_17 rfl (lv_at hl 0 rfl) ?_
    refine md_get (v := .ref (h 1)) hx hb hts hown hK hM 0 (by decide) q1390 rfl rfl dX6_text_18 ?_
    refine lv_aload_n hx hb dX6_text_21 rfl (lv_at hl 0 rfl) ?_
    refine md_get (v := .ref (h 4)) hx hb hts hown hK hM 3 (by decide) q1393 rfl rfl dX6_text_22 ?_
    refine md_callG (y := yX6_moveAll) hx hb hml hown hts hK hI hM (met_moveAll_1_4 f a) q1639 q1641 qs43 q1642 ndX6_moveAll rfl (by rw [hRf]; decide) (by rw [hRl]; decide) hl.1 rfl (Nat.le_of_ble_eq_true rfl) dX6_text_25 (fun H locs hM => ?_)
    refine lv_iconst (v := nI 0) hx hb dX6_text_28 (by decide) ?_
    refine lv_istore_n (lv' := [(2, .int (nI 0)), (0, .ref (h 0)), (1, .int (nI u))]) hx hb dX6_text_29 rfl hl (by decide) rfl (fun ls hl => ?_)
    have loop30 : ∀ (fu : Nat) (k : Nat), (k ≤ 50) → (50 < k + fu) → ∀ (H : Heap) (locs : List Loc), mdH D h dA s.heap H locs f (va_up (va_up a 4 (a 1)) 1 (txR (a 1) u k)) → ∀ (ls : Array Slot), lv_has ls 5 [(2, .int (nI k)), (0, .ref (h 0)), (1, .int (nI u))] → W p l e R s m args below meth c H locs 0 0 Q (F0 m 30 ls []) := by
      intro fu
      induction fu with
      | zero =>
        intro k hk hf
        omega
      | succ fu ih30 =>
        intro k hk hf H locs hM ls hl
        refine lv_iload_n hx hb dX6_text_30 rfl (lv_at hl 0 rfl) ?_
        refine lv_bipush (v := nI 50) hx hb dX6_text_31 (by decide) ?_
        refine w_icmp_geN (tgt := 67) hx hb (by omega) (by omega) dX6_text_33 (by decide) (fun c_2 => ?_) (fun c_2 => ?_)
        · refine lv_aload_n hx hb dX6_text_67 rfl (lv_at hl 1 rfl) ?_
          refine md_get (v := .ref (h 1)) hx hb hts hown hK hM 0 (by decide) q1390 rfl rfl dX6_text_68 ?_
          refine lv_bipush (v := nI 6) hx hb dX6_text_71 (by decide) ?_
          refine lv_iload_n hx hb dX6_text_73 rfl (lv_at hl 2 rfl) ?_
          refine w_iaddN hx hb dX6_text_74 ?_
          refine lv_aload_n hx hb dX6_text_75 rfl (lv_at hl 1 rfl) ?_
          refine md_get (v := .ref (h 1)) hx hb hts hown hK hM 0 (by decide) q1390 rfl rfl dX6_text_76 ?_
          refine lv_iconst (v := nI 4) hx hb dX6_text_79 (by decide) ?_
          refine md_iald hx hb hK hM 1 rfl 4 ⟨by omega, by decide, rfl⟩ dX6_text_80 ?_
          refine w_top (a 1 4) (by rw [va_us, show k = 50 by omega]; exact txR_4 _ _) ?_
          refine md_iast hx hb hK hI hM 1 rfl (6 + u) ⟨by omega, by decide, rfl⟩ rfl dX6_text_81 (fun H locs hM => ?_)
          have hM := hM.to (a' := va_up (va_up a 4 (a 1)) 1 (txF (a 1) u)) rfl (by rw [va_uu, va_us, show k = 50 by omega]; rfl)
          refine lv_aload_n hx hb dX6_text_82 rfl (lv_at hl 1 rfl) ?_
          refine lv_iload_n hx hb dX6_text_83 rfl (lv_at hl 2 rfl) ?_
          refine lv_iconst (v := nI 1) hx hb dX6_text_84 (by decide) ?_
          refine lv_iconst (v := nI 1) hx hb dX6_text_85 (by decide) ?_
          refine lv_iconst (v := nI 1) hx hb dX6_text_86 (by decide) ?_
          refine md_callI (y := yX6_walks) hx hb hml hown hts hK hI hM (met_walks f (va_up (va_up a 4 (a 1)) 1 (txF (a 1) u)) u (cl (a 1 4)) (nI 1) (nI 1) (nI 1) hu hq.2 (by rw [va_us, txF_z]; exact hq.1)) q1510 q1512 qs24 q1513 ndX6_walks rfl (by rw [hRf]; decide) (by rw [hRl]; decide) hl.1 rfl (Nat.le_of_ble_eq_true rfl) dX6_text_87 (fun H locs hM => ?_)
          refine lv_istore_n (lv' := [(2, .int ((whI (va_up (va_up a 4 (a 1)) 1 (txF (a 1) u)) u (cl (a 1 4)) (nI 1) (nI 1) (nI 1) 5 0).1)), (0, .ref (h 0)), (1, .int (nI u))]) hx hb dX6_text_90 rfl hl (by decide) rfl (fun ls hl => ?_)
          refine lv_aload_n hx hb dX6_text_91 rfl (lv_at hl 1 rfl) ?_
          refine md_get (v := .int (iI (((whI (va_up (va_up a 4 (a 1)) 1 (txF (a 1) u)) u (cl (a 1 4)) (nI 1) (nI 1) (nI 1) 5 0).2.2 && decide ((whI (va_up (va_up a 4 (a 1)) 1 (txF (a 1) u)) u (cl (a 1 4)) (nI 1) (nI 1) (nI 1) 5 0).2.1 = cl (a 1 4))) = true))) hx hb hts hown hK hM 14 (by decide) q1404 rfl rfl dX6_text_92 ?_
          refine w_if_eqT (tgt := 107) hx hb dX6_text_95 (by decide) (fun c_3 => ?_) (fun c_3 => ?_)
          · exact absurd hg c_3
          · refine lv_iload_n hx hb dX6_text_98 rfl (lv_at hl 0 rfl) ?_
            refine lv_iload_n hx hb dX6_text_99 rfl (lv_at hl 0 rfl) ?_
            refine lv_icmp_ne (tgt := 107) hx hb dX6_text_100 (by decide) (fun c_4 => ?_) (fun c_4 => ?_)
            · exact absurd rfl c_4
            · refine lv_iconst (v := nI 1) hx hb dX6_text_103 (by decide) ?_
              refine lv_goto (tgt := 108) hx hb dX6_text_104 (by decide) ?_
              refine lv_istore_n (lv' := [(3, .int (nI 1)), (2, .int ((whI (va_up (va_up a 4 (a 1)) 1 (txF (a 1) u)) u (cl (a 1 4)) (nI 1) (nI 1) (nI 1) 5 0).1)), (0, .ref (h 0)), (1, .int (nI u))]) hx hb dX6_text_108 rfl hl (by decide) rfl (fun ls hl => ?_)
              refine lv_aload_n hx hb dX6_text_109 rfl (lv_at hl 2 rfl) ?_
              refine md_get (v := .int (nI ((whI (va_up (va_up a 4 (a 1)) 1 (txF (a 1) u)) u (cl (a 1 4)) (nI 1) (nI 1) (nI 1) 5 0).2.1))) hx hb hts hown hK hM 8 (by decide) q1398 rfl rfl dX6_text_110 ?_
              refine lv_istore (lv' := [(4, .int (nI ((whI (va_up (va_up a 4 (a 1)) 1 (txF (a 1) u)) u (cl (a 1 4)) (nI 1) (nI 1) (nI 1) 5 0).2.1))), (3, .int (nI 1)), (2, .int ((whI (va_up (va_up a 4 (a 1)) 1 (txF (a 1) u)) u (cl (a 1 4)) (nI 1) (nI 1) (nI 1) 5 0).1)), (0, .ref (h 0)), (1, .int (nI u))]) hx hb dX6_text_113 hl (by decide) rfl (fun ls hl => ?_)
              refine lv_iload_n hx hb dX6_text_115 rfl (lv_at hl 1 rfl) ?_
              refine lv_if_ne (tgt := 131) hx hb dX6_text_116 (by decide) (fun _ => ?_) (fun q => absurd q (by decide))
              refine lv_aload_n hx hb dX6_text_131 rfl (lv_at hl 3 rfl) ?_
              refine md_get (v := .ref (h 1)) hx hb hts hown hK hM 0 (by decide) q1390 rfl rfl dX6_text_132 ?_
              refine lv_iconst (v := nI 4) hx hb dX6_text_135 (by decide) ?_
              refine lv_iconst (v := nI 0) hx hb dX6_text_136 (by decide) ?_
              refine md_iast hx hb hK hI hM 1 rfl 4 ⟨by omega, by decide, rfl⟩ rfl dX6_text_137 (fun H locs hM => ?_)
              have hM := hM.to (a' := va_up (va_up a 4 (a 1)) 1 (upd (txF (a 1) u) 4 (nI 0))) rfl (by rw [va_uu, va_us])
              refine lv_iload_n hx hb dX6_text_138 rfl (lv_at hl 1 rfl) ?_
              refine lv_if_eq (tgt := 146) hx hb dX6_text_139 (by decide) (fun q => absurd q (by decide)) (fun _ => ?_)
              refine lv_iconst (v := nI 1) hx hb dX6_text_142 (by decide) ?_
              refine lv_goto (tgt := 151) hx hb dX6_text_143 (by decide) ?_
              exact hret hM (rfl) dX6_text_151
        · refine lv_aload_n hx hb dX6_text_36 rfl (lv_at hl 1 rfl) ?_
          refine md_get (v := .ref (h 1)) hx hb hts hown hK hM 0 (by decide) q1390 rfl rfl dX6_text_37 ?_
          refine lv_sipush (v := nI 198) hx hb dX6_text_40 (by decide) ?_
          refine lv_bipush (v := nI 50) hx hb dX6_text_43 (by decide) ?_
          refine lv_iload_n hx hb dX6_text_45 rfl (lv_at hl 2 rfl) ?_
          refine w_imulN hx hb dX6_text_46 ?_
          refine w_iaddN hx hb dX6_text_47 ?_
          refine lv_iload_n hx hb dX6_text_48 rfl (lv_at hl 0 rfl) ?_
          refine w_iaddN hx hb dX6_text_49 ?_
          refine lv_aload_n hx hb dX6_text_50 rfl (lv_at hl 1 rfl) ?_
          refine md_get (v := .ref (h 1)) hx hb hts hown hK hM 0 (by decide) q1390 rfl rfl dX6_text_51 ?_
          refine lv_sipush (v := nI 128) hx hb dX6_text_54 (by decide) ?_
          refine lv_iload_n hx hb dX6_text_57 rfl (lv_at hl 0 rfl) ?_
          refine w_iaddN hx hb dX6_text_58 ?_
          refine md_iald hx hb hK hM 1 rfl (128 + k) ⟨by omega, by decide, rfl⟩ dX6_text_59 ?_
          refine w_top (a 1 (128 + k)) (by rw [va_us]; exact txR_l (by omega)) ?_
          refine md_iast hx hb hK hI hM 1 rfl ((198 + (50 * u)) + k) ⟨by omega, by decide, rfl⟩ rfl dX6_text_60 (fun H locs hM => ?_)
          refine lv_iinc (v := nI (k + 1)) (lv' := [(2, .int (nI (k + 1))), (0, .ref (h 0)), (1, .int (nI u))]) hx hb dX6_text_61 hl (k := 0) rfl (by rw [show Int32.ofInt 1 = nI 1 from by decide]; exact nI_add _ _) (by decide) rfl (fun ls hl => ?_)
          refine lv_goto (tgt := 30) hx hb dX6_text_64 (by decide) ?_
          exact ih30 (k + 1) (by omega) (by omega) _ _ (hM.to rfl (by rw [va_uu, va_us, txR_s])) ls (lv_sub hl [0, 1, 2] rfl)
    exact loop30 51 0 (by omega) (by omega) _ _ (hM.to rfl (by rw [txR_0]; exact va_self (va_up a 4 (a 1)) 1)) ls (lv_sub hl [0, 1, 2] rfl)
  · exact absurd (by first | exact (in_nat (by decide)).mpr ⟨_, by omega, rfl⟩ | exact (in_nat1 _ (by decide) (by decide)).mpr ⟨_, by omega, by omega, rfl⟩ | exact cow_in hN (by omega) | assumption) c_1
set_option maxHeartbeats 400000 in
theorem met_text_x (f : Nat → Int32) (a : Nat → Nat → Int32) (u : Nat) (hu : u < 2) (hq : okN (a 1 4) 50) (hg : ¬ ((whI (va_up (va_up a 4 (a 1)) 1 (txF (a 1) u)) u (cl (a 1 4)) (nI 1) (nI 1) (nI 1) 5 0).2.2 && decide ((whI (va_up (va_up a 4 (a 1)) 1 (txF (a 1) u)) u (cl (a 1 4)) (nI 1) (nI 1) (nI 1) 5 0).2.1 = cl (a 1 4))) = true) : MdF yX6_text cX6_text 5 (some .int) 40 1017 [.int (nI u)] f a (some (.int ((-10 : Int32) - nI (whI (va_up (va_up a 4 (a 1)) 1 (txF (a 1) u)) u (cl (a 1 4)) (nI 1) (nI 1) (nI 1) 5 0).2.1))) (fT (wB f u (cl (a 1 4)) (nI 1) (nI 1) (nI 1)) (whI (va_up (va_up a 4 (a 1)) 1 (txF (a 1) u)) u (cl (a 1 4)) (nI 1) (nI 1) (nI 1) 5 0).2.1 ((whI (va_up (va_up a 4 (a 1)) 1 (txF (a 1) u)) u (cl (a 1 4)) (nI 1) (nI 1) (nI 1) 5 0).2.2 && decide ((whI (va_up (va_up a 4 (a 1)) 1 (txF (a 1) u)) u (cl (a 1 4)) (nI 1) (nI 1) (nI 1) 5 0).2.1 = cl (a 1 4)))) (va_up (va_up a 4 (a 1)) 1 (upd (a 1) 4 (nI 0))) := by
  refine MdF.ofI (by decide) rfl (Nat.le_of_ble_eq_true rfl) ?_
  intro p l e R s m args below meth c Q D h dA ls hx hb hml hRf hRl hts hown hK hI hM hl hret
  have hl : lv_has ls 5 [(0, .ref (h 0)), (1, .int (nI u))] := hl
  have hq2 := hq.2
  refine lv_iload_n hx hb dX6_text_0 rfl (lv_at hl 1 rfl) ?_
  refine lv_iconst (v := nI 0) hx hb dX6_text_1 (by decide) ?_
  refine lv_iconst (v := nI 1) hx hb dX6_text_2 (by decide) ?_
  refine st_callI (y := yX6_in) hx hb hml hown hts (met_in (nI u) (nI 0) (nI 1)) q1482 q1483 q70 q1484 ndX6_in rfl (by rw [hRf]; decide) (by rw [hRl]; decide) ⟨Nat.zero_le _, Nat.zero_le _⟩ hl.1 rfl (Nat.le_of_ble_eq_true rfl) dX6_text_3 ?_
  refine w_if_neT (tgt := 16) hx hb dX6_text_6 (by decide) (fun c_1 => ?_) (fun c_1 => ?_)
  · refine lv_aload_n hx hb dX6_text_16 rfl (lv_at hl 0 rfl) ?_
    refine lv_aload_n hx hb dX6_text_17 rfl (lv_at hl 0 rfl) ?_
    refine md_get (v := .ref (h 1)) hx hb hts hown hK hM 0 (by decide) q1390 rfl rfl dX6_text_18 ?_
    refine lv_aload_n hx hb dX6_text_21 rfl (lv_at hl 0 rfl) ?_
    refine md_get (v := .ref (h 4)) hx hb hts hown hK hM 3 (by decide) q1393 rfl rfl dX6_text_22 ?_
    refine md_callG (y := yX6_moveAll) hx hb hml hown hts hK hI hM (met_moveAll_1_4 f a) q1639 q1641 qs43 q1642 ndX6_moveAll rfl (by rw [hRf]; decide) (by rw [hRl]; decide) hl.1 rfl (Nat.le_of_ble_eq_true rfl) dX6_text_25 (fun H locs hM => ?_)
    refine lv_iconst (v := nI 0) hx hb dX6_text_28 (by decide) ?_
    refine lv_istore_n (lv' := [(2, .int (nI 0)), (0, .ref (h 0)), (1, .int (nI u))]) hx hb dX6_text_29 rfl hl (by decide) rfl (fun ls hl => ?_)
    have loop30 : ∀ (fu : Nat) (k : Nat), (k ≤ 50) → (50 < k + fu) → ∀ (H : Heap) (locs : List Loc), mdH D h dA s.heap H locs f (va_up (va_up a 4 (a 1)) 1 (txR (a 1) u k)) → ∀ (ls : Array Slot), lv_has ls 5 [(2, .int (nI k)), (0, .ref (h 0)), (1, .int (nI u))] → W p l e R s m args below meth c H locs 0 0 Q (F0 m 30 ls []) := by
      intro fu
      induction fu with
      | zero =>
        intro k hk hf
        omega
      | succ fu ih30 =>
        intro k hk hf H locs hM ls hl
        refine lv_iload_n hx hb dX6_text_30 rfl (lv_at hl 0 rfl) ?_
        refine lv_bipush (v := nI 50) hx hb dX6_text_31 (by decide) ?_
        refine w_icmp_geN (tgt := 67) hx hb (by omega) (by omega) dX6_text_33 (by decide) (fun c_2 => ?_) (fun c_2 => ?_)
        · refine lv_aload_n hx hb dX6_text_67 rfl (lv_at hl 1 rfl) ?_
          refine md_get (v := .ref (h 1)) hx hb hts hown hK hM 0 (by decide) q1390 rfl rfl dX6_text_68 ?_
          refine lv_bipush (v := nI 6) hx hb dX6_text_71 (by decide) ?_
          refine lv_iload_n hx hb dX6_text_73 rfl (lv_at hl 2 rfl) ?_
          refine w_iaddN hx hb dX6_text_74 ?_
          refine lv_aload_n hx hb dX6_text_75 rfl (lv_at hl 1 rfl) ?_
          refine md_get (v := .ref (h 1)) hx hb hts hown hK hM 0 (by decide) q1390 rfl rfl dX6_text_76 ?_
          refine lv_iconst (v := nI 4) hx hb dX6_text_79 (by decide) ?_
          refine md_iald hx hb hK hM 1 rfl 4 ⟨by omega, by decide, rfl⟩ dX6_text_80 ?_
          refine w_top (a 1 4) (by rw [va_us, show k = 50 by omega]; exact txR_4 _ _) ?_
          refine md_iast hx hb hK hI hM 1 rfl (6 + u) ⟨by omega, by decide, rfl⟩ rfl dX6_text_81 (fun H locs hM => ?_)
          have hM := hM.to (a' := va_up (va_up a 4 (a 1)) 1 (txF (a 1) u)) rfl (by rw [va_uu, va_us, show k = 50 by omega]; rfl)
          refine lv_aload_n hx hb dX6_text_82 rfl (lv_at hl 1 rfl) ?_
          refine lv_iload_n hx hb dX6_text_83 rfl (lv_at hl 2 rfl) ?_
          refine lv_iconst (v := nI 1) hx hb dX6_text_84 (by decide) ?_
          refine lv_iconst (v := nI 1) hx hb dX6_text_85 (by decide) ?_
          refine lv_iconst (v := nI 1) hx hb dX6_text_86 (by decide) ?_
          refine md_callI (y := yX6_walks) hx hb hml hown hts hK hI hM (met_walks f (va_up (va_up a 4 (a 1)) 1 (txF (a 1) u)) u (cl (a 1 4)) (nI 1) (nI 1) (nI 1) hu hq.2 (by rw [va_us, txF_z]; exact hq.1)) q1510 q1512 qs24 q1513 ndX6_walks rfl (by rw [hRf]; decide) (by rw [hRl]; decide) hl.1 rfl (Nat.le_of_ble_eq_true rfl) dX6_text_87 (fun H locs hM => ?_)
          refine lv_istore_n (lv' := [(2, .int ((whI (va_up (va_up a 4 (a 1)) 1 (txF (a 1) u)) u (cl (a 1 4)) (nI 1) (nI 1) (nI 1) 5 0).1)), (0, .ref (h 0)), (1, .int (nI u))]) hx hb dX6_text_90 rfl hl (by decide) rfl (fun ls hl => ?_)
          refine lv_aload_n hx hb dX6_text_91 rfl (lv_at hl 1 rfl) ?_
          refine md_get (v := .int (iI (((whI (va_up (va_up a 4 (a 1)) 1 (txF (a 1) u)) u (cl (a 1 4)) (nI 1) (nI 1) (nI 1) 5 0).2.2 && decide ((whI (va_up (va_up a 4 (a 1)) 1 (txF (a 1) u)) u (cl (a 1 4)) (nI 1) (nI 1) (nI 1) 5 0).2.1 = cl (a 1 4))) = true))) hx hb hts hown hK hM 14 (by decide) q1404 rfl rfl dX6_text_92 ?_
          refine w_if_eqT (tgt := 107) hx hb dX6_text_95 (by decide) (fun c_3 => ?_) (fun c_3 => ?_)
          · refine lv_iconst (v := nI 0) hx hb dX6_text_107 (by decide) ?_
            refine lv_istore_n (lv' := [(3, .int (nI 0)), (2, .int ((whI (va_up (va_up a 4 (a 1)) 1 (txF (a 1) u)) u (cl (a 1 4)) (nI 1) (nI 1) (nI 1) 5 0).1)), (0, .ref (h 0)), (1, .int (nI u))]) hx hb dX6_text_108 rfl hl (by decide) rfl (fun ls hl => ?_)
            refine lv_aload_n hx hb dX6_text_109 rfl (lv_at hl 2 rfl) ?_
            refine md_get (v := .int (nI ((whI (va_up (va_up a 4 (a 1)) 1 (txF (a 1) u)) u (cl (a 1 4)) (nI 1) (nI 1) (nI 1) 5 0).2.1))) hx hb hts hown hK hM 8 (by decide) q1398 rfl rfl dX6_text_110 ?_
            refine lv_istore (lv' := [(4, .int (nI ((whI (va_up (va_up a 4 (a 1)) 1 (txF (a 1) u)) u (cl (a 1 4)) (nI 1) (nI 1) (nI 1) 5 0).2.1))), (3, .int (nI 0)), (2, .int ((whI (va_up (va_up a 4 (a 1)) 1 (txF (a 1) u)) u (cl (a 1 4)) (nI 1) (nI 1) (nI 1) 5 0).1)), (0, .ref (h 0)), (1, .int (nI u))]) hx hb dX6_text_113 hl (by decide) rfl (fun ls hl => ?_)
            refine lv_iload_n hx hb dX6_text_115 rfl (lv_at hl 1 rfl) ?_
            refine lv_if_ne (tgt := 131) hx hb dX6_text_116 (by decide) (fun q => absurd q (by decide)) (fun _ => ?_)
            refine lv_aload_n hx hb dX6_text_119 rfl (lv_at hl 3 rfl) ?_
            refine lv_aload_n hx hb dX6_text_120 rfl (lv_at hl 3 rfl) ?_
            refine md_get (v := .ref (h 4)) hx hb hts hown hK hM 3 (by decide) q1393 rfl rfl dX6_text_121 ?_
            refine lv_aload_n hx hb dX6_text_124 rfl (lv_at hl 3 rfl) ?_
            refine md_get (v := .ref (h 1)) hx hb hts hown hK hM 0 (by decide) q1390 rfl rfl dX6_text_125 ?_
            refine md_callG (y := yX6_moveAll) hx hb hml hown hts hK hI hM (met_moveAll_4_1 (fT (wB f u (cl (a 1 4)) (nI 1) (nI 1) (nI 1)) (whI (va_up (va_up a 4 (a 1)) 1 (txF (a 1) u)) u (cl (a 1 4)) (nI 1) (nI 1) (nI 1) 5 0).2.1 ((whI (va_up (va_up a 4 (a 1)) 1 (txF (a 1) u)) u (cl (a 1 4)) (nI 1) (nI 1) (nI 1) 5 0).2.2 && decide ((whI (va_up (va_up a 4 (a 1)) 1 (txF (a 1) u)) u (cl (a 1 4)) (nI 1) (nI 1) (nI 1) 5 0).2.1 = cl (a 1 4)))) (va_up (va_up a 4 (a 1)) 1 (txF (a 1) u))) q1639 q1641 qs43 q1642 ndX6_moveAll rfl (by rw [hRf]; decide) (by rw [hRl]; decide) hl.1 rfl (Nat.le_of_ble_eq_true rfl) dX6_text_128 (fun H locs hM => ?_)
            have hM := hM.to (a' := va_up (va_up a 4 (a 1)) 1 (a 1)) rfl (by rw [va_uu]; rfl)
            refine lv_aload_n hx hb dX6_text_131 rfl (lv_at hl 3 rfl) ?_
            refine md_get (v := .ref (h 1)) hx hb hts hown hK hM 0 (by decide) q1390 rfl rfl dX6_text_132 ?_
            refine lv_iconst (v := nI 4) hx hb dX6_text_135 (by decide) ?_
            refine lv_iconst (v := nI 0) hx hb dX6_text_136 (by decide) ?_
            refine md_iast hx hb hK hI hM 1 rfl 4 ⟨by omega, by decide, rfl⟩ rfl dX6_text_137 (fun H locs hM => ?_)
            have hM := hM.to (a' := va_up (va_up a 4 (a 1)) 1 (upd (a 1) 4 (nI 0))) rfl (by rw [va_uu, va_us])
            refine lv_iload_n hx hb dX6_text_138 rfl (lv_at hl 1 rfl) ?_
            refine lv_if_eq (tgt := 146) hx hb dX6_text_139 (by decide) (fun _ => ?_) (fun q => absurd q (by decide))
            refine lv_bipush (v := (-10 : Int32)) hx hb dX6_text_146 (by decide) ?_
            refine lv_iload hx hb dX6_text_148 (lv_at hl 0 rfl) ?_
            refine lv_isub hx hb dX6_text_150 ?_
            exact hret hM (rfl) dX6_text_151
          · exact absurd c_3 hg
        · refine lv_aload_n hx hb dX6_text_36 rfl (lv_at hl 1 rfl) ?_
          refine md_get (v := .ref (h 1)) hx hb hts hown hK hM 0 (by decide) q1390 rfl rfl dX6_text_37 ?_
          refine lv_sipush (v := nI 198) hx hb dX6_text_40 (by decide) ?_
          refine lv_bipush (v := nI 50) hx hb dX6_text_43 (by decide) ?_
          refine lv_iload_n hx hb dX6_text_45 rfl (lv_at hl 2 rfl) ?_
          refine w_imulN hx hb dX6_text_46 ?_
          refine w_iaddN hx hb dX6_text_47 ?_
          refine lv_iload_n hx hb dX6_text_48 rfl (lv_at hl 0 rfl) ?_
          refine w_iaddN hx hb dX6_text_49 ?_
          refine lv_aload_n hx hb dX6_text_50 rfl (lv_at hl 1 rfl) ?_
          refine md_get (v := .ref (h 1)) hx hb hts hown hK hM 0 (by decide) q1390 rfl rfl dX6_text_51 ?_
          refine lv_sipush (v := nI 128) hx hb dX6_text_54 (by decide) ?_
          refine lv_iload_n hx hb dX6_text_57 rfl (lv_at hl 0 rfl) ?_
          refine w_iaddN hx hb dX6_text_58 ?_
          refine md_iald hx hb hK hM 1 rfl (128 + k) ⟨by omega, by decide, rfl⟩ dX6_text_59 ?_
          refine w_top (a 1 (128 + k)) (by rw [va_us]; exact txR_l (by omega)) ?_
          refine md_iast hx hb hK hI hM 1 rfl ((198 + (50 * u)) + k) ⟨by omega, by decide, rfl⟩ rfl dX6_text_60 (fun H locs hM => ?_)
          refine lv_iinc (v := nI (k + 1)) (lv' := [(2, .int (nI (k + 1))), (0, .ref (h 0)), (1, .int (nI u))]) hx hb dX6_text_61 hl (k := 0) rfl (by rw [show Int32.ofInt 1 = nI 1 from by decide]; exact nI_add _ _) (by decide) rfl (fun ls hl => ?_)
          refine lv_goto (tgt := 30) hx hb dX6_text_64 (by decide) ?_
          exact ih30 (k + 1) (by omega) (by omega) _ _ (hM.to rfl (by rw [va_uu, va_us, txR_s])) ls (lv_sub hl [0, 1, 2] rfl)
    exact loop30 51 0 (by omega) (by omega) _ _ (hM.to rfl (by rw [txR_0]; exact va_self (va_up a 4 (a 1)) 1)) ls (lv_sub hl [0, 1, 2] rfl)
  · exact absurd (by first | exact (in_nat (by decide)).mpr ⟨_, by omega, rfl⟩ | exact (in_nat1 _ (by decide) (by decide)).mpr ⟨_, by omega, by omega, rfl⟩ | exact cow_in hN (by omega) | assumption) c_1
set_option maxHeartbeats 400000 in
theorem met_text_e (f : Nat → Int32) (a : Nat → Nat → Int32) (u : Int32) (he : ¬ (nI 0 ≤ u ∧ u ≤ nI 1)) : MdF yX6_text cX6_text 5 (some .int) 1 22 [.int u] f a (some (.int (-1000000001 : Int32))) f (mErr a 1) := by
  refine MdF.ofI (by decide) rfl (Nat.le_of_ble_eq_true rfl) ?_
  intro p l e R s m args below meth c Q D h dA ls hx hb hml hRf hRl hts hown hK hI hM hl hret
  have hl : lv_has ls 5 [(0, .ref (h 0)), (1, .int u)] := hl
  refine lv_iload_n hx hb dX6_text_0 rfl (lv_at hl 1 rfl) ?_
  refine lv_iconst (v := nI 0) hx hb dX6_text_1 (by decide) ?_
  refine lv_iconst (v := nI 1) hx hb dX6_text_2 (by decide) ?_
  refine st_callI (y := yX6_in) hx hb hml hown hts (met_in u (nI 0) (nI 1)) q1482 q1483 q70 q1484 ndX6_in rfl (by rw [hRf]; decide) (by rw [hRl]; decide) ⟨Nat.zero_le _, Nat.zero_le _⟩ hl.1 rfl (Nat.le_of_ble_eq_true rfl) dX6_text_3 ?_
  refine w_if_neT (tgt := 16) hx hb dX6_text_6 (by decide) (fun c_1 => ?_) (fun c_1 => ?_)
  · exact absurd c_1 he
  · refine lv_aload_n hx hb dX6_text_9 rfl (lv_at hl 0 rfl) ?_
    refine lv_ldc hx hb hown (hts _ q1485) dX6_text_10 ?_
    refine md_callI (y := yX6_errs) hx hb hml hown hts hK hI hM (met_errs f a (-1000000001 : Int32) 1 (by decide) (by decide)) q1486 q1488 qs21 q1489 ndX6_errs rfl (by rw [hRf]; decide) (by rw [hRl]; decide) hl.1 rfl (Nat.le_of_ble_eq_true rfl) dX6_text_12 (fun H locs hM => ?_)
    exact hret hM (by first | rfl | (simp only [iI, nI_0, nI_one]; grind)) dX6_text_15
