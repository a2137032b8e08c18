/-! the model: days (printed by model6.py) -/
set_option maxRecDepth 100000
def gzC (r : Nat → Int32) (i : Nat) : Nat := (nxt (cl (r (58 + 14 * i + 2))) (wayS r i (cl (r (58 + 14 * i + 2))) 4).1).getD 0
def gz1 (r : Nat → Int32) (i : Nat) : Nat → Int32 := upd r (58 + 14 * i + 2) (nI (gzC r i))
def gz2 (r : Nat → Int32) (i : Nat) : Nat → Int32 := upd (gz1 r i) (33 + gzC r i) (hel (gz1 r i (33 + gzC r i) - eatF (gz1 r i (58 + 14 * i + 0)) (gz1 r i (58 + 14 * i + 1))) (nI 0) (nI 99))
def gzNI (r : Nat → Int32) (i : Nat) : Int32 := hel (gz2 r i (58 + 14 * i + 3) + nI 1) (nI 1) (spanF (gz2 r i (58 + 14 * i + 0)) (gz2 r i (58 + 14 * i + 1)))
def gzN (r : Nat → Int32) (i : Nat) : Nat := cl (gzNI r i)
/-- places above k moved by one, below n -/
def gz3 (r : Nat → Int32) (i n k : Nat) : Nat → Int32 := fun x => if 58 + 14 * i + 4 + k + 1 ≤ x ∧ x < 58 + 14 * i + 4 + n then r (x - 1) else r x
/-- a cow's day -/
def gzR (r : Nat → Int32) (i : Nat) : Nat → Int32 := upd (upd (gz3 (gz2 r i) i (gzN r i) 0) (58 + 14 * i + 4) (nI (gzC r i))) (58 + 14 * i + 3) (nI (gzN r i))
theorem gzC_eq (r : Nat → Int32) (i : Nat) : oI (nxt (cl (r (58 + 14 * i + 2))) (wayS r i (cl (r (58 + 14 * i + 2))) 4).1) = nI (gzC r i) := by
  obtain ⟨c, hc⟩ := (wayS_ok r i (cl (r (58 + 14 * i + 2))) 4).2
  unfold gzC
  rw [hc]
  rfl
theorem gzC_lt {r : Nat → Int32} {i : Nat} (h : cl (r (58 + 14 * i + 2)) ≤ 24) : gzC r i < 25 := by
  obtain ⟨c, hc⟩ := (wayS_ok r i (cl (r (58 + 14 * i + 2))) 4).2
  unfold gzC
  rw [hc]
  exact nxt_lt (by omega) hc
theorem okN_v {x : Int32} {n : Nat} (h : okN x n) : ∃ k, k ≤ n ∧ x = nI k := ⟨cl x, h.2, h.1⟩
theorem spanF_in {k m : Int32} (hm : okN m 9) : ∃ j, 4 ≤ j ∧ j ≤ 10 ∧ spanF k m = nI j := by
  obtain ⟨q, hq, e⟩ := okN_v hm
  unfold spanF
  split
  · exact ⟨8, by omega, by omega, rfl⟩
  · split
    · exact ⟨4, by omega, by omega, rfl⟩
    · split
      · refine ⟨6 + q / 2, by omega, by omega, ?_⟩
        rw [e, pk_div (by omega) (by omega) (by omega), nI_add]
      · exact ⟨6, by omega, by omega, rfl⟩
theorem hel_nat {a b c : Nat} (hb : b ≤ c) (ha : a < 2 ^ 31) (hc : c < 2 ^ 31) : hel (nI a) (nI b) (nI c) = nI (max b (min a c)) := by
  unfold hel
  split
  · rename_i h; have := (nI_ltI ha (by omega)).mp h; congr 1; omega
  · rename_i h
    have h1 : ¬ a < b := fun z => h ((nI_ltI ha (by omega)).mpr z)
    split
    · rename_i h; have := (nI_ltI hc ha).mp h; congr 1; omega
    · rename_i h
      have h2 : ¬ c < a := fun z => h ((nI_ltI hc ha).mpr z)
      congr 1; omega
theorem gz2_cow {r : Nat → Int32} {i : Nat} (hc : gzC r i < 25) (j : Nat) (hj : j ≠ 2) : gz2 r i (58 + 14 * i + j) = r (58 + 14 * i + j) := by
  unfold gz2 gz1
  rw [pk_un (by omega), pk_un (by omega)]
theorem gzN_in {r : Nat → Int32} {i : Nat} (hc : gzC r i < 25) (hm : okN (r (58 + 14 * i + 1)) 9) (hq : okN (r (58 + 14 * i + 3)) 10) : gzNI r i = nI (gzN r i) ∧ 1 ≤ gzN r i ∧ gzN r i ≤ 10 := by
  obtain ⟨q, hq1, e⟩ := okN_v hq
  obtain ⟨j, j1, j2, ej⟩ := spanF_in (k := r (58 + 14 * i + 0)) hm
  have h : gzNI r i = nI (max 1 (min (q + 1) j)) := by
    unfold gzNI
    rw [gz2_cow hc 3 (by omega), gz2_cow hc 0 (by omega), gz2_cow hc 1 (by omega), e, ej, nI_add]
    exact hel_nat (by omega) (by omega) (by omega)
  have h2 : gzN r i = max 1 (min (q + 1) j) := by
    unfold gzN; rw [h]; exact nI_clamp (by omega)
  refine ⟨by rw [h2]; exact h, by omega, by omega⟩
theorem gz3_s {r : Nat → Int32} {i n k : Nat} (hk : 0 < k) (hn : k < n) : upd (gz3 r i n k) (58 + 14 * i + (4 + k)) (gz3 r i n k (58 + 14 * i + (4 + k - 1))) = gz3 r i n (k - 1) := by
  funext x
  simp only [upd, gz3]
  by_cases h1 : x = 58 + 14 * i + (4 + k)
  · subst h1
    rw [if_pos rfl, if_neg (by omega), if_pos (by omega)]
    congr 1
    omega
  · rw [if_neg h1]
    by_cases h2 : 58 + 14 * i + 4 + k + 1 ≤ x ∧ x < 58 + 14 * i + 4 + n
    · rw [if_pos h2, if_pos (by omega)]
    · rw [if_neg h2, if_neg (by omega)]
theorem gz3_0 (r : Nat → Int32) (i n : Nat) : r = gz3 r i n (n - 1) := by
  funext x
  simp only [gz3]
  rw [if_neg (by omega)]
theorem ndX6_grazes : yX6_grazes.cls = RX6 ∧ yX6_grazes.cls ≠ "java/lang/invoke/MethodHandle" ∧ yX6_grazes.cls ≠ "java/lang/invoke/VarHandle" ∧ (parseMethodDescriptor yX6_grazes.desc).map (fun d => d.parameters.length) = some 1 := by decide +kernel
set_option maxHeartbeats 400000 in
theorem met_grazes (f : Nat → Int32) (a : Nat → Nat → Int32) (i : Nat) (hi : i < 5) (hT : okT (a 1)) (hm : okN (a 1 (58 + 14 * i + 1)) 9) (hat : okN (a 1 (58 + 14 * i + 2)) 24) (hq : okN (a 1 (58 + 14 * i + 3)) 10) : MdX yX6_grazes cX6_grazes 5 none 44 1117 [.int (nI i)] f a none (va_up a 1 (gzR (a 1) i)) := by
  refine MdX.ofV (by decide) rfl (Nat.le_of_ble_eq_true rfl) ?_
  intro p l e R s m args below meth c Q D h dA ls hx hb hml hRf hRl hts hown hK hI hM hl hret
  have hl : lv_has ls 5 [(0, .ref (h 0)), (1, .int (nI i))] := hl
  have hat2 := hat.2
  have hcl : gzC (a 1) i < 25 := gzC_lt hat2
  have hn3 := gzN_in hcl hm hq
  refine lv_aload_n hx hb dX6_grazes_0 rfl (lv_at hl 0 rfl) ?_
  refine lv_iload_n hx hb dX6_grazes_1 rfl (lv_at hl 1 rfl) ?_
  refine lv_iconst (v := nI 2) hx hb dX6_grazes_2 (by decide) ?_
  refine md_callI (y := yX6_its) hx hb hml hown hts hK hI hM (met_its f a i 2 (by omega)) q1557 q1559 qs35 q1560 ndX6_its rfl (by rw [hRf]; decide) (by rw [hRl]; decide) hl.1 rfl (Nat.le_of_ble_eq_true rfl) dX6_grazes_3 (fun H locs hM => ?_)
  refine w_top (nI (cl (a 1 (58 + 14 * i + 2)))) (hat.1) ?_
  refine lv_aload_n hx hb dX6_grazes_6 rfl (lv_at hl 0 rfl) ?_
  refine lv_iload_n hx hb dX6_grazes_7 rfl (lv_at hl 1 rfl) ?_
  refine lv_aload_n hx hb dX6_grazes_8 rfl (lv_at hl 0 rfl) ?_
  refine lv_iload_n hx hb dX6_grazes_9 rfl (lv_at hl 1 rfl) ?_
  refine lv_iconst (v := nI 2) hx hb dX6_grazes_10 (by decide) ?_
  refine md_callI (y := yX6_its) hx hb hml hown hts hK hI hM (met_its f a i 2 (by omega)) q1557 q1559 qs35 q1560 ndX6_its rfl (by rw [hRf]; decide) (by rw [hRl]; decide) hl.1 rfl (Nat.le_of_ble_eq_true rfl) dX6_grazes_11 (fun H locs hM => ?_)
  refine w_top (nI (cl (a 1 (58 + 14 * i + 2)))) (hat.1) ?_
  refine md_callXI (y := yX6_wayFrom) hx hb hml hown hts hK hI hM (met_wayFrom f a i (cl (a 1 (58 + 14 * i + 2))) hi (by omega) hT hq) q1586 q1588 qs40 q1589 ndX6_wayFrom rfl (by rw [hRf]; decide) (by rw [hRl]; decide) hl.1 rfl (Nat.le_of_ble_eq_true rfl) dX6_grazes_14 (fun H locs f_1 hf_1 hM => ?_)
  have ef_1 : fE f f_1 := fE.rf.tr hf_1
  refine st_callI (y := yX6_beside) hx hb hml hown hts (met_beside (cl (a 1 (58 + 14 * i + 2))) ((wayS (a 1) i (cl (a 1 (58 + 14 * i + 2))) 4).1) (by omega) (by have := (wayS_ok (a 1) i (cl (a 1 (58 + 14 * i + 2))) 4).1; omega)) q1598 q1599 q70 q1600 ndX6_beside rfl (by rw [hRf]; decide) (by rw [hRl]; decide) ⟨Nat.zero_le _, Nat.zero_le _⟩ hl.1 rfl (Nat.le_of_ble_eq_true rfl) dX6_grazes_17 ?_
  refine w_top (nI (gzC (a 1) i)) (gzC_eq (a 1) i) ?_
  refine lv_istore_n (lv' := [(2, .int (nI (gzC (a 1) i))), (0, .ref (h 0)), (1, .int (nI i))]) hx hb dX6_grazes_20 rfl hl (by decide) rfl (fun ls hl => ?_)
  refine lv_aload_n hx hb dX6_grazes_21 rfl (lv_at hl 1 rfl) ?_
  refine lv_iload_n hx hb dX6_grazes_22 rfl (lv_at hl 2 rfl) ?_
  refine lv_iconst (v := nI 2) hx hb dX6_grazes_23 (by decide) ?_
  refine lv_iload_n hx hb dX6_grazes_24 rfl (lv_at hl 0 rfl) ?_
  refine md_callV (y := yX6_puts) hx hb hml hown hts hK hI hM (met_puts f_1 a i 2 (nI (gzC (a 1) i)) (by omega)) q1566 q1568 qs36 q1569 ndX6_puts rfl (by rw [hRf]; decide) (by rw [hRl]; decide) hl.1 rfl (Nat.le_of_ble_eq_true rfl) dX6_grazes_25 (fun H locs hM => ?_)
  have hM := hM.to (a' := va_up a 1 (upd (a 1) (58 + 14 * i + 2) (nI (gzC (a 1) i)))) rfl (rfl)
  refine lv_aload_n hx hb dX6_grazes_28 rfl (lv_at hl 1 rfl) ?_
  refine md_get (v := .ref (h 1)) hx hb hts hown hK hM 0 (by decide) q1390 rfl rfl dX6_grazes_29 ?_
  refine lv_bipush (v := nI 33) hx hb dX6_grazes_32 (by decide) ?_
  refine lv_iload_n hx hb dX6_grazes_34 rfl (lv_at hl 0 rfl) ?_
  refine w_iaddN hx hb dX6_grazes_35 ?_
  refine lv_aload_n hx hb dX6_grazes_36 rfl (lv_at hl 1 rfl) ?_
  refine md_get (v := .ref (h 1)) hx hb hts hown hK hM 0 (by decide) q1390 rfl rfl dX6_grazes_37 ?_
  refine lv_bipush (v := nI 33) hx hb dX6_grazes_40 (by decide) ?_
  refine lv_iload_n hx hb dX6_grazes_42 rfl (lv_at hl 0 rfl) ?_
  refine w_iaddN hx hb dX6_grazes_43 ?_
  refine md_iald hx hb hK hM 1 rfl (33 + (gzC (a 1) i)) ⟨by omega, by decide, rfl⟩ dX6_grazes_44 ?_
  refine w_top ((upd (a 1) (58 + 14 * i + 2) (nI (gzC (a 1) i))) (33 + (gzC (a 1) i))) (by rw [va_us]) ?_
  refine lv_aload_n hx hb dX6_grazes_45 rfl (lv_at hl 1 rfl) ?_
  refine lv_iload_n hx hb dX6_grazes_46 rfl (lv_at hl 2 rfl) ?_
  refine md_callI (y := yX6_eatsOf) hx hb hml hown hts hK hI hM (met_eatsOf f_1 (va_up a 1 (upd (a 1) (58 + 14 * i + 2) (nI (gzC (a 1) i)))) i (by omega)) q1578 q1580 qs38 q1581 ndX6_eatsOf rfl (by rw [hRf]; decide) (by rw [hRl]; decide) hl.1 rfl (Nat.le_of_ble_eq_true rfl) dX6_grazes_47 (fun H locs hM => ?_)
  refine w_top (eatF ((upd (a 1) (58 + 14 * i + 2) (nI (gzC (a 1) i))) (58 + 14 * i + 0)) ((upd (a 1) (58 + 14 * i + 2) (nI (gzC (a 1) i))) (58 + 14 * i + 1))) (by rw [va_us]) ?_
  refine lv_isub hx hb dX6_grazes_50 ?_
  refine lv_iconst (v := nI 0) hx hb dX6_grazes_51 (by decide) ?_
  refine lv_bipush (v := nI 99) hx hb dX6_grazes_52 (by decide) ?_
  refine st_callI (y := yX6_held) hx hb hml hown hts (met_held (((upd (a 1) (58 + 14 * i + 2) (nI (gzC (a 1) i))) (33 + (gzC (a 1) i))) - (eatF ((upd (a 1) (58 + 14 * i + 2) (nI (gzC (a 1) i))) (58 + 14 * i + 0)) ((upd (a 1) (58 + 14 * i + 2) (nI (gzC (a 1) i))) (58 + 14 * i + 1)))) (nI 0) (nI 99)) q1507 q1508 q70 q1509 ndX6_held rfl (by rw [hRf]; decide) (by rw [hRl]; decide) ⟨Nat.zero_le _, Nat.zero_le _⟩ hl.1 rfl (Nat.le_of_ble_eq_true rfl) dX6_grazes_54 ?_
  refine md_iast hx hb hK hI hM 1 rfl (33 + (gzC (a 1) i)) ⟨by omega, by decide, rfl⟩ rfl dX6_grazes_57 (fun H locs hM => ?_)
  have hM := hM.to (a' := va_up a 1 (upd (upd (a 1) (58 + 14 * i + 2) (nI (gzC (a 1) i))) (33 + (gzC (a 1) i)) (hel (((upd (a 1) (58 + 14 * i + 2) (nI (gzC (a 1) i))) (33 + (gzC (a 1) i))) - (eatF ((upd (a 1) (58 + 14 * i + 2) (nI (gzC (a 1) i))) (58 + 14 * i + 0)) ((upd (a 1) (58 + 14 * i + 2) (nI (gzC (a 1) i))) (58 + 14 * i + 1)))) (nI 0) (nI 99)))) rfl (va_uu a 1 _ _)
  have hM := hM.to (a' := va_up a 1 (gz2 (a 1) i)) rfl (rfl)
  refine lv_aload_n hx hb dX6_grazes_58 rfl (lv_at hl 1 rfl) ?_
  refine lv_iload_n hx hb dX6_grazes_59 rfl (lv_at hl 2 rfl) ?_
  refine lv_iconst (v := nI 3) hx hb dX6_grazes_60 (by decide) ?_
  refine md_callI (y := yX6_its) hx hb hml hown hts hK hI hM (met_its f_1 (va_up a 1 (gz2 (a 1) i)) i 3 (by omega)) q1557 q1559 qs35 q1560 ndX6_its rfl (by rw [hRf]; decide) (by rw [hRl]; decide) hl.1 rfl (Nat.le_of_ble_eq_true rfl) dX6_grazes_61 (fun H locs hM => ?_)
  refine w_top ((gz2 (a 1) i) (58 + 14 * i + 3)) (by rw [va_us]) ?_
  refine lv_iconst (v := nI 1) hx hb dX6_grazes_64 (by decide) ?_
  refine lv_iadd hx hb dX6_grazes_65 ?_
  refine lv_iconst (v := nI 1) hx hb dX6_grazes_66 (by decide) ?_
  refine lv_aload_n hx hb dX6_grazes_67 rfl (lv_at hl 1 rfl) ?_
  refine lv_iload_n hx hb dX6_grazes_68 rfl (lv_at hl 2 rfl) ?_
  refine md_callI (y := yX6_spanOf) hx hb hml hown hts hK hI hM (met_spanOf f_1 (va_up a 1 (gz2 (a 1) i)) i (by omega)) q1582 q1584 qs39 q1585 ndX6_spanOf rfl (by rw [hRf]; decide) (by rw [hRl]; decide) hl.1 rfl (Nat.le_of_ble_eq_true rfl) dX6_grazes_69 (fun H locs hM => ?_)
  refine w_top (spanF ((gz2 (a 1) i) (58 + 14 * i + 0)) ((gz2 (a 1) i) (58 + 14 * i + 1))) (by rw [va_us]) ?_
  refine st_callI (y := yX6_held) hx hb hml hown hts (met_held (((gz2 (a 1) i) (58 + 14 * i + 3)) + (nI 1)) (nI 1) (spanF ((gz2 (a 1) i) (58 + 14 * i + 0)) ((gz2 (a 1) i) (58 + 14 * i + 1)))) q1507 q1508 q70 q1509 ndX6_held rfl (by rw [hRf]; decide) (by rw [hRl]; decide) ⟨Nat.zero_le _, Nat.zero_le _⟩ hl.1 rfl (Nat.le_of_ble_eq_true rfl) dX6_grazes_72 ?_
  refine w_top (nI (gzN (a 1) i)) (hn3.1) ?_
  refine lv_istore_n (lv' := [(3, .int (nI (gzN (a 1) i))), (2, .int (nI (gzC (a 1) i))), (0, .ref (h 0)), (1, .int (nI i))]) hx hb dX6_grazes_75 rfl hl (by decide) rfl (fun ls hl => ?_)
  refine lv_iload_n hx hb dX6_grazes_76 rfl (lv_at hl 0 rfl) ?_
  refine lv_iconst (v := nI 1) hx hb dX6_grazes_77 (by decide) ?_
  refine w_isubN hx hb (by omega) dX6_grazes_78 ?_
  refine lv_istore (lv' := [(4, .int (nI ((gzN (a 1) i) - 1))), (3, .int (nI (gzN (a 1) i))), (2, .int (nI (gzC (a 1) i))), (0, .ref (h 0)), (1, .int (nI i))]) hx hb dX6_grazes_79 hl (by decide) rfl (fun ls hl => ?_)
  have loop81 : ∀ (fu : Nat) (k : Nat), (k < gzN (a 1) i) → (k < fu) → ∀ (f1 : Nat → Int32), fE f f1 → ∀ (H : Heap) (locs : List Loc), mdH D h dA s.heap H locs f1 (va_up a 1 (gz3 (gz2 (a 1) i) i (gzN (a 1) i) k)) → ∀ (ls : Array Slot), lv_has ls 5 [(4, .int (nI k)), (3, .int (nI (gzN (a 1) i))), (2, .int (nI (gzC (a 1) i))), (0, .ref (h 0)), (1, .int (nI i))] → W p l e R s m args below meth c H locs 0 0 Q (F0 m 81 ls []) := by
    intro fu
    induction fu with
    | zero =>
      intro k hk hn
      omega
    | succ fu ih81 =>
      intro k hk hn f81 he81 H locs hM ls hl
      refine lv_iload hx hb dX6_grazes_81 (lv_at hl 0 rfl) ?_
      refine w_if_leN (tgt := 112) hx hb (by omega) dX6_grazes_83 (by decide) (fun c_2 => ?_) (fun c_2 => ?_)
      · refine lv_aload_n hx hb dX6_grazes_112 rfl (lv_at hl 3 rfl) ?_
        refine lv_iload_n hx hb dX6_grazes_113 rfl (lv_at hl 4 rfl) ?_
        refine lv_iconst (v := nI 4) hx hb dX6_grazes_114 (by decide) ?_
        refine lv_iload_n hx hb dX6_grazes_115 rfl (lv_at hl 2 rfl) ?_
        refine md_callV (y := yX6_puts) hx hb hml hown hts hK hI hM (met_puts f81 (va_up a 1 (gz3 (gz2 (a 1) i) i (gzN (a 1) i) k)) i 4 (nI (gzC (a 1) i)) (by omega)) q1566 q1568 qs36 q1569 ndX6_puts rfl (by rw [hRf]; decide) (by rw [hRl]; decide) hl.1 rfl (Nat.le_of_ble_eq_true rfl) dX6_grazes_116 (fun H locs hM => ?_)
        have hM := hM.to (a' := va_up a 1 (upd (gz3 (gz2 (a 1) i) i (gzN (a 1) i) k) (58 + 14 * i + 4) (nI (gzC (a 1) i)))) rfl (va_uu a 1 _ _)
        refine lv_aload_n hx hb dX6_grazes_119 rfl (lv_at hl 3 rfl) ?_
        refine lv_iload_n hx hb dX6_grazes_120 rfl (lv_at hl 4 rfl) ?_
        refine lv_iconst (v := nI 3) hx hb dX6_grazes_121 (by decide) ?_
        refine lv_iload_n hx hb dX6_grazes_122 rfl (lv_at hl 1 rfl) ?_
        refine md_callV (y := yX6_puts) hx hb hml hown hts hK hI hM (met_puts f81 (va_up a 1 (upd (gz3 (gz2 (a 1) i) i (gzN (a 1) i) k) (58 + 14 * i + 4) (nI (gzC (a 1) i)))) i 3 (nI (gzN (a 1) i)) (by omega)) q1566 q1568 qs36 q1569 ndX6_puts rfl (by rw [hRf]; decide) (by rw [hRl]; decide) hl.1 rfl (Nat.le_of_ble_eq_true rfl) dX6_grazes_123 (fun H locs hM => ?_)
        have hM := hM.to (a' := va_up a 1 (upd (upd (gz3 (gz2 (a 1) i) i (gzN (a 1) i) k) (58 + 14 * i + 4) (nI (gzC (a 1) i))) (58 + 14 * i + 3) (nI (gzN (a 1) i)))) rfl (va_uu a 1 _ _)
        exact hret he81 (hM.to rfl (by rw [show k = 0 from c_2]; rfl)) dX6_grazes_126
      · refine lv_aload_n hx hb dX6_grazes_86 rfl (lv_at hl 3 rfl) ?_
        refine lv_iload_n hx hb dX6_grazes_87 rfl (lv_at hl 4 rfl) ?_
        refine lv_iconst (v := nI 4) hx hb dX6_grazes_88 (by decide) ?_
        refine lv_iload hx hb dX6_grazes_89 (lv_at hl 0 rfl) ?_
        refine w_iaddN hx hb dX6_grazes_91 ?_
        refine lv_aload_n hx hb dX6_grazes_92 rfl (lv_at hl 3 rfl) ?_
        refine lv_iload_n hx hb dX6_grazes_93 rfl (lv_at hl 4 rfl) ?_
        refine lv_iconst (v := nI 4) hx hb dX6_grazes_94 (by decide) ?_
        refine lv_iload hx hb dX6_grazes_95 (lv_at hl 0 rfl) ?_
        refine w_iaddN hx hb dX6_grazes_97 ?_
        refine lv_iconst (v := nI 1) hx hb dX6_grazes_98 (by decide) ?_
        refine w_isubN hx hb (by omega) dX6_grazes_99 ?_
        refine md_callI (y := yX6_its) hx hb hml hown hts hK hI hM (met_its f81 (va_up a 1 (gz3 (gz2 (a 1) i) i (gzN (a 1) i) k)) i ((4 + k) - 1) (by omega)) q1557 q1559 qs35 q1560 ndX6_its rfl (by rw [hRf]; decide) (by rw [hRl]; decide) hl.1 rfl (Nat.le_of_ble_eq_true rfl) dX6_grazes_100 (fun H locs hM => ?_)
        refine w_top ((gz3 (gz2 (a 1) i) i (gzN (a 1) i) k) (58 + 14 * i + ((4 + k) - 1))) (by rw [va_us]) ?_
        refine md_callV (y := yX6_puts) hx hb hml hown hts hK hI hM (met_puts f81 (va_up a 1 (gz3 (gz2 (a 1) i) i (gzN (a 1) i) k)) i (4 + k) ((gz3 (gz2 (a 1) i) i (gzN (a 1) i) k) (58 + 14 * i + ((4 + k) - 1))) (by omega)) q1566 q1568 qs36 q1569 ndX6_puts rfl (by rw [hRf]; decide) (by rw [hRl]; decide) hl.1 rfl (Nat.le_of_ble_eq_true rfl) dX6_grazes_103 (fun H locs hM => ?_)
        have hM := hM.to (a' := va_up a 1 (upd (gz3 (gz2 (a 1) i) i (gzN (a 1) i) k) (58 + 14 * i + (4 + k)) ((gz3 (gz2 (a 1) i) i (gzN (a 1) i) k) (58 + 14 * i + ((4 + k) - 1))))) rfl (va_uu a 1 _ _)
        refine lv_iinc (v := nI (k - 1)) (lv' := [(4, .int (nI (k - 1))), (3, .int (nI (gzN (a 1) i))), (2, .int (nI (gzC (a 1) i))), (0, .ref (h 0)), (1, .int (nI i))]) hx hb dX6_grazes_106 hl (k := 0) rfl (by exact sb_m1 c_2) (by decide) rfl (fun ls hl => ?_)
        refine lv_goto (tgt := 81) hx hb dX6_grazes_109 (by decide) ?_
        exact ih81 (k - 1) (by omega) (by omega) _ he81 _ _ (hM.to rfl (by rw [gz3_s c_2 hk])) ls (lv_sub hl [0, 1, 2, 3, 4] rfl)
  exact loop81 (gzN (a 1) i) (gzN (a 1) i - 1) (by omega) (by omega) _ ef_1 _ _ (hM.to rfl (by rw [← gz3_0])) ls (lv_sub hl [0, 1, 2, 3, 4] rfl)
theorem hel_ok (v : Int32) {n : Nat} (hn : n < 2 ^ 31) : okN (hel v (nI 0) (nI n)) n := by
  unfold hel
  split
  · exact okN_of (Nat.zero_le _) hn
  · split
    · exact okN_of (Nat.le_refl _) hn
    · rename_i h1 h2
      obtain ⟨k, hk, e⟩ := (in_nat hn).mp ⟨Int32.not_lt.mp h1, Int32.not_lt.mp h2⟩
      subst e
      exact okN_of hk hn
theorem gzR_out {r : Nat → Int32} {i x : Nat} (hi : i < 5) (hc : gzC r i < 25) (hn : gzN r i ≤ 10) (hx : x < 33 ∨ 128 ≤ x) : gzR r i x = r x := by
  unfold gzR
  rw [pk_un (by omega), pk_un (by omega)]
  unfold gz3
  rw [if_neg (by omega)]
  unfold gz2 gz1
  rw [pk_un (by omega), pk_un (by omega)]
theorem gzR_oth {r : Nat → Int32} {i i' j : Nat} (hi : i < 5) (hc : gzC r i < 25) (hn : gzN r i ≤ 10) (hx : i' ≠ i) (hj : j < 14) : gzR r i (58 + 14 * i' + j) = r (58 + 14 * i' + j) := by
  unfold gzR
  rw [pk_un (by omega), pk_un (by omega)]
  unfold gz3
  rw [if_neg (by omega)]
  unfold gz2 gz1
  rw [pk_un (by omega), pk_un (by omega)]
theorem gzR_gr {r : Nat → Int32} {i c : Nat} (hi : i < 5) (hc : gzC r i < 25) (hn : gzN r i ≤ 10) (h : c < 25) : gzR r i (33 + c) = gz2 r i (33 + c) := by
  unfold gzR
  rw [pk_un (by omega), pk_un (by omega)]
  unfold gz3
  rw [if_neg (by omega)]
theorem okR_gz {r : Nat → Int32} {i : Nat} (h : okR r) (hi : i < 5) : okR (gzR r i) := by
  obtain ⟨h1, h2, h3, h4, h5, h6, h7⟩ := h
  obtain ⟨c0, c1, c2, c3, c4⟩ := h6 i hi
  have hc : gzC r i < 25 := gzC_lt c2.2
  obtain ⟨n0, n1, n2⟩ := gzN_in hc c1 c3
  have ho : ∀ x, (x < 33 ∨ 128 ≤ x) → gzR r i x = r x := fun x hx => gzR_out hi hc n2 hx
  refine ⟨fun u hu => by rw [ho _ (by omega)]; exact h1 u hu, by rw [ho _ (by omega)]; exact h2, by rw [ho _ (by omega)]; exact h3, by rw [ho _ (by omega)]; exact h4, by rw [ho _ (by omega)]; exact h5, fun i' hi' => ?_, fun c hcc => ⟨?_, by rw [ho _ (by omega)]; exact (h7 c hcc).2⟩⟩
  · by_cases hii : i' = i
    · subst hii
      have g0 : ∀ j, j = 0 ∨ j = 1 → gzR r i' (58 + 14 * i' + j) = r (58 + 14 * i' + j) := by
        intro j hj
        unfold gzR
        rw [pk_un (by omega), pk_un (by omega)]
        unfold gz3
        rw [if_neg (by omega)]
        exact gz2_cow hc j (by omega)
      refine ⟨by rw [g0 0 (by omega)]; exact c0, by rw [g0 1 (by omega)]; exact c1, ?_, ?_, fun j hj => ?_⟩
      · have : gzR r i' (58 + 14 * i' + 2) = nI (gzC r i') := by
          unfold gzR
          rw [pk_un (by omega), pk_un (by omega)]
          unfold gz3
          rw [if_neg (by omega)]
          unfold gz2
          rw [pk_un (by omega)]
          unfold gz1
          rw [pk_us]
        rw [this]
        exact okN_of (by omega) (by omega)
      · have : gzR r i' (58 + 14 * i' + 3) = nI (gzN r i') := by
          unfold gzR
          rw [pk_us]
        rw [this]
        exact okN_of n2 (by omega)
      · unfold gzR
        rw [pk_un (by omega)]
        by_cases hj0 : j = 0
        · subst hj0
          rw [show 58 + 14 * i' + (4 + 0) = 58 + 14 * i' + 4 by omega, pk_us]
          exact okN_of (by omega) (by omega)
        · rw [pk_un (by omega)]
          unfold gz3
          split
          · rw [show 58 + 14 * i' + (4 + j) - 1 = 58 + 14 * i' + (4 + (j - 1)) by omega, gz2_cow hc _ (by omega)]
            exact c4 (j - 1) (by omega)
          · rw [gz2_cow hc _ (by omega)]
            exact c4 j hj
    · obtain ⟨e0, e1, e2, e3, e4⟩ := h6 i' hi'
      have g : ∀ j, j < 14 → gzR r i (58 + 14 * i' + j) = r (58 + 14 * i' + j) := fun j hj => gzR_oth hi hc n2 hii hj
      exact ⟨by rw [g 0 (by omega)]; exact e0, by rw [g 1 (by omega)]; exact e1, by rw [g 2 (by omega)]; exact e2, by rw [g 3 (by omega)]; exact e3, fun j hj => by rw [g (4 + j) (by omega)]; exact e4 j hj⟩
  · rw [gzR_gr hi hc n2 hcc]
    unfold gz2
    by_cases hce : c = gzC r i
    · subst hce
      rw [pk_us]
      exact hel_ok _ (by omega)
    · rw [pk_un (by omega)]
      unfold gz1
      rw [pk_un (by omega)]
      exact (h7 c hcc).1
/-- the first k cows' day -/
def gzI (r : Nat → Int32) : Nat → Nat → Int32
  | 0 => r
  | k + 1 => gzR (gzI r k) k
theorem okR_gzI {r : Nat → Int32} (h : okR r) : ∀ k, k ≤ 5 → okR (gzI r k) ∧ gzI r k 3 = r 3 := by
  intro k
  induction k with
  | zero => intro _; exact ⟨h, rfl⟩
  | succ k ih =>
    intro hk
    obtain ⟨g1, g2⟩ := ih (by omega)
    refine ⟨okR_gz g1 (by omega), ?_⟩
    obtain ⟨-, -, -, -, -, h6, -⟩ := g1
    obtain ⟨c0, c1, c2, c3, c4⟩ := h6 k (by omega)
    have hc : gzC (gzI r k) k < 25 := gzC_lt c2.2
    obtain ⟨n0, n1, n2⟩ := gzN_in hc c1 c3
    show gzR (gzI r k) k 3 = r 3
    rw [gzR_out (by omega) hc n2 (by omega), g2]
/-- the first k cells have grown -/
def grI (r : Nat → Int32) (k : Nat) : Nat → Int32 := fun x => if 33 ≤ x ∧ x < 33 + k then hel (r x + r 1) (nI 0) (nI 99) else r x
theorem grI_0 (r : Nat → Int32) : r = grI r 0 := by
  funext x; unfold grI; rw [if_neg (by omega)]
theorem grI_s (r : Nat → Int32) (k : Nat) : upd (grI r k) (33 + k) (hel (grI r k (33 + k) + grI r k 1) (nI 0) (nI 99)) = grI r (k + 1) := by
  funext x
  simp only [upd, grI]
  by_cases h : x = 33 + k
  · subst h
    rw [if_pos rfl, if_neg (by omega), if_neg (by omega), if_pos (by omega)]
  · rw [if_neg h]
    by_cases h2 : 33 ≤ x ∧ x < 33 + k
    · rw [if_pos h2, if_pos (by omega)]
    · rw [if_neg h2, if_neg (by omega)]
/-- a day -/
def dayR (r : Nat → Int32) : Nat → Int32 := upd (grI (gzI r (cl (r 3))) 25) 0 (grI (gzI r (cl (r 3))) 25 0 + nI 1)
def dayI (r : Nat → Int32) : Nat → Nat → Int32
  | 0 => r
  | k + 1 => dayR (dayI r k)
theorem okR_day {r : Nat → Int32} (h : okR r) : okR (dayR r) := by
  obtain ⟨⟨h1, h2, h3, h4, h5, h6, h7⟩, -⟩ := okR_gzI h (cl (r 3)) h.2.1.2
  have ho : ∀ x, x ≠ 0 → (x < 33 ∨ 58 ≤ x) → dayR r x = gzI r (cl (r 3)) x := by
    intro x h0 hx
    unfold dayR
    rw [pk_un h0]
    unfold grI
    rw [if_neg (by omega)]
  refine ⟨fun u hu => by rw [ho _ (by omega) (by omega)]; exact h1 u hu, by rw [ho _ (by omega) (by omega)]; exact h2, by rw [ho _ (by omega) (by omega)]; exact h3, by rw [ho _ (by omega) (by omega)]; exact h4, by rw [ho _ (by omega) (by omega)]; exact h5, fun i hi => ?_, fun c hc => ⟨?_, by rw [ho _ (by omega) (by omega)]; exact (h7 c hc).2⟩⟩
  · obtain ⟨c0, c1, c2, c3, c4⟩ := h6 i hi
    exact ⟨by rw [ho _ (by omega) (by omega)]; exact c0, by rw [ho _ (by omega) (by omega)]; exact c1, by rw [ho _ (by omega) (by omega)]; exact c2, by rw [ho _ (by omega) (by omega)]; exact c3, fun j hj => by rw [ho _ (by omega) (by omega)]; exact c4 j hj⟩
  · unfold dayR
    rw [pk_un (by omega)]
    unfold grI
    rw [if_pos (by omega)]
    exact hel_ok _ (by omega)
theorem okR_dayI {r : Nat → Int32} (h : okR r) : ∀ k, okR (dayI r k)
  | 0 => h
  | k + 1 => okR_day (okR_dayI h k)
def sumG (r : Nat → Int32) : Nat → Int32
  | 0 => nI 0
  | k + 1 => sumG r k + r (33 + k)
theorem va_self {α : Type} (a : Nat → α) (j : Nat) : a = va_up a j (a j) := by
  funext x
  simp only [va_up]
  split
  · rename_i h; rw [h]
  · rfl
theorem ndX6_oneDay : yX6_oneDay.cls = RX6 ∧ yX6_oneDay.cls ≠ "java/lang/invoke/MethodHandle" ∧ yX6_oneDay.cls ≠ "java/lang/invoke/VarHandle" ∧ (parseMethodDescriptor yX6_oneDay.desc).map (fun d => d.parameters.length) = some 0 := by decide +kernel
set_option maxHeartbeats 400000 in
theorem met_oneDay (f : Nat → Int32) (a : Nat → Nat → Int32) (hR : okR (a 1)) : MdX yX6_oneDay cX6_oneDay 2 none 45 1141 [] f a none (va_up a 1 (dayR (a 1))) := by
  refine MdX.ofV (by decide) rfl (Nat.le_of_ble_eq_true rfl) ?_
  intro p l e R s m args below meth c Q D h dA ls hx hb hml hRf hRl hts hown hK hI hM hl hret
  have hl : lv_has ls 2 [(0, .ref (h 0))] := hl
  have hc5 := hR.2.1.2
  refine lv_iconst (v := nI 0) hx hb dX6_oneDay_0 (by decide) ?_
  refine lv_istore_n (lv' := [(1, .int (nI 0)), (0, .ref (h 0))]) hx hb dX6_oneDay_1 rfl hl (by decide) rfl (fun ls hl => ?_)
  have loop2 : ∀ (fu : Nat) (k : Nat), (k ≤ cl (a 1 3)) → (cl (a 1 3) < k + fu) → ∀ (f1 : Nat → Int32), fE f f1 → ∀ (H : Heap) (locs : List Loc), mdH D h dA s.heap H locs f1 (va_up a 1 (gzI (a 1) k)) → ∀ (ls : Array Slot), lv_has ls 2 [(1, .int (nI k)), (0, .ref (h 0))] → W p l e R s m args below meth c H locs 0 0 Q (F0 m 2 ls []) := by
    intro fu
    induction fu with
    | zero =>
      intro k hk hn
      omega
    | succ fu ih2 =>
      intro k hk hn f2 he2 H locs hM ls hl
      have hk5 := okR_gzI hR k (by omega)
      have hkr := hk5.1
      refine lv_iload_n hx hb dX6_oneDay_2 rfl (lv_at hl 0 rfl) ?_
      refine lv_aload_n hx hb dX6_oneDay_3 rfl (lv_at hl 1 rfl) ?_
      refine md_get (v := .ref (h 1)) hx hb hts hown hK hM 0 (by decide) q1390 rfl rfl dX6_oneDay_4 ?_
      refine lv_iconst (v := nI 3) hx hb dX6_oneDay_7 (by decide) ?_
      refine md_iald hx hb hK hM 1 rfl 3 ⟨by omega, by decide, rfl⟩ dX6_oneDay_8 ?_
      refine w_top ((gzI (a 1) k) 3) (by rw [va_us]) ?_
      refine w_top (nI (cl (a 1 3))) (by rw [hk5.2]; exact hR.2.1.1) ?_
      refine w_icmp_geN (tgt := 23) hx hb (by omega) (by omega) dX6_oneDay_9 (by decide) (fun c_1 => ?_) (fun c_1 => ?_)
      · refine lv_iconst (v := nI 0) hx hb dX6_oneDay_23 (by decide) ?_
        refine lv_istore_n (lv' := [(1, .int (nI 0)), (0, .ref (h 0))]) hx hb dX6_oneDay_24 rfl hl (by decide) rfl (fun ls hl => ?_)
        have loop25 : ∀ (fu : Nat) (c2 : Nat), (c2 ≤ 25) → (25 < c2 + fu) → ∀ (f1 : Nat → Int32), fE f f1 → ∀ (H : Heap) (locs : List Loc), mdH D h dA s.heap H locs f1 (va_up a 1 (grI (gzI (a 1) (cl (a 1 3))) c2)) → ∀ (ls : Array Slot), lv_has ls 2 [(1, .int (nI c2)), (0, .ref (h 0))] → W p l e R s m args below meth c H locs 0 0 Q (F0 m 25 ls []) := by
          intro fu
          induction fu with
          | zero =>
            intro c2 hk2 hn2
            omega
          | succ fu ih25 =>
            intro c2 hk2 hn2 f25 he25 H locs hM ls hl
            refine lv_iload_n hx hb dX6_oneDay_25 rfl (lv_at hl 0 rfl) ?_
            refine lv_bipush (v := nI 25) hx hb dX6_oneDay_26 (by decide) ?_
            refine w_icmp_geN (tgt := 68) hx hb (by omega) (by omega) dX6_oneDay_28 (by decide) (fun c_2 => ?_) (fun c_2 => ?_)
            · refine lv_aload_n hx hb dX6_oneDay_68 rfl (lv_at hl 1 rfl) ?_
              refine md_get (v := .ref (h 1)) hx hb hts hown hK hM 0 (by decide) q1390 rfl rfl dX6_oneDay_69 ?_
              refine lv_iconst (v := nI 0) hx hb dX6_oneDay_72 (by decide) ?_
              refine lv_dup2_11 hx hb dX6_oneDay_73 rfl rfl ?_
              refine md_iald hx hb hK hM 1 rfl 0 ⟨by omega, by decide, rfl⟩ dX6_oneDay_74 ?_
              refine w_top ((grI (gzI (a 1) (cl (a 1 3))) c2) 0) (by rw [va_us]) ?_
              refine lv_iconst (v := nI 1) hx hb dX6_oneDay_75 (by decide) ?_
              refine lv_iadd hx hb dX6_oneDay_76 ?_
              refine md_iast hx hb hK hI hM 1 rfl 0 ⟨by omega, by decide, rfl⟩ rfl dX6_oneDay_77 (fun H locs hM => ?_)
              have hM := hM.to (a' := va_up a 1 (upd (grI (gzI (a 1) (cl (a 1 3))) c2) 0 (((grI (gzI (a 1) (cl (a 1 3))) c2) 0) + (nI 1)))) rfl (va_uu a 1 _ _)
              exact hret he25 (hM.to rfl (by rw [show c2 = 25 by omega]; rfl)) dX6_oneDay_78
            · refine lv_aload_n hx hb dX6_oneDay_31 rfl (lv_at hl 1 rfl) ?_
              refine md_get (v := .ref (h 1)) hx hb hts hown hK hM 0 (by decide) q1390 rfl rfl dX6_oneDay_32 ?_
              refine lv_bipush (v := nI 33) hx hb dX6_oneDay_35 (by decide) ?_
              refine lv_iload_n hx hb dX6_oneDay_37 rfl (lv_at hl 0 rfl) ?_
              refine w_iaddN hx hb dX6_oneDay_38 ?_
              refine lv_aload_n hx hb dX6_oneDay_39 rfl (lv_at hl 1 rfl) ?_
              refine md_get (v := .ref (h 1)) hx hb hts hown hK hM 0 (by decide) q1390 rfl rfl dX6_oneDay_40 ?_
              refine lv_bipush (v := nI 33) hx hb dX6_oneDay_43 (by decide) ?_
              refine lv_iload_n hx hb dX6_oneDay_45 rfl (lv_at hl 0 rfl) ?_
              refine w_iaddN hx hb dX6_oneDay_46 ?_
              refine md_iald hx hb hK hM 1 rfl (33 + c2) ⟨by omega, by decide, rfl⟩ dX6_oneDay_47 ?_
              refine w_top ((grI (gzI (a 1) (cl (a 1 3))) c2) (33 + c2)) (by rw [va_us]) ?_
              refine lv_aload_n hx hb dX6_oneDay_48 rfl (lv_at hl 1 rfl) ?_
              refine md_get (v := .ref (h 1)) hx hb hts hown hK hM 0 (by decide) q1390 rfl rfl dX6_oneDay_49 ?_
              refine lv_iconst (v := nI 1) hx hb dX6_oneDay_52 (by decide) ?_
              refine md_iald hx hb hK hM 1 rfl 1 ⟨by omega, by decide, rfl⟩ dX6_oneDay_53 ?_
              refine w_top ((grI (gzI (a 1) (cl (a 1 3))) c2) 1) (by rw [va_us]) ?_
              refine lv_iadd hx hb dX6_oneDay_54 ?_
              refine lv_iconst (v := nI 0) hx hb dX6_oneDay_55 (by decide) ?_
              refine lv_bipush (v := nI 99) hx hb dX6_oneDay_56 (by decide) ?_
              refine st_callI (y := yX6_held) hx hb hml hown hts (met_held (((grI (gzI (a 1) (cl (a 1 3))) c2) (33 + c2)) + ((grI (gzI (a 1) (cl (a 1 3))) c2) 1)) (nI 0) (nI 99)) q1507 q1508 q70 q1509 ndX6_held rfl (by rw [hRf]; decide) (by rw [hRl]; decide) ⟨Nat.zero_le _, Nat.zero_le _⟩ hl.1 rfl (Nat.le_of_ble_eq_true rfl) dX6_oneDay_58 ?_
              refine md_iast hx hb hK hI hM 1 rfl (33 + c2) ⟨by omega, by decide, rfl⟩ rfl dX6_oneDay_61 (fun H locs hM => ?_)
              have hM := hM.to (a' := va_up a 1 (upd (grI (gzI (a 1) (cl (a 1 3))) c2) (33 + c2) (hel (((grI (gzI (a 1) (cl (a 1 3))) c2) (33 + c2)) + ((grI (gzI (a 1) (cl (a 1 3))) c2) 1)) (nI 0) (nI 99)))) rfl (va_uu a 1 _ _)
              refine lv_iinc (v := nI (c2 + 1)) (lv' := [(1, .int (nI (c2 + 1))), (0, .ref (h 0))]) hx hb dX6_oneDay_62 hl (k := 0) rfl (by rw [show Int32.ofInt 1 = nI 1 from by decide]; exact nI_add _ _) (by decide) rfl (fun ls hl => ?_)
              refine lv_goto (tgt := 25) hx hb dX6_oneDay_65 (by decide) ?_
              exact ih25 (c2 + 1) (by omega) (by omega) _ he25 _ _ (hM.to rfl (by rw [grI_s])) ls (lv_sub hl [0, 1] rfl)
        exact loop25 26 0 (by omega) (by omega) _ he2 _ _ (hM.to rfl (by rw [show k = cl (a 1 3) by omega, ← grI_0])) ls (lv_sub hl [0, 1] rfl)
      · refine lv_aload_n hx hb dX6_oneDay_12 rfl (lv_at hl 1 rfl) ?_
        refine lv_iload_n hx hb dX6_oneDay_13 rfl (lv_at hl 0 rfl) ?_
        refine md_callXV (y := yX6_grazes) hx hb hml hown hts hK hI hM (met_grazes f2 (va_up a 1 (gzI (a 1) k)) k (by omega) hkr.1 (hkr.2.2.2.2.2.1 k (by omega)).2.1 (hkr.2.2.2.2.2.1 k (by omega)).2.2.1 (hkr.2.2.2.2.2.1 k (by omega)).2.2.2.1) q1656 q1658 qs46 q1659 ndX6_grazes rfl (by rw [hRf]; decide) (by rw [hRl]; decide) hl.1 rfl (Nat.le_of_ble_eq_true rfl) dX6_oneDay_14 (fun H locs f_3 hf_3 hM => ?_)
        have ef_3 : fE f f_3 := he2.tr hf_3
        have hM := hM.to (a' := va_up a 1 (gzI (a 1) (k + 1))) rfl (va_uu a 1 _ _)
        refine lv_iinc (v := nI (k + 1)) (lv' := [(1, .int (nI (k + 1))), (0, .ref (h 0))]) hx hb dX6_oneDay_17 hl (k := 0) rfl (by rw [show Int32.ofInt 1 = nI 1 from by decide]; exact nI_add _ _) (by decide) rfl (fun ls hl => ?_)
        refine lv_goto (tgt := 2) hx hb dX6_oneDay_20 (by decide) ?_
        exact ih2 (k + 1) (by omega) (by omega) _ ef_3 _ _ hM ls (lv_sub hl [0, 1] rfl)
  exact loop2 (cl (a 1 3) + 1) 0 (by omega) (by omega) _ fE.rf _ _ (hM.to rfl (va_self a 1)) ls (lv_sub hl [0, 1] rfl)
theorem ndX6_passes : yX6_passes.cls = RX6 ∧ yX6_passes.cls ≠ "java/lang/invoke/MethodHandle" ∧ yX6_passes.cls ≠ "java/lang/invoke/VarHandle" ∧ (parseMethodDescriptor yX6_passes.desc).map (fun d => d.parameters.length) = some 1 := by decide +kernel
set_option maxHeartbeats 400000 in
theorem met_passes (f : Nat → Int32) (a : Nat → Nat → Int32) (n : Nat) (hnb : n < 2 ^ 31) (hR : okR (a 1)) : MdX yX6_passes cX6_passes 3 none 46 1162 [.int (nI n)] f a none (va_up a 1 (dayI (a 1) n)) := by
  refine MdX.ofV (by decide) rfl (Nat.le_of_ble_eq_true rfl) ?_
  intro p l e R s m args below meth c Q D h dA ls hx hb hml hRf hRl hts hown hK hI hM hl hret
  have hl : lv_has ls 3 [(0, .ref (h 0)), (1, .int (nI n))] := hl
  refine lv_iconst (v := nI 0) hx hb dX6_passes_0 (by decide) ?_
  refine lv_istore_n (lv' := [(2, .int (nI 0)), (0, .ref (h 0)), (1, .int (nI n))]) hx hb dX6_passes_1 rfl hl (by decide) rfl (fun ls hl => ?_)
  have loop2 : ∀ (fu : Nat) (k : Nat), (k ≤ n) → (n < k + fu) → ∀ (f1 : Nat → Int32), fE f f1 → ∀ (H : Heap) (locs : List Loc), mdH D h dA s.heap H locs f1 (va_up a 1 (dayI (a 1) k)) → ∀ (ls : Array Slot), lv_has ls 3 [(2, .int (nI k)), (0, .ref (h 0)), (1, .int (nI n))] → W p l e R s m args below meth c H locs 0 0 Q (F0 m 2 ls []) := by
    intro fu
    induction fu with
    | zero =>
      intro k hk hn
      omega
    | succ fu ih2 =>
      intro k hk hn f2 he2 H locs hM ls hl
      refine lv_iload_n hx hb dX6_passes_2 rfl (lv_at hl 0 rfl) ?_
      refine lv_iload_n hx hb dX6_passes_3 rfl (lv_at hl 2 rfl) ?_
      refine w_icmp_geN (tgt := 17) hx hb (by omega) (by omega) dX6_passes_4 (by decide) (fun c_1 => ?_) (fun c_1 => ?_)
      · exact hret he2 (hM.to rfl (by rw [show k = n by omega])) dX6_passes_17
      · refine lv_aload_n hx hb dX6_passes_7 rfl (lv_at hl 1 rfl) ?_
        refine md_callXV (y := yX6_oneDay) hx hb hml hown hts hK hI hM (met_oneDay f2 (va_up a 1 (dayI (a 1) k)) (okR_dayI hR k)) q1652 q1654 qs45 q1655 ndX6_oneDay rfl (by rw [hRf]; decide) (by rw [hRl]; decide) hl.1 rfl (Nat.le_of_ble_eq_true rfl) dX6_passes_8 (fun H locs f_2 hf_2 hM => ?_)
        have ef_2 : fE f f_2 := he2.tr hf_2
        have hM := hM.to (a' := va_up a 1 (dayI (a 1) (k + 1))) rfl (va_uu a 1 _ _)
        refine lv_iinc (v := nI (k + 1)) (lv' := [(2, .int (nI (k + 1))), (0, .ref (h 0)), (1, .int (nI n))]) hx hb dX6_passes_11 hl (k := 0) rfl (by rw [show Int32.ofInt 1 = nI 1 from by decide]; exact nI_add _ _) (by decide) rfl (fun ls hl => ?_)
        refine lv_goto (tgt := 2) hx hb dX6_passes_14 (by decide) ?_
        exact ih2 (k + 1) (by omega) (by omega) _ ef_2 _ _ hM ls (lv_sub hl [0, 1, 2] rfl)
  exact loop2 (n + 1) 0 (by omega) (by omega) _ fE.rf _ _ (hM.to rfl (va_self a 1)) ls (lv_sub hl [0, 1, 2] rfl)
theorem ndX6_grassOfAll : yX6_grassOfAll.cls = RX6 ∧ yX6_grassOfAll.cls ≠ "java/lang/invoke/MethodHandle" ∧ yX6_grassOfAll.cls ≠ "java/lang/invoke/VarHandle" ∧ (parseMethodDescriptor yX6_grassOfAll.desc).map (fun d => d.parameters.length) = some 0 := by decide +kernel
set_option maxHeartbeats 400000 in
theorem met_grassOfAll (f : Nat → Int32) (a : Nat → Nat → Int32) : MdF yX6_grassOfAll cX6_grassOfAll 3 (some .int) 0 0 [] f a (some (.int (sumG (a 1) 25))) f a := by
  refine MdF.ofI (by decide) rfl (Nat.le_of_ble_eq_true rfl) ?_
  intro p l e R s m args below meth c Q D h dA ls hx hb hml hRf hRl hts hown hK hI hM hl hret
  have hl : lv_has ls 3 [(0, .ref (h 0))] := hl
  refine lv_iconst (v := nI 0) hx hb dX6_grassOfAll_0 (by decide) ?_
  refine lv_istore_n (lv' := [(1, .int (nI 0)), (0, .ref (h 0))]) hx hb dX6_grassOfAll_1 rfl hl (by decide) rfl (fun ls hl => ?_)
  refine lv_iconst (v := nI 0) hx hb dX6_grassOfAll_2 (by decide) ?_
  refine lv_istore_n (lv' := [(2, .int (nI 0)), (1, .int (nI 0)), (0, .ref (h 0))]) hx hb dX6_grassOfAll_3 rfl hl (by decide) rfl (fun ls hl => ?_)
  have loop4 : ∀ (fu : Nat) (k : Nat), (k ≤ 25) → (25 < k + fu) → ∀ (H : Heap) (locs : List Loc), mdH D h dA s.heap H locs f a → ∀ (ls : Array Slot), lv_has ls 3 [(2, .int (nI k)), (1, .int (sumG (a 1) k)), (0, .ref (h 0))] → W p l e R s m args below meth c H locs 0 0 Q (F0 m 4 ls []) := by
    intro fu
    induction fu with
    | zero =>
      intro k hk hn
      omega
    | succ fu ih4 =>
      intro k hk hn H locs hM ls hl
      refine lv_iload_n hx hb dX6_grassOfAll_4 rfl (lv_at hl 0 rfl) ?_
      refine lv_bipush (v := nI 25) hx hb dX6_grassOfAll_5 (by decide) ?_
      refine w_icmp_geN (tgt := 28) hx hb (by omega) (by omega) dX6_grassOfAll_7 (by decide) (fun c_1 => ?_) (fun c_1 => ?_)
      · refine lv_iload_n hx hb dX6_grassOfAll_28 rfl (lv_at hl 1 rfl) ?_
        exact hret hM (by rw [show k = 25 by omega]) dX6_grassOfAll_29
      · refine lv_iload_n hx hb dX6_grassOfAll_10 rfl (lv_at hl 1 rfl) ?_
        refine lv_aload_n hx hb dX6_grassOfAll_11 rfl (lv_at hl 2 rfl) ?_
        refine md_get (v := .ref (h 1)) hx hb hts hown hK hM 0 (by decide) q1390 rfl rfl dX6_grassOfAll_12 ?_
        refine lv_bipush (v := nI 33) hx hb dX6_grassOfAll_15 (by decide) ?_
        refine lv_iload_n hx hb dX6_grassOfAll_17 rfl (lv_at hl 0 rfl) ?_
        refine w_iaddN hx hb dX6_grassOfAll_18 ?_
        refine md_iald hx hb hK hM 1 rfl (33 + k) ⟨by omega, by decide, rfl⟩ dX6_grassOfAll_19 ?_
        refine lv_iadd hx hb dX6_grassOfAll_20 ?_
        refine lv_istore_n (lv' := [(1, .int ((sumG (a 1) k) + (a 1 (33 + k)))), (2, .int (nI k)), (0, .ref (h 0))]) hx hb dX6_grassOfAll_21 rfl hl (by decide) rfl (fun ls hl => ?_)
        refine lv_iinc (v := nI (k + 1)) (lv' := [(2, .int (nI (k + 1))), (1, .int ((sumG (a 1) k) + (a 1 (33 + k)))), (0, .ref (h 0))]) hx hb dX6_grassOfAll_22 hl (k := 1) rfl (by rw [show Int32.ofInt 1 = nI 1 from by decide]; exact nI_add _ _) (by decide) rfl (fun ls hl => ?_)
        refine lv_goto (tgt := 4) hx hb dX6_grassOfAll_25 (by decide) ?_
        exact ih4 (k + 1) (by omega) (by omega) _ _ hM ls (lv_sub hl [0, 1, 2] rfl)
  exact loop4 26 0 (by omega) (by omega) _ _ hM ls (lv_sub hl [0, 1, 2] rfl)
