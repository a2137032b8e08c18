/-! walked (printed by comp28.py) -/
set_option maxRecDepth 100000
/-- the walks on from a cell's neighbours, as naturals -/
def wsN (E : Nat → Int32) (c w : Nat) : Nat := match nxt c w with
  | none => 0
  | some d => cl (E d)
def wqN (E : Nat → Int32) (c : Nat) : Nat → Nat
  | 0 => 0
  | w + 1 => wqN E c w + wsN E c w
def okE (E : Nat → Int32) : Prop := ∀ c, c < 25 → okN (E c) 999999
theorem wsN_n {E : Nat → Int32} {c w : Nat} (h : nxt c w = none) : 0 = wsN E c w := by unfold wsN; rw [h]
theorem wsN_y {E : Nat → Int32} {c w d : Nat} (h : nxt c w = some d) : cl (E d) = wsN E c w := by unfold wsN; rw [h]
theorem wsN_le {E : Nat → Int32} (hE : okE E) {c w : Nat} (hc : c < 25) : wsN E c w ≤ 999999 := by
  unfold wsN
  cases h : nxt c w with
  | none => exact Nat.zero_le _
  | some d => exact (hE d (nxt_lt hc h)).2
theorem wqN_le {E : Nat → Int32} (hE : okE E) {c : Nat} (hc : c < 25) : ∀ w, wqN E c w ≤ w * 999999
  | 0 => by simp [wqN]
  | w + 1 => by
    have := wqN_le hE hc w
    have := wsN_le hE hc (w := w)
    rw [wqN]; omega
theorem wqS_N {E : Nat → Int32} (hE : okE E) {c : Nat} (hc : c < 25) : ∀ w, wqS E c w = nI (wqN E c w)
  | 0 => rfl
  | w + 1 => by
    rw [wqS, wqN, wqS_N hE hc w]
    have e : wsT E c w = nI (wsN E c w) := by
      unfold wsT wsN
      cases h : nxt c w with
      | none => rfl
      | some d => exact (hE d (nxt_lt hc h)).1
    rw [e]
    exact nI_add _ _
theorem l64_of {x : Int32} {n : Nat} (h : okN x n) (hn : n < 2 ^ 31) : x.toInt64 = Int64.ofNat (cl x) := by
  apply Int64.toInt_inj.mp
  have h2 := h.2
  rw [Int32.toInt_toInt64, Int64.toInt_ofNat_of_lt (by omega)]
  rw [show x.toInt = (nI (cl x)).toInt from congrArg Int32.toInt h.1, nI_toInt (by omega)]
theorem l64_min {n : Nat} (hn : n < 2 ^ 31) : (if Int64.ofNat n < 999999 then Int64.ofNat n else (999999 : Int64)).toInt32 = nI (min n 999999) := by
  have e9 : (999999 : Int64).toInt = 999999 := rfl
  have e : Int64.ofNat n < 999999 ↔ n < 999999 := by
    rw [Int64.lt_iff_toInt_lt, Int64.toInt_ofNat_of_lt (by omega), e9]; omega
  by_cases h : n < 999999
  · rw [if_pos (e.mpr h), Nat.min_eq_left (by omega)]
    exact Int64.toInt32_ofNat' ..
  · rw [if_neg (fun q => h (e.mp q)), Nat.min_eq_right (by omega)]; rfl
theorem fwW_N {r E : Nat → Int32} {m : Int32} (hE : okE E) {c : Nat} (hc : c < 25) : fwW r m 1 E c = nI (min (if r (8 + c) = m then wqN E c 5 else 0) 999999) := by
  unfold fwW fwA
  have := wqN_le hE hc 5
  by_cases h : r (8 + c) = m
  · rw [if_pos h, if_pos h, if_neg (by decide), wqS_N hE hc, hel_nat (by omega) (by omega) (by omega), Nat.zero_max]
  · rw [if_neg h, if_neg h]; rfl
theorem fwW_q {r E : Nat → Int32} {m : Int32} {q : Nat} (hq : 1 ≤ q) : fwW r m q E = fwW r m 1 E := by
  funext c
  unfold fwW fwA
  rw [if_neg (show ¬ q = 0 by omega), if_neg (show ¬ 1 = 0 by omega)]
theorem fwW_ok {r E : Nat → Int32} {m : Int32} {q : Nat} : okE (fwW r m q E) := by
  intro c hc
  unfold fwW
  by_cases h : r (8 + c) = m
  · rw [if_pos h]; exact hel_ok _ (by decide)
  · rw [if_neg h]; exact ⟨rfl, Nat.zero_le _⟩
theorem wd_ok (E : Nat → Int32) : ∀ c, okN (wdS E c).1 999999
  | 0 => ⟨rfl, Nat.zero_le _⟩
  | c + 1 => hel_ok _ (by decide)
theorem min_hel9 {g w : Int32} (hg : okN g 999999) (hw : okN w 999999) : (if g + w < nI 999999 then g + w else nI 999999) = hel (g + w) (nI 0) (nI 999999) := by
  have h1 := hg.2
  have h2 := hw.2
  rw [hg.1, hw.1, nI_add, hel_nat (by omega) (by omega) (by omega)]
  by_cases h : nI (cl g + cl w) < nI 999999
  · have h3 := (nI_ltN (by omega) (by omega)).mp h
    rw [if_pos h, Nat.zero_max, Nat.min_eq_left (by omega)]
  · have h3 : ¬ cl g + cl w < 999999 := fun z => h ((nI_ltN (by omega) (by omega)).mpr z)
    rw [if_neg h, Nat.zero_max, Nat.min_eq_right (by omega)]
set_option maxHeartbeats 400000 in
theorem ca_walksBack (D : va_G) (dA : Nat → ClassId) (h : Nat → Nat) (f : Nat → Int32) (a : Nat → Nat → Int32) (fc : Int32) (wk : Nat → Nat → Int32) (hd : Nat → Option Nat) (ri rt : Nat → Int32) (cw tx : Nat → Nat → Option Nat) (nm : Nat → Nat → Int32) (hI : cmI h) (hN : cl (a 1 3) ≤ 5 ∧ cl (ri 3) ≤ 5 ∧ cl (rt 3) ≤ 5) (hZ : cmZ (a 1) ri cw) (B : Nat → Prop) (hB : ∀ q, B q → ¬ cmA h q) (m0 : Int32) (T E : Nat → Int32) (hE : okE E) : Cg D dA (cmA h) yX0_walksBack cX0_walksBack 7 none 1 40 0 0 (.ref (h 0) :: [.int m0]) (fun H => va_P D cmCl (cmWs h dA f a fc (va_up (va_up wk 11 (T)) 10 (E)) hd ri rt cw tx nm) H ∧ cmPl D h B (a 1) ri rt cw tx H) (fun v' H => v' = none ∧ ∃ nm', va_P D cmCl (cmWs h dA f a fc (va_up (va_up wk 11 (E)) 10 (fwW (a 1) m0 1 E)) hd ri rt cw tx nm') H) := by
  refine Cg.ofV (by decide) (own := RX0) rfl (Nat.le_of_ble_eq_true rfl) ?_
  intro p l e R s m args below meth c Q ls hx hb hml hRf hRl hRc hRs hin hts hown hK hP hl hret
  obtain ⟨hP, hQ⟩ := hP
  have hM : cmH D h dA s.heap s.heap [] f a fc (va_up (va_up wk 11 (T)) 10 (E)) hd ri rt cw tx nm := cmH.of hI hP va_S.rf
  have hl : lv_has ls 7 [(0, .ref (h 0)), (1, .int m0)] := hl
  refine lv_aload_n hx hb dX0_walksBack_0 rfl (lv_at hl 0 rfl) ?_
  refine c_get (v := .ref (h 10)) hx hb hts in_X0 hown hK (hM.1 0 _ rfl) rfl 8 (by decide) q294 rfl rfl dX0_walksBack_1 ?_
  refine lv_iconst (v := nI 0) hx hb dX0_walksBack_4 (by decide) ?_
  refine lv_aload_n hx hb dX0_walksBack_5 rfl (lv_at hl 0 rfl) ?_
  refine c_get (v := .ref (h 11)) hx hb hts in_X0 hown hK (hM.1 0 _ rfl) rfl 9 (by decide) q295 rfl rfl dX0_walksBack_6 ?_
  refine lv_iconst (v := nI 0) hx hb dX0_walksBack_9 (by decide) ?_
  refine lv_bipush (v := nI 25) hx hb dX0_walksBack_10 (by decide) ?_
  refine cm_copy_10_11 hx hb hml hown hts hK hI q1056 hM (by rw [hRf]; decide) (by rw [hRl]; decide) hl.1 (Nat.le_of_ble_eq_true rfl) dX0_walksBack_12 (fun H locs hM => ?_)
  refine lv_iconst (v := nI 0) hx hb dX0_walksBack_15 (by decide) ?_
  refine lv_istore_n (lv' := [(2, .int (nI 0)), (0, .ref (h 0)), (1, .int m0)]) hx hb dX0_walksBack_16 rfl hl (by decide) rfl (fun ls hl => ?_)
  have loop17 : ∀ (fu : Nat) (c2 : Nat), (c2 ≤ 25) → (25 < c2 + fu) → ∀ (nm : Nat → Nat → Int32) (H : Heap) (locs : List Loc), cmH D h dA s.heap H locs f a fc (va_up (va_up wk 11 (E)) 10 (cpk (fwW (a 1) m0 1 E) E c2)) hd ri rt cw tx nm → ∀ (ls : Array Slot), lv_has ls 7 [(2, .int (nI c2)), (0, .ref (h 0)), (1, .int m0)] → W p l e R s m args below meth c H locs 0 0 Q (F0 m 17 ls []) := by
    intro fu
    induction fu with
    | zero =>
      intro c2 hc2 hf
      omega
    | succ fu ih17 =>
      intro c2 hc2 hf nm H locs hM ls hl
      refine lv_iload_n hx hb dX0_walksBack_17 rfl (lv_at hl 0 rfl) ?_
      refine lv_bipush (v := nI 25) hx hb dX0_walksBack_18 (by decide) ?_
      refine w_icmp_geN (tgt := 102) hx hb (by omega) (by omega) dX0_walksBack_20 (by decide) (fun c_1 => ?_) (fun c_1 => ?_)
      · exact hret ⟨rfl, _, (hM.wkc (wk' := va_up (va_up wk 11 (E)) 10 (fwW (a 1) m0 1 E)) hI (wk_full1 (by omega))).1⟩ hM.2.2 dX0_walksBack_102
      · refine lv_lconst (v := (0 : Int64)) hx hb dX0_walksBack_23 (by decide) ?_
        refine lv_lstore_n (lv' := [(3, .long (0 : Int64)), (2, .int (nI c2)), (0, .ref (h 0)), (1, .int m0)]) hx hb dX0_walksBack_24 rfl hl (by decide) rfl (fun ls hl => ?_)
        refine lv_iconst (v := nI 0) hx hb dX0_walksBack_25 (by decide) ?_
        refine lv_istore (lv' := [(5, .int (nI 0)), (3, .long (0 : Int64)), (2, .int (nI c2)), (0, .ref (h 0)), (1, .int m0)]) hx hb dX0_walksBack_26 hl (by decide) rfl (fun ls hl => ?_)
        have loop28 : ∀ (fu : Nat) (w : Nat), (w ≤ 5) → (5 < w + fu) → (w = 0 ∨ a 1 (8 + c2) = m0) → ∀ (nm : Nat → Nat → Int32) (H : Heap) (locs : List Loc), cmH D h dA s.heap H locs f a fc (va_up (va_up wk 11 (E)) 10 (cpk (fwW (a 1) m0 1 E) E c2)) hd ri rt cw tx nm → ∀ (ls : Array Slot), lv_has ls 7 [(5, .int (nI w)), (3, .long (Int64.ofNat (wqN E c2 w))), (2, .int (nI c2)), (0, .ref (h 0)), (1, .int m0)] → W p l e R s m args below meth c H locs 0 0 Q (F0 m 28 ls []) := by
          intro fu
          induction fu with
          | zero =>
            intro w hw hf2 hm
            omega
          | succ fu ih28 =>
            intro w hw hf2 hm nm H locs hM ls hl
            refine lv_iload hx hb dX0_walksBack_28 (lv_at hl 0 rfl) ?_
            refine lv_iconst (v := nI 5) hx hb dX0_walksBack_30 (by decide) ?_
            have j82 : (wqN E c2 w = if a 1 (8 + c2) = m0 then wqN E c2 5 else 0) → ∀ (nm : Nat → Nat → Int32) (H : Heap) (locs : List Loc), cmH D h dA s.heap H locs f a fc (va_up (va_up wk 11 (E)) 10 (cpk (fwW (a 1) m0 1 E) E c2)) hd ri rt cw tx nm → ∀ (ls : Array Slot), lv_has ls 7 [(3, .long (Int64.ofNat (wqN E c2 w))), (2, .int (nI c2)), (0, .ref (h 0)), (1, .int m0)] → W p l e R s m args below meth c H locs 0 0 Q (F0 m 82 ls []) := by
              intro  hA nm H locs hM ls hl
              refine lv_aload_n hx hb dX0_walksBack_82 rfl (lv_at hl 2 rfl) ?_
              refine c_get (v := .ref (h 10)) hx hb hts in_X0 hown hK (hM.1 0 _ rfl) rfl 8 (by decide) q294 rfl rfl dX0_walksBack_83 ?_
              refine lv_iload_n hx hb dX0_walksBack_86 rfl (lv_at hl 1 rfl) ?_
              refine lv_ldc2 hx hb hown (hts _ q1057) dX0_walksBack_87 ?_
              refine lv_lload_n hx hb dX0_walksBack_90 rfl (lv_at hl 0 rfl) ?_
              refine va_mmin_long hx hb (hml.trans hl.1.symm) hown (hts _ q1058) (hts _ q1059) (hts _ q73) (hts _ q1060) (by rw [hRf]; decide) (by rw [hRl]; exact Nat.le_of_ble_eq_true rfl) (Nat.zero_le _) (Nat.zero_le _) dX0_walksBack_91 ?_
              refine lv_l2i (v := (if Int64.ofNat (wqN E c2 w) < (999999 : Int64) then Int64.ofNat (wqN E c2 w) else (999999 : Int64)).toInt32) hx hb dX0_walksBack_94 rfl ?_
              refine w_top ((fwW (a 1) m0 1 E) c2) (by rw [fwW_N hE (by omega), ← hA]; exact l64_min (by have := wqN_le hE (show c2 < 25 by omega) w; omega)) ?_
              refine cm_ast_wk10 hx hb hK hI hM c2 ⟨by omega, rfl⟩ dX0_walksBack_95 (fun H locs hM => ?_)
              refine lv_iinc (v := nI (c2 + 1)) (lv' := [(2, .int (nI (c2 + 1))), (3, .long (Int64.ofNat (wqN E c2 w))), (0, .ref (h 0)), (1, .int m0)]) hx hb dX0_walksBack_96 hl (k := 1) rfl (by rw [show Int32.ofInt 1 = nI 1 from by decide]; exact nI_add _ _) (by decide) rfl (fun ls hl => ?_)
              refine lv_goto (tgt := 17) hx hb dX0_walksBack_99 (by decide) ?_
              exact ih17 (c2 + 1) (by omega) (by omega) _ _ _ (hM.wkt (by rw [va_uu, va_us, cpk_u])) ls (lv_sub hl [0, 2, 3] rfl)
            refine w_icmp_geN (tgt := 82) hx hb (by omega) (by omega) dX0_walksBack_31 (by decide) (fun c_2 => ?_) (fun c_2 => ?_)
            · exact j82  (by rw [show w = 5 by omega, if_pos (hm.resolve_left (by omega))]) _ _ _ hM ls (lv_sub hl [1, 2, 3, 4] rfl)
            · refine lv_aload_n hx hb dX0_walksBack_34 rfl (lv_at hl 3 rfl) ?_
              refine c_get (v := .ref (hm0 h 0)) hx hb hts in_X0 hown hK (hM.1 0 _ rfl) rfl 1 (by decide) q287 rfl rfl dX0_walksBack_35 ?_
              have nq := hK.F 3 rfl
              refine c_getN (v := .ref (hm0 h 1)) hx hb hts in_X2 hown hK ((cm_parts hM.1).2.1 0 _ rfl) rfl 0 (by decide) nq rfl rfl dX0_walksBack_38 ?_
              refine lv_iload_n hx hb dX0_walksBack_41 rfl (lv_at hl 2 rfl) ?_
              refine c_iald hx hb hK ((cm_parts hM.1).2.1 1 _ rfl) c2 ⟨by omega, by decide, rfl⟩ dX0_walksBack_42 ?_
              refine w_top (a 1 (8 + c2)) (rfl) ?_
              refine w_top (a 1 (8 + c2)) (rfl) ?_
              refine lv_iload_n hx hb dX0_walksBack_43 rfl (lv_at hl 4 rfl) ?_
              refine lv_icmp_ne (tgt := 82) hx hb dX0_walksBack_44 (by decide) (fun c_3 => ?_) (fun c_3 => ?_)
              · exact j82  (by rw [if_neg c_3, hm.resolve_right c_3]; rfl) _ _ _ hM ls (lv_sub hl [1, 2, 3, 4] rfl)
              · refine lv_iload_n hx hb dX0_walksBack_47 rfl (lv_at hl 2 rfl) ?_
                refine lv_iload hx hb dX0_walksBack_48 (lv_at hl 0 rfl) ?_
                refine st_callS (y := yX2_next) hx hb hml hown hts (cmX2_next c2 w (by omega) (by omega)) q1011 q587 q66 q588 ndX2_next rfl (by rw [hRf]; decide) (by rw [hRl]; decide) (Nat.zero_le _) (Nat.zero_le _) hl.1 rfl (Nat.le_of_ble_eq_true rfl) dX0_walksBack_50 ?_
                refine lv_istore (lv' := [(6, .int (oI (nxt c2 w))), (5, .int (nI w)), (3, .long (Int64.ofNat (wqN E c2 w))), (2, .int (nI c2)), (0, .ref (h 0)), (1, .int m0)]) hx hb dX0_walksBack_53 hl (by decide) rfl (fun ls hl => ?_)
                refine lv_lload_n hx hb dX0_walksBack_55 rfl (lv_at hl 2 rfl) ?_
                refine lv_iload hx hb dX0_walksBack_56 (lv_at hl 0 rfl) ?_
                refine lv_iconst (v := (-1 : Int32)) hx hb dX0_walksBack_58 (by decide) ?_
                have j74 : ∀ (nm : Nat → Nat → Int32) (H : Heap) (locs : List Loc), cmH D h dA s.heap H locs f a fc (va_up (va_up wk 11 (E)) 10 (cpk (fwW (a 1) m0 1 E) E c2)) hd ri rt cw tx nm → ∀ (ls : Array Slot), lv_has ls 7 [(5, .int (nI w)), (3, .long (Int64.ofNat (wqN E c2 w))), (2, .int (nI c2)), (0, .ref (h 0)), (1, .int m0)] → W p l e R s m args below meth c H locs 0 0 Q (F0 m 74 ls [.long (Int64.ofNat (wsN E c2 w)), .long (Int64.ofNat (wqN E c2 w))]) := by
                  intro   nm H locs hM ls hl
                  refine lv_ladd hx hb dX0_walksBack_74 ?_
                  refine w_topV (.long (Int64.ofNat (wqN E c2 (w + 1)))) (congrArg Value.long (Int64.ofNat_add _ _).symm) ?_
                  refine lv_lstore_n (lv' := [(3, .long (Int64.ofNat (wqN E c2 (w + 1)))), (5, .int (nI w)), (2, .int (nI c2)), (0, .ref (h 0)), (1, .int m0)]) hx hb dX0_walksBack_75 rfl hl (by decide) rfl (fun ls hl => ?_)
                  refine lv_iinc (v := nI (w + 1)) (lv' := [(5, .int (nI (w + 1))), (3, .long (Int64.ofNat (wqN E c2 (w + 1)))), (2, .int (nI c2)), (0, .ref (h 0)), (1, .int m0)]) hx hb dX0_walksBack_76 hl (k := 1) rfl (by rw [show Int32.ofInt 1 = nI 1 from by decide]; exact nI_add _ _) (by decide) rfl (fun ls hl => ?_)
                  refine lv_goto (tgt := 28) hx hb dX0_walksBack_79 (by decide) ?_
                  exact ih28 (w + 1) (by omega) (by omega) (Or.inr c_3) _ _ _ hM ls (lv_sub hl [0, 1, 2, 3, 4] rfl)
                refine lv_icmp_ne (tgt := 66) hx hb dX0_walksBack_59 (by decide) (fun c_4 => ?_) (fun c_4 => ?_)
                · obtain ⟨d, hd1, hd2⟩ := oI_ne c_4
                  have hd3 := nxt_lt (by omega) hd1
                  refine lv_aload_n hx hb dX0_walksBack_66 rfl (lv_at hl 4 rfl) ?_
                  refine c_get (v := .ref (h 11)) hx hb hts in_X0 hown hK (hM.1 0 _ rfl) rfl 9 (by decide) q295 rfl rfl dX0_walksBack_67 ?_
                  refine lv_iload hx hb dX0_walksBack_70 (lv_at hl 0 rfl) ?_
                  refine c_iald hx hb hK (hM.1 11 _ rfl) d ⟨by omega, by decide, hd2⟩ dX0_walksBack_72 ?_
                  refine w_top (E d) (rfl) ?_
                  refine lv_i2l (v := (E d).toInt64) hx hb dX0_walksBack_73 rfl ?_
                  refine w_topV (.long (Int64.ofNat (wsN E c2 w))) (by rw [l64_of (hE d hd3) (by decide), wsN_y hd1]) ?_
                  exact j74   _ _ _ hM ls (lv_sub hl [1, 2, 3, 4, 5] rfl)
                · refine lv_lconst (v := (0 : Int64)) hx hb dX0_walksBack_62 (by decide) ?_
                  refine w_topV (.long (Int64.ofNat (wsN E c2 w))) (congrArg (fun z => Value.long (Int64.ofNat z)) (wsN_n (oI_neg (by rw [c_4]; decide) (fun z hz => by have := nxt_lt (by omega) hz; omega)))) ?_
                  refine lv_goto (tgt := 74) hx hb dX0_walksBack_63 (by decide) ?_
                  exact j74   _ _ _ hM ls (lv_sub hl [1, 2, 3, 4, 5] rfl)
        exact loop28 6 0 (by omega) (by omega) (Or.inl rfl) _ _ _ hM ls (lv_sub hl [0, 1, 2, 3, 4] rfl)
  exact loop17 26 0 (by omega) (by omega) _ _ _ (hM.wkt (by rw [cpk_z]; show va_up (va_up (va_up wk 11 T) 10 E) 11 E = _; exact va_c2 _ (by decide) _ _ _)) ls (lv_sub hl [0, 1, 2] rfl)
theorem ndX0_walksBack : yX0_walksBack.cls = RX0 ∧ yX0_walksBack.cls ≠ "java/lang/invoke/MethodHandle" ∧ yX0_walksBack.cls ≠ "java/lang/invoke/VarHandle" ∧ (parseMethodDescriptor yX0_walksBack.desc).map (fun d => d.parameters.length) = some 1 := by decide +kernel

set_option maxHeartbeats 400000 in
theorem ca_walked_ok0 (f : Nat → Int32) (a : Nat → Nat → Int32) (sh : Nat) (hs : sh < 4) (hb00 : ¬ a 6 sh = 0) (hz1 : 1 ≤ cl (a 7 sh)) : CmF yX0_walked cX0_walked 8 [(0, 207, 208, 8)] 3 81 [.int (nI sh), .int (nI 0)] f a ((wdS (fwE (a 1) (fun j => a 8 (40 * sh + j)) (cl (a 7 sh)) (a 10) (cl (a 7 sh))) 25).1) f (va_up (va_up a 10 (fwE (a 1) (fun j => a 8 (40 * sh + j)) (cl (a 7 sh)) (a 10) (cl (a 7 sh)))) 11 (fwE (a 1) (fun j => a 8 (40 * sh + j)) (cl (a 7 sh)) (a 10) (cl (a 7 sh)))) := by
  refine CmF.ofI (by decide) rfl (Nat.le_of_ble_eq_true rfl) ?_
  intro p l e R s m args below meth c Q D dA h fc wk hd ri rt cw tx nm B S ls hx hb hml hRf hRl hRc hRs htab hts hown hK hI hB hS0 hQ hN hIm hZ hSh hM hl hret hret0
  have hl : lv_has ls 8 [(0, .ref (h 0)), (1, .int (nI sh)), (2, .int (nI 0))] := hl
  have hs0 := hs
  have hSh2 := hSh
  obtain ⟨ya, hinj, hall⟩ := hSh2
  obtain ⟨x0, wi0, hwi0, hxd0, hxA0, hyA0, hb60, hz70, hX0, hY0⟩ := (hall sh hs0).resolve_left (fun q => hb00 q.1)
  have hz720 := hz70.2
  refine lv_aload_n hx hb dX0_walked_0 rfl (lv_at hl 0 rfl) ?_
  refine lv_iload_n hx hb dX0_walked_1 rfl (lv_at hl 1 rfl) ?_
  refine st_callS (y := yX0_isSheet) hx hb hml hown hts (cmX0_isSheet (nI sh)) q1020 q1021 q61 q1022 ndX0_isSheet rfl (by rw [hRf]; decide) (by rw [hRl]; decide) (Nat.zero_le _) (Nat.zero_le _) hl.1 rfl (Nat.le_of_ble_eq_true rfl) dX0_walked_2 ?_
  refine w_if_eqT (tgt := 21) hx hb dX0_walked_5 (by decide) (fun c_1 => ?_) (fun c_1 => ?_)
  · exact absurd (by first | exact (in_nat (by decide)).mpr ⟨_, by omega, rfl⟩ | exact (in_nat1 _ (by decide) (by decide)).mpr ⟨_, by omega, by omega, rfl⟩ | exact cow_in hN0 (by omega) | assumption) c_1
  · refine lv_iload_n hx hb dX0_walked_8 rfl (lv_at hl 2 rfl) ?_
    refine lv_iconst (v := nI 0) hx hb dX0_walked_9 (by decide) ?_
    refine lv_iconst (v := nI 1) hx hb dX0_walked_10 (by decide) ?_
    refine st_callS (y := yX0_in) hx hb hml hown hts (cmX0_in (nI 0) (nI 0) (nI 1)) q330 q331 q61 q332 ndX0_in rfl (by rw [hRf]; decide) (by rw [hRl]; decide) (Nat.zero_le _) (Nat.zero_le _) hl.1 rfl (Nat.le_of_ble_eq_true rfl) dX0_walked_11 ?_
    refine w_if_eqT (tgt := 21) hx hb dX0_walked_14 (by decide) (fun c_2 => ?_) (fun c_2 => ?_)
    · exact absurd (by first | exact (in_nat (by decide)).mpr ⟨_, by omega, rfl⟩ | exact (in_nat1 _ (by decide) (by decide)).mpr ⟨_, by omega, by omega, rfl⟩ | exact cow_in hN0 (by omega) | assumption) c_2
    · refine lv_iconst (v := nI 1) hx hb dX0_walked_17 (by decide) ?_
      refine lv_goto (tgt := 22) hx hb dX0_walked_18 (by decide) ?_
      refine lv_iconst (v := nI 1) hx hb dX0_walked_22 (by decide) ?_
      refine cm_n1 hx hb hml hown hts hK hI hM htab (hpc := 208) rfl q333 (by rw [hRf]; decide) (by rw [hRl]; decide) (Nat.zero_le _) (Nat.zero_le _) hl.1 (Nat.le_of_ble_eq_true rfl) dX0_walked_23 (fun locs hM => ?_)
      refine lv_aload_n hx hb dX0_walked_26 rfl (lv_at hl 0 rfl) ?_
      refine lv_iload_n hx hb dX0_walked_27 rfl (lv_at hl 1 rfl) ?_
      refine cg_callV (y := yX0_sheetAt) (b := h 0) (C := RX0) (As := [.int (nI sh)]) hx hb hml hown hts hK hM.2.2 (ca_sheetAt_ok D dA h _ _ _ _ _ _ _ _ _ _ hI sh x0 wi0 hs0 hxd0 (hS0 _ hxA0) hwi0 _) ⟨hM.1, hX0.kept (hM.2.2.2.1 x0 hX0.lt (hS0 _ hxA0))⟩ (fun q hq => hq) (cAt.recv hK (hM.1 0 _ rfl) rfl) q1023 q1025 qs18 q61 q1026 ndX0_sheetAt rfl (by rw [hRf]; decide) (by rw [hRl]; decide) (Nat.zero_le _) (Nat.zero_le _) hl.1 rfl (Nat.le_of_ble_eq_true rfl) dX0_walked_28 ?_
      rintro _ H locs ⟨rfl, hP1⟩ hz1 hk1 hS1
      have hM := cmH.of hI hP1 hS1
      refine lv_astore_n (lv' := [(3, .ref x0), (0, .ref (h 0)), (1, .int (nI sh)), (2, .int (nI 0))]) hx hb dX0_walked_31 rfl hl (by decide) rfl (fun ls hl => ?_)
      refine lv_aload_n hx hb dX0_walked_32 rfl (lv_at hl 1 rfl) ?_
      refine lv_aload_n hx hb dX0_walked_33 rfl (lv_at hl 0 rfl) ?_
      refine sv_size hx hb hml hown hts hK q1028 wi0 hwi0 x0 (ya sh) (cl (a 7 sh)) (fun k => a 8 (40 * sh + k)) (hX0.kept (hM.2.2.2.1 x0 hX0.lt (hS0 _ hxA0))) (hY0.kept (hM.2.2.2.1 _ hY0.lt (hS0 _ hyA0))) (by rw [hRf]; decide) (by rw [hRl]; decide) (Nat.zero_le _) (Nat.zero_le _) hl.1 (Nat.le_of_ble_eq_true rfl) dX0_walked_34 ?_
      refine w_if_leN (tgt := 44) hx hb (by omega) dX0_walked_37 (by decide) (fun c_3 => ?_) (fun c_3 => ?_)
      · exact absurd c_3 (by omega)
      · refine lv_iconst (v := nI 1) hx hb dX0_walked_40 (by decide) ?_
        refine lv_goto (tgt := 45) hx hb dX0_walked_41 (by decide) ?_
        refine lv_iconst (v := nI 2) hx hb dX0_walked_45 (by decide) ?_
        refine cm_n1 hx hb hml hown hts hK hI hM htab (hpc := 208) rfl q333 (by rw [hRf]; decide) (by rw [hRl]; decide) (Nat.zero_le _) (Nat.zero_le _) hl.1 (Nat.le_of_ble_eq_true rfl) dX0_walked_46 (fun locs hM => ?_)
        refine lv_aload_n hx hb dX0_walked_49 rfl (lv_at hl 0 rfl) ?_
        refine lv_aload_n hx hb dX0_walked_50 rfl (lv_at hl 0 rfl) ?_
        refine sv_size hx hb hml hown hts hK q1028 wi0 hwi0 x0 (ya sh) (cl (a 7 sh)) (fun k => a 8 (40 * sh + k)) (hX0.kept (hM.2.2.2.1 x0 hX0.lt (hS0 _ hxA0))) (hY0.kept (hM.2.2.2.1 _ hY0.lt (hS0 _ hyA0))) (by rw [hRf]; decide) (by rw [hRl]; decide) (Nat.zero_le _) (Nat.zero_le _) hl.1 (Nat.le_of_ble_eq_true rfl) dX0_walked_51 ?_
        refine lv_iconst (v := nI 1) hx hb dX0_walked_54 (by decide) ?_
        refine w_isubN hx hb (by omega) dX0_walked_55 ?_
        refine sv_get hx hb hml hown hts hK q1040 wi0 hwi0 x0 (ya sh) (cl (a 7 sh)) (fun k => a 8 (40 * sh + k)) ((cl (a 7 sh)) - 1) (by omega) (hX0.kept (hM.2.2.2.1 x0 hX0.lt (hS0 _ hxA0))) (hY0.kept (hM.2.2.2.1 _ hY0.lt (hS0 _ hyA0))) (by rw [hRf]; decide) (by rw [hRl]; decide) (Nat.zero_le _) (Nat.zero_le _) hl.1 (Nat.le_of_ble_eq_true rfl) dX0_walked_56 ?_
        refine w_top (a 8 (40 * sh + ((cl (a 7 sh)) - 1))) rfl ?_
        refine lv_istore (lv' := [(4, .int (a 8 (40 * sh + ((cl (a 7 sh)) - 1)))), (3, .ref x0), (0, .ref (h 0)), (1, .int (nI sh)), (2, .int (nI 0))]) hx hb dX0_walked_59 hl (by decide) rfl (fun ls hl => ?_)
        refine lv_iconst (v := nI 0) hx hb dX0_walked_61 (by decide) ?_
        refine lv_istore (lv' := [(5, .int (nI 0)), (4, .int (a 8 (40 * sh + ((cl (a 7 sh)) - 1)))), (3, .ref x0), (0, .ref (h 0)), (1, .int (nI sh)), (2, .int (nI 0))]) hx hb dX0_walked_62 hl (by decide) rfl (fun ls hl => ?_)
        have loop64 : ∀ (fu : Nat) (c2 : Nat), (c2 ≤ 25) → (25 < c2 + fu) → ∀ (nm : Nat → Nat → Int32) (H : Heap) (locs : List Loc), cmH D h dA s.heap H locs f a fc (va_up wk 10 (cpk (fwE (a 1) (fun j => a 8 (40 * sh + j)) (cl (a 7 sh)) (a 10) 1) (wk 10) c2)) hd ri rt cw tx nm → ∀ (ls : Array Slot), lv_has ls 8 [(5, .int (nI c2)), (4, .int (a 8 (40 * sh + (cl (a 7 sh) - 1)))), (3, .ref x0), (0, .ref (h 0)), (1, .int (nI sh)), (2, .int (nI 0))] → W p l e R s m args below meth c H locs 0 0 Q (F0 m 64 ls []) := by
          intro fu
          induction fu with
          | zero =>
            intro c2 hc2 hf
            omega
          | succ fu ih64 =>
            intro c2 hc2 hf nm H locs hM ls hl
            refine lv_iload hx hb dX0_walked_64 (lv_at hl 0 rfl) ?_
            refine lv_bipush (v := nI 25) hx hb dX0_walked_66 (by decide) ?_
            refine w_icmp_geN (tgt := 104) hx hb (by omega) (by omega) dX0_walked_68 (by decide) (fun c_4 => ?_) (fun c_4 => ?_)
            · have j133 : ∀ (T : Nat → Int32), ∀ (nm : Nat → Nat → Int32) (H : Heap) (locs : List Loc), cmH D h dA s.heap H locs f a fc (va_up (va_up wk 11 (T)) 10 (fwE (a 1) (fun j => a 8 (40 * sh + j)) (cl (a 7 sh)) (a 10) (cl (a 7 sh)))) hd ri rt cw tx nm → ∀ (ls : Array Slot), lv_has ls 8 [(3, .ref x0), (0, .ref (h 0)), (1, .int (nI sh)), (2, .int (nI 0))] → W p l e R s m args below meth c H locs 0 0 Q (F0 m 133 ls []) := by
                intro T  nm H locs hM ls hl
                refine lv_iconst (v := nI 0) hx hb dX0_walked_133 (by decide) ?_
                refine lv_istore (lv' := [(5, .int (nI 0)), (3, .ref x0), (0, .ref (h 0)), (1, .int (nI sh)), (2, .int (nI 0))]) hx hb dX0_walked_134 hl (by decide) rfl (fun ls hl => ?_)
                have hEN : okE (fwE (a 1) (fun j => a 8 (40 * sh + j)) (cl (a 7 sh)) (a 10) (cl (a 7 sh))) := by
                  rw [show cl (a 7 sh) = (cl (a 7 sh) - 1) + 1 by omega, fwE]; exact fwW_ok
                refine lv_iconst (v := nI 0) hx hb dX0_walked_136 (by decide) ?_
                refine lv_istore (lv' := [(6, .int (nI 0)), (5, .int (nI 0)), (3, .ref x0), (0, .ref (h 0)), (1, .int (nI sh)), (2, .int (nI 0))]) hx hb dX0_walked_137 hl (by decide) rfl (fun ls hl => ?_)
                refine lv_iconst (v := nI 0) hx hb dX0_walked_139 (by decide) ?_
                refine lv_istore (lv' := [(7, .int (nI 0)), (6, .int (nI 0)), (5, .int (nI 0)), (3, .ref x0), (0, .ref (h 0)), (1, .int (nI sh)), (2, .int (nI 0))]) hx hb dX0_walked_140 hl (by decide) rfl (fun ls hl => ?_)
                have loop142 : ∀ (fu : Nat) (c2 : Nat), (c2 ≤ 25) → (25 < c2 + fu) → ∀ (nm : Nat → Nat → Int32) (H : Heap) (locs : List Loc), cmH D h dA s.heap H locs f a fc (va_up (va_up wk 11 (T)) 10 (fwE (a 1) (fun j => a 8 (40 * sh + j)) (cl (a 7 sh)) (a 10) (cl (a 7 sh)))) hd ri rt cw tx nm → ∀ (ls : Array Slot), lv_has ls 8 [(7, .int (nI c2)), (6, .int ((wdS (fwE (a 1) (fun j => a 8 (40 * sh + j)) (cl (a 7 sh)) (a 10) (cl (a 7 sh))) c2).1)), (5, .int ((wdS (fwE (a 1) (fun j => a 8 (40 * sh + j)) (cl (a 7 sh)) (a 10) (cl (a 7 sh))) c2).2)), (3, .ref x0), (0, .ref (h 0)), (1, .int (nI sh)), (2, .int (nI 0))] → W p l e R s m args below meth c H locs 0 0 Q (F0 m 142 ls []) := by
                  intro fu
                  induction fu with
                  | zero =>
                    intro c2 hc2 hf
                    omega
                  | succ fu ih142 =>
                    intro c2 hc2 hf nm H locs hM ls hl
                    refine lv_iload hx hb dX0_walked_142 (lv_at hl 0 rfl) ?_
                    refine lv_bipush (v := nI 25) hx hb dX0_walked_144 (by decide) ?_
                    refine w_icmp_geN (tgt := 196) hx hb (by omega) (by omega) dX0_walked_146 (by decide) (fun c_5 => ?_) (fun c_5 => ?_)
                    · refine lv_iload_n hx hb dX0_walked_196 rfl (lv_at hl 6 rfl) ?_
                      refine lv_if_ne (tgt := 205) hx hb dX0_walked_197 (by decide) (fun q => absurd q (by decide)) (fun _ => ?_)
                      refine lv_iload hx hb dX0_walked_200 (lv_at hl 1 rfl) ?_
                      refine lv_goto (tgt := 207) hx hb dX0_walked_202 (by decide) ?_
                      exact hret0 (hM.cg (a' := va_up (va_up a 10 (fwE (a 1) (fun j => a 8 (40 * sh + j)) (cl (a 7 sh)) (a 10) (cl (a 7 sh)))) 11 (fwE (a 1) (fun j => a 8 (40 * sh + j)) (cl (a 7 sh)) (a 10) (cl (a 7 sh)))) (f' := f) rfl rfl rfl rfl rfl) (mwEq.rf) rfl rfl ⟨rfl, rfl, rfl⟩ (by rw [show c2 = 25 by omega]) dX0_walked_207
                    · refine lv_iload hx hb dX0_walked_149 (lv_at hl 2 rfl) ?_
                      refine lv_aload_n hx hb dX0_walked_151 rfl (lv_at hl 4 rfl) ?_
                      refine c_get (v := .ref (h 10)) hx hb hts in_X0 hown hK (hM.1 0 _ rfl) rfl 8 (by decide) q294 rfl rfl dX0_walked_152 ?_
                      refine lv_iload hx hb dX0_walked_155 (lv_at hl 0 rfl) ?_
                      refine c_iald hx hb hK (hM.1 10 _ rfl) c2 ⟨by omega, by decide, rfl⟩ dX0_walked_157 ?_
                      refine w_top ((fwE (a 1) (fun j => a 8 (40 * sh + j)) (cl (a 7 sh)) (a 10) (cl (a 7 sh))) c2) (rfl) ?_
                      have j169 : ∀ (nm : Nat → Nat → Int32) (H : Heap) (locs : List Loc), cmH D h dA s.heap H locs f a fc (va_up (va_up wk 11 (T)) 10 (fwE (a 1) (fun j => a 8 (40 * sh + j)) (cl (a 7 sh)) (a 10) (cl (a 7 sh)))) hd ri rt cw tx nm → ∀ (ls : Array Slot), lv_has ls 8 [(7, .int (nI c2)), (6, .int ((wdS (fwE (a 1) (fun j => a 8 (40 * sh + j)) (cl (a 7 sh)) (a 10) (cl (a 7 sh))) c2).1)), (5, .int ((wdS (fwE (a 1) (fun j => a 8 (40 * sh + j)) (cl (a 7 sh)) (a 10) (cl (a 7 sh))) c2).2)), (3, .ref x0), (0, .ref (h 0)), (1, .int (nI sh)), (2, .int (nI 0))] → W p l e R s m args below meth c H locs 0 0 Q (F0 m 169 ls [.int (if (fwE (a 1) (fun j => a 8 (40 * sh + j)) (cl (a 7 sh)) (a 10) (cl (a 7 sh))) c2 ≤ 0 then nI 0 else nI 1 <<< (nI c2 &&& 31)), .int ((wdS (fwE (a 1) (fun j => a 8 (40 * sh + j)) (cl (a 7 sh)) (a 10) (cl (a 7 sh))) c2).2)]) := by
                        intro   nm H locs hM ls hl
                        refine lv_ior hx hb dX0_walked_169 ?_
                        refine w_top ((wdS (fwE (a 1) (fun j => a 8 (40 * sh + j)) (cl (a 7 sh)) (a 10) (cl (a 7 sh))) (c2 + 1)).2) (rfl) ?_
                        refine lv_istore (lv' := [(5, .int ((wdS (fwE (a 1) (fun j => a 8 (40 * sh + j)) (cl (a 7 sh)) (a 10) (cl (a 7 sh))) (c2 + 1)).2)), (7, .int (nI c2)), (6, .int ((wdS (fwE (a 1) (fun j => a 8 (40 * sh + j)) (cl (a 7 sh)) (a 10) (cl (a 7 sh))) c2).1)), (3, .ref x0), (0, .ref (h 0)), (1, .int (nI sh)), (2, .int (nI 0))]) hx hb dX0_walked_170 hl (by decide) rfl (fun ls hl => ?_)
                        refine lv_ldcw hx hb hown (hts _ q1061) dX0_walked_172 ?_
                        refine w_top (nI 999999) (by decide) ?_
                        refine lv_iload hx hb dX0_walked_175 (lv_at hl 2 rfl) ?_
                        refine lv_aload_n hx hb dX0_walked_177 rfl (lv_at hl 4 rfl) ?_
                        refine c_get (v := .ref (h 10)) hx hb hts in_X0 hown hK (hM.1 0 _ rfl) rfl 8 (by decide) q294 rfl rfl dX0_walked_178 ?_
                        refine lv_iload hx hb dX0_walked_181 (lv_at hl 1 rfl) ?_
                        refine c_iald hx hb hK (hM.1 10 _ rfl) c2 ⟨by omega, by decide, rfl⟩ dX0_walked_183 ?_
                        refine w_top ((fwE (a 1) (fun j => a 8 (40 * sh + j)) (cl (a 7 sh)) (a 10) (cl (a 7 sh))) c2) (rfl) ?_
                        refine lv_iadd hx hb dX0_walked_184 ?_
                        refine va_mmin hx hb (hml.trans hl.1.symm) hown (hts _ q1062) (hts _ q386) (hts _ q73) (hts _ q387) (by rw [hRf]; decide) (by rw [hRl]; exact Nat.le_of_ble_eq_true rfl) (Nat.zero_le _) (Nat.zero_le _) dX0_walked_185 ?_
                        refine w_top ((wdS (fwE (a 1) (fun j => a 8 (40 * sh + j)) (cl (a 7 sh)) (a 10) (cl (a 7 sh))) (c2 + 1)).1) (min_hel9 (wd_ok _ c2) (hEN c2 (by omega))) ?_
                        refine lv_istore (lv' := [(6, .int ((wdS (fwE (a 1) (fun j => a 8 (40 * sh + j)) (cl (a 7 sh)) (a 10) (cl (a 7 sh))) (c2 + 1)).1)), (5, .int ((wdS (fwE (a 1) (fun j => a 8 (40 * sh + j)) (cl (a 7 sh)) (a 10) (cl (a 7 sh))) (c2 + 1)).2)), (7, .int (nI c2)), (3, .ref x0), (0, .ref (h 0)), (1, .int (nI sh)), (2, .int (nI 0))]) hx hb dX0_walked_188 hl (by decide) rfl (fun ls hl => ?_)
                        refine lv_iinc (v := nI (c2 + 1)) (lv' := [(7, .int (nI (c2 + 1))), (6, .int ((wdS (fwE (a 1) (fun j => a 8 (40 * sh + j)) (cl (a 7 sh)) (a 10) (cl (a 7 sh))) (c2 + 1)).1)), (5, .int ((wdS (fwE (a 1) (fun j => a 8 (40 * sh + j)) (cl (a 7 sh)) (a 10) (cl (a 7 sh))) (c2 + 1)).2)), (3, .ref x0), (0, .ref (h 0)), (1, .int (nI sh)), (2, .int (nI 0))]) hx hb dX0_walked_190 hl (k := 2) rfl (by rw [show Int32.ofInt 1 = nI 1 from by decide]; exact nI_add _ _) (by decide) rfl (fun ls hl => ?_)
                        refine lv_goto (tgt := 142) hx hb dX0_walked_193 (by decide) ?_
                        exact ih142 (c2 + 1) (by omega) (by omega) _ _ _ hM ls (lv_sub hl [0, 1, 2, 3, 4, 5, 6] rfl)
                      refine lv_if_le (tgt := 168) hx hb dX0_walked_158 (by decide) (fun c_7 => ?_) (fun c_7 => ?_)
                      · refine lv_iconst (v := nI 0) hx hb dX0_walked_168 (by decide) ?_
                        refine w_top (if (fwE (a 1) (fun j => a 8 (40 * sh + j)) (cl (a 7 sh)) (a 10) (cl (a 7 sh))) c2 ≤ 0 then nI 0 else nI 1 <<< (nI c2 &&& 31)) ((if_pos c_7).symm) ?_
                        exact j169   _ _ _ hM ls (lv_sub hl [0, 1, 2, 3, 4, 5, 6] rfl)
                      · refine lv_iconst (v := nI 1) hx hb dX0_walked_161 (by decide) ?_
                        refine lv_iload hx hb dX0_walked_162 (lv_at hl 0 rfl) ?_
                        refine lv_ishl hx hb dX0_walked_164 ?_
                        refine lv_goto (tgt := 169) hx hb dX0_walked_165 (by decide) ?_
                        refine w_top (if (fwE (a 1) (fun j => a 8 (40 * sh + j)) (cl (a 7 sh)) (a 10) (cl (a 7 sh))) c2 ≤ 0 then nI 0 else nI 1 <<< (nI c2 &&& 31)) ((if_neg c_7).symm) ?_
                        exact j169   _ _ _ hM ls (lv_sub hl [0, 1, 2, 3, 4, 5, 6] rfl)
                exact loop142 26 0 (by omega) (by omega) _ _ _ hM ls (lv_sub hl [0, 1, 2, 3, 4, 5, 6] rfl)
              have hM := hM.wkc (wk' := va_up wk 10 (fwE (a 1) (fun j => a 8 (40 * sh + j)) (cl (a 7 sh)) (a 10) 1)) hI (wk_full1 (by omega))
              refine lv_aload_n hx hb dX0_walked_104 rfl (lv_at hl 2 rfl) ?_
              refine sv_size hx hb hml hown hts hK q1028 wi0 hwi0 x0 (ya sh) (cl (a 7 sh)) (fun k => a 8 (40 * sh + k)) (hX0.kept (hM.2.2.2.1 x0 hX0.lt (hS0 _ hxA0))) (hY0.kept (hM.2.2.2.1 _ hY0.lt (hS0 _ hyA0))) (by rw [hRf]; decide) (by rw [hRl]; decide) (Nat.zero_le _) (Nat.zero_le _) hl.1 (Nat.le_of_ble_eq_true rfl) dX0_walked_105 ?_
              refine lv_iconst (v := nI 2) hx hb dX0_walked_108 (by decide) ?_
              by_cases hn1 : cl (a 7 sh) = 1
              · refine lv_isub hx hb dX0_walked_109 ?_
                refine w_top (-1 : Int32) (by rw [hn1]; decide) ?_
                refine lv_istore (lv' := [(5, .int (-1 : Int32)), (4, .int (a 8 (40 * sh + (cl (a 7 sh) - 1)))), (3, .ref x0), (0, .ref (h 0)), (1, .int (nI sh)), (2, .int (nI 0))]) hx hb dX0_walked_110 hl (by decide) rfl (fun ls hl => ?_)
                refine lv_iload hx hb dX0_walked_112 (lv_at hl 0 rfl) ?_
                refine lv_if_lt (tgt := 133) hx hb dX0_walked_114 (by decide) (fun c_8 => ?_) (fun c_8 => ?_)
                · exact j133 _  _ _ _ (hM.wkt (wk' := va_up (va_up wk 11 (wk 11)) 10 (fwE (a 1) (fun j => a 8 (40 * sh + j)) (cl (a 7 sh)) (a 10) (cl (a 7 sh)))) (by rw [va_uself, show cl (a 7 sh) = 1 from hn1])) ls (lv_sub hl [2, 3, 4, 5] rfl)
                · exact absurd (by decide) c_8
              · refine w_isubN hx hb (by omega) dX0_walked_109 ?_
                refine w_top (nI (cl (a 7 sh) - 1 - 1)) (by rw [show cl (a 7 sh) - 2 = cl (a 7 sh) - 1 - 1 by omega]) ?_
                refine lv_istore (lv' := [(5, .int (nI (cl (a 7 sh) - 1 - 1))), (4, .int (a 8 (40 * sh + (cl (a 7 sh) - 1)))), (3, .ref x0), (0, .ref (h 0)), (1, .int (nI sh)), (2, .int (nI 0))]) hx hb dX0_walked_110 hl (by decide) rfl (fun ls hl => ?_)
                have loop112 : ∀ (fu : Nat) (q : Nat) (T : Nat → Int32), (1 ≤ q) → (q < cl (a 7 sh)) → (cl (a 7 sh) ≤ q + fu) → ∀ (nm : Nat → Nat → Int32) (H : Heap) (locs : List Loc), cmH D h dA s.heap H locs f a fc (va_up (va_up wk 11 (T)) 10 (fwE (a 1) (fun j => a 8 (40 * sh + j)) (cl (a 7 sh)) (a 10) q)) hd ri rt cw tx nm → ∀ (ls : Array Slot), lv_has ls 8 [(5, .int (nI (cl (a 7 sh) - 1 - q))), (3, .ref x0), (0, .ref (h 0)), (1, .int (nI sh)), (2, .int (nI 0))] → W p l e R s m args below meth c H locs 0 0 Q (F0 m 112 ls []) := by
                  intro fu
                  induction fu with
                  | zero =>
                    intro q T hq1 hq hf2
                    omega
                  | succ fu ih112 =>
                    intro q T hq1 hq hf2 nm H locs hM ls hl
                    refine lv_iload hx hb dX0_walked_112 (lv_at hl 0 rfl) ?_
                    refine w_if_ltN (tgt := 133) hx hb (by omega) dX0_walked_114 (by decide) ?_
                    refine lv_aload_n hx hb dX0_walked_117 rfl (lv_at hl 2 rfl) ?_
                    refine lv_aload_n hx hb dX0_walked_118 rfl (lv_at hl 1 rfl) ?_
                    refine lv_iload hx hb dX0_walked_119 (lv_at hl 0 rfl) ?_
                    refine sv_get hx hb hml hown hts hK q1040 wi0 hwi0 x0 (ya sh) (cl (a 7 sh)) (fun k => a 8 (40 * sh + k)) (cl (a 7 sh) - 1 - q) (by omega) (hX0.kept (hM.2.2.2.1 x0 hX0.lt (hS0 _ hxA0))) (hY0.kept (hM.2.2.2.1 _ hY0.lt (hS0 _ hyA0))) (by rw [hRf]; decide) (by rw [hRl]; decide) (Nat.zero_le _) (Nat.zero_le _) hl.1 (Nat.le_of_ble_eq_true rfl) dX0_walked_121 ?_
                    refine w_top (a 8 (40 * sh + (cl (a 7 sh) - 1 - q))) rfl ?_
                    have hEq : okE (fwE (a 1) (fun j => a 8 (40 * sh + j)) (cl (a 7 sh)) (a 10) q) := by
                      rw [show q = (q - 1) + 1 by omega, fwE]; exact fwW_ok
                    refine cg_callV (y := yX0_walksBack) (b := h 0) (C := RX0) (As := [.int (a 8 (40 * sh + (cl (a 7 sh) - 1 - q)))]) hx hb hml hown hts hK hM.2.2 (ca_walksBack D dA h _ _ _ _ _ _ _ _ _ _ hI hN hZ B hB (a 8 (40 * sh + (cl (a 7 sh) - 1 - q))) T (fwE (a 1) (fun j => a 8 (40 * sh + j)) (cl (a 7 sh)) (a 10) q) hEq) ⟨hM.1, hQ.at hB hN mwEq.rf mwEq.rf mwEq.rf hM.2.2⟩ (fun q hq => hq) (cAt.recv hK (hM.1 0 _ rfl) rfl) q1052 q1054 qs19 q61 q1055 ndX0_walksBack rfl (by rw [hRf]; decide) (by rw [hRl]; decide) (Nat.zero_le _) (Nat.zero_le _) hl.1 rfl (Nat.le_of_ble_eq_true rfl) dX0_walked_124 ?_
                    rintro _ H locs ⟨rfl, nm, hP1⟩ hz1 hk1 hS1
                    have hM := cmH.of hI hP1 hS1
                    have hM := hM.wkt (wk' := va_up (va_up wk 11 (fwE (a 1) (fun j => a 8 (40 * sh + j)) (cl (a 7 sh)) (a 10) q)) 10 (fwE (a 1) (fun j => a 8 (40 * sh + j)) (cl (a 7 sh)) (a 10) (q + 1))) (by rw [fwE, fwW_q hq1])
                    by_cases hk0 : cl (a 7 sh) - 1 - q = 0
                    · refine lv_iinc (v := (-1 : Int32)) (lv' := [(5, .int (-1 : Int32)), (3, .ref x0), (0, .ref (h 0)), (1, .int (nI sh)), (2, .int (nI 0))]) hx hb dX0_walked_127 hl (k := 0) rfl (by rw [hk0]; decide) (by decide) rfl (fun ls hl => ?_)
                      refine lv_goto (tgt := 112) hx hb dX0_walked_130 (by decide) ?_
                      refine lv_iload hx hb dX0_walked_112 (lv_at hl 0 rfl) ?_
                      refine lv_if_lt (tgt := 133) hx hb dX0_walked_114 (by decide) (fun c_10 => ?_) (fun c_10 => ?_)
                      · exact j133 _  _ _ _ (hM.wkt (by rw [show q + 1 = cl (a 7 sh) by omega])) ls (lv_sub hl [1, 2, 3, 4] rfl)
                      · exact absurd (by decide) c_10
                    · refine lv_iinc (v := nI (cl (a 7 sh) - 1 - (q + 1))) (lv' := [(5, .int (nI (cl (a 7 sh) - 1 - (q + 1)))), (3, .ref x0), (0, .ref (h 0)), (1, .int (nI sh)), (2, .int (nI 0))]) hx hb dX0_walked_127 hl (k := 0) rfl (by rw [show Int32.ofInt (-1) = (-1 : Int32) from by decide, show cl (a 7 sh) - 1 - q = (cl (a 7 sh) - 1 - (q + 1)) + 1 by omega]; exact pk_m1 _) (by decide) rfl (fun ls hl => ?_)
                      refine lv_goto (tgt := 112) hx hb dX0_walked_130 (by decide) ?_
                      exact ih112 (q + 1) _ (by omega) (by omega) (by omega) _ _ _ hM ls (lv_sub hl [0, 1, 2, 3, 4] rfl)
                exact loop112 (cl (a 7 sh)) 1 (wk 11) (by omega) (by omega) (by omega) _ _ _ (hM.wkt (by rw [va_uself])) ls (lv_sub hl [0, 2, 3, 4, 5] rfl)
            · refine lv_aload_n hx hb dX0_walked_71 rfl (lv_at hl 3 rfl) ?_
              refine c_get (v := .ref (h 10)) hx hb hts in_X0 hown hK (hM.1 0 _ rfl) rfl 8 (by decide) q294 rfl rfl dX0_walked_72 ?_
              refine lv_iload hx hb dX0_walked_75 (lv_at hl 0 rfl) ?_
              refine lv_aload_n hx hb dX0_walked_77 rfl (lv_at hl 3 rfl) ?_
              refine c_get (v := .ref (hm0 h 0)) hx hb hts in_X0 hown hK (hM.1 0 _ rfl) rfl 1 (by decide) q287 rfl rfl dX0_walked_78 ?_
              have nq := hK.F 3 rfl
              refine c_getN (v := .ref (hm0 h 1)) hx hb hts in_X2 hown hK ((cm_parts hM.1).2.1 0 _ rfl) rfl 0 (by decide) nq rfl rfl dX0_walked_81 ?_
              refine lv_iload hx hb dX0_walked_84 (lv_at hl 0 rfl) ?_
              refine c_iald hx hb hK ((cm_parts hM.1).2.1 1 _ rfl) c2 ⟨by omega, by decide, rfl⟩ dX0_walked_86 ?_
              refine w_top (a 1 (8 + c2)) (rfl) ?_
              refine w_top (a 1 (8 + c2)) (rfl) ?_
              refine lv_iload hx hb dX0_walked_87 (lv_at hl 1 rfl) ?_
              have j97 : ∀ (nm : Nat → Nat → Int32) (H : Heap) (locs : List Loc), cmH D h dA s.heap H locs f a fc (va_up wk 10 (cpk (fwE (a 1) (fun j => a 8 (40 * sh + j)) (cl (a 7 sh)) (a 10) 1) (wk 10) c2)) hd ri rt cw tx nm → ∀ (ls : Array Slot), lv_has ls 8 [(5, .int (nI c2)), (4, .int (a 8 (40 * sh + (cl (a 7 sh) - 1)))), (3, .ref x0), (0, .ref (h 0)), (1, .int (nI sh)), (2, .int (nI 0))] → W p l e R s m args below meth c H locs 0 0 Q (F0 m 97 ls [.int ((fwE (a 1) (fun j => a 8 (40 * sh + j)) (cl (a 7 sh)) (a 10) 1) c2), .int (nI c2), .ref (h 10)]) := by
                intro   nm H locs hM ls hl
                refine cm_ast_wk10 hx hb hK hI hM c2 ⟨by omega, rfl⟩ dX0_walked_97 (fun H locs hM => ?_)
                refine lv_iinc (v := nI (c2 + 1)) (lv' := [(5, .int (nI (c2 + 1))), (4, .int (a 8 (40 * sh + (cl (a 7 sh) - 1)))), (3, .ref x0), (0, .ref (h 0)), (1, .int (nI sh)), (2, .int (nI 0))]) hx hb dX0_walked_98 hl (k := 0) rfl (by rw [show Int32.ofInt 1 = nI 1 from by decide]; exact nI_add _ _) (by decide) rfl (fun ls hl => ?_)
                refine lv_goto (tgt := 64) hx hb dX0_walked_101 (by decide) ?_
                exact ih64 (c2 + 1) (by omega) (by omega) _ _ _ (hM.wkt (by rw [va_uu, va_us, cpk_u])) ls (lv_sub hl [0, 1, 2, 3, 4, 5] rfl)
              refine lv_icmp_ne (tgt := 96) hx hb dX0_walked_89 (by decide) (fun c_11 => ?_) (fun c_11 => ?_)
              · refine lv_iconst (v := nI 0) hx hb dX0_walked_96 (by decide) ?_
                refine w_top ((fwE (a 1) (fun j => a 8 (40 * sh + j)) (cl (a 7 sh)) (a 10) 1) c2) (by rw [fwE]; exact (if_neg c_11).symm) ?_
                exact j97   _ _ _ hM ls (lv_sub hl [0, 1, 2, 3, 4, 5] rfl)
              · refine lv_iconst (v := nI 1) hx hb dX0_walked_92 (by decide) ?_
                refine lv_goto (tgt := 97) hx hb dX0_walked_93 (by decide) ?_
                refine w_top ((fwE (a 1) (fun j => a 8 (40 * sh + j)) (cl (a 7 sh)) (a 10) 1) c2) (by rw [fwE]; exact (if_pos c_11).symm) ?_
                exact j97   _ _ _ hM ls (lv_sub hl [0, 1, 2, 3, 4, 5] rfl)
        exact loop64 26 0 (by omega) (by omega) _ _ _ (hM.wkt (by rw [cpk_z]; exact va_self wk 10)) ls (lv_sub hl [0, 1, 2, 3, 4, 5] rfl)
set_option maxHeartbeats 400000 in
theorem ca_walked_ok1 (f : Nat → Int32) (a : Nat → Nat → Int32) (sh : Nat) (hs : sh < 4) (hb00 : ¬ a 6 sh = 0) (hz1 : 1 ≤ cl (a 7 sh)) : CmF yX0_walked cX0_walked 8 [(0, 207, 208, 8)] 3 81 [.int (nI sh), .int (nI 1)] f a ((wdS (fwE (a 1) (fun j => a 8 (40 * sh + j)) (cl (a 7 sh)) (a 10) (cl (a 7 sh))) 25).2) f (va_up (va_up a 10 (fwE (a 1) (fun j => a 8 (40 * sh + j)) (cl (a 7 sh)) (a 10) (cl (a 7 sh)))) 11 (fwE (a 1) (fun j => a 8 (40 * sh + j)) (cl (a 7 sh)) (a 10) (cl (a 7 sh)))) := by
  refine CmF.ofI (by decide) rfl (Nat.le_of_ble_eq_true rfl) ?_
  intro p l e R s m args below meth c Q D dA h fc wk hd ri rt cw tx nm B S ls hx hb hml hRf hRl hRc hRs htab hts hown hK hI hB hS0 hQ hN hIm hZ hSh hM hl hret hret0
  have hl : lv_has ls 8 [(0, .ref (h 0)), (1, .int (nI sh)), (2, .int (nI 1))] := hl
  have hs0 := hs
  have hSh2 := hSh
  obtain ⟨ya, hinj, hall⟩ := hSh2
  obtain ⟨x0, wi0, hwi0, hxd0, hxA0, hyA0, hb60, hz70, hX0, hY0⟩ := (hall sh hs0).resolve_left (fun q => hb00 q.1)
  have hz720 := hz70.2
  refine lv_aload_n hx hb dX0_walked_0 rfl (lv_at hl 0 rfl) ?_
  refine lv_iload_n hx hb dX0_walked_1 rfl (lv_at hl 1 rfl) ?_
  refine st_callS (y := yX0_isSheet) hx hb hml hown hts (cmX0_isSheet (nI sh)) q1020 q1021 q61 q1022 ndX0_isSheet rfl (by rw [hRf]; decide) (by rw [hRl]; decide) (Nat.zero_le _) (Nat.zero_le _) hl.1 rfl (Nat.le_of_ble_eq_true rfl) dX0_walked_2 ?_
  refine w_if_eqT (tgt := 21) hx hb dX0_walked_5 (by decide) (fun c_1 => ?_) (fun c_1 => ?_)
  · exact absurd (by first | exact (in_nat (by decide)).mpr ⟨_, by omega, rfl⟩ | exact (in_nat1 _ (by decide) (by decide)).mpr ⟨_, by omega, by omega, rfl⟩ | exact cow_in hN0 (by omega) | assumption) c_1
  · refine lv_iload_n hx hb dX0_walked_8 rfl (lv_at hl 2 rfl) ?_
    refine lv_iconst (v := nI 0) hx hb dX0_walked_9 (by decide) ?_
    refine lv_iconst (v := nI 1) hx hb dX0_walked_10 (by decide) ?_
    refine st_callS (y := yX0_in) hx hb hml hown hts (cmX0_in (nI 1) (nI 0) (nI 1)) q330 q331 q61 q332 ndX0_in rfl (by rw [hRf]; decide) (by rw [hRl]; decide) (Nat.zero_le _) (Nat.zero_le _) hl.1 rfl (Nat.le_of_ble_eq_true rfl) dX0_walked_11 ?_
    refine w_if_eqT (tgt := 21) hx hb dX0_walked_14 (by decide) (fun c_2 => ?_) (fun c_2 => ?_)
    · exact absurd (by first | exact (in_nat (by decide)).mpr ⟨_, by omega, rfl⟩ | exact (in_nat1 _ (by decide) (by decide)).mpr ⟨_, by omega, by omega, rfl⟩ | exact cow_in hN0 (by omega) | assumption) c_2
    · refine lv_iconst (v := nI 1) hx hb dX0_walked_17 (by decide) ?_
      refine lv_goto (tgt := 22) hx hb dX0_walked_18 (by decide) ?_
      refine lv_iconst (v := nI 1) hx hb dX0_walked_22 (by decide) ?_
      refine cm_n1 hx hb hml hown hts hK hI hM htab (hpc := 208) rfl q333 (by rw [hRf]; decide) (by rw [hRl]; decide) (Nat.zero_le _) (Nat.zero_le _) hl.1 (Nat.le_of_ble_eq_true rfl) dX0_walked_23 (fun locs hM => ?_)
      refine lv_aload_n hx hb dX0_walked_26 rfl (lv_at hl 0 rfl) ?_
      refine lv_iload_n hx hb dX0_walked_27 rfl (lv_at hl 1 rfl) ?_
      refine cg_callV (y := yX0_sheetAt) (b := h 0) (C := RX0) (As := [.int (nI sh)]) hx hb hml hown hts hK hM.2.2 (ca_sheetAt_ok D dA h _ _ _ _ _ _ _ _ _ _ hI sh x0 wi0 hs0 hxd0 (hS0 _ hxA0) hwi0 _) ⟨hM.1, hX0.kept (hM.2.2.2.1 x0 hX0.lt (hS0 _ hxA0))⟩ (fun q hq => hq) (cAt.recv hK (hM.1 0 _ rfl) rfl) q1023 q1025 qs18 q61 q1026 ndX0_sheetAt rfl (by rw [hRf]; decide) (by rw [hRl]; decide) (Nat.zero_le _) (Nat.zero_le _) hl.1 rfl (Nat.le_of_ble_eq_true rfl) dX0_walked_28 ?_
      rintro _ H locs ⟨rfl, hP1⟩ hz1 hk1 hS1
      have hM := cmH.of hI hP1 hS1
      refine lv_astore_n (lv' := [(3, .ref x0), (0, .ref (h 0)), (1, .int (nI sh)), (2, .int (nI 1))]) hx hb dX0_walked_31 rfl hl (by decide) rfl (fun ls hl => ?_)
      refine lv_aload_n hx hb dX0_walked_32 rfl (lv_at hl 1 rfl) ?_
      refine lv_aload_n hx hb dX0_walked_33 rfl (lv_at hl 0 rfl) ?_
      refine sv_size hx hb hml hown hts hK q1028 wi0 hwi0 x0 (ya sh) (cl (a 7 sh)) (fun k => a 8 (40 * sh + k)) (hX0.kept (hM.2.2.2.1 x0 hX0.lt (hS0 _ hxA0))) (hY0.kept (hM.2.2.2.1 _ hY0.lt (hS0 _ hyA0))) (by rw [hRf]; decide) (by rw [hRl]; decide) (Nat.zero_le _) (Nat.zero_le _) hl.1 (Nat.le_of_ble_eq_true rfl) dX0_walked_34 ?_
      refine w_if_leN (tgt := 44) hx hb (by omega) dX0_walked_37 (by decide) (fun c_3 => ?_) (fun c_3 => ?_)
      · exact absurd c_3 (by omega)
      · refine lv_iconst (v := nI 1) hx hb dX0_walked_40 (by decide) ?_
        refine lv_goto (tgt := 45) hx hb dX0_walked_41 (by decide) ?_
        refine lv_iconst (v := nI 2) hx hb dX0_walked_45 (by decide) ?_
        refine cm_n1 hx hb hml hown hts hK hI hM htab (hpc := 208) rfl q333 (by rw [hRf]; decide) (by rw [hRl]; decide) (Nat.zero_le _) (Nat.zero_le _) hl.1 (Nat.le_of_ble_eq_true rfl) dX0_walked_46 (fun locs hM => ?_)
        refine lv_aload_n hx hb dX0_walked_49 rfl (lv_at hl 0 rfl) ?_
        refine lv_aload_n hx hb dX0_walked_50 rfl (lv_at hl 0 rfl) ?_
        refine sv_size hx hb hml hown hts hK q1028 wi0 hwi0 x0 (ya sh) (cl (a 7 sh)) (fun k => a 8 (40 * sh + k)) (hX0.kept (hM.2.2.2.1 x0 hX0.lt (hS0 _ hxA0))) (hY0.kept (hM.2.2.2.1 _ hY0.lt (hS0 _ hyA0))) (by rw [hRf]; decide) (by rw [hRl]; decide) (Nat.zero_le _) (Nat.zero_le _) hl.1 (Nat.le_of_ble_eq_true rfl) dX0_walked_51 ?_
        refine lv_iconst (v := nI 1) hx hb dX0_walked_54 (by decide) ?_
        refine w_isubN hx hb (by omega) dX0_walked_55 ?_
        refine sv_get hx hb hml hown hts hK q1040 wi0 hwi0 x0 (ya sh) (cl (a 7 sh)) (fun k => a 8 (40 * sh + k)) ((cl (a 7 sh)) - 1) (by omega) (hX0.kept (hM.2.2.2.1 x0 hX0.lt (hS0 _ hxA0))) (hY0.kept (hM.2.2.2.1 _ hY0.lt (hS0 _ hyA0))) (by rw [hRf]; decide) (by rw [hRl]; decide) (Nat.zero_le _) (Nat.zero_le _) hl.1 (Nat.le_of_ble_eq_true rfl) dX0_walked_56 ?_
        refine w_top (a 8 (40 * sh + ((cl (a 7 sh)) - 1))) rfl ?_
        refine lv_istore (lv' := [(4, .int (a 8 (40 * sh + ((cl (a 7 sh)) - 1)))), (3, .ref x0), (0, .ref (h 0)), (1, .int (nI sh)), (2, .int (nI 1))]) hx hb dX0_walked_59 hl (by decide) rfl (fun ls hl => ?_)
        refine lv_iconst (v := nI 0) hx hb dX0_walked_61 (by decide) ?_
        refine lv_istore (lv' := [(5, .int (nI 0)), (4, .int (a 8 (40 * sh + ((cl (a 7 sh)) - 1)))), (3, .ref x0), (0, .ref (h 0)), (1, .int (nI sh)), (2, .int (nI 1))]) hx hb dX0_walked_62 hl (by decide) rfl (fun ls hl => ?_)
        have loop64 : ∀ (fu : Nat) (c2 : Nat), (c2 ≤ 25) → (25 < c2 + fu) → ∀ (nm : Nat → Nat → Int32) (H : Heap) (locs : List Loc), cmH D h dA s.heap H locs f a fc (va_up wk 10 (cpk (fwE (a 1) (fun j => a 8 (40 * sh + j)) (cl (a 7 sh)) (a 10) 1) (wk 10) c2)) hd ri rt cw tx nm → ∀ (ls : Array Slot), lv_has ls 8 [(5, .int (nI c2)), (4, .int (a 8 (40 * sh + (cl (a 7 sh) - 1)))), (3, .ref x0), (0, .ref (h 0)), (1, .int (nI sh)), (2, .int (nI 1))] → W p l e R s m args below meth c H locs 0 0 Q (F0 m 64 ls []) := by
          intro fu
          induction fu with
          | zero =>
            intro c2 hc2 hf
            omega
          | succ fu ih64 =>
            intro c2 hc2 hf nm H locs hM ls hl
            refine lv_iload hx hb dX0_walked_64 (lv_at hl 0 rfl) ?_
            refine lv_bipush (v := nI 25) hx hb dX0_walked_66 (by decide) ?_
            refine w_icmp_geN (tgt := 104) hx hb (by omega) (by omega) dX0_walked_68 (by decide) (fun c_4 => ?_) (fun c_4 => ?_)
            · have j133 : ∀ (T : Nat → Int32), ∀ (nm : Nat → Nat → Int32) (H : Heap) (locs : List Loc), cmH D h dA s.heap H locs f a fc (va_up (va_up wk 11 (T)) 10 (fwE (a 1) (fun j => a 8 (40 * sh + j)) (cl (a 7 sh)) (a 10) (cl (a 7 sh)))) hd ri rt cw tx nm → ∀ (ls : Array Slot), lv_has ls 8 [(3, .ref x0), (0, .ref (h 0)), (1, .int (nI sh)), (2, .int (nI 1))] → W p l e R s m args below meth c H locs 0 0 Q (F0 m 133 ls []) := by
                intro T  nm H locs hM ls hl
                refine lv_iconst (v := nI 0) hx hb dX0_walked_133 (by decide) ?_
                refine lv_istore (lv' := [(5, .int (nI 0)), (3, .ref x0), (0, .ref (h 0)), (1, .int (nI sh)), (2, .int (nI 1))]) hx hb dX0_walked_134 hl (by decide) rfl (fun ls hl => ?_)
                have hEN : okE (fwE (a 1) (fun j => a 8 (40 * sh + j)) (cl (a 7 sh)) (a 10) (cl (a 7 sh))) := by
                  rw [show cl (a 7 sh) = (cl (a 7 sh) - 1) + 1 by omega, fwE]; exact fwW_ok
                refine lv_iconst (v := nI 0) hx hb dX0_walked_136 (by decide) ?_
                refine lv_istore (lv' := [(6, .int (nI 0)), (5, .int (nI 0)), (3, .ref x0), (0, .ref (h 0)), (1, .int (nI sh)), (2, .int (nI 1))]) hx hb dX0_walked_137 hl (by decide) rfl (fun ls hl => ?_)
                refine lv_iconst (v := nI 0) hx hb dX0_walked_139 (by decide) ?_
                refine lv_istore (lv' := [(7, .int (nI 0)), (6, .int (nI 0)), (5, .int (nI 0)), (3, .ref x0), (0, .ref (h 0)), (1, .int (nI sh)), (2, .int (nI 1))]) hx hb dX0_walked_140 hl (by decide) rfl (fun ls hl => ?_)
                have loop142 : ∀ (fu : Nat) (c2 : Nat), (c2 ≤ 25) → (25 < c2 + fu) → ∀ (nm : Nat → Nat → Int32) (H : Heap) (locs : List Loc), cmH D h dA s.heap H locs f a fc (va_up (va_up wk 11 (T)) 10 (fwE (a 1) (fun j => a 8 (40 * sh + j)) (cl (a 7 sh)) (a 10) (cl (a 7 sh)))) hd ri rt cw tx nm → ∀ (ls : Array Slot), lv_has ls 8 [(7, .int (nI c2)), (6, .int ((wdS (fwE (a 1) (fun j => a 8 (40 * sh + j)) (cl (a 7 sh)) (a 10) (cl (a 7 sh))) c2).1)), (5, .int ((wdS (fwE (a 1) (fun j => a 8 (40 * sh + j)) (cl (a 7 sh)) (a 10) (cl (a 7 sh))) c2).2)), (3, .ref x0), (0, .ref (h 0)), (1, .int (nI sh)), (2, .int (nI 1))] → W p l e R s m args below meth c H locs 0 0 Q (F0 m 142 ls []) := by
                  intro fu
                  induction fu with
                  | zero =>
                    intro c2 hc2 hf
                    omega
                  | succ fu ih142 =>
                    intro c2 hc2 hf nm H locs hM ls hl
                    refine lv_iload hx hb dX0_walked_142 (lv_at hl 0 rfl) ?_
                    refine lv_bipush (v := nI 25) hx hb dX0_walked_144 (by decide) ?_
                    refine w_icmp_geN (tgt := 196) hx hb (by omega) (by omega) dX0_walked_146 (by decide) (fun c_5 => ?_) (fun c_5 => ?_)
                    · refine lv_iload_n hx hb dX0_walked_196 rfl (lv_at hl 6 rfl) ?_
                      refine lv_if_ne (tgt := 205) hx hb dX0_walked_197 (by decide) (fun _ => ?_) (fun q => absurd q (by decide))
                      refine lv_iload hx hb dX0_walked_205 (lv_at hl 2 rfl) ?_
                      exact hret0 (hM.cg (a' := va_up (va_up a 10 (fwE (a 1) (fun j => a 8 (40 * sh + j)) (cl (a 7 sh)) (a 10) (cl (a 7 sh)))) 11 (fwE (a 1) (fun j => a 8 (40 * sh + j)) (cl (a 7 sh)) (a 10) (cl (a 7 sh)))) (f' := f) rfl rfl rfl rfl rfl) (mwEq.rf) rfl rfl ⟨rfl, rfl, rfl⟩ (by rw [show c2 = 25 by omega]) dX0_walked_207
                    · refine lv_iload hx hb dX0_walked_149 (lv_at hl 2 rfl) ?_
                      refine lv_aload_n hx hb dX0_walked_151 rfl (lv_at hl 4 rfl) ?_
                      refine c_get (v := .ref (h 10)) hx hb hts in_X0 hown hK (hM.1 0 _ rfl) rfl 8 (by decide) q294 rfl rfl dX0_walked_152 ?_
                      refine lv_iload hx hb dX0_walked_155 (lv_at hl 0 rfl) ?_
                      refine c_iald hx hb hK (hM.1 10 _ rfl) c2 ⟨by omega, by decide, rfl⟩ dX0_walked_157 ?_
                      refine w_top ((fwE (a 1) (fun j => a 8 (40 * sh + j)) (cl (a 7 sh)) (a 10) (cl (a 7 sh))) c2) (rfl) ?_
                      have j169 : ∀ (nm : Nat → Nat → Int32) (H : Heap) (locs : List Loc), cmH D h dA s.heap H locs f a fc (va_up (va_up wk 11 (T)) 10 (fwE (a 1) (fun j => a 8 (40 * sh + j)) (cl (a 7 sh)) (a 10) (cl (a 7 sh)))) hd ri rt cw tx nm → ∀ (ls : Array Slot), lv_has ls 8 [(7, .int (nI c2)), (6, .int ((wdS (fwE (a 1) (fun j => a 8 (40 * sh + j)) (cl (a 7 sh)) (a 10) (cl (a 7 sh))) c2).1)), (5, .int ((wdS (fwE (a 1) (fun j => a 8 (40 * sh + j)) (cl (a 7 sh)) (a 10) (cl (a 7 sh))) c2).2)), (3, .ref x0), (0, .ref (h 0)), (1, .int (nI sh)), (2, .int (nI 1))] → W p l e R s m args below meth c H locs 0 0 Q (F0 m 169 ls [.int (if (fwE (a 1) (fun j => a 8 (40 * sh + j)) (cl (a 7 sh)) (a 10) (cl (a 7 sh))) c2 ≤ 0 then nI 0 else nI 1 <<< (nI c2 &&& 31)), .int ((wdS (fwE (a 1) (fun j => a 8 (40 * sh + j)) (cl (a 7 sh)) (a 10) (cl (a 7 sh))) c2).2)]) := by
                        intro   nm H locs hM ls hl
                        refine lv_ior hx hb dX0_walked_169 ?_
                        refine w_top ((wdS (fwE (a 1) (fun j => a 8 (40 * sh + j)) (cl (a 7 sh)) (a 10) (cl (a 7 sh))) (c2 + 1)).2) (rfl) ?_
                        refine lv_istore (lv' := [(5, .int ((wdS (fwE (a 1) (fun j => a 8 (40 * sh + j)) (cl (a 7 sh)) (a 10) (cl (a 7 sh))) (c2 + 1)).2)), (7, .int (nI c2)), (6, .int ((wdS (fwE (a 1) (fun j => a 8 (40 * sh + j)) (cl (a 7 sh)) (a 10) (cl (a 7 sh))) c2).1)), (3, .ref x0), (0, .ref (h 0)), (1, .int (nI sh)), (2, .int (nI 1))]) hx hb dX0_walked_170 hl (by decide) rfl (fun ls hl => ?_)
                        refine lv_ldcw hx hb hown (hts _ q1061) dX0_walked_172 ?_
                        refine w_top (nI 999999) (by decide) ?_
                        refine lv_iload hx hb dX0_walked_175 (lv_at hl 2 rfl) ?_
                        refine lv_aload_n hx hb dX0_walked_177 rfl (lv_at hl 4 rfl) ?_
                        refine c_get (v := .ref (h 10)) hx hb hts in_X0 hown hK (hM.1 0 _ rfl) rfl 8 (by decide) q294 rfl rfl dX0_walked_178 ?_
                        refine lv_iload hx hb dX0_walked_181 (lv_at hl 1 rfl) ?_
                        refine c_iald hx hb hK (hM.1 10 _ rfl) c2 ⟨by omega, by decide, rfl⟩ dX0_walked_183 ?_
                        refine w_top ((fwE (a 1) (fun j => a 8 (40 * sh + j)) (cl (a 7 sh)) (a 10) (cl (a 7 sh))) c2) (rfl) ?_
                        refine lv_iadd hx hb dX0_walked_184 ?_
                        refine va_mmin hx hb (hml.trans hl.1.symm) hown (hts _ q1062) (hts _ q386) (hts _ q73) (hts _ q387) (by rw [hRf]; decide) (by rw [hRl]; exact Nat.le_of_ble_eq_true rfl) (Nat.zero_le _) (Nat.zero_le _) dX0_walked_185 ?_
                        refine w_top ((wdS (fwE (a 1) (fun j => a 8 (40 * sh + j)) (cl (a 7 sh)) (a 10) (cl (a 7 sh))) (c2 + 1)).1) (min_hel9 (wd_ok _ c2) (hEN c2 (by omega))) ?_
                        refine lv_istore (lv' := [(6, .int ((wdS (fwE (a 1) (fun j => a 8 (40 * sh + j)) (cl (a 7 sh)) (a 10) (cl (a 7 sh))) (c2 + 1)).1)), (5, .int ((wdS (fwE (a 1) (fun j => a 8 (40 * sh + j)) (cl (a 7 sh)) (a 10) (cl (a 7 sh))) (c2 + 1)).2)), (7, .int (nI c2)), (3, .ref x0), (0, .ref (h 0)), (1, .int (nI sh)), (2, .int (nI 1))]) hx hb dX0_walked_188 hl (by decide) rfl (fun ls hl => ?_)
                        refine lv_iinc (v := nI (c2 + 1)) (lv' := [(7, .int (nI (c2 + 1))), (6, .int ((wdS (fwE (a 1) (fun j => a 8 (40 * sh + j)) (cl (a 7 sh)) (a 10) (cl (a 7 sh))) (c2 + 1)).1)), (5, .int ((wdS (fwE (a 1) (fun j => a 8 (40 * sh + j)) (cl (a 7 sh)) (a 10) (cl (a 7 sh))) (c2 + 1)).2)), (3, .ref x0), (0, .ref (h 0)), (1, .int (nI sh)), (2, .int (nI 1))]) hx hb dX0_walked_190 hl (k := 2) rfl (by rw [show Int32.ofInt 1 = nI 1 from by decide]; exact nI_add _ _) (by decide) rfl (fun ls hl => ?_)
                        refine lv_goto (tgt := 142) hx hb dX0_walked_193 (by decide) ?_
                        exact ih142 (c2 + 1) (by omega) (by omega) _ _ _ hM ls (lv_sub hl [0, 1, 2, 3, 4, 5, 6] rfl)
                      refine lv_if_le (tgt := 168) hx hb dX0_walked_158 (by decide) (fun c_7 => ?_) (fun c_7 => ?_)
                      · refine lv_iconst (v := nI 0) hx hb dX0_walked_168 (by decide) ?_
                        refine w_top (if (fwE (a 1) (fun j => a 8 (40 * sh + j)) (cl (a 7 sh)) (a 10) (cl (a 7 sh))) c2 ≤ 0 then nI 0 else nI 1 <<< (nI c2 &&& 31)) ((if_pos c_7).symm) ?_
                        exact j169   _ _ _ hM ls (lv_sub hl [0, 1, 2, 3, 4, 5, 6] rfl)
                      · refine lv_iconst (v := nI 1) hx hb dX0_walked_161 (by decide) ?_
                        refine lv_iload hx hb dX0_walked_162 (lv_at hl 0 rfl) ?_
                        refine lv_ishl hx hb dX0_walked_164 ?_
                        refine lv_goto (tgt := 169) hx hb dX0_walked_165 (by decide) ?_
                        refine w_top (if (fwE (a 1) (fun j => a 8 (40 * sh + j)) (cl (a 7 sh)) (a 10) (cl (a 7 sh))) c2 ≤ 0 then nI 0 else nI 1 <<< (nI c2 &&& 31)) ((if_neg c_7).symm) ?_
                        exact j169   _ _ _ hM ls (lv_sub hl [0, 1, 2, 3, 4, 5, 6] rfl)
                exact loop142 26 0 (by omega) (by omega) _ _ _ hM ls (lv_sub hl [0, 1, 2, 3, 4, 5, 6] rfl)
              have hM := hM.wkc (wk' := va_up wk 10 (fwE (a 1) (fun j => a 8 (40 * sh + j)) (cl (a 7 sh)) (a 10) 1)) hI (wk_full1 (by omega))
              refine lv_aload_n hx hb dX0_walked_104 rfl (lv_at hl 2 rfl) ?_
              refine sv_size hx hb hml hown hts hK q1028 wi0 hwi0 x0 (ya sh) (cl (a 7 sh)) (fun k => a 8 (40 * sh + k)) (hX0.kept (hM.2.2.2.1 x0 hX0.lt (hS0 _ hxA0))) (hY0.kept (hM.2.2.2.1 _ hY0.lt (hS0 _ hyA0))) (by rw [hRf]; decide) (by rw [hRl]; decide) (Nat.zero_le _) (Nat.zero_le _) hl.1 (Nat.le_of_ble_eq_true rfl) dX0_walked_105 ?_
              refine lv_iconst (v := nI 2) hx hb dX0_walked_108 (by decide) ?_
              by_cases hn1 : cl (a 7 sh) = 1
              · refine lv_isub hx hb dX0_walked_109 ?_
                refine w_top (-1 : Int32) (by rw [hn1]; decide) ?_
                refine lv_istore (lv' := [(5, .int (-1 : Int32)), (4, .int (a 8 (40 * sh + (cl (a 7 sh) - 1)))), (3, .ref x0), (0, .ref (h 0)), (1, .int (nI sh)), (2, .int (nI 1))]) hx hb dX0_walked_110 hl (by decide) rfl (fun ls hl => ?_)
                refine lv_iload hx hb dX0_walked_112 (lv_at hl 0 rfl) ?_
                refine lv_if_lt (tgt := 133) hx hb dX0_walked_114 (by decide) (fun c_8 => ?_) (fun c_8 => ?_)
                · exact j133 _  _ _ _ (hM.wkt (wk' := va_up (va_up wk 11 (wk 11)) 10 (fwE (a 1) (fun j => a 8 (40 * sh + j)) (cl (a 7 sh)) (a 10) (cl (a 7 sh)))) (by rw [va_uself, show cl (a 7 sh) = 1 from hn1])) ls (lv_sub hl [2, 3, 4, 5] rfl)
                · exact absurd (by decide) c_8
              · refine w_isubN hx hb (by omega) dX0_walked_109 ?_
                refine w_top (nI (cl (a 7 sh) - 1 - 1)) (by rw [show cl (a 7 sh) - 2 = cl (a 7 sh) - 1 - 1 by omega]) ?_
                refine lv_istore (lv' := [(5, .int (nI (cl (a 7 sh) - 1 - 1))), (4, .int (a 8 (40 * sh + (cl (a 7 sh) - 1)))), (3, .ref x0), (0, .ref (h 0)), (1, .int (nI sh)), (2, .int (nI 1))]) hx hb dX0_walked_110 hl (by decide) rfl (fun ls hl => ?_)
                have loop112 : ∀ (fu : Nat) (q : Nat) (T : Nat → Int32), (1 ≤ q) → (q < cl (a 7 sh)) → (cl (a 7 sh) ≤ q + fu) → ∀ (nm : Nat → Nat → Int32) (H : Heap) (locs : List Loc), cmH D h dA s.heap H locs f a fc (va_up (va_up wk 11 (T)) 10 (fwE (a 1) (fun j => a 8 (40 * sh + j)) (cl (a 7 sh)) (a 10) q)) hd ri rt cw tx nm → ∀ (ls : Array Slot), lv_has ls 8 [(5, .int (nI (cl (a 7 sh) - 1 - q))), (3, .ref x0), (0, .ref (h 0)), (1, .int (nI sh)), (2, .int (nI 1))] → W p l e R s m args below meth c H locs 0 0 Q (F0 m 112 ls []) := by
                  intro fu
                  induction fu with
                  | zero =>
                    intro q T hq1 hq hf2
                    omega
                  | succ fu ih112 =>
                    intro q T hq1 hq hf2 nm H locs hM ls hl
                    refine lv_iload hx hb dX0_walked_112 (lv_at hl 0 rfl) ?_
                    refine w_if_ltN (tgt := 133) hx hb (by omega) dX0_walked_114 (by decide) ?_
                    refine lv_aload_n hx hb dX0_walked_117 rfl (lv_at hl 2 rfl) ?_
                    refine lv_aload_n hx hb dX0_walked_118 rfl (lv_at hl 1 rfl) ?_
                    refine lv_iload hx hb dX0_walked_119 (lv_at hl 0 rfl) ?_
                    refine sv_get hx hb hml hown hts hK q1040 wi0 hwi0 x0 (ya sh) (cl (a 7 sh)) (fun k => a 8 (40 * sh + k)) (cl (a 7 sh) - 1 - q) (by omega) (hX0.kept (hM.2.2.2.1 x0 hX0.lt (hS0 _ hxA0))) (hY0.kept (hM.2.2.2.1 _ hY0.lt (hS0 _ hyA0))) (by rw [hRf]; decide) (by rw [hRl]; decide) (Nat.zero_le _) (Nat.zero_le _) hl.1 (Nat.le_of_ble_eq_true rfl) dX0_walked_121 ?_
                    refine w_top (a 8 (40 * sh + (cl (a 7 sh) - 1 - q))) rfl ?_
                    have hEq : okE (fwE (a 1) (fun j => a 8 (40 * sh + j)) (cl (a 7 sh)) (a 10) q) := by
                      rw [show q = (q - 1) + 1 by omega, fwE]; exact fwW_ok
                    refine cg_callV (y := yX0_walksBack) (b := h 0) (C := RX0) (As := [.int (a 8 (40 * sh + (cl (a 7 sh) - 1 - q)))]) hx hb hml hown hts hK hM.2.2 (ca_walksBack D dA h _ _ _ _ _ _ _ _ _ _ hI hN hZ B hB (a 8 (40 * sh + (cl (a 7 sh) - 1 - q))) T (fwE (a 1) (fun j => a 8 (40 * sh + j)) (cl (a 7 sh)) (a 10) q) hEq) ⟨hM.1, hQ.at hB hN mwEq.rf mwEq.rf mwEq.rf hM.2.2⟩ (fun q hq => hq) (cAt.recv hK (hM.1 0 _ rfl) rfl) q1052 q1054 qs19 q61 q1055 ndX0_walksBack rfl (by rw [hRf]; decide) (by rw [hRl]; decide) (Nat.zero_le _) (Nat.zero_le _) hl.1 rfl (Nat.le_of_ble_eq_true rfl) dX0_walked_124 ?_
                    rintro _ H locs ⟨rfl, nm, hP1⟩ hz1 hk1 hS1
                    have hM := cmH.of hI hP1 hS1
                    have hM := hM.wkt (wk' := va_up (va_up wk 11 (fwE (a 1) (fun j => a 8 (40 * sh + j)) (cl (a 7 sh)) (a 10) q)) 10 (fwE (a 1) (fun j => a 8 (40 * sh + j)) (cl (a 7 sh)) (a 10) (q + 1))) (by rw [fwE, fwW_q hq1])
                    by_cases hk0 : cl (a 7 sh) - 1 - q = 0
                    · refine lv_iinc (v := (-1 : Int32)) (lv' := [(5, .int (-1 : Int32)), (3, .ref x0), (0, .ref (h 0)), (1, .int (nI sh)), (2, .int (nI 1))]) hx hb dX0_walked_127 hl (k := 0) rfl (by rw [hk0]; decide) (by decide) rfl (fun ls hl => ?_)
                      refine lv_goto (tgt := 112) hx hb dX0_walked_130 (by decide) ?_
                      refine lv_iload hx hb dX0_walked_112 (lv_at hl 0 rfl) ?_
                      refine lv_if_lt (tgt := 133) hx hb dX0_walked_114 (by decide) (fun c_10 => ?_) (fun c_10 => ?_)
                      · exact j133 _  _ _ _ (hM.wkt (by rw [show q + 1 = cl (a 7 sh) by omega])) ls (lv_sub hl [1, 2, 3, 4] rfl)
                      · exact absurd (by decide) c_10
                    · refine lv_iinc (v := nI (cl (a 7 sh) - 1 - (q + 1))) (lv' := [(5, .int (nI (cl (a 7 sh) - 1 - (q + 1)))), (3, .ref x0), (0, .ref (h 0)), (1, .int (nI sh)), (2, .int (nI 1))]) hx hb dX0_walked_127 hl (k := 0) rfl (by rw [show Int32.ofInt (-1) = (-1 : Int32) from by decide, show cl (a 7 sh) - 1 - q = (cl (a 7 sh) - 1 - (q + 1)) + 1 by omega]; exact pk_m1 _) (by decide) rfl (fun ls hl => ?_)
                      refine lv_goto (tgt := 112) hx hb dX0_walked_130 (by decide) ?_
                      exact ih112 (q + 1) _ (by omega) (by omega) (by omega) _ _ _ hM ls (lv_sub hl [0, 1, 2, 3, 4] rfl)
                exact loop112 (cl (a 7 sh)) 1 (wk 11) (by omega) (by omega) (by omega) _ _ _ (hM.wkt (by rw [va_uself])) ls (lv_sub hl [0, 2, 3, 4, 5] rfl)
            · refine lv_aload_n hx hb dX0_walked_71 rfl (lv_at hl 3 rfl) ?_
              refine c_get (v := .ref (h 10)) hx hb hts in_X0 hown hK (hM.1 0 _ rfl) rfl 8 (by decide) q294 rfl rfl dX0_walked_72 ?_
              refine lv_iload hx hb dX0_walked_75 (lv_at hl 0 rfl) ?_
              refine lv_aload_n hx hb dX0_walked_77 rfl (lv_at hl 3 rfl) ?_
              refine c_get (v := .ref (hm0 h 0)) hx hb hts in_X0 hown hK (hM.1 0 _ rfl) rfl 1 (by decide) q287 rfl rfl dX0_walked_78 ?_
              have nq := hK.F 3 rfl
              refine c_getN (v := .ref (hm0 h 1)) hx hb hts in_X2 hown hK ((cm_parts hM.1).2.1 0 _ rfl) rfl 0 (by decide) nq rfl rfl dX0_walked_81 ?_
              refine lv_iload hx hb dX0_walked_84 (lv_at hl 0 rfl) ?_
              refine c_iald hx hb hK ((cm_parts hM.1).2.1 1 _ rfl) c2 ⟨by omega, by decide, rfl⟩ dX0_walked_86 ?_
              refine w_top (a 1 (8 + c2)) (rfl) ?_
              refine w_top (a 1 (8 + c2)) (rfl) ?_
              refine lv_iload hx hb dX0_walked_87 (lv_at hl 1 rfl) ?_
              have j97 : ∀ (nm : Nat → Nat → Int32) (H : Heap) (locs : List Loc), cmH D h dA s.heap H locs f a fc (va_up wk 10 (cpk (fwE (a 1) (fun j => a 8 (40 * sh + j)) (cl (a 7 sh)) (a 10) 1) (wk 10) c2)) hd ri rt cw tx nm → ∀ (ls : Array Slot), lv_has ls 8 [(5, .int (nI c2)), (4, .int (a 8 (40 * sh + (cl (a 7 sh) - 1)))), (3, .ref x0), (0, .ref (h 0)), (1, .int (nI sh)), (2, .int (nI 1))] → W p l e R s m args below meth c H locs 0 0 Q (F0 m 97 ls [.int ((fwE (a 1) (fun j => a 8 (40 * sh + j)) (cl (a 7 sh)) (a 10) 1) c2), .int (nI c2), .ref (h 10)]) := by
                intro   nm H locs hM ls hl
                refine cm_ast_wk10 hx hb hK hI hM c2 ⟨by omega, rfl⟩ dX0_walked_97 (fun H locs hM => ?_)
                refine lv_iinc (v := nI (c2 + 1)) (lv' := [(5, .int (nI (c2 + 1))), (4, .int (a 8 (40 * sh + (cl (a 7 sh) - 1)))), (3, .ref x0), (0, .ref (h 0)), (1, .int (nI sh)), (2, .int (nI 1))]) hx hb dX0_walked_98 hl (k := 0) rfl (by rw [show Int32.ofInt 1 = nI 1 from by decide]; exact nI_add _ _) (by decide) rfl (fun ls hl => ?_)
                refine lv_goto (tgt := 64) hx hb dX0_walked_101 (by decide) ?_
                exact ih64 (c2 + 1) (by omega) (by omega) _ _ _ (hM.wkt (by rw [va_uu, va_us, cpk_u])) ls (lv_sub hl [0, 1, 2, 3, 4, 5] rfl)
              refine lv_icmp_ne (tgt := 96) hx hb dX0_walked_89 (by decide) (fun c_11 => ?_) (fun c_11 => ?_)
              · refine lv_iconst (v := nI 0) hx hb dX0_walked_96 (by decide) ?_
                refine w_top ((fwE (a 1) (fun j => a 8 (40 * sh + j)) (cl (a 7 sh)) (a 10) 1) c2) (by rw [fwE]; exact (if_neg c_11).symm) ?_
                exact j97   _ _ _ hM ls (lv_sub hl [0, 1, 2, 3, 4, 5] rfl)
              · refine lv_iconst (v := nI 1) hx hb dX0_walked_92 (by decide) ?_
                refine lv_goto (tgt := 97) hx hb dX0_walked_93 (by decide) ?_
                refine w_top ((fwE (a 1) (fun j => a 8 (40 * sh + j)) (cl (a 7 sh)) (a 10) 1) c2) (by rw [fwE]; exact (if_pos c_11).symm) ?_
                exact j97   _ _ _ hM ls (lv_sub hl [0, 1, 2, 3, 4, 5] rfl)
        exact loop64 26 0 (by omega) (by omega) _ _ _ (hM.wkt (by rw [cpk_z]; exact va_self wk 10)) ls (lv_sub hl [0, 1, 2, 3, 4, 5] rfl)
