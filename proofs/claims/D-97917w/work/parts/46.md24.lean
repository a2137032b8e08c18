/-! the model: hays (printed by model24.py) -/
set_option maxRecDepth 100000
def hyV (F : Nat → Int32) (o k w : Nat) : Int32 := F k + (if nI w = nI o then nI 0 else nI 1)
def hyW (F : Nat → Int32) (o k : Nat) : Nat → (Nat → Int32) → Nat → Int32
  | 0, T => T
  | w + 1, T => match nxt k w with
    | none => hyW F o k w T
    | some d => if hyV F o k w < hyW F o k w T d then upd (hyW F o k w T) d (hyV F o k w) else hyW F o k w T
def hyK (r : Nat → Int32) (i : Nat) (F : Nat → Int32) : Nat → (Nat → Int32) → Nat → Int32
  | 0, T => T
  | k + 1, T => hyW F (wayS r i k 4).1 k 5 (hyK r i F k T)
/-- the fewest hays by which one is at a cell behind so many days; 100: none -/
def hyI (r : Nat → Int32) (i : Nat) : Nat → Nat → Int32
  | 0 => fun c => if nI c = r (58 + 14 * i + 2) then nI 0 else nI 100
  | n + 1 => hyK r i (hyI r i n) 25 (fun _ => nI 100)
theorem hyW_n {F : Nat → Int32} {o k w : Nat} {T : Nat → Int32} (h : nxt k w = none) : hyW F o k w T = hyW F o k (w + 1) T := by rw [hyW, h]
theorem hyW_z {F : Nat → Int32} {o k w d : Nat} {T : Nat → Int32} (h : nxt k w = some d) (h2 : ¬ hyV F o k w < hyW F o k w T d) : hyW F o k w T = hyW F o k (w + 1) T := by rw [hyW, h]; exact (if_neg h2).symm
theorem hyW_y {F : Nat → Int32} {o k w d : Nat} {T : Nat → Int32} (h : nxt k w = some d) (h2 : hyV F o k w < hyW F o k w T d) : upd (hyW F o k w T) d (hyV F o k w) = hyW F o k (w + 1) T := by rw [hyW, h]; exact (if_pos h2).symm
theorem ndX6_hays : yX6_hays.cls = RX6 ∧ yX6_hays.cls ≠ "java/lang/invoke/MethodHandle" ∧ yX6_hays.cls ≠ "java/lang/invoke/VarHandle" ∧ (parseMethodDescriptor yX6_hays.desc).map (fun d => d.parameters.length) = some 3 := by decide +kernel
set_option maxHeartbeats 400000 in
theorem met_hays_ok (f : Nat → Int32) (a : Nat → Nat → Int32) (i : Nat) (hi : i < cl (a 1 3)) (hN : okN (a 1 3) 5) (c0 : Nat) (hc : c0 < 25) (n : Nat) (h1 : 1 ≤ n) (h30 : n ≤ 30) (hT : okT (a 1)) (hq : okN (a 1 (58 + 14 * i + 3)) 10) (hres : (hyI (a 1) i n) c0 < nI 100) : MdX yX6_hays cX6_hays 10 (some .int) 44 1117 [.int (nI i), .int (nI c0), .int (nI n)] f a (some (.int ((hyI (a 1) i n) c0))) (va_up (va_up a 12 (hyI (a 1) i n)) 13 (hyI (a 1) i n)) := by
  refine MdX.ofI (by decide) rfl (Nat.le_of_ble_eq_true rfl) ?_
  intro p l e R s m args below meth c Q D h dA ls hx hb hml hRf hRl hts hown hK hI hM hl hret
  have hl : lv_has ls 10 [(0, .ref (h 0)), (1, .int (nI i)), (2, .int (nI c0)), (3, .int (nI n))] := hl
  have hN2 := hN.2
  refine lv_aload_n hx hb dX6_hays_0 rfl (lv_at hl 0 rfl) ?_
  refine lv_iload_n hx hb dX6_hays_1 rfl (lv_at hl 1 rfl) ?_
  refine md_callI (y := yX6_isCow) hx hb hml hown hts hK hI hM (met_isCow f a (nI i)) q1574 q1576 qs37 q1577 ndX6_isCow rfl (by rw [hRf]; decide) (by rw [hRl]; decide) hl.1 rfl (Nat.le_of_ble_eq_true rfl) dX6_hays_2 (fun H locs hM => ?_)
  refine w_if_eqT (tgt := 25) hx hb dX6_hays_5 (by decide) (fun c_1 => ?_) (fun c_1 => ?_)
  · exact absurd (by first | exact (in_nat (by decide)).mpr ⟨_, by omega, rfl⟩ | exact (in_nat1 _ (by decide) (by decide)).mpr ⟨_, by omega, by omega, rfl⟩ | exact cow_in hN (by omega) | assumption) c_1
  · refine lv_iload_n hx hb dX6_hays_8 rfl (lv_at hl 2 rfl) ?_
    refine st_callI (y := yX6_isCell) hx hb hml hown hts (met_isCell (nI c0)) q1479 q1480 q70 q1481 ndX6_isCell rfl (by rw [hRf]; decide) (by rw [hRl]; decide) ⟨Nat.zero_le _, Nat.zero_le _⟩ hl.1 rfl (Nat.le_of_ble_eq_true rfl) dX6_hays_9 ?_
    refine w_if_eqT (tgt := 25) hx hb dX6_hays_12 (by decide) (fun c_2 => ?_) (fun c_2 => ?_)
    · exact absurd (by first | exact (in_nat (by decide)).mpr ⟨_, by omega, rfl⟩ | exact (in_nat1 _ (by decide) (by decide)).mpr ⟨_, by omega, by omega, rfl⟩ | exact cow_in hN (by omega) | assumption) c_2
    · refine lv_iload_n hx hb dX6_hays_15 rfl (lv_at hl 3 rfl) ?_
      refine lv_iconst (v := nI 1) hx hb dX6_hays_16 (by decide) ?_
      refine lv_bipush (v := nI 30) hx hb dX6_hays_17 (by decide) ?_
      refine st_callI (y := yX6_in) hx hb hml hown hts (met_in (nI n) (nI 1) (nI 30)) q1482 q1483 q70 q1484 ndX6_in rfl (by rw [hRf]; decide) (by rw [hRl]; decide) ⟨Nat.zero_le _, Nat.zero_le _⟩ hl.1 rfl (Nat.le_of_ble_eq_true rfl) dX6_hays_19 ?_
      refine w_if_neT (tgt := 32) hx hb dX6_hays_22 (by decide) (fun c_3 => ?_) (fun c_3 => ?_)
      · obtain ⟨Z0, hZ0⟩ : ∃ z : Nat → Int32, z = hyI (a 1) i 0 := ⟨_, rfl⟩
        refine lv_iconst (v := nI 0) hx hb dX6_hays_32 (by decide) ?_
        refine lv_istore (lv' := [(4, .int (nI 0)), (0, .ref (h 0)), (1, .int (nI i)), (2, .int (nI c0)), (3, .int (nI n))]) hx hb dX6_hays_33 hl (by decide) rfl (fun ls hl => ?_)
        have loop35 : ∀ (fu : Nat) (k : Nat), (k ≤ 25) → (25 < k + fu) → ∀ (f1 : Nat → Int32), fE f f1 → ∀ (H : Heap) (locs : List Loc), mdH D h dA s.heap H locs f1 (va_up a 12 (cpk Z0 (a 12) k)) → ∀ (ls : Array Slot), lv_has ls 10 [(4, .int (nI k)), (0, .ref (h 0)), (1, .int (nI i)), (2, .int (nI c0)), (3, .int (nI n))] → W p l e R s m args below meth c H locs 0 0 Q (F0 m 35 ls []) := by
          intro fu
          induction fu with
          | zero =>
            intro k hk hf
            omega
          | succ fu ih35 =>
            intro k hk hf f35 he35 H locs hM ls hl
            refine lv_iload hx hb dX6_hays_35 (lv_at hl 0 rfl) ?_
            refine lv_bipush (v := nI 25) hx hb dX6_hays_37 (by decide) ?_
            refine w_icmp_geN (tgt := 72) hx hb (by omega) (by omega) dX6_hays_39 (by decide) (fun c_4 => ?_) (fun c_4 => ?_)
            · have hM := (hM.cong 12 Z0 rfl rfl (fun j hj => by rw [va_us]; unfold cpk; rw [if_pos (by omega)])).to (a' := va_up (va_up a 12 (Z0)) 13 (a 13)) rfl (by rw [va_uu]; exact va_self (va_up a 12 Z0) 13)
              refine lv_iconst (v := nI 0) hx hb dX6_hays_72 (by decide) ?_
              refine lv_istore (lv' := [(4, .int (nI 0)), (0, .ref (h 0)), (1, .int (nI i)), (2, .int (nI c0)), (3, .int (nI n))]) hx hb dX6_hays_73 hl (by decide) rfl (fun ls hl => ?_)
              have loop75 : ∀ (fu : Nat) (dy : Nat) (F T : Nat → Int32), (dy ≤ n) → (n < dy + fu) → (F = hyI (a 1) i dy) → (dy = 0 ∨ T = F) → ∀ (f1 : Nat → Int32), fE f f1 → ∀ (H : Heap) (locs : List Loc), mdH D h dA s.heap H locs f1 (va_up (va_up a 12 (F)) 13 (T)) → ∀ (ls : Array Slot), lv_has ls 10 [(4, .int (nI dy)), (0, .ref (h 0)), (1, .int (nI i)), (2, .int (nI c0)), (3, .int (nI n))] → W p l e R s m args below meth c H locs 0 0 Q (F0 m 75 ls []) := by
                intro fu
                induction fu with
                | zero =>
                  intro dy F T hd hf hF hT2
                  omega
                | succ fu ih75 =>
                  intro dy F T hd hf hF hT2 f75 he75 H locs hM ls hl
                  refine lv_iload hx hb dX6_hays_75 (lv_at hl 0 rfl) ?_
                  refine lv_iload_n hx hb dX6_hays_77 rfl (lv_at hl 4 rfl) ?_
                  refine w_icmp_geN (tgt := 239) hx hb (by omega) (by omega) dX6_hays_78 (by decide) (fun c_5 => ?_) (fun c_5 => ?_)
                  · have hM := hM.to (a' := va_up (va_up a 12 (hyI (a 1) i n)) 13 (hyI (a 1) i n)) rfl (by rw [hT2.resolve_left (by omega), hF, show dy = n by omega])
                    refine lv_aload_n hx hb dX6_hays_239 rfl (lv_at hl 1 rfl) ?_
                    refine md_get (v := .ref (h 12)) hx hb hts hown hK hM 21 (by decide) q1411 rfl rfl dX6_hays_240 ?_
                    refine lv_iload_n hx hb dX6_hays_243 rfl (lv_at hl 3 rfl) ?_
                    refine md_iald hx hb hK hM 12 rfl c0 ⟨by omega, by decide, rfl⟩ dX6_hays_244 ?_
                    refine w_top ((hyI (a 1) i n) c0) (rfl) ?_
                    refine lv_bipush (v := nI 100) hx hb dX6_hays_245 (by decide) ?_
                    refine lv_icmp_lt (tgt := 259) hx hb dX6_hays_247 (by decide) (fun c_6 => ?_) (fun c_6 => ?_)
                    · refine lv_aload_n hx hb dX6_hays_259 rfl (lv_at hl 1 rfl) ?_
                      refine md_get (v := .ref (h 12)) hx hb hts hown hK hM 21 (by decide) q1411 rfl rfl dX6_hays_260 ?_
                      refine lv_iload_n hx hb dX6_hays_263 rfl (lv_at hl 3 rfl) ?_
                      refine md_iald hx hb hK hM 12 rfl c0 ⟨by omega, by decide, rfl⟩ dX6_hays_264 ?_
                      refine w_top ((hyI (a 1) i n) c0) (rfl) ?_
                      exact hret he75 hM (by first | rfl | (simp only [iI, nI_0, nI_one]; grind)) dX6_hays_265
                    · exact absurd hres c_6
                  · obtain ⟨Z1, hZ1⟩ : ∃ z : Nat → Int32, z = hyI (a 1) i (dy + 1) := ⟨_, rfl⟩
                    refine lv_iconst (v := nI 0) hx hb dX6_hays_81 (by decide) ?_
                    refine lv_istore (lv' := [(5, .int (nI 0)), (4, .int (nI dy)), (0, .ref (h 0)), (1, .int (nI i)), (2, .int (nI c0)), (3, .int (nI n))]) hx hb dX6_hays_82 hl (by decide) rfl (fun ls hl => ?_)
                    have loop84 : ∀ (fu : Nat) (c2 : Nat), (c2 ≤ 25) → (25 < c2 + fu) → ∀ (f1 : Nat → Int32), fE f f1 → ∀ (H : Heap) (locs : List Loc), mdH D h dA s.heap H locs f1 (va_up (va_up a 12 (F)) 13 (cpk (fun _ => nI 100) T c2)) → ∀ (ls : Array Slot), lv_has ls 10 [(5, .int (nI c2)), (4, .int (nI dy)), (0, .ref (h 0)), (1, .int (nI i)), (2, .int (nI c0)), (3, .int (nI n))] → W p l e R s m args below meth c H locs 0 0 Q (F0 m 84 ls []) := by
                      intro fu
                      induction fu with
                      | zero =>
                        intro c2 hc2 hf2
                        omega
                      | succ fu ih84 =>
                        intro c2 hc2 hf2 f84 he84 H locs hM ls hl
                        refine lv_iload hx hb dX6_hays_84 (lv_at hl 0 rfl) ?_
                        refine lv_bipush (v := nI 25) hx hb dX6_hays_86 (by decide) ?_
                        refine w_icmp_geN (tgt := 106) hx hb (by omega) (by omega) dX6_hays_88 (by decide) (fun c_7 => ?_) (fun c_7 => ?_)
                        · have hM := (hM.cong 13 (fun _ => nI 100) rfl rfl (fun j hj => by rw [va_us]; unfold cpk; rw [if_pos (by omega)])).to rfl (va_uu _ _ _ _)
                          refine lv_iconst (v := nI 0) hx hb dX6_hays_106 (by decide) ?_
                          refine lv_istore (lv' := [(5, .int (nI 0)), (4, .int (nI dy)), (0, .ref (h 0)), (1, .int (nI i)), (2, .int (nI c0)), (3, .int (nI n))]) hx hb dX6_hays_107 hl (by decide) rfl (fun ls hl => ?_)
                          have loop109 : ∀ (fu : Nat) (k2 : Nat), (k2 ≤ 25) → (25 < k2 + fu) → ∀ (f1 : Nat → Int32), fE f f1 → ∀ (H : Heap) (locs : List Loc), mdH D h dA s.heap H locs f1 (va_up (va_up a 12 (F)) 13 (hyK (a 1) i (F) k2 (fun _ => nI 100))) → ∀ (ls : Array Slot), lv_has ls 10 [(5, .int (nI k2)), (4, .int (nI dy)), (0, .ref (h 0)), (1, .int (nI i)), (2, .int (nI c0)), (3, .int (nI n))] → W p l e R s m args below meth c H locs 0 0 Q (F0 m 109 ls []) := by
                            intro fu
                            induction fu with
                            | zero =>
                              intro k2 hk2 hf3
                              omega
                            | succ fu ih109 =>
                              intro k2 hk2 hf3 f109 he109 H locs hM ls hl
                              refine lv_iload hx hb dX6_hays_109 (lv_at hl 0 rfl) ?_
                              refine lv_bipush (v := nI 25) hx hb dX6_hays_111 (by decide) ?_
                              refine w_icmp_geN (tgt := 203) hx hb (by omega) (by omega) dX6_hays_113 (by decide) (fun c_8 => ?_) (fun c_8 => ?_)
                              · refine lv_iconst (v := nI 0) hx hb dX6_hays_203 (by decide) ?_
                                refine lv_istore (lv' := [(5, .int (nI 0)), (4, .int (nI dy)), (0, .ref (h 0)), (1, .int (nI i)), (2, .int (nI c0)), (3, .int (nI n))]) hx hb dX6_hays_204 hl (by decide) rfl (fun ls hl => ?_)
                                have loop206 : ∀ (fu : Nat) (c3 : Nat), (c3 ≤ 25) → (25 < c3 + fu) → ∀ (f1 : Nat → Int32), fE f f1 → ∀ (H : Heap) (locs : List Loc), mdH D h dA s.heap H locs f1 (va_up (va_up a 12 (cpk Z1 F c3)) 13 (Z1)) → ∀ (ls : Array Slot), lv_has ls 10 [(5, .int (nI c3)), (4, .int (nI dy)), (0, .ref (h 0)), (1, .int (nI i)), (2, .int (nI c0)), (3, .int (nI n))] → W p l e R s m args below meth c H locs 0 0 Q (F0 m 206 ls []) := by
                                  intro fu
                                  induction fu with
                                  | zero =>
                                    intro c3 hc3 hf5
                                    omega
                                  | succ fu ih206 =>
                                    intro c3 hc3 hf5 f206 he206 H locs hM ls hl
                                    refine lv_iload hx hb dX6_hays_206 (lv_at hl 0 rfl) ?_
                                    refine lv_bipush (v := nI 25) hx hb dX6_hays_208 (by decide) ?_
                                    refine w_icmp_geN (tgt := 233) hx hb (by omega) (by omega) dX6_hays_210 (by decide) (fun c_9 => ?_) (fun c_9 => ?_)
                                    · have hM := (hM.cong 12 Z1 rfl rfl (fun j hj => by show cpk _ _ _ _ = _; unfold cpk; rw [if_pos (by omega)])).to rfl (va_c2 _ (by decide) _ _ _)
                                      refine lv_iinc (v := nI (dy + 1)) (lv' := [(4, .int (nI (dy + 1))), (5, .int (nI c3)), (0, .ref (h 0)), (1, .int (nI i)), (2, .int (nI c0)), (3, .int (nI n))]) hx hb dX6_hays_233 hl (k := 1) rfl (by rw [show Int32.ofInt 1 = nI 1 from by decide]; exact nI_add _ _) (by decide) rfl (fun ls hl => ?_)
                                      refine lv_goto (tgt := 75) hx hb dX6_hays_236 (by decide) ?_
                                      exact ih75 (dy + 1) Z1 Z1 (by omega) (by omega) hZ1 (Or.inr rfl) _ he206 _ _ hM ls (lv_sub hl [0, 2, 3, 4, 5] rfl)
                                    · refine lv_aload_n hx hb dX6_hays_213 rfl (lv_at hl 2 rfl) ?_
                                      refine md_get (v := .ref (h 12)) hx hb hts hown hK hM 21 (by decide) q1411 rfl rfl dX6_hays_214 ?_
                                      refine lv_iload hx hb dX6_hays_217 (lv_at hl 0 rfl) ?_
                                      refine lv_aload_n hx hb dX6_hays_219 rfl (lv_at hl 2 rfl) ?_
                                      refine md_get (v := .ref (h 13)) hx hb hts hown hK hM 22 (by decide) q1412 rfl rfl dX6_hays_220 ?_
                                      refine lv_iload hx hb dX6_hays_223 (lv_at hl 0 rfl) ?_
                                      refine md_iald hx hb hK hM 13 rfl c3 ⟨by omega, by decide, rfl⟩ dX6_hays_225 ?_
                                      refine w_top (Z1 c3) (rfl) ?_
                                      refine md_iast hx hb hK hI hM 12 rfl c3 ⟨by omega, by decide, rfl⟩ rfl dX6_hays_226 (fun H locs hM => ?_)
                                      refine lv_iinc (v := nI (c3 + 1)) (lv' := [(5, .int (nI (c3 + 1))), (4, .int (nI dy)), (0, .ref (h 0)), (1, .int (nI i)), (2, .int (nI c0)), (3, .int (nI n))]) hx hb dX6_hays_227 hl (k := 0) rfl (by rw [show Int32.ofInt 1 = nI 1 from by decide]; exact nI_add _ _) (by decide) rfl (fun ls hl => ?_)
                                      refine lv_goto (tgt := 206) hx hb dX6_hays_230 (by decide) ?_
                                      exact ih206 (c3 + 1) (by omega) (by omega) _ he206 _ _ (hM.to rfl (by rw [va_c2 _ (by decide)]; exact congrArg (fun z => va_up (va_up a 12 z) 13 (Z1)) (cpk_u _ _ _))) ls (lv_sub hl [0, 1, 2, 3, 4, 5] rfl)
                                exact loop206 26 0 (by omega) (by omega) _ he109 _ _ (hM.to rfl (by rw [cpk_z, hZ1, hyI, ← hF, show k2 = 25 by omega])) ls (lv_sub hl [0, 1, 2, 3, 4, 5] rfl)
                              · refine lv_aload_n hx hb dX6_hays_116 rfl (lv_at hl 2 rfl) ?_
                                refine lv_iload_n hx hb dX6_hays_117 rfl (lv_at hl 3 rfl) ?_
                                refine lv_iload hx hb dX6_hays_118 (lv_at hl 0 rfl) ?_
                                refine md_callXI (y := yX6_wayFrom) hx hb hml hown hts hK hI hM (met_wayFrom f109 (va_up (va_up a 12 (F)) 13 (hyK (a 1) i (F) k2 (fun _ => nI 100))) i k2 (by omega) (by omega) hT hq) q1586 q1588 qs40 q1589 ndX6_wayFrom rfl (by rw [hRf]; decide) (by rw [hRl]; decide) hl.1 rfl (Nat.le_of_ble_eq_true rfl) dX6_hays_120 (fun H locs f_10 hf_10 hM => ?_)
                                have ef_10 : fE f f_10 := he109.tr hf_10
                                refine w_top (nI ((wayS (a 1) i k2 4).1)) (rfl) ?_
                                refine lv_istore (lv' := [(6, .int (nI ((wayS (a 1) i k2 4).1))), (5, .int (nI k2)), (4, .int (nI dy)), (0, .ref (h 0)), (1, .int (nI i)), (2, .int (nI c0)), (3, .int (nI n))]) hx hb dX6_hays_123 hl (by decide) rfl (fun ls hl => ?_)
                                refine lv_iconst (v := nI 0) hx hb dX6_hays_125 (by decide) ?_
                                refine lv_istore (lv' := [(7, .int (nI 0)), (6, .int (nI ((wayS (a 1) i k2 4).1))), (5, .int (nI k2)), (4, .int (nI dy)), (0, .ref (h 0)), (1, .int (nI i)), (2, .int (nI c0)), (3, .int (nI n))]) hx hb dX6_hays_126 hl (by decide) rfl (fun ls hl => ?_)
                                have loop128 : ∀ (fu : Nat) (w : Nat), (w ≤ 5) → (5 < w + fu) → ∀ (f1 : Nat → Int32), fE f f1 → ∀ (H : Heap) (locs : List Loc), mdH D h dA s.heap H locs f1 (va_up (va_up a 12 (F)) 13 (hyW (F) (wayS (a 1) i k2 4).1 k2 w (hyK (a 1) i (F) k2 (fun _ => nI 100)))) → ∀ (ls : Array Slot), lv_has ls 10 [(7, .int (nI w)), (6, .int (nI ((wayS (a 1) i k2 4).1))), (5, .int (nI k2)), (4, .int (nI dy)), (0, .ref (h 0)), (1, .int (nI i)), (2, .int (nI c0)), (3, .int (nI n))] → W p l e R s m args below meth c H locs 0 0 Q (F0 m 128 ls []) := by
                                  intro fu
                                  induction fu with
                                  | zero =>
                                    intro w hw hf4
                                    omega
                                  | succ fu ih128 =>
                                    intro w hw hf4 f128 he128 H locs hM ls hl
                                    refine lv_iload hx hb dX6_hays_128 (lv_at hl 0 rfl) ?_
                                    refine lv_iconst (v := nI 5) hx hb dX6_hays_130 (by decide) ?_
                                    refine w_icmp_geN (tgt := 197) hx hb (by omega) (by omega) dX6_hays_131 (by decide) (fun c_11 => ?_) (fun c_11 => ?_)
                                    · refine lv_iinc (v := nI (k2 + 1)) (lv' := [(5, .int (nI (k2 + 1))), (7, .int (nI w)), (6, .int (nI ((wayS (a 1) i k2 4).1))), (4, .int (nI dy)), (0, .ref (h 0)), (1, .int (nI i)), (2, .int (nI c0)), (3, .int (nI n))]) hx hb dX6_hays_197 hl (k := 2) rfl (by rw [show Int32.ofInt 1 = nI 1 from by decide]; exact nI_add _ _) (by decide) rfl (fun ls hl => ?_)
                                      refine lv_goto (tgt := 109) hx hb dX6_hays_200 (by decide) ?_
                                      exact ih109 (k2 + 1) (by omega) (by omega) _ he128 _ _ (hM.to rfl (by rw [show w = 5 by omega]; rfl)) ls (lv_sub hl [0, 3, 4, 5, 6, 7] rfl)
                                    · refine lv_iload hx hb dX6_hays_134 (lv_at hl 2 rfl) ?_
                                      refine lv_iload hx hb dX6_hays_136 (lv_at hl 0 rfl) ?_
                                      refine st_callI (y := yX6_beside) hx hb hml hown hts (met_beside k2 w (by omega) (by omega)) q1598 q1599 q70 q1600 ndX6_beside rfl (by rw [hRf]; decide) (by rw [hRl]; decide) ⟨Nat.zero_le _, Nat.zero_le _⟩ hl.1 rfl (Nat.le_of_ble_eq_true rfl) dX6_hays_138 ?_
                                      refine lv_istore (lv' := [(8, .int (oI (nxt k2 w))), (7, .int (nI w)), (6, .int (nI ((wayS (a 1) i k2 4).1))), (5, .int (nI k2)), (4, .int (nI dy)), (0, .ref (h 0)), (1, .int (nI i)), (2, .int (nI c0)), (3, .int (nI n))]) hx hb dX6_hays_141 hl (by decide) rfl (fun ls hl => ?_)
                                      refine lv_aload_n hx hb dX6_hays_143 rfl (lv_at hl 5 rfl) ?_
                                      refine md_get (v := .ref (h 12)) hx hb hts hown hK hM 21 (by decide) q1411 rfl rfl dX6_hays_144 ?_
                                      refine lv_iload hx hb dX6_hays_147 (lv_at hl 3 rfl) ?_
                                      refine md_iald hx hb hK hM 12 rfl k2 ⟨by omega, by decide, rfl⟩ dX6_hays_149 ?_
                                      refine w_top (F k2) (rfl) ?_
                                      refine lv_iload hx hb dX6_hays_150 (lv_at hl 1 rfl) ?_
                                      refine lv_iload hx hb dX6_hays_152 (lv_at hl 2 rfl) ?_
                                      have j162 : ∀ (f1 : Nat → Int32), fE f f1 → ∀ (H : Heap) (locs : List Loc), mdH D h dA s.heap H locs f1 (va_up (va_up a 12 (F)) 13 (hyW (F) (wayS (a 1) i k2 4).1 k2 w (hyK (a 1) i (F) k2 (fun _ => nI 100)))) → ∀ (ls : Array Slot), lv_has ls 10 [(8, .int (oI (nxt k2 w))), (7, .int (nI w)), (6, .int (nI ((wayS (a 1) i k2 4).1))), (5, .int (nI k2)), (4, .int (nI dy)), (0, .ref (h 0)), (1, .int (nI i)), (2, .int (nI c0)), (3, .int (nI n))] → W p l e R s m args below meth c H locs 0 0 Q (F0 m 162 ls [.int (if nI w = nI (wayS (a 1) i k2 4).1 then nI 0 else nI 1), .int (F k2)]) := by
                                        intro   fj162 hj162 H locs hM ls hl
                                        refine lv_iadd hx hb dX6_hays_162 ?_
                                        refine w_top (hyV (F) (wayS (a 1) i k2 4).1 k2 w) (rfl) ?_
                                        refine lv_istore (lv' := [(9, .int (hyV (F) (wayS (a 1) i k2 4).1 k2 w)), (8, .int (oI (nxt k2 w))), (7, .int (nI w)), (6, .int (nI ((wayS (a 1) i k2 4).1))), (5, .int (nI k2)), (4, .int (nI dy)), (0, .ref (h 0)), (1, .int (nI i)), (2, .int (nI c0)), (3, .int (nI n))]) hx hb dX6_hays_163 hl (by decide) rfl (fun ls hl => ?_)
                                        refine lv_iload hx hb dX6_hays_165 (lv_at hl 1 rfl) ?_
                                        refine lv_if_lt (tgt := 191) hx hb dX6_hays_167 (by decide) (fun c_12 => ?_) (fun c_12 => ?_)
                                        · refine lv_iinc (v := nI (w + 1)) (lv' := [(7, .int (nI (w + 1))), (9, .int (hyV (F) (wayS (a 1) i k2 4).1 k2 w)), (8, .int (oI (nxt k2 w))), (6, .int (nI ((wayS (a 1) i k2 4).1))), (5, .int (nI k2)), (4, .int (nI dy)), (0, .ref (h 0)), (1, .int (nI i)), (2, .int (nI c0)), (3, .int (nI n))]) hx hb dX6_hays_191 hl (k := 2) rfl (by rw [show Int32.ofInt 1 = nI 1 from by decide]; exact nI_add _ _) (by decide) rfl (fun ls hl => ?_)
                                          refine lv_goto (tgt := 128) hx hb dX6_hays_194 (by decide) ?_
                                          exact ih128 (w + 1) (by omega) (by omega) _ hj162 _ _ (hM.to rfl (by rw [hyW_n (oI_neg (Int32.not_le.mpr c_12) (fun z hz => by have := nxt_lt (by omega) hz; omega))])) ls (lv_sub hl [0, 3, 4, 5, 6, 7, 8, 9] rfl)
                                        · obtain ⟨d, hd1, hd2⟩ := oI_pos (Int32.not_lt.mp c_12)
                                          have hd3 := nxt_lt (by omega) hd1
                                          refine lv_iload hx hb dX6_hays_170 (lv_at hl 0 rfl) ?_
                                          refine lv_aload_n hx hb dX6_hays_172 rfl (lv_at hl 6 rfl) ?_
                                          refine md_get (v := .ref (h 13)) hx hb hts hown hK hM 22 (by decide) q1412 rfl rfl dX6_hays_173 ?_
                                          refine lv_iload hx hb dX6_hays_176 (lv_at hl 1 rfl) ?_
                                          refine md_iald hx hb hK hM 13 rfl d ⟨by omega, by decide, hd2⟩ dX6_hays_178 ?_
                                          refine w_top ((hyW (F) (wayS (a 1) i k2 4).1 k2 w (hyK (a 1) i (F) k2 (fun _ => nI 100))) d) (rfl) ?_
                                          refine lv_icmp_ge (tgt := 191) hx hb dX6_hays_179 (by decide) (fun c_13 => ?_) (fun c_13 => ?_)
                                          · refine lv_iinc (v := nI (w + 1)) (lv' := [(7, .int (nI (w + 1))), (9, .int (hyV (F) (wayS (a 1) i k2 4).1 k2 w)), (8, .int (oI (nxt k2 w))), (6, .int (nI ((wayS (a 1) i k2 4).1))), (5, .int (nI k2)), (4, .int (nI dy)), (0, .ref (h 0)), (1, .int (nI i)), (2, .int (nI c0)), (3, .int (nI n))]) hx hb dX6_hays_191 hl (k := 2) rfl (by rw [show Int32.ofInt 1 = nI 1 from by decide]; exact nI_add _ _) (by decide) rfl (fun ls hl => ?_)
                                            refine lv_goto (tgt := 128) hx hb dX6_hays_194 (by decide) ?_
                                            exact ih128 (w + 1) (by omega) (by omega) _ hj162 _ _ (hM.to rfl (by rw [hyW_z hd1 (Int32.not_lt.mpr c_13)])) ls (lv_sub hl [0, 3, 4, 5, 6, 7, 8, 9] rfl)
                                          · refine lv_aload_n hx hb dX6_hays_182 rfl (lv_at hl 6 rfl) ?_
                                            refine md_get (v := .ref (h 13)) hx hb hts hown hK hM 22 (by decide) q1412 rfl rfl dX6_hays_183 ?_
                                            refine lv_iload hx hb dX6_hays_186 (lv_at hl 1 rfl) ?_
                                            refine lv_iload hx hb dX6_hays_188 (lv_at hl 0 rfl) ?_
                                            refine md_iast hx hb hK hI hM 13 rfl d ⟨by omega, by decide, hd2⟩ rfl dX6_hays_190 (fun H locs hM => ?_)
                                            refine lv_iinc (v := nI (w + 1)) (lv' := [(7, .int (nI (w + 1))), (9, .int (hyV (F) (wayS (a 1) i k2 4).1 k2 w)), (8, .int (oI (nxt k2 w))), (6, .int (nI ((wayS (a 1) i k2 4).1))), (5, .int (nI k2)), (4, .int (nI dy)), (0, .ref (h 0)), (1, .int (nI i)), (2, .int (nI c0)), (3, .int (nI n))]) hx hb dX6_hays_191 hl (k := 2) rfl (by rw [show Int32.ofInt 1 = nI 1 from by decide]; exact nI_add _ _) (by decide) rfl (fun ls hl => ?_)
                                            refine lv_goto (tgt := 128) hx hb dX6_hays_194 (by decide) ?_
                                            exact ih128 (w + 1) (by omega) (by omega) _ hj162 _ _ (hM.to rfl (by rw [va_uu, va_us, hyW_y hd1 (Int32.not_le.mp c_13)])) ls (lv_sub hl [0, 3, 4, 5, 6, 7, 8, 9] rfl)
                                      refine lv_icmp_ne (tgt := 161) hx hb dX6_hays_154 (by decide) (fun c_14 => ?_) (fun c_14 => ?_)
                                      · refine lv_iconst (v := nI 1) hx hb dX6_hays_161 (by decide) ?_
                                        refine w_top (if nI w = nI (wayS (a 1) i k2 4).1 then nI 0 else nI 1) ((if_neg c_14).symm) ?_
                                        exact j162   _ he128 _ _ hM ls (lv_sub hl [0, 1, 2, 3, 4, 5, 6, 7, 8] rfl)
                                      · refine lv_iconst (v := nI 0) hx hb dX6_hays_157 (by decide) ?_
                                        refine lv_goto (tgt := 162) hx hb dX6_hays_158 (by decide) ?_
                                        refine w_top (if nI w = nI (wayS (a 1) i k2 4).1 then nI 0 else nI 1) ((if_pos c_14).symm) ?_
                                        exact j162   _ he128 _ _ hM ls (lv_sub hl [0, 1, 2, 3, 4, 5, 6, 7, 8] rfl)
                                exact loop128 6 0 (by omega) (by omega) _ ef_10 _ _ hM ls (lv_sub hl [0, 1, 2, 3, 4, 5, 6, 7] rfl)
                          exact loop109 26 0 (by omega) (by omega) _ he84 _ _ hM ls (lv_sub hl [0, 1, 2, 3, 4, 5] rfl)
                        · refine lv_aload_n hx hb dX6_hays_91 rfl (lv_at hl 2 rfl) ?_
                          refine md_get (v := .ref (h 13)) hx hb hts hown hK hM 22 (by decide) q1412 rfl rfl dX6_hays_92 ?_
                          refine lv_iload hx hb dX6_hays_95 (lv_at hl 0 rfl) ?_
                          refine lv_bipush (v := nI 100) hx hb dX6_hays_97 (by decide) ?_
                          refine md_iast hx hb hK hI hM 13 rfl c2 ⟨by omega, by decide, rfl⟩ rfl dX6_hays_99 (fun H locs hM => ?_)
                          refine lv_iinc (v := nI (c2 + 1)) (lv' := [(5, .int (nI (c2 + 1))), (4, .int (nI dy)), (0, .ref (h 0)), (1, .int (nI i)), (2, .int (nI c0)), (3, .int (nI n))]) hx hb dX6_hays_100 hl (k := 0) rfl (by rw [show Int32.ofInt 1 = nI 1 from by decide]; exact nI_add _ _) (by decide) rfl (fun ls hl => ?_)
                          refine lv_goto (tgt := 84) hx hb dX6_hays_103 (by decide) ?_
                          exact ih84 (c2 + 1) (by omega) (by omega) _ he84 _ _ (hM.to rfl (by rw [va_uu, va_us]; exact congrArg (va_up (va_up a 12 (F)) 13) (cpk_u (fun _ => nI 100) T c2))) ls (lv_sub hl [0, 1, 2, 3, 4, 5] rfl)
                    exact loop84 26 0 (by omega) (by omega) _ he75 _ _ (hM.to rfl (by rw [cpk_z])) ls (lv_sub hl [0, 1, 2, 3, 4, 5] rfl)
              exact loop75 (n + 1) 0 Z0 (a 13) (by omega) (by omega) hZ0 (Or.inl rfl) _ he35 _ _ hM ls (lv_sub hl [0, 1, 2, 3, 4] rfl)
            · refine lv_aload_n hx hb dX6_hays_42 rfl (lv_at hl 1 rfl) ?_
              refine md_get (v := .ref (h 12)) hx hb hts hown hK hM 21 (by decide) q1411 rfl rfl dX6_hays_43 ?_
              refine lv_iload hx hb dX6_hays_46 (lv_at hl 0 rfl) ?_
              refine lv_iload hx hb dX6_hays_48 (lv_at hl 0 rfl) ?_
              refine lv_aload_n hx hb dX6_hays_50 rfl (lv_at hl 1 rfl) ?_
              refine lv_iload_n hx hb dX6_hays_51 rfl (lv_at hl 2 rfl) ?_
              refine lv_iconst (v := nI 2) hx hb dX6_hays_52 (by decide) ?_
              refine md_callI (y := yX6_its) hx hb hml hown hts hK hI hM (met_its f35 (va_up a 12 (cpk Z0 (a 12) k)) i 2 (by omega)) q1557 q1559 qs35 q1560 ndX6_its rfl (by rw [hRf]; decide) (by rw [hRl]; decide) hl.1 rfl (Nat.le_of_ble_eq_true rfl) dX6_hays_53 (fun H locs hM => ?_)
              refine w_top (a 1 (58 + 14 * i + 2)) (rfl) ?_
              have j65 : ∀ (f1 : Nat → Int32), fE f f1 → ∀ (H : Heap) (locs : List Loc), mdH D h dA s.heap H locs f1 (va_up a 12 (cpk Z0 (a 12) k)) → ∀ (ls : Array Slot), lv_has ls 10 [(4, .int (nI k)), (0, .ref (h 0)), (1, .int (nI i)), (2, .int (nI c0)), (3, .int (nI n))] → W p l e R s m args below meth c H locs 0 0 Q (F0 m 65 ls [.int (Z0 k), .int (nI k), .ref (h 12)]) := by
                intro   fj65 hj65 H locs hM ls hl
                refine md_iast hx hb hK hI hM 12 rfl k ⟨by omega, by decide, rfl⟩ rfl dX6_hays_65 (fun H locs hM => ?_)
                refine lv_iinc (v := nI (k + 1)) (lv' := [(4, .int (nI (k + 1))), (0, .ref (h 0)), (1, .int (nI i)), (2, .int (nI c0)), (3, .int (nI n))]) hx hb dX6_hays_66 hl (k := 0) rfl (by rw [show Int32.ofInt 1 = nI 1 from by decide]; exact nI_add _ _) (by decide) rfl (fun ls hl => ?_)
                refine lv_goto (tgt := 35) hx hb dX6_hays_69 (by decide) ?_
                exact ih35 (k + 1) (by omega) (by omega) _ hj65 _ _ (hM.to rfl (by rw [va_uu, va_us, cpk_u])) ls (lv_sub hl [0, 1, 2, 3, 4] rfl)
              refine lv_icmp_ne (tgt := 63) hx hb dX6_hays_56 (by decide) (fun c_15 => ?_) (fun c_15 => ?_)
              · refine lv_bipush (v := nI 100) hx hb dX6_hays_63 (by decide) ?_
                refine w_top (Z0 k) (by rw [hZ0]; exact (if_neg c_15).symm) ?_
                exact j65   _ he35 _ _ hM ls (lv_sub hl [0, 1, 2, 3, 4] rfl)
              · refine lv_iconst (v := nI 0) hx hb dX6_hays_59 (by decide) ?_
                refine lv_goto (tgt := 65) hx hb dX6_hays_60 (by decide) ?_
                refine w_top (Z0 k) (by rw [hZ0]; exact (if_pos c_15).symm) ?_
                exact j65   _ he35 _ _ hM ls (lv_sub hl [0, 1, 2, 3, 4] rfl)
        exact loop35 26 0 (by omega) (by omega) _ fE.rf _ _ (hM.to rfl (by rw [cpk_z]; exact va_self a 12)) ls (lv_sub hl [0, 1, 2, 3, 4] rfl)
      · exact absurd (by first | exact (in_nat (by decide)).mpr ⟨_, by omega, rfl⟩ | exact (in_nat1 _ (by decide) (by decide)).mpr ⟨_, by omega, by omega, rfl⟩ | exact cow_in hN (by omega) | assumption) c_3
set_option maxHeartbeats 400000 in
theorem met_hays_n (f : Nat → Int32) (a : Nat → Nat → Int32) (i : Nat) (hi : i < cl (a 1 3)) (hN : okN (a 1 3) 5) (c0 : Nat) (hc : c0 < 25) (n : Nat) (h1 : 1 ≤ n) (h30 : n ≤ 30) (hT : okT (a 1)) (hq : okN (a 1 (58 + 14 * i + 3)) 10) (hres : ¬ (hyI (a 1) i n) c0 < nI 100) : MdX yX6_hays cX6_hays 10 (some .int) 44 1117 [.int (nI i), .int (nI c0), .int (nI n)] f a (some (.int (-1000000002 : Int32))) (mErr (va_up (va_up a 12 (hyI (a 1) i n)) 13 (hyI (a 1) i n)) 2) := by
  refine MdX.ofI (by decide) rfl (Nat.le_of_ble_eq_true rfl) ?_
  intro p l e R s m args below meth c Q D h dA ls hx hb hml hRf hRl hts hown hK hI hM hl hret
  have hl : lv_has ls 10 [(0, .ref (h 0)), (1, .int (nI i)), (2, .int (nI c0)), (3, .int (nI n))] := hl
  have hN2 := hN.2
  refine lv_aload_n hx hb dX6_hays_0 rfl (lv_at hl 0 rfl) ?_
  refine lv_iload_n hx hb dX6_hays_1 rfl (lv_at hl 1 rfl) ?_
  refine md_callI (y := yX6_isCow) hx hb hml hown hts hK hI hM (met_isCow f a (nI i)) q1574 q1576 qs37 q1577 ndX6_isCow rfl (by rw [hRf]; decide) (by rw [hRl]; decide) hl.1 rfl (Nat.le_of_ble_eq_true rfl) dX6_hays_2 (fun H locs hM => ?_)
  refine w_if_eqT (tgt := 25) hx hb dX6_hays_5 (by decide) (fun c_1 => ?_) (fun c_1 => ?_)
  · exact absurd (by first | exact (in_nat (by decide)).mpr ⟨_, by omega, rfl⟩ | exact (in_nat1 _ (by decide) (by decide)).mpr ⟨_, by omega, by omega, rfl⟩ | exact cow_in hN (by omega) | assumption) c_1
  · refine lv_iload_n hx hb dX6_hays_8 rfl (lv_at hl 2 rfl) ?_
    refine st_callI (y := yX6_isCell) hx hb hml hown hts (met_isCell (nI c0)) q1479 q1480 q70 q1481 ndX6_isCell rfl (by rw [hRf]; decide) (by rw [hRl]; decide) ⟨Nat.zero_le _, Nat.zero_le _⟩ hl.1 rfl (Nat.le_of_ble_eq_true rfl) dX6_hays_9 ?_
    refine w_if_eqT (tgt := 25) hx hb dX6_hays_12 (by decide) (fun c_2 => ?_) (fun c_2 => ?_)
    · exact absurd (by first | exact (in_nat (by decide)).mpr ⟨_, by omega, rfl⟩ | exact (in_nat1 _ (by decide) (by decide)).mpr ⟨_, by omega, by omega, rfl⟩ | exact cow_in hN (by omega) | assumption) c_2
    · refine lv_iload_n hx hb dX6_hays_15 rfl (lv_at hl 3 rfl) ?_
      refine lv_iconst (v := nI 1) hx hb dX6_hays_16 (by decide) ?_
      refine lv_bipush (v := nI 30) hx hb dX6_hays_17 (by decide) ?_
      refine st_callI (y := yX6_in) hx hb hml hown hts (met_in (nI n) (nI 1) (nI 30)) q1482 q1483 q70 q1484 ndX6_in rfl (by rw [hRf]; decide) (by rw [hRl]; decide) ⟨Nat.zero_le _, Nat.zero_le _⟩ hl.1 rfl (Nat.le_of_ble_eq_true rfl) dX6_hays_19 ?_
      refine w_if_neT (tgt := 32) hx hb dX6_hays_22 (by decide) (fun c_3 => ?_) (fun c_3 => ?_)
      · obtain ⟨Z0, hZ0⟩ : ∃ z : Nat → Int32, z = hyI (a 1) i 0 := ⟨_, rfl⟩
        refine lv_iconst (v := nI 0) hx hb dX6_hays_32 (by decide) ?_
        refine lv_istore (lv' := [(4, .int (nI 0)), (0, .ref (h 0)), (1, .int (nI i)), (2, .int (nI c0)), (3, .int (nI n))]) hx hb dX6_hays_33 hl (by decide) rfl (fun ls hl => ?_)
        have loop35 : ∀ (fu : Nat) (k : Nat), (k ≤ 25) → (25 < k + fu) → ∀ (f1 : Nat → Int32), fE f f1 → ∀ (H : Heap) (locs : List Loc), mdH D h dA s.heap H locs f1 (va_up a 12 (cpk Z0 (a 12) k)) → ∀ (ls : Array Slot), lv_has ls 10 [(4, .int (nI k)), (0, .ref (h 0)), (1, .int (nI i)), (2, .int (nI c0)), (3, .int (nI n))] → W p l e R s m args below meth c H locs 0 0 Q (F0 m 35 ls []) := by
          intro fu
          induction fu with
          | zero =>
            intro k hk hf
            omega
          | succ fu ih35 =>
            intro k hk hf f35 he35 H locs hM ls hl
            refine lv_iload hx hb dX6_hays_35 (lv_at hl 0 rfl) ?_
            refine lv_bipush (v := nI 25) hx hb dX6_hays_37 (by decide) ?_
            refine w_icmp_geN (tgt := 72) hx hb (by omega) (by omega) dX6_hays_39 (by decide) (fun c_4 => ?_) (fun c_4 => ?_)
            · have hM := (hM.cong 12 Z0 rfl rfl (fun j hj => by rw [va_us]; unfold cpk; rw [if_pos (by omega)])).to (a' := va_up (va_up a 12 (Z0)) 13 (a 13)) rfl (by rw [va_uu]; exact va_self (va_up a 12 Z0) 13)
              refine lv_iconst (v := nI 0) hx hb dX6_hays_72 (by decide) ?_
              refine lv_istore (lv' := [(4, .int (nI 0)), (0, .ref (h 0)), (1, .int (nI i)), (2, .int (nI c0)), (3, .int (nI n))]) hx hb dX6_hays_73 hl (by decide) rfl (fun ls hl => ?_)
              have loop75 : ∀ (fu : Nat) (dy : Nat) (F T : Nat → Int32), (dy ≤ n) → (n < dy + fu) → (F = hyI (a 1) i dy) → (dy = 0 ∨ T = F) → ∀ (f1 : Nat → Int32), fE f f1 → ∀ (H : Heap) (locs : List Loc), mdH D h dA s.heap H locs f1 (va_up (va_up a 12 (F)) 13 (T)) → ∀ (ls : Array Slot), lv_has ls 10 [(4, .int (nI dy)), (0, .ref (h 0)), (1, .int (nI i)), (2, .int (nI c0)), (3, .int (nI n))] → W p l e R s m args below meth c H locs 0 0 Q (F0 m 75 ls []) := by
                intro fu
                induction fu with
                | zero =>
                  intro dy F T hd hf hF hT2
                  omega
                | succ fu ih75 =>
                  intro dy F T hd hf hF hT2 f75 he75 H locs hM ls hl
                  refine lv_iload hx hb dX6_hays_75 (lv_at hl 0 rfl) ?_
                  refine lv_iload_n hx hb dX6_hays_77 rfl (lv_at hl 4 rfl) ?_
                  refine w_icmp_geN (tgt := 239) hx hb (by omega) (by omega) dX6_hays_78 (by decide) (fun c_5 => ?_) (fun c_5 => ?_)
                  · have hM := hM.to (a' := va_up (va_up a 12 (hyI (a 1) i n)) 13 (hyI (a 1) i n)) rfl (by rw [hT2.resolve_left (by omega), hF, show dy = n by omega])
                    refine lv_aload_n hx hb dX6_hays_239 rfl (lv_at hl 1 rfl) ?_
                    refine md_get (v := .ref (h 12)) hx hb hts hown hK hM 21 (by decide) q1411 rfl rfl dX6_hays_240 ?_
                    refine lv_iload_n hx hb dX6_hays_243 rfl (lv_at hl 3 rfl) ?_
                    refine md_iald hx hb hK hM 12 rfl c0 ⟨by omega, by decide, rfl⟩ dX6_hays_244 ?_
                    refine w_top ((hyI (a 1) i n) c0) (rfl) ?_
                    refine lv_bipush (v := nI 100) hx hb dX6_hays_245 (by decide) ?_
                    refine lv_icmp_lt (tgt := 259) hx hb dX6_hays_247 (by decide) (fun c_6 => ?_) (fun c_6 => ?_)
                    · exact absurd c_6 hres
                    · refine lv_aload_n hx hb dX6_hays_250 rfl (lv_at hl 1 rfl) ?_
                      refine lv_ldc hx hb hown (hts _ q1605) dX6_hays_251 ?_
                      refine md_callI (y := yX6_errs) hx hb hml hown hts hK hI hM (met_errs f75 (va_up (va_up a 12 (hyI (a 1) i n)) 13 (hyI (a 1) i n)) (-1000000002 : Int32) 2 (by decide) (by decide)) q1486 q1488 qs21 q1489 ndX6_errs rfl (by rw [hRf]; decide) (by rw [hRl]; decide) hl.1 rfl (Nat.le_of_ble_eq_true rfl) dX6_hays_253 (fun H locs hM => ?_)
                      refine lv_goto (tgt := 265) hx hb dX6_hays_256 (by decide) ?_
                      exact hret he75 hM (by first | rfl | (simp only [iI, nI_0, nI_one]; grind)) dX6_hays_265
                  · obtain ⟨Z1, hZ1⟩ : ∃ z : Nat → Int32, z = hyI (a 1) i (dy + 1) := ⟨_, rfl⟩
                    refine lv_iconst (v := nI 0) hx hb dX6_hays_81 (by decide) ?_
                    refine lv_istore (lv' := [(5, .int (nI 0)), (4, .int (nI dy)), (0, .ref (h 0)), (1, .int (nI i)), (2, .int (nI c0)), (3, .int (nI n))]) hx hb dX6_hays_82 hl (by decide) rfl (fun ls hl => ?_)
                    have loop84 : ∀ (fu : Nat) (c2 : Nat), (c2 ≤ 25) → (25 < c2 + fu) → ∀ (f1 : Nat → Int32), fE f f1 → ∀ (H : Heap) (locs : List Loc), mdH D h dA s.heap H locs f1 (va_up (va_up a 12 (F)) 13 (cpk (fun _ => nI 100) T c2)) → ∀ (ls : Array Slot), lv_has ls 10 [(5, .int (nI c2)), (4, .int (nI dy)), (0, .ref (h 0)), (1, .int (nI i)), (2, .int (nI c0)), (3, .int (nI n))] → W p l e R s m args below meth c H locs 0 0 Q (F0 m 84 ls []) := by
                      intro fu
                      induction fu with
                      | zero =>
                        intro c2 hc2 hf2
                        omega
                      | succ fu ih84 =>
                        intro c2 hc2 hf2 f84 he84 H locs hM ls hl
                        refine lv_iload hx hb dX6_hays_84 (lv_at hl 0 rfl) ?_
                        refine lv_bipush (v := nI 25) hx hb dX6_hays_86 (by decide) ?_
                        refine w_icmp_geN (tgt := 106) hx hb (by omega) (by omega) dX6_hays_88 (by decide) (fun c_7 => ?_) (fun c_7 => ?_)
                        · have hM := (hM.cong 13 (fun _ => nI 100) rfl rfl (fun j hj => by rw [va_us]; unfold cpk; rw [if_pos (by omega)])).to rfl (va_uu _ _ _ _)
                          refine lv_iconst (v := nI 0) hx hb dX6_hays_106 (by decide) ?_
                          refine lv_istore (lv' := [(5, .int (nI 0)), (4, .int (nI dy)), (0, .ref (h 0)), (1, .int (nI i)), (2, .int (nI c0)), (3, .int (nI n))]) hx hb dX6_hays_107 hl (by decide) rfl (fun ls hl => ?_)
                          have loop109 : ∀ (fu : Nat) (k2 : Nat), (k2 ≤ 25) → (25 < k2 + fu) → ∀ (f1 : Nat → Int32), fE f f1 → ∀ (H : Heap) (locs : List Loc), mdH D h dA s.heap H locs f1 (va_up (va_up a 12 (F)) 13 (hyK (a 1) i (F) k2 (fun _ => nI 100))) → ∀ (ls : Array Slot), lv_has ls 10 [(5, .int (nI k2)), (4, .int (nI dy)), (0, .ref (h 0)), (1, .int (nI i)), (2, .int (nI c0)), (3, .int (nI n))] → W p l e R s m args below meth c H locs 0 0 Q (F0 m 109 ls []) := by
                            intro fu
                            induction fu with
                            | zero =>
                              intro k2 hk2 hf3
                              omega
                            | succ fu ih109 =>
                              intro k2 hk2 hf3 f109 he109 H locs hM ls hl
                              refine lv_iload hx hb dX6_hays_109 (lv_at hl 0 rfl) ?_
                              refine lv_bipush (v := nI 25) hx hb dX6_hays_111 (by decide) ?_
                              refine w_icmp_geN (tgt := 203) hx hb (by omega) (by omega) dX6_hays_113 (by decide) (fun c_8 => ?_) (fun c_8 => ?_)
                              · refine lv_iconst (v := nI 0) hx hb dX6_hays_203 (by decide) ?_
                                refine lv_istore (lv' := [(5, .int (nI 0)), (4, .int (nI dy)), (0, .ref (h 0)), (1, .int (nI i)), (2, .int (nI c0)), (3, .int (nI n))]) hx hb dX6_hays_204 hl (by decide) rfl (fun ls hl => ?_)
                                have loop206 : ∀ (fu : Nat) (c3 : Nat), (c3 ≤ 25) → (25 < c3 + fu) → ∀ (f1 : Nat → Int32), fE f f1 → ∀ (H : Heap) (locs : List Loc), mdH D h dA s.heap H locs f1 (va_up (va_up a 12 (cpk Z1 F c3)) 13 (Z1)) → ∀ (ls : Array Slot), lv_has ls 10 [(5, .int (nI c3)), (4, .int (nI dy)), (0, .ref (h 0)), (1, .int (nI i)), (2, .int (nI c0)), (3, .int (nI n))] → W p l e R s m args below meth c H locs 0 0 Q (F0 m 206 ls []) := by
                                  intro fu
                                  induction fu with
                                  | zero =>
                                    intro c3 hc3 hf5
                                    omega
                                  | succ fu ih206 =>
                                    intro c3 hc3 hf5 f206 he206 H locs hM ls hl
                                    refine lv_iload hx hb dX6_hays_206 (lv_at hl 0 rfl) ?_
                                    refine lv_bipush (v := nI 25) hx hb dX6_hays_208 (by decide) ?_
                                    refine w_icmp_geN (tgt := 233) hx hb (by omega) (by omega) dX6_hays_210 (by decide) (fun c_9 => ?_) (fun c_9 => ?_)
                                    · have hM := (hM.cong 12 Z1 rfl rfl (fun j hj => by show cpk _ _ _ _ = _; unfold cpk; rw [if_pos (by omega)])).to rfl (va_c2 _ (by decide) _ _ _)
                                      refine lv_iinc (v := nI (dy + 1)) (lv' := [(4, .int (nI (dy + 1))), (5, .int (nI c3)), (0, .ref (h 0)), (1, .int (nI i)), (2, .int (nI c0)), (3, .int (nI n))]) hx hb dX6_hays_233 hl (k := 1) rfl (by rw [show Int32.ofInt 1 = nI 1 from by decide]; exact nI_add _ _) (by decide) rfl (fun ls hl => ?_)
                                      refine lv_goto (tgt := 75) hx hb dX6_hays_236 (by decide) ?_
                                      exact ih75 (dy + 1) Z1 Z1 (by omega) (by omega) hZ1 (Or.inr rfl) _ he206 _ _ hM ls (lv_sub hl [0, 2, 3, 4, 5] rfl)
                                    · refine lv_aload_n hx hb dX6_hays_213 rfl (lv_at hl 2 rfl) ?_
                                      refine md_get (v := .ref (h 12)) hx hb hts hown hK hM 21 (by decide) q1411 rfl rfl dX6_hays_214 ?_
                                      refine lv_iload hx hb dX6_hays_217 (lv_at hl 0 rfl) ?_
                                      refine lv_aload_n hx hb dX6_hays_219 rfl (lv_at hl 2 rfl) ?_
                                      refine md_get (v := .ref (h 13)) hx hb hts hown hK hM 22 (by decide) q1412 rfl rfl dX6_hays_220 ?_
                                      refine lv_iload hx hb dX6_hays_223 (lv_at hl 0 rfl) ?_
                                      refine md_iald hx hb hK hM 13 rfl c3 ⟨by omega, by decide, rfl⟩ dX6_hays_225 ?_
                                      refine w_top (Z1 c3) (rfl) ?_
                                      refine md_iast hx hb hK hI hM 12 rfl c3 ⟨by omega, by decide, rfl⟩ rfl dX6_hays_226 (fun H locs hM => ?_)
                                      refine lv_iinc (v := nI (c3 + 1)) (lv' := [(5, .int (nI (c3 + 1))), (4, .int (nI dy)), (0, .ref (h 0)), (1, .int (nI i)), (2, .int (nI c0)), (3, .int (nI n))]) hx hb dX6_hays_227 hl (k := 0) rfl (by rw [show Int32.ofInt 1 = nI 1 from by decide]; exact nI_add _ _) (by decide) rfl (fun ls hl => ?_)
                                      refine lv_goto (tgt := 206) hx hb dX6_hays_230 (by decide) ?_
                                      exact ih206 (c3 + 1) (by omega) (by omega) _ he206 _ _ (hM.to rfl (by rw [va_c2 _ (by decide)]; exact congrArg (fun z => va_up (va_up a 12 z) 13 (Z1)) (cpk_u _ _ _))) ls (lv_sub hl [0, 1, 2, 3, 4, 5] rfl)
                                exact loop206 26 0 (by omega) (by omega) _ he109 _ _ (hM.to rfl (by rw [cpk_z, hZ1, hyI, ← hF, show k2 = 25 by omega])) ls (lv_sub hl [0, 1, 2, 3, 4, 5] rfl)
                              · refine lv_aload_n hx hb dX6_hays_116 rfl (lv_at hl 2 rfl) ?_
                                refine lv_iload_n hx hb dX6_hays_117 rfl (lv_at hl 3 rfl) ?_
                                refine lv_iload hx hb dX6_hays_118 (lv_at hl 0 rfl) ?_
                                refine md_callXI (y := yX6_wayFrom) hx hb hml hown hts hK hI hM (met_wayFrom f109 (va_up (va_up a 12 (F)) 13 (hyK (a 1) i (F) k2 (fun _ => nI 100))) i k2 (by omega) (by omega) hT hq) q1586 q1588 qs40 q1589 ndX6_wayFrom rfl (by rw [hRf]; decide) (by rw [hRl]; decide) hl.1 rfl (Nat.le_of_ble_eq_true rfl) dX6_hays_120 (fun H locs f_10 hf_10 hM => ?_)
                                have ef_10 : fE f f_10 := he109.tr hf_10
                                refine w_top (nI ((wayS (a 1) i k2 4).1)) (rfl) ?_
                                refine lv_istore (lv' := [(6, .int (nI ((wayS (a 1) i k2 4).1))), (5, .int (nI k2)), (4, .int (nI dy)), (0, .ref (h 0)), (1, .int (nI i)), (2, .int (nI c0)), (3, .int (nI n))]) hx hb dX6_hays_123 hl (by decide) rfl (fun ls hl => ?_)
                                refine lv_iconst (v := nI 0) hx hb dX6_hays_125 (by decide) ?_
                                refine lv_istore (lv' := [(7, .int (nI 0)), (6, .int (nI ((wayS (a 1) i k2 4).1))), (5, .int (nI k2)), (4, .int (nI dy)), (0, .ref (h 0)), (1, .int (nI i)), (2, .int (nI c0)), (3, .int (nI n))]) hx hb dX6_hays_126 hl (by decide) rfl (fun ls hl => ?_)
                                have loop128 : ∀ (fu : Nat) (w : Nat), (w ≤ 5) → (5 < w + fu) → ∀ (f1 : Nat → Int32), fE f f1 → ∀ (H : Heap) (locs : List Loc), mdH D h dA s.heap H locs f1 (va_up (va_up a 12 (F)) 13 (hyW (F) (wayS (a 1) i k2 4).1 k2 w (hyK (a 1) i (F) k2 (fun _ => nI 100)))) → ∀ (ls : Array Slot), lv_has ls 10 [(7, .int (nI w)), (6, .int (nI ((wayS (a 1) i k2 4).1))), (5, .int (nI k2)), (4, .int (nI dy)), (0, .ref (h 0)), (1, .int (nI i)), (2, .int (nI c0)), (3, .int (nI n))] → W p l e R s m args below meth c H locs 0 0 Q (F0 m 128 ls []) := by
                                  intro fu
                                  induction fu with
                                  | zero =>
                                    intro w hw hf4
                                    omega
                                  | succ fu ih128 =>
                                    intro w hw hf4 f128 he128 H locs hM ls hl
                                    refine lv_iload hx hb dX6_hays_128 (lv_at hl 0 rfl) ?_
                                    refine lv_iconst (v := nI 5) hx hb dX6_hays_130 (by decide) ?_
                                    refine w_icmp_geN (tgt := 197) hx hb (by omega) (by omega) dX6_hays_131 (by decide) (fun c_11 => ?_) (fun c_11 => ?_)
                                    · refine lv_iinc (v := nI (k2 + 1)) (lv' := [(5, .int (nI (k2 + 1))), (7, .int (nI w)), (6, .int (nI ((wayS (a 1) i k2 4).1))), (4, .int (nI dy)), (0, .ref (h 0)), (1, .int (nI i)), (2, .int (nI c0)), (3, .int (nI n))]) hx hb dX6_hays_197 hl (k := 2) rfl (by rw [show Int32.ofInt 1 = nI 1 from by decide]; exact nI_add _ _) (by decide) rfl (fun ls hl => ?_)
                                      refine lv_goto (tgt := 109) hx hb dX6_hays_200 (by decide) ?_
                                      exact ih109 (k2 + 1) (by omega) (by omega) _ he128 _ _ (hM.to rfl (by rw [show w = 5 by omega]; rfl)) ls (lv_sub hl [0, 3, 4, 5, 6, 7] rfl)
                                    · refine lv_iload hx hb dX6_hays_134 (lv_at hl 2 rfl) ?_
                                      refine lv_iload hx hb dX6_hays_136 (lv_at hl 0 rfl) ?_
                                      refine st_callI (y := yX6_beside) hx hb hml hown hts (met_beside k2 w (by omega) (by omega)) q1598 q1599 q70 q1600 ndX6_beside rfl (by rw [hRf]; decide) (by rw [hRl]; decide) ⟨Nat.zero_le _, Nat.zero_le _⟩ hl.1 rfl (Nat.le_of_ble_eq_true rfl) dX6_hays_138 ?_
                                      refine lv_istore (lv' := [(8, .int (oI (nxt k2 w))), (7, .int (nI w)), (6, .int (nI ((wayS (a 1) i k2 4).1))), (5, .int (nI k2)), (4, .int (nI dy)), (0, .ref (h 0)), (1, .int (nI i)), (2, .int (nI c0)), (3, .int (nI n))]) hx hb dX6_hays_141 hl (by decide) rfl (fun ls hl => ?_)
                                      refine lv_aload_n hx hb dX6_hays_143 rfl (lv_at hl 5 rfl) ?_
                                      refine md_get (v := .ref (h 12)) hx hb hts hown hK hM 21 (by decide) q1411 rfl rfl dX6_hays_144 ?_
                                      refine lv_iload hx hb dX6_hays_147 (lv_at hl 3 rfl) ?_
                                      refine md_iald hx hb hK hM 12 rfl k2 ⟨by omega, by decide, rfl⟩ dX6_hays_149 ?_
                                      refine w_top (F k2) (rfl) ?_
                                      refine lv_iload hx hb dX6_hays_150 (lv_at hl 1 rfl) ?_
                                      refine lv_iload hx hb dX6_hays_152 (lv_at hl 2 rfl) ?_
                                      have j162 : ∀ (f1 : Nat → Int32), fE f f1 → ∀ (H : Heap) (locs : List Loc), mdH D h dA s.heap H locs f1 (va_up (va_up a 12 (F)) 13 (hyW (F) (wayS (a 1) i k2 4).1 k2 w (hyK (a 1) i (F) k2 (fun _ => nI 100)))) → ∀ (ls : Array Slot), lv_has ls 10 [(8, .int (oI (nxt k2 w))), (7, .int (nI w)), (6, .int (nI ((wayS (a 1) i k2 4).1))), (5, .int (nI k2)), (4, .int (nI dy)), (0, .ref (h 0)), (1, .int (nI i)), (2, .int (nI c0)), (3, .int (nI n))] → W p l e R s m args below meth c H locs 0 0 Q (F0 m 162 ls [.int (if nI w = nI (wayS (a 1) i k2 4).1 then nI 0 else nI 1), .int (F k2)]) := by
                                        intro   fj162 hj162 H locs hM ls hl
                                        refine lv_iadd hx hb dX6_hays_162 ?_
                                        refine w_top (hyV (F) (wayS (a 1) i k2 4).1 k2 w) (rfl) ?_
                                        refine lv_istore (lv' := [(9, .int (hyV (F) (wayS (a 1) i k2 4).1 k2 w)), (8, .int (oI (nxt k2 w))), (7, .int (nI w)), (6, .int (nI ((wayS (a 1) i k2 4).1))), (5, .int (nI k2)), (4, .int (nI dy)), (0, .ref (h 0)), (1, .int (nI i)), (2, .int (nI c0)), (3, .int (nI n))]) hx hb dX6_hays_163 hl (by decide) rfl (fun ls hl => ?_)
                                        refine lv_iload hx hb dX6_hays_165 (lv_at hl 1 rfl) ?_
                                        refine lv_if_lt (tgt := 191) hx hb dX6_hays_167 (by decide) (fun c_12 => ?_) (fun c_12 => ?_)
                                        · refine lv_iinc (v := nI (w + 1)) (lv' := [(7, .int (nI (w + 1))), (9, .int (hyV (F) (wayS (a 1) i k2 4).1 k2 w)), (8, .int (oI (nxt k2 w))), (6, .int (nI ((wayS (a 1) i k2 4).1))), (5, .int (nI k2)), (4, .int (nI dy)), (0, .ref (h 0)), (1, .int (nI i)), (2, .int (nI c0)), (3, .int (nI n))]) hx hb dX6_hays_191 hl (k := 2) rfl (by rw [show Int32.ofInt 1 = nI 1 from by decide]; exact nI_add _ _) (by decide) rfl (fun ls hl => ?_)
                                          refine lv_goto (tgt := 128) hx hb dX6_hays_194 (by decide) ?_
                                          exact ih128 (w + 1) (by omega) (by omega) _ hj162 _ _ (hM.to rfl (by rw [hyW_n (oI_neg (Int32.not_le.mpr c_12) (fun z hz => by have := nxt_lt (by omega) hz; omega))])) ls (lv_sub hl [0, 3, 4, 5, 6, 7, 8, 9] rfl)
                                        · obtain ⟨d, hd1, hd2⟩ := oI_pos (Int32.not_lt.mp c_12)
                                          have hd3 := nxt_lt (by omega) hd1
                                          refine lv_iload hx hb dX6_hays_170 (lv_at hl 0 rfl) ?_
                                          refine lv_aload_n hx hb dX6_hays_172 rfl (lv_at hl 6 rfl) ?_
                                          refine md_get (v := .ref (h 13)) hx hb hts hown hK hM 22 (by decide) q1412 rfl rfl dX6_hays_173 ?_
                                          refine lv_iload hx hb dX6_hays_176 (lv_at hl 1 rfl) ?_
                                          refine md_iald hx hb hK hM 13 rfl d ⟨by omega, by decide, hd2⟩ dX6_hays_178 ?_
                                          refine w_top ((hyW (F) (wayS (a 1) i k2 4).1 k2 w (hyK (a 1) i (F) k2 (fun _ => nI 100))) d) (rfl) ?_
                                          refine lv_icmp_ge (tgt := 191) hx hb dX6_hays_179 (by decide) (fun c_13 => ?_) (fun c_13 => ?_)
                                          · refine lv_iinc (v := nI (w + 1)) (lv' := [(7, .int (nI (w + 1))), (9, .int (hyV (F) (wayS (a 1) i k2 4).1 k2 w)), (8, .int (oI (nxt k2 w))), (6, .int (nI ((wayS (a 1) i k2 4).1))), (5, .int (nI k2)), (4, .int (nI dy)), (0, .ref (h 0)), (1, .int (nI i)), (2, .int (nI c0)), (3, .int (nI n))]) hx hb dX6_hays_191 hl (k := 2) rfl (by rw [show Int32.ofInt 1 = nI 1 from by decide]; exact nI_add _ _) (by decide) rfl (fun ls hl => ?_)
                                            refine lv_goto (tgt := 128) hx hb dX6_hays_194 (by decide) ?_
                                            exact ih128 (w + 1) (by omega) (by omega) _ hj162 _ _ (hM.to rfl (by rw [hyW_z hd1 (Int32.not_lt.mpr c_13)])) ls (lv_sub hl [0, 3, 4, 5, 6, 7, 8, 9] rfl)
                                          · refine lv_aload_n hx hb dX6_hays_182 rfl (lv_at hl 6 rfl) ?_
                                            refine md_get (v := .ref (h 13)) hx hb hts hown hK hM 22 (by decide) q1412 rfl rfl dX6_hays_183 ?_
                                            refine lv_iload hx hb dX6_hays_186 (lv_at hl 1 rfl) ?_
                                            refine lv_iload hx hb dX6_hays_188 (lv_at hl 0 rfl) ?_
                                            refine md_iast hx hb hK hI hM 13 rfl d ⟨by omega, by decide, hd2⟩ rfl dX6_hays_190 (fun H locs hM => ?_)
                                            refine lv_iinc (v := nI (w + 1)) (lv' := [(7, .int (nI (w + 1))), (9, .int (hyV (F) (wayS (a 1) i k2 4).1 k2 w)), (8, .int (oI (nxt k2 w))), (6, .int (nI ((wayS (a 1) i k2 4).1))), (5, .int (nI k2)), (4, .int (nI dy)), (0, .ref (h 0)), (1, .int (nI i)), (2, .int (nI c0)), (3, .int (nI n))]) hx hb dX6_hays_191 hl (k := 2) rfl (by rw [show Int32.ofInt 1 = nI 1 from by decide]; exact nI_add _ _) (by decide) rfl (fun ls hl => ?_)
                                            refine lv_goto (tgt := 128) hx hb dX6_hays_194 (by decide) ?_
                                            exact ih128 (w + 1) (by omega) (by omega) _ hj162 _ _ (hM.to rfl (by rw [va_uu, va_us, hyW_y hd1 (Int32.not_le.mp c_13)])) ls (lv_sub hl [0, 3, 4, 5, 6, 7, 8, 9] rfl)
                                      refine lv_icmp_ne (tgt := 161) hx hb dX6_hays_154 (by decide) (fun c_14 => ?_) (fun c_14 => ?_)
                                      · refine lv_iconst (v := nI 1) hx hb dX6_hays_161 (by decide) ?_
                                        refine w_top (if nI w = nI (wayS (a 1) i k2 4).1 then nI 0 else nI 1) ((if_neg c_14).symm) ?_
                                        exact j162   _ he128 _ _ hM ls (lv_sub hl [0, 1, 2, 3, 4, 5, 6, 7, 8] rfl)
                                      · refine lv_iconst (v := nI 0) hx hb dX6_hays_157 (by decide) ?_
                                        refine lv_goto (tgt := 162) hx hb dX6_hays_158 (by decide) ?_
                                        refine w_top (if nI w = nI (wayS (a 1) i k2 4).1 then nI 0 else nI 1) ((if_pos c_14).symm) ?_
                                        exact j162   _ he128 _ _ hM ls (lv_sub hl [0, 1, 2, 3, 4, 5, 6, 7, 8] rfl)
                                exact loop128 6 0 (by omega) (by omega) _ ef_10 _ _ hM ls (lv_sub hl [0, 1, 2, 3, 4, 5, 6, 7] rfl)
                          exact loop109 26 0 (by omega) (by omega) _ he84 _ _ hM ls (lv_sub hl [0, 1, 2, 3, 4, 5] rfl)
                        · refine lv_aload_n hx hb dX6_hays_91 rfl (lv_at hl 2 rfl) ?_
                          refine md_get (v := .ref (h 13)) hx hb hts hown hK hM 22 (by decide) q1412 rfl rfl dX6_hays_92 ?_
                          refine lv_iload hx hb dX6_hays_95 (lv_at hl 0 rfl) ?_
                          refine lv_bipush (v := nI 100) hx hb dX6_hays_97 (by decide) ?_
                          refine md_iast hx hb hK hI hM 13 rfl c2 ⟨by omega, by decide, rfl⟩ rfl dX6_hays_99 (fun H locs hM => ?_)
                          refine lv_iinc (v := nI (c2 + 1)) (lv' := [(5, .int (nI (c2 + 1))), (4, .int (nI dy)), (0, .ref (h 0)), (1, .int (nI i)), (2, .int (nI c0)), (3, .int (nI n))]) hx hb dX6_hays_100 hl (k := 0) rfl (by rw [show Int32.ofInt 1 = nI 1 from by decide]; exact nI_add _ _) (by decide) rfl (fun ls hl => ?_)
                          refine lv_goto (tgt := 84) hx hb dX6_hays_103 (by decide) ?_
                          exact ih84 (c2 + 1) (by omega) (by omega) _ he84 _ _ (hM.to rfl (by rw [va_uu, va_us]; exact congrArg (va_up (va_up a 12 (F)) 13) (cpk_u (fun _ => nI 100) T c2))) ls (lv_sub hl [0, 1, 2, 3, 4, 5] rfl)
                    exact loop84 26 0 (by omega) (by omega) _ he75 _ _ (hM.to rfl (by rw [cpk_z])) ls (lv_sub hl [0, 1, 2, 3, 4, 5] rfl)
              exact loop75 (n + 1) 0 Z0 (a 13) (by omega) (by omega) hZ0 (Or.inl rfl) _ he35 _ _ hM ls (lv_sub hl [0, 1, 2, 3, 4] rfl)
            · refine lv_aload_n hx hb dX6_hays_42 rfl (lv_at hl 1 rfl) ?_
              refine md_get (v := .ref (h 12)) hx hb hts hown hK hM 21 (by decide) q1411 rfl rfl dX6_hays_43 ?_
              refine lv_iload hx hb dX6_hays_46 (lv_at hl 0 rfl) ?_
              refine lv_iload hx hb dX6_hays_48 (lv_at hl 0 rfl) ?_
              refine lv_aload_n hx hb dX6_hays_50 rfl (lv_at hl 1 rfl) ?_
              refine lv_iload_n hx hb dX6_hays_51 rfl (lv_at hl 2 rfl) ?_
              refine lv_iconst (v := nI 2) hx hb dX6_hays_52 (by decide) ?_
              refine md_callI (y := yX6_its) hx hb hml hown hts hK hI hM (met_its f35 (va_up a 12 (cpk Z0 (a 12) k)) i 2 (by omega)) q1557 q1559 qs35 q1560 ndX6_its rfl (by rw [hRf]; decide) (by rw [hRl]; decide) hl.1 rfl (Nat.le_of_ble_eq_true rfl) dX6_hays_53 (fun H locs hM => ?_)
              refine w_top (a 1 (58 + 14 * i + 2)) (rfl) ?_
              have j65 : ∀ (f1 : Nat → Int32), fE f f1 → ∀ (H : Heap) (locs : List Loc), mdH D h dA s.heap H locs f1 (va_up a 12 (cpk Z0 (a 12) k)) → ∀ (ls : Array Slot), lv_has ls 10 [(4, .int (nI k)), (0, .ref (h 0)), (1, .int (nI i)), (2, .int (nI c0)), (3, .int (nI n))] → W p l e R s m args below meth c H locs 0 0 Q (F0 m 65 ls [.int (Z0 k), .int (nI k), .ref (h 12)]) := by
                intro   fj65 hj65 H locs hM ls hl
                refine md_iast hx hb hK hI hM 12 rfl k ⟨by omega, by decide, rfl⟩ rfl dX6_hays_65 (fun H locs hM => ?_)
                refine lv_iinc (v := nI (k + 1)) (lv' := [(4, .int (nI (k + 1))), (0, .ref (h 0)), (1, .int (nI i)), (2, .int (nI c0)), (3, .int (nI n))]) hx hb dX6_hays_66 hl (k := 0) rfl (by rw [show Int32.ofInt 1 = nI 1 from by decide]; exact nI_add _ _) (by decide) rfl (fun ls hl => ?_)
                refine lv_goto (tgt := 35) hx hb dX6_hays_69 (by decide) ?_
                exact ih35 (k + 1) (by omega) (by omega) _ hj65 _ _ (hM.to rfl (by rw [va_uu, va_us, cpk_u])) ls (lv_sub hl [0, 1, 2, 3, 4] rfl)
              refine lv_icmp_ne (tgt := 63) hx hb dX6_hays_56 (by decide) (fun c_15 => ?_) (fun c_15 => ?_)
              · refine lv_bipush (v := nI 100) hx hb dX6_hays_63 (by decide) ?_
                refine w_top (Z0 k) (by rw [hZ0]; exact (if_neg c_15).symm) ?_
                exact j65   _ he35 _ _ hM ls (lv_sub hl [0, 1, 2, 3, 4] rfl)
              · refine lv_iconst (v := nI 0) hx hb dX6_hays_59 (by decide) ?_
                refine lv_goto (tgt := 65) hx hb dX6_hays_60 (by decide) ?_
                refine w_top (Z0 k) (by rw [hZ0]; exact (if_pos c_15).symm) ?_
                exact j65   _ he35 _ _ hM ls (lv_sub hl [0, 1, 2, 3, 4] rfl)
        exact loop35 26 0 (by omega) (by omega) _ fE.rf _ _ (hM.to rfl (by rw [cpk_z]; exact va_self a 12)) ls (lv_sub hl [0, 1, 2, 3, 4] rfl)
      · exact absurd (by first | exact (in_nat (by decide)).mpr ⟨_, by omega, rfl⟩ | exact (in_nat1 _ (by decide) (by decide)).mpr ⟨_, by omega, by omega, rfl⟩ | exact cow_in hN (by omega) | assumption) c_3
set_option maxHeartbeats 400000 in
theorem met_hays_e (f : Nat → Int32) (a : Nat → Nat → Int32) (v w n : Int32) (he : ¬ (cowP (a 1) v ∧ (nI 0 ≤ w ∧ w ≤ nI 24) ∧ (nI 1 ≤ n ∧ n ≤ nI 30))) : MdF yX6_hays cX6_hays 10 (some .int) 2 43 [.int v, .int w, .int n] f a (some (.int (-1000000001 : Int32))) f (mErr a 1) := by
  refine MdF.ofI (by decide) rfl (Nat.le_of_ble_eq_true rfl) ?_
  intro p l e R s m args below meth c Q D h dA ls hx hb hml hRf hRl hts hown hK hI hM hl hret
  have hl : lv_has ls 10 [(0, .ref (h 0)), (1, .int v), (2, .int w), (3, .int n)] := hl
  refine lv_aload_n hx hb dX6_hays_0 rfl (lv_at hl 0 rfl) ?_
  refine lv_iload_n hx hb dX6_hays_1 rfl (lv_at hl 1 rfl) ?_
  refine md_callI (y := yX6_isCow) hx hb hml hown hts hK hI hM (met_isCow f a v) q1574 q1576 qs37 q1577 ndX6_isCow rfl (by rw [hRf]; decide) (by rw [hRl]; decide) hl.1 rfl (Nat.le_of_ble_eq_true rfl) dX6_hays_2 (fun H locs hM => ?_)
  refine w_if_eqT (tgt := 25) hx hb dX6_hays_5 (by decide) (fun c_1 => ?_) (fun c_1 => ?_)
  · refine lv_aload_n hx hb dX6_hays_25 rfl (lv_at hl 0 rfl) ?_
    refine lv_ldc hx hb hown (hts _ q1485) dX6_hays_26 ?_
    refine md_callI (y := yX6_errs) hx hb hml hown hts hK hI hM (met_errs f a (-1000000001 : Int32) 1 (by decide) (by decide)) q1486 q1488 qs21 q1489 ndX6_errs rfl (by rw [hRf]; decide) (by rw [hRl]; decide) hl.1 rfl (Nat.le_of_ble_eq_true rfl) dX6_hays_28 (fun H locs hM => ?_)
    exact hret hM (by first | rfl | (simp only [iI, nI_0, nI_one]; grind)) dX6_hays_31
  · refine lv_iload_n hx hb dX6_hays_8 rfl (lv_at hl 2 rfl) ?_
    refine st_callI (y := yX6_isCell) hx hb hml hown hts (met_isCell w) q1479 q1480 q70 q1481 ndX6_isCell rfl (by rw [hRf]; decide) (by rw [hRl]; decide) ⟨Nat.zero_le _, Nat.zero_le _⟩ hl.1 rfl (Nat.le_of_ble_eq_true rfl) dX6_hays_9 ?_
    refine w_if_eqT (tgt := 25) hx hb dX6_hays_12 (by decide) (fun c_2 => ?_) (fun c_2 => ?_)
    · refine lv_aload_n hx hb dX6_hays_25 rfl (lv_at hl 0 rfl) ?_
      refine lv_ldc hx hb hown (hts _ q1485) dX6_hays_26 ?_
      refine md_callI (y := yX6_errs) hx hb hml hown hts hK hI hM (met_errs f a (-1000000001 : Int32) 1 (by decide) (by decide)) q1486 q1488 qs21 q1489 ndX6_errs rfl (by rw [hRf]; decide) (by rw [hRl]; decide) hl.1 rfl (Nat.le_of_ble_eq_true rfl) dX6_hays_28 (fun H locs hM => ?_)
      exact hret hM (by first | rfl | (simp only [iI, nI_0, nI_one]; grind)) dX6_hays_31
    · refine lv_iload_n hx hb dX6_hays_15 rfl (lv_at hl 3 rfl) ?_
      refine lv_iconst (v := nI 1) hx hb dX6_hays_16 (by decide) ?_
      refine lv_bipush (v := nI 30) hx hb dX6_hays_17 (by decide) ?_
      refine st_callI (y := yX6_in) hx hb hml hown hts (met_in n (nI 1) (nI 30)) q1482 q1483 q70 q1484 ndX6_in rfl (by rw [hRf]; decide) (by rw [hRl]; decide) ⟨Nat.zero_le _, Nat.zero_le _⟩ hl.1 rfl (Nat.le_of_ble_eq_true rfl) dX6_hays_19 ?_
      refine w_if_neT (tgt := 32) hx hb dX6_hays_22 (by decide) (fun c_3 => ?_) (fun c_3 => ?_)
      · exact absurd ⟨c_1, c_2, c_3⟩ he
      · refine lv_aload_n hx hb dX6_hays_25 rfl (lv_at hl 0 rfl) ?_
        refine lv_ldc hx hb hown (hts _ q1485) dX6_hays_26 ?_
        refine md_callI (y := yX6_errs) hx hb hml hown hts hK hI hM (met_errs f a (-1000000001 : Int32) 1 (by decide) (by decide)) q1486 q1488 qs21 q1489 ndX6_errs rfl (by rw [hRf]; decide) (by rw [hRl]; decide) hl.1 rfl (Nat.le_of_ble_eq_true rfl) dX6_hays_28 (fun H locs hM => ?_)
        exact hret hM (by first | rfl | (simp only [iI, nI_0, nI_one]; grind)) dX6_hays_31
