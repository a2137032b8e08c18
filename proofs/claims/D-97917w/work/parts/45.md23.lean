/-! the model: walks by marks (printed by model23.py) -/
set_option maxRecDepth 100000
def wsT (E : Nat → Int32) (c w : Nat) : Int32 := match nxt c w with
  | none => nI 0
  | some d => E d
def wqS (E : Nat → Int32) (c : Nat) : Nat → Int32
  | 0 => nI 0
  | w + 1 => wqS E c w + wsT E c w
def fwA (q : Nat) (E : Nat → Int32) (c w : Nat) : Int32 := if q = 0 then nI 1 else wqS E c w
def fwW (r : Nat → Int32) (m : Int32) (q : Nat) (E : Nat → Int32) : Nat → Int32 := fun c => if r (8 + c) = m then hel (fwA q E c 5) (nI 0) (nI 999999) else nI 0
/-- walks that begin at each cell, behind q numbers of the sheet from its end -/
def fwE (r x : Nat → Int32) (n : Nat) (e : Nat → Int32) : Nat → Nat → Int32
  | 0 => e
  | q + 1 => fwW r (x (n - 1 - q)) q (fwE r x n e q)
theorem wsT_n {E : Nat → Int32} {c w : Nat} (h : nxt c w = none) : nI 0 = wsT E c w := by unfold wsT; rw [h]
theorem wsT_y {E : Nat → Int32} {c w d : Nat} (h : nxt c w = some d) : E d = wsT E c w := by unfold wsT; rw [h]
theorem va_self2 (a : Nat → Nat → Int32) (i j : Nat) : a = va_up (va_up a i (a i)) j (a j) := by
  funext k
  simp only [va_up]
  by_cases h : k = j
  · rw [if_pos h, h]
  · rw [if_neg h]
    by_cases h2 : k = i
    · rw [if_pos h2, h2]
    · rw [if_neg h2]
theorem va_c2 (a : Nat → Nat → Int32) {i j : Nat} (h : i ≠ j) (X Y Z : Nat → Int32) : va_up (va_up (va_up a i X) j Y) i Z = va_up (va_up a i Z) j Y := by
  funext k
  simp only [va_up]
  by_cases h1 : k = i
  · subst h1; rw [if_pos rfl, if_neg h, if_pos rfl]
  · rw [if_neg h1]
    by_cases h2 : k = j
    · rw [if_pos h2, if_pos h2]
    · rw [if_neg h2, if_neg h2, if_neg h1, if_neg h1]
def wdS (E : Nat → Int32) : Nat → Int32 × Int32
  | 0 => (nI 0, nI 0)
  | c + 1 => (hel ((wdS E c).1 + E c) (nI 0) (nI 999999), (wdS E c).2 ||| (if E c ≤ 0 then nI 0 else nI 1 <<< (nI c &&& 31)))
theorem ndX6_findWalks : yX6_findWalks.cls = RX6 ∧ yX6_findWalks.cls ≠ "java/lang/invoke/MethodHandle" ∧ yX6_findWalks.cls ≠ "java/lang/invoke/VarHandle" ∧ (parseMethodDescriptor yX6_findWalks.desc).map (fun d => d.parameters.length) = some 1 := by decide +kernel
set_option maxHeartbeats 400000 in
theorem met_findWalks (f : Nat → Int32) (a : Nat → Nat → Int32) (sh : Nat) (hs : sh < 4) (hz : okN (a 7 sh) 40) (hz1 : 1 ≤ cl (a 7 sh))  : MdF yX6_findWalks cX6_findWalks 7 none 1 22 [.int (nI sh)] f a none f (va_up (va_up a 10 (fwE (a 1) (fun j => a 8 (40 * sh + j)) (cl (a 7 sh)) (a 10) (cl (a 7 sh)))) 11 (fwE (a 1) (fun j => a 8 (40 * sh + j)) (cl (a 7 sh)) (a 10) (cl (a 7 sh)))) := by
  refine MdF.ofV (by decide) rfl (Nat.le_of_ble_eq_true rfl) ?_
  intro p l e R s m args below meth c Q D h dA ls hx hb hml hRf hRl hts hown hK hI hM hl hret
  have hl : lv_has ls 7 [(0, .ref (h 0)), (1, .int (nI sh))] := hl
  have hz2 := hz.2
  refine lv_aload_n hx hb dX6_findWalks_0 rfl (lv_at hl 0 rfl) ?_
  refine md_get (v := .ref (h 7)) hx hb hts hown hK hM 16 (by decide) q1406 rfl rfl dX6_findWalks_1 ?_
  refine lv_iload_n hx hb dX6_findWalks_4 rfl (lv_at hl 1 rfl) ?_
  refine md_iald hx hb hK hM 7 rfl sh ⟨by omega, by decide, rfl⟩ dX6_findWalks_5 ?_
  refine w_top (nI (cl (a 7 sh))) (hz.1) ?_
  refine lv_iconst (v := nI 1) hx hb dX6_findWalks_6 (by decide) ?_
  refine w_isubN hx hb (by omega) dX6_findWalks_7 ?_
  refine lv_istore_n (lv' := [(2, .int (nI ((cl (a 7 sh)) - 1))), (0, .ref (h 0)), (1, .int (nI sh))]) hx hb dX6_findWalks_8 rfl hl (by decide) rfl (fun ls hl => ?_)
  have loop9 : ∀ (fu : Nat) (q : Nat) (T : Nat → Int32), (q < cl (a 7 sh)) → (cl (a 7 sh) ≤ q + fu) → ∀ (H : Heap) (locs : List Loc), mdH D h dA s.heap H locs f (va_up (va_up a 10 (fwE (a 1) (fun j => a 8 (40 * sh + j)) (cl (a 7 sh)) (a 10) q)) 11 (T)) → ∀ (ls : Array Slot), lv_has ls 7 [(2, .int (nI (cl (a 7 sh) - 1 - q))), (0, .ref (h 0)), (1, .int (nI sh))] → W p l e R s m args below meth c H locs 0 0 Q (F0 m 9 ls []) := by
    intro fu
    induction fu with
    | zero =>
      intro q T hq hf
      omega
    | succ fu ih9 =>
      intro q T hq hf H locs hM ls hl
      refine lv_iload_n hx hb dX6_findWalks_9 rfl (lv_at hl 0 rfl) ?_
      refine w_if_ltN (tgt := 175) hx hb (by omega) dX6_findWalks_10 (by decide) ?_
      refine lv_iconst (v := nI 0) hx hb dX6_findWalks_13 (by decide) ?_
      refine lv_istore_n (lv' := [(3, .int (nI 0)), (2, .int (nI (cl (a 7 sh) - 1 - q))), (0, .ref (h 0)), (1, .int (nI sh))]) hx hb dX6_findWalks_14 rfl hl (by decide) rfl (fun ls hl => ?_)
      have loop15 : ∀ (fu : Nat) (c2 : Nat), (c2 ≤ 25) → (25 < c2 + fu) → ∀ (H : Heap) (locs : List Loc), mdH D h dA s.heap H locs f (va_up (va_up a 10 (fwE (a 1) (fun j => a 8 (40 * sh + j)) (cl (a 7 sh)) (a 10) q)) 11 (cpk (fwE (a 1) (fun j => a 8 (40 * sh + j)) (cl (a 7 sh)) (a 10) (q + 1)) T c2)) → ∀ (ls : Array Slot), lv_has ls 7 [(3, .int (nI c2)), (2, .int (nI (cl (a 7 sh) - 1 - q))), (0, .ref (h 0)), (1, .int (nI sh))] → W p l e R s m args below meth c H locs 0 0 Q (F0 m 15 ls []) := by
        intro fu
        induction fu with
        | zero =>
          intro c2 hc hf2
          omega
        | succ fu ih15 =>
          intro c2 hc hf2 H locs hM ls hl
          refine lv_iload_n hx hb dX6_findWalks_15 rfl (lv_at hl 0 rfl) ?_
          refine lv_bipush (v := nI 25) hx hb dX6_findWalks_16 (by decide) ?_
          refine w_icmp_geN (tgt := 143) hx hb (by omega) (by omega) dX6_findWalks_18 (by decide) (fun c_2 => ?_) (fun c_2 => ?_)
          · have hM := (hM.cong 11 (fwE (a 1) (fun j => a 8 (40 * sh + j)) (cl (a 7 sh)) (a 10) (q + 1)) rfl rfl (fun i hi => by rw [va_us]; unfold cpk; rw [if_pos (by omega)])).to rfl (va_uu _ _ _ _)
            refine lv_iconst (v := nI 0) hx hb dX6_findWalks_143 (by decide) ?_
            refine lv_istore_n (lv' := [(3, .int (nI 0)), (2, .int (nI (cl (a 7 sh) - 1 - q))), (0, .ref (h 0)), (1, .int (nI sh))]) hx hb dX6_findWalks_144 rfl hl (by decide) rfl (fun ls hl => ?_)
            have loop145 : ∀ (fu : Nat) (c3 : Nat), (c3 ≤ 25) → (25 < c3 + fu) → ∀ (H : Heap) (locs : List Loc), mdH D h dA s.heap H locs f (va_up (va_up a 10 (cpk (fwE (a 1) (fun j => a 8 (40 * sh + j)) (cl (a 7 sh)) (a 10) (q + 1)) (fwE (a 1) (fun j => a 8 (40 * sh + j)) (cl (a 7 sh)) (a 10) q) c3)) 11 (fwE (a 1) (fun j => a 8 (40 * sh + j)) (cl (a 7 sh)) (a 10) (q + 1))) → ∀ (ls : Array Slot), lv_has ls 7 [(3, .int (nI c3)), (2, .int (nI (cl (a 7 sh) - 1 - q))), (0, .ref (h 0)), (1, .int (nI sh))] → W p l e R s m args below meth c H locs 0 0 Q (F0 m 145 ls []) := by
              intro fu
              induction fu with
              | zero =>
                intro c3 hc3 hf4
                omega
              | succ fu ih145 =>
                intro c3 hc3 hf4 H locs hM ls hl
                refine lv_iload_n hx hb dX6_findWalks_145 rfl (lv_at hl 0 rfl) ?_
                refine lv_bipush (v := nI 25) hx hb dX6_findWalks_146 (by decide) ?_
                refine w_icmp_geN (tgt := 169) hx hb (by omega) (by omega) dX6_findWalks_148 (by decide) (fun c_3 => ?_) (fun c_3 => ?_)
                · have hM := (hM.cong 10 (fwE (a 1) (fun j => a 8 (40 * sh + j)) (cl (a 7 sh)) (a 10) (q + 1)) rfl rfl (fun i hi => by show cpk _ _ _ _ = _; unfold cpk; rw [if_pos (by omega)])).to rfl (va_c2 _ (by decide) _ _ _)
                  by_cases hk0 : cl (a 7 sh) - 1 - q = 0
                  · refine lv_iinc (v := (-1 : Int32)) (lv' := [(2, .int (-1 : Int32)), (3, .int (nI c3)), (0, .ref (h 0)), (1, .int (nI sh))]) hx hb dX6_findWalks_169 hl (k := 1) rfl (by rw [hk0]; decide) (by decide) rfl (fun ls hl => ?_)
                    refine lv_goto (tgt := 9) hx hb dX6_findWalks_172 (by decide) ?_
                    refine lv_iload_n hx hb dX6_findWalks_9 rfl (lv_at hl 0 rfl) ?_
                    refine lv_if_lt (tgt := 175) hx hb dX6_findWalks_10 (by decide) (fun c_4 => ?_) (fun c_4 => ?_)
                    · exact hret (hM.to rfl (by rw [show q + 1 = cl (a 7 sh) by omega])) dX6_findWalks_175
                    · exact absurd (by decide) c_4
                  · refine lv_iinc (v := nI (cl (a 7 sh) - 1 - (q + 1))) (lv' := [(2, .int (nI (cl (a 7 sh) - 1 - (q + 1)))), (3, .int (nI c3)), (0, .ref (h 0)), (1, .int (nI sh))]) hx hb dX6_findWalks_169 hl (k := 1) rfl (by rw [show Int32.ofInt (-1) = (-1 : Int32) from by decide, show cl (a 7 sh) - 1 - q = (cl (a 7 sh) - 1 - (q + 1)) + 1 by omega]; exact pk_m1 _) (by decide) rfl (fun ls hl => ?_)
                    refine lv_goto (tgt := 9) hx hb dX6_findWalks_172 (by decide) ?_
                    exact ih9 (q + 1) (fwE (a 1) (fun j => a 8 (40 * sh + j)) (cl (a 7 sh)) (a 10) (q + 1)) (by omega) (by omega) _ _ hM ls (lv_sub hl [0, 2, 3] rfl)
                · refine lv_aload_n hx hb dX6_findWalks_151 rfl (lv_at hl 2 rfl) ?_
                  refine md_get (v := .ref (h 10)) hx hb hts hown hK hM 19 (by decide) q1409 rfl rfl dX6_findWalks_152 ?_
                  refine lv_iload_n hx hb dX6_findWalks_155 rfl (lv_at hl 0 rfl) ?_
                  refine lv_aload_n hx hb dX6_findWalks_156 rfl (lv_at hl 2 rfl) ?_
                  refine md_get (v := .ref (h 11)) hx hb hts hown hK hM 20 (by decide) q1410 rfl rfl dX6_findWalks_157 ?_
                  refine lv_iload_n hx hb dX6_findWalks_160 rfl (lv_at hl 0 rfl) ?_
                  refine md_iald hx hb hK hM 11 rfl c3 ⟨by omega, by decide, rfl⟩ dX6_findWalks_161 ?_
                  refine w_top ((fwE (a 1) (fun j => a 8 (40 * sh + j)) (cl (a 7 sh)) (a 10) (q + 1)) c3) (rfl) ?_
                  refine md_iast hx hb hK hI hM 10 rfl c3 ⟨by omega, by decide, rfl⟩ rfl dX6_findWalks_162 (fun H locs hM => ?_)
                  refine lv_iinc (v := nI (c3 + 1)) (lv' := [(3, .int (nI (c3 + 1))), (2, .int (nI (cl (a 7 sh) - 1 - q))), (0, .ref (h 0)), (1, .int (nI sh))]) hx hb dX6_findWalks_163 hl (k := 0) rfl (by rw [show Int32.ofInt 1 = nI 1 from by decide]; exact nI_add _ _) (by decide) rfl (fun ls hl => ?_)
                  refine lv_goto (tgt := 145) hx hb dX6_findWalks_166 (by decide) ?_
                  exact ih145 (c3 + 1) (by omega) (by omega) _ _ (hM.to rfl (by rw [va_c2 _ (by decide)]; exact congrArg (fun z => va_up (va_up a 10 z) 11 (fwE (a 1) (fun j => a 8 (40 * sh + j)) (cl (a 7 sh)) (a 10) (q + 1))) (cpk_u _ _ _))) ls (lv_sub hl [0, 1, 2, 3] rfl)
            exact loop145 26 0 (by omega) (by omega) _ _ (hM.to rfl (by rw [cpk_z])) ls (lv_sub hl [0, 1, 2, 3] rfl)
          · refine lv_iload_n hx hb dX6_findWalks_21 rfl (lv_at hl 1 rfl) ?_
            refine lv_aload_n hx hb dX6_findWalks_22 rfl (lv_at hl 2 rfl) ?_
            refine md_get (v := .ref (h 7)) hx hb hts hown hK hM 16 (by decide) q1406 rfl rfl dX6_findWalks_23 ?_
            refine lv_iload_n hx hb dX6_findWalks_26 rfl (lv_at hl 3 rfl) ?_
            refine md_iald hx hb hK hM 7 rfl sh ⟨by omega, by decide, rfl⟩ dX6_findWalks_27 ?_
            refine w_top (nI (cl (a 7 sh))) (hz.1) ?_
            refine lv_iconst (v := nI 1) hx hb dX6_findWalks_28 (by decide) ?_
            refine w_isubN hx hb (by omega) dX6_findWalks_29 ?_
            have j38 : ∀ (H : Heap) (locs : List Loc), mdH D h dA s.heap H locs f (va_up (va_up a 10 (fwE (a 1) (fun j => a 8 (40 * sh + j)) (cl (a 7 sh)) (a 10) q)) 11 (cpk (fwE (a 1) (fun j => a 8 (40 * sh + j)) (cl (a 7 sh)) (a 10) (q + 1)) T c2)) → ∀ (ls : Array Slot), lv_has ls 7 [(3, .int (nI c2)), (2, .int (nI (cl (a 7 sh) - 1 - q))), (0, .ref (h 0)), (1, .int (nI sh))] → W p l e R s m args below meth c H locs 0 0 Q (F0 m 38 ls [.int (fwA q (fwE (a 1) (fun j => a 8 (40 * sh + j)) (cl (a 7 sh)) (a 10) q) c2 0)]) := by
              intro   H locs hM ls hl
              refine lv_istore (lv' := [(4, .int (fwA q (fwE (a 1) (fun j => a 8 (40 * sh + j)) (cl (a 7 sh)) (a 10) q) c2 0)), (3, .int (nI c2)), (2, .int (nI (cl (a 7 sh) - 1 - q))), (0, .ref (h 0)), (1, .int (nI sh))]) hx hb dX6_findWalks_38 hl (by decide) rfl (fun ls hl => ?_)
              refine lv_iconst (v := nI 0) hx hb dX6_findWalks_40 (by decide) ?_
              refine lv_istore (lv' := [(5, .int (nI 0)), (4, .int (fwA q (fwE (a 1) (fun j => a 8 (40 * sh + j)) (cl (a 7 sh)) (a 10) q) c2 0)), (3, .int (nI c2)), (2, .int (nI (cl (a 7 sh) - 1 - q))), (0, .ref (h 0)), (1, .int (nI sh))]) hx hb dX6_findWalks_41 hl (by decide) rfl (fun ls hl => ?_)
              have loop43 : ∀ (fu : Nat) (w : Nat), (w ≤ 5) → (5 < w + fu) → ∀ (H : Heap) (locs : List Loc), mdH D h dA s.heap H locs f (va_up (va_up a 10 (fwE (a 1) (fun j => a 8 (40 * sh + j)) (cl (a 7 sh)) (a 10) q)) 11 (cpk (fwE (a 1) (fun j => a 8 (40 * sh + j)) (cl (a 7 sh)) (a 10) (q + 1)) T c2)) → ∀ (ls : Array Slot), lv_has ls 7 [(5, .int (nI w)), (4, .int (fwA q (fwE (a 1) (fun j => a 8 (40 * sh + j)) (cl (a 7 sh)) (a 10) q) c2 w)), (3, .int (nI c2)), (2, .int (nI (cl (a 7 sh) - 1 - q))), (0, .ref (h 0)), (1, .int (nI sh))] → W p l e R s m args below meth c H locs 0 0 Q (F0 m 43 ls []) := by
                intro fu
                induction fu with
                | zero =>
                  intro w hw hf3
                  omega
                | succ fu ih43 =>
                  intro w hw hf3 H locs hM ls hl
                  refine lv_iload hx hb dX6_findWalks_43 (lv_at hl 0 rfl) ?_
                  refine lv_iconst (v := nI 5) hx hb dX6_findWalks_45 (by decide) ?_
                  have j96 : (fwA q (fwE (a 1) (fun j => a 8 (40 * sh + j)) (cl (a 7 sh)) (a 10) q) c2 w = fwA q (fwE (a 1) (fun j => a 8 (40 * sh + j)) (cl (a 7 sh)) (a 10) q) c2 5) → ∀ (H : Heap) (locs : List Loc), mdH D h dA s.heap H locs f (va_up (va_up a 10 (fwE (a 1) (fun j => a 8 (40 * sh + j)) (cl (a 7 sh)) (a 10) q)) 11 (cpk (fwE (a 1) (fun j => a 8 (40 * sh + j)) (cl (a 7 sh)) (a 10) (q + 1)) T c2)) → ∀ (ls : Array Slot), lv_has ls 7 [(5, .int (nI w)), (4, .int (fwA q (fwE (a 1) (fun j => a 8 (40 * sh + j)) (cl (a 7 sh)) (a 10) q) c2 w)), (3, .int (nI c2)), (2, .int (nI (cl (a 7 sh) - 1 - q))), (0, .ref (h 0)), (1, .int (nI sh))] → W p l e R s m args below meth c H locs 0 0 Q (F0 m 96 ls []) := by
                    intro  hA H locs hM ls hl
                    refine lv_aload_n hx hb dX6_findWalks_96 rfl (lv_at hl 4 rfl) ?_
                    refine md_get (v := .ref (h 11)) hx hb hts hown hK hM 20 (by decide) q1410 rfl rfl dX6_findWalks_97 ?_
                    refine lv_iload_n hx hb dX6_findWalks_100 rfl (lv_at hl 2 rfl) ?_
                    refine lv_aload_n hx hb dX6_findWalks_101 rfl (lv_at hl 4 rfl) ?_
                    refine md_get (v := .ref (h 1)) hx hb hts hown hK hM 0 (by decide) q1390 rfl rfl dX6_findWalks_102 ?_
                    refine lv_bipush (v := nI 8) hx hb dX6_findWalks_105 (by decide) ?_
                    refine lv_iload_n hx hb dX6_findWalks_107 rfl (lv_at hl 2 rfl) ?_
                    refine w_iaddN hx hb dX6_findWalks_108 ?_
                    refine md_iald hx hb hK hM 1 rfl (8 + c2) ⟨by omega, by decide, rfl⟩ dX6_findWalks_109 ?_
                    refine w_top (a 1 (8 + c2)) (rfl) ?_
                    refine lv_aload_n hx hb dX6_findWalks_110 rfl (lv_at hl 4 rfl) ?_
                    refine md_get (v := .ref (h 8)) hx hb hts hown hK hM 17 (by decide) q1407 rfl rfl dX6_findWalks_111 ?_
                    refine lv_bipush (v := nI 40) hx hb dX6_findWalks_114 (by decide) ?_
                    refine lv_iload_n hx hb dX6_findWalks_116 rfl (lv_at hl 5 rfl) ?_
                    refine w_imulN hx hb dX6_findWalks_117 ?_
                    refine lv_iload_n hx hb dX6_findWalks_118 rfl (lv_at hl 3 rfl) ?_
                    refine w_iaddN hx hb dX6_findWalks_119 ?_
                    refine md_iald hx hb hK hM 8 rfl ((40 * sh) + (cl (a 7 sh) - 1 - q)) ⟨by omega, by decide, rfl⟩ dX6_findWalks_120 ?_
                    refine w_top (a 8 (40 * sh + (cl (a 7 sh) - 1 - q))) (rfl) ?_
                    have j136 : ∀ (H : Heap) (locs : List Loc), mdH D h dA s.heap H locs f (va_up (va_up a 10 (fwE (a 1) (fun j => a 8 (40 * sh + j)) (cl (a 7 sh)) (a 10) q)) 11 (cpk (fwE (a 1) (fun j => a 8 (40 * sh + j)) (cl (a 7 sh)) (a 10) (q + 1)) T c2)) → ∀ (ls : Array Slot), lv_has ls 7 [(3, .int (nI c2)), (2, .int (nI (cl (a 7 sh) - 1 - q))), (0, .ref (h 0)), (1, .int (nI sh))] → W p l e R s m args below meth c H locs 0 0 Q (F0 m 136 ls [.int ((fwE (a 1) (fun j => a 8 (40 * sh + j)) (cl (a 7 sh)) (a 10) (q + 1)) c2), .int (nI c2), .ref (h 11)]) := by
                      intro   H locs hM ls hl
                      refine md_iast hx hb hK hI hM 11 rfl c2 ⟨by omega, by decide, rfl⟩ rfl dX6_findWalks_136 (fun H locs hM => ?_)
                      refine lv_iinc (v := nI (c2 + 1)) (lv' := [(3, .int (nI (c2 + 1))), (2, .int (nI (cl (a 7 sh) - 1 - q))), (0, .ref (h 0)), (1, .int (nI sh))]) hx hb dX6_findWalks_137 hl (k := 0) rfl (by rw [show Int32.ofInt 1 = nI 1 from by decide]; exact nI_add _ _) (by decide) rfl (fun ls hl => ?_)
                      refine lv_goto (tgt := 15) hx hb dX6_findWalks_140 (by decide) ?_
                      exact ih15 (c2 + 1) (by omega) (by omega) _ _ (hM.to rfl (by rw [va_uu, va_us, cpk_u])) ls (lv_sub hl [0, 1, 2, 3] rfl)
                    refine lv_icmp_ne (tgt := 135) hx hb dX6_findWalks_121 (by decide) (fun c_5 => ?_) (fun c_5 => ?_)
                    · refine lv_iconst (v := nI 0) hx hb dX6_findWalks_135 (by decide) ?_
                      refine w_top ((fwE (a 1) (fun j => a 8 (40 * sh + j)) (cl (a 7 sh)) (a 10) (q + 1)) c2) (by rw [fwE]; unfold fwW; exact (if_neg c_5).symm) ?_
                      exact j136   _ _ hM ls (lv_sub hl [2, 3, 4, 5] rfl)
                    · refine lv_iload hx hb dX6_findWalks_124 (lv_at hl 1 rfl) ?_
                      refine lv_iconst (v := nI 0) hx hb dX6_findWalks_126 (by decide) ?_
                      refine lv_ldc hx hb hown (hts _ q1733) dX6_findWalks_127 ?_
                      refine w_top (nI 999999) (by decide) ?_
                      refine st_callI (y := yX6_held) hx hb hml hown hts (met_held (fwA q (fwE (a 1) (fun j => a 8 (40 * sh + j)) (cl (a 7 sh)) (a 10) q) c2 w) (nI 0) (nI 999999)) q1507 q1508 q70 q1509 ndX6_held rfl (by rw [hRf]; decide) (by rw [hRl]; decide) ⟨Nat.zero_le _, Nat.zero_le _⟩ hl.1 rfl (Nat.le_of_ble_eq_true rfl) dX6_findWalks_129 ?_
                      refine lv_goto (tgt := 136) hx hb dX6_findWalks_132 (by decide) ?_
                      refine w_top ((fwE (a 1) (fun j => a 8 (40 * sh + j)) (cl (a 7 sh)) (a 10) (q + 1)) c2) (by rw [fwE, hA]; unfold fwW; exact (if_pos c_5).symm) ?_
                      exact j136   _ _ hM ls (lv_sub hl [2, 3, 4, 5] rfl)
                  refine w_icmp_geN (tgt := 96) hx hb (by omega) (by omega) dX6_findWalks_46 (by decide) (fun c_6 => ?_) (fun c_6 => ?_)
                  · exact j96  (by rw [show w = 5 by omega]) _ _ hM ls (lv_sub hl [0, 1, 2, 3, 4, 5] rfl)
                  · refine lv_iload_n hx hb dX6_findWalks_49 rfl (lv_at hl 3 rfl) ?_
                    refine lv_aload_n hx hb dX6_findWalks_50 rfl (lv_at hl 4 rfl) ?_
                    refine md_get (v := .ref (h 7)) hx hb hts hown hK hM 16 (by decide) q1406 rfl rfl dX6_findWalks_51 ?_
                    refine lv_iload_n hx hb dX6_findWalks_54 rfl (lv_at hl 5 rfl) ?_
                    refine md_iald hx hb hK hM 7 rfl sh ⟨by omega, by decide, rfl⟩ dX6_findWalks_55 ?_
                    refine w_top (nI (cl (a 7 sh))) (hz.1) ?_
                    refine lv_iconst (v := nI 1) hx hb dX6_findWalks_56 (by decide) ?_
                    refine w_isubN hx hb (by omega) dX6_findWalks_57 ?_
                    refine w_icmp_geN (tgt := 96) hx hb (by omega) (by omega) dX6_findWalks_58 (by decide) (fun c_7 => ?_) (fun c_7 => ?_)
                    · exact j96  (by unfold fwA; rw [if_pos (by omega), if_pos (by omega)]) _ _ hM ls (lv_sub hl [0, 1, 2, 3, 4, 5] rfl)
                    · refine lv_iload_n hx hb dX6_findWalks_61 rfl (lv_at hl 2 rfl) ?_
                      refine lv_iload hx hb dX6_findWalks_62 (lv_at hl 0 rfl) ?_
                      refine st_callI (y := yX6_beside) hx hb hml hown hts (met_beside c2 w (by omega) (by omega)) q1598 q1599 q70 q1600 ndX6_beside rfl (by rw [hRf]; decide) (by rw [hRl]; decide) ⟨Nat.zero_le _, Nat.zero_le _⟩ hl.1 rfl (Nat.le_of_ble_eq_true rfl) dX6_findWalks_64 ?_
                      refine lv_istore (lv' := [(6, .int (oI (nxt c2 w))), (5, .int (nI w)), (4, .int (fwA q (fwE (a 1) (fun j => a 8 (40 * sh + j)) (cl (a 7 sh)) (a 10) q) c2 w)), (3, .int (nI c2)), (2, .int (nI (cl (a 7 sh) - 1 - q))), (0, .ref (h 0)), (1, .int (nI sh))]) hx hb dX6_findWalks_67 hl (by decide) rfl (fun ls hl => ?_)
                      refine lv_iload hx hb dX6_findWalks_69 (lv_at hl 2 rfl) ?_
                      refine lv_iload hx hb dX6_findWalks_71 (lv_at hl 0 rfl) ?_
                      have j87 : ∀ (H : Heap) (locs : List Loc), mdH D h dA s.heap H locs f (va_up (va_up a 10 (fwE (a 1) (fun j => a 8 (40 * sh + j)) (cl (a 7 sh)) (a 10) q)) 11 (cpk (fwE (a 1) (fun j => a 8 (40 * sh + j)) (cl (a 7 sh)) (a 10) (q + 1)) T c2)) → ∀ (ls : Array Slot), lv_has ls 7 [(5, .int (nI w)), (4, .int (fwA q (fwE (a 1) (fun j => a 8 (40 * sh + j)) (cl (a 7 sh)) (a 10) q) c2 w)), (3, .int (nI c2)), (2, .int (nI (cl (a 7 sh) - 1 - q))), (0, .ref (h 0)), (1, .int (nI sh))] → W p l e R s m args below meth c H locs 0 0 Q (F0 m 87 ls [.int (wsT (fwE (a 1) (fun j => a 8 (40 * sh + j)) (cl (a 7 sh)) (a 10) q) c2 w), .int (fwA q (fwE (a 1) (fun j => a 8 (40 * sh + j)) (cl (a 7 sh)) (a 10) q) c2 w)]) := by
                        intro   H locs hM ls hl
                        refine lv_iadd hx hb dX6_findWalks_87 ?_
                        refine w_top (fwA q (fwE (a 1) (fun j => a 8 (40 * sh + j)) (cl (a 7 sh)) (a 10) q) c2 (w + 1)) (by unfold fwA; rw [if_neg (by omega), if_neg (by omega)]; rfl) ?_
                        refine lv_istore (lv' := [(4, .int (fwA q (fwE (a 1) (fun j => a 8 (40 * sh + j)) (cl (a 7 sh)) (a 10) q) c2 (w + 1))), (5, .int (nI w)), (3, .int (nI c2)), (2, .int (nI (cl (a 7 sh) - 1 - q))), (0, .ref (h 0)), (1, .int (nI sh))]) hx hb dX6_findWalks_88 hl (by decide) rfl (fun ls hl => ?_)
                        refine lv_iinc (v := nI (w + 1)) (lv' := [(5, .int (nI (w + 1))), (4, .int (fwA q (fwE (a 1) (fun j => a 8 (40 * sh + j)) (cl (a 7 sh)) (a 10) q) c2 (w + 1))), (3, .int (nI c2)), (2, .int (nI (cl (a 7 sh) - 1 - q))), (0, .ref (h 0)), (1, .int (nI sh))]) hx hb dX6_findWalks_90 hl (k := 1) rfl (by rw [show Int32.ofInt 1 = nI 1 from by decide]; exact nI_add _ _) (by decide) rfl (fun ls hl => ?_)
                        refine lv_goto (tgt := 43) hx hb dX6_findWalks_93 (by decide) ?_
                        exact ih43 (w + 1) (by omega) (by omega) _ _ hM ls (lv_sub hl [0, 1, 2, 3, 4, 5] rfl)
                      refine lv_if_ge (tgt := 80) hx hb dX6_findWalks_73 (by decide) (fun c_8 => ?_) (fun c_8 => ?_)
                      · obtain ⟨d, hd1, hd2⟩ := oI_pos c_8
                        have hd3 := nxt_lt (by omega) hd1
                        refine lv_aload_n hx hb dX6_findWalks_80 rfl (lv_at hl 5 rfl) ?_
                        refine md_get (v := .ref (h 10)) hx hb hts hown hK hM 19 (by decide) q1409 rfl rfl dX6_findWalks_81 ?_
                        refine lv_iload hx hb dX6_findWalks_84 (lv_at hl 0 rfl) ?_
                        refine md_iald hx hb hK hM 10 rfl d ⟨by omega, by decide, hd2⟩ dX6_findWalks_86 ?_
                        refine w_top ((fwE (a 1) (fun j => a 8 (40 * sh + j)) (cl (a 7 sh)) (a 10) q) d) (rfl) ?_
                        refine w_top (wsT (fwE (a 1) (fun j => a 8 (40 * sh + j)) (cl (a 7 sh)) (a 10) q) c2 w) (wsT_y hd1) ?_
                        exact j87   _ _ hM ls (lv_sub hl [1, 2, 3, 4, 5, 6] rfl)
                      · refine lv_iconst (v := nI 0) hx hb dX6_findWalks_76 (by decide) ?_
                        refine lv_goto (tgt := 87) hx hb dX6_findWalks_77 (by decide) ?_
                        refine w_top (wsT (fwE (a 1) (fun j => a 8 (40 * sh + j)) (cl (a 7 sh)) (a 10) q) c2 w) (wsT_n (oI_neg c_8 (fun z hz => by have := nxt_lt (by omega) hz; omega))) ?_
                        exact j87   _ _ hM ls (lv_sub hl [1, 2, 3, 4, 5, 6] rfl)
              exact loop43 6 0 (by omega) (by omega) _ _ hM ls (lv_sub hl [0, 1, 2, 3, 4, 5] rfl)
            refine w_icmp_neN (tgt := 37) hx hb (by omega) (by omega) dX6_findWalks_30 (by decide) (fun c_9 => ?_) (fun c_9 => ?_)
            · refine lv_iconst (v := nI 0) hx hb dX6_findWalks_37 (by decide) ?_
              refine w_top (fwA q (fwE (a 1) (fun j => a 8 (40 * sh + j)) (cl (a 7 sh)) (a 10) q) c2 0) (by unfold fwA; rw [if_neg (by omega)]; rfl) ?_
              exact j38   _ _ hM ls (lv_sub hl [0, 1, 2, 3] rfl)
            · refine lv_iconst (v := nI 1) hx hb dX6_findWalks_33 (by decide) ?_
              refine lv_goto (tgt := 38) hx hb dX6_findWalks_34 (by decide) ?_
              refine w_top (fwA q (fwE (a 1) (fun j => a 8 (40 * sh + j)) (cl (a 7 sh)) (a 10) q) c2 0) (by unfold fwA; rw [if_pos (by omega)]) ?_
              exact j38   _ _ hM ls (lv_sub hl [0, 1, 2, 3] rfl)
      exact loop15 26 0 (by omega) (by omega) _ _ (hM.to rfl (by rw [cpk_z])) ls (lv_sub hl [0, 1, 2, 3] rfl)
  exact loop9 (cl (a 7 sh)) 0 (a 11) (by omega) (by omega) _ _ (hM.to rfl (va_self2 a 10 11)) ls (lv_sub hl [0, 1, 2] rfl)
theorem ndX6_walked : yX6_walked.cls = RX6 ∧ yX6_walked.cls ≠ "java/lang/invoke/MethodHandle" ∧ yX6_walked.cls ≠ "java/lang/invoke/VarHandle" ∧ (parseMethodDescriptor yX6_walked.desc).map (fun d => d.parameters.length) = some 2 := by decide +kernel
set_option maxHeartbeats 400000 in
theorem met_walked_ok0 (f : Nat → Int32) (a : Nat → Nat → Int32) (sh : Nat) (hs : sh < 4) (hz : okN (a 7 sh) 40) (hz1 : 1 ≤ cl (a 7 sh)) (hb0 : ¬ a 6 sh = 0) : MdF yX6_walked cX6_walked 6 (some .int) 2 48 [.int (nI sh), .int (nI 0)] f a (some (.int ((wdS (fwE (a 1) (fun j => a 8 (40 * sh + j)) (cl (a 7 sh)) (a 10) (cl (a 7 sh))) 25).1))) f (va_up (va_up a 10 (fwE (a 1) (fun j => a 8 (40 * sh + j)) (cl (a 7 sh)) (a 10) (cl (a 7 sh)))) 11 (fwE (a 1) (fun j => a 8 (40 * sh + j)) (cl (a 7 sh)) (a 10) (cl (a 7 sh)))) := by
  refine MdF.ofI (by decide) rfl (Nat.le_of_ble_eq_true rfl) ?_
  intro p l e R s m args below meth c Q D h dA ls hx hb hml hRf hRl hts hown hK hI hM hl hret
  have hl : lv_has ls 6 [(0, .ref (h 0)), (1, .int (nI sh)), (2, .int (nI 0))] := hl
  have hz2 := hz.2
  refine lv_iload_n hx hb dX6_walked_0 rfl (lv_at hl 1 rfl) ?_
  refine st_callI (y := yX6_isSheet) hx hb hml hown hts (met_isSheet (nI sh)) q1726 q1727 q70 q1728 ndX6_isSheet rfl (by rw [hRf]; decide) (by rw [hRl]; decide) ⟨Nat.zero_le _, Nat.zero_le _⟩ hl.1 rfl (Nat.le_of_ble_eq_true rfl) dX6_walked_1 ?_
  refine w_if_eqT (tgt := 16) hx hb dX6_walked_4 (by decide) (fun c_1 => ?_) (fun c_1 => ?_)
  · exact absurd (by first | exact (in_nat (by decide)).mpr ⟨_, by omega, rfl⟩ | exact (in_nat1 _ (by decide) (by decide)).mpr ⟨_, by omega, by omega, rfl⟩ | exact cow_in hN (by omega) | assumption) c_1
  · refine lv_iload_n hx hb dX6_walked_7 rfl (lv_at hl 2 rfl) ?_
    refine lv_iconst (v := nI 0) hx hb dX6_walked_8 (by decide) ?_
    refine lv_iconst (v := nI 1) hx hb dX6_walked_9 (by decide) ?_
    refine st_callI (y := yX6_in) hx hb hml hown hts (met_in (nI 0) (nI 0) (nI 1)) q1482 q1483 q70 q1484 ndX6_in rfl (by rw [hRf]; decide) (by rw [hRl]; decide) ⟨Nat.zero_le _, Nat.zero_le _⟩ hl.1 rfl (Nat.le_of_ble_eq_true rfl) dX6_walked_10 ?_
    refine w_if_neT (tgt := 23) hx hb dX6_walked_13 (by decide) (fun c_2 => ?_) (fun c_2 => ?_)
    · refine lv_aload_n hx hb dX6_walked_23 rfl (lv_at hl 0 rfl) ?_
      refine md_get (v := .ref (h 6)) hx hb hts hown hK hM 15 (by decide) q1405 rfl rfl dX6_walked_24 ?_
      refine lv_iload_n hx hb dX6_walked_27 rfl (lv_at hl 1 rfl) ?_
      refine md_iald hx hb hK hM 6 rfl sh ⟨by omega, by decide, rfl⟩ dX6_walked_28 ?_
      refine lv_if_eq (tgt := 41) hx hb dX6_walked_29 (by decide) (fun c_3 => ?_) (fun c_3 => ?_)
      · exact absurd c_3 hb0
      · refine lv_aload_n hx hb dX6_walked_32 rfl (lv_at hl 0 rfl) ?_
        refine md_get (v := .ref (h 7)) hx hb hts hown hK hM 16 (by decide) q1406 rfl rfl dX6_walked_33 ?_
        refine lv_iload_n hx hb dX6_walked_36 rfl (lv_at hl 1 rfl) ?_
        refine md_iald hx hb hK hM 7 rfl sh ⟨by omega, by decide, rfl⟩ dX6_walked_37 ?_
        refine w_top (nI (cl (a 7 sh))) (hz.1) ?_
        refine w_if_neN (tgt := 48) hx hb (by omega) dX6_walked_38 (by decide) (fun c_4 => ?_) (fun c_4 => ?_)
        · refine lv_aload_n hx hb dX6_walked_48 rfl (lv_at hl 0 rfl) ?_
          refine lv_iload_n hx hb dX6_walked_49 rfl (lv_at hl 1 rfl) ?_
          refine md_callV (y := yX6_findWalks) hx hb hml hown hts hK hI hM (met_findWalks f a sh hs hz hz1) q1729 q1731 qs54 q1732 ndX6_findWalks rfl (by rw [hRf]; decide) (by rw [hRl]; decide) hl.1 rfl (Nat.le_of_ble_eq_true rfl) dX6_walked_50 (fun H locs hM => ?_)
          refine lv_iconst (v := nI 0) hx hb dX6_walked_53 (by decide) ?_
          refine lv_istore_n (lv' := [(3, .int (nI 0)), (0, .ref (h 0)), (1, .int (nI sh)), (2, .int (nI 0))]) hx hb dX6_walked_54 rfl hl (by decide) rfl (fun ls hl => ?_)
          refine lv_iconst (v := nI 0) hx hb dX6_walked_55 (by decide) ?_
          refine lv_istore (lv' := [(4, .int (nI 0)), (3, .int (nI 0)), (0, .ref (h 0)), (1, .int (nI sh)), (2, .int (nI 0))]) hx hb dX6_walked_56 hl (by decide) rfl (fun ls hl => ?_)
          refine lv_iconst (v := nI 0) hx hb dX6_walked_58 (by decide) ?_
          refine lv_istore (lv' := [(5, .int (nI 0)), (4, .int (nI 0)), (3, .int (nI 0)), (0, .ref (h 0)), (1, .int (nI sh)), (2, .int (nI 0))]) hx hb dX6_walked_59 hl (by decide) rfl (fun ls hl => ?_)
          have loop61 : ∀ (fu : Nat) (c2 : Nat), (c2 ≤ 25) → (25 < c2 + fu) → ∀ (H : Heap) (locs : List Loc), mdH D h dA s.heap H locs f (va_up (va_up a 10 (fwE (a 1) (fun j => a 8 (40 * sh + j)) (cl (a 7 sh)) (a 10) (cl (a 7 sh)))) 11 (fwE (a 1) (fun j => a 8 (40 * sh + j)) (cl (a 7 sh)) (a 10) (cl (a 7 sh)))) → ∀ (ls : Array Slot), lv_has ls 6 [(5, .int (nI c2)), (4, .int ((wdS (fwE (a 1) (fun j => a 8 (40 * sh + j)) (cl (a 7 sh)) (a 10) (cl (a 7 sh))) c2).2)), (3, .int ((wdS (fwE (a 1) (fun j => a 8 (40 * sh + j)) (cl (a 7 sh)) (a 10) (cl (a 7 sh))) c2).1)), (2, .int (nI 0)), (0, .ref (h 0)), (1, .int (nI sh))] → W p l e R s m args below meth c H locs 0 0 Q (F0 m 61 ls []) := by
            intro fu
            induction fu with
            | zero =>
              intro c2 hc hf2
              omega
            | succ fu ih61 =>
              intro c2 hc hf2 H locs hM ls hl
              refine lv_iload hx hb dX6_walked_61 (lv_at hl 0 rfl) ?_
              refine lv_bipush (v := nI 25) hx hb dX6_walked_63 (by decide) ?_
              refine w_icmp_geN (tgt := 113) hx hb (by omega) (by omega) dX6_walked_65 (by decide) (fun c_5 => ?_) (fun c_5 => ?_)
              · refine lv_iload_n hx hb dX6_walked_113 rfl (lv_at hl 3 rfl) ?_
                refine lv_if_ne (tgt := 121) hx hb dX6_walked_114 (by decide) (fun q => absurd q (by decide)) (fun _ => ?_)
                refine lv_iload_n hx hb dX6_walked_117 rfl (lv_at hl 2 rfl) ?_
                refine lv_goto (tgt := 123) hx hb dX6_walked_118 (by decide) ?_
                exact hret hM (by rw [show c2 = 25 by omega]) dX6_walked_123
              · refine lv_iload_n hx hb dX6_walked_68 rfl (lv_at hl 2 rfl) ?_
                refine lv_aload_n hx hb dX6_walked_69 rfl (lv_at hl 4 rfl) ?_
                refine md_get (v := .ref (h 10)) hx hb hts hown hK hM 19 (by decide) q1409 rfl rfl dX6_walked_70 ?_
                refine lv_iload hx hb dX6_walked_73 (lv_at hl 0 rfl) ?_
                refine md_iald hx hb hK hM 10 rfl c2 ⟨by omega, by decide, rfl⟩ dX6_walked_75 ?_
                refine w_top ((fwE (a 1) (fun j => a 8 (40 * sh + j)) (cl (a 7 sh)) (a 10) (cl (a 7 sh))) c2) (rfl) ?_
                refine lv_iadd hx hb dX6_walked_76 ?_
                refine lv_iconst (v := nI 0) hx hb dX6_walked_77 (by decide) ?_
                refine lv_ldc hx hb hown (hts _ q1733) dX6_walked_78 ?_
                refine w_top (nI 999999) (by decide) ?_
                refine st_callI (y := yX6_held) hx hb hml hown hts (met_held (((wdS (fwE (a 1) (fun j => a 8 (40 * sh + j)) (cl (a 7 sh)) (a 10) (cl (a 7 sh))) c2).1) + ((fwE (a 1) (fun j => a 8 (40 * sh + j)) (cl (a 7 sh)) (a 10) (cl (a 7 sh))) c2)) (nI 0) (nI 999999)) q1507 q1508 q70 q1509 ndX6_held rfl (by rw [hRf]; decide) (by rw [hRl]; decide) ⟨Nat.zero_le _, Nat.zero_le _⟩ hl.1 rfl (Nat.le_of_ble_eq_true rfl) dX6_walked_80 ?_
                refine w_top ((wdS (fwE (a 1) (fun j => a 8 (40 * sh + j)) (cl (a 7 sh)) (a 10) (cl (a 7 sh))) (c2 + 1)).1) (rfl) ?_
                refine lv_istore_n (lv' := [(3, .int ((wdS (fwE (a 1) (fun j => a 8 (40 * sh + j)) (cl (a 7 sh)) (a 10) (cl (a 7 sh))) (c2 + 1)).1)), (5, .int (nI c2)), (4, .int ((wdS (fwE (a 1) (fun j => a 8 (40 * sh + j)) (cl (a 7 sh)) (a 10) (cl (a 7 sh))) c2).2)), (2, .int (nI 0)), (0, .ref (h 0)), (1, .int (nI sh))]) hx hb dX6_walked_83 rfl hl (by decide) rfl (fun ls hl => ?_)
                refine lv_iload hx hb dX6_walked_84 (lv_at hl 2 rfl) ?_
                refine lv_aload_n hx hb dX6_walked_86 rfl (lv_at hl 4 rfl) ?_
                refine md_get (v := .ref (h 10)) hx hb hts hown hK hM 19 (by decide) q1409 rfl rfl dX6_walked_87 ?_
                refine lv_iload hx hb dX6_walked_90 (lv_at hl 1 rfl) ?_
                refine md_iald hx hb hK hM 10 rfl c2 ⟨by omega, by decide, rfl⟩ dX6_walked_92 ?_
                refine w_top ((fwE (a 1) (fun j => a 8 (40 * sh + j)) (cl (a 7 sh)) (a 10) (cl (a 7 sh))) c2) (rfl) ?_
                have j104 : ∀ (H : Heap) (locs : List Loc), mdH D h dA s.heap H locs f (va_up (va_up a 10 (fwE (a 1) (fun j => a 8 (40 * sh + j)) (cl (a 7 sh)) (a 10) (cl (a 7 sh)))) 11 (fwE (a 1) (fun j => a 8 (40 * sh + j)) (cl (a 7 sh)) (a 10) (cl (a 7 sh)))) → ∀ (ls : Array Slot), lv_has ls 6 [(3, .int ((wdS (fwE (a 1) (fun j => a 8 (40 * sh + j)) (cl (a 7 sh)) (a 10) (cl (a 7 sh))) (c2 + 1)).1)), (5, .int (nI c2)), (4, .int ((wdS (fwE (a 1) (fun j => a 8 (40 * sh + j)) (cl (a 7 sh)) (a 10) (cl (a 7 sh))) c2).2)), (2, .int (nI 0)), (0, .ref (h 0)), (1, .int (nI sh))] → W p l e R s m args below meth c H locs 0 0 Q (F0 m 104 ls [.int (if (fwE (a 1) (fun j => a 8 (40 * sh + j)) (cl (a 7 sh)) (a 10) (cl (a 7 sh))) c2 ≤ 0 then nI 0 else nI 1 <<< (nI c2 &&& 31)), .int ((wdS (fwE (a 1) (fun j => a 8 (40 * sh + j)) (cl (a 7 sh)) (a 10) (cl (a 7 sh))) c2).2)]) := by
                  intro   H locs hM ls hl
                  refine lv_ior hx hb dX6_walked_104 ?_
                  refine w_top ((wdS (fwE (a 1) (fun j => a 8 (40 * sh + j)) (cl (a 7 sh)) (a 10) (cl (a 7 sh))) (c2 + 1)).2) (rfl) ?_
                  refine lv_istore (lv' := [(4, .int ((wdS (fwE (a 1) (fun j => a 8 (40 * sh + j)) (cl (a 7 sh)) (a 10) (cl (a 7 sh))) (c2 + 1)).2)), (3, .int ((wdS (fwE (a 1) (fun j => a 8 (40 * sh + j)) (cl (a 7 sh)) (a 10) (cl (a 7 sh))) (c2 + 1)).1)), (5, .int (nI c2)), (2, .int (nI 0)), (0, .ref (h 0)), (1, .int (nI sh))]) hx hb dX6_walked_105 hl (by decide) rfl (fun ls hl => ?_)
                  refine lv_iinc (v := nI (c2 + 1)) (lv' := [(5, .int (nI (c2 + 1))), (4, .int ((wdS (fwE (a 1) (fun j => a 8 (40 * sh + j)) (cl (a 7 sh)) (a 10) (cl (a 7 sh))) (c2 + 1)).2)), (3, .int ((wdS (fwE (a 1) (fun j => a 8 (40 * sh + j)) (cl (a 7 sh)) (a 10) (cl (a 7 sh))) (c2 + 1)).1)), (2, .int (nI 0)), (0, .ref (h 0)), (1, .int (nI sh))]) hx hb dX6_walked_107 hl (k := 2) rfl (by rw [show Int32.ofInt 1 = nI 1 from by decide]; exact nI_add _ _) (by decide) rfl (fun ls hl => ?_)
                  refine lv_goto (tgt := 61) hx hb dX6_walked_110 (by decide) ?_
                  exact ih61 (c2 + 1) (by omega) (by omega) _ _ hM ls (lv_sub hl [0, 1, 2, 3, 4, 5] rfl)
                refine lv_if_le (tgt := 103) hx hb dX6_walked_93 (by decide) (fun c_7 => ?_) (fun c_7 => ?_)
                · refine lv_iconst (v := nI 0) hx hb dX6_walked_103 (by decide) ?_
                  refine w_top (if (fwE (a 1) (fun j => a 8 (40 * sh + j)) (cl (a 7 sh)) (a 10) (cl (a 7 sh))) c2 ≤ 0 then nI 0 else nI 1 <<< (nI c2 &&& 31)) ((if_pos c_7).symm) ?_
                  exact j104   _ _ hM ls (lv_sub hl [0, 1, 2, 3, 4, 5] rfl)
                · refine lv_iconst (v := nI 1) hx hb dX6_walked_96 (by decide) ?_
                  refine lv_iload hx hb dX6_walked_97 (lv_at hl 1 rfl) ?_
                  refine lv_ishl hx hb dX6_walked_99 ?_
                  refine lv_goto (tgt := 104) hx hb dX6_walked_100 (by decide) ?_
                  refine w_top (if (fwE (a 1) (fun j => a 8 (40 * sh + j)) (cl (a 7 sh)) (a 10) (cl (a 7 sh))) c2 ≤ 0 then nI 0 else nI 1 <<< (nI c2 &&& 31)) ((if_neg c_7).symm) ?_
                  exact j104   _ _ hM ls (lv_sub hl [0, 1, 2, 3, 4, 5] rfl)
          exact loop61 26 0 (by omega) (by omega) _ _ hM ls (lv_sub hl [0, 1, 2, 5, 3, 4] rfl)
        · exact absurd c_4 (by omega)
    · exact absurd (by first | exact (in_nat (by decide)).mpr ⟨_, by omega, rfl⟩ | exact (in_nat1 _ (by decide) (by decide)).mpr ⟨_, by omega, by omega, rfl⟩ | exact cow_in hN (by omega) | assumption) c_2
set_option maxHeartbeats 400000 in
theorem met_walked_ok1 (f : Nat → Int32) (a : Nat → Nat → Int32) (sh : Nat) (hs : sh < 4) (hz : okN (a 7 sh) 40) (hz1 : 1 ≤ cl (a 7 sh)) (hb0 : ¬ a 6 sh = 0) : MdF yX6_walked cX6_walked 6 (some .int) 2 48 [.int (nI sh), .int (nI 1)] f a (some (.int ((wdS (fwE (a 1) (fun j => a 8 (40 * sh + j)) (cl (a 7 sh)) (a 10) (cl (a 7 sh))) 25).2))) f (va_up (va_up a 10 (fwE (a 1) (fun j => a 8 (40 * sh + j)) (cl (a 7 sh)) (a 10) (cl (a 7 sh)))) 11 (fwE (a 1) (fun j => a 8 (40 * sh + j)) (cl (a 7 sh)) (a 10) (cl (a 7 sh)))) := by
  refine MdF.ofI (by decide) rfl (Nat.le_of_ble_eq_true rfl) ?_
  intro p l e R s m args below meth c Q D h dA ls hx hb hml hRf hRl hts hown hK hI hM hl hret
  have hl : lv_has ls 6 [(0, .ref (h 0)), (1, .int (nI sh)), (2, .int (nI 1))] := hl
  have hz2 := hz.2
  refine lv_iload_n hx hb dX6_walked_0 rfl (lv_at hl 1 rfl) ?_
  refine st_callI (y := yX6_isSheet) hx hb hml hown hts (met_isSheet (nI sh)) q1726 q1727 q70 q1728 ndX6_isSheet rfl (by rw [hRf]; decide) (by rw [hRl]; decide) ⟨Nat.zero_le _, Nat.zero_le _⟩ hl.1 rfl (Nat.le_of_ble_eq_true rfl) dX6_walked_1 ?_
  refine w_if_eqT (tgt := 16) hx hb dX6_walked_4 (by decide) (fun c_1 => ?_) (fun c_1 => ?_)
  · exact absurd (by first | exact (in_nat (by decide)).mpr ⟨_, by omega, rfl⟩ | exact (in_nat1 _ (by decide) (by decide)).mpr ⟨_, by omega, by omega, rfl⟩ | exact cow_in hN (by omega) | assumption) c_1
  · refine lv_iload_n hx hb dX6_walked_7 rfl (lv_at hl 2 rfl) ?_
    refine lv_iconst (v := nI 0) hx hb dX6_walked_8 (by decide) ?_
    refine lv_iconst (v := nI 1) hx hb dX6_walked_9 (by decide) ?_
    refine st_callI (y := yX6_in) hx hb hml hown hts (met_in (nI 1) (nI 0) (nI 1)) q1482 q1483 q70 q1484 ndX6_in rfl (by rw [hRf]; decide) (by rw [hRl]; decide) ⟨Nat.zero_le _, Nat.zero_le _⟩ hl.1 rfl (Nat.le_of_ble_eq_true rfl) dX6_walked_10 ?_
    refine w_if_neT (tgt := 23) hx hb dX6_walked_13 (by decide) (fun c_2 => ?_) (fun c_2 => ?_)
    · refine lv_aload_n hx hb dX6_walked_23 rfl (lv_at hl 0 rfl) ?_
      refine md_get (v := .ref (h 6)) hx hb hts hown hK hM 15 (by decide) q1405 rfl rfl dX6_walked_24 ?_
      refine lv_iload_n hx hb dX6_walked_27 rfl (lv_at hl 1 rfl) ?_
      refine md_iald hx hb hK hM 6 rfl sh ⟨by omega, by decide, rfl⟩ dX6_walked_28 ?_
      refine lv_if_eq (tgt := 41) hx hb dX6_walked_29 (by decide) (fun c_3 => ?_) (fun c_3 => ?_)
      · exact absurd c_3 hb0
      · refine lv_aload_n hx hb dX6_walked_32 rfl (lv_at hl 0 rfl) ?_
        refine md_get (v := .ref (h 7)) hx hb hts hown hK hM 16 (by decide) q1406 rfl rfl dX6_walked_33 ?_
        refine lv_iload_n hx hb dX6_walked_36 rfl (lv_at hl 1 rfl) ?_
        refine md_iald hx hb hK hM 7 rfl sh ⟨by omega, by decide, rfl⟩ dX6_walked_37 ?_
        refine w_top (nI (cl (a 7 sh))) (hz.1) ?_
        refine w_if_neN (tgt := 48) hx hb (by omega) dX6_walked_38 (by decide) (fun c_4 => ?_) (fun c_4 => ?_)
        · refine lv_aload_n hx hb dX6_walked_48 rfl (lv_at hl 0 rfl) ?_
          refine lv_iload_n hx hb dX6_walked_49 rfl (lv_at hl 1 rfl) ?_
          refine md_callV (y := yX6_findWalks) hx hb hml hown hts hK hI hM (met_findWalks f a sh hs hz hz1) q1729 q1731 qs54 q1732 ndX6_findWalks rfl (by rw [hRf]; decide) (by rw [hRl]; decide) hl.1 rfl (Nat.le_of_ble_eq_true rfl) dX6_walked_50 (fun H locs hM => ?_)
          refine lv_iconst (v := nI 0) hx hb dX6_walked_53 (by decide) ?_
          refine lv_istore_n (lv' := [(3, .int (nI 0)), (0, .ref (h 0)), (1, .int (nI sh)), (2, .int (nI 1))]) hx hb dX6_walked_54 rfl hl (by decide) rfl (fun ls hl => ?_)
          refine lv_iconst (v := nI 0) hx hb dX6_walked_55 (by decide) ?_
          refine lv_istore (lv' := [(4, .int (nI 0)), (3, .int (nI 0)), (0, .ref (h 0)), (1, .int (nI sh)), (2, .int (nI 1))]) hx hb dX6_walked_56 hl (by decide) rfl (fun ls hl => ?_)
          refine lv_iconst (v := nI 0) hx hb dX6_walked_58 (by decide) ?_
          refine lv_istore (lv' := [(5, .int (nI 0)), (4, .int (nI 0)), (3, .int (nI 0)), (0, .ref (h 0)), (1, .int (nI sh)), (2, .int (nI 1))]) hx hb dX6_walked_59 hl (by decide) rfl (fun ls hl => ?_)
          have loop61 : ∀ (fu : Nat) (c2 : Nat), (c2 ≤ 25) → (25 < c2 + fu) → ∀ (H : Heap) (locs : List Loc), mdH D h dA s.heap H locs f (va_up (va_up a 10 (fwE (a 1) (fun j => a 8 (40 * sh + j)) (cl (a 7 sh)) (a 10) (cl (a 7 sh)))) 11 (fwE (a 1) (fun j => a 8 (40 * sh + j)) (cl (a 7 sh)) (a 10) (cl (a 7 sh)))) → ∀ (ls : Array Slot), lv_has ls 6 [(5, .int (nI c2)), (4, .int ((wdS (fwE (a 1) (fun j => a 8 (40 * sh + j)) (cl (a 7 sh)) (a 10) (cl (a 7 sh))) c2).2)), (3, .int ((wdS (fwE (a 1) (fun j => a 8 (40 * sh + j)) (cl (a 7 sh)) (a 10) (cl (a 7 sh))) c2).1)), (2, .int (nI 1)), (0, .ref (h 0)), (1, .int (nI sh))] → W p l e R s m args below meth c H locs 0 0 Q (F0 m 61 ls []) := by
            intro fu
            induction fu with
            | zero =>
              intro c2 hc hf2
              omega
            | succ fu ih61 =>
              intro c2 hc hf2 H locs hM ls hl
              refine lv_iload hx hb dX6_walked_61 (lv_at hl 0 rfl) ?_
              refine lv_bipush (v := nI 25) hx hb dX6_walked_63 (by decide) ?_
              refine w_icmp_geN (tgt := 113) hx hb (by omega) (by omega) dX6_walked_65 (by decide) (fun c_5 => ?_) (fun c_5 => ?_)
              · refine lv_iload_n hx hb dX6_walked_113 rfl (lv_at hl 3 rfl) ?_
                refine lv_if_ne (tgt := 121) hx hb dX6_walked_114 (by decide) (fun _ => ?_) (fun q => absurd q (by decide))
                refine lv_iload hx hb dX6_walked_121 (lv_at hl 1 rfl) ?_
                exact hret hM (by rw [show c2 = 25 by omega]) dX6_walked_123
              · refine lv_iload_n hx hb dX6_walked_68 rfl (lv_at hl 2 rfl) ?_
                refine lv_aload_n hx hb dX6_walked_69 rfl (lv_at hl 4 rfl) ?_
                refine md_get (v := .ref (h 10)) hx hb hts hown hK hM 19 (by decide) q1409 rfl rfl dX6_walked_70 ?_
                refine lv_iload hx hb dX6_walked_73 (lv_at hl 0 rfl) ?_
                refine md_iald hx hb hK hM 10 rfl c2 ⟨by omega, by decide, rfl⟩ dX6_walked_75 ?_
                refine w_top ((fwE (a 1) (fun j => a 8 (40 * sh + j)) (cl (a 7 sh)) (a 10) (cl (a 7 sh))) c2) (rfl) ?_
                refine lv_iadd hx hb dX6_walked_76 ?_
                refine lv_iconst (v := nI 0) hx hb dX6_walked_77 (by decide) ?_
                refine lv_ldc hx hb hown (hts _ q1733) dX6_walked_78 ?_
                refine w_top (nI 999999) (by decide) ?_
                refine st_callI (y := yX6_held) hx hb hml hown hts (met_held (((wdS (fwE (a 1) (fun j => a 8 (40 * sh + j)) (cl (a 7 sh)) (a 10) (cl (a 7 sh))) c2).1) + ((fwE (a 1) (fun j => a 8 (40 * sh + j)) (cl (a 7 sh)) (a 10) (cl (a 7 sh))) c2)) (nI 0) (nI 999999)) q1507 q1508 q70 q1509 ndX6_held rfl (by rw [hRf]; decide) (by rw [hRl]; decide) ⟨Nat.zero_le _, Nat.zero_le _⟩ hl.1 rfl (Nat.le_of_ble_eq_true rfl) dX6_walked_80 ?_
                refine w_top ((wdS (fwE (a 1) (fun j => a 8 (40 * sh + j)) (cl (a 7 sh)) (a 10) (cl (a 7 sh))) (c2 + 1)).1) (rfl) ?_
                refine lv_istore_n (lv' := [(3, .int ((wdS (fwE (a 1) (fun j => a 8 (40 * sh + j)) (cl (a 7 sh)) (a 10) (cl (a 7 sh))) (c2 + 1)).1)), (5, .int (nI c2)), (4, .int ((wdS (fwE (a 1) (fun j => a 8 (40 * sh + j)) (cl (a 7 sh)) (a 10) (cl (a 7 sh))) c2).2)), (2, .int (nI 1)), (0, .ref (h 0)), (1, .int (nI sh))]) hx hb dX6_walked_83 rfl hl (by decide) rfl (fun ls hl => ?_)
                refine lv_iload hx hb dX6_walked_84 (lv_at hl 2 rfl) ?_
                refine lv_aload_n hx hb dX6_walked_86 rfl (lv_at hl 4 rfl) ?_
                refine md_get (v := .ref (h 10)) hx hb hts hown hK hM 19 (by decide) q1409 rfl rfl dX6_walked_87 ?_
                refine lv_iload hx hb dX6_walked_90 (lv_at hl 1 rfl) ?_
                refine md_iald hx hb hK hM 10 rfl c2 ⟨by omega, by decide, rfl⟩ dX6_walked_92 ?_
                refine w_top ((fwE (a 1) (fun j => a 8 (40 * sh + j)) (cl (a 7 sh)) (a 10) (cl (a 7 sh))) c2) (rfl) ?_
                have j104 : ∀ (H : Heap) (locs : List Loc), mdH D h dA s.heap H locs f (va_up (va_up a 10 (fwE (a 1) (fun j => a 8 (40 * sh + j)) (cl (a 7 sh)) (a 10) (cl (a 7 sh)))) 11 (fwE (a 1) (fun j => a 8 (40 * sh + j)) (cl (a 7 sh)) (a 10) (cl (a 7 sh)))) → ∀ (ls : Array Slot), lv_has ls 6 [(3, .int ((wdS (fwE (a 1) (fun j => a 8 (40 * sh + j)) (cl (a 7 sh)) (a 10) (cl (a 7 sh))) (c2 + 1)).1)), (5, .int (nI c2)), (4, .int ((wdS (fwE (a 1) (fun j => a 8 (40 * sh + j)) (cl (a 7 sh)) (a 10) (cl (a 7 sh))) c2).2)), (2, .int (nI 1)), (0, .ref (h 0)), (1, .int (nI sh))] → W p l e R s m args below meth c H locs 0 0 Q (F0 m 104 ls [.int (if (fwE (a 1) (fun j => a 8 (40 * sh + j)) (cl (a 7 sh)) (a 10) (cl (a 7 sh))) c2 ≤ 0 then nI 0 else nI 1 <<< (nI c2 &&& 31)), .int ((wdS (fwE (a 1) (fun j => a 8 (40 * sh + j)) (cl (a 7 sh)) (a 10) (cl (a 7 sh))) c2).2)]) := by
                  intro   H locs hM ls hl
                  refine lv_ior hx hb dX6_walked_104 ?_
                  refine w_top ((wdS (fwE (a 1) (fun j => a 8 (40 * sh + j)) (cl (a 7 sh)) (a 10) (cl (a 7 sh))) (c2 + 1)).2) (rfl) ?_
                  refine lv_istore (lv' := [(4, .int ((wdS (fwE (a 1) (fun j => a 8 (40 * sh + j)) (cl (a 7 sh)) (a 10) (cl (a 7 sh))) (c2 + 1)).2)), (3, .int ((wdS (fwE (a 1) (fun j => a 8 (40 * sh + j)) (cl (a 7 sh)) (a 10) (cl (a 7 sh))) (c2 + 1)).1)), (5, .int (nI c2)), (2, .int (nI 1)), (0, .ref (h 0)), (1, .int (nI sh))]) hx hb dX6_walked_105 hl (by decide) rfl (fun ls hl => ?_)
                  refine lv_iinc (v := nI (c2 + 1)) (lv' := [(5, .int (nI (c2 + 1))), (4, .int ((wdS (fwE (a 1) (fun j => a 8 (40 * sh + j)) (cl (a 7 sh)) (a 10) (cl (a 7 sh))) (c2 + 1)).2)), (3, .int ((wdS (fwE (a 1) (fun j => a 8 (40 * sh + j)) (cl (a 7 sh)) (a 10) (cl (a 7 sh))) (c2 + 1)).1)), (2, .int (nI 1)), (0, .ref (h 0)), (1, .int (nI sh))]) hx hb dX6_walked_107 hl (k := 2) rfl (by rw [show Int32.ofInt 1 = nI 1 from by decide]; exact nI_add _ _) (by decide) rfl (fun ls hl => ?_)
                  refine lv_goto (tgt := 61) hx hb dX6_walked_110 (by decide) ?_
                  exact ih61 (c2 + 1) (by omega) (by omega) _ _ hM ls (lv_sub hl [0, 1, 2, 3, 4, 5] rfl)
                refine lv_if_le (tgt := 103) hx hb dX6_walked_93 (by decide) (fun c_7 => ?_) (fun c_7 => ?_)
                · refine lv_iconst (v := nI 0) hx hb dX6_walked_103 (by decide) ?_
                  refine w_top (if (fwE (a 1) (fun j => a 8 (40 * sh + j)) (cl (a 7 sh)) (a 10) (cl (a 7 sh))) c2 ≤ 0 then nI 0 else nI 1 <<< (nI c2 &&& 31)) ((if_pos c_7).symm) ?_
                  exact j104   _ _ hM ls (lv_sub hl [0, 1, 2, 3, 4, 5] rfl)
                · refine lv_iconst (v := nI 1) hx hb dX6_walked_96 (by decide) ?_
                  refine lv_iload hx hb dX6_walked_97 (lv_at hl 1 rfl) ?_
                  refine lv_ishl hx hb dX6_walked_99 ?_
                  refine lv_goto (tgt := 104) hx hb dX6_walked_100 (by decide) ?_
                  refine w_top (if (fwE (a 1) (fun j => a 8 (40 * sh + j)) (cl (a 7 sh)) (a 10) (cl (a 7 sh))) c2 ≤ 0 then nI 0 else nI 1 <<< (nI c2 &&& 31)) ((if_neg c_7).symm) ?_
                  exact j104   _ _ hM ls (lv_sub hl [0, 1, 2, 3, 4, 5] rfl)
          exact loop61 26 0 (by omega) (by omega) _ _ hM ls (lv_sub hl [0, 1, 2, 5, 3, 4] rfl)
        · exact absurd c_4 (by omega)
    · exact absurd (by first | exact (in_nat (by decide)).mpr ⟨_, by omega, rfl⟩ | exact (in_nat1 _ (by decide) (by decide)).mpr ⟨_, by omega, by omega, rfl⟩ | exact cow_in hN (by omega) | assumption) c_2
set_option maxHeartbeats 400000 in
theorem met_walked_n (f : Nat → Int32) (a : Nat → Nat → Int32) (sh : Nat) (hs : sh < 4) (w : Nat) (hw : w < 2) (hb0 : a 6 sh = 0 ∨ a 7 sh = 0) : MdF yX6_walked cX6_walked 6 (some .int) 2 42 [.int (nI sh), .int (nI w)] f a (some (.int (-1000000002 : Int32))) f (mErr a 2) := by
  refine MdF.ofI (by decide) rfl (Nat.le_of_ble_eq_true rfl) ?_
  intro p l e R s m args below meth c Q D h dA ls hx hb hml hRf hRl hts hown hK hI hM hl hret
  have hl : lv_has ls 6 [(0, .ref (h 0)), (1, .int (nI sh)), (2, .int (nI w))] := hl
  refine lv_iload_n hx hb dX6_walked_0 rfl (lv_at hl 1 rfl) ?_
  refine st_callI (y := yX6_isSheet) hx hb hml hown hts (met_isSheet (nI sh)) q1726 q1727 q70 q1728 ndX6_isSheet rfl (by rw [hRf]; decide) (by rw [hRl]; decide) ⟨Nat.zero_le _, Nat.zero_le _⟩ hl.1 rfl (Nat.le_of_ble_eq_true rfl) dX6_walked_1 ?_
  refine w_if_eqT (tgt := 16) hx hb dX6_walked_4 (by decide) (fun c_1 => ?_) (fun c_1 => ?_)
  · exact absurd (by first | exact (in_nat (by decide)).mpr ⟨_, by omega, rfl⟩ | exact (in_nat1 _ (by decide) (by decide)).mpr ⟨_, by omega, by omega, rfl⟩ | exact cow_in hN (by omega) | assumption) c_1
  · refine lv_iload_n hx hb dX6_walked_7 rfl (lv_at hl 2 rfl) ?_
    refine lv_iconst (v := nI 0) hx hb dX6_walked_8 (by decide) ?_
    refine lv_iconst (v := nI 1) hx hb dX6_walked_9 (by decide) ?_
    refine st_callI (y := yX6_in) hx hb hml hown hts (met_in (nI w) (nI 0) (nI 1)) q1482 q1483 q70 q1484 ndX6_in rfl (by rw [hRf]; decide) (by rw [hRl]; decide) ⟨Nat.zero_le _, Nat.zero_le _⟩ hl.1 rfl (Nat.le_of_ble_eq_true rfl) dX6_walked_10 ?_
    refine w_if_neT (tgt := 23) hx hb dX6_walked_13 (by decide) (fun c_2 => ?_) (fun c_2 => ?_)
    · refine lv_aload_n hx hb dX6_walked_23 rfl (lv_at hl 0 rfl) ?_
      refine md_get (v := .ref (h 6)) hx hb hts hown hK hM 15 (by decide) q1405 rfl rfl dX6_walked_24 ?_
      refine lv_iload_n hx hb dX6_walked_27 rfl (lv_at hl 1 rfl) ?_
      refine md_iald hx hb hK hM 6 rfl sh ⟨by omega, by decide, rfl⟩ dX6_walked_28 ?_
      refine lv_if_eq (tgt := 41) hx hb dX6_walked_29 (by decide) (fun c_3 => ?_) (fun c_3 => ?_)
      · refine lv_aload_n hx hb dX6_walked_41 rfl (lv_at hl 0 rfl) ?_
        refine lv_ldc hx hb hown (hts _ q1605) dX6_walked_42 ?_
        refine md_callI (y := yX6_errs) hx hb hml hown hts hK hI hM (met_errs f a (-1000000002 : Int32) 2 (by decide) (by decide)) q1486 q1488 qs21 q1489 ndX6_errs rfl (by rw [hRf]; decide) (by rw [hRl]; decide) hl.1 rfl (Nat.le_of_ble_eq_true rfl) dX6_walked_44 (fun H locs hM => ?_)
        exact hret hM (by first | rfl | (simp only [iI, nI_0, nI_one]; grind)) dX6_walked_47
      · refine lv_aload_n hx hb dX6_walked_32 rfl (lv_at hl 0 rfl) ?_
        refine md_get (v := .ref (h 7)) hx hb hts hown hK hM 16 (by decide) q1406 rfl rfl dX6_walked_33 ?_
        refine lv_iload_n hx hb dX6_walked_36 rfl (lv_at hl 1 rfl) ?_
        refine md_iald hx hb hK hM 7 rfl sh ⟨by omega, by decide, rfl⟩ dX6_walked_37 ?_
        refine lv_if_ne (tgt := 48) hx hb dX6_walked_38 (by decide) (fun c_4 => ?_) (fun c_4 => ?_)
        · exact absurd hb0 (fun q => q.elim c_3 c_4)
        · refine lv_aload_n hx hb dX6_walked_41 rfl (lv_at hl 0 rfl) ?_
          refine lv_ldc hx hb hown (hts _ q1605) dX6_walked_42 ?_
          refine md_callI (y := yX6_errs) hx hb hml hown hts hK hI hM (met_errs f a (-1000000002 : Int32) 2 (by decide) (by decide)) q1486 q1488 qs21 q1489 ndX6_errs rfl (by rw [hRf]; decide) (by rw [hRl]; decide) hl.1 rfl (Nat.le_of_ble_eq_true rfl) dX6_walked_44 (fun H locs hM => ?_)
          exact hret hM (by first | rfl | (simp only [iI, nI_0, nI_one]; grind)) dX6_walked_47
    · exact absurd (by first | exact (in_nat (by decide)).mpr ⟨_, by omega, rfl⟩ | exact (in_nat1 _ (by decide) (by decide)).mpr ⟨_, by omega, by omega, rfl⟩ | exact cow_in hN (by omega) | assumption) c_2
set_option maxHeartbeats 400000 in
theorem met_walked_e (f : Nat → Int32) (a : Nat → Nat → Int32) (sh w : Int32) (he : ¬ ((nI 0 ≤ sh ∧ sh ≤ nI 3) ∧ (nI 0 ≤ w ∧ w ≤ nI 1))) : MdF yX6_walked cX6_walked 6 (some .int) 2 42 [.int sh, .int w] f a (some (.int (-1000000001 : Int32))) f (mErr a 1) := by
  refine MdF.ofI (by decide) rfl (Nat.le_of_ble_eq_true rfl) ?_
  intro p l e R s m args below meth c Q D h dA ls hx hb hml hRf hRl hts hown hK hI hM hl hret
  have hl : lv_has ls 6 [(0, .ref (h 0)), (1, .int sh), (2, .int w)] := hl
  refine lv_iload_n hx hb dX6_walked_0 rfl (lv_at hl 1 rfl) ?_
  refine st_callI (y := yX6_isSheet) hx hb hml hown hts (met_isSheet sh) q1726 q1727 q70 q1728 ndX6_isSheet rfl (by rw [hRf]; decide) (by rw [hRl]; decide) ⟨Nat.zero_le _, Nat.zero_le _⟩ hl.1 rfl (Nat.le_of_ble_eq_true rfl) dX6_walked_1 ?_
  refine w_if_eqT (tgt := 16) hx hb dX6_walked_4 (by decide) (fun c_1 => ?_) (fun c_1 => ?_)
  · refine lv_aload_n hx hb dX6_walked_16 rfl (lv_at hl 0 rfl) ?_
    refine lv_ldc hx hb hown (hts _ q1485) dX6_walked_17 ?_
    refine md_callI (y := yX6_errs) hx hb hml hown hts hK hI hM (met_errs f a (-1000000001 : Int32) 1 (by decide) (by decide)) q1486 q1488 qs21 q1489 ndX6_errs rfl (by rw [hRf]; decide) (by rw [hRl]; decide) hl.1 rfl (Nat.le_of_ble_eq_true rfl) dX6_walked_19 (fun H locs hM => ?_)
    exact hret hM (by first | rfl | (simp only [iI, nI_0, nI_one]; grind)) dX6_walked_22
  · refine lv_iload_n hx hb dX6_walked_7 rfl (lv_at hl 2 rfl) ?_
    refine lv_iconst (v := nI 0) hx hb dX6_walked_8 (by decide) ?_
    refine lv_iconst (v := nI 1) hx hb dX6_walked_9 (by decide) ?_
    refine st_callI (y := yX6_in) hx hb hml hown hts (met_in w (nI 0) (nI 1)) q1482 q1483 q70 q1484 ndX6_in rfl (by rw [hRf]; decide) (by rw [hRl]; decide) ⟨Nat.zero_le _, Nat.zero_le _⟩ hl.1 rfl (Nat.le_of_ble_eq_true rfl) dX6_walked_10 ?_
    refine w_if_neT (tgt := 23) hx hb dX6_walked_13 (by decide) (fun c_2 => ?_) (fun c_2 => ?_)
    · exact absurd ⟨c_1, c_2⟩ he
    · refine lv_aload_n hx hb dX6_walked_16 rfl (lv_at hl 0 rfl) ?_
      refine lv_ldc hx hb hown (hts _ q1485) dX6_walked_17 ?_
      refine md_callI (y := yX6_errs) hx hb hml hown hts hK hI hM (met_errs f a (-1000000001 : Int32) 1 (by decide) (by decide)) q1486 q1488 qs21 q1489 ndX6_errs rfl (by rw [hRf]; decide) (by rw [hRl]; decide) hl.1 rfl (Nat.le_of_ble_eq_true rfl) dX6_walked_19 (fun H locs hM => ?_)
      exact hret hM (by first | rfl | (simp only [iI, nI_0, nI_one]; grind)) dX6_walked_22
