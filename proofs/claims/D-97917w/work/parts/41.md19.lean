/-! the model: acts, 12 (printed by model19.py) -/
set_option maxRecDepth 100000
theorem va_un {α : Type} {a : Nat → α} {j k : Nat} {x : α} (h : k ≠ j) : va_up a j x k = a k := by simp [va_up, h]
theorem cpk_u (g d : Nat → Int32) (k : Nat) : upd (cpk g d k) k (g k) = cpk g d (k + 1) := by
  funext x
  simp only [upd, cpk]
  by_cases h : x = k
  · subst h; rw [if_pos rfl, if_pos (by omega)]
  · rw [if_neg h]
    by_cases h2 : x < k
    · rw [if_pos h2, if_pos (by omega)]
    · rw [if_neg h2, if_neg (by omega)]
theorem cpk_z (g d : Nat → Int32) : cpk g d 0 = d := by
  funext x; simp [cpk]
def mwK (d : Nat → Int32) (b : Nat) (x : Nat → Int32) (k : Nat) : Nat → Int32 := fun y => if b ≤ y ∧ y < b + k then x (y - b) else d y
theorem mwK_0 (d : Nat → Int32) (b : Nat) (x : Nat → Int32) : mwK d b x 0 = d := by
  funext y; unfold mwK; rw [if_neg (by omega)]
theorem mwK_s (d : Nat → Int32) (b : Nat) (x : Nat → Int32) (k : Nat) : upd (mwK d b x k) (b + k) (x k) = mwK d b x (k + 1) := by
  funext y
  simp only [upd, mwK]
  by_cases h : y = b + k
  · subst h
    rw [if_pos rfl, if_pos (by omega)]
    congr 1; omega
  · rw [if_neg h]
    by_cases h2 : b ≤ y ∧ y < b + k
    · rw [if_pos h2, if_pos (by omega)]
    · rw [if_neg h2, if_neg (by omega)]
theorem ndX6_move : yX6_move.cls = RX6 ∧ yX6_move.cls ≠ "java/lang/invoke/MethodHandle" ∧ yX6_move.cls ≠ "java/lang/invoke/VarHandle" ∧ (parseMethodDescriptor yX6_move.desc).map (fun d => d.parameters.length) = some 5 := by decide +kernel
set_option maxHeartbeats 400000 in
theorem met_move_ok (f : Nat → Int32) (a : Nat → Nat → Int32) (sh ot : Nat) (hs : sh < 4) (ho : ot < 4) (i j n : Nat) (hbs : ¬ a 6 sh = 0) (hbo : ¬ a 6 ot = 0) (heq : a 6 sh = a 6 ot) (hz1 : okN (a 7 sh) 40) (hz2 : okN (a 7 ot) 40) (h1 : i + n ≤ cl (a 7 sh)) (h2 : j + n ≤ cl (a 7 ot)) : MdF yX6_move cX6_move 7 (some .int) 2 42 [.int (nI sh), .int (nI i), .int (nI ot), .int (nI j), .int (nI n)] f a (some (.int (nI n))) f (va_up (va_up a 9 (cpk (fun q => a 8 (40 * sh + i + q)) (a 9) n)) 8 (mwK (a 8) (40 * ot + j) (fun q => a 8 (40 * sh + i + q)) n)) := by
  refine MdF.ofI (by decide) rfl (Nat.le_of_ble_eq_true rfl) ?_
  intro p l e R s m args below meth c Q D h dA ls hx hb hml hRf hRl hts hown hK hI hM hl hret
  have hl : lv_has ls 7 [(0, .ref (h 0)), (1, .int (nI sh)), (2, .int (nI i)), (3, .int (nI ot)), (4, .int (nI j)), (5, .int (nI n))] := hl
  have hz3 := hz1.2
  have hz4 := hz2.2
  refine lv_iload_n hx hb dX6_move_0 rfl (lv_at hl 1 rfl) ?_
  refine st_callI (y := yX6_isSheet) hx hb hml hown hts (met_isSheet (nI sh)) q1726 q1727 q70 q1728 ndX6_isSheet rfl (by rw [hRf]; decide) (by rw [hRl]; decide) ⟨Nat.zero_le _, Nat.zero_le _⟩ hl.1 rfl (Nat.le_of_ble_eq_true rfl) dX6_move_1 ?_
  refine w_if_eqT (tgt := 14) hx hb dX6_move_4 (by decide) (fun c_1 => ?_) (fun c_1 => ?_)
  · exact absurd (by first | exact (in_nat (by decide)).mpr ⟨_, by omega, rfl⟩ | exact (in_nat1 _ (by decide) (by decide)).mpr ⟨_, by omega, by omega, rfl⟩ | exact cow_in hN (by omega) | assumption) c_1
  · refine lv_iload_n hx hb dX6_move_7 rfl (lv_at hl 3 rfl) ?_
    refine st_callI (y := yX6_isSheet) hx hb hml hown hts (met_isSheet (nI ot)) q1726 q1727 q70 q1728 ndX6_isSheet rfl (by rw [hRf]; decide) (by rw [hRl]; decide) ⟨Nat.zero_le _, Nat.zero_le _⟩ hl.1 rfl (Nat.le_of_ble_eq_true rfl) dX6_move_8 ?_
    refine w_if_neT (tgt := 21) hx hb dX6_move_11 (by decide) (fun c_2 => ?_) (fun c_2 => ?_)
    · refine lv_aload_n hx hb dX6_move_21 rfl (lv_at hl 0 rfl) ?_
      refine md_get (v := .ref (h 6)) hx hb hts hown hK hM 15 (by decide) q1405 rfl rfl dX6_move_22 ?_
      refine lv_iload_n hx hb dX6_move_25 rfl (lv_at hl 1 rfl) ?_
      refine md_iald hx hb hK hM 6 rfl sh ⟨by omega, by decide, rfl⟩ dX6_move_26 ?_
      refine lv_if_eq (tgt := 39) hx hb dX6_move_27 (by decide) (fun c_3 => ?_) (fun c_3 => ?_)
      · exact absurd c_3 hbs
      · refine lv_aload_n hx hb dX6_move_30 rfl (lv_at hl 0 rfl) ?_
        refine md_get (v := .ref (h 6)) hx hb hts hown hK hM 15 (by decide) q1405 rfl rfl dX6_move_31 ?_
        refine lv_iload_n hx hb dX6_move_34 rfl (lv_at hl 3 rfl) ?_
        refine md_iald hx hb hK hM 6 rfl ot ⟨by omega, by decide, rfl⟩ dX6_move_35 ?_
        refine lv_if_ne (tgt := 46) hx hb dX6_move_36 (by decide) (fun c_4 => ?_) (fun c_4 => ?_)
        · refine lv_aload_n hx hb dX6_move_46 rfl (lv_at hl 0 rfl) ?_
          refine md_get (v := .ref (h 6)) hx hb hts hown hK hM 15 (by decide) q1405 rfl rfl dX6_move_47 ?_
          refine lv_iload_n hx hb dX6_move_50 rfl (lv_at hl 1 rfl) ?_
          refine md_iald hx hb hK hM 6 rfl sh ⟨by omega, by decide, rfl⟩ dX6_move_51 ?_
          refine lv_aload_n hx hb dX6_move_52 rfl (lv_at hl 0 rfl) ?_
          refine md_get (v := .ref (h 6)) hx hb hts hown hK hM 15 (by decide) q1405 rfl rfl dX6_move_53 ?_
          refine lv_iload_n hx hb dX6_move_56 rfl (lv_at hl 3 rfl) ?_
          refine md_iald hx hb hK hM 6 rfl ot ⟨by omega, by decide, rfl⟩ dX6_move_57 ?_
          refine lv_icmp_eq (tgt := 68) hx hb dX6_move_58 (by decide) (fun c_5 => ?_) (fun c_5 => ?_)
          · refine lv_iload hx hb dX6_move_68 (lv_at hl 5 rfl) ?_
            refine w_if_ltN (tgt := 109) hx hb (by omega) dX6_move_70 (by decide) ?_
            refine lv_iload_n hx hb dX6_move_73 rfl (lv_at hl 2 rfl) ?_
            refine w_if_ltN (tgt := 109) hx hb (by omega) dX6_move_74 (by decide) ?_
            refine lv_iload hx hb dX6_move_77 (lv_at hl 4 rfl) ?_
            refine w_if_ltN (tgt := 109) hx hb (by omega) dX6_move_79 (by decide) ?_
            refine lv_iload_n hx hb dX6_move_82 rfl (lv_at hl 2 rfl) ?_
            refine lv_aload_n hx hb dX6_move_83 rfl (lv_at hl 0 rfl) ?_
            refine md_get (v := .ref (h 7)) hx hb hts hown hK hM 16 (by decide) q1406 rfl rfl dX6_move_84 ?_
            refine lv_iload_n hx hb dX6_move_87 rfl (lv_at hl 1 rfl) ?_
            refine md_iald hx hb hK hM 7 rfl sh ⟨by omega, by decide, rfl⟩ dX6_move_88 ?_
            refine w_top (nI (cl (a 7 sh))) (hz1.1) ?_
            refine lv_iload hx hb dX6_move_89 (lv_at hl 5 rfl) ?_
            refine w_isubN hx hb (by omega) dX6_move_91 ?_
            refine w_icmp_gtN (tgt := 109) hx hb (by omega) (by omega) dX6_move_92 (by decide) (fun c_9 => ?_) (fun c_9 => ?_)
            · exact absurd c_9 (by omega)
            · refine lv_iload hx hb dX6_move_95 (lv_at hl 4 rfl) ?_
              refine lv_aload_n hx hb dX6_move_97 rfl (lv_at hl 0 rfl) ?_
              refine md_get (v := .ref (h 7)) hx hb hts hown hK hM 16 (by decide) q1406 rfl rfl dX6_move_98 ?_
              refine lv_iload_n hx hb dX6_move_101 rfl (lv_at hl 3 rfl) ?_
              refine md_iald hx hb hK hM 7 rfl ot ⟨by omega, by decide, rfl⟩ dX6_move_102 ?_
              refine w_top (nI (cl (a 7 ot))) (hz2.1) ?_
              refine lv_iload hx hb dX6_move_103 (lv_at hl 5 rfl) ?_
              refine w_isubN hx hb (by omega) dX6_move_105 ?_
              refine w_icmp_leN (tgt := 116) hx hb (by omega) (by omega) dX6_move_106 (by decide) (fun c_10 => ?_) (fun c_10 => ?_)
              · refine lv_iconst (v := nI 0) hx hb dX6_move_116 (by decide) ?_
                refine lv_istore (lv' := [(6, .int (nI 0)), (0, .ref (h 0)), (1, .int (nI sh)), (2, .int (nI i)), (3, .int (nI ot)), (4, .int (nI j)), (5, .int (nI n))]) hx hb dX6_move_117 hl (by decide) rfl (fun ls hl => ?_)
                have loop119 : ∀ (fu : Nat) (k : Nat), (k ≤ n) → (n < k + fu) → ∀ (H : Heap) (locs : List Loc), mdH D h dA s.heap H locs f (va_up a 9 (cpk (fun q => a 8 (40 * sh + i + q)) (a 9) k)) → ∀ (ls : Array Slot), lv_has ls 7 [(6, .int (nI k)), (0, .ref (h 0)), (1, .int (nI sh)), (2, .int (nI i)), (3, .int (nI ot)), (4, .int (nI j)), (5, .int (nI n))] → W p l e R s m args below meth c H locs 0 0 Q (F0 m 119 ls []) := by
                  intro fu
                  induction fu with
                  | zero =>
                    intro k hk hn
                    omega
                  | succ fu ih119 =>
                    intro k hk hn H locs hM ls hl
                    refine lv_iload hx hb dX6_move_119 (lv_at hl 0 rfl) ?_
                    refine lv_iload hx hb dX6_move_121 (lv_at hl 6 rfl) ?_
                    refine w_icmp_geN (tgt := 153) hx hb (by omega) (by omega) dX6_move_123 (by decide) (fun c_11 => ?_) (fun c_11 => ?_)
                    · refine lv_iconst (v := nI 0) hx hb dX6_move_153 (by decide) ?_
                      refine lv_istore (lv' := [(6, .int (nI 0)), (0, .ref (h 0)), (1, .int (nI sh)), (2, .int (nI i)), (3, .int (nI ot)), (4, .int (nI j)), (5, .int (nI n))]) hx hb dX6_move_154 hl (by decide) rfl (fun ls hl => ?_)
                      have loop156 : ∀ (fu : Nat) (k2 : Nat), (k2 ≤ n) → (n < k2 + fu) → ∀ (H : Heap) (locs : List Loc), mdH D h dA s.heap H locs f (va_up (va_up a 9 (cpk (fun q => a 8 (40 * sh + i + q)) (a 9) n)) 8 (mwK (a 8) (40 * ot + j) (fun q => a 8 (40 * sh + i + q)) k2)) → ∀ (ls : Array Slot), lv_has ls 7 [(6, .int (nI k2)), (0, .ref (h 0)), (1, .int (nI sh)), (2, .int (nI i)), (3, .int (nI ot)), (4, .int (nI j)), (5, .int (nI n))] → W p l e R s m args below meth c H locs 0 0 Q (F0 m 156 ls []) := by
                        intro fu
                        induction fu with
                        | zero =>
                          intro k2 hk2 hn2
                          omega
                        | succ fu ih156 =>
                          intro k2 hk2 hn2 H locs hM ls hl
                          refine lv_iload hx hb dX6_move_156 (lv_at hl 0 rfl) ?_
                          refine lv_iload hx hb dX6_move_158 (lv_at hl 6 rfl) ?_
                          refine w_icmp_geN (tgt := 191) hx hb (by omega) (by omega) dX6_move_160 (by decide) (fun c_12 => ?_) (fun c_12 => ?_)
                          · refine lv_iload hx hb dX6_move_191 (lv_at hl 6 rfl) ?_
                            exact hret (hM.to rfl (by rw [show k2 = n by omega])) (by first | rfl | (simp only [iI, nI_0, nI_one]; grind)) dX6_move_193
                          · refine lv_aload_n hx hb dX6_move_163 rfl (lv_at hl 1 rfl) ?_
                            refine md_get (v := .ref (h 8)) hx hb hts hown hK hM 17 (by decide) q1407 rfl rfl dX6_move_164 ?_
                            refine lv_bipush (v := nI 40) hx hb dX6_move_167 (by decide) ?_
                            refine lv_iload_n hx hb dX6_move_169 rfl (lv_at hl 4 rfl) ?_
                            refine w_imulN hx hb dX6_move_170 ?_
                            refine lv_iload hx hb dX6_move_171 (lv_at hl 5 rfl) ?_
                            refine w_iaddN hx hb dX6_move_173 ?_
                            refine lv_iload hx hb dX6_move_174 (lv_at hl 0 rfl) ?_
                            refine w_iaddN hx hb dX6_move_176 ?_
                            refine lv_aload_n hx hb dX6_move_177 rfl (lv_at hl 1 rfl) ?_
                            refine md_get (v := .ref (h 9)) hx hb hts hown hK hM 18 (by decide) q1408 rfl rfl dX6_move_178 ?_
                            refine lv_iload hx hb dX6_move_181 (lv_at hl 0 rfl) ?_
                            refine md_iald hx hb hK hM 9 rfl k2 ⟨by omega, by decide, rfl⟩ dX6_move_183 ?_
                            refine w_top (a 8 (40 * sh + i + k2)) (by rw [va_un (by decide), va_us]; unfold cpk; rw [if_pos c_12]) ?_
                            refine md_iast hx hb hK hI hM 8 rfl (((40 * ot) + j) + k2) ⟨by omega, by decide, rfl⟩ rfl dX6_move_184 (fun H locs hM => ?_)
                            refine lv_iinc (v := nI (k2 + 1)) (lv' := [(6, .int (nI (k2 + 1))), (0, .ref (h 0)), (1, .int (nI sh)), (2, .int (nI i)), (3, .int (nI ot)), (4, .int (nI j)), (5, .int (nI n))]) hx hb dX6_move_185 hl (k := 0) rfl (by rw [show Int32.ofInt 1 = nI 1 from by decide]; exact nI_add _ _) (by decide) rfl (fun ls hl => ?_)
                            refine lv_goto (tgt := 156) hx hb dX6_move_188 (by decide) ?_
                            exact ih156 (k2 + 1) (by omega) (by omega) _ _ (hM.to rfl (by rw [va_uu, va_us]; exact congrArg (va_up (va_up a 9 (cpk (fun q => a 8 (40 * sh + i + q)) (a 9) n)) 8) (mwK_s _ _ _ _))) ls (lv_sub hl [0, 1, 2, 3, 4, 5, 6] rfl)
                      exact loop156 (n + 1) 0 (by omega) (by omega) _ _ (hM.to rfl (by rw [show k = n by omega, mwK_0]; exact va_self (va_up a 9 (cpk (fun q => a 8 (40 * sh + i + q)) (a 9) n)) 8)) ls (lv_sub hl [0, 1, 2, 3, 4, 5, 6] rfl)
                    · refine lv_aload_n hx hb dX6_move_126 rfl (lv_at hl 1 rfl) ?_
                      refine md_get (v := .ref (h 9)) hx hb hts hown hK hM 18 (by decide) q1408 rfl rfl dX6_move_127 ?_
                      refine lv_iload hx hb dX6_move_130 (lv_at hl 0 rfl) ?_
                      refine lv_aload_n hx hb dX6_move_132 rfl (lv_at hl 1 rfl) ?_
                      refine md_get (v := .ref (h 8)) hx hb hts hown hK hM 17 (by decide) q1407 rfl rfl dX6_move_133 ?_
                      refine lv_bipush (v := nI 40) hx hb dX6_move_136 (by decide) ?_
                      refine lv_iload_n hx hb dX6_move_138 rfl (lv_at hl 2 rfl) ?_
                      refine w_imulN hx hb dX6_move_139 ?_
                      refine lv_iload_n hx hb dX6_move_140 rfl (lv_at hl 3 rfl) ?_
                      refine w_iaddN hx hb dX6_move_141 ?_
                      refine lv_iload hx hb dX6_move_142 (lv_at hl 0 rfl) ?_
                      refine w_iaddN hx hb dX6_move_144 ?_
                      refine md_iald hx hb hK hM 8 rfl (((40 * sh) + i) + k) ⟨by omega, by decide, rfl⟩ dX6_move_145 ?_
                      refine w_top (a 8 (40 * sh + i + k)) (rfl) ?_
                      refine md_iast hx hb hK hI hM 9 rfl k ⟨by omega, by decide, rfl⟩ rfl dX6_move_146 (fun H locs hM => ?_)
                      refine lv_iinc (v := nI (k + 1)) (lv' := [(6, .int (nI (k + 1))), (0, .ref (h 0)), (1, .int (nI sh)), (2, .int (nI i)), (3, .int (nI ot)), (4, .int (nI j)), (5, .int (nI n))]) hx hb dX6_move_147 hl (k := 0) rfl (by rw [show Int32.ofInt 1 = nI 1 from by decide]; exact nI_add _ _) (by decide) rfl (fun ls hl => ?_)
                      refine lv_goto (tgt := 119) hx hb dX6_move_150 (by decide) ?_
                      exact ih119 (k + 1) (by omega) (by omega) _ _ (hM.to rfl (by rw [va_uu, va_us]; exact congrArg (va_up a 9) (cpk_u _ _ _))) ls (lv_sub hl [0, 1, 2, 3, 4, 5, 6] rfl)
                exact loop119 (n + 1) 0 (by omega) (by omega) _ _ (hM.to rfl (by rw [cpk_z]; exact va_self a 9)) ls (lv_sub hl [0, 1, 2, 3, 4, 5, 6] rfl)
              · exact absurd c_10 (by omega)
          · exact absurd heq c_5
        · exact absurd c_4 hbo
    · exact absurd (by first | exact (in_nat (by decide)).mpr ⟨_, by omega, rfl⟩ | exact (in_nat1 _ (by decide) (by decide)).mpr ⟨_, by omega, by omega, rfl⟩ | exact cow_in hN (by omega) | assumption) c_2
set_option maxHeartbeats 400000 in
theorem met_move_n (f : Nat → Int32) (a : Nat → Nat → Int32) (sh ot : Nat) (hs : sh < 4) (ho : ot < 4) (i j n : Int32) (hb0 : a 6 sh = 0 ∨ a 6 ot = 0) : MdF yX6_move cX6_move 7 (some .int) 2 42 [.int (nI sh), .int i, .int (nI ot), .int j, .int n] f a (some (.int (-1000000002 : Int32))) f (mErr a 2) := by
  refine MdF.ofI (by decide) rfl (Nat.le_of_ble_eq_true rfl) ?_
  intro p l e R s m args below meth c Q D h dA ls hx hb hml hRf hRl hts hown hK hI hM hl hret
  have hl : lv_has ls 7 [(0, .ref (h 0)), (1, .int (nI sh)), (2, .int i), (3, .int (nI ot)), (4, .int j), (5, .int n)] := hl
  refine lv_iload_n hx hb dX6_move_0 rfl (lv_at hl 1 rfl) ?_
  refine st_callI (y := yX6_isSheet) hx hb hml hown hts (met_isSheet (nI sh)) q1726 q1727 q70 q1728 ndX6_isSheet rfl (by rw [hRf]; decide) (by rw [hRl]; decide) ⟨Nat.zero_le _, Nat.zero_le _⟩ hl.1 rfl (Nat.le_of_ble_eq_true rfl) dX6_move_1 ?_
  refine w_if_eqT (tgt := 14) hx hb dX6_move_4 (by decide) (fun c_1 => ?_) (fun c_1 => ?_)
  · exact absurd (by first | exact (in_nat (by decide)).mpr ⟨_, by omega, rfl⟩ | exact (in_nat1 _ (by decide) (by decide)).mpr ⟨_, by omega, by omega, rfl⟩ | exact cow_in hN (by omega) | assumption) c_1
  · refine lv_iload_n hx hb dX6_move_7 rfl (lv_at hl 3 rfl) ?_
    refine st_callI (y := yX6_isSheet) hx hb hml hown hts (met_isSheet (nI ot)) q1726 q1727 q70 q1728 ndX6_isSheet rfl (by rw [hRf]; decide) (by rw [hRl]; decide) ⟨Nat.zero_le _, Nat.zero_le _⟩ hl.1 rfl (Nat.le_of_ble_eq_true rfl) dX6_move_8 ?_
    refine w_if_neT (tgt := 21) hx hb dX6_move_11 (by decide) (fun c_2 => ?_) (fun c_2 => ?_)
    · refine lv_aload_n hx hb dX6_move_21 rfl (lv_at hl 0 rfl) ?_
      refine md_get (v := .ref (h 6)) hx hb hts hown hK hM 15 (by decide) q1405 rfl rfl dX6_move_22 ?_
      refine lv_iload_n hx hb dX6_move_25 rfl (lv_at hl 1 rfl) ?_
      refine md_iald hx hb hK hM 6 rfl sh ⟨by omega, by decide, rfl⟩ dX6_move_26 ?_
      refine lv_if_eq (tgt := 39) hx hb dX6_move_27 (by decide) (fun c_3 => ?_) (fun c_3 => ?_)
      · refine lv_aload_n hx hb dX6_move_39 rfl (lv_at hl 0 rfl) ?_
        refine lv_ldc hx hb hown (hts _ q1605) dX6_move_40 ?_
        refine md_callI (y := yX6_errs) hx hb hml hown hts hK hI hM (met_errs f a (-1000000002 : Int32) 2 (by decide) (by decide)) q1486 q1488 qs21 q1489 ndX6_errs rfl (by rw [hRf]; decide) (by rw [hRl]; decide) hl.1 rfl (Nat.le_of_ble_eq_true rfl) dX6_move_42 (fun H locs hM => ?_)
        exact hret hM (by first | rfl | (simp only [iI, nI_0, nI_one]; grind)) dX6_move_45
      · refine lv_aload_n hx hb dX6_move_30 rfl (lv_at hl 0 rfl) ?_
        refine md_get (v := .ref (h 6)) hx hb hts hown hK hM 15 (by decide) q1405 rfl rfl dX6_move_31 ?_
        refine lv_iload_n hx hb dX6_move_34 rfl (lv_at hl 3 rfl) ?_
        refine md_iald hx hb hK hM 6 rfl ot ⟨by omega, by decide, rfl⟩ dX6_move_35 ?_
        refine lv_if_ne (tgt := 46) hx hb dX6_move_36 (by decide) (fun c_4 => ?_) (fun c_4 => ?_)
        · exact hb0.elim (fun q => absurd q c_3) (fun q => absurd q c_4)
        · refine lv_aload_n hx hb dX6_move_39 rfl (lv_at hl 0 rfl) ?_
          refine lv_ldc hx hb hown (hts _ q1605) dX6_move_40 ?_
          refine md_callI (y := yX6_errs) hx hb hml hown hts hK hI hM (met_errs f a (-1000000002 : Int32) 2 (by decide) (by decide)) q1486 q1488 qs21 q1489 ndX6_errs rfl (by rw [hRf]; decide) (by rw [hRl]; decide) hl.1 rfl (Nat.le_of_ble_eq_true rfl) dX6_move_42 (fun H locs hM => ?_)
          exact hret hM (by first | rfl | (simp only [iI, nI_0, nI_one]; grind)) dX6_move_45
    · exact absurd (by first | exact (in_nat (by decide)).mpr ⟨_, by omega, rfl⟩ | exact (in_nat1 _ (by decide) (by decide)).mpr ⟨_, by omega, by omega, rfl⟩ | exact cow_in hN (by omega) | assumption) c_2
set_option maxHeartbeats 400000 in
theorem met_move_k (f : Nat → Int32) (a : Nat → Nat → Int32) (sh ot : Nat) (hs : sh < 4) (ho : ot < 4) (i j n : Int32) (hbs : ¬ a 6 sh = 0) (hbo : ¬ a 6 ot = 0) (heq : ¬ a 6 sh = a 6 ot) : MdF yX6_move cX6_move 7 (some .int) 2 42 [.int (nI sh), .int i, .int (nI ot), .int j, .int n] f a (some (.int (-1000000005 : Int32))) f (mErr a 5) := by
  refine MdF.ofI (by decide) rfl (Nat.le_of_ble_eq_true rfl) ?_
  intro p l e R s m args below meth c Q D h dA ls hx hb hml hRf hRl hts hown hK hI hM hl hret
  have hl : lv_has ls 7 [(0, .ref (h 0)), (1, .int (nI sh)), (2, .int i), (3, .int (nI ot)), (4, .int j), (5, .int n)] := hl
  refine lv_iload_n hx hb dX6_move_0 rfl (lv_at hl 1 rfl) ?_
  refine st_callI (y := yX6_isSheet) hx hb hml hown hts (met_isSheet (nI sh)) q1726 q1727 q70 q1728 ndX6_isSheet rfl (by rw [hRf]; decide) (by rw [hRl]; decide) ⟨Nat.zero_le _, Nat.zero_le _⟩ hl.1 rfl (Nat.le_of_ble_eq_true rfl) dX6_move_1 ?_
  refine w_if_eqT (tgt := 14) hx hb dX6_move_4 (by decide) (fun c_1 => ?_) (fun c_1 => ?_)
  · exact absurd (by first | exact (in_nat (by decide)).mpr ⟨_, by omega, rfl⟩ | exact (in_nat1 _ (by decide) (by decide)).mpr ⟨_, by omega, by omega, rfl⟩ | exact cow_in hN (by omega) | assumption) c_1
  · refine lv_iload_n hx hb dX6_move_7 rfl (lv_at hl 3 rfl) ?_
    refine st_callI (y := yX6_isSheet) hx hb hml hown hts (met_isSheet (nI ot)) q1726 q1727 q70 q1728 ndX6_isSheet rfl (by rw [hRf]; decide) (by rw [hRl]; decide) ⟨Nat.zero_le _, Nat.zero_le _⟩ hl.1 rfl (Nat.le_of_ble_eq_true rfl) dX6_move_8 ?_
    refine w_if_neT (tgt := 21) hx hb dX6_move_11 (by decide) (fun c_2 => ?_) (fun c_2 => ?_)
    · refine lv_aload_n hx hb dX6_move_21 rfl (lv_at hl 0 rfl) ?_
      refine md_get (v := .ref (h 6)) hx hb hts hown hK hM 15 (by decide) q1405 rfl rfl dX6_move_22 ?_
      refine lv_iload_n hx hb dX6_move_25 rfl (lv_at hl 1 rfl) ?_
      refine md_iald hx hb hK hM 6 rfl sh ⟨by omega, by decide, rfl⟩ dX6_move_26 ?_
      refine lv_if_eq (tgt := 39) hx hb dX6_move_27 (by decide) (fun c_3 => ?_) (fun c_3 => ?_)
      · exact absurd c_3 hbs
      · refine lv_aload_n hx hb dX6_move_30 rfl (lv_at hl 0 rfl) ?_
        refine md_get (v := .ref (h 6)) hx hb hts hown hK hM 15 (by decide) q1405 rfl rfl dX6_move_31 ?_
        refine lv_iload_n hx hb dX6_move_34 rfl (lv_at hl 3 rfl) ?_
        refine md_iald hx hb hK hM 6 rfl ot ⟨by omega, by decide, rfl⟩ dX6_move_35 ?_
        refine lv_if_ne (tgt := 46) hx hb dX6_move_36 (by decide) (fun c_4 => ?_) (fun c_4 => ?_)
        · refine lv_aload_n hx hb dX6_move_46 rfl (lv_at hl 0 rfl) ?_
          refine md_get (v := .ref (h 6)) hx hb hts hown hK hM 15 (by decide) q1405 rfl rfl dX6_move_47 ?_
          refine lv_iload_n hx hb dX6_move_50 rfl (lv_at hl 1 rfl) ?_
          refine md_iald hx hb hK hM 6 rfl sh ⟨by omega, by decide, rfl⟩ dX6_move_51 ?_
          refine lv_aload_n hx hb dX6_move_52 rfl (lv_at hl 0 rfl) ?_
          refine md_get (v := .ref (h 6)) hx hb hts hown hK hM 15 (by decide) q1405 rfl rfl dX6_move_53 ?_
          refine lv_iload_n hx hb dX6_move_56 rfl (lv_at hl 3 rfl) ?_
          refine md_iald hx hb hK hM 6 rfl ot ⟨by omega, by decide, rfl⟩ dX6_move_57 ?_
          refine lv_icmp_eq (tgt := 68) hx hb dX6_move_58 (by decide) (fun c_5 => ?_) (fun c_5 => ?_)
          · exact absurd c_5 heq
          · refine lv_aload_n hx hb dX6_move_61 rfl (lv_at hl 0 rfl) ?_
            refine lv_ldc hx hb hown (hts _ q1617) dX6_move_62 ?_
            refine md_callI (y := yX6_errs) hx hb hml hown hts hK hI hM (met_errs f a (-1000000005 : Int32) 5 (by decide) (by decide)) q1486 q1488 qs21 q1489 ndX6_errs rfl (by rw [hRf]; decide) (by rw [hRl]; decide) hl.1 rfl (Nat.le_of_ble_eq_true rfl) dX6_move_64 (fun H locs hM => ?_)
            exact hret hM (by first | rfl | (simp only [iI, nI_0, nI_one]; grind)) dX6_move_67
        · exact absurd c_4 hbo
    · exact absurd (by first | exact (in_nat (by decide)).mpr ⟨_, by omega, rfl⟩ | exact (in_nat1 _ (by decide) (by decide)).mpr ⟨_, by omega, by omega, rfl⟩ | exact cow_in hN (by omega) | assumption) c_2
set_option maxHeartbeats 400000 in
theorem met_move_i (f : Nat → Int32) (a : Nat → Nat → Int32) (sh ot : Nat) (hs : sh < 4) (ho : ot < 4) (i j n : Int32) (hbs : ¬ a 6 sh = 0) (hbo : ¬ a 6 ot = 0) (heq : a 6 sh = a 6 ot) (he : ¬ (¬ n < 0 ∧ ¬ i < 0 ∧ ¬ j < 0 ∧ ¬ a 7 sh - n < i ∧ j ≤ a 7 ot - n)) : MdF yX6_move cX6_move 7 (some .int) 2 42 [.int (nI sh), .int i, .int (nI ot), .int j, .int n] f a (some (.int (-1000000001 : Int32))) f (mErr a 1) := by
  refine MdF.ofI (by decide) rfl (Nat.le_of_ble_eq_true rfl) ?_
  intro p l e R s m args below meth c Q D h dA ls hx hb hml hRf hRl hts hown hK hI hM hl hret
  have hl : lv_has ls 7 [(0, .ref (h 0)), (1, .int (nI sh)), (2, .int i), (3, .int (nI ot)), (4, .int j), (5, .int n)] := hl
  refine lv_iload_n hx hb dX6_move_0 rfl (lv_at hl 1 rfl) ?_
  refine st_callI (y := yX6_isSheet) hx hb hml hown hts (met_isSheet (nI sh)) q1726 q1727 q70 q1728 ndX6_isSheet rfl (by rw [hRf]; decide) (by rw [hRl]; decide) ⟨Nat.zero_le _, Nat.zero_le _⟩ hl.1 rfl (Nat.le_of_ble_eq_true rfl) dX6_move_1 ?_
  refine w_if_eqT (tgt := 14) hx hb dX6_move_4 (by decide) (fun c_1 => ?_) (fun c_1 => ?_)
  · exact absurd (by first | exact (in_nat (by decide)).mpr ⟨_, by omega, rfl⟩ | exact (in_nat1 _ (by decide) (by decide)).mpr ⟨_, by omega, by omega, rfl⟩ | exact cow_in hN (by omega) | assumption) c_1
  · refine lv_iload_n hx hb dX6_move_7 rfl (lv_at hl 3 rfl) ?_
    refine st_callI (y := yX6_isSheet) hx hb hml hown hts (met_isSheet (nI ot)) q1726 q1727 q70 q1728 ndX6_isSheet rfl (by rw [hRf]; decide) (by rw [hRl]; decide) ⟨Nat.zero_le _, Nat.zero_le _⟩ hl.1 rfl (Nat.le_of_ble_eq_true rfl) dX6_move_8 ?_
    refine w_if_neT (tgt := 21) hx hb dX6_move_11 (by decide) (fun c_2 => ?_) (fun c_2 => ?_)
    · refine lv_aload_n hx hb dX6_move_21 rfl (lv_at hl 0 rfl) ?_
      refine md_get (v := .ref (h 6)) hx hb hts hown hK hM 15 (by decide) q1405 rfl rfl dX6_move_22 ?_
      refine lv_iload_n hx hb dX6_move_25 rfl (lv_at hl 1 rfl) ?_
      refine md_iald hx hb hK hM 6 rfl sh ⟨by omega, by decide, rfl⟩ dX6_move_26 ?_
      refine lv_if_eq (tgt := 39) hx hb dX6_move_27 (by decide) (fun c_3 => ?_) (fun c_3 => ?_)
      · exact absurd c_3 hbs
      · refine lv_aload_n hx hb dX6_move_30 rfl (lv_at hl 0 rfl) ?_
        refine md_get (v := .ref (h 6)) hx hb hts hown hK hM 15 (by decide) q1405 rfl rfl dX6_move_31 ?_
        refine lv_iload_n hx hb dX6_move_34 rfl (lv_at hl 3 rfl) ?_
        refine md_iald hx hb hK hM 6 rfl ot ⟨by omega, by decide, rfl⟩ dX6_move_35 ?_
        refine lv_if_ne (tgt := 46) hx hb dX6_move_36 (by decide) (fun c_4 => ?_) (fun c_4 => ?_)
        · refine lv_aload_n hx hb dX6_move_46 rfl (lv_at hl 0 rfl) ?_
          refine md_get (v := .ref (h 6)) hx hb hts hown hK hM 15 (by decide) q1405 rfl rfl dX6_move_47 ?_
          refine lv_iload_n hx hb dX6_move_50 rfl (lv_at hl 1 rfl) ?_
          refine md_iald hx hb hK hM 6 rfl sh ⟨by omega, by decide, rfl⟩ dX6_move_51 ?_
          refine lv_aload_n hx hb dX6_move_52 rfl (lv_at hl 0 rfl) ?_
          refine md_get (v := .ref (h 6)) hx hb hts hown hK hM 15 (by decide) q1405 rfl rfl dX6_move_53 ?_
          refine lv_iload_n hx hb dX6_move_56 rfl (lv_at hl 3 rfl) ?_
          refine md_iald hx hb hK hM 6 rfl ot ⟨by omega, by decide, rfl⟩ dX6_move_57 ?_
          refine lv_icmp_eq (tgt := 68) hx hb dX6_move_58 (by decide) (fun c_5 => ?_) (fun c_5 => ?_)
          · refine lv_iload hx hb dX6_move_68 (lv_at hl 5 rfl) ?_
            refine lv_if_lt (tgt := 109) hx hb dX6_move_70 (by decide) (fun c_6 => ?_) (fun c_6 => ?_)
            · refine lv_aload_n hx hb dX6_move_109 rfl (lv_at hl 0 rfl) ?_
              refine lv_ldc hx hb hown (hts _ q1485) dX6_move_110 ?_
              refine md_callI (y := yX6_errs) hx hb hml hown hts hK hI hM (met_errs f a (-1000000001 : Int32) 1 (by decide) (by decide)) q1486 q1488 qs21 q1489 ndX6_errs rfl (by rw [hRf]; decide) (by rw [hRl]; decide) hl.1 rfl (Nat.le_of_ble_eq_true rfl) dX6_move_112 (fun H locs hM => ?_)
              exact hret hM (by first | rfl | (simp only [iI, nI_0, nI_one]; grind)) dX6_move_115
            · refine lv_iload_n hx hb dX6_move_73 rfl (lv_at hl 2 rfl) ?_
              refine lv_if_lt (tgt := 109) hx hb dX6_move_74 (by decide) (fun c_7 => ?_) (fun c_7 => ?_)
              · refine lv_aload_n hx hb dX6_move_109 rfl (lv_at hl 0 rfl) ?_
                refine lv_ldc hx hb hown (hts _ q1485) dX6_move_110 ?_
                refine md_callI (y := yX6_errs) hx hb hml hown hts hK hI hM (met_errs f a (-1000000001 : Int32) 1 (by decide) (by decide)) q1486 q1488 qs21 q1489 ndX6_errs rfl (by rw [hRf]; decide) (by rw [hRl]; decide) hl.1 rfl (Nat.le_of_ble_eq_true rfl) dX6_move_112 (fun H locs hM => ?_)
                exact hret hM (by first | rfl | (simp only [iI, nI_0, nI_one]; grind)) dX6_move_115
              · refine lv_iload hx hb dX6_move_77 (lv_at hl 4 rfl) ?_
                refine lv_if_lt (tgt := 109) hx hb dX6_move_79 (by decide) (fun c_8 => ?_) (fun c_8 => ?_)
                · refine lv_aload_n hx hb dX6_move_109 rfl (lv_at hl 0 rfl) ?_
                  refine lv_ldc hx hb hown (hts _ q1485) dX6_move_110 ?_
                  refine md_callI (y := yX6_errs) hx hb hml hown hts hK hI hM (met_errs f a (-1000000001 : Int32) 1 (by decide) (by decide)) q1486 q1488 qs21 q1489 ndX6_errs rfl (by rw [hRf]; decide) (by rw [hRl]; decide) hl.1 rfl (Nat.le_of_ble_eq_true rfl) dX6_move_112 (fun H locs hM => ?_)
                  exact hret hM (by first | rfl | (simp only [iI, nI_0, nI_one]; grind)) dX6_move_115
                · refine lv_iload_n hx hb dX6_move_82 rfl (lv_at hl 2 rfl) ?_
                  refine lv_aload_n hx hb dX6_move_83 rfl (lv_at hl 0 rfl) ?_
                  refine md_get (v := .ref (h 7)) hx hb hts hown hK hM 16 (by decide) q1406 rfl rfl dX6_move_84 ?_
                  refine lv_iload_n hx hb dX6_move_87 rfl (lv_at hl 1 rfl) ?_
                  refine md_iald hx hb hK hM 7 rfl sh ⟨by omega, by decide, rfl⟩ dX6_move_88 ?_
                  refine lv_iload hx hb dX6_move_89 (lv_at hl 5 rfl) ?_
                  refine lv_isub hx hb dX6_move_91 ?_
                  refine lv_icmp_gt (tgt := 109) hx hb dX6_move_92 (by decide) (fun c_9 => ?_) (fun c_9 => ?_)
                  · refine lv_aload_n hx hb dX6_move_109 rfl (lv_at hl 0 rfl) ?_
                    refine lv_ldc hx hb hown (hts _ q1485) dX6_move_110 ?_
                    refine md_callI (y := yX6_errs) hx hb hml hown hts hK hI hM (met_errs f a (-1000000001 : Int32) 1 (by decide) (by decide)) q1486 q1488 qs21 q1489 ndX6_errs rfl (by rw [hRf]; decide) (by rw [hRl]; decide) hl.1 rfl (Nat.le_of_ble_eq_true rfl) dX6_move_112 (fun H locs hM => ?_)
                    exact hret hM (by first | rfl | (simp only [iI, nI_0, nI_one]; grind)) dX6_move_115
                  · refine lv_iload hx hb dX6_move_95 (lv_at hl 4 rfl) ?_
                    refine lv_aload_n hx hb dX6_move_97 rfl (lv_at hl 0 rfl) ?_
                    refine md_get (v := .ref (h 7)) hx hb hts hown hK hM 16 (by decide) q1406 rfl rfl dX6_move_98 ?_
                    refine lv_iload_n hx hb dX6_move_101 rfl (lv_at hl 3 rfl) ?_
                    refine md_iald hx hb hK hM 7 rfl ot ⟨by omega, by decide, rfl⟩ dX6_move_102 ?_
                    refine lv_iload hx hb dX6_move_103 (lv_at hl 5 rfl) ?_
                    refine lv_isub hx hb dX6_move_105 ?_
                    refine lv_icmp_le (tgt := 116) hx hb dX6_move_106 (by decide) (fun c_10 => ?_) (fun c_10 => ?_)
                    · exact absurd ⟨c_6, c_7, c_8, c_9, c_10⟩ he
                    · refine lv_aload_n hx hb dX6_move_109 rfl (lv_at hl 0 rfl) ?_
                      refine lv_ldc hx hb hown (hts _ q1485) dX6_move_110 ?_
                      refine md_callI (y := yX6_errs) hx hb hml hown hts hK hI hM (met_errs f a (-1000000001 : Int32) 1 (by decide) (by decide)) q1486 q1488 qs21 q1489 ndX6_errs rfl (by rw [hRf]; decide) (by rw [hRl]; decide) hl.1 rfl (Nat.le_of_ble_eq_true rfl) dX6_move_112 (fun H locs hM => ?_)
                      exact hret hM (by first | rfl | (simp only [iI, nI_0, nI_one]; grind)) dX6_move_115
          · exact absurd heq c_5
        · exact absurd c_4 hbo
    · exact absurd (by first | exact (in_nat (by decide)).mpr ⟨_, by omega, rfl⟩ | exact (in_nat1 _ (by decide) (by decide)).mpr ⟨_, by omega, by omega, rfl⟩ | exact cow_in hN (by omega) | assumption) c_2
set_option maxHeartbeats 400000 in
theorem met_move_e (f : Nat → Int32) (a : Nat → Nat → Int32) (sh i ot j n : Int32) (he : ¬ ((nI 0 ≤ sh ∧ sh ≤ nI 3) ∧ (nI 0 ≤ ot ∧ ot ≤ nI 3))) : MdF yX6_move cX6_move 7 (some .int) 2 42 [.int sh, .int i, .int ot, .int j, .int n] f a (some (.int (-1000000001 : Int32))) f (mErr a 1) := by
  refine MdF.ofI (by decide) rfl (Nat.le_of_ble_eq_true rfl) ?_
  intro p l e R s m args below meth c Q D h dA ls hx hb hml hRf hRl hts hown hK hI hM hl hret
  have hl : lv_has ls 7 [(0, .ref (h 0)), (1, .int sh), (2, .int i), (3, .int ot), (4, .int j), (5, .int n)] := hl
  refine lv_iload_n hx hb dX6_move_0 rfl (lv_at hl 1 rfl) ?_
  refine st_callI (y := yX6_isSheet) hx hb hml hown hts (met_isSheet sh) q1726 q1727 q70 q1728 ndX6_isSheet rfl (by rw [hRf]; decide) (by rw [hRl]; decide) ⟨Nat.zero_le _, Nat.zero_le _⟩ hl.1 rfl (Nat.le_of_ble_eq_true rfl) dX6_move_1 ?_
  refine w_if_eqT (tgt := 14) hx hb dX6_move_4 (by decide) (fun c_1 => ?_) (fun c_1 => ?_)
  · refine lv_aload_n hx hb dX6_move_14 rfl (lv_at hl 0 rfl) ?_
    refine lv_ldc hx hb hown (hts _ q1485) dX6_move_15 ?_
    refine md_callI (y := yX6_errs) hx hb hml hown hts hK hI hM (met_errs f a (-1000000001 : Int32) 1 (by decide) (by decide)) q1486 q1488 qs21 q1489 ndX6_errs rfl (by rw [hRf]; decide) (by rw [hRl]; decide) hl.1 rfl (Nat.le_of_ble_eq_true rfl) dX6_move_17 (fun H locs hM => ?_)
    exact hret hM (by first | rfl | (simp only [iI, nI_0, nI_one]; grind)) dX6_move_20
  · refine lv_iload_n hx hb dX6_move_7 rfl (lv_at hl 3 rfl) ?_
    refine st_callI (y := yX6_isSheet) hx hb hml hown hts (met_isSheet ot) q1726 q1727 q70 q1728 ndX6_isSheet rfl (by rw [hRf]; decide) (by rw [hRl]; decide) ⟨Nat.zero_le _, Nat.zero_le _⟩ hl.1 rfl (Nat.le_of_ble_eq_true rfl) dX6_move_8 ?_
    refine w_if_neT (tgt := 21) hx hb dX6_move_11 (by decide) (fun c_2 => ?_) (fun c_2 => ?_)
    · exact absurd ⟨c_1, c_2⟩ he
    · refine lv_aload_n hx hb dX6_move_14 rfl (lv_at hl 0 rfl) ?_
      refine lv_ldc hx hb hown (hts _ q1485) dX6_move_15 ?_
      refine md_callI (y := yX6_errs) hx hb hml hown hts hK hI hM (met_errs f a (-1000000001 : Int32) 1 (by decide) (by decide)) q1486 q1488 qs21 q1489 ndX6_errs rfl (by rw [hRf]; decide) (by rw [hRl]; decide) hl.1 rfl (Nat.le_of_ble_eq_true rfl) dX6_move_17 (fun H locs hM => ?_)
      exact hret hM (by first | rfl | (simp only [iI, nI_0, nI_one]; grind)) dX6_move_20
