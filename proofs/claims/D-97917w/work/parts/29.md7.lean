/-! the model: jugs (printed by model7.py) -/
set_option maxRecDepth 100000
def dz (z : Int32) : Int32 := z * nI 1103515245 + nI 12345
def dwN (z : Int32) : Nat := z.toBitVec.toNat / 2 ^ 8
theorem dwN_eq (z : Int32) : (z.toUInt32 >>> ((nI 8).toUInt32 &&& Int32.toUInt32 31)).toInt32 = nI (dwN z) := by
  obtain ⟨n, hn, e⟩ : ∃ n, n < 2 ^ 32 ∧ z = nI n := ⟨z.toBitVec.toNat, z.toBitVec.isLt, by
    apply Int32.toBitVec_inj.mp
    show z.toBitVec = BitVec.ofNat 32 z.toBitVec.toNat
    simp⟩
  subst e
  rw [pk_ushrN hn (nI 8) 8 (by decide)]
  unfold dwN
  rw [pk_tn hn]
theorem dwN_lt (z : Int32) : dwN z < 2 ^ 24 := by
  have := z.toBitVec.isLt
  unfold dwN
  omega
theorem ndX6_drawn : yX6_drawn.cls = RX6 ∧ yX6_drawn.cls ≠ "java/lang/invoke/MethodHandle" ∧ yX6_drawn.cls ≠ "java/lang/invoke/VarHandle" ∧ (parseMethodDescriptor yX6_drawn.desc).map (fun d => d.parameters.length) = some 1 := by decide +kernel
set_option maxHeartbeats 400000 in
theorem met_drawn (f : Nat → Int32) (a : Nat → Nat → Int32) (b : Nat) (hb0 : 0 < b) (hb1 : b < 2 ^ 31) : MdF yX6_drawn cX6_drawn 2 (some .int) 0 0 [.int (nI b)] f a (some (.int (nI (dwN (dz (a 1 2)) % b)))) f (va_up a 1 (upd (a 1) 2 (dz (a 1 2)))) := by
  refine MdF.ofI (by decide) rfl (Nat.le_of_ble_eq_true rfl) ?_
  intro p l e R s m args below meth c Q D h dA ls hx hb hml hRf hRl hts hown hK hI hM hl hret
  have hl : lv_has ls 2 [(0, .ref (h 0)), (1, .int (nI b))] := hl
  refine lv_aload_n hx hb dX6_drawn_0 rfl (lv_at hl 0 rfl) ?_
  refine md_get (v := .ref (h 1)) hx hb hts hown hK hM 0 (by decide) q1390 rfl rfl dX6_drawn_1 ?_
  refine lv_iconst (v := nI 2) hx hb dX6_drawn_4 (by decide) ?_
  refine lv_aload_n hx hb dX6_drawn_5 rfl (lv_at hl 0 rfl) ?_
  refine md_get (v := .ref (h 1)) hx hb hts hown hK hM 0 (by decide) q1390 rfl rfl dX6_drawn_6 ?_
  refine lv_iconst (v := nI 2) hx hb dX6_drawn_9 (by decide) ?_
  refine md_iald hx hb hK hM 1 rfl 2 ⟨by omega, by decide, rfl⟩ dX6_drawn_10 ?_
  refine lv_ldc hx hb hown (hts _ q1672) dX6_drawn_11 ?_
  refine w_top (nI 1103515245) (by decide) ?_
  refine lv_imul hx hb dX6_drawn_13 ?_
  refine lv_sipush (v := nI 12345) hx hb dX6_drawn_14 (by decide) ?_
  refine lv_iadd hx hb dX6_drawn_17 ?_
  refine w_top (dz (a 1 2)) (rfl) ?_
  refine md_iast hx hb hK hI hM 1 rfl 2 ⟨by omega, by decide, rfl⟩ rfl dX6_drawn_18 (fun H locs hM => ?_)
  refine lv_aload_n hx hb dX6_drawn_19 rfl (lv_at hl 0 rfl) ?_
  refine md_get (v := .ref (h 1)) hx hb hts hown hK hM 0 (by decide) q1390 rfl rfl dX6_drawn_20 ?_
  refine lv_iconst (v := nI 2) hx hb dX6_drawn_23 (by decide) ?_
  refine md_iald hx hb hK hM 1 rfl 2 ⟨by omega, by decide, rfl⟩ dX6_drawn_24 ?_
  refine w_top ((upd (a 1) 2 (dz (a 1 2))) 2) (by rw [va_us]) ?_
  refine w_top (dz (a 1 2)) (rfl) ?_
  refine lv_bipush (v := nI 8) hx hb dX6_drawn_25 (by decide) ?_
  refine lv_iushr (v := ((dz (a 1 2)).toUInt32 >>> ((nI 8).toUInt32 &&& Int32.toUInt32 31)).toInt32) hx hb dX6_drawn_27 rfl ?_
  refine w_top (nI (dwN (dz (a 1 2)))) (dwN_eq _) ?_
  refine lv_iload_n hx hb dX6_drawn_28 rfl (lv_at hl 1 rfl) ?_
  refine w_iremN hx hb (by have := dwN_lt (dz (a 1 2)); omega) (by omega) (by omega) dX6_drawn_29 ?_
  exact hret hM (by first | rfl | (simp only [iI, nI_0, nI_one]; grind)) dX6_drawn_30
abbrev jugP (r : Nat → Int32) (v : Int32) : Prop := nI 1 ≤ v ∧ v ≤ (nI 1 <<< (r 3 &&& 31)) - nI 1
theorem ndX6_isJug : yX6_isJug.cls = RX6 ∧ yX6_isJug.cls ≠ "java/lang/invoke/MethodHandle" ∧ yX6_isJug.cls ≠ "java/lang/invoke/VarHandle" ∧ (parseMethodDescriptor yX6_isJug.desc).map (fun d => d.parameters.length) = some 1 := by decide +kernel
set_option maxHeartbeats 400000 in
theorem met_isJug (f : Nat → Int32) (a : Nat → Nat → Int32) (v : Int32) : MdF yX6_isJug cX6_isJug 2 (some .boolean) 1 22 [.int v] f a (some (.int (iI (jugP (a 1) v)))) f a := by
  refine MdF.ofZ (by decide) rfl (Nat.le_of_ble_eq_true rfl) iI_n ?_
  intro p l e R s m args below meth c Q D h dA ls hx hb hml hRf hRl hts hown hK hI hM hl hret
  have hl : lv_has ls 2 [(0, .ref (h 0)), (1, .int v)] := hl
  refine lv_iload_n hx hb dX6_isJug_0 rfl (lv_at hl 1 rfl) ?_
  refine lv_iconst (v := nI 1) hx hb dX6_isJug_1 (by decide) ?_
  refine lv_iconst (v := nI 1) hx hb dX6_isJug_2 (by decide) ?_
  refine lv_aload_n hx hb dX6_isJug_3 rfl (lv_at hl 0 rfl) ?_
  refine md_get (v := .ref (h 1)) hx hb hts hown hK hM 0 (by decide) q1390 rfl rfl dX6_isJug_4 ?_
  refine lv_iconst (v := nI 3) hx hb dX6_isJug_7 (by decide) ?_
  refine md_iald hx hb hK hM 1 rfl 3 ⟨by omega, by decide, rfl⟩ dX6_isJug_8 ?_
  refine lv_ishl hx hb dX6_isJug_9 ?_
  refine lv_iconst (v := nI 1) hx hb dX6_isJug_10 (by decide) ?_
  refine lv_isub hx hb dX6_isJug_11 ?_
  refine st_callI (y := yX6_in) hx hb hml hown hts (met_in v (nI 1) (((nI 1) <<< ((a 1 3) &&& 31)) - (nI 1))) q1482 q1483 q70 q1484 ndX6_in rfl (by rw [hRf]; decide) (by rw [hRl]; decide) ⟨Nat.zero_le _, Nat.zero_le _⟩ hl.1 rfl (Nat.le_of_ble_eq_true rfl) dX6_isJug_12 ?_
  exact hret hM (by first | rfl | (simp only [iI, nI_0, nI_one]; grind)) dX6_isJug_15
abbrev bitI (g : Int32) (w : Nat) : Int32 := (g >>> (nI w &&& 31)) &&& nI 1
def cowS (g : Int32) : Nat → Int32
  | 0 => nI 0
  | k + 1 => cowS g k + bitI g k
def mx (m v : Int32) : Int32 := if m < v then v else m
/-- the best taste among the first k places of the milk of w, from m0 on -/
def tasM (r : Nat → Int32) (n : Int32) (c w : Nat) (m0 : Int32) : Nat → Int32
  | 0 => m0
  | k + 1 => if r (58 + 14 * w + (4 + k)) = nI c then mx (tasM r n c w m0 k) (lawV (rA r) 1 (r (8 + c)) (nI k) n) else tasM r n c w m0 k
/-- of the first w cows -/
def tasW (r : Nat → Int32) (g : Int32) (c : Nat) : Nat → Int32
  | 0 => nI 0
  | w + 1 => if bitI g w = nI 1 then tasM r (cowS g 5) c w (tasW r g c w) (cl (r (58 + 14 * w + 3))) else tasW r g c w
def tasR (r : Nat → Int32) (g : Int32) (c : Nat) : Int32 := tasW r g c (cl (r 3))
theorem finM_spec (g : Nat → Int32) (c : Int32) : ∀ n k, k + n < 2 ^ 31 → (finM g c n k < 0 ∧ ∀ i, k ≤ i → i < k + n → ¬ g i = c) ∨ ∃ j, k ≤ j ∧ j < k + n ∧ finM g c n k = nI j ∧ g j = c ∧ ∀ i, k ≤ i → i < j → ¬ g i = c := by
  intro n
  induction n with
  | zero => intro k _; exact Or.inl ⟨show (-1 : Int32) < 0 by decide, fun i h1 h2 => absurd h2 (by omega)⟩
  | succ n ih =>
    intro k hk
    unfold finM
    split
    · rename_i h
      exact Or.inr ⟨k, Nat.le_refl _, by omega, rfl, h, fun i h1 h2 => absurd h2 (by omega)⟩
    · rename_i h
      rcases ih (k + 1) (by omega) with ⟨h1, h2⟩ | ⟨j, h1, h2, h3, h4, h5⟩
      · refine Or.inl ⟨h1, fun i a1 a2 => ?_⟩
        by_cases hi : i = k
        · subst hi; exact h
        · exact h2 i (by omega) (by omega)
      · refine Or.inr ⟨j, by omega, by omega, h3, h4, fun i a1 a2 => ?_⟩
        by_cases hi : i = k
        · subst hi; exact h
        · exact h5 i (by omega) a2
theorem tasM_skip {r : Nat → Int32} {n : Int32} {c w : Nat} {m0 : Int32} {k : Nat} : ∀ d, (∀ i, k ≤ i → i < k + d → ¬ r (58 + 14 * w + (4 + i)) = nI c) → tasM r n c w m0 (k + d) = tasM r n c w m0 k := by
  intro d
  induction d with
  | zero => intro _; rfl
  | succ d ih =>
    intro h
    rw [← Nat.add_assoc, tasM, if_neg (h (k + d) (by omega) (by omega))]
    exact ih (fun i a1 a2 => h i a1 (by omega))
theorem tasM_none {r : Nat → Int32} {n : Int32} {c w : Nat} {m0 : Int32} {k : Nat} (hk : k ≤ cl (r (58 + 14 * w + 3))) (hq : cl (r (58 + 14 * w + 3)) ≤ 10) (h : finR r w (nI c) k < 0) : tasM r n c w m0 (cl (r (58 + 14 * w + 3))) = tasM r n c w m0 k := by
  rcases finM_spec (fun k => r (58 + 14 * w + (4 + k))) (nI c) (cl (r (58 + 14 * w + 3)) - k) k (by omega) with ⟨_, h2⟩ | ⟨j, h1, h2, h3, -⟩
  · have := tasM_skip (r := r) (n := n) (c := c) (w := w) (m0 := m0) (k := k) (cl (r (58 + 14 * w + 3)) - k) h2
    rw [show k + (cl (r (58 + 14 * w + 3)) - k) = cl (r (58 + 14 * w + 3)) by omega] at this
    exact this
  · rw [show finR r w (nI c) k = nI j from h3] at h
    exact absurd h (nI_pos (by omega))
theorem tasM_some {r : Nat → Int32} {n : Int32} {c w : Nat} {m0 : Int32} {k : Nat} (hq : cl (r (58 + 14 * w + 3)) ≤ 10) (hk : k ≤ cl (r (58 + 14 * w + 3))) (h : ¬ finR r w (nI c) k < 0) : ∃ j, k ≤ j ∧ j < cl (r (58 + 14 * w + 3)) ∧ finR r w (nI c) k = nI j ∧ tasM r n c w m0 (j + 1) = mx (tasM r n c w m0 k) (lawV (rA r) 1 (r (8 + c)) (nI j) n) := by
  rcases finM_spec (fun k => r (58 + 14 * w + (4 + k))) (nI c) (cl (r (58 + 14 * w + 3)) - k) k (by omega) with ⟨h1, _⟩ | ⟨j, h1, h2, h3, h4, h5⟩
  · exact absurd h1 h
  · refine ⟨j, h1, by omega, h3, ?_⟩
    have := tasM_skip (r := r) (n := n) (c := c) (w := w) (m0 := m0) (k := k) (j - k) (fun i a1 a2 => h5 i a1 (by omega))
    rw [show k + (j - k) = j by omega] at this
    rw [tasM, if_pos h4, this]
/-- the cells that a jug knows, of the first k -/
def knS (r : Nat → Int32) (g : Int32) : Nat → Int32
  | 0 => nI 0
  | k + 1 => knS r g k ||| (if 0 < tasR r g k then nI 1 <<< (nI k &&& 31) else nI 0)
theorem ndX6_cowsOf : yX6_cowsOf.cls = RX6 ∧ yX6_cowsOf.cls ≠ "java/lang/invoke/MethodHandle" ∧ yX6_cowsOf.cls ≠ "java/lang/invoke/VarHandle" ∧ (parseMethodDescriptor yX6_cowsOf.desc).map (fun d => d.parameters.length) = some 1 := by decide +kernel
set_option maxHeartbeats 400000 in
theorem met_cowsOf (f : Nat → Int32) (a : Nat → Nat → Int32) (g : Int32) : MdF yX6_cowsOf cX6_cowsOf 4 (some .int) 0 0 [.int g] f a (some (.int (cowS g 5))) f a := by
  refine MdF.ofI (by decide) rfl (Nat.le_of_ble_eq_true rfl) ?_
  intro p l e R s m args below meth c Q D h dA ls hx hb hml hRf hRl hts hown hK hI hM hl hret
  have hl : lv_has ls 4 [(0, .ref (h 0)), (1, .int g)] := hl
  refine lv_iconst (v := nI 0) hx hb dX6_cowsOf_0 (by decide) ?_
  refine lv_istore_n (lv' := [(2, .int (nI 0)), (0, .ref (h 0)), (1, .int g)]) hx hb dX6_cowsOf_1 rfl hl (by decide) rfl (fun ls hl => ?_)
  refine lv_iconst (v := nI 0) hx hb dX6_cowsOf_2 (by decide) ?_
  refine lv_istore_n (lv' := [(3, .int (nI 0)), (2, .int (nI 0)), (0, .ref (h 0)), (1, .int g)]) hx hb dX6_cowsOf_3 rfl hl (by decide) rfl (fun ls hl => ?_)
  have loop4 : ∀ (fu : Nat) (k : Nat), (k ≤ 5) → (5 < k + fu) → ∀ (H : Heap) (locs : List Loc), mdH D h dA s.heap H locs f a → ∀ (ls : Array Slot), lv_has ls 4 [(3, .int (nI k)), (2, .int (cowS g k)), (0, .ref (h 0)), (1, .int g)] → W p l e R s m args below meth c H locs 0 0 Q (F0 m 4 ls []) := by
    intro fu
    induction fu with
    | zero =>
      intro k hk hn
      omega
    | succ fu ih4 =>
      intro k hk hn H locs hM ls hl
      refine lv_iload_n hx hb dX6_cowsOf_4 rfl (lv_at hl 0 rfl) ?_
      refine lv_iconst (v := nI 5) hx hb dX6_cowsOf_5 (by decide) ?_
      refine w_icmp_geN (tgt := 23) hx hb (by omega) (by omega) dX6_cowsOf_6 (by decide) (fun c_1 => ?_) (fun c_1 => ?_)
      · refine lv_iload_n hx hb dX6_cowsOf_23 rfl (lv_at hl 1 rfl) ?_
        exact hret hM (by rw [show k = 5 by omega]) dX6_cowsOf_24
      · refine lv_iload_n hx hb dX6_cowsOf_9 rfl (lv_at hl 1 rfl) ?_
        refine lv_iload_n hx hb dX6_cowsOf_10 rfl (lv_at hl 3 rfl) ?_
        refine lv_iload_n hx hb dX6_cowsOf_11 rfl (lv_at hl 0 rfl) ?_
        refine lv_ishr hx hb dX6_cowsOf_12 ?_
        refine lv_iconst (v := nI 1) hx hb dX6_cowsOf_13 (by decide) ?_
        refine lv_iand hx hb dX6_cowsOf_14 ?_
        refine lv_iadd hx hb dX6_cowsOf_15 ?_
        refine lv_istore_n (lv' := [(2, .int ((cowS g k) + ((g >>> ((nI k) &&& 31)) &&& (nI 1)))), (3, .int (nI k)), (0, .ref (h 0)), (1, .int g)]) hx hb dX6_cowsOf_16 rfl hl (by decide) rfl (fun ls hl => ?_)
        refine lv_iinc (v := nI (k + 1)) (lv' := [(3, .int (nI (k + 1))), (2, .int ((cowS g k) + ((g >>> ((nI k) &&& 31)) &&& (nI 1)))), (0, .ref (h 0)), (1, .int g)]) hx hb dX6_cowsOf_17 hl (k := 1) rfl (by rw [show Int32.ofInt 1 = nI 1 from by decide]; exact nI_add _ _) (by decide) rfl (fun ls hl => ?_)
        refine lv_goto (tgt := 4) hx hb dX6_cowsOf_20 (by decide) ?_
        exact ih4 (k + 1) (by omega) (by omega) _ _ hM ls (lv_sub hl [0, 1, 2, 3] rfl)
  exact loop4 6 0 (by omega) (by omega) _ _ hM ls (lv_sub hl [0, 1, 2, 3] rfl)
theorem ndX6_tasteOf : yX6_tasteOf.cls = RX6 ∧ yX6_tasteOf.cls ≠ "java/lang/invoke/MethodHandle" ∧ yX6_tasteOf.cls ≠ "java/lang/invoke/VarHandle" ∧ (parseMethodDescriptor yX6_tasteOf.desc).map (fun d => d.parameters.length) = some 2 := by decide +kernel
set_option maxHeartbeats 400000 in
theorem met_tasteOf (f : Nat → Int32) (a : Nat → Nat → Int32) (g : Int32) (c0 : Nat) (hc : c0 < 25) (hR : okR (a 1)) : MdX yX6_tasteOf cX6_tasteOf 8 (some .int) 41 1043 [.int g, .int (nI c0)] f a (some (.int (tasR (a 1) g c0))) a := by
  refine MdX.ofI (by decide) rfl (Nat.le_of_ble_eq_true rfl) ?_
  intro p l e R s m args below meth c Q D h dA ls hx hb hml hRf hRl hts hown hK hI hM hl hret
  have hl : lv_has ls 8 [(0, .ref (h 0)), (1, .int g), (2, .int (nI c0))] := hl
  have hc5 := hR.2.1.2
  refine lv_aload_n hx hb dX6_tasteOf_0 rfl (lv_at hl 0 rfl) ?_
  refine lv_iload_n hx hb dX6_tasteOf_1 rfl (lv_at hl 1 rfl) ?_
  refine md_callI (y := yX6_cowsOf) hx hb hml hown hts hK hI hM (met_cowsOf f a g) q1685 q1687 qs51 q1688 ndX6_cowsOf rfl (by rw [hRf]; decide) (by rw [hRl]; decide) hl.1 rfl (Nat.le_of_ble_eq_true rfl) dX6_tasteOf_2 (fun H locs hM => ?_)
  refine lv_istore_n (lv' := [(3, .int (cowS g 5)), (0, .ref (h 0)), (1, .int g), (2, .int (nI c0))]) hx hb dX6_tasteOf_5 rfl hl (by decide) rfl (fun ls hl => ?_)
  refine lv_iconst (v := nI 0) hx hb dX6_tasteOf_6 (by decide) ?_
  refine lv_istore (lv' := [(4, .int (nI 0)), (3, .int (cowS g 5)), (0, .ref (h 0)), (1, .int g), (2, .int (nI c0))]) hx hb dX6_tasteOf_7 hl (by decide) rfl (fun ls hl => ?_)
  refine lv_iconst (v := nI 0) hx hb dX6_tasteOf_9 (by decide) ?_
  refine lv_istore (lv' := [(5, .int (nI 0)), (4, .int (nI 0)), (3, .int (cowS g 5)), (0, .ref (h 0)), (1, .int g), (2, .int (nI c0))]) hx hb dX6_tasteOf_10 hl (by decide) rfl (fun ls hl => ?_)
  have loop12 : ∀ (fu : Nat) (w : Nat), (w ≤ cl (a 1 3)) → (cl (a 1 3) < w + fu) → ∀ (f1 : Nat → Int32), fE f f1 → ∀ (H : Heap) (locs : List Loc), mdH D h dA s.heap H locs f1 a → ∀ (ls : Array Slot), lv_has ls 8 [(5, .int (nI w)), (4, .int (tasW (a 1) g c0 w)), (3, .int (cowS g 5)), (0, .ref (h 0)), (1, .int g), (2, .int (nI c0))] → W p l e R s m args below meth c H locs 0 0 Q (F0 m 12 ls []) := by
    intro fu
    induction fu with
    | zero =>
      intro w hw hn
      omega
    | succ fu ih12 =>
      intro w hw hn f12 he12 H locs hM ls hl
      refine lv_iload hx hb dX6_tasteOf_12 (lv_at hl 0 rfl) ?_
      refine lv_aload_n hx hb dX6_tasteOf_14 rfl (lv_at hl 3 rfl) ?_
      refine md_get (v := .ref (h 1)) hx hb hts hown hK hM 0 (by decide) q1390 rfl rfl dX6_tasteOf_15 ?_
      refine lv_iconst (v := nI 3) hx hb dX6_tasteOf_18 (by decide) ?_
      refine md_iald hx hb hK hM 1 rfl 3 ⟨by omega, by decide, rfl⟩ dX6_tasteOf_19 ?_
      refine w_top (nI (cl (a 1 3))) (hR.2.1.1) ?_
      refine w_icmp_geN (tgt := 109) hx hb (by omega) (by omega) dX6_tasteOf_20 (by decide) (fun c_1 => ?_) (fun c_1 => ?_)
      · refine lv_iload hx hb dX6_tasteOf_109 (lv_at hl 1 rfl) ?_
        exact hret he12 hM (by rw [show w = cl (a 1 3) by omega]; rfl) dX6_tasteOf_111
      · have hq : okN (a 1 (58 + 14 * w + 3)) 10 := (hR.2.2.2.2.2.1 w (by omega)).2.2.2.1
        have hq2 := hq.2
        refine lv_iload_n hx hb dX6_tasteOf_23 rfl (lv_at hl 4 rfl) ?_
        refine lv_iload hx hb dX6_tasteOf_24 (lv_at hl 0 rfl) ?_
        refine lv_ishr hx hb dX6_tasteOf_26 ?_
        refine lv_iconst (v := nI 1) hx hb dX6_tasteOf_27 (by decide) ?_
        refine lv_iand hx hb dX6_tasteOf_28 ?_
        refine lv_iconst (v := nI 1) hx hb dX6_tasteOf_29 (by decide) ?_
        refine lv_icmp_ne (tgt := 44) hx hb dX6_tasteOf_30 (by decide) (fun c_2 => ?_) (fun c_2 => ?_)
        · refine lv_iconst (v := (-1 : Int32)) hx hb dX6_tasteOf_44 (by decide) ?_
          refine lv_istore (lv' := [(6, .int (-1 : Int32)), (5, .int (nI w)), (4, .int (tasW (a 1) g c0 w)), (3, .int (cowS g 5)), (0, .ref (h 0)), (1, .int g), (2, .int (nI c0))]) hx hb dX6_tasteOf_45 hl (by decide) rfl (fun ls hl => ?_)
          refine lv_iload hx hb dX6_tasteOf_47 (lv_at hl 0 rfl) ?_
          refine lv_if_lt (tgt := 103) hx hb dX6_tasteOf_49 (by decide) (fun c_3 => ?_) (fun c_3 => ?_)
          · have htw : tasW (a 1) g c0 (w + 1) = tasW (a 1) g c0 w := by rw [tasW, if_neg c_2]
            refine lv_iinc (v := nI (w + 1)) (lv' := [(5, .int (nI (w + 1))), (6, .int (-1 : Int32)), (4, .int (tasW (a 1) g c0 w)), (3, .int (cowS g 5)), (0, .ref (h 0)), (1, .int g), (2, .int (nI c0))]) hx hb dX6_tasteOf_103 hl (k := 1) rfl (by rw [show Int32.ofInt 1 = nI 1 from by decide]; exact nI_add _ _) (by decide) rfl (fun ls hl => ?_)
            refine lv_goto (tgt := 12) hx hb dX6_tasteOf_106 (by decide) ?_
            exact ih12 (w + 1) (by omega) (by omega) _ he12 _ _ hM ls (by rw [htw]; exact lv_sub hl [0, 2, 3, 4, 5, 6] rfl)
          · exact absurd (show ((-1 : Int32)) < 0 by decide) c_3
        · refine lv_aload_n hx hb dX6_tasteOf_33 rfl (lv_at hl 3 rfl) ?_
          refine lv_iload hx hb dX6_tasteOf_34 (lv_at hl 0 rfl) ?_
          refine lv_iload_n hx hb dX6_tasteOf_36 rfl (lv_at hl 5 rfl) ?_
          refine lv_iconst (v := nI 0) hx hb dX6_tasteOf_37 (by decide) ?_
          refine md_callI (y := yX6_inMilk) hx hb hml hown hts hK hI hM (met_inMilk f12 a w 0 (nI c0) (by omega) hq (by omega)) q1594 q1596 qs42 q1597 ndX6_inMilk rfl (by rw [hRf]; decide) (by rw [hRl]; decide) hl.1 rfl (Nat.le_of_ble_eq_true rfl) dX6_tasteOf_38 (fun H locs hM => ?_)
          refine lv_goto (tgt := 45) hx hb dX6_tasteOf_41 (by decide) ?_
          refine lv_istore (lv' := [(6, .int (finM (fun k => a 1 (58 + 14 * w + (4 + k))) (nI c0) (cl (a 1 (58 + 14 * w + 3)) - 0) 0)), (5, .int (nI w)), (4, .int (tasW (a 1) g c0 w)), (3, .int (cowS g 5)), (0, .ref (h 0)), (1, .int g), (2, .int (nI c0))]) hx hb dX6_tasteOf_45 hl (by decide) rfl (fun ls hl => ?_)
          have loop47 : ∀ (fu : Nat) (k : Nat), (k ≤ cl (a 1 (58 + 14 * w + 3))) → (cl (a 1 (58 + 14 * w + 3)) < k + fu) → ∀ (f1 : Nat → Int32), fE f f1 → ∀ (H : Heap) (locs : List Loc), mdH D h dA s.heap H locs f1 a → ∀ (ls : Array Slot), lv_has ls 8 [(6, .int (finR (a 1) w (nI c0) k)), (5, .int (nI w)), (4, .int (tasM (a 1) (cowS g 5) c0 w (tasW (a 1) g c0 w) k)), (3, .int (cowS g 5)), (0, .ref (h 0)), (1, .int g), (2, .int (nI c0))] → W p l e R s m args below meth c H locs 0 0 Q (F0 m 47 ls []) := by
            intro fu
            induction fu with
            | zero =>
              intro k hk hn2
              omega
            | succ fu ih47 =>
              intro k hk hn2 f47 he47 H locs hM ls hl
              refine lv_iload hx hb dX6_tasteOf_47 (lv_at hl 0 rfl) ?_
              refine lv_if_lt (tgt := 103) hx hb dX6_tasteOf_49 (by decide) (fun c_4 => ?_) (fun c_4 => ?_)
              · have htw : tasW (a 1) g c0 (w + 1) = tasM (a 1) (cowS g 5) c0 w (tasW (a 1) g c0 w) k := by rw [tasW, if_pos c_2]; exact tasM_none hk hq2 c_4
                refine lv_iinc (v := nI (w + 1)) (lv' := [(5, .int (nI (w + 1))), (6, .int (finR (a 1) w (nI c0) k)), (4, .int (tasM (a 1) (cowS g 5) c0 w (tasW (a 1) g c0 w) k)), (3, .int (cowS g 5)), (0, .ref (h 0)), (1, .int g), (2, .int (nI c0))]) hx hb dX6_tasteOf_103 hl (k := 1) rfl (by rw [show Int32.ofInt 1 = nI 1 from by decide]; exact nI_add _ _) (by decide) rfl (fun ls hl => ?_)
                refine lv_goto (tgt := 12) hx hb dX6_tasteOf_106 (by decide) ?_
                exact ih12 (w + 1) (by omega) (by omega) _ he47 _ _ hM ls (by rw [htw]; exact lv_sub hl [0, 2, 3, 4, 5, 6] rfl)
              · obtain ⟨j, hj1, hj2, ht3, ht4⟩ := tasM_some (n := cowS g 5) (m0 := tasW (a 1) g c0 w) hq2 hk c_4
                refine lv_aload_n hx hb dX6_tasteOf_52 rfl (lv_at hl 4 rfl) ?_
                refine lv_iconst (v := nI 1) hx hb dX6_tasteOf_53 (by decide) ?_
                refine lv_aload_n hx hb dX6_tasteOf_54 rfl (lv_at hl 4 rfl) ?_
                refine md_get (v := .ref (h 1)) hx hb hts hown hK hM 0 (by decide) q1390 rfl rfl dX6_tasteOf_55 ?_
                refine lv_bipush (v := nI 8) hx hb dX6_tasteOf_58 (by decide) ?_
                refine lv_iload_n hx hb dX6_tasteOf_60 rfl (lv_at hl 6 rfl) ?_
                refine w_iaddN hx hb dX6_tasteOf_61 ?_
                refine md_iald hx hb hK hM 1 rfl (8 + c0) ⟨by omega, by decide, rfl⟩ dX6_tasteOf_62 ?_
                refine lv_iload hx hb dX6_tasteOf_63 (lv_at hl 0 rfl) ?_
                refine w_top (nI j) (ht3) ?_
                refine lv_iload_n hx hb dX6_tasteOf_65 rfl (lv_at hl 3 rfl) ?_
                refine md_callXI (y := yX6_lawOf) hx hb hml hown hts hK hI hM (met_lawOf f47 a 1 (by omega) (a 1 (8 + c0)) (nI j) (cowS g 5) (hR.1)) q1503 q1505 qs23 q1506 ndX6_lawOf rfl (by rw [hRf]; decide) (by rw [hRl]; decide) hl.1 rfl (Nat.le_of_ble_eq_true rfl) dX6_tasteOf_66 (fun H locs f_5 hf_5 hM => ?_)
                have ef_5 : fE f f_5 := he47.tr hf_5
                refine w_top (lawV (rA (a 1)) 1 (a 1 (8 + c0)) (nI j) (cowS g 5)) (rfl) ?_
                refine lv_istore (lv' := [(7, .int (lawV (rA (a 1)) 1 (a 1 (8 + c0)) (nI j) (cowS g 5))), (6, .int (finR (a 1) w (nI c0) k)), (5, .int (nI w)), (4, .int (tasM (a 1) (cowS g 5) c0 w (tasW (a 1) g c0 w) k)), (3, .int (cowS g 5)), (0, .ref (h 0)), (1, .int g), (2, .int (nI c0))]) hx hb dX6_tasteOf_69 hl (by decide) rfl (fun ls hl => ?_)
                refine lv_iload hx hb dX6_tasteOf_71 (lv_at hl 0 rfl) ?_
                refine lv_iload hx hb dX6_tasteOf_73 (lv_at hl 3 rfl) ?_
                have j85 : ∀ (f1 : Nat → Int32), fE f f1 → ∀ (H : Heap) (locs : List Loc), mdH D h dA s.heap H locs f1 a → ∀ (ls : Array Slot), lv_has ls 8 [(6, .int (finR (a 1) w (nI c0) k)), (5, .int (nI w)), (3, .int (cowS g 5)), (0, .ref (h 0)), (1, .int g), (2, .int (nI c0))] → W p l e R s m args below meth c H locs 0 0 Q (F0 m 85 ls [.int (tasM (a 1) (cowS g 5) c0 w (tasW (a 1) g c0 w) (j + 1))]) := by
                  intro   fj85 hj85 H locs hM ls hl
                  refine lv_istore (lv' := [(4, .int (tasM (a 1) (cowS g 5) c0 w (tasW (a 1) g c0 w) (j + 1))), (6, .int (finR (a 1) w (nI c0) k)), (5, .int (nI w)), (3, .int (cowS g 5)), (0, .ref (h 0)), (1, .int g), (2, .int (nI c0))]) hx hb dX6_tasteOf_85 hl (by decide) rfl (fun ls hl => ?_)
                  refine lv_aload_n hx hb dX6_tasteOf_87 rfl (lv_at hl 4 rfl) ?_
                  refine lv_iload hx hb dX6_tasteOf_88 (lv_at hl 2 rfl) ?_
                  refine lv_iload_n hx hb dX6_tasteOf_90 rfl (lv_at hl 6 rfl) ?_
                  refine lv_iload hx hb dX6_tasteOf_91 (lv_at hl 1 rfl) ?_
                  refine w_top (nI j) (ht3) ?_
                  refine lv_iconst (v := nI 1) hx hb dX6_tasteOf_93 (by decide) ?_
                  refine w_iaddN hx hb dX6_tasteOf_94 ?_
                  refine md_callI (y := yX6_inMilk) hx hb hml hown hts hK hI hM (met_inMilk fj85 a w (j + 1) (nI c0) (by omega) hq (by omega)) q1594 q1596 qs42 q1597 ndX6_inMilk rfl (by rw [hRf]; decide) (by rw [hRl]; decide) hl.1 rfl (Nat.le_of_ble_eq_true rfl) dX6_tasteOf_95 (fun H locs hM => ?_)
                  refine lv_istore (lv' := [(6, .int (finM (fun k => a 1 (58 + 14 * w + (4 + k))) (nI c0) (cl (a 1 (58 + 14 * w + 3)) - (j + 1)) (j + 1))), (4, .int (tasM (a 1) (cowS g 5) c0 w (tasW (a 1) g c0 w) (j + 1))), (5, .int (nI w)), (3, .int (cowS g 5)), (0, .ref (h 0)), (1, .int g), (2, .int (nI c0))]) hx hb dX6_tasteOf_98 hl (by decide) rfl (fun ls hl => ?_)
                  refine lv_goto (tgt := 47) hx hb dX6_tasteOf_100 (by decide) ?_
                  exact ih47 (j + 1) (by omega) (by omega) _ hj85 _ _ hM ls (lv_sub hl [0, 2, 1, 3, 4, 5, 6] rfl)
                refine lv_icmp_le (tgt := 83) hx hb dX6_tasteOf_75 (by decide) (fun c_6 => ?_) (fun c_6 => ?_)
                · refine lv_iload hx hb dX6_tasteOf_83 (lv_at hl 3 rfl) ?_
                  refine w_top (tasM (a 1) (cowS g 5) c0 w (tasW (a 1) g c0 w) (j + 1)) (by rw [ht4]; unfold mx; rw [if_neg (Int32.not_lt.mpr c_6)]) ?_
                  exact j85   _ ef_5 _ _ hM ls (lv_sub hl [1, 2, 4, 5, 6, 7] rfl)
                · refine lv_iload hx hb dX6_tasteOf_78 (lv_at hl 0 rfl) ?_
                  refine lv_goto (tgt := 85) hx hb dX6_tasteOf_80 (by decide) ?_
                  refine w_top (tasM (a 1) (cowS g 5) c0 w (tasW (a 1) g c0 w) (j + 1)) (by rw [ht4]; unfold mx; rw [if_pos (Int32.not_le.mp c_6)]) ?_
                  exact j85   _ ef_5 _ _ hM ls (lv_sub hl [1, 2, 4, 5, 6, 7] rfl)
          exact loop47 (cl (a 1 (58 + 14 * w + 3)) + 1) 0 (by omega) (by omega) _ he12 _ _ hM ls (lv_sub hl [0, 1, 2, 3, 4, 5, 6] rfl)
  exact loop12 (cl (a 1 3) + 1) 0 (by omega) (by omega) _ fE.rf _ _ hM ls (lv_sub hl [0, 1, 2, 3, 4, 5] rfl)
theorem ndX6_knownBy : yX6_knownBy.cls = RX6 ∧ yX6_knownBy.cls ≠ "java/lang/invoke/MethodHandle" ∧ yX6_knownBy.cls ≠ "java/lang/invoke/VarHandle" ∧ (parseMethodDescriptor yX6_knownBy.desc).map (fun d => d.parameters.length) = some 1 := by decide +kernel
set_option maxHeartbeats 400000 in
theorem met_knownBy (f : Nat → Int32) (a : Nat → Nat → Int32) (g : Int32) (hR : okR (a 1)) : MdX yX6_knownBy cX6_knownBy 4 (some .int) 42 1070 [.int g] f a (some (.int (knS (a 1) g 25))) a := by
  refine MdX.ofI (by decide) rfl (Nat.le_of_ble_eq_true rfl) ?_
  intro p l e R s m args below meth c Q D h dA ls hx hb hml hRf hRl hts hown hK hI hM hl hret
  have hl : lv_has ls 4 [(0, .ref (h 0)), (1, .int g)] := hl
  refine lv_iconst (v := nI 0) hx hb dX6_knownBy_0 (by decide) ?_
  refine lv_istore_n (lv' := [(2, .int (nI 0)), (0, .ref (h 0)), (1, .int g)]) hx hb dX6_knownBy_1 rfl hl (by decide) rfl (fun ls hl => ?_)
  refine lv_iconst (v := nI 0) hx hb dX6_knownBy_2 (by decide) ?_
  refine lv_istore_n (lv' := [(3, .int (nI 0)), (2, .int (nI 0)), (0, .ref (h 0)), (1, .int g)]) hx hb dX6_knownBy_3 rfl hl (by decide) rfl (fun ls hl => ?_)
  have loop4 : ∀ (fu : Nat) (k : Nat), (k ≤ 25) → (25 < k + fu) → ∀ (f1 : Nat → Int32), fE f f1 → ∀ (H : Heap) (locs : List Loc), mdH D h dA s.heap H locs f1 a → ∀ (ls : Array Slot), lv_has ls 4 [(3, .int (nI k)), (2, .int (knS (a 1) g k)), (0, .ref (h 0)), (1, .int g)] → W p l e R s m args below meth c H locs 0 0 Q (F0 m 4 ls []) := by
    intro fu
    induction fu with
    | zero =>
      intro k hk hn
      omega
    | succ fu ih4 =>
      intro k hk hn f4 he4 H locs hM ls hl
      refine lv_iload_n hx hb dX6_knownBy_4 rfl (lv_at hl 0 rfl) ?_
      refine lv_bipush (v := nI 25) hx hb dX6_knownBy_5 (by decide) ?_
      refine w_icmp_geN (tgt := 35) hx hb (by omega) (by omega) dX6_knownBy_7 (by decide) (fun c_1 => ?_) (fun c_1 => ?_)
      · refine lv_iload_n hx hb dX6_knownBy_35 rfl (lv_at hl 1 rfl) ?_
        exact hret he4 hM (by rw [show k = 25 by omega]) dX6_knownBy_36
      · refine lv_iload_n hx hb dX6_knownBy_10 rfl (lv_at hl 1 rfl) ?_
        refine lv_aload_n hx hb dX6_knownBy_11 rfl (lv_at hl 2 rfl) ?_
        refine lv_iload_n hx hb dX6_knownBy_12 rfl (lv_at hl 3 rfl) ?_
        refine lv_iload_n hx hb dX6_knownBy_13 rfl (lv_at hl 0 rfl) ?_
        refine md_callXI (y := yX6_tasteOf) hx hb hml hown hts hK hI hM (met_tasteOf f4 a g k (by omega) hR) q1681 q1683 qs50 q1684 ndX6_tasteOf rfl (by rw [hRf]; decide) (by rw [hRl]; decide) hl.1 rfl (Nat.le_of_ble_eq_true rfl) dX6_knownBy_14 (fun H locs f_2 hf_2 hM => ?_)
        have ef_2 : fE f f_2 := he4.tr hf_2
        have j27 : ∀ (f1 : Nat → Int32), fE f f1 → ∀ (H : Heap) (locs : List Loc), mdH D h dA s.heap H locs f1 a → ∀ (ls : Array Slot), lv_has ls 4 [(3, .int (nI k)), (2, .int (knS (a 1) g k)), (0, .ref (h 0)), (1, .int g)] → W p l e R s m args below meth c H locs 0 0 Q (F0 m 27 ls [.int (if 0 < tasR (a 1) g k then nI 1 <<< (nI k &&& 31) else nI 0), .int (knS (a 1) g k)]) := by
          intro   fj27 hj27 H locs hM ls hl
          refine lv_ior hx hb dX6_knownBy_27 ?_
          refine lv_istore_n (lv' := [(2, .int ((knS (a 1) g k) ||| (if 0 < tasR (a 1) g k then nI 1 <<< (nI k &&& 31) else nI 0))), (3, .int (nI k)), (0, .ref (h 0)), (1, .int g)]) hx hb dX6_knownBy_28 rfl hl (by decide) rfl (fun ls hl => ?_)
          refine lv_iinc (v := nI (k + 1)) (lv' := [(3, .int (nI (k + 1))), (2, .int ((knS (a 1) g k) ||| (if 0 < tasR (a 1) g k then nI 1 <<< (nI k &&& 31) else nI 0))), (0, .ref (h 0)), (1, .int g)]) hx hb dX6_knownBy_29 hl (k := 1) rfl (by rw [show Int32.ofInt 1 = nI 1 from by decide]; exact nI_add _ _) (by decide) rfl (fun ls hl => ?_)
          refine lv_goto (tgt := 4) hx hb dX6_knownBy_32 (by decide) ?_
          exact ih4 (k + 1) (by omega) (by omega) _ hj27 _ _ hM ls (lv_sub hl [0, 1, 2, 3] rfl)
        refine lv_if_le (tgt := 26) hx hb dX6_knownBy_17 (by decide) (fun c_3 => ?_) (fun c_3 => ?_)
        · refine lv_iconst (v := nI 0) hx hb dX6_knownBy_26 (by decide) ?_
          refine w_top (if 0 < tasR (a 1) g k then nI 1 <<< (nI k &&& 31) else nI 0) ((if_neg (Int32.not_lt.mpr c_3)).symm) ?_
          exact j27   _ ef_2 _ _ hM ls (lv_sub hl [0, 1, 2, 3] rfl)
        · refine lv_iconst (v := nI 1) hx hb dX6_knownBy_20 (by decide) ?_
          refine lv_iload_n hx hb dX6_knownBy_21 rfl (lv_at hl 0 rfl) ?_
          refine lv_ishl hx hb dX6_knownBy_22 ?_
          refine lv_goto (tgt := 27) hx hb dX6_knownBy_23 (by decide) ?_
          refine w_top (if 0 < tasR (a 1) g k then nI 1 <<< (nI k &&& 31) else nI 0) ((if_pos (Int32.not_le.mp c_3)).symm) ?_
          exact j27   _ ef_2 _ _ hM ls (lv_sub hl [0, 1, 2, 3] rfl)
  exact loop4 26 0 (by omega) (by omega) _ fE.rf _ _ hM ls (lv_sub hl [0, 1, 2, 3] rfl)
/-- the first day from k on, of fu, on which the jug knows the cell, or doesn't -/
def fdN (r : Nat → Int32) (g : Int32) (c : Nat) (b : Bool) : Nat → Nat → Nat
  | 0, k => k
  | fu + 1, k => if decide (0 < tasR (dayI r k) g c) = b then k else fdN r g c b fu (k + 1)
theorem fdN_le (r : Nat → Int32) (g : Int32) (c : Nat) (b : Bool) : ∀ fu k, fdN r g c b fu k ≤ k + fu := by
  intro fu
  induction fu with
  | zero => intro k; exact Nat.le_refl _
  | succ fu ih =>
    intro k
    unfold fdN
    split
    · omega
    · have := ih (k + 1); omega
theorem va_c3 {a : Nat → Nat → Int32} {r x : Nat → Int32} (h : x = a 1) : va_up (va_up (va_up a 3 (a 1)) 1 r) 1 x = va_up a 3 (a 1) := by
  subst h
  funext j
  simp only [va_up]
  grind
theorem ndX6_firstDay : yX6_firstDay.cls = RX6 ∧ yX6_firstDay.cls ≠ "java/lang/invoke/MethodHandle" ∧ yX6_firstDay.cls ≠ "java/lang/invoke/VarHandle" ∧ (parseMethodDescriptor yX6_firstDay.desc).map (fun d => d.parameters.length) = some 3 := by decide +kernel
set_option maxHeartbeats 400000 in
theorem met_firstDay1 (f : Nat → Int32) (a : Nat → Nat → Int32) (g : Int32) (c0 : Nat) (hc : c0 < 25) (hR : okR (a 1)) : MdX yX6_firstDay cX6_firstDay 5 (some .int) 46 1162 [.int g, .int (nI c0), .int (nI 1)] f a (some (.int (nI (fdN (a 1) g c0 true 101 0)))) (va_up a 3 (a 1)) := by
  refine MdX.ofI (by decide) rfl (Nat.le_of_ble_eq_true rfl) ?_
  intro p l e R s m args below meth c Q D h dA ls hx hb hml hRf hRl hts hown hK hI hM hl hret
  have hl : lv_has ls 5 [(0, .ref (h 0)), (1, .int g), (2, .int (nI c0)), (3, .int (nI 1))] := hl
  refine lv_aload_n hx hb dX6_firstDay_0 rfl (lv_at hl 0 rfl) ?_
  refine lv_aload_n hx hb dX6_firstDay_1 rfl (lv_at hl 0 rfl) ?_
  refine md_get (v := .ref (h 1)) hx hb hts hown hK hM 0 (by decide) q1390 rfl rfl dX6_firstDay_2 ?_
  refine lv_aload_n hx hb dX6_firstDay_5 rfl (lv_at hl 0 rfl) ?_
  refine md_get (v := .ref (h 3)) hx hb hts hown hK hM 2 (by decide) q1392 rfl rfl dX6_firstDay_6 ?_
  refine md_callG (y := yX6_moveAll) hx hb hml hown hts hK hI hM (met_moveAll_1_3 f a) q1639 q1641 qs43 q1642 ndX6_moveAll rfl (by rw [hRf]; decide) (by rw [hRl]; decide) hl.1 rfl (Nat.le_of_ble_eq_true rfl) dX6_firstDay_9 (fun H locs hM => ?_)
  refine lv_iconst (v := nI 0) hx hb dX6_firstDay_12 (by decide) ?_
  refine lv_istore (lv' := [(4, .int (nI 0)), (0, .ref (h 0)), (1, .int g), (2, .int (nI c0)), (3, .int (nI 1))]) hx hb dX6_firstDay_13 hl (by decide) rfl (fun ls hl => ?_)
  have loop15 : ∀ (fu : Nat) (k : Nat), (k ≤ 101) → (101 < k + fu) → (fdN (a 1) g c0 true (101 - k) k = fdN (a 1) g c0 true 101 0) → ∀ (f1 : Nat → Int32), fE f f1 → ∀ (H : Heap) (locs : List Loc), mdH D h dA s.heap H locs f1 (va_up (va_up a 3 (a 1)) 1 (dayI (a 1) k)) → ∀ (ls : Array Slot), lv_has ls 5 [(4, .int (nI k)), (0, .ref (h 0)), (1, .int g), (2, .int (nI c0)), (3, .int (nI 1))] → W p l e R s m args below meth c H locs 0 0 Q (F0 m 15 ls []) := by
    intro fu
    induction fu with
    | zero =>
      intro k hk hn ee
      omega
    | succ fu ih15 =>
      intro k hk hn ee f15 he15 H locs hM ls hl
      refine lv_iload hx hb dX6_firstDay_15 (lv_at hl 0 rfl) ?_
      refine lv_bipush (v := nI 100) hx hb dX6_firstDay_17 (by decide) ?_
      refine w_icmp_gtN (tgt := 50) hx hb (by omega) (by omega) dX6_firstDay_19 (by decide) (fun c_1 => ?_) (fun c_1 => ?_)
      · have hkk : fdN (a 1) g c0 true 101 0 = k := by rw [← ee, show 101 - k = 0 by omega, fdN]
        refine lv_aload_n hx hb dX6_firstDay_50 rfl (lv_at hl 1 rfl) ?_
        refine lv_aload_n hx hb dX6_firstDay_51 rfl (lv_at hl 1 rfl) ?_
        refine md_get (v := .ref (h 3)) hx hb hts hown hK hM 2 (by decide) q1392 rfl rfl dX6_firstDay_52 ?_
        refine lv_aload_n hx hb dX6_firstDay_55 rfl (lv_at hl 1 rfl) ?_
        refine md_get (v := .ref (h 1)) hx hb hts hown hK hM 0 (by decide) q1390 rfl rfl dX6_firstDay_56 ?_
        refine md_callG (y := yX6_moveAll) hx hb hml hown hts hK hI hM (met_moveAll_3_1 f15 (va_up (va_up a 3 (a 1)) 1 (dayI (a 1) k))) q1639 q1641 qs43 q1642 ndX6_moveAll rfl (by rw [hRf]; decide) (by rw [hRl]; decide) hl.1 rfl (Nat.le_of_ble_eq_true rfl) dX6_firstDay_59 (fun H locs hM => ?_)
        refine lv_iload hx hb dX6_firstDay_62 (lv_at hl 0 rfl) ?_
        exact hret he15 (hM.to rfl (va_c3 rfl)) (by rw [hkk]) dX6_firstDay_64
      · refine lv_aload_n hx hb dX6_firstDay_22 rfl (lv_at hl 1 rfl) ?_
        refine lv_iload_n hx hb dX6_firstDay_23 rfl (lv_at hl 2 rfl) ?_
        refine lv_iload_n hx hb dX6_firstDay_24 rfl (lv_at hl 3 rfl) ?_
        refine md_callXI (y := yX6_tasteOf) hx hb hml hown hts hK hI hM (met_tasteOf f15 (va_up (va_up a 3 (a 1)) 1 (dayI (a 1) k)) g c0 (by omega) (by rw [va_us]; exact okR_dayI hR k)) q1681 q1683 qs50 q1684 ndX6_tasteOf rfl (by rw [hRf]; decide) (by rw [hRl]; decide) hl.1 rfl (Nat.le_of_ble_eq_true rfl) dX6_firstDay_25 (fun H locs f_2 hf_2 hM => ?_)
        have ef_2 : fE f f_2 := he15.tr hf_2
        refine w_top (tasR (dayI (a 1) k) g c0) (by rw [va_us]) ?_
        refine lv_if_le (tgt := 35) hx hb dX6_firstDay_28 (by decide) (fun c_3 => ?_) (fun c_3 => ?_)
        · refine lv_iconst (v := nI 0) hx hb dX6_firstDay_35 (by decide) ?_
          refine lv_iload_n hx hb dX6_firstDay_36 rfl (lv_at hl 4 rfl) ?_
          refine lv_icmp_eq (tgt := 50) hx hb dX6_firstDay_37 (by decide) (fun q => absurd q (by decide)) (fun _ => ?_)
          refine lv_aload_n hx hb dX6_firstDay_40 rfl (lv_at hl 1 rfl) ?_
          refine md_callXV (y := yX6_oneDay) hx hb hml hown hts hK hI hM (met_oneDay f_2 (va_up (va_up a 3 (a 1)) 1 (dayI (a 1) k)) (by rw [va_us]; exact okR_dayI hR k)) q1652 q1654 qs45 q1655 ndX6_oneDay rfl (by rw [hRf]; decide) (by rw [hRl]; decide) hl.1 rfl (Nat.le_of_ble_eq_true rfl) dX6_firstDay_41 (fun H locs f_5 hf_5 hM => ?_)
          have ef_5 : fE f f_5 := ef_2.tr hf_5
          have hM := hM.to (a' := va_up (va_up a 3 (a 1)) 1 (dayI (a 1) (k + 1))) rfl (va_uu _ 1 _ _)
          have hee : fdN (a 1) g c0 true (101 - (k + 1)) (k + 1) = fdN (a 1) g c0 true 101 0 := by rw [← ee, show 101 - k = (101 - (k + 1)) + 1 by omega, fdN, if_neg (by rw [decide_eq_false (Int32.not_lt.mpr c_3)]; decide)]
          refine lv_iinc (v := nI (k + 1)) (lv' := [(4, .int (nI (k + 1))), (0, .ref (h 0)), (1, .int g), (2, .int (nI c0)), (3, .int (nI 1))]) hx hb dX6_firstDay_44 hl (k := 0) rfl (by rw [show Int32.ofInt 1 = nI 1 from by decide]; exact nI_add _ _) (by decide) rfl (fun ls hl => ?_)
          refine lv_goto (tgt := 15) hx hb dX6_firstDay_47 (by decide) ?_
          exact ih15 (k + 1) (by omega) (by omega) hee _ ef_5 _ _ hM ls (lv_sub hl [0, 1, 2, 3, 4] rfl)
        · refine lv_iconst (v := nI 1) hx hb dX6_firstDay_31 (by decide) ?_
          refine lv_goto (tgt := 36) hx hb dX6_firstDay_32 (by decide) ?_
          refine lv_iload_n hx hb dX6_firstDay_36 rfl (lv_at hl 4 rfl) ?_
          refine lv_icmp_eq (tgt := 50) hx hb dX6_firstDay_37 (by decide) (fun _ => ?_) (fun q => absurd q (by decide))
          have hkk : fdN (a 1) g c0 true 101 0 = k := by rw [← ee, show 101 - k = (101 - (k + 1)) + 1 by omega, fdN, if_pos (by rw [decide_eq_true (Int32.not_le.mp c_3)])]
          refine lv_aload_n hx hb dX6_firstDay_50 rfl (lv_at hl 1 rfl) ?_
          refine lv_aload_n hx hb dX6_firstDay_51 rfl (lv_at hl 1 rfl) ?_
          refine md_get (v := .ref (h 3)) hx hb hts hown hK hM 2 (by decide) q1392 rfl rfl dX6_firstDay_52 ?_
          refine lv_aload_n hx hb dX6_firstDay_55 rfl (lv_at hl 1 rfl) ?_
          refine md_get (v := .ref (h 1)) hx hb hts hown hK hM 0 (by decide) q1390 rfl rfl dX6_firstDay_56 ?_
          refine md_callG (y := yX6_moveAll) hx hb hml hown hts hK hI hM (met_moveAll_3_1 f_2 (va_up (va_up a 3 (a 1)) 1 (dayI (a 1) k))) q1639 q1641 qs43 q1642 ndX6_moveAll rfl (by rw [hRf]; decide) (by rw [hRl]; decide) hl.1 rfl (Nat.le_of_ble_eq_true rfl) dX6_firstDay_59 (fun H locs hM => ?_)
          refine lv_iload hx hb dX6_firstDay_62 (lv_at hl 0 rfl) ?_
          exact hret ef_2 (hM.to rfl (va_c3 rfl)) (by rw [hkk]) dX6_firstDay_64
  exact loop15 102 0 (by omega) (by omega) rfl _ fE.rf _ _ (hM.to rfl (va_self (va_up a 3 (a 1)) 1)) ls (lv_sub hl [0, 1, 2, 3, 4] rfl)
set_option maxHeartbeats 400000 in
theorem met_firstDay0 (f : Nat → Int32) (a : Nat → Nat → Int32) (g : Int32) (c0 : Nat) (hc : c0 < 25) (hR : okR (a 1)) : MdX yX6_firstDay cX6_firstDay 5 (some .int) 46 1162 [.int g, .int (nI c0), .int (nI 0)] f a (some (.int (nI (fdN (a 1) g c0 false 101 0)))) (va_up a 3 (a 1)) := by
  refine MdX.ofI (by decide) rfl (Nat.le_of_ble_eq_true rfl) ?_
  intro p l e R s m args below meth c Q D h dA ls hx hb hml hRf hRl hts hown hK hI hM hl hret
  have hl : lv_has ls 5 [(0, .ref (h 0)), (1, .int g), (2, .int (nI c0)), (3, .int (nI 0))] := hl
  refine lv_aload_n hx hb dX6_firstDay_0 rfl (lv_at hl 0 rfl) ?_
  refine lv_aload_n hx hb dX6_firstDay_1 rfl (lv_at hl 0 rfl) ?_
  refine md_get (v := .ref (h 1)) hx hb hts hown hK hM 0 (by decide) q1390 rfl rfl dX6_firstDay_2 ?_
  refine lv_aload_n hx hb dX6_firstDay_5 rfl (lv_at hl 0 rfl) ?_
  refine md_get (v := .ref (h 3)) hx hb hts hown hK hM 2 (by decide) q1392 rfl rfl dX6_firstDay_6 ?_
  refine md_callG (y := yX6_moveAll) hx hb hml hown hts hK hI hM (met_moveAll_1_3 f a) q1639 q1641 qs43 q1642 ndX6_moveAll rfl (by rw [hRf]; decide) (by rw [hRl]; decide) hl.1 rfl (Nat.le_of_ble_eq_true rfl) dX6_firstDay_9 (fun H locs hM => ?_)
  refine lv_iconst (v := nI 0) hx hb dX6_firstDay_12 (by decide) ?_
  refine lv_istore (lv' := [(4, .int (nI 0)), (0, .ref (h 0)), (1, .int g), (2, .int (nI c0)), (3, .int (nI 0))]) hx hb dX6_firstDay_13 hl (by decide) rfl (fun ls hl => ?_)
  have loop15 : ∀ (fu : Nat) (k : Nat), (k ≤ 101) → (101 < k + fu) → (fdN (a 1) g c0 false (101 - k) k = fdN (a 1) g c0 false 101 0) → ∀ (f1 : Nat → Int32), fE f f1 → ∀ (H : Heap) (locs : List Loc), mdH D h dA s.heap H locs f1 (va_up (va_up a 3 (a 1)) 1 (dayI (a 1) k)) → ∀ (ls : Array Slot), lv_has ls 5 [(4, .int (nI k)), (0, .ref (h 0)), (1, .int g), (2, .int (nI c0)), (3, .int (nI 0))] → W p l e R s m args below meth c H locs 0 0 Q (F0 m 15 ls []) := by
    intro fu
    induction fu with
    | zero =>
      intro k hk hn ee
      omega
    | succ fu ih15 =>
      intro k hk hn ee f15 he15 H locs hM ls hl
      refine lv_iload hx hb dX6_firstDay_15 (lv_at hl 0 rfl) ?_
      refine lv_bipush (v := nI 100) hx hb dX6_firstDay_17 (by decide) ?_
      refine w_icmp_gtN (tgt := 50) hx hb (by omega) (by omega) dX6_firstDay_19 (by decide) (fun c_1 => ?_) (fun c_1 => ?_)
      · have hkk : fdN (a 1) g c0 false 101 0 = k := by rw [← ee, show 101 - k = 0 by omega, fdN]
        refine lv_aload_n hx hb dX6_firstDay_50 rfl (lv_at hl 1 rfl) ?_
        refine lv_aload_n hx hb dX6_firstDay_51 rfl (lv_at hl 1 rfl) ?_
        refine md_get (v := .ref (h 3)) hx hb hts hown hK hM 2 (by decide) q1392 rfl rfl dX6_firstDay_52 ?_
        refine lv_aload_n hx hb dX6_firstDay_55 rfl (lv_at hl 1 rfl) ?_
        refine md_get (v := .ref (h 1)) hx hb hts hown hK hM 0 (by decide) q1390 rfl rfl dX6_firstDay_56 ?_
        refine md_callG (y := yX6_moveAll) hx hb hml hown hts hK hI hM (met_moveAll_3_1 f15 (va_up (va_up a 3 (a 1)) 1 (dayI (a 1) k))) q1639 q1641 qs43 q1642 ndX6_moveAll rfl (by rw [hRf]; decide) (by rw [hRl]; decide) hl.1 rfl (Nat.le_of_ble_eq_true rfl) dX6_firstDay_59 (fun H locs hM => ?_)
        refine lv_iload hx hb dX6_firstDay_62 (lv_at hl 0 rfl) ?_
        exact hret he15 (hM.to rfl (va_c3 rfl)) (by rw [hkk]) dX6_firstDay_64
      · refine lv_aload_n hx hb dX6_firstDay_22 rfl (lv_at hl 1 rfl) ?_
        refine lv_iload_n hx hb dX6_firstDay_23 rfl (lv_at hl 2 rfl) ?_
        refine lv_iload_n hx hb dX6_firstDay_24 rfl (lv_at hl 3 rfl) ?_
        refine md_callXI (y := yX6_tasteOf) hx hb hml hown hts hK hI hM (met_tasteOf f15 (va_up (va_up a 3 (a 1)) 1 (dayI (a 1) k)) g c0 (by omega) (by rw [va_us]; exact okR_dayI hR k)) q1681 q1683 qs50 q1684 ndX6_tasteOf rfl (by rw [hRf]; decide) (by rw [hRl]; decide) hl.1 rfl (Nat.le_of_ble_eq_true rfl) dX6_firstDay_25 (fun H locs f_2 hf_2 hM => ?_)
        have ef_2 : fE f f_2 := he15.tr hf_2
        refine w_top (tasR (dayI (a 1) k) g c0) (by rw [va_us]) ?_
        refine lv_if_le (tgt := 35) hx hb dX6_firstDay_28 (by decide) (fun c_3 => ?_) (fun c_3 => ?_)
        · refine lv_iconst (v := nI 0) hx hb dX6_firstDay_35 (by decide) ?_
          refine lv_iload_n hx hb dX6_firstDay_36 rfl (lv_at hl 4 rfl) ?_
          refine lv_icmp_eq (tgt := 50) hx hb dX6_firstDay_37 (by decide) (fun _ => ?_) (fun q => absurd q (by decide))
          have hkk : fdN (a 1) g c0 false 101 0 = k := by rw [← ee, show 101 - k = (101 - (k + 1)) + 1 by omega, fdN, if_pos (by rw [decide_eq_false (Int32.not_lt.mpr c_3)])]
          refine lv_aload_n hx hb dX6_firstDay_50 rfl (lv_at hl 1 rfl) ?_
          refine lv_aload_n hx hb dX6_firstDay_51 rfl (lv_at hl 1 rfl) ?_
          refine md_get (v := .ref (h 3)) hx hb hts hown hK hM 2 (by decide) q1392 rfl rfl dX6_firstDay_52 ?_
          refine lv_aload_n hx hb dX6_firstDay_55 rfl (lv_at hl 1 rfl) ?_
          refine md_get (v := .ref (h 1)) hx hb hts hown hK hM 0 (by decide) q1390 rfl rfl dX6_firstDay_56 ?_
          refine md_callG (y := yX6_moveAll) hx hb hml hown hts hK hI hM (met_moveAll_3_1 f_2 (va_up (va_up a 3 (a 1)) 1 (dayI (a 1) k))) q1639 q1641 qs43 q1642 ndX6_moveAll rfl (by rw [hRf]; decide) (by rw [hRl]; decide) hl.1 rfl (Nat.le_of_ble_eq_true rfl) dX6_firstDay_59 (fun H locs hM => ?_)
          refine lv_iload hx hb dX6_firstDay_62 (lv_at hl 0 rfl) ?_
          exact hret ef_2 (hM.to rfl (va_c3 rfl)) (by rw [hkk]) dX6_firstDay_64
        · refine lv_iconst (v := nI 1) hx hb dX6_firstDay_31 (by decide) ?_
          refine lv_goto (tgt := 36) hx hb dX6_firstDay_32 (by decide) ?_
          refine lv_iload_n hx hb dX6_firstDay_36 rfl (lv_at hl 4 rfl) ?_
          refine lv_icmp_eq (tgt := 50) hx hb dX6_firstDay_37 (by decide) (fun q => absurd q (by decide)) (fun _ => ?_)
          refine lv_aload_n hx hb dX6_firstDay_40 rfl (lv_at hl 1 rfl) ?_
          refine md_callXV (y := yX6_oneDay) hx hb hml hown hts hK hI hM (met_oneDay f_2 (va_up (va_up a 3 (a 1)) 1 (dayI (a 1) k)) (by rw [va_us]; exact okR_dayI hR k)) q1652 q1654 qs45 q1655 ndX6_oneDay rfl (by rw [hRf]; decide) (by rw [hRl]; decide) hl.1 rfl (Nat.le_of_ble_eq_true rfl) dX6_firstDay_41 (fun H locs f_6 hf_6 hM => ?_)
          have ef_6 : fE f f_6 := ef_2.tr hf_6
          have hM := hM.to (a' := va_up (va_up a 3 (a 1)) 1 (dayI (a 1) (k + 1))) rfl (va_uu _ 1 _ _)
          have hee : fdN (a 1) g c0 false (101 - (k + 1)) (k + 1) = fdN (a 1) g c0 false 101 0 := by rw [← ee, show 101 - k = (101 - (k + 1)) + 1 by omega, fdN, if_neg (by rw [decide_eq_true (Int32.not_le.mp c_3)]; decide)]
          refine lv_iinc (v := nI (k + 1)) (lv' := [(4, .int (nI (k + 1))), (0, .ref (h 0)), (1, .int g), (2, .int (nI c0)), (3, .int (nI 0))]) hx hb dX6_firstDay_44 hl (k := 0) rfl (by rw [show Int32.ofInt 1 = nI 1 from by decide]; exact nI_add _ _) (by decide) rfl (fun ls hl => ?_)
          refine lv_goto (tgt := 15) hx hb dX6_firstDay_47 (by decide) ?_
          exact ih15 (k + 1) (by omega) (by omega) hee _ ef_6 _ _ hM ls (lv_sub hl [0, 1, 2, 3, 4] rfl)
  exact loop15 102 0 (by omega) (by omega) rfl _ fE.rf _ _ (hM.to rfl (va_self (va_up a 3 (a 1)) 1)) ls (lv_sub hl [0, 1, 2, 3, 4] rfl)
