/-! terms: what they are of facts (printed by comp4.py) -/
set_option maxRecDepth 100000
def yTm : MethodName := ⟨RX7, "value", "(LMeadowMilk$Facts;)I"⟩
theorem nv_Tm : (RX7 : String) ≠ "java/lang/invoke/MethodHandle" ∧ (RX7 : String) ≠ "java/lang/invoke/VarHandle" ∧ (parseMethodDescriptor yTm.desc).map (fun d => d.parameters.length) = some 1 := by decide +kernel
/-- the facts: where they lie, what they are -/
abbrev fcP (D : va_G) (dA : Nat → ClassId) (fa na : Nat) (nm : Nat → Int32) (H : Heap) : Prop := cAt D fa (.inr (3, [.ref na])) H ∧ cAt D na (.inl (dA 0, 128, .inl nm)) H
/-- a call of value() on y, with facts at fa, gives g -/
def TRow (D : va_G) (dA : Nat → ClassId) (PY : Heap → Prop) (y fa : Nat) (g : Int32) (fr lo : Nat) : Prop :=
  ∀ (p : Program) (l : Launch) (e : Env) (R : Room) (s : State) (m : MethodId) (args : Array Value) (below : List Frame) (meth : Method) (c : Code) (H : Heap) (locs : List Loc) (cells slots : Nat) (Q : State → Prop) (cc : ByteArray) (pc : Nat) (ls : Array Slot) (rest : List Value) (nL idx : Nat) (own : String),
    p.tables.exec = Jvm.exec → c.code = cc → c.maxLocals = nL → s.vm.findClass own = some m.cls → (∀ w ∈ lw_all, w.before args s = true) → cmK D dA s → PY H → Cond.methodLink own idx yTm ∈ lw_all → fr ≤ R.frames → lo ≤ R.locals → cells ≤ R.cells → slots ≤ R.slots → ls.size = nL → (rest.map fun v => v.category).sum ≤ 8 → decode cc pc = .ok (.invokevirtual idx, 3) →
    W p l e R s m args below meth c H locs cells slots Q (F0 m (pc + 3) ls (.int g :: rest)) → W p l e R s m args below meth c H locs cells slots Q (F0 m pc ls (.ref fa :: .ref y :: rest))
set_option maxHeartbeats 400000 in
theorem tm_Figure {D : va_G} {dA : Nat → ClassId} (x fa na : Nat) (nm : Nat → Int32) (v : Int32) : Rd D dA yX20_value cX20_value 2 (some .int) 0 0 [.ref x, .ref fa] (fun H => cAt D x (.inr (9, [.int v])) H ∧ fcP D dA fa na nm H) (some (.int v)) := by
  refine Rd.ofI (by decide) (own := RX20) rfl (Nat.le_of_ble_eq_true rfl) ?_
  intro p l e R s m args below meth c Q ls hx hb hml hRf hRl hts hown hK hP hl hret
  have hl : lv_has ls 2 [(0, .ref x), (1, .ref fa)] := hl
  obtain ⟨hO, hF⟩ := hP
  refine lv_aload_n hx hb dX20_value_0 rfl (lv_at hl 0 rfl) ?_
  refine c_get (v := .int v) hx hb hts in_X20 hown hK hO rfl 0 (by decide) q882 rfl rfl dX20_value_1 ?_
  exact hret (by first | rfl | (simp only [iI, nI_0, nI_one]; grind)) dX20_value_4
set_option maxHeartbeats 400000 in
theorem tm_Named {D : va_G} {dA : Nat → ClassId} (x fa na : Nat) (nm : Nat → Int32) (k : Nat) (hk : k < 128) : Rd D dA yX17_value cX17_value 2 (some .int) 0 0 [.ref x, .ref fa] (fun H => cAt D x (.inr (7, [.int (nI k)])) H ∧ fcP D dA fa na nm H) (some (.int (nm k))) := by
  refine Rd.ofI (by decide) (own := RX17) rfl (Nat.le_of_ble_eq_true rfl) ?_
  intro p l e R s m args below meth c Q ls hx hb hml hRf hRl hts hown hK hP hl hret
  have hl : lv_has ls 2 [(0, .ref x), (1, .ref fa)] := hl
  obtain ⟨hO, hF⟩ := hP
  refine lv_aload_n hx hb dX17_value_0 rfl (lv_at hl 1 rfl) ?_
  have nq := hK.F 19 rfl
  refine c_getN (v := .ref na) hx hb hts in_X3 hown hK hF.1 rfl 0 (by decide) nq rfl rfl dX17_value_1 ?_
  refine lv_aload_n hx hb dX17_value_4 rfl (lv_at hl 0 rfl) ?_
  refine c_get (v := .int (nI k)) hx hb hts in_X17 hown hK hO rfl 0 (by decide) q832 rfl rfl dX17_value_5 ?_
  refine c_iald hx hb hK hF.2 k ⟨by omega, by decide, rfl⟩ dX17_value_8 ?_
  exact hret (by first | rfl | (simp only [iI, nI_0, nI_one]; grind)) dX17_value_9
set_option maxHeartbeats 400000 in
theorem tm_Turned {D : va_G} {dA : Nat → ClassId} (x fa na : Nat) (nm : Nat → Int32) (f0 l0 : Nat) (PY1 : Heap → Prop) (y1 : Nat) (g1 : Int32) (hr1 : TRow D dA PY1 y1 fa g1 f0 l0) : Rd D dA yX19_value cX19_value 2 (some .int) f0 l0 [.ref x, .ref fa] (fun H => cAt D x (.inr (8, [.ref y1])) H ∧ fcP D dA fa na nm H ∧ PY1 H) (some (.int (iI (g1 = 0)))) := by
  refine Rd.ofI (by decide) (own := RX19) rfl (Nat.le_of_ble_eq_true rfl) ?_
  intro p l e R s m args below meth c Q ls hx hb hml hRf hRl hts hown hK hP hl hret
  have hl : lv_has ls 2 [(0, .ref x), (1, .ref fa)] := hl
  obtain ⟨hO, hF, hY1⟩ := hP
  refine lv_aload_n hx hb dX19_value_0 rfl (lv_at hl 0 rfl) ?_
  refine c_get (v := .ref y1) hx hb hts in_X19 hown hK hO rfl 0 (by decide) q870 rfl rfl dX19_value_1 ?_
  refine lv_aload_n hx hb dX19_value_4 rfl (lv_at hl 1 rfl) ?_
  refine hr1 p l e R s m args below meth c _ _ _ _ Q _ _ ls _ _ _ _ hx hb hml hown hts hK hY1 q374 (by rw [hRf]; omega) (by rw [hRl]; omega) (Nat.zero_le _) (Nat.zero_le _) hl.1 (Nat.le_of_ble_eq_true rfl) dX19_value_5 ?_
  refine lv_if_ne (tgt := 15) hx hb dX19_value_8 (by decide) (fun c_1 => ?_) (fun c_1 => ?_)
  · refine lv_iconst (v := nI 0) hx hb dX19_value_15 (by decide) ?_
    exact hret (iI_0 c_1) dX19_value_16
  · refine lv_iconst (v := nI 1) hx hb dX19_value_11 (by decide) ?_
    refine lv_goto (tgt := 16) hx hb dX19_value_12 (by decide) ?_
    exact hret (iI_1 c_1) dX19_value_16
set_option maxHeartbeats 400000 in
theorem tm_Two_42 {D : va_G} {dA : Nat → ClassId} (x fa na : Nat) (nm : Nat → Int32) (f0 l0 : Nat) (hf0 : 1 ≤ f0) (hl0 : 40 ≤ l0) (PY1 : Heap → Prop) (y1 : Nat) (g1 : Int32) (hr1 : TRow D dA PY1 y1 fa g1 f0 l0) (PY2 : Heap → Prop) (y2 : Nat) (g2 : Int32) (hr2 : TRow D dA PY2 y2 fa g2 f0 l0) : Rd D dA yX8_value cX8_value 4 (some .int) f0 l0 [.ref x, .ref fa] (fun H => cAt D x (.inr (6, [.int (nI 42), .ref y1, .ref y2])) H ∧ fcP D dA fa na nm H ∧ PY1 H ∧ PY2 H) (some (.int (opB (nI 42) g1 g2))) := by
  refine Rd.ofI (by decide) (own := RX8) rfl (Nat.le_of_ble_eq_true rfl) ?_
  intro p l e R s m args below meth c Q ls hx hb hml hRf hRl hts hown hK hP hl hret
  have hl : lv_has ls 4 [(0, .ref x), (1, .ref fa)] := hl
  obtain ⟨hO, hF, hY1, hY2⟩ := hP
  refine lv_aload_n hx hb dX8_value_0 rfl (lv_at hl 0 rfl) ?_
  refine c_get (v := .ref y1) hx hb hts in_X8 hown hK hO rfl 1 (by decide) q894 rfl rfl dX8_value_1 ?_
  refine lv_aload_n hx hb dX8_value_4 rfl (lv_at hl 1 rfl) ?_
  refine hr1 p l e R s m args below meth c _ _ _ _ Q _ _ ls _ _ _ _ hx hb hml hown hts hK hY1 q377 (by rw [hRf]; omega) (by rw [hRl]; omega) (Nat.zero_le _) (Nat.zero_le _) hl.1 (Nat.le_of_ble_eq_true rfl) dX8_value_5 ?_
  refine lv_istore_n (lv' := [(2, .int g1), (0, .ref x), (1, .ref fa)]) hx hb dX8_value_8 rfl hl (by decide) rfl (fun ls hl => ?_)
  refine lv_aload_n hx hb dX8_value_9 rfl (lv_at hl 1 rfl) ?_
  refine c_get (v := .ref y2) hx hb hts in_X8 hown hK hO rfl 2 (by decide) q895 rfl rfl dX8_value_10 ?_
  refine lv_aload_n hx hb dX8_value_13 rfl (lv_at hl 2 rfl) ?_
  refine hr2 p l e R s m args below meth c _ _ _ _ Q _ _ ls _ _ _ _ hx hb hml hown hts hK hY2 q377 (by rw [hRf]; omega) (by rw [hRl]; omega) (Nat.zero_le _) (Nat.zero_le _) hl.1 (Nat.le_of_ble_eq_true rfl) dX8_value_14 ?_
  refine lv_istore_n (lv' := [(3, .int g2), (2, .int g1), (0, .ref x), (1, .ref fa)]) hx hb dX8_value_17 rfl hl (by decide) rfl (fun ls hl => ?_)
  refine lv_aload_n hx hb dX8_value_18 rfl (lv_at hl 2 rfl) ?_
  refine c_get (v := .int (nI 42)) hx hb hts in_X8 hown hK hO rfl 0 (by decide) q893 rfl rfl dX8_value_19 ?_
  refine lv_tableIn (off := 126) (tgt := 148) hx hb dX8_value_22 (by decide) (by decide) (by rfl) (by decide) ?_
  refine lv_iload_n hx hb dX8_value_148 rfl (lv_at hl 1 rfl) ?_
  refine lv_iload_n hx hb dX8_value_149 rfl (lv_at hl 0 rfl) ?_
  refine lv_imul hx hb dX8_value_150 ?_
  exact hret (by first | rfl | (unfold opB; rfl) | (unfold opB; rw [if_neg (by decide), if_pos (by decide)]; first | exact (if_pos {c165}).symm | exact (if_neg {c165}).symm) | (unfold opB; rw [if_neg (by decide), if_neg (by decide), if_pos (by decide)]; first | exact (if_pos {c165}).symm | exact (if_neg {c165}).symm)) dX8_value_151
set_option maxHeartbeats 400000 in
theorem tm_Two_47 {D : va_G} {dA : Nat → ClassId} (x fa na : Nat) (nm : Nat → Int32) (f0 l0 : Nat) (hf0 : 1 ≤ f0) (hl0 : 40 ≤ l0) (PY1 : Heap → Prop) (y1 : Nat) (g1 : Int32) (hr1 : TRow D dA PY1 y1 fa g1 f0 l0) (PY2 : Heap → Prop) (y2 : Nat) (g2 : Int32) (hr2 : TRow D dA PY2 y2 fa g2 f0 l0) : Rd D dA yX8_value cX8_value 4 (some .int) f0 l0 [.ref x, .ref fa] (fun H => cAt D x (.inr (6, [.int (nI 47), .ref y1, .ref y2])) H ∧ fcP D dA fa na nm H ∧ PY1 H ∧ PY2 H) (some (.int (opB (nI 47) g1 g2))) := by
  refine Rd.ofI (by decide) (own := RX8) rfl (Nat.le_of_ble_eq_true rfl) ?_
  intro p l e R s m args below meth c Q ls hx hb hml hRf hRl hts hown hK hP hl hret
  have hl : lv_has ls 4 [(0, .ref x), (1, .ref fa)] := hl
  obtain ⟨hO, hF, hY1, hY2⟩ := hP
  refine lv_aload_n hx hb dX8_value_0 rfl (lv_at hl 0 rfl) ?_
  refine c_get (v := .ref y1) hx hb hts in_X8 hown hK hO rfl 1 (by decide) q894 rfl rfl dX8_value_1 ?_
  refine lv_aload_n hx hb dX8_value_4 rfl (lv_at hl 1 rfl) ?_
  refine hr1 p l e R s m args below meth c _ _ _ _ Q _ _ ls _ _ _ _ hx hb hml hown hts hK hY1 q377 (by rw [hRf]; omega) (by rw [hRl]; omega) (Nat.zero_le _) (Nat.zero_le _) hl.1 (Nat.le_of_ble_eq_true rfl) dX8_value_5 ?_
  refine lv_istore_n (lv' := [(2, .int g1), (0, .ref x), (1, .ref fa)]) hx hb dX8_value_8 rfl hl (by decide) rfl (fun ls hl => ?_)
  refine lv_aload_n hx hb dX8_value_9 rfl (lv_at hl 1 rfl) ?_
  refine c_get (v := .ref y2) hx hb hts in_X8 hown hK hO rfl 2 (by decide) q895 rfl rfl dX8_value_10 ?_
  refine lv_aload_n hx hb dX8_value_13 rfl (lv_at hl 2 rfl) ?_
  refine hr2 p l e R s m args below meth c _ _ _ _ Q _ _ ls _ _ _ _ hx hb hml hown hts hK hY2 q377 (by rw [hRf]; omega) (by rw [hRl]; omega) (Nat.zero_le _) (Nat.zero_le _) hl.1 (Nat.le_of_ble_eq_true rfl) dX8_value_14 ?_
  refine lv_istore_n (lv' := [(3, .int g2), (2, .int g1), (0, .ref x), (1, .ref fa)]) hx hb dX8_value_17 rfl hl (by decide) rfl (fun ls hl => ?_)
  refine lv_aload_n hx hb dX8_value_18 rfl (lv_at hl 2 rfl) ?_
  refine c_get (v := .int (nI 47)) hx hb hts in_X8 hown hK hO rfl 0 (by decide) q893 rfl rfl dX8_value_19 ?_
  refine lv_tableIn (off := 130) (tgt := 152) hx hb dX8_value_22 (by decide) (by decide) (by rfl) (by decide) ?_
  refine lv_iload_n hx hb dX8_value_152 rfl (lv_at hl 0 rfl) ?_
  refine lv_if_ne (tgt := 160) hx hb dX8_value_153 (by decide) (fun c_1 => ?_) (fun c_1 => ?_)
  · refine lv_iload_n hx hb dX8_value_160 rfl (lv_at hl 1 rfl) ?_
    refine lv_iload_n hx hb dX8_value_161 rfl (lv_at hl 0 rfl) ?_
    refine lv_idiv hx hb dX8_value_162 c_1 ?_
    exact hret (by first | rfl | (unfold opB; rfl) | (unfold opB; rw [if_neg (by decide), if_pos (by decide)]; first | exact (if_pos c_1).symm | exact (if_neg c_1).symm) | (unfold opB; rw [if_neg (by decide), if_neg (by decide), if_pos (by decide)]; first | exact (if_pos c_1).symm | exact (if_neg c_1).symm)) dX8_value_163
  · refine lv_iconst (v := nI 0) hx hb dX8_value_156 (by decide) ?_
    refine lv_goto (tgt := 163) hx hb dX8_value_157 (by decide) ?_
    exact hret (by first | rfl | (unfold opB; rfl) | (unfold opB; rw [if_neg (by decide), if_pos (by decide)]; first | exact (if_pos c_1).symm | exact (if_neg c_1).symm) | (unfold opB; rw [if_neg (by decide), if_neg (by decide), if_pos (by decide)]; first | exact (if_pos c_1).symm | exact (if_neg c_1).symm)) dX8_value_163
set_option maxHeartbeats 400000 in
theorem tm_Two_37 {D : va_G} {dA : Nat → ClassId} (x fa na : Nat) (nm : Nat → Int32) (f0 l0 : Nat) (hf0 : 1 ≤ f0) (hl0 : 40 ≤ l0) (PY1 : Heap → Prop) (y1 : Nat) (g1 : Int32) (hr1 : TRow D dA PY1 y1 fa g1 f0 l0) (PY2 : Heap → Prop) (y2 : Nat) (g2 : Int32) (hr2 : TRow D dA PY2 y2 fa g2 f0 l0) : Rd D dA yX8_value cX8_value 4 (some .int) f0 l0 [.ref x, .ref fa] (fun H => cAt D x (.inr (6, [.int (nI 37), .ref y1, .ref y2])) H ∧ fcP D dA fa na nm H ∧ PY1 H ∧ PY2 H) (some (.int (opB (nI 37) g1 g2))) := by
  refine Rd.ofI (by decide) (own := RX8) rfl (Nat.le_of_ble_eq_true rfl) ?_
  intro p l e R s m args below meth c Q ls hx hb hml hRf hRl hts hown hK hP hl hret
  have hl : lv_has ls 4 [(0, .ref x), (1, .ref fa)] := hl
  obtain ⟨hO, hF, hY1, hY2⟩ := hP
  refine lv_aload_n hx hb dX8_value_0 rfl (lv_at hl 0 rfl) ?_
  refine c_get (v := .ref y1) hx hb hts in_X8 hown hK hO rfl 1 (by decide) q894 rfl rfl dX8_value_1 ?_
  refine lv_aload_n hx hb dX8_value_4 rfl (lv_at hl 1 rfl) ?_
  refine hr1 p l e R s m args below meth c _ _ _ _ Q _ _ ls _ _ _ _ hx hb hml hown hts hK hY1 q377 (by rw [hRf]; omega) (by rw [hRl]; omega) (Nat.zero_le _) (Nat.zero_le _) hl.1 (Nat.le_of_ble_eq_true rfl) dX8_value_5 ?_
  refine lv_istore_n (lv' := [(2, .int g1), (0, .ref x), (1, .ref fa)]) hx hb dX8_value_8 rfl hl (by decide) rfl (fun ls hl => ?_)
  refine lv_aload_n hx hb dX8_value_9 rfl (lv_at hl 1 rfl) ?_
  refine c_get (v := .ref y2) hx hb hts in_X8 hown hK hO rfl 2 (by decide) q895 rfl rfl dX8_value_10 ?_
  refine lv_aload_n hx hb dX8_value_13 rfl (lv_at hl 2 rfl) ?_
  refine hr2 p l e R s m args below meth c _ _ _ _ Q _ _ ls _ _ _ _ hx hb hml hown hts hK hY2 q377 (by rw [hRf]; omega) (by rw [hRl]; omega) (Nat.zero_le _) (Nat.zero_le _) hl.1 (Nat.le_of_ble_eq_true rfl) dX8_value_14 ?_
  refine lv_istore_n (lv' := [(3, .int g2), (2, .int g1), (0, .ref x), (1, .ref fa)]) hx hb dX8_value_17 rfl hl (by decide) rfl (fun ls hl => ?_)
  refine lv_aload_n hx hb dX8_value_18 rfl (lv_at hl 2 rfl) ?_
  refine c_get (v := .int (nI 37)) hx hb hts in_X8 hown hK hO rfl 0 (by decide) q893 rfl rfl dX8_value_19 ?_
  refine lv_tableIn (off := 142) (tgt := 164) hx hb dX8_value_22 (by decide) (by decide) (by rfl) (by decide) ?_
  refine lv_iload_n hx hb dX8_value_164 rfl (lv_at hl 0 rfl) ?_
  refine lv_if_ne (tgt := 172) hx hb dX8_value_165 (by decide) (fun c_1 => ?_) (fun c_1 => ?_)
  · refine lv_iload_n hx hb dX8_value_172 rfl (lv_at hl 1 rfl) ?_
    refine lv_iload_n hx hb dX8_value_173 rfl (lv_at hl 0 rfl) ?_
    refine lv_irem hx hb dX8_value_174 c_1 ?_
    exact hret (by first | rfl | (unfold opB; rfl) | (unfold opB; rw [if_neg (by decide), if_pos (by decide)]; first | exact (if_pos c_1).symm | exact (if_neg c_1).symm) | (unfold opB; rw [if_neg (by decide), if_neg (by decide), if_pos (by decide)]; first | exact (if_pos c_1).symm | exact (if_neg c_1).symm)) dX8_value_175
  · refine lv_iconst (v := nI 0) hx hb dX8_value_168 (by decide) ?_
    refine lv_goto (tgt := 175) hx hb dX8_value_169 (by decide) ?_
    exact hret (by first | rfl | (unfold opB; rfl) | (unfold opB; rw [if_neg (by decide), if_pos (by decide)]; first | exact (if_pos c_1).symm | exact (if_neg c_1).symm) | (unfold opB; rw [if_neg (by decide), if_neg (by decide), if_pos (by decide)]; first | exact (if_pos c_1).symm | exact (if_neg c_1).symm)) dX8_value_175
set_option maxHeartbeats 400000 in
theorem tm_Two_43 {D : va_G} {dA : Nat → ClassId} (x fa na : Nat) (nm : Nat → Int32) (f0 l0 : Nat) (hf0 : 1 ≤ f0) (hl0 : 40 ≤ l0) (PY1 : Heap → Prop) (y1 : Nat) (g1 : Int32) (hr1 : TRow D dA PY1 y1 fa g1 f0 l0) (PY2 : Heap → Prop) (y2 : Nat) (g2 : Int32) (hr2 : TRow D dA PY2 y2 fa g2 f0 l0) : Rd D dA yX8_value cX8_value 4 (some .int) f0 l0 [.ref x, .ref fa] (fun H => cAt D x (.inr (6, [.int (nI 43), .ref y1, .ref y2])) H ∧ fcP D dA fa na nm H ∧ PY1 H ∧ PY2 H) (some (.int (opB (nI 43) g1 g2))) := by
  refine Rd.ofI (by decide) (own := RX8) rfl (Nat.le_of_ble_eq_true rfl) ?_
  intro p l e R s m args below meth c Q ls hx hb hml hRf hRl hts hown hK hP hl hret
  have hl : lv_has ls 4 [(0, .ref x), (1, .ref fa)] := hl
  obtain ⟨hO, hF, hY1, hY2⟩ := hP
  refine lv_aload_n hx hb dX8_value_0 rfl (lv_at hl 0 rfl) ?_
  refine c_get (v := .ref y1) hx hb hts in_X8 hown hK hO rfl 1 (by decide) q894 rfl rfl dX8_value_1 ?_
  refine lv_aload_n hx hb dX8_value_4 rfl (lv_at hl 1 rfl) ?_
  refine hr1 p l e R s m args below meth c _ _ _ _ Q _ _ ls _ _ _ _ hx hb hml hown hts hK hY1 q377 (by rw [hRf]; omega) (by rw [hRl]; omega) (Nat.zero_le _) (Nat.zero_le _) hl.1 (Nat.le_of_ble_eq_true rfl) dX8_value_5 ?_
  refine lv_istore_n (lv' := [(2, .int g1), (0, .ref x), (1, .ref fa)]) hx hb dX8_value_8 rfl hl (by decide) rfl (fun ls hl => ?_)
  refine lv_aload_n hx hb dX8_value_9 rfl (lv_at hl 1 rfl) ?_
  refine c_get (v := .ref y2) hx hb hts in_X8 hown hK hO rfl 2 (by decide) q895 rfl rfl dX8_value_10 ?_
  refine lv_aload_n hx hb dX8_value_13 rfl (lv_at hl 2 rfl) ?_
  refine hr2 p l e R s m args below meth c _ _ _ _ Q _ _ ls _ _ _ _ hx hb hml hown hts hK hY2 q377 (by rw [hRf]; omega) (by rw [hRl]; omega) (Nat.zero_le _) (Nat.zero_le _) hl.1 (Nat.le_of_ble_eq_true rfl) dX8_value_14 ?_
  refine lv_istore_n (lv' := [(3, .int g2), (2, .int g1), (0, .ref x), (1, .ref fa)]) hx hb dX8_value_17 rfl hl (by decide) rfl (fun ls hl => ?_)
  refine lv_aload_n hx hb dX8_value_18 rfl (lv_at hl 2 rfl) ?_
  refine c_get (v := .int (nI 43)) hx hb hts in_X8 hown hK hO rfl 0 (by decide) q893 rfl rfl dX8_value_19 ?_
  refine lv_tableIn (off := 118) (tgt := 140) hx hb dX8_value_22 (by decide) (by decide) (by rfl) (by decide) ?_
  refine lv_iload_n hx hb dX8_value_140 rfl (lv_at hl 1 rfl) ?_
  refine lv_iload_n hx hb dX8_value_141 rfl (lv_at hl 0 rfl) ?_
  refine lv_iadd hx hb dX8_value_142 ?_
  exact hret (by first | rfl | (unfold opB; rfl) | (unfold opB; rw [if_neg (by decide), if_pos (by decide)]; first | exact (if_pos {c165}).symm | exact (if_neg {c165}).symm) | (unfold opB; rw [if_neg (by decide), if_neg (by decide), if_pos (by decide)]; first | exact (if_pos {c165}).symm | exact (if_neg {c165}).symm)) dX8_value_143
set_option maxHeartbeats 400000 in
theorem tm_Two_45 {D : va_G} {dA : Nat → ClassId} (x fa na : Nat) (nm : Nat → Int32) (f0 l0 : Nat) (hf0 : 1 ≤ f0) (hl0 : 40 ≤ l0) (PY1 : Heap → Prop) (y1 : Nat) (g1 : Int32) (hr1 : TRow D dA PY1 y1 fa g1 f0 l0) (PY2 : Heap → Prop) (y2 : Nat) (g2 : Int32) (hr2 : TRow D dA PY2 y2 fa g2 f0 l0) : Rd D dA yX8_value cX8_value 4 (some .int) f0 l0 [.ref x, .ref fa] (fun H => cAt D x (.inr (6, [.int (nI 45), .ref y1, .ref y2])) H ∧ fcP D dA fa na nm H ∧ PY1 H ∧ PY2 H) (some (.int (opB (nI 45) g1 g2))) := by
  refine Rd.ofI (by decide) (own := RX8) rfl (Nat.le_of_ble_eq_true rfl) ?_
  intro p l e R s m args below meth c Q ls hx hb hml hRf hRl hts hown hK hP hl hret
  have hl : lv_has ls 4 [(0, .ref x), (1, .ref fa)] := hl
  obtain ⟨hO, hF, hY1, hY2⟩ := hP
  refine lv_aload_n hx hb dX8_value_0 rfl (lv_at hl 0 rfl) ?_
  refine c_get (v := .ref y1) hx hb hts in_X8 hown hK hO rfl 1 (by decide) q894 rfl rfl dX8_value_1 ?_
  refine lv_aload_n hx hb dX8_value_4 rfl (lv_at hl 1 rfl) ?_
  refine hr1 p l e R s m args below meth c _ _ _ _ Q _ _ ls _ _ _ _ hx hb hml hown hts hK hY1 q377 (by rw [hRf]; omega) (by rw [hRl]; omega) (Nat.zero_le _) (Nat.zero_le _) hl.1 (Nat.le_of_ble_eq_true rfl) dX8_value_5 ?_
  refine lv_istore_n (lv' := [(2, .int g1), (0, .ref x), (1, .ref fa)]) hx hb dX8_value_8 rfl hl (by decide) rfl (fun ls hl => ?_)
  refine lv_aload_n hx hb dX8_value_9 rfl (lv_at hl 1 rfl) ?_
  refine c_get (v := .ref y2) hx hb hts in_X8 hown hK hO rfl 2 (by decide) q895 rfl rfl dX8_value_10 ?_
  refine lv_aload_n hx hb dX8_value_13 rfl (lv_at hl 2 rfl) ?_
  refine hr2 p l e R s m args below meth c _ _ _ _ Q _ _ ls _ _ _ _ hx hb hml hown hts hK hY2 q377 (by rw [hRf]; omega) (by rw [hRl]; omega) (Nat.zero_le _) (Nat.zero_le _) hl.1 (Nat.le_of_ble_eq_true rfl) dX8_value_14 ?_
  refine lv_istore_n (lv' := [(3, .int g2), (2, .int g1), (0, .ref x), (1, .ref fa)]) hx hb dX8_value_17 rfl hl (by decide) rfl (fun ls hl => ?_)
  refine lv_aload_n hx hb dX8_value_18 rfl (lv_at hl 2 rfl) ?_
  refine c_get (v := .int (nI 45)) hx hb hts in_X8 hown hK hO rfl 0 (by decide) q893 rfl rfl dX8_value_19 ?_
  refine lv_tableIn (off := 122) (tgt := 144) hx hb dX8_value_22 (by decide) (by decide) (by rfl) (by decide) ?_
  refine lv_iload_n hx hb dX8_value_144 rfl (lv_at hl 1 rfl) ?_
  refine lv_iload_n hx hb dX8_value_145 rfl (lv_at hl 0 rfl) ?_
  refine lv_isub hx hb dX8_value_146 ?_
  exact hret (by first | rfl | (unfold opB; rfl) | (unfold opB; rw [if_neg (by decide), if_pos (by decide)]; first | exact (if_pos {c165}).symm | exact (if_neg {c165}).symm) | (unfold opB; rw [if_neg (by decide), if_neg (by decide), if_pos (by decide)]; first | exact (if_pos {c165}).symm | exact (if_neg {c165}).symm)) dX8_value_147
theorem ndX8_is : yX8_is.cls ≠ "java/lang/invoke/MethodHandle" ∧ yX8_is.cls ≠ "java/lang/invoke/VarHandle" ∧ (parseMethodDescriptor yX8_is.desc).map (fun d => d.parameters.length) = some 1 := by decide +kernel

set_option maxHeartbeats 400000 in
theorem tm_Two_60 {D : va_G} {dA : Nat → ClassId} (x fa na : Nat) (nm : Nat → Int32) (f0 l0 : Nat) (hf0 : 1 ≤ f0) (hl0 : 40 ≤ l0) (PY1 : Heap → Prop) (y1 : Nat) (g1 : Int32) (hr1 : TRow D dA PY1 y1 fa g1 f0 l0) (PY2 : Heap → Prop) (y2 : Nat) (g2 : Int32) (hr2 : TRow D dA PY2 y2 fa g2 f0 l0) : Rd D dA yX8_value cX8_value 4 (some .int) f0 l0 [.ref x, .ref fa] (fun H => cAt D x (.inr (6, [.int (nI 60), .ref y1, .ref y2])) H ∧ fcP D dA fa na nm H ∧ PY1 H ∧ PY2 H) (some (.int (opB (nI 60) g1 g2))) := by
  refine Rd.ofI (by decide) (own := RX8) rfl (Nat.le_of_ble_eq_true rfl) ?_
  intro p l e R s m args below meth c Q ls hx hb hml hRf hRl hts hown hK hP hl hret
  have hl : lv_has ls 4 [(0, .ref x), (1, .ref fa)] := hl
  obtain ⟨hO, hF, hY1, hY2⟩ := hP
  refine lv_aload_n hx hb dX8_value_0 rfl (lv_at hl 0 rfl) ?_
  refine c_get (v := .ref y1) hx hb hts in_X8 hown hK hO rfl 1 (by decide) q894 rfl rfl dX8_value_1 ?_
  refine lv_aload_n hx hb dX8_value_4 rfl (lv_at hl 1 rfl) ?_
  refine hr1 p l e R s m args below meth c _ _ _ _ Q _ _ ls _ _ _ _ hx hb hml hown hts hK hY1 q377 (by rw [hRf]; omega) (by rw [hRl]; omega) (Nat.zero_le _) (Nat.zero_le _) hl.1 (Nat.le_of_ble_eq_true rfl) dX8_value_5 ?_
  refine lv_istore_n (lv' := [(2, .int g1), (0, .ref x), (1, .ref fa)]) hx hb dX8_value_8 rfl hl (by decide) rfl (fun ls hl => ?_)
  refine lv_aload_n hx hb dX8_value_9 rfl (lv_at hl 1 rfl) ?_
  refine c_get (v := .ref y2) hx hb hts in_X8 hown hK hO rfl 2 (by decide) q895 rfl rfl dX8_value_10 ?_
  refine lv_aload_n hx hb dX8_value_13 rfl (lv_at hl 2 rfl) ?_
  refine hr2 p l e R s m args below meth c _ _ _ _ Q _ _ ls _ _ _ _ hx hb hml hown hts hK hY2 q377 (by rw [hRf]; omega) (by rw [hRl]; omega) (Nat.zero_le _) (Nat.zero_le _) hl.1 (Nat.le_of_ble_eq_true rfl) dX8_value_14 ?_
  refine lv_istore_n (lv' := [(3, .int g2), (2, .int g1), (0, .ref x), (1, .ref fa)]) hx hb dX8_value_17 rfl hl (by decide) rfl (fun ls hl => ?_)
  refine lv_aload_n hx hb dX8_value_18 rfl (lv_at hl 2 rfl) ?_
  refine c_get (v := .int (nI 60)) hx hb hts in_X8 hown hK hO rfl 0 (by decide) q893 rfl rfl dX8_value_19 ?_
  refine lv_tableIn (off := 154) (tgt := 176) hx hb dX8_value_22 (by decide) (by decide) (by rfl) (by decide) ?_
  refine lv_iload_n hx hb dX8_value_176 rfl (lv_at hl 1 rfl) ?_
  refine lv_iload_n hx hb dX8_value_177 rfl (lv_at hl 0 rfl) ?_
  have j186 : ∀ (ls : Array Slot), lv_has ls 4 [(3, .int g2), (2, .int g1), (0, .ref x), (1, .ref fa)] → W p l e R s m args below meth c s.heap [] 0 0 Q (F0 m 186 ls [.int (iI (g1 < g2))]) := by
    intro   ls hl
    refine st_callS (y := yX8_is) hx hb hml hown hts (cmX8_is (g1 < g2)) q378 q379 q72 q380 ndX8_is rfl (by rw [hRf]; omega) (by rw [hRl]; omega) (Nat.zero_le _) (Nat.zero_le _) hl.1 rfl (Nat.le_of_ble_eq_true rfl) dX8_value_186 ?_
    exact hret (by first | rfl | (unfold opB; rfl) | (unfold opB; rw [if_neg (by decide), if_pos (by decide)]; first | exact (if_pos {c165}).symm | exact (if_neg {c165}).symm) | (unfold opB; rw [if_neg (by decide), if_neg (by decide), if_pos (by decide)]; first | exact (if_pos {c165}).symm | exact (if_neg {c165}).symm)) dX8_value_189
  refine lv_icmp_ge (tgt := 185) hx hb dX8_value_178 (by decide) (fun c_1 => ?_) (fun c_1 => ?_)
  · refine lv_iconst (v := nI 0) hx hb dX8_value_185 (by decide) ?_
    refine w_top (iI (g1 < g2)) (iI_0 (Int32.not_lt.mpr c_1)) ?_
    exact j186   ls (lv_sub hl [0, 1, 2, 3] rfl)
  · refine lv_iconst (v := nI 1) hx hb dX8_value_181 (by decide) ?_
    refine lv_goto (tgt := 186) hx hb dX8_value_182 (by decide) ?_
    refine w_top (iI (g1 < g2)) (iI_1 (Int32.not_le.mp c_1)) ?_
    exact j186   ls (lv_sub hl [0, 1, 2, 3] rfl)
set_option maxHeartbeats 400000 in
theorem tm_Two_61 {D : va_G} {dA : Nat → ClassId} (x fa na : Nat) (nm : Nat → Int32) (f0 l0 : Nat) (hf0 : 1 ≤ f0) (hl0 : 40 ≤ l0) (PY1 : Heap → Prop) (y1 : Nat) (g1 : Int32) (hr1 : TRow D dA PY1 y1 fa g1 f0 l0) (PY2 : Heap → Prop) (y2 : Nat) (g2 : Int32) (hr2 : TRow D dA PY2 y2 fa g2 f0 l0) : Rd D dA yX8_value cX8_value 4 (some .int) f0 l0 [.ref x, .ref fa] (fun H => cAt D x (.inr (6, [.int (nI 61), .ref y1, .ref y2])) H ∧ fcP D dA fa na nm H ∧ PY1 H ∧ PY2 H) (some (.int (opB (nI 61) g1 g2))) := by
  refine Rd.ofI (by decide) (own := RX8) rfl (Nat.le_of_ble_eq_true rfl) ?_
  intro p l e R s m args below meth c Q ls hx hb hml hRf hRl hts hown hK hP hl hret
  have hl : lv_has ls 4 [(0, .ref x), (1, .ref fa)] := hl
  obtain ⟨hO, hF, hY1, hY2⟩ := hP
  refine lv_aload_n hx hb dX8_value_0 rfl (lv_at hl 0 rfl) ?_
  refine c_get (v := .ref y1) hx hb hts in_X8 hown hK hO rfl 1 (by decide) q894 rfl rfl dX8_value_1 ?_
  refine lv_aload_n hx hb dX8_value_4 rfl (lv_at hl 1 rfl) ?_
  refine hr1 p l e R s m args below meth c _ _ _ _ Q _ _ ls _ _ _ _ hx hb hml hown hts hK hY1 q377 (by rw [hRf]; omega) (by rw [hRl]; omega) (Nat.zero_le _) (Nat.zero_le _) hl.1 (Nat.le_of_ble_eq_true rfl) dX8_value_5 ?_
  refine lv_istore_n (lv' := [(2, .int g1), (0, .ref x), (1, .ref fa)]) hx hb dX8_value_8 rfl hl (by decide) rfl (fun ls hl => ?_)
  refine lv_aload_n hx hb dX8_value_9 rfl (lv_at hl 1 rfl) ?_
  refine c_get (v := .ref y2) hx hb hts in_X8 hown hK hO rfl 2 (by decide) q895 rfl rfl dX8_value_10 ?_
  refine lv_aload_n hx hb dX8_value_13 rfl (lv_at hl 2 rfl) ?_
  refine hr2 p l e R s m args below meth c _ _ _ _ Q _ _ ls _ _ _ _ hx hb hml hown hts hK hY2 q377 (by rw [hRf]; omega) (by rw [hRl]; omega) (Nat.zero_le _) (Nat.zero_le _) hl.1 (Nat.le_of_ble_eq_true rfl) dX8_value_14 ?_
  refine lv_istore_n (lv' := [(3, .int g2), (2, .int g1), (0, .ref x), (1, .ref fa)]) hx hb dX8_value_17 rfl hl (by decide) rfl (fun ls hl => ?_)
  refine lv_aload_n hx hb dX8_value_18 rfl (lv_at hl 2 rfl) ?_
  refine c_get (v := .int (nI 61)) hx hb hts in_X8 hown hK hO rfl 0 (by decide) q893 rfl rfl dX8_value_19 ?_
  refine lv_tableIn (off := 168) (tgt := 190) hx hb dX8_value_22 (by decide) (by decide) (by rfl) (by decide) ?_
  refine lv_iload_n hx hb dX8_value_190 rfl (lv_at hl 1 rfl) ?_
  refine lv_iload_n hx hb dX8_value_191 rfl (lv_at hl 0 rfl) ?_
  have j200 : ∀ (ls : Array Slot), lv_has ls 4 [(3, .int g2), (2, .int g1), (0, .ref x), (1, .ref fa)] → W p l e R s m args below meth c s.heap [] 0 0 Q (F0 m 200 ls [.int (iI (g1 = g2))]) := by
    intro   ls hl
    refine st_callS (y := yX8_is) hx hb hml hown hts (cmX8_is (g1 = g2)) q378 q379 q72 q380 ndX8_is rfl (by rw [hRf]; omega) (by rw [hRl]; omega) (Nat.zero_le _) (Nat.zero_le _) hl.1 rfl (Nat.le_of_ble_eq_true rfl) dX8_value_200 ?_
    exact hret (by first | rfl | (unfold opB; rfl) | (unfold opB; rw [if_neg (by decide), if_pos (by decide)]; first | exact (if_pos {c165}).symm | exact (if_neg {c165}).symm) | (unfold opB; rw [if_neg (by decide), if_neg (by decide), if_pos (by decide)]; first | exact (if_pos {c165}).symm | exact (if_neg {c165}).symm)) dX8_value_203
  refine lv_icmp_ne (tgt := 199) hx hb dX8_value_192 (by decide) (fun c_1 => ?_) (fun c_1 => ?_)
  · refine lv_iconst (v := nI 0) hx hb dX8_value_199 (by decide) ?_
    refine w_top (iI (g1 = g2)) (iI_0 c_1) ?_
    exact j200   ls (lv_sub hl [0, 1, 2, 3] rfl)
  · refine lv_iconst (v := nI 1) hx hb dX8_value_195 (by decide) ?_
    refine lv_goto (tgt := 200) hx hb dX8_value_196 (by decide) ?_
    refine w_top (iI (g1 = g2)) (iI_1 c_1) ?_
    exact j200   ls (lv_sub hl [0, 1, 2, 3] rfl)
set_option maxHeartbeats 400000 in
theorem tm_Two_62 {D : va_G} {dA : Nat → ClassId} (x fa na : Nat) (nm : Nat → Int32) (f0 l0 : Nat) (hf0 : 1 ≤ f0) (hl0 : 40 ≤ l0) (PY1 : Heap → Prop) (y1 : Nat) (g1 : Int32) (hr1 : TRow D dA PY1 y1 fa g1 f0 l0) (PY2 : Heap → Prop) (y2 : Nat) (g2 : Int32) (hr2 : TRow D dA PY2 y2 fa g2 f0 l0) : Rd D dA yX8_value cX8_value 4 (some .int) f0 l0 [.ref x, .ref fa] (fun H => cAt D x (.inr (6, [.int (nI 62), .ref y1, .ref y2])) H ∧ fcP D dA fa na nm H ∧ PY1 H ∧ PY2 H) (some (.int (opB (nI 62) g1 g2))) := by
  refine Rd.ofI (by decide) (own := RX8) rfl (Nat.le_of_ble_eq_true rfl) ?_
  intro p l e R s m args below meth c Q ls hx hb hml hRf hRl hts hown hK hP hl hret
  have hl : lv_has ls 4 [(0, .ref x), (1, .ref fa)] := hl
  obtain ⟨hO, hF, hY1, hY2⟩ := hP
  refine lv_aload_n hx hb dX8_value_0 rfl (lv_at hl 0 rfl) ?_
  refine c_get (v := .ref y1) hx hb hts in_X8 hown hK hO rfl 1 (by decide) q894 rfl rfl dX8_value_1 ?_
  refine lv_aload_n hx hb dX8_value_4 rfl (lv_at hl 1 rfl) ?_
  refine hr1 p l e R s m args below meth c _ _ _ _ Q _ _ ls _ _ _ _ hx hb hml hown hts hK hY1 q377 (by rw [hRf]; omega) (by rw [hRl]; omega) (Nat.zero_le _) (Nat.zero_le _) hl.1 (Nat.le_of_ble_eq_true rfl) dX8_value_5 ?_
  refine lv_istore_n (lv' := [(2, .int g1), (0, .ref x), (1, .ref fa)]) hx hb dX8_value_8 rfl hl (by decide) rfl (fun ls hl => ?_)
  refine lv_aload_n hx hb dX8_value_9 rfl (lv_at hl 1 rfl) ?_
  refine c_get (v := .ref y2) hx hb hts in_X8 hown hK hO rfl 2 (by decide) q895 rfl rfl dX8_value_10 ?_
  refine lv_aload_n hx hb dX8_value_13 rfl (lv_at hl 2 rfl) ?_
  refine hr2 p l e R s m args below meth c _ _ _ _ Q _ _ ls _ _ _ _ hx hb hml hown hts hK hY2 q377 (by rw [hRf]; omega) (by rw [hRl]; omega) (Nat.zero_le _) (Nat.zero_le _) hl.1 (Nat.le_of_ble_eq_true rfl) dX8_value_14 ?_
  refine lv_istore_n (lv' := [(3, .int g2), (2, .int g1), (0, .ref x), (1, .ref fa)]) hx hb dX8_value_17 rfl hl (by decide) rfl (fun ls hl => ?_)
  refine lv_aload_n hx hb dX8_value_18 rfl (lv_at hl 2 rfl) ?_
  refine c_get (v := .int (nI 62)) hx hb hts in_X8 hown hK hO rfl 0 (by decide) q893 rfl rfl dX8_value_19 ?_
  refine lv_tableIn (off := 182) (tgt := 204) hx hb dX8_value_22 (by decide) (by decide) (by rfl) (by decide) ?_
  refine lv_iload_n hx hb dX8_value_204 rfl (lv_at hl 1 rfl) ?_
  refine lv_iload_n hx hb dX8_value_205 rfl (lv_at hl 0 rfl) ?_
  have j214 : ∀ (ls : Array Slot), lv_has ls 4 [(3, .int g2), (2, .int g1), (0, .ref x), (1, .ref fa)] → W p l e R s m args below meth c s.heap [] 0 0 Q (F0 m 214 ls [.int (iI (g2 < g1))]) := by
    intro   ls hl
    refine st_callS (y := yX8_is) hx hb hml hown hts (cmX8_is (g2 < g1)) q378 q379 q72 q380 ndX8_is rfl (by rw [hRf]; omega) (by rw [hRl]; omega) (Nat.zero_le _) (Nat.zero_le _) hl.1 rfl (Nat.le_of_ble_eq_true rfl) dX8_value_214 ?_
    exact hret (by first | rfl | (unfold opB; rfl) | (unfold opB; rw [if_neg (by decide), if_pos (by decide)]; first | exact (if_pos {c165}).symm | exact (if_neg {c165}).symm) | (unfold opB; rw [if_neg (by decide), if_neg (by decide), if_pos (by decide)]; first | exact (if_pos {c165}).symm | exact (if_neg {c165}).symm)) dX8_value_217
  refine lv_icmp_le (tgt := 213) hx hb dX8_value_206 (by decide) (fun c_1 => ?_) (fun c_1 => ?_)
  · refine lv_iconst (v := nI 0) hx hb dX8_value_213 (by decide) ?_
    refine w_top (iI (g2 < g1)) (iI_0 (Int32.not_lt.mpr c_1)) ?_
    exact j214   ls (lv_sub hl [0, 1, 2, 3] rfl)
  · refine lv_iconst (v := nI 1) hx hb dX8_value_209 (by decide) ?_
    refine lv_goto (tgt := 214) hx hb dX8_value_210 (by decide) ?_
    refine w_top (iI (g2 < g1)) (iI_1 (Int32.not_le.mp c_1)) ?_
    exact j214   ls (lv_sub hl [0, 1, 2, 3] rfl)
set_option maxHeartbeats 400000 in
theorem tm_Two_38 {D : va_G} {dA : Nat → ClassId} (x fa na : Nat) (nm : Nat → Int32) (f0 l0 : Nat) (hf0 : 1 ≤ f0) (hl0 : 40 ≤ l0) (PY1 : Heap → Prop) (y1 : Nat) (g1 : Int32) (hr1 : TRow D dA PY1 y1 fa g1 f0 l0) (PY2 : Heap → Prop) (y2 : Nat) (g2 : Int32) (hr2 : TRow D dA PY2 y2 fa g2 f0 l0) : Rd D dA yX8_value cX8_value 4 (some .int) f0 l0 [.ref x, .ref fa] (fun H => cAt D x (.inr (6, [.int (nI 38), .ref y1, .ref y2])) H ∧ fcP D dA fa na nm H ∧ PY1 H ∧ PY2 H) (some (.int (opB (nI 38) g1 g2))) := by
  refine Rd.ofI (by decide) (own := RX8) rfl (Nat.le_of_ble_eq_true rfl) ?_
  intro p l e R s m args below meth c Q ls hx hb hml hRf hRl hts hown hK hP hl hret
  have hl : lv_has ls 4 [(0, .ref x), (1, .ref fa)] := hl
  obtain ⟨hO, hF, hY1, hY2⟩ := hP
  refine lv_aload_n hx hb dX8_value_0 rfl (lv_at hl 0 rfl) ?_
  refine c_get (v := .ref y1) hx hb hts in_X8 hown hK hO rfl 1 (by decide) q894 rfl rfl dX8_value_1 ?_
  refine lv_aload_n hx hb dX8_value_4 rfl (lv_at hl 1 rfl) ?_
  refine hr1 p l e R s m args below meth c _ _ _ _ Q _ _ ls _ _ _ _ hx hb hml hown hts hK hY1 q377 (by rw [hRf]; omega) (by rw [hRl]; omega) (Nat.zero_le _) (Nat.zero_le _) hl.1 (Nat.le_of_ble_eq_true rfl) dX8_value_5 ?_
  refine lv_istore_n (lv' := [(2, .int g1), (0, .ref x), (1, .ref fa)]) hx hb dX8_value_8 rfl hl (by decide) rfl (fun ls hl => ?_)
  refine lv_aload_n hx hb dX8_value_9 rfl (lv_at hl 1 rfl) ?_
  refine c_get (v := .ref y2) hx hb hts in_X8 hown hK hO rfl 2 (by decide) q895 rfl rfl dX8_value_10 ?_
  refine lv_aload_n hx hb dX8_value_13 rfl (lv_at hl 2 rfl) ?_
  refine hr2 p l e R s m args below meth c _ _ _ _ Q _ _ ls _ _ _ _ hx hb hml hown hts hK hY2 q377 (by rw [hRf]; omega) (by rw [hRl]; omega) (Nat.zero_le _) (Nat.zero_le _) hl.1 (Nat.le_of_ble_eq_true rfl) dX8_value_14 ?_
  refine lv_istore_n (lv' := [(3, .int g2), (2, .int g1), (0, .ref x), (1, .ref fa)]) hx hb dX8_value_17 rfl hl (by decide) rfl (fun ls hl => ?_)
  refine lv_aload_n hx hb dX8_value_18 rfl (lv_at hl 2 rfl) ?_
  refine c_get (v := .int (nI 38)) hx hb hts in_X8 hown hK hO rfl 0 (by decide) q893 rfl rfl dX8_value_19 ?_
  refine lv_tableIn (off := 196) (tgt := 218) hx hb dX8_value_22 (by decide) (by decide) (by rfl) (by decide) ?_
  refine lv_iload_n hx hb dX8_value_218 rfl (lv_at hl 1 rfl) ?_
  have j231 : ∀ (ls : Array Slot), lv_has ls 4 [(3, .int g2), (2, .int g1), (0, .ref x), (1, .ref fa)] → W p l e R s m args below meth c s.heap [] 0 0 Q (F0 m 231 ls [.int (iI (¬ g1 = 0 ∧ ¬ g2 = 0))]) := by
    intro   ls hl
    refine st_callS (y := yX8_is) hx hb hml hown hts (cmX8_is (¬ g1 = 0 ∧ ¬ g2 = 0)) q378 q379 q72 q380 ndX8_is rfl (by rw [hRf]; omega) (by rw [hRl]; omega) (Nat.zero_le _) (Nat.zero_le _) hl.1 rfl (Nat.le_of_ble_eq_true rfl) dX8_value_231 ?_
    exact hret (by first | rfl | (unfold opB; rfl) | (unfold opB; rw [if_neg (by decide), if_pos (by decide)]; first | exact (if_pos {c165}).symm | exact (if_neg {c165}).symm) | (unfold opB; rw [if_neg (by decide), if_neg (by decide), if_pos (by decide)]; first | exact (if_pos {c165}).symm | exact (if_neg {c165}).symm)) dX8_value_234
  refine lv_if_eq (tgt := 230) hx hb dX8_value_219 (by decide) (fun c_1 => ?_) (fun c_1 => ?_)
  · refine lv_iconst (v := nI 0) hx hb dX8_value_230 (by decide) ?_
    refine w_top (iI (¬ g1 = 0 ∧ ¬ g2 = 0)) (iI_0 (fun q => q.1 c_1)) ?_
    exact j231   ls (lv_sub hl [0, 1, 2, 3] rfl)
  · refine lv_iload_n hx hb dX8_value_222 rfl (lv_at hl 0 rfl) ?_
    refine lv_if_eq (tgt := 230) hx hb dX8_value_223 (by decide) (fun c_2 => ?_) (fun c_2 => ?_)
    · refine lv_iconst (v := nI 0) hx hb dX8_value_230 (by decide) ?_
      refine w_top (iI (¬ g1 = 0 ∧ ¬ g2 = 0)) (iI_0 (fun q => q.2 c_2)) ?_
      exact j231   ls (lv_sub hl [0, 1, 2, 3] rfl)
    · refine lv_iconst (v := nI 1) hx hb dX8_value_226 (by decide) ?_
      refine lv_goto (tgt := 231) hx hb dX8_value_227 (by decide) ?_
      refine w_top (iI (¬ g1 = 0 ∧ ¬ g2 = 0)) (iI_1 ⟨c_1, c_2⟩) ?_
      exact j231   ls (lv_sub hl [0, 1, 2, 3] rfl)
set_option maxHeartbeats 400000 in
theorem tm_Two_124 {D : va_G} {dA : Nat → ClassId} (x fa na : Nat) (nm : Nat → Int32) (f0 l0 : Nat) (hf0 : 1 ≤ f0) (hl0 : 40 ≤ l0) (PY1 : Heap → Prop) (y1 : Nat) (g1 : Int32) (hr1 : TRow D dA PY1 y1 fa g1 f0 l0) (PY2 : Heap → Prop) (y2 : Nat) (g2 : Int32) (hr2 : TRow D dA PY2 y2 fa g2 f0 l0) : Rd D dA yX8_value cX8_value 4 (some .int) f0 l0 [.ref x, .ref fa] (fun H => cAt D x (.inr (6, [.int (nI 124), .ref y1, .ref y2])) H ∧ fcP D dA fa na nm H ∧ PY1 H ∧ PY2 H) (some (.int (opB (nI 124) g1 g2))) := by
  refine Rd.ofI (by decide) (own := RX8) rfl (Nat.le_of_ble_eq_true rfl) ?_
  intro p l e R s m args below meth c Q ls hx hb hml hRf hRl hts hown hK hP hl hret
  have hl : lv_has ls 4 [(0, .ref x), (1, .ref fa)] := hl
  obtain ⟨hO, hF, hY1, hY2⟩ := hP
  refine lv_aload_n hx hb dX8_value_0 rfl (lv_at hl 0 rfl) ?_
  refine c_get (v := .ref y1) hx hb hts in_X8 hown hK hO rfl 1 (by decide) q894 rfl rfl dX8_value_1 ?_
  refine lv_aload_n hx hb dX8_value_4 rfl (lv_at hl 1 rfl) ?_
  refine hr1 p l e R s m args below meth c _ _ _ _ Q _ _ ls _ _ _ _ hx hb hml hown hts hK hY1 q377 (by rw [hRf]; omega) (by rw [hRl]; omega) (Nat.zero_le _) (Nat.zero_le _) hl.1 (Nat.le_of_ble_eq_true rfl) dX8_value_5 ?_
  refine lv_istore_n (lv' := [(2, .int g1), (0, .ref x), (1, .ref fa)]) hx hb dX8_value_8 rfl hl (by decide) rfl (fun ls hl => ?_)
  refine lv_aload_n hx hb dX8_value_9 rfl (lv_at hl 1 rfl) ?_
  refine c_get (v := .ref y2) hx hb hts in_X8 hown hK hO rfl 2 (by decide) q895 rfl rfl dX8_value_10 ?_
  refine lv_aload_n hx hb dX8_value_13 rfl (lv_at hl 2 rfl) ?_
  refine hr2 p l e R s m args below meth c _ _ _ _ Q _ _ ls _ _ _ _ hx hb hml hown hts hK hY2 q377 (by rw [hRf]; omega) (by rw [hRl]; omega) (Nat.zero_le _) (Nat.zero_le _) hl.1 (Nat.le_of_ble_eq_true rfl) dX8_value_14 ?_
  refine lv_istore_n (lv' := [(3, .int g2), (2, .int g1), (0, .ref x), (1, .ref fa)]) hx hb dX8_value_17 rfl hl (by decide) rfl (fun ls hl => ?_)
  refine lv_aload_n hx hb dX8_value_18 rfl (lv_at hl 2 rfl) ?_
  refine c_get (v := .int (nI 124)) hx hb hts in_X8 hown hK hO rfl 0 (by decide) q893 rfl rfl dX8_value_19 ?_
  refine lv_tableOut (tgt := 235) hx hb dX8_value_22 (by decide) (by decide) ?_
  refine lv_iload_n hx hb dX8_value_235 rfl (lv_at hl 1 rfl) ?_
  have j248 : ∀ (ls : Array Slot), lv_has ls 4 [(3, .int g2), (2, .int g1), (0, .ref x), (1, .ref fa)] → W p l e R s m args below meth c s.heap [] 0 0 Q (F0 m 248 ls [.int (iI (¬ g1 = 0 ∨ ¬ g2 = 0))]) := by
    intro   ls hl
    refine st_callS (y := yX8_is) hx hb hml hown hts (cmX8_is (¬ g1 = 0 ∨ ¬ g2 = 0)) q378 q379 q72 q380 ndX8_is rfl (by rw [hRf]; omega) (by rw [hRl]; omega) (Nat.zero_le _) (Nat.zero_le _) hl.1 rfl (Nat.le_of_ble_eq_true rfl) dX8_value_248 ?_
    exact hret (by first | rfl | (unfold opB; rfl) | (unfold opB; rw [if_neg (by decide), if_pos (by decide)]; first | exact (if_pos {c165}).symm | exact (if_neg {c165}).symm) | (unfold opB; rw [if_neg (by decide), if_neg (by decide), if_pos (by decide)]; first | exact (if_pos {c165}).symm | exact (if_neg {c165}).symm)) dX8_value_251
  refine lv_if_ne (tgt := 243) hx hb dX8_value_236 (by decide) (fun c_1 => ?_) (fun c_1 => ?_)
  · refine lv_iconst (v := nI 1) hx hb dX8_value_243 (by decide) ?_
    refine lv_goto (tgt := 248) hx hb dX8_value_244 (by decide) ?_
    refine w_top (iI (¬ g1 = 0 ∨ ¬ g2 = 0)) (iI_1 (Or.inl c_1)) ?_
    exact j248   ls (lv_sub hl [0, 1, 2, 3] rfl)
  · refine lv_iload_n hx hb dX8_value_239 rfl (lv_at hl 0 rfl) ?_
    refine lv_if_eq (tgt := 247) hx hb dX8_value_240 (by decide) (fun c_2 => ?_) (fun c_2 => ?_)
    · refine lv_iconst (v := nI 0) hx hb dX8_value_247 (by decide) ?_
      refine w_top (iI (¬ g1 = 0 ∨ ¬ g2 = 0)) (iI_0 (fun q => q.elim (fun z => z c_1) (fun z => z c_2))) ?_
      exact j248   ls (lv_sub hl [0, 1, 2, 3] rfl)
    · refine lv_iconst (v := nI 1) hx hb dX8_value_243 (by decide) ?_
      refine lv_goto (tgt := 248) hx hb dX8_value_244 (by decide) ?_
      refine w_top (iI (¬ g1 = 0 ∨ ¬ g2 = 0)) (iI_1 (Or.inr c_2)) ?_
      exact j248   ls (lv_sub hl [0, 1, 2, 3] rfl)
/-- the signs of a text -/
def sgs : List Nat := [42, 47, 37, 43, 45, 60, 61, 62, 38, 124]
/-- at x lies a term of depth at most n that is F of the facts -/
def TmOK (D : va_G) (B : Nat → Prop) : Nat → Heap → Nat → ((Nat → Int32) → Int32) → Prop
  | 0, _, _, _ => False
  | n + 1, H, x, F => B x ∧ ((∃ v, cAt D x (.inr (9, [.int v])) H ∧ ∀ nm, F nm = v) ∨ (∃ k, k < 128 ∧ cAt D x (.inr (7, [.int (nI k)])) H ∧ ∀ nm, F nm = nm k) ∨ (∃ y G, cAt D x (.inr (8, [.ref y])) H ∧ TmOK D B n H y G ∧ ∀ nm, F nm = iI (G nm = 0)) ∨ (∃ sg y z G K, sg ∈ sgs ∧ cAt D x (.inr (6, [.int (nI sg), .ref y, .ref z])) H ∧ TmOK D B n H y G ∧ TmOK D B n H z K ∧ ∀ nm, F nm = opB (nI sg) (G nm) (K nm)))
theorem TmOK.to {D : va_G} {B B' : Nat → Prop} {H H1 : Heap} (hk : ∀ q, q < H.size → B q → B' q ∧ H1[q]? = H[q]?) : ∀ (n : Nat) (x : Nat) (F : (Nat → Int32) → Int32), TmOK D B n H x F → TmOK D B' n H1 x F := by
  intro n
  induction n with
  | zero => intro x F h; exact h
  | succ n ih =>
    rintro x F ⟨hB, h⟩
    have hx : x < H.size := by
      rcases h with ⟨v, h, -⟩ | ⟨k, -, h, -⟩ | ⟨y, G, h, -⟩ | ⟨sg, y, z, G, K, -, h, -⟩ <;> exact h.lt
    obtain ⟨hB1, hH⟩ := hk x hx hB
    refine ⟨hB1, ?_⟩
    rcases h with ⟨v, h, e⟩ | ⟨k, k1, h, e⟩ | ⟨y, G, h, t, e⟩ | ⟨sg, y, z, G, K, k1, h, t1, t2, e⟩
    · exact Or.inl ⟨v, h.kept hH, e⟩
    · exact Or.inr (Or.inl ⟨k, k1, h.kept hH, e⟩)
    · exact Or.inr (Or.inr (Or.inl ⟨y, G, h.kept hH, ih y G t, e⟩))
    · exact Or.inr (Or.inr (Or.inr ⟨sg, y, z, G, K, k1, h.kept hH, ih y G t1, ih z K t2, e⟩))
theorem TmOK.mono {D : va_G} {B : Nat → Prop} {H : Heap} : ∀ (n k : Nat) (x : Nat) (F : (Nat → Int32) → Int32), n ≤ k → TmOK D B n H x F → TmOK D B k H x F := by
  intro n
  induction n with
  | zero => intro k x F hk h; exact h.elim
  | succ n ih =>
    intro k x F hk h
    obtain ⟨k', rfl⟩ : ∃ k', k = k' + 1 := ⟨k - 1, by omega⟩
    obtain ⟨hB, h⟩ := h
    refine ⟨hB, ?_⟩
    rcases h with h | h | ⟨y, G, h, t, e⟩ | ⟨sg, y, z, G, K, k1, h, t1, t2, e⟩
    · exact Or.inl h
    · exact Or.inr (Or.inl h)
    · exact Or.inr (Or.inr (Or.inl ⟨y, G, h, ih k' y G (by omega) t, e⟩))
    · exact Or.inr (Or.inr (Or.inr ⟨sg, y, z, G, K, k1, h, ih k' y G (by omega) t1, ih k' z K (by omega) t2, e⟩))
/-- any term's value, called for -/
theorem tm_row (D : va_G) (dA : Nat → ClassId) (B : Nat → Prop) (fa na : Nat) (nm : Nat → Int32) : ∀ (n x : Nat) (F : (Nat → Int32) → Int32), TRow D dA (fun H => TmOK D B n H x F ∧ fcP D dA fa na nm H) x fa (F nm) (2 + n) (40 + 23 * n) := by
  intro n
  induction n with
  | zero => intro x F p l e R s m args below meth c H locs cells slots Q cc pc ls rest nL idx own hx hb hml hown hts hK hP; exact hP.1.elim
  | succ n ih =>
    intro x F p l e R s m args below meth c H locs cells slots Q cc pc ls rest nL idx own hx hb hml hown hts hK hP h1 hRf hRl hRc hRs hsize hW hdg kk
    obtain ⟨⟨-, hT⟩, hF⟩ := hP
    rcases hT with ⟨v, h, e0⟩ | ⟨k, k1, h, e0⟩ | ⟨y, G, h, t, e0⟩ | ⟨sg, y, z, G, K, k1, h, t1, t2, e0⟩
    · exact rd_callU (x := yTm) (y := yX20_value) (C := RX20) (owner := RX7) (As := [.ref fa]) hx hb hml hown hts hK (tm_Figure x fa na nm v) ⟨h, hF⟩ (h.recv hK rfl) (fun hf hl => va_cwA 1 hts (lw_app (lw_5 h1 q364 q365 q366 q90) (lw_meth q367)) rfl rfl rfl (hK.D 10 rfl) nv_Tm ⟨hf, hl⟩) rfl (by omega) (by omega) hRc hRs hsize rfl hW hdg (by rw [e0] at kk; exact kk)
    · exact rd_callU (x := yTm) (y := yX17_value) (C := RX17) (owner := RX7) (As := [.ref fa]) hx hb hml hown hts hK (tm_Named x fa na nm k k1) ⟨h, hF⟩ (h.recv hK rfl) (fun hf hl => va_cwA 1 hts (lw_app (lw_5 h1 q364 q368 q369 q87) (lw_meth q370)) rfl rfl rfl (hK.D 10 rfl) nv_Tm ⟨hf, hl⟩) rfl (by omega) (by omega) hRc hRs hsize rfl hW hdg (by rw [e0] at kk; exact kk)
    · exact rd_callU (x := yTm) (y := yX19_value) (C := RX19) (owner := RX7) (As := [.ref fa]) hx hb hml hown hts hK (tm_Turned x fa na nm _ _ _ y _ (ih y G)) ⟨h, hF, t, hF⟩ (h.recv hK rfl) (fun hf hl => va_cwA 1 hts (lw_app (lw_5 h1 q364 q371 q372 q89) (lw_meth q373)) rfl rfl rfl (hK.D 10 rfl) nv_Tm ⟨hf, hl⟩) rfl (by omega) (by omega) hRc hRs hsize rfl hW hdg (by rw [e0] at kk; exact kk)
    · simp only [sgs, List.mem_cons, List.not_mem_nil, or_false] at k1
      rcases k1 with rfl | rfl | rfl | rfl | rfl | rfl | rfl | rfl | rfl | rfl
      · exact rd_callU (x := yTm) (y := yX8_value) (C := RX8) (owner := RX7) (As := [.ref fa]) hx hb hml hown hts hK (tm_Two_42 x fa na nm _ _ (by omega) (by omega) _ y _ (ih y G) _ z _ (ih z K)) ⟨h, hF, ⟨t1, hF⟩, ⟨t2, hF⟩⟩ (h.recv hK rfl) (fun hf hl => va_cwA 1 hts (lw_app (lw_5 h1 q364 q381 q375 q72) (lw_meth q376)) rfl rfl rfl (hK.D 10 rfl) nv_Tm ⟨hf, hl⟩) rfl (by omega) (by omega) hRc hRs hsize rfl hW hdg (by rw [e0] at kk; exact kk)
      · exact rd_callU (x := yTm) (y := yX8_value) (C := RX8) (owner := RX7) (As := [.ref fa]) hx hb hml hown hts hK (tm_Two_47 x fa na nm _ _ (by omega) (by omega) _ y _ (ih y G) _ z _ (ih z K)) ⟨h, hF, ⟨t1, hF⟩, ⟨t2, hF⟩⟩ (h.recv hK rfl) (fun hf hl => va_cwA 1 hts (lw_app (lw_5 h1 q364 q381 q375 q72) (lw_meth q376)) rfl rfl rfl (hK.D 10 rfl) nv_Tm ⟨hf, hl⟩) rfl (by omega) (by omega) hRc hRs hsize rfl hW hdg (by rw [e0] at kk; exact kk)
      · exact rd_callU (x := yTm) (y := yX8_value) (C := RX8) (owner := RX7) (As := [.ref fa]) hx hb hml hown hts hK (tm_Two_37 x fa na nm _ _ (by omega) (by omega) _ y _ (ih y G) _ z _ (ih z K)) ⟨h, hF, ⟨t1, hF⟩, ⟨t2, hF⟩⟩ (h.recv hK rfl) (fun hf hl => va_cwA 1 hts (lw_app (lw_5 h1 q364 q381 q375 q72) (lw_meth q376)) rfl rfl rfl (hK.D 10 rfl) nv_Tm ⟨hf, hl⟩) rfl (by omega) (by omega) hRc hRs hsize rfl hW hdg (by rw [e0] at kk; exact kk)
      · exact rd_callU (x := yTm) (y := yX8_value) (C := RX8) (owner := RX7) (As := [.ref fa]) hx hb hml hown hts hK (tm_Two_43 x fa na nm _ _ (by omega) (by omega) _ y _ (ih y G) _ z _ (ih z K)) ⟨h, hF, ⟨t1, hF⟩, ⟨t2, hF⟩⟩ (h.recv hK rfl) (fun hf hl => va_cwA 1 hts (lw_app (lw_5 h1 q364 q381 q375 q72) (lw_meth q376)) rfl rfl rfl (hK.D 10 rfl) nv_Tm ⟨hf, hl⟩) rfl (by omega) (by omega) hRc hRs hsize rfl hW hdg (by rw [e0] at kk; exact kk)
      · exact rd_callU (x := yTm) (y := yX8_value) (C := RX8) (owner := RX7) (As := [.ref fa]) hx hb hml hown hts hK (tm_Two_45 x fa na nm _ _ (by omega) (by omega) _ y _ (ih y G) _ z _ (ih z K)) ⟨h, hF, ⟨t1, hF⟩, ⟨t2, hF⟩⟩ (h.recv hK rfl) (fun hf hl => va_cwA 1 hts (lw_app (lw_5 h1 q364 q381 q375 q72) (lw_meth q376)) rfl rfl rfl (hK.D 10 rfl) nv_Tm ⟨hf, hl⟩) rfl (by omega) (by omega) hRc hRs hsize rfl hW hdg (by rw [e0] at kk; exact kk)
      · exact rd_callU (x := yTm) (y := yX8_value) (C := RX8) (owner := RX7) (As := [.ref fa]) hx hb hml hown hts hK (tm_Two_60 x fa na nm _ _ (by omega) (by omega) _ y _ (ih y G) _ z _ (ih z K)) ⟨h, hF, ⟨t1, hF⟩, ⟨t2, hF⟩⟩ (h.recv hK rfl) (fun hf hl => va_cwA 1 hts (lw_app (lw_5 h1 q364 q381 q375 q72) (lw_meth q376)) rfl rfl rfl (hK.D 10 rfl) nv_Tm ⟨hf, hl⟩) rfl (by omega) (by omega) hRc hRs hsize rfl hW hdg (by rw [e0] at kk; exact kk)
      · exact rd_callU (x := yTm) (y := yX8_value) (C := RX8) (owner := RX7) (As := [.ref fa]) hx hb hml hown hts hK (tm_Two_61 x fa na nm _ _ (by omega) (by omega) _ y _ (ih y G) _ z _ (ih z K)) ⟨h, hF, ⟨t1, hF⟩, ⟨t2, hF⟩⟩ (h.recv hK rfl) (fun hf hl => va_cwA 1 hts (lw_app (lw_5 h1 q364 q381 q375 q72) (lw_meth q376)) rfl rfl rfl (hK.D 10 rfl) nv_Tm ⟨hf, hl⟩) rfl (by omega) (by omega) hRc hRs hsize rfl hW hdg (by rw [e0] at kk; exact kk)
      · exact rd_callU (x := yTm) (y := yX8_value) (C := RX8) (owner := RX7) (As := [.ref fa]) hx hb hml hown hts hK (tm_Two_62 x fa na nm _ _ (by omega) (by omega) _ y _ (ih y G) _ z _ (ih z K)) ⟨h, hF, ⟨t1, hF⟩, ⟨t2, hF⟩⟩ (h.recv hK rfl) (fun hf hl => va_cwA 1 hts (lw_app (lw_5 h1 q364 q381 q375 q72) (lw_meth q376)) rfl rfl rfl (hK.D 10 rfl) nv_Tm ⟨hf, hl⟩) rfl (by omega) (by omega) hRc hRs hsize rfl hW hdg (by rw [e0] at kk; exact kk)
      · exact rd_callU (x := yTm) (y := yX8_value) (C := RX8) (owner := RX7) (As := [.ref fa]) hx hb hml hown hts hK (tm_Two_38 x fa na nm _ _ (by omega) (by omega) _ y _ (ih y G) _ z _ (ih z K)) ⟨h, hF, ⟨t1, hF⟩, ⟨t2, hF⟩⟩ (h.recv hK rfl) (fun hf hl => va_cwA 1 hts (lw_app (lw_5 h1 q364 q381 q375 q72) (lw_meth q376)) rfl rfl rfl (hK.D 10 rfl) nv_Tm ⟨hf, hl⟩) rfl (by omega) (by omega) hRc hRs hsize rfl hW hdg (by rw [e0] at kk; exact kk)
      · exact rd_callU (x := yTm) (y := yX8_value) (C := RX8) (owner := RX7) (As := [.ref fa]) hx hb hml hown hts hK (tm_Two_124 x fa na nm _ _ (by omega) (by omega) _ y _ (ih y G) _ z _ (ih z K)) ⟨h, hF, ⟨t1, hF⟩, ⟨t2, hF⟩⟩ (h.recv hK rfl) (fun hf hl => va_cwA 1 hts (lw_app (lw_5 h1 q364 q381 q375 q72) (lw_meth q376)) rfl rfl rfl (hK.D 10 rfl) nv_Tm ⟨hf, hl⟩) rfl (by omega) (by omega) hRc hRs hsize rfl hW hdg (by rw [e0] at kk; exact kk)
