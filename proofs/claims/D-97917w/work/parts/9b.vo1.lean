/-! voices (printed by comp29.py) -/
set_option maxRecDepth 100000
theorem ndX4_begins : yX4_begins.cls = RX4 ∧ yX4_begins.cls ≠ "java/lang/invoke/MethodHandle" ∧ yX4_begins.cls ≠ "java/lang/invoke/VarHandle" ∧ (parseMethodDescriptor yX4_begins.desc).map (fun d => d.parameters.length) = some 1 := by decide +kernel

set_option maxHeartbeats 400000 in
theorem vo_wants_0_0 {D : va_G} {dA : Nat → ClassId} (x tr rn w : Nat) (mm : Int32) (T : Nat → Int32) (t : Nat) (hne : tr ≠ rn) (hxA : ¬ voA tr rn x) (v : Int32) (ht : t + 1 ≤ 40) : Cg D dA (voA tr rn) yX9_wants cX9_wants 2 (some .int) 1 21 0 0 [.ref x, .int v] (fun H => va_P D cmCl (voWs dA tr rn t T) H ∧ cAt D x (.inr (10, [.ref tr, .int (nI w), .int mm])) H) (fun v' H => v' = some (.int (v + (nI w))) ∧ va_P D cmCl (voWs dA tr rn (t + 1) (upd T t (nI 10))) H) := by
  refine Cg.ofI (by decide) (own := RX9) rfl (Nat.le_of_ble_eq_true rfl) ?_
  intro p l e R s m args below meth c Q ls hx hb hml hRf hRl hRc hRs hin hts hown hK hP hl hret
  have hl : lv_has ls 2 [(0, .ref x), (1, .int v)] := hl
  obtain ⟨hP, hO⟩ := hP
  have hM : voH D dA tr rn s.heap s.heap [] t T := ⟨hP, voD hne _ _ _, va_S.rf⟩
  refine lv_aload_n hx hb dX9_wants_0 rfl (lv_at hl 0 rfl) ?_
  refine c_get (v := .ref tr) hx hb hts in_X9 hown hK (hO.kept (hM.2.2.2.1 x hO.lt hxA)) rfl 0 (by decide) q414 rfl rfl dX9_wants_1 ?_
  refine lv_bipush (v := nI 10) hx hb dX9_wants_4 (by decide) ?_
  refine cg_callV (y := yX4_begins) hx hb hml hown hts hK hM.2.2 (vo_begins tr rn (t) 10 _ hne (by omega)) hM.1 (fun q hq => hq) (cAt.recv hK (hM.1 0 _ rfl) rfl) q1104 q1105 q1106 q68 q1107 ndX4_begins rfl (by rw [hRf]; decide) (by rw [hRl]; decide) (Nat.zero_le _) (Nat.zero_le _) hl.1 rfl (Nat.le_of_ble_eq_true rfl) dX9_wants_6 ?_
  rintro _ H locs ⟨rfl, hP1⟩ hz1 hk1 hS1
  have hM : voH D dA tr rn s.heap H locs (t + 1) (upd T t (nI 10)) := ⟨hP1, voD hne _ _ _, hS1⟩
  refine lv_iload_n hx hb dX9_wants_9 rfl (lv_at hl 1 rfl) ?_
  refine lv_aload_n hx hb dX9_wants_10 rfl (lv_at hl 0 rfl) ?_
  refine c_get (v := .int (nI w)) hx hb hts in_X9 hown hK (hO.kept (hM.2.2.2.1 x hO.lt hxA)) rfl 1 (by decide) q427 rfl rfl dX9_wants_11 ?_
  refine lv_iadd hx hb dX9_wants_14 ?_
  exact hret (⟨rfl, hM.1⟩) hM.2.2 dX9_wants_15
set_option maxHeartbeats 400000 in
theorem vo_knows_0_0 {D : va_G} {dA : Nat → ClassId} (x tr rn w : Nat) (mm : Int32) (T : Nat → Int32) (t : Nat) (hne : tr ≠ rn) (hxA : ¬ voA tr rn x) (v : Int32) (ht : t + 1 ≤ 40) : Cg D dA (voA tr rn) yX9_knows cX9_knows 2 (some .int) 1 21 0 0 [.ref x, .int v] (fun H => va_P D cmCl (voWs dA tr rn t T) H ∧ cAt D x (.inr (10, [.ref tr, .int (nI w), .int mm])) H) (fun v' H => v' = some (.int (v - mm)) ∧ va_P D cmCl (voWs dA tr rn (t + 1) (upd T t (nI 12))) H) := by
  refine Cg.ofI (by decide) (own := RX9) rfl (Nat.le_of_ble_eq_true rfl) ?_
  intro p l e R s m args below meth c Q ls hx hb hml hRf hRl hRc hRs hin hts hown hK hP hl hret
  have hl : lv_has ls 2 [(0, .ref x), (1, .int v)] := hl
  obtain ⟨hP, hO⟩ := hP
  have hM : voH D dA tr rn s.heap s.heap [] t T := ⟨hP, voD hne _ _ _, va_S.rf⟩
  refine lv_aload_n hx hb dX9_knows_0 rfl (lv_at hl 0 rfl) ?_
  refine c_get (v := .ref tr) hx hb hts in_X9 hown hK (hO.kept (hM.2.2.2.1 x hO.lt hxA)) rfl 0 (by decide) q414 rfl rfl dX9_knows_1 ?_
  refine lv_bipush (v := nI 12) hx hb dX9_knows_4 (by decide) ?_
  refine cg_callV (y := yX4_begins) hx hb hml hown hts hK hM.2.2 (vo_begins tr rn (t) 12 _ hne (by omega)) hM.1 (fun q hq => hq) (cAt.recv hK (hM.1 0 _ rfl) rfl) q1104 q1105 q1106 q68 q1107 ndX4_begins rfl (by rw [hRf]; decide) (by rw [hRl]; decide) (Nat.zero_le _) (Nat.zero_le _) hl.1 rfl (Nat.le_of_ble_eq_true rfl) dX9_knows_6 ?_
  rintro _ H locs ⟨rfl, hP1⟩ hz1 hk1 hS1
  have hM : voH D dA tr rn s.heap H locs (t + 1) (upd T t (nI 12)) := ⟨hP1, voD hne _ _ _, hS1⟩
  refine lv_iload_n hx hb dX9_knows_9 rfl (lv_at hl 1 rfl) ?_
  refine lv_aload_n hx hb dX9_knows_10 rfl (lv_at hl 0 rfl) ?_
  refine c_get (v := .int mm) hx hb hts in_X9 hown hK (hO.kept (hM.2.2.2.1 x hO.lt hxA)) rfl 2 (by decide) q430 rfl rfl dX9_knows_11 ?_
  refine lv_isub hx hb dX9_knows_14 ?_
  exact hret (⟨rfl, hM.1⟩) hM.2.2 dX9_knows_15
theorem nw_X9_wants : (RX9 : String) ≠ "java/lang/invoke/MethodHandle" ∧ (RX9 : String) ≠ "java/lang/invoke/VarHandle" ∧ (parseMethodDescriptor "(I)I").map (fun d => d.parameters.length) = some 1 := by decide +kernel

set_option maxHeartbeats 400000 in
theorem vo_eats_0_0 {D : va_G} {dA : Nat → ClassId} (x tr rn w : Nat) (mm : Int32) (T : Nat → Int32) (t : Nat) (hne : tr ≠ rn) (hxA : ¬ voA tr rn x) (v : Int32) (ht : t + 2 ≤ 40) : Cg D dA (voA tr rn) yX9_eats cX9_eats 2 (some .int) 2 42 0 0 [.ref x, .int v] (fun H => va_P D cmCl (voWs dA tr rn t T) H ∧ cAt D x (.inr (10, [.ref tr, .int (nI w), .int mm])) H) (fun v' H => v' = some (.int ((v + (nI w)) * (nI 2))) ∧ va_P D cmCl (voWs dA tr rn (t + 1 + 1) (upd (upd T t (nI 11)) (t + 1) (nI 10))) H) := by
  refine Cg.ofI (by decide) (own := RX9) rfl (Nat.le_of_ble_eq_true rfl) ?_
  intro p l e R s m args below meth c Q ls hx hb hml hRf hRl hRc hRs hin hts hown hK hP hl hret
  have hl : lv_has ls 2 [(0, .ref x), (1, .int v)] := hl
  obtain ⟨hP, hO⟩ := hP
  have hM : voH D dA tr rn s.heap s.heap [] t T := ⟨hP, voD hne _ _ _, va_S.rf⟩
  refine lv_aload_n hx hb dX9_eats_0 rfl (lv_at hl 0 rfl) ?_
  refine c_get (v := .ref tr) hx hb hts in_X9 hown hK (hO.kept (hM.2.2.2.1 x hO.lt hxA)) rfl 0 (by decide) q414 rfl rfl dX9_eats_1 ?_
  refine lv_bipush (v := nI 11) hx hb dX9_eats_4 (by decide) ?_
  refine cg_callV (y := yX4_begins) hx hb hml hown hts hK hM.2.2 (vo_begins tr rn (t) 11 _ hne (by omega)) hM.1 (fun q hq => hq) (cAt.recv hK (hM.1 0 _ rfl) rfl) q1104 q1105 q1106 q68 q1107 ndX4_begins rfl (by rw [hRf]; decide) (by rw [hRl]; decide) (Nat.zero_le _) (Nat.zero_le _) hl.1 rfl (Nat.le_of_ble_eq_true rfl) dX9_eats_6 ?_
  rintro _ H locs ⟨rfl, hP1⟩ hz1 hk1 hS1
  have hM : voH D dA tr rn s.heap H locs (t + 1) (upd T t (nI 11)) := ⟨hP1, voD hne _ _ _, hS1⟩
  refine lv_aload_n hx hb dX9_eats_9 rfl (lv_at hl 0 rfl) ?_
  refine lv_iload_n hx hb dX9_eats_10 rfl (lv_at hl 1 rfl) ?_
  skip
  refine cg_callU (x := ⟨RX9, "wants", "(I)I"⟩) (y := yX9_wants) (C := RX9) (owner := RX9) hx hb hml hown hts hK hM.2.2 (vo_wants_0_0 x tr rn w mm _ (t + 1) hne hxA v (by omega)) ⟨hM.1, hO.kept (hM.2.2.2.1 x hO.lt hxA)⟩ (fun q hq => hq) ((hO.kept (hM.2.2.2.1 x hO.lt hxA)).recv hK rfl) (fun R hf hl => va_cwO 1 hts (lw_app (lw_6 q1141 q1837 q1101 q1838 q1101 q74) (lw_meth q1103)) rfl rfl rfl q1103 nw_X9_wants ⟨hf, hl⟩) rfl (by rw [hRf]; decide) (by rw [hRl]; decide) (Nat.zero_le _) (Nat.zero_le _) hl.1 rfl (Nat.le_of_ble_eq_true rfl) dX9_eats_11 ?_
  rintro _ H locs ⟨rfl, hP1⟩ hz1 hk1 hS1
  have hM : voH D dA tr rn s.heap H locs (t + 1 + 1) (upd (upd T t (nI 11)) (t + 1) (nI 10)) := ⟨hP1, voD hne _ _ _, hS1⟩
  refine lv_iconst (v := nI 2) hx hb dX9_eats_14 (by decide) ?_
  refine lv_imul hx hb dX9_eats_15 ?_
  exact hret (⟨rfl, hM.1⟩) hM.2.2 dX9_eats_16
theorem nw_X9_eats : (RX9 : String) ≠ "java/lang/invoke/MethodHandle" ∧ (RX9 : String) ≠ "java/lang/invoke/VarHandle" ∧ (parseMethodDescriptor "(I)I").map (fun d => d.parameters.length) = some 1 := by decide +kernel
theorem nw_X9_knows : (RX9 : String) ≠ "java/lang/invoke/MethodHandle" ∧ (RX9 : String) ≠ "java/lang/invoke/VarHandle" ∧ (parseMethodDescriptor "(I)I").map (fun d => d.parameters.length) = some 1 := by decide +kernel

set_option maxHeartbeats 400000 in
theorem vo_tells_0_0 {D : va_G} {dA : Nat → ClassId} (x tr rn w : Nat) (mm : Int32) (T : Nat → Int32) (t : Nat) (hne : tr ≠ rn) (hxA : ¬ voA tr rn x) (v : Int32) (ht : t + 4 ≤ 40) : Cg D dA (voA tr rn) yX9_tells cX9_tells 3 (some .int) 3 63 0 0 [.ref x, .int v] (fun H => va_P D cmCl (voWs dA tr rn t T) H ∧ cAt D x (.inr (10, [.ref tr, .int (nI w), .int mm])) H) (fun v' H => v' = some (.int (((v + (nI w)) * (nI 2)) ^^^ (v - mm))) ∧ va_P D cmCl (voWs dA tr rn (t + 1 + 1 + 1 + 1) (upd (upd (upd (upd T t (nI 13)) (t + 1) (nI 11)) (t + 1 + 1) (nI 10)) (t + 1 + 1 + 1) (nI 12))) H) := by
  refine Cg.ofI (by decide) (own := RX9) rfl (Nat.le_of_ble_eq_true rfl) ?_
  intro p l e R s m args below meth c Q ls hx hb hml hRf hRl hRc hRs hin hts hown hK hP hl hret
  have hl : lv_has ls 3 [(0, .ref x), (1, .int v)] := hl
  obtain ⟨hP, hO⟩ := hP
  have hM : voH D dA tr rn s.heap s.heap [] t T := ⟨hP, voD hne _ _ _, va_S.rf⟩
  refine lv_aload_n hx hb dX9_tells_0 rfl (lv_at hl 0 rfl) ?_
  refine c_get (v := .ref tr) hx hb hts in_X9 hown hK (hO.kept (hM.2.2.2.1 x hO.lt hxA)) rfl 0 (by decide) q414 rfl rfl dX9_tells_1 ?_
  refine lv_bipush (v := nI 13) hx hb dX9_tells_4 (by decide) ?_
  refine cg_callV (y := yX4_begins) hx hb hml hown hts hK hM.2.2 (vo_begins tr rn (t) 13 _ hne (by omega)) hM.1 (fun q hq => hq) (cAt.recv hK (hM.1 0 _ rfl) rfl) q1104 q1105 q1106 q68 q1107 ndX4_begins rfl (by rw [hRf]; decide) (by rw [hRl]; decide) (Nat.zero_le _) (Nat.zero_le _) hl.1 rfl (Nat.le_of_ble_eq_true rfl) dX9_tells_6 ?_
  rintro _ H locs ⟨rfl, hP1⟩ hz1 hk1 hS1
  have hM : voH D dA tr rn s.heap H locs (t + 1) (upd T t (nI 13)) := ⟨hP1, voD hne _ _ _, hS1⟩
  refine lv_aload_n hx hb dX9_tells_9 rfl (lv_at hl 0 rfl) ?_
  refine lv_iload_n hx hb dX9_tells_10 rfl (lv_at hl 1 rfl) ?_
  have nq := hK.D 0 rfl
  refine cg_callU (x := ⟨RX9, "eats", "(I)I"⟩) (y := yX9_eats) (C := RX9) (owner := RX9) hx hb hml hown hts hK hM.2.2 (vo_eats_0_0 x tr rn w mm _ (t + 1) hne hxA v (by omega)) ⟨hM.1, hO.kept (hM.2.2.2.1 x hO.lt hxA)⟩ (fun q hq => hq) ((hO.kept (hM.2.2.2.1 x hO.lt hxA)).recv hK rfl) (fun R hf hl => va_cwA 1 hts (lw_app (lw_5 q1223 q1845 q1849 q1138 q74) (lw_meth q1140)) rfl rfl rfl nq nw_X9_eats ⟨hf, hl⟩) rfl (by rw [hRf]; decide) (by rw [hRl]; decide) (Nat.zero_le _) (Nat.zero_le _) hl.1 rfl (Nat.le_of_ble_eq_true rfl) dX9_tells_11 ?_
  rintro _ H locs ⟨rfl, hP1⟩ hz1 hk1 hS1
  have hM : voH D dA tr rn s.heap H locs (t + 1 + 1 + 1) (upd (upd (upd T t (nI 13)) (t + 1) (nI 11)) (t + 1 + 1) (nI 10)) := ⟨hP1, voD hne _ _ _, hS1⟩
  refine lv_istore_n (lv' := [(2, .int ((v + (nI w)) * (nI 2))), (0, .ref x), (1, .int v)]) hx hb dX9_tells_14 rfl hl (by decide) rfl (fun ls hl => ?_)
  refine lv_iload_n hx hb dX9_tells_15 rfl (lv_at hl 0 rfl) ?_
  refine lv_aload_n hx hb dX9_tells_16 rfl (lv_at hl 1 rfl) ?_
  refine lv_iload_n hx hb dX9_tells_17 rfl (lv_at hl 2 rfl) ?_
  have nq := hK.D 1 rfl
  refine cg_callU (x := ⟨RX9, "knows", "(I)I"⟩) (y := yX9_knows) (C := RX9) (owner := RX9) hx hb hml hown hts hK hM.2.2 (vo_knows_0_0 x tr rn w mm _ (t + 1 + 1 + 1) hne hxA v (by omega)) ⟨hM.1, hO.kept (hM.2.2.2.1 x hO.lt hxA)⟩ (fun q hq => hq) ((hO.kept (hM.2.2.2.1 x hO.lt hxA)).recv hK rfl) (fun R hf hl => va_cwA 1 hts (lw_app (lw_5 q1224 q1847 q1856 q1155 q74) (lw_meth q1156)) rfl rfl rfl nq nw_X9_knows ⟨hf, hl⟩) rfl (by rw [hRf]; decide) (by rw [hRl]; decide) (Nat.zero_le _) (Nat.zero_le _) hl.1 rfl (Nat.le_of_ble_eq_true rfl) dX9_tells_18 ?_
  rintro _ H locs ⟨rfl, hP1⟩ hz1 hk1 hS1
  have hM : voH D dA tr rn s.heap H locs (t + 1 + 1 + 1 + 1) (upd (upd (upd (upd T t (nI 13)) (t + 1) (nI 11)) (t + 1 + 1) (nI 10)) (t + 1 + 1 + 1) (nI 12)) := ⟨hP1, voD hne _ _ _, hS1⟩
  refine lv_ixor hx hb dX9_tells_21 ?_
  exact hret (⟨rfl, hM.1⟩) hM.2.2 dX9_tells_22
set_option maxHeartbeats 400000 in
theorem vo_wants_0_1 {D : va_G} {dA : Nat → ClassId} (x tr rn w : Nat) (mm : Int32) (T : Nat → Int32) (t : Nat) (hne : tr ≠ rn) (hxA : ¬ voA tr rn x) (v : Int32) (ht : t + 1 ≤ 40) : Cg D dA (voA tr rn) yX9_wants cX9_wants 2 (some .int) 1 21 0 0 [.ref x, .int v] (fun H => va_P D cmCl (voWs dA tr rn t T) H ∧ cAt D x (.inr (11, [.ref tr, .int (nI w), .int mm])) H) (fun v' H => v' = some (.int (v + (nI w))) ∧ va_P D cmCl (voWs dA tr rn (t + 1) (upd T t (nI 10))) H) := by
  refine Cg.ofI (by decide) (own := RX9) rfl (Nat.le_of_ble_eq_true rfl) ?_
  intro p l e R s m args below meth c Q ls hx hb hml hRf hRl hRc hRs hin hts hown hK hP hl hret
  have hl : lv_has ls 2 [(0, .ref x), (1, .int v)] := hl
  obtain ⟨hP, hO⟩ := hP
  have hM : voH D dA tr rn s.heap s.heap [] t T := ⟨hP, voD hne _ _ _, va_S.rf⟩
  refine lv_aload_n hx hb dX9_wants_0 rfl (lv_at hl 0 rfl) ?_
  refine c_get (v := .ref tr) hx hb hts in_X10 hown hK (hO.kept (hM.2.2.2.1 x hO.lt hxA)) rfl 0 (by decide) q414 rfl rfl dX9_wants_1 ?_
  refine lv_bipush (v := nI 10) hx hb dX9_wants_4 (by decide) ?_
  refine cg_callV (y := yX4_begins) hx hb hml hown hts hK hM.2.2 (vo_begins tr rn (t) 10 _ hne (by omega)) hM.1 (fun q hq => hq) (cAt.recv hK (hM.1 0 _ rfl) rfl) q1104 q1105 q1106 q68 q1107 ndX4_begins rfl (by rw [hRf]; decide) (by rw [hRl]; decide) (Nat.zero_le _) (Nat.zero_le _) hl.1 rfl (Nat.le_of_ble_eq_true rfl) dX9_wants_6 ?_
  rintro _ H locs ⟨rfl, hP1⟩ hz1 hk1 hS1
  have hM : voH D dA tr rn s.heap H locs (t + 1) (upd T t (nI 10)) := ⟨hP1, voD hne _ _ _, hS1⟩
  refine lv_iload_n hx hb dX9_wants_9 rfl (lv_at hl 1 rfl) ?_
  refine lv_aload_n hx hb dX9_wants_10 rfl (lv_at hl 0 rfl) ?_
  refine c_get (v := .int (nI w)) hx hb hts in_X10 hown hK (hO.kept (hM.2.2.2.1 x hO.lt hxA)) rfl 1 (by decide) q427 rfl rfl dX9_wants_11 ?_
  refine lv_iadd hx hb dX9_wants_14 ?_
  exact hret (⟨rfl, hM.1⟩) hM.2.2 dX9_wants_15
set_option maxHeartbeats 400000 in
theorem vo_knows_0_1 {D : va_G} {dA : Nat → ClassId} (x tr rn w : Nat) (mm : Int32) (T : Nat → Int32) (t : Nat) (hne : tr ≠ rn) (hxA : ¬ voA tr rn x) (v : Int32) (ht : t + 1 ≤ 40) : Cg D dA (voA tr rn) yX9_knows cX9_knows 2 (some .int) 1 21 0 0 [.ref x, .int v] (fun H => va_P D cmCl (voWs dA tr rn t T) H ∧ cAt D x (.inr (11, [.ref tr, .int (nI w), .int mm])) H) (fun v' H => v' = some (.int (v - mm)) ∧ va_P D cmCl (voWs dA tr rn (t + 1) (upd T t (nI 12))) H) := by
  refine Cg.ofI (by decide) (own := RX9) rfl (Nat.le_of_ble_eq_true rfl) ?_
  intro p l e R s m args below meth c Q ls hx hb hml hRf hRl hRc hRs hin hts hown hK hP hl hret
  have hl : lv_has ls 2 [(0, .ref x), (1, .int v)] := hl
  obtain ⟨hP, hO⟩ := hP
  have hM : voH D dA tr rn s.heap s.heap [] t T := ⟨hP, voD hne _ _ _, va_S.rf⟩
  refine lv_aload_n hx hb dX9_knows_0 rfl (lv_at hl 0 rfl) ?_
  refine c_get (v := .ref tr) hx hb hts in_X10 hown hK (hO.kept (hM.2.2.2.1 x hO.lt hxA)) rfl 0 (by decide) q414 rfl rfl dX9_knows_1 ?_
  refine lv_bipush (v := nI 12) hx hb dX9_knows_4 (by decide) ?_
  refine cg_callV (y := yX4_begins) hx hb hml hown hts hK hM.2.2 (vo_begins tr rn (t) 12 _ hne (by omega)) hM.1 (fun q hq => hq) (cAt.recv hK (hM.1 0 _ rfl) rfl) q1104 q1105 q1106 q68 q1107 ndX4_begins rfl (by rw [hRf]; decide) (by rw [hRl]; decide) (Nat.zero_le _) (Nat.zero_le _) hl.1 rfl (Nat.le_of_ble_eq_true rfl) dX9_knows_6 ?_
  rintro _ H locs ⟨rfl, hP1⟩ hz1 hk1 hS1
  have hM : voH D dA tr rn s.heap H locs (t + 1) (upd T t (nI 12)) := ⟨hP1, voD hne _ _ _, hS1⟩
  refine lv_iload_n hx hb dX9_knows_9 rfl (lv_at hl 1 rfl) ?_
  refine lv_aload_n hx hb dX9_knows_10 rfl (lv_at hl 0 rfl) ?_
  refine c_get (v := .int mm) hx hb hts in_X10 hown hK (hO.kept (hM.2.2.2.1 x hO.lt hxA)) rfl 2 (by decide) q430 rfl rfl dX9_knows_11 ?_
  refine lv_isub hx hb dX9_knows_14 ?_
  exact hret (⟨rfl, hM.1⟩) hM.2.2 dX9_knows_15
set_option maxHeartbeats 400000 in
theorem vo_eats_0_1 {D : va_G} {dA : Nat → ClassId} (x tr rn w : Nat) (mm : Int32) (T : Nat → Int32) (t : Nat) (hne : tr ≠ rn) (hxA : ¬ voA tr rn x) (v : Int32) (ht : t + 2 ≤ 40) : Cg D dA (voA tr rn) yX9_eats cX9_eats 2 (some .int) 2 42 0 0 [.ref x, .int v] (fun H => va_P D cmCl (voWs dA tr rn t T) H ∧ cAt D x (.inr (11, [.ref tr, .int (nI w), .int mm])) H) (fun v' H => v' = some (.int ((v + (nI w)) * (nI 2))) ∧ va_P D cmCl (voWs dA tr rn (t + 1 + 1) (upd (upd T t (nI 11)) (t + 1) (nI 10))) H) := by
  refine Cg.ofI (by decide) (own := RX9) rfl (Nat.le_of_ble_eq_true rfl) ?_
  intro p l e R s m args below meth c Q ls hx hb hml hRf hRl hRc hRs hin hts hown hK hP hl hret
  have hl : lv_has ls 2 [(0, .ref x), (1, .int v)] := hl
  obtain ⟨hP, hO⟩ := hP
  have hM : voH D dA tr rn s.heap s.heap [] t T := ⟨hP, voD hne _ _ _, va_S.rf⟩
  refine lv_aload_n hx hb dX9_eats_0 rfl (lv_at hl 0 rfl) ?_
  refine c_get (v := .ref tr) hx hb hts in_X10 hown hK (hO.kept (hM.2.2.2.1 x hO.lt hxA)) rfl 0 (by decide) q414 rfl rfl dX9_eats_1 ?_
  refine lv_bipush (v := nI 11) hx hb dX9_eats_4 (by decide) ?_
  refine cg_callV (y := yX4_begins) hx hb hml hown hts hK hM.2.2 (vo_begins tr rn (t) 11 _ hne (by omega)) hM.1 (fun q hq => hq) (cAt.recv hK (hM.1 0 _ rfl) rfl) q1104 q1105 q1106 q68 q1107 ndX4_begins rfl (by rw [hRf]; decide) (by rw [hRl]; decide) (Nat.zero_le _) (Nat.zero_le _) hl.1 rfl (Nat.le_of_ble_eq_true rfl) dX9_eats_6 ?_
  rintro _ H locs ⟨rfl, hP1⟩ hz1 hk1 hS1
  have hM : voH D dA tr rn s.heap H locs (t + 1) (upd T t (nI 11)) := ⟨hP1, voD hne _ _ _, hS1⟩
  refine lv_aload_n hx hb dX9_eats_9 rfl (lv_at hl 0 rfl) ?_
  refine lv_iload_n hx hb dX9_eats_10 rfl (lv_at hl 1 rfl) ?_
  skip
  refine cg_callU (x := ⟨RX9, "wants", "(I)I"⟩) (y := yX9_wants) (C := RX10) (owner := RX9) hx hb hml hown hts hK hM.2.2 (vo_wants_0_1 x tr rn w mm _ (t + 1) hne hxA v (by omega)) ⟨hM.1, hO.kept (hM.2.2.2.1 x hO.lt hxA)⟩ (fun q hq => hq) ((hO.kept (hM.2.2.2.1 x hO.lt hxA)).recv hK rfl) (fun R hf hl => va_cwO 1 hts (lw_app (lw_6 q1141 q1837 q1101 q1839 q1101 q74) (lw_meth q1103)) rfl rfl rfl q1103 nw_X9_wants ⟨hf, hl⟩) rfl (by rw [hRf]; decide) (by rw [hRl]; decide) (Nat.zero_le _) (Nat.zero_le _) hl.1 rfl (Nat.le_of_ble_eq_true rfl) dX9_eats_11 ?_
  rintro _ H locs ⟨rfl, hP1⟩ hz1 hk1 hS1
  have hM : voH D dA tr rn s.heap H locs (t + 1 + 1) (upd (upd T t (nI 11)) (t + 1) (nI 10)) := ⟨hP1, voD hne _ _ _, hS1⟩
  refine lv_iconst (v := nI 2) hx hb dX9_eats_14 (by decide) ?_
  refine lv_imul hx hb dX9_eats_15 ?_
  exact hret (⟨rfl, hM.1⟩) hM.2.2 dX9_eats_16
theorem nsX9_eats : yX9_eats.name ≠ "<init>" ∧ (parseMethodDescriptor yX9_eats.desc).map (fun d => d.parameters.length) = some 1 := by decide +kernel

set_option maxHeartbeats 400000 in
theorem vo_eats_1_1 {D : va_G} {dA : Nat → ClassId} (x tr rn w : Nat) (mm : Int32) (T : Nat → Int32) (t : Nat) (hne : tr ≠ rn) (hxA : ¬ voA tr rn x) (v : Int32) (ht : t + 4 ≤ 40) : Cg D dA (voA tr rn) yX10_eats cX10_eats 3 (some .int) 3 63 0 0 [.ref x, .int v] (fun H => va_P D cmCl (voWs dA tr rn t T) H ∧ cAt D x (.inr (11, [.ref tr, .int (nI w), .int mm])) H) (fun v' H => v' = some (.int (((v + (nI w)) * (nI 2)) - ((nI 1) - mm))) ∧ va_P D cmCl (voWs dA tr rn (t + 1 + 1 + 1 + 1) (upd (upd (upd (upd T t (nI 20)) (t + 1) (nI 11)) (t + 1 + 1) (nI 10)) (t + 1 + 1 + 1) (nI 12))) H) := by
  refine Cg.ofI (by decide) (own := RX10) rfl (Nat.le_of_ble_eq_true rfl) ?_
  intro p l e R s m args below meth c Q ls hx hb hml hRf hRl hRc hRs hin hts hown hK hP hl hret
  have hl : lv_has ls 3 [(0, .ref x), (1, .int v)] := hl
  obtain ⟨hP, hO⟩ := hP
  have hM : voH D dA tr rn s.heap s.heap [] t T := ⟨hP, voD hne _ _ _, va_S.rf⟩
  refine lv_aload_n hx hb dX10_eats_0 rfl (lv_at hl 0 rfl) ?_
  refine c_getU (v := .ref tr) hx hb hts in_X10 hown hK (hO.kept (hM.2.2.2.1 x hO.lt hxA)) rfl 0 (by decide) q419 q420 rfl dX10_eats_1 ?_
  refine lv_bipush (v := nI 20) hx hb dX10_eats_4 (by decide) ?_
  refine cg_callV (y := yX4_begins) hx hb hml hown hts hK hM.2.2 (vo_begins tr rn (t) 20 _ hne (by omega)) hM.1 (fun q hq => hq) (cAt.recv hK (hM.1 0 _ rfl) rfl) q1148 q1105 q1106 q68 q1107 ndX4_begins rfl (by rw [hRf]; decide) (by rw [hRl]; decide) (Nat.zero_le _) (Nat.zero_le _) hl.1 rfl (Nat.le_of_ble_eq_true rfl) dX10_eats_6 ?_
  rintro _ H locs ⟨rfl, hP1⟩ hz1 hk1 hS1
  have hM : voH D dA tr rn s.heap H locs (t + 1) (upd T t (nI 20)) := ⟨hP1, voD hne _ _ _, hS1⟩
  refine lv_aload_n hx hb dX10_eats_9 rfl (lv_at hl 0 rfl) ?_
  refine lv_iload_n hx hb dX10_eats_10 rfl (lv_at hl 1 rfl) ?_
  refine cg_callSU (y := yX9_eats) (C := RX10) hx hb hml hown hts hK hM.2.2 (hK.1.1 11 _ rfl).2 (vo_eats_0_1 x tr rn w mm _ (t + 1) hne hxA v (by omega)) ⟨hM.1, hO.kept (hM.2.2.2.1 x hO.lt hxA)⟩ (fun q hq => hq) ((hO.kept (hM.2.2.2.1 x hO.lt hxA)).recv hK rfl) q1149 q1845 q446 q1138 q74 q1140 nsX9_eats rfl (by rw [hRf]; decide) (by rw [hRl]; decide) (Nat.zero_le _) (Nat.zero_le _) hl.1 rfl (Nat.le_of_ble_eq_true rfl) dX10_eats_11 ?_
  rintro _ H locs ⟨rfl, hP1⟩ hz1 hk1 hS1
  have hM : voH D dA tr rn s.heap H locs (t + 1 + 1 + 1) (upd (upd (upd T t (nI 20)) (t + 1) (nI 11)) (t + 1 + 1) (nI 10)) := ⟨hP1, voD hne _ _ _, hS1⟩
  refine lv_istore_n (lv' := [(2, .int ((v + (nI w)) * (nI 2))), (0, .ref x), (1, .int v)]) hx hb dX10_eats_14 rfl hl (by decide) rfl (fun ls hl => ?_)
  refine lv_iload_n hx hb dX10_eats_15 rfl (lv_at hl 0 rfl) ?_
  refine lv_aload_n hx hb dX10_eats_16 rfl (lv_at hl 1 rfl) ?_
  refine lv_iconst (v := nI 1) hx hb dX10_eats_17 (by decide) ?_
  have nq := hK.D 1 rfl
  refine cg_callU (x := ⟨RX10, "knows", "(I)I"⟩) (y := yX9_knows) (C := RX10) (owner := RX9) hx hb hml hown hts hK hM.2.2 (vo_knows_0_1 x tr rn w mm _ (t + 1 + 1 + 1) hne hxA (nI 1) (by omega)) ⟨hM.1, hO.kept (hM.2.2.2.1 x hO.lt hxA)⟩ (fun q hq => hq) ((hO.kept (hM.2.2.2.1 x hO.lt hxA)).recv hK rfl) (fun R hf hl => va_cwA 1 hts (lw_app (lw_5 q1150 q1151 q1153 q1155 q74) (lw_meth q1156)) rfl rfl rfl nq nw_X9_knows ⟨hf, hl⟩) rfl (by rw [hRf]; decide) (by rw [hRl]; decide) (Nat.zero_le _) (Nat.zero_le _) hl.1 rfl (Nat.le_of_ble_eq_true rfl) dX10_eats_18 ?_
  rintro _ H locs ⟨rfl, hP1⟩ hz1 hk1 hS1
  have hM : voH D dA tr rn s.heap H locs (t + 1 + 1 + 1 + 1) (upd (upd (upd (upd T t (nI 20)) (t + 1) (nI 11)) (t + 1 + 1) (nI 10)) (t + 1 + 1 + 1) (nI 12)) := ⟨hP1, voD hne _ _ _, hS1⟩
  refine lv_isub hx hb dX10_eats_21 ?_
  exact hret (⟨rfl, hM.1⟩) hM.2.2 dX10_eats_22
set_option maxHeartbeats 400000 in
theorem vo_tells_0_1 {D : va_G} {dA : Nat → ClassId} (x tr rn w : Nat) (mm : Int32) (T : Nat → Int32) (t : Nat) (hne : tr ≠ rn) (hxA : ¬ voA tr rn x) (v : Int32) (ht : t + 6 ≤ 40) : Cg D dA (voA tr rn) yX9_tells cX9_tells 3 (some .int) 4 85 0 0 [.ref x, .int v] (fun H => va_P D cmCl (voWs dA tr rn t T) H ∧ cAt D x (.inr (11, [.ref tr, .int (nI w), .int mm])) H) (fun v' H => v' = some (.int ((((v + (nI w)) * (nI 2)) - ((nI 1) - mm)) ^^^ (v - mm))) ∧ va_P D cmCl (voWs dA tr rn (t + 1 + 1 + 1 + 1 + 1 + 1) (upd (upd (upd (upd (upd (upd T t (nI 13)) (t + 1) (nI 20)) (t + 1 + 1) (nI 11)) (t + 1 + 1 + 1) (nI 10)) (t + 1 + 1 + 1 + 1) (nI 12)) (t + 1 + 1 + 1 + 1 + 1) (nI 12))) H) := by
  refine Cg.ofI (by decide) (own := RX9) rfl (Nat.le_of_ble_eq_true rfl) ?_
  intro p l e R s m args below meth c Q ls hx hb hml hRf hRl hRc hRs hin hts hown hK hP hl hret
  have hl : lv_has ls 3 [(0, .ref x), (1, .int v)] := hl
  obtain ⟨hP, hO⟩ := hP
  have hM : voH D dA tr rn s.heap s.heap [] t T := ⟨hP, voD hne _ _ _, va_S.rf⟩
  refine lv_aload_n hx hb dX9_tells_0 rfl (lv_at hl 0 rfl) ?_
  refine c_get (v := .ref tr) hx hb hts in_X10 hown hK (hO.kept (hM.2.2.2.1 x hO.lt hxA)) rfl 0 (by decide) q414 rfl rfl dX9_tells_1 ?_
  refine lv_bipush (v := nI 13) hx hb dX9_tells_4 (by decide) ?_
  refine cg_callV (y := yX4_begins) hx hb hml hown hts hK hM.2.2 (vo_begins tr rn (t) 13 _ hne (by omega)) hM.1 (fun q hq => hq) (cAt.recv hK (hM.1 0 _ rfl) rfl) q1104 q1105 q1106 q68 q1107 ndX4_begins rfl (by rw [hRf]; decide) (by rw [hRl]; decide) (Nat.zero_le _) (Nat.zero_le _) hl.1 rfl (Nat.le_of_ble_eq_true rfl) dX9_tells_6 ?_
  rintro _ H locs ⟨rfl, hP1⟩ hz1 hk1 hS1
  have hM : voH D dA tr rn s.heap H locs (t + 1) (upd T t (nI 13)) := ⟨hP1, voD hne _ _ _, hS1⟩
  refine lv_aload_n hx hb dX9_tells_9 rfl (lv_at hl 0 rfl) ?_
  refine lv_iload_n hx hb dX9_tells_10 rfl (lv_at hl 1 rfl) ?_
  have nq := hK.D 0 rfl
  refine cg_callU (x := ⟨RX9, "eats", "(I)I"⟩) (y := yX10_eats) (C := RX10) (owner := RX9) hx hb hml hown hts hK hM.2.2 (vo_eats_1_1 x tr rn w mm _ (t + 1) hne hxA v (by omega)) ⟨hM.1, hO.kept (hM.2.2.2.1 x hO.lt hxA)⟩ (fun q hq => hq) ((hO.kept (hM.2.2.2.1 x hO.lt hxA)).recv hK rfl) (fun R hf hl => va_cwA 1 hts (lw_app (lw_5 q1223 q1845 q1850 q1145 q75) (lw_meth q1147)) rfl rfl rfl nq nw_X9_eats ⟨hf, hl⟩) rfl (by rw [hRf]; decide) (by rw [hRl]; decide) (Nat.zero_le _) (Nat.zero_le _) hl.1 rfl (Nat.le_of_ble_eq_true rfl) dX9_tells_11 ?_
  rintro _ H locs ⟨rfl, hP1⟩ hz1 hk1 hS1
  have hM : voH D dA tr rn s.heap H locs (t + 1 + 1 + 1 + 1 + 1) (upd (upd (upd (upd (upd T t (nI 13)) (t + 1) (nI 20)) (t + 1 + 1) (nI 11)) (t + 1 + 1 + 1) (nI 10)) (t + 1 + 1 + 1 + 1) (nI 12)) := ⟨hP1, voD hne _ _ _, hS1⟩
  refine lv_istore_n (lv' := [(2, .int (((v + (nI w)) * (nI 2)) - ((nI 1) - mm))), (0, .ref x), (1, .int v)]) hx hb dX9_tells_14 rfl hl (by decide) rfl (fun ls hl => ?_)
  refine lv_iload_n hx hb dX9_tells_15 rfl (lv_at hl 0 rfl) ?_
  refine lv_aload_n hx hb dX9_tells_16 rfl (lv_at hl 1 rfl) ?_
  refine lv_iload_n hx hb dX9_tells_17 rfl (lv_at hl 2 rfl) ?_
  have nq := hK.D 1 rfl
  refine cg_callU (x := ⟨RX9, "knows", "(I)I"⟩) (y := yX9_knows) (C := RX10) (owner := RX9) hx hb hml hown hts hK hM.2.2 (vo_knows_0_1 x tr rn w mm _ (t + 1 + 1 + 1 + 1 + 1) hne hxA v (by omega)) ⟨hM.1, hO.kept (hM.2.2.2.1 x hO.lt hxA)⟩ (fun q hq => hq) ((hO.kept (hM.2.2.2.1 x hO.lt hxA)).recv hK rfl) (fun R hf hl => va_cwA 1 hts (lw_app (lw_5 q1224 q1847 q1857 q1155 q74) (lw_meth q1156)) rfl rfl rfl nq nw_X9_knows ⟨hf, hl⟩) rfl (by rw [hRf]; decide) (by rw [hRl]; decide) (Nat.zero_le _) (Nat.zero_le _) hl.1 rfl (Nat.le_of_ble_eq_true rfl) dX9_tells_18 ?_
  rintro _ H locs ⟨rfl, hP1⟩ hz1 hk1 hS1
  have hM : voH D dA tr rn s.heap H locs (t + 1 + 1 + 1 + 1 + 1 + 1) (upd (upd (upd (upd (upd (upd T t (nI 13)) (t + 1) (nI 20)) (t + 1 + 1) (nI 11)) (t + 1 + 1 + 1) (nI 10)) (t + 1 + 1 + 1 + 1) (nI 12)) (t + 1 + 1 + 1 + 1 + 1) (nI 12)) := ⟨hP1, voD hne _ _ _, hS1⟩
  refine lv_ixor hx hb dX9_tells_21 ?_
  exact hret (⟨rfl, hM.1⟩) hM.2.2 dX9_tells_22
set_option maxHeartbeats 400000 in
theorem vo_wants_0_2 {D : va_G} {dA : Nat → ClassId} (x tr rn w : Nat) (mm : Int32) (T : Nat → Int32) (t : Nat) (hne : tr ≠ rn) (hxA : ¬ voA tr rn x) (v : Int32) (ht : t + 1 ≤ 40) : Cg D dA (voA tr rn) yX9_wants cX9_wants 2 (some .int) 1 21 0 0 [.ref x, .int v] (fun H => va_P D cmCl (voWs dA tr rn t T) H ∧ cAt D x (.inr (12, [.ref tr, .int (nI w), .int mm])) H) (fun v' H => v' = some (.int (v + (nI w))) ∧ va_P D cmCl (voWs dA tr rn (t + 1) (upd T t (nI 10))) H) := by
  refine Cg.ofI (by decide) (own := RX9) rfl (Nat.le_of_ble_eq_true rfl) ?_
  intro p l e R s m args below meth c Q ls hx hb hml hRf hRl hRc hRs hin hts hown hK hP hl hret
  have hl : lv_has ls 2 [(0, .ref x), (1, .int v)] := hl
  obtain ⟨hP, hO⟩ := hP
  have hM : voH D dA tr rn s.heap s.heap [] t T := ⟨hP, voD hne _ _ _, va_S.rf⟩
  refine lv_aload_n hx hb dX9_wants_0 rfl (lv_at hl 0 rfl) ?_
  refine c_get (v := .ref tr) hx hb hts in_X11 hown hK (hO.kept (hM.2.2.2.1 x hO.lt hxA)) rfl 0 (by decide) q414 rfl rfl dX9_wants_1 ?_
  refine lv_bipush (v := nI 10) hx hb dX9_wants_4 (by decide) ?_
  refine cg_callV (y := yX4_begins) hx hb hml hown hts hK hM.2.2 (vo_begins tr rn (t) 10 _ hne (by omega)) hM.1 (fun q hq => hq) (cAt.recv hK (hM.1 0 _ rfl) rfl) q1104 q1105 q1106 q68 q1107 ndX4_begins rfl (by rw [hRf]; decide) (by rw [hRl]; decide) (Nat.zero_le _) (Nat.zero_le _) hl.1 rfl (Nat.le_of_ble_eq_true rfl) dX9_wants_6 ?_
  rintro _ H locs ⟨rfl, hP1⟩ hz1 hk1 hS1
  have hM : voH D dA tr rn s.heap H locs (t + 1) (upd T t (nI 10)) := ⟨hP1, voD hne _ _ _, hS1⟩
  refine lv_iload_n hx hb dX9_wants_9 rfl (lv_at hl 1 rfl) ?_
  refine lv_aload_n hx hb dX9_wants_10 rfl (lv_at hl 0 rfl) ?_
  refine c_get (v := .int (nI w)) hx hb hts in_X11 hown hK (hO.kept (hM.2.2.2.1 x hO.lt hxA)) rfl 1 (by decide) q427 rfl rfl dX9_wants_11 ?_
  refine lv_iadd hx hb dX9_wants_14 ?_
  exact hret (⟨rfl, hM.1⟩) hM.2.2 dX9_wants_15
theorem nsX9_wants : yX9_wants.name ≠ "<init>" ∧ (parseMethodDescriptor yX9_wants.desc).map (fun d => d.parameters.length) = some 1 := by decide +kernel

set_option maxHeartbeats 400000 in
theorem vo_wants_2_2 {D : va_G} {dA : Nat → ClassId} (x tr rn w : Nat) (mm : Int32) (T : Nat → Int32) (t : Nat) (hne : tr ≠ rn) (hxA : ¬ voA tr rn x) (v : Int32) (ht : t + 2 ≤ 40) : Cg D dA (voA tr rn) yX11_wants cX11_wants 2 (some .int) 2 42 0 0 [.ref x, .int v] (fun H => va_P D cmCl (voWs dA tr rn t T) H ∧ cAt D x (.inr (12, [.ref tr, .int (nI w), .int mm])) H) (fun v' H => v' = some (.int ((v + (nI w)) * (nI 3))) ∧ va_P D cmCl (voWs dA tr rn (t + 1 + 1) (upd (upd T t (nI 30)) (t + 1) (nI 10))) H) := by
  refine Cg.ofI (by decide) (own := RX11) rfl (Nat.le_of_ble_eq_true rfl) ?_
  intro p l e R s m args below meth c Q ls hx hb hml hRf hRl hRc hRs hin hts hown hK hP hl hret
  have hl : lv_has ls 2 [(0, .ref x), (1, .int v)] := hl
  obtain ⟨hP, hO⟩ := hP
  have hM : voH D dA tr rn s.heap s.heap [] t T := ⟨hP, voD hne _ _ _, va_S.rf⟩
  refine lv_aload_n hx hb dX11_wants_0 rfl (lv_at hl 0 rfl) ?_
  refine c_getU (v := .ref tr) hx hb hts in_X11 hown hK (hO.kept (hM.2.2.2.1 x hO.lt hxA)) rfl 0 (by decide) q417 q418 rfl dX11_wants_1 ?_
  refine lv_bipush (v := nI 30) hx hb dX11_wants_4 (by decide) ?_
  refine cg_callV (y := yX4_begins) hx hb hml hown hts hK hM.2.2 (vo_begins tr rn (t) 30 _ hne (by omega)) hM.1 (fun q hq => hq) (cAt.recv hK (hM.1 0 _ rfl) rfl) q1126 q1105 q1106 q68 q1107 ndX4_begins rfl (by rw [hRf]; decide) (by rw [hRl]; decide) (Nat.zero_le _) (Nat.zero_le _) hl.1 rfl (Nat.le_of_ble_eq_true rfl) dX11_wants_6 ?_
  rintro _ H locs ⟨rfl, hP1⟩ hz1 hk1 hS1
  have hM : voH D dA tr rn s.heap H locs (t + 1) (upd T t (nI 30)) := ⟨hP1, voD hne _ _ _, hS1⟩
  refine lv_aload_n hx hb dX11_wants_9 rfl (lv_at hl 0 rfl) ?_
  refine lv_iload_n hx hb dX11_wants_10 rfl (lv_at hl 1 rfl) ?_
  refine cg_callSU (y := yX9_wants) (C := RX11) hx hb hml hown hts hK hM.2.2 (hK.1.1 12 _ rfl).2 (vo_wants_0_2 x tr rn w mm _ (t + 1) hne hxA v (by omega)) ⟨hM.1, hO.kept (hM.2.2.2.1 x hO.lt hxA)⟩ (fun q hq => hq) ((hO.kept (hM.2.2.2.1 x hO.lt hxA)).recv hK rfl) q1127 q1837 q456 q1101 q74 q1103 nsX9_wants rfl (by rw [hRf]; decide) (by rw [hRl]; decide) (Nat.zero_le _) (Nat.zero_le _) hl.1 rfl (Nat.le_of_ble_eq_true rfl) dX11_wants_11 ?_
  rintro _ H locs ⟨rfl, hP1⟩ hz1 hk1 hS1
  have hM : voH D dA tr rn s.heap H locs (t + 1 + 1) (upd (upd T t (nI 30)) (t + 1) (nI 10)) := ⟨hP1, voD hne _ _ _, hS1⟩
  refine lv_iconst (v := nI 3) hx hb dX11_wants_14 (by decide) ?_
  refine lv_imul hx hb dX11_wants_15 ?_
  exact hret (⟨rfl, hM.1⟩) hM.2.2 dX11_wants_16
set_option maxHeartbeats 400000 in
theorem vo_knows_0_2 {D : va_G} {dA : Nat → ClassId} (x tr rn w : Nat) (mm : Int32) (T : Nat → Int32) (t : Nat) (hne : tr ≠ rn) (hxA : ¬ voA tr rn x) (v : Int32) (ht : t + 1 ≤ 40) : Cg D dA (voA tr rn) yX9_knows cX9_knows 2 (some .int) 1 21 0 0 [.ref x, .int v] (fun H => va_P D cmCl (voWs dA tr rn t T) H ∧ cAt D x (.inr (12, [.ref tr, .int (nI w), .int mm])) H) (fun v' H => v' = some (.int (v - mm)) ∧ va_P D cmCl (voWs dA tr rn (t + 1) (upd T t (nI 12))) H) := by
  refine Cg.ofI (by decide) (own := RX9) rfl (Nat.le_of_ble_eq_true rfl) ?_
  intro p l e R s m args below meth c Q ls hx hb hml hRf hRl hRc hRs hin hts hown hK hP hl hret
  have hl : lv_has ls 2 [(0, .ref x), (1, .int v)] := hl
  obtain ⟨hP, hO⟩ := hP
  have hM : voH D dA tr rn s.heap s.heap [] t T := ⟨hP, voD hne _ _ _, va_S.rf⟩
  refine lv_aload_n hx hb dX9_knows_0 rfl (lv_at hl 0 rfl) ?_
  refine c_get (v := .ref tr) hx hb hts in_X11 hown hK (hO.kept (hM.2.2.2.1 x hO.lt hxA)) rfl 0 (by decide) q414 rfl rfl dX9_knows_1 ?_
  refine lv_bipush (v := nI 12) hx hb dX9_knows_4 (by decide) ?_
  refine cg_callV (y := yX4_begins) hx hb hml hown hts hK hM.2.2 (vo_begins tr rn (t) 12 _ hne (by omega)) hM.1 (fun q hq => hq) (cAt.recv hK (hM.1 0 _ rfl) rfl) q1104 q1105 q1106 q68 q1107 ndX4_begins rfl (by rw [hRf]; decide) (by rw [hRl]; decide) (Nat.zero_le _) (Nat.zero_le _) hl.1 rfl (Nat.le_of_ble_eq_true rfl) dX9_knows_6 ?_
  rintro _ H locs ⟨rfl, hP1⟩ hz1 hk1 hS1
  have hM : voH D dA tr rn s.heap H locs (t + 1) (upd T t (nI 12)) := ⟨hP1, voD hne _ _ _, hS1⟩
  refine lv_iload_n hx hb dX9_knows_9 rfl (lv_at hl 1 rfl) ?_
  refine lv_aload_n hx hb dX9_knows_10 rfl (lv_at hl 0 rfl) ?_
  refine c_get (v := .int mm) hx hb hts in_X11 hown hK (hO.kept (hM.2.2.2.1 x hO.lt hxA)) rfl 2 (by decide) q430 rfl rfl dX9_knows_11 ?_
  refine lv_isub hx hb dX9_knows_14 ?_
  exact hret (⟨rfl, hM.1⟩) hM.2.2 dX9_knows_15
set_option maxHeartbeats 400000 in
theorem vo_eats_0_2 {D : va_G} {dA : Nat → ClassId} (x tr rn w : Nat) (mm : Int32) (T : Nat → Int32) (t : Nat) (hne : tr ≠ rn) (hxA : ¬ voA tr rn x) (v : Int32) (ht : t + 3 ≤ 40) : Cg D dA (voA tr rn) yX9_eats cX9_eats 2 (some .int) 3 63 0 0 [.ref x, .int v] (fun H => va_P D cmCl (voWs dA tr rn t T) H ∧ cAt D x (.inr (12, [.ref tr, .int (nI w), .int mm])) H) (fun v' H => v' = some (.int (((v + (nI w)) * (nI 3)) * (nI 2))) ∧ va_P D cmCl (voWs dA tr rn (t + 1 + 1 + 1) (upd (upd (upd T t (nI 11)) (t + 1) (nI 30)) (t + 1 + 1) (nI 10))) H) := by
  refine Cg.ofI (by decide) (own := RX9) rfl (Nat.le_of_ble_eq_true rfl) ?_
  intro p l e R s m args below meth c Q ls hx hb hml hRf hRl hRc hRs hin hts hown hK hP hl hret
  have hl : lv_has ls 2 [(0, .ref x), (1, .int v)] := hl
  obtain ⟨hP, hO⟩ := hP
  have hM : voH D dA tr rn s.heap s.heap [] t T := ⟨hP, voD hne _ _ _, va_S.rf⟩
  refine lv_aload_n hx hb dX9_eats_0 rfl (lv_at hl 0 rfl) ?_
  refine c_get (v := .ref tr) hx hb hts in_X11 hown hK (hO.kept (hM.2.2.2.1 x hO.lt hxA)) rfl 0 (by decide) q414 rfl rfl dX9_eats_1 ?_
  refine lv_bipush (v := nI 11) hx hb dX9_eats_4 (by decide) ?_
  refine cg_callV (y := yX4_begins) hx hb hml hown hts hK hM.2.2 (vo_begins tr rn (t) 11 _ hne (by omega)) hM.1 (fun q hq => hq) (cAt.recv hK (hM.1 0 _ rfl) rfl) q1104 q1105 q1106 q68 q1107 ndX4_begins rfl (by rw [hRf]; decide) (by rw [hRl]; decide) (Nat.zero_le _) (Nat.zero_le _) hl.1 rfl (Nat.le_of_ble_eq_true rfl) dX9_eats_6 ?_
  rintro _ H locs ⟨rfl, hP1⟩ hz1 hk1 hS1
  have hM : voH D dA tr rn s.heap H locs (t + 1) (upd T t (nI 11)) := ⟨hP1, voD hne _ _ _, hS1⟩
  refine lv_aload_n hx hb dX9_eats_9 rfl (lv_at hl 0 rfl) ?_
  refine lv_iload_n hx hb dX9_eats_10 rfl (lv_at hl 1 rfl) ?_
  skip
  refine cg_callU (x := ⟨RX9, "wants", "(I)I"⟩) (y := yX11_wants) (C := RX11) (owner := RX9) hx hb hml hown hts hK hM.2.2 (vo_wants_2_2 x tr rn w mm _ (t + 1) hne hxA v (by omega)) ⟨hM.1, hO.kept (hM.2.2.2.1 x hO.lt hxA)⟩ (fun q hq => hq) ((hO.kept (hM.2.2.2.1 x hO.lt hxA)).recv hK rfl) (fun R hf hl => va_cwO 1 hts (lw_app (lw_6 q1141 q1837 q1101 q1844 q1123 q76) (lw_meth q1125)) rfl rfl rfl q1103 nw_X9_wants ⟨hf, hl⟩) rfl (by rw [hRf]; decide) (by rw [hRl]; decide) (Nat.zero_le _) (Nat.zero_le _) hl.1 rfl (Nat.le_of_ble_eq_true rfl) dX9_eats_11 ?_
  rintro _ H locs ⟨rfl, hP1⟩ hz1 hk1 hS1
  have hM : voH D dA tr rn s.heap H locs (t + 1 + 1 + 1) (upd (upd (upd T t (nI 11)) (t + 1) (nI 30)) (t + 1 + 1) (nI 10)) := ⟨hP1, voD hne _ _ _, hS1⟩
  refine lv_iconst (v := nI 2) hx hb dX9_eats_14 (by decide) ?_
  refine lv_imul hx hb dX9_eats_15 ?_
  exact hret (⟨rfl, hM.1⟩) hM.2.2 dX9_eats_16
set_option maxHeartbeats 400000 in
theorem vo_tells_0_2 {D : va_G} {dA : Nat → ClassId} (x tr rn w : Nat) (mm : Int32) (T : Nat → Int32) (t : Nat) (hne : tr ≠ rn) (hxA : ¬ voA tr rn x) (v : Int32) (ht : t + 5 ≤ 40) : Cg D dA (voA tr rn) yX9_tells cX9_tells 3 (some .int) 4 84 0 0 [.ref x, .int v] (fun H => va_P D cmCl (voWs dA tr rn t T) H ∧ cAt D x (.inr (12, [.ref tr, .int (nI w), .int mm])) H) (fun v' H => v' = some (.int ((((v + (nI w)) * (nI 3)) * (nI 2)) ^^^ (v - mm))) ∧ va_P D cmCl (voWs dA tr rn (t + 1 + 1 + 1 + 1 + 1) (upd (upd (upd (upd (upd T t (nI 13)) (t + 1) (nI 11)) (t + 1 + 1) (nI 30)) (t + 1 + 1 + 1) (nI 10)) (t + 1 + 1 + 1 + 1) (nI 12))) H) := by
  refine Cg.ofI (by decide) (own := RX9) rfl (Nat.le_of_ble_eq_true rfl) ?_
  intro p l e R s m args below meth c Q ls hx hb hml hRf hRl hRc hRs hin hts hown hK hP hl hret
  have hl : lv_has ls 3 [(0, .ref x), (1, .int v)] := hl
  obtain ⟨hP, hO⟩ := hP
  have hM : voH D dA tr rn s.heap s.heap [] t T := ⟨hP, voD hne _ _ _, va_S.rf⟩
  refine lv_aload_n hx hb dX9_tells_0 rfl (lv_at hl 0 rfl) ?_
  refine c_get (v := .ref tr) hx hb hts in_X11 hown hK (hO.kept (hM.2.2.2.1 x hO.lt hxA)) rfl 0 (by decide) q414 rfl rfl dX9_tells_1 ?_
  refine lv_bipush (v := nI 13) hx hb dX9_tells_4 (by decide) ?_
  refine cg_callV (y := yX4_begins) hx hb hml hown hts hK hM.2.2 (vo_begins tr rn (t) 13 _ hne (by omega)) hM.1 (fun q hq => hq) (cAt.recv hK (hM.1 0 _ rfl) rfl) q1104 q1105 q1106 q68 q1107 ndX4_begins rfl (by rw [hRf]; decide) (by rw [hRl]; decide) (Nat.zero_le _) (Nat.zero_le _) hl.1 rfl (Nat.le_of_ble_eq_true rfl) dX9_tells_6 ?_
  rintro _ H locs ⟨rfl, hP1⟩ hz1 hk1 hS1
  have hM : voH D dA tr rn s.heap H locs (t + 1) (upd T t (nI 13)) := ⟨hP1, voD hne _ _ _, hS1⟩
  refine lv_aload_n hx hb dX9_tells_9 rfl (lv_at hl 0 rfl) ?_
  refine lv_iload_n hx hb dX9_tells_10 rfl (lv_at hl 1 rfl) ?_
  have nq := hK.D 0 rfl
  refine cg_callU (x := ⟨RX9, "eats", "(I)I"⟩) (y := yX9_eats) (C := RX11) (owner := RX9) hx hb hml hown hts hK hM.2.2 (vo_eats_0_2 x tr rn w mm _ (t + 1) hne hxA v (by omega)) ⟨hM.1, hO.kept (hM.2.2.2.1 x hO.lt hxA)⟩ (fun q hq => hq) ((hO.kept (hM.2.2.2.1 x hO.lt hxA)).recv hK rfl) (fun R hf hl => va_cwA 1 hts (lw_app (lw_5 q1223 q1845 q1855 q1138 q74) (lw_meth q1140)) rfl rfl rfl nq nw_X9_eats ⟨hf, hl⟩) rfl (by rw [hRf]; decide) (by rw [hRl]; decide) (Nat.zero_le _) (Nat.zero_le _) hl.1 rfl (Nat.le_of_ble_eq_true rfl) dX9_tells_11 ?_
  rintro _ H locs ⟨rfl, hP1⟩ hz1 hk1 hS1
  have hM : voH D dA tr rn s.heap H locs (t + 1 + 1 + 1 + 1) (upd (upd (upd (upd T t (nI 13)) (t + 1) (nI 11)) (t + 1 + 1) (nI 30)) (t + 1 + 1 + 1) (nI 10)) := ⟨hP1, voD hne _ _ _, hS1⟩
  refine lv_istore_n (lv' := [(2, .int (((v + (nI w)) * (nI 3)) * (nI 2))), (0, .ref x), (1, .int v)]) hx hb dX9_tells_14 rfl hl (by decide) rfl (fun ls hl => ?_)
  refine lv_iload_n hx hb dX9_tells_15 rfl (lv_at hl 0 rfl) ?_
  refine lv_aload_n hx hb dX9_tells_16 rfl (lv_at hl 1 rfl) ?_
  refine lv_iload_n hx hb dX9_tells_17 rfl (lv_at hl 2 rfl) ?_
  have nq := hK.D 1 rfl
  refine cg_callU (x := ⟨RX9, "knows", "(I)I"⟩) (y := yX9_knows) (C := RX11) (owner := RX9) hx hb hml hown hts hK hM.2.2 (vo_knows_0_2 x tr rn w mm _ (t + 1 + 1 + 1 + 1) hne hxA v (by omega)) ⟨hM.1, hO.kept (hM.2.2.2.1 x hO.lt hxA)⟩ (fun q hq => hq) ((hO.kept (hM.2.2.2.1 x hO.lt hxA)).recv hK rfl) (fun R hf hl => va_cwA 1 hts (lw_app (lw_5 q1224 q1847 q1862 q1155 q74) (lw_meth q1156)) rfl rfl rfl nq nw_X9_knows ⟨hf, hl⟩) rfl (by rw [hRf]; decide) (by rw [hRl]; decide) (Nat.zero_le _) (Nat.zero_le _) hl.1 rfl (Nat.le_of_ble_eq_true rfl) dX9_tells_18 ?_
  rintro _ H locs ⟨rfl, hP1⟩ hz1 hk1 hS1
  have hM : voH D dA tr rn s.heap H locs (t + 1 + 1 + 1 + 1 + 1) (upd (upd (upd (upd (upd T t (nI 13)) (t + 1) (nI 11)) (t + 1 + 1) (nI 30)) (t + 1 + 1 + 1) (nI 10)) (t + 1 + 1 + 1 + 1) (nI 12)) := ⟨hP1, voD hne _ _ _, hS1⟩
  refine lv_ixor hx hb dX9_tells_21 ?_
  exact hret (⟨rfl, hM.1⟩) hM.2.2 dX9_tells_22
set_option maxHeartbeats 400000 in
theorem vo_wants_0_3 {D : va_G} {dA : Nat → ClassId} (x tr rn w : Nat) (mm : Int32) (T : Nat → Int32) (t : Nat) (hne : tr ≠ rn) (hxA : ¬ voA tr rn x) (v : Int32) (ht : t + 1 ≤ 40) : Cg D dA (voA tr rn) yX9_wants cX9_wants 2 (some .int) 1 21 0 0 [.ref x, .int v] (fun H => va_P D cmCl (voWs dA tr rn t T) H ∧ cAt D x (.inr (13, [.ref tr, .int (nI w), .int mm])) H) (fun v' H => v' = some (.int (v + (nI w))) ∧ va_P D cmCl (voWs dA tr rn (t + 1) (upd T t (nI 10))) H) := by
  refine Cg.ofI (by decide) (own := RX9) rfl (Nat.le_of_ble_eq_true rfl) ?_
  intro p l e R s m args below meth c Q ls hx hb hml hRf hRl hRc hRs hin hts hown hK hP hl hret
  have hl : lv_has ls 2 [(0, .ref x), (1, .int v)] := hl
  obtain ⟨hP, hO⟩ := hP
  have hM : voH D dA tr rn s.heap s.heap [] t T := ⟨hP, voD hne _ _ _, va_S.rf⟩
  refine lv_aload_n hx hb dX9_wants_0 rfl (lv_at hl 0 rfl) ?_
  refine c_get (v := .ref tr) hx hb hts in_X12 hown hK (hO.kept (hM.2.2.2.1 x hO.lt hxA)) rfl 0 (by decide) q414 rfl rfl dX9_wants_1 ?_
  refine lv_bipush (v := nI 10) hx hb dX9_wants_4 (by decide) ?_
  refine cg_callV (y := yX4_begins) hx hb hml hown hts hK hM.2.2 (vo_begins tr rn (t) 10 _ hne (by omega)) hM.1 (fun q hq => hq) (cAt.recv hK (hM.1 0 _ rfl) rfl) q1104 q1105 q1106 q68 q1107 ndX4_begins rfl (by rw [hRf]; decide) (by rw [hRl]; decide) (Nat.zero_le _) (Nat.zero_le _) hl.1 rfl (Nat.le_of_ble_eq_true rfl) dX9_wants_6 ?_
  rintro _ H locs ⟨rfl, hP1⟩ hz1 hk1 hS1
  have hM : voH D dA tr rn s.heap H locs (t + 1) (upd T t (nI 10)) := ⟨hP1, voD hne _ _ _, hS1⟩
  refine lv_iload_n hx hb dX9_wants_9 rfl (lv_at hl 1 rfl) ?_
  refine lv_aload_n hx hb dX9_wants_10 rfl (lv_at hl 0 rfl) ?_
  refine c_get (v := .int (nI w)) hx hb hts in_X12 hown hK (hO.kept (hM.2.2.2.1 x hO.lt hxA)) rfl 1 (by decide) q427 rfl rfl dX9_wants_11 ?_
  refine lv_iadd hx hb dX9_wants_14 ?_
  exact hret (⟨rfl, hM.1⟩) hM.2.2 dX9_wants_15
set_option maxHeartbeats 400000 in
theorem vo_knows_0_3 {D : va_G} {dA : Nat → ClassId} (x tr rn w : Nat) (mm : Int32) (T : Nat → Int32) (t : Nat) (hne : tr ≠ rn) (hxA : ¬ voA tr rn x) (v : Int32) (ht : t + 1 ≤ 40) : Cg D dA (voA tr rn) yX9_knows cX9_knows 2 (some .int) 1 21 0 0 [.ref x, .int v] (fun H => va_P D cmCl (voWs dA tr rn t T) H ∧ cAt D x (.inr (13, [.ref tr, .int (nI w), .int mm])) H) (fun v' H => v' = some (.int (v - mm)) ∧ va_P D cmCl (voWs dA tr rn (t + 1) (upd T t (nI 12))) H) := by
  refine Cg.ofI (by decide) (own := RX9) rfl (Nat.le_of_ble_eq_true rfl) ?_
  intro p l e R s m args below meth c Q ls hx hb hml hRf hRl hRc hRs hin hts hown hK hP hl hret
  have hl : lv_has ls 2 [(0, .ref x), (1, .int v)] := hl
  obtain ⟨hP, hO⟩ := hP
  have hM : voH D dA tr rn s.heap s.heap [] t T := ⟨hP, voD hne _ _ _, va_S.rf⟩
  refine lv_aload_n hx hb dX9_knows_0 rfl (lv_at hl 0 rfl) ?_
  refine c_get (v := .ref tr) hx hb hts in_X12 hown hK (hO.kept (hM.2.2.2.1 x hO.lt hxA)) rfl 0 (by decide) q414 rfl rfl dX9_knows_1 ?_
  refine lv_bipush (v := nI 12) hx hb dX9_knows_4 (by decide) ?_
  refine cg_callV (y := yX4_begins) hx hb hml hown hts hK hM.2.2 (vo_begins tr rn (t) 12 _ hne (by omega)) hM.1 (fun q hq => hq) (cAt.recv hK (hM.1 0 _ rfl) rfl) q1104 q1105 q1106 q68 q1107 ndX4_begins rfl (by rw [hRf]; decide) (by rw [hRl]; decide) (Nat.zero_le _) (Nat.zero_le _) hl.1 rfl (Nat.le_of_ble_eq_true rfl) dX9_knows_6 ?_
  rintro _ H locs ⟨rfl, hP1⟩ hz1 hk1 hS1
  have hM : voH D dA tr rn s.heap H locs (t + 1) (upd T t (nI 12)) := ⟨hP1, voD hne _ _ _, hS1⟩
  refine lv_iload_n hx hb dX9_knows_9 rfl (lv_at hl 1 rfl) ?_
  refine lv_aload_n hx hb dX9_knows_10 rfl (lv_at hl 0 rfl) ?_
  refine c_get (v := .int mm) hx hb hts in_X12 hown hK (hO.kept (hM.2.2.2.1 x hO.lt hxA)) rfl 2 (by decide) q430 rfl rfl dX9_knows_11 ?_
  refine lv_isub hx hb dX9_knows_14 ?_
  exact hret (⟨rfl, hM.1⟩) hM.2.2 dX9_knows_15
theorem nsX9_knows : yX9_knows.name ≠ "<init>" ∧ (parseMethodDescriptor yX9_knows.desc).map (fun d => d.parameters.length) = some 1 := by decide +kernel

set_option maxHeartbeats 400000 in
theorem vo_knows_3_3 {D : va_G} {dA : Nat → ClassId} (x tr rn w : Nat) (mm : Int32) (T : Nat → Int32) (t : Nat) (hne : tr ≠ rn) (hxA : ¬ voA tr rn x) (v : Int32) (ht : t + 2 ≤ 40) : Cg D dA (voA tr rn) yX12_knows cX12_knows 2 (some .int) 2 42 0 0 [.ref x, .int v] (fun H => va_P D cmCl (voWs dA tr rn t T) H ∧ cAt D x (.inr (13, [.ref tr, .int (nI w), .int mm])) H) (fun v' H => v' = some (.int (-(v - mm))) ∧ va_P D cmCl (voWs dA tr rn (t + 1 + 1) (upd (upd T t (nI 40)) (t + 1) (nI 12))) H) := by
  refine Cg.ofI (by decide) (own := RX12) rfl (Nat.le_of_ble_eq_true rfl) ?_
  intro p l e R s m args below meth c Q ls hx hb hml hRf hRl hRc hRs hin hts hown hK hP hl hret
  have hl : lv_has ls 2 [(0, .ref x), (1, .int v)] := hl
  obtain ⟨hP, hO⟩ := hP
  have hM : voH D dA tr rn s.heap s.heap [] t T := ⟨hP, voD hne _ _ _, va_S.rf⟩
  refine lv_aload_n hx hb dX12_knows_0 rfl (lv_at hl 0 rfl) ?_
  refine c_getU (v := .ref tr) hx hb hts in_X12 hown hK (hO.kept (hM.2.2.2.1 x hO.lt hxA)) rfl 0 (by decide) q421 q422 rfl dX12_knows_1 ?_
  refine lv_bipush (v := nI 40) hx hb dX12_knows_4 (by decide) ?_
  refine cg_callV (y := yX4_begins) hx hb hml hown hts hK hM.2.2 (vo_begins tr rn (t) 40 _ hne (by omega)) hM.1 (fun q hq => hq) (cAt.recv hK (hM.1 0 _ rfl) rfl) q1194 q1105 q1106 q68 q1107 ndX4_begins rfl (by rw [hRf]; decide) (by rw [hRl]; decide) (Nat.zero_le _) (Nat.zero_le _) hl.1 rfl (Nat.le_of_ble_eq_true rfl) dX12_knows_6 ?_
  rintro _ H locs ⟨rfl, hP1⟩ hz1 hk1 hS1
  have hM : voH D dA tr rn s.heap H locs (t + 1) (upd T t (nI 40)) := ⟨hP1, voD hne _ _ _, hS1⟩
  refine lv_aload_n hx hb dX12_knows_9 rfl (lv_at hl 0 rfl) ?_
  refine lv_iload_n hx hb dX12_knows_10 rfl (lv_at hl 1 rfl) ?_
  refine cg_callSU (y := yX9_knows) (C := RX12) hx hb hml hown hts hK hM.2.2 (hK.1.1 13 _ rfl).2 (vo_knows_0_3 x tr rn w mm _ (t + 1) hne hxA v (by omega)) ⟨hM.1, hO.kept (hM.2.2.2.1 x hO.lt hxA)⟩ (fun q hq => hq) ((hO.kept (hM.2.2.2.1 x hO.lt hxA)).recv hK rfl) q1195 q1847 q466 q1155 q74 q1156 nsX9_knows rfl (by rw [hRf]; decide) (by rw [hRl]; decide) (Nat.zero_le _) (Nat.zero_le _) hl.1 rfl (Nat.le_of_ble_eq_true rfl) dX12_knows_11 ?_
  rintro _ H locs ⟨rfl, hP1⟩ hz1 hk1 hS1
  have hM : voH D dA tr rn s.heap H locs (t + 1 + 1) (upd (upd T t (nI 40)) (t + 1) (nI 12)) := ⟨hP1, voD hne _ _ _, hS1⟩
  refine lv_ineg hx hb dX12_knows_14 ?_
  exact hret (⟨rfl, hM.1⟩) hM.2.2 dX12_knows_15
set_option maxHeartbeats 400000 in
theorem vo_eats_0_3 {D : va_G} {dA : Nat → ClassId} (x tr rn w : Nat) (mm : Int32) (T : Nat → Int32) (t : Nat) (hne : tr ≠ rn) (hxA : ¬ voA tr rn x) (v : Int32) (ht : t + 2 ≤ 40) : Cg D dA (voA tr rn) yX9_eats cX9_eats 2 (some .int) 2 42 0 0 [.ref x, .int v] (fun H => va_P D cmCl (voWs dA tr rn t T) H ∧ cAt D x (.inr (13, [.ref tr, .int (nI w), .int mm])) H) (fun v' H => v' = some (.int ((v + (nI w)) * (nI 2))) ∧ va_P D cmCl (voWs dA tr rn (t + 1 + 1) (upd (upd T t (nI 11)) (t + 1) (nI 10))) H) := by
  refine Cg.ofI (by decide) (own := RX9) rfl (Nat.le_of_ble_eq_true rfl) ?_
  intro p l e R s m args below meth c Q ls hx hb hml hRf hRl hRc hRs hin hts hown hK hP hl hret
  have hl : lv_has ls 2 [(0, .ref x), (1, .int v)] := hl
  obtain ⟨hP, hO⟩ := hP
  have hM : voH D dA tr rn s.heap s.heap [] t T := ⟨hP, voD hne _ _ _, va_S.rf⟩
  refine lv_aload_n hx hb dX9_eats_0 rfl (lv_at hl 0 rfl) ?_
  refine c_get (v := .ref tr) hx hb hts in_X12 hown hK (hO.kept (hM.2.2.2.1 x hO.lt hxA)) rfl 0 (by decide) q414 rfl rfl dX9_eats_1 ?_
  refine lv_bipush (v := nI 11) hx hb dX9_eats_4 (by decide) ?_
  refine cg_callV (y := yX4_begins) hx hb hml hown hts hK hM.2.2 (vo_begins tr rn (t) 11 _ hne (by omega)) hM.1 (fun q hq => hq) (cAt.recv hK (hM.1 0 _ rfl) rfl) q1104 q1105 q1106 q68 q1107 ndX4_begins rfl (by rw [hRf]; decide) (by rw [hRl]; decide) (Nat.zero_le _) (Nat.zero_le _) hl.1 rfl (Nat.le_of_ble_eq_true rfl) dX9_eats_6 ?_
  rintro _ H locs ⟨rfl, hP1⟩ hz1 hk1 hS1
  have hM : voH D dA tr rn s.heap H locs (t + 1) (upd T t (nI 11)) := ⟨hP1, voD hne _ _ _, hS1⟩
  refine lv_aload_n hx hb dX9_eats_9 rfl (lv_at hl 0 rfl) ?_
  refine lv_iload_n hx hb dX9_eats_10 rfl (lv_at hl 1 rfl) ?_
  skip
  refine cg_callU (x := ⟨RX9, "wants", "(I)I"⟩) (y := yX9_wants) (C := RX12) (owner := RX9) hx hb hml hown hts hK hM.2.2 (vo_wants_0_3 x tr rn w mm _ (t + 1) hne hxA v (by omega)) ⟨hM.1, hO.kept (hM.2.2.2.1 x hO.lt hxA)⟩ (fun q hq => hq) ((hO.kept (hM.2.2.2.1 x hO.lt hxA)).recv hK rfl) (fun R hf hl => va_cwO 1 hts (lw_app (lw_6 q1141 q1837 q1101 q1840 q1101 q74) (lw_meth q1103)) rfl rfl rfl q1103 nw_X9_wants ⟨hf, hl⟩) rfl (by rw [hRf]; decide) (by rw [hRl]; decide) (Nat.zero_le _) (Nat.zero_le _) hl.1 rfl (Nat.le_of_ble_eq_true rfl) dX9_eats_11 ?_
  rintro _ H locs ⟨rfl, hP1⟩ hz1 hk1 hS1
  have hM : voH D dA tr rn s.heap H locs (t + 1 + 1) (upd (upd T t (nI 11)) (t + 1) (nI 10)) := ⟨hP1, voD hne _ _ _, hS1⟩
  refine lv_iconst (v := nI 2) hx hb dX9_eats_14 (by decide) ?_
  refine lv_imul hx hb dX9_eats_15 ?_
  exact hret (⟨rfl, hM.1⟩) hM.2.2 dX9_eats_16
set_option maxHeartbeats 400000 in
theorem vo_tells_0_3 {D : va_G} {dA : Nat → ClassId} (x tr rn w : Nat) (mm : Int32) (T : Nat → Int32) (t : Nat) (hne : tr ≠ rn) (hxA : ¬ voA tr rn x) (v : Int32) (ht : t + 5 ≤ 40) : Cg D dA (voA tr rn) yX9_tells cX9_tells 3 (some .int) 3 63 0 0 [.ref x, .int v] (fun H => va_P D cmCl (voWs dA tr rn t T) H ∧ cAt D x (.inr (13, [.ref tr, .int (nI w), .int mm])) H) (fun v' H => v' = some (.int (((v + (nI w)) * (nI 2)) ^^^ (-(v - mm)))) ∧ va_P D cmCl (voWs dA tr rn (t + 1 + 1 + 1 + 1 + 1) (upd (upd (upd (upd (upd T t (nI 13)) (t + 1) (nI 11)) (t + 1 + 1) (nI 10)) (t + 1 + 1 + 1) (nI 40)) (t + 1 + 1 + 1 + 1) (nI 12))) H) := by
  refine Cg.ofI (by decide) (own := RX9) rfl (Nat.le_of_ble_eq_true rfl) ?_
  intro p l e R s m args below meth c Q ls hx hb hml hRf hRl hRc hRs hin hts hown hK hP hl hret
  have hl : lv_has ls 3 [(0, .ref x), (1, .int v)] := hl
  obtain ⟨hP, hO⟩ := hP
  have hM : voH D dA tr rn s.heap s.heap [] t T := ⟨hP, voD hne _ _ _, va_S.rf⟩
  refine lv_aload_n hx hb dX9_tells_0 rfl (lv_at hl 0 rfl) ?_
  refine c_get (v := .ref tr) hx hb hts in_X12 hown hK (hO.kept (hM.2.2.2.1 x hO.lt hxA)) rfl 0 (by decide) q414 rfl rfl dX9_tells_1 ?_
  refine lv_bipush (v := nI 13) hx hb dX9_tells_4 (by decide) ?_
  refine cg_callV (y := yX4_begins) hx hb hml hown hts hK hM.2.2 (vo_begins tr rn (t) 13 _ hne (by omega)) hM.1 (fun q hq => hq) (cAt.recv hK (hM.1 0 _ rfl) rfl) q1104 q1105 q1106 q68 q1107 ndX4_begins rfl (by rw [hRf]; decide) (by rw [hRl]; decide) (Nat.zero_le _) (Nat.zero_le _) hl.1 rfl (Nat.le_of_ble_eq_true rfl) dX9_tells_6 ?_
  rintro _ H locs ⟨rfl, hP1⟩ hz1 hk1 hS1
  have hM : voH D dA tr rn s.heap H locs (t + 1) (upd T t (nI 13)) := ⟨hP1, voD hne _ _ _, hS1⟩
  refine lv_aload_n hx hb dX9_tells_9 rfl (lv_at hl 0 rfl) ?_
  refine lv_iload_n hx hb dX9_tells_10 rfl (lv_at hl 1 rfl) ?_
  have nq := hK.D 0 rfl
  refine cg_callU (x := ⟨RX9, "eats", "(I)I"⟩) (y := yX9_eats) (C := RX12) (owner := RX9) hx hb hml hown hts hK hM.2.2 (vo_eats_0_3 x tr rn w mm _ (t + 1) hne hxA v (by omega)) ⟨hM.1, hO.kept (hM.2.2.2.1 x hO.lt hxA)⟩ (fun q hq => hq) ((hO.kept (hM.2.2.2.1 x hO.lt hxA)).recv hK rfl) (fun R hf hl => va_cwA 1 hts (lw_app (lw_5 q1223 q1845 q1851 q1138 q74) (lw_meth q1140)) rfl rfl rfl nq nw_X9_eats ⟨hf, hl⟩) rfl (by rw [hRf]; decide) (by rw [hRl]; decide) (Nat.zero_le _) (Nat.zero_le _) hl.1 rfl (Nat.le_of_ble_eq_true rfl) dX9_tells_11 ?_
  rintro _ H locs ⟨rfl, hP1⟩ hz1 hk1 hS1
  have hM : voH D dA tr rn s.heap H locs (t + 1 + 1 + 1) (upd (upd (upd T t (nI 13)) (t + 1) (nI 11)) (t + 1 + 1) (nI 10)) := ⟨hP1, voD hne _ _ _, hS1⟩
  refine lv_istore_n (lv' := [(2, .int ((v + (nI w)) * (nI 2))), (0, .ref x), (1, .int v)]) hx hb dX9_tells_14 rfl hl (by decide) rfl (fun ls hl => ?_)
  refine lv_iload_n hx hb dX9_tells_15 rfl (lv_at hl 0 rfl) ?_
  refine lv_aload_n hx hb dX9_tells_16 rfl (lv_at hl 1 rfl) ?_
  refine lv_iload_n hx hb dX9_tells_17 rfl (lv_at hl 2 rfl) ?_
  have nq := hK.D 1 rfl
  refine cg_callU (x := ⟨RX9, "knows", "(I)I"⟩) (y := yX12_knows) (C := RX12) (owner := RX9) hx hb hml hown hts hK hM.2.2 (vo_knows_3_3 x tr rn w mm _ (t + 1 + 1 + 1) hne hxA v (by omega)) ⟨hM.1, hO.kept (hM.2.2.2.1 x hO.lt hxA)⟩ (fun q hq => hq) ((hO.kept (hM.2.2.2.1 x hO.lt hxA)).recv hK rfl) (fun R hf hl => va_cwA 1 hts (lw_app (lw_5 q1224 q1847 q1858 q1191 q77) (lw_meth q1193)) rfl rfl rfl nq nw_X9_knows ⟨hf, hl⟩) rfl (by rw [hRf]; decide) (by rw [hRl]; decide) (Nat.zero_le _) (Nat.zero_le _) hl.1 rfl (Nat.le_of_ble_eq_true rfl) dX9_tells_18 ?_
  rintro _ H locs ⟨rfl, hP1⟩ hz1 hk1 hS1
  have hM : voH D dA tr rn s.heap H locs (t + 1 + 1 + 1 + 1 + 1) (upd (upd (upd (upd (upd T t (nI 13)) (t + 1) (nI 11)) (t + 1 + 1) (nI 10)) (t + 1 + 1 + 1) (nI 40)) (t + 1 + 1 + 1 + 1) (nI 12)) := ⟨hP1, voD hne _ _ _, hS1⟩
  refine lv_ixor hx hb dX9_tells_21 ?_
  exact hret (⟨rfl, hM.1⟩) hM.2.2 dX9_tells_22
set_option maxHeartbeats 400000 in
theorem vo_wants_0_4 {D : va_G} {dA : Nat → ClassId} (x tr rn w : Nat) (mm : Int32) (T : Nat → Int32) (t : Nat) (hne : tr ≠ rn) (hxA : ¬ voA tr rn x) (v : Int32) (ht : t + 1 ≤ 40) : Cg D dA (voA tr rn) yX9_wants cX9_wants 2 (some .int) 1 21 0 0 [.ref x, .int v] (fun H => va_P D cmCl (voWs dA tr rn t T) H ∧ cAt D x (.inr (14, [.ref tr, .int (nI w), .int mm])) H) (fun v' H => v' = some (.int (v + (nI w))) ∧ va_P D cmCl (voWs dA tr rn (t + 1) (upd T t (nI 10))) H) := by
  refine Cg.ofI (by decide) (own := RX9) rfl (Nat.le_of_ble_eq_true rfl) ?_
  intro p l e R s m args below meth c Q ls hx hb hml hRf hRl hRc hRs hin hts hown hK hP hl hret
  have hl : lv_has ls 2 [(0, .ref x), (1, .int v)] := hl
  obtain ⟨hP, hO⟩ := hP
  have hM : voH D dA tr rn s.heap s.heap [] t T := ⟨hP, voD hne _ _ _, va_S.rf⟩
  refine lv_aload_n hx hb dX9_wants_0 rfl (lv_at hl 0 rfl) ?_
  refine c_get (v := .ref tr) hx hb hts in_X13 hown hK (hO.kept (hM.2.2.2.1 x hO.lt hxA)) rfl 0 (by decide) q414 rfl rfl dX9_wants_1 ?_
  refine lv_bipush (v := nI 10) hx hb dX9_wants_4 (by decide) ?_
  refine cg_callV (y := yX4_begins) hx hb hml hown hts hK hM.2.2 (vo_begins tr rn (t) 10 _ hne (by omega)) hM.1 (fun q hq => hq) (cAt.recv hK (hM.1 0 _ rfl) rfl) q1104 q1105 q1106 q68 q1107 ndX4_begins rfl (by rw [hRf]; decide) (by rw [hRl]; decide) (Nat.zero_le _) (Nat.zero_le _) hl.1 rfl (Nat.le_of_ble_eq_true rfl) dX9_wants_6 ?_
  rintro _ H locs ⟨rfl, hP1⟩ hz1 hk1 hS1
  have hM : voH D dA tr rn s.heap H locs (t + 1) (upd T t (nI 10)) := ⟨hP1, voD hne _ _ _, hS1⟩
  refine lv_iload_n hx hb dX9_wants_9 rfl (lv_at hl 1 rfl) ?_
  refine lv_aload_n hx hb dX9_wants_10 rfl (lv_at hl 0 rfl) ?_
  refine c_get (v := .int (nI w)) hx hb hts in_X13 hown hK (hO.kept (hM.2.2.2.1 x hO.lt hxA)) rfl 1 (by decide) q427 rfl rfl dX9_wants_11 ?_
  refine lv_iadd hx hb dX9_wants_14 ?_
  exact hret (⟨rfl, hM.1⟩) hM.2.2 dX9_wants_15
set_option maxHeartbeats 400000 in
theorem vo_knows_0_4 {D : va_G} {dA : Nat → ClassId} (x tr rn w : Nat) (mm : Int32) (T : Nat → Int32) (t : Nat) (hne : tr ≠ rn) (hxA : ¬ voA tr rn x) (v : Int32) (ht : t + 1 ≤ 40) : Cg D dA (voA tr rn) yX9_knows cX9_knows 2 (some .int) 1 21 0 0 [.ref x, .int v] (fun H => va_P D cmCl (voWs dA tr rn t T) H ∧ cAt D x (.inr (14, [.ref tr, .int (nI w), .int mm])) H) (fun v' H => v' = some (.int (v - mm)) ∧ va_P D cmCl (voWs dA tr rn (t + 1) (upd T t (nI 12))) H) := by
  refine Cg.ofI (by decide) (own := RX9) rfl (Nat.le_of_ble_eq_true rfl) ?_
  intro p l e R s m args below meth c Q ls hx hb hml hRf hRl hRc hRs hin hts hown hK hP hl hret
  have hl : lv_has ls 2 [(0, .ref x), (1, .int v)] := hl
  obtain ⟨hP, hO⟩ := hP
  have hM : voH D dA tr rn s.heap s.heap [] t T := ⟨hP, voD hne _ _ _, va_S.rf⟩
  refine lv_aload_n hx hb dX9_knows_0 rfl (lv_at hl 0 rfl) ?_
  refine c_get (v := .ref tr) hx hb hts in_X13 hown hK (hO.kept (hM.2.2.2.1 x hO.lt hxA)) rfl 0 (by decide) q414 rfl rfl dX9_knows_1 ?_
  refine lv_bipush (v := nI 12) hx hb dX9_knows_4 (by decide) ?_
  refine cg_callV (y := yX4_begins) hx hb hml hown hts hK hM.2.2 (vo_begins tr rn (t) 12 _ hne (by omega)) hM.1 (fun q hq => hq) (cAt.recv hK (hM.1 0 _ rfl) rfl) q1104 q1105 q1106 q68 q1107 ndX4_begins rfl (by rw [hRf]; decide) (by rw [hRl]; decide) (Nat.zero_le _) (Nat.zero_le _) hl.1 rfl (Nat.le_of_ble_eq_true rfl) dX9_knows_6 ?_
  rintro _ H locs ⟨rfl, hP1⟩ hz1 hk1 hS1
  have hM : voH D dA tr rn s.heap H locs (t + 1) (upd T t (nI 12)) := ⟨hP1, voD hne _ _ _, hS1⟩
  refine lv_iload_n hx hb dX9_knows_9 rfl (lv_at hl 1 rfl) ?_
  refine lv_aload_n hx hb dX9_knows_10 rfl (lv_at hl 0 rfl) ?_
  refine c_get (v := .int mm) hx hb hts in_X13 hown hK (hO.kept (hM.2.2.2.1 x hO.lt hxA)) rfl 2 (by decide) q430 rfl rfl dX9_knows_11 ?_
  refine lv_isub hx hb dX9_knows_14 ?_
  exact hret (⟨rfl, hM.1⟩) hM.2.2 dX9_knows_15
set_option maxHeartbeats 400000 in
theorem vo_eats_0_4 {D : va_G} {dA : Nat → ClassId} (x tr rn w : Nat) (mm : Int32) (T : Nat → Int32) (t : Nat) (hne : tr ≠ rn) (hxA : ¬ voA tr rn x) (v : Int32) (ht : t + 2 ≤ 40) : Cg D dA (voA tr rn) yX9_eats cX9_eats 2 (some .int) 2 42 0 0 [.ref x, .int v] (fun H => va_P D cmCl (voWs dA tr rn t T) H ∧ cAt D x (.inr (14, [.ref tr, .int (nI w), .int mm])) H) (fun v' H => v' = some (.int ((v + (nI w)) * (nI 2))) ∧ va_P D cmCl (voWs dA tr rn (t + 1 + 1) (upd (upd T t (nI 11)) (t + 1) (nI 10))) H) := by
  refine Cg.ofI (by decide) (own := RX9) rfl (Nat.le_of_ble_eq_true rfl) ?_
  intro p l e R s m args below meth c Q ls hx hb hml hRf hRl hRc hRs hin hts hown hK hP hl hret
  have hl : lv_has ls 2 [(0, .ref x), (1, .int v)] := hl
  obtain ⟨hP, hO⟩ := hP
  have hM : voH D dA tr rn s.heap s.heap [] t T := ⟨hP, voD hne _ _ _, va_S.rf⟩
  refine lv_aload_n hx hb dX9_eats_0 rfl (lv_at hl 0 rfl) ?_
  refine c_get (v := .ref tr) hx hb hts in_X13 hown hK (hO.kept (hM.2.2.2.1 x hO.lt hxA)) rfl 0 (by decide) q414 rfl rfl dX9_eats_1 ?_
  refine lv_bipush (v := nI 11) hx hb dX9_eats_4 (by decide) ?_
  refine cg_callV (y := yX4_begins) hx hb hml hown hts hK hM.2.2 (vo_begins tr rn (t) 11 _ hne (by omega)) hM.1 (fun q hq => hq) (cAt.recv hK (hM.1 0 _ rfl) rfl) q1104 q1105 q1106 q68 q1107 ndX4_begins rfl (by rw [hRf]; decide) (by rw [hRl]; decide) (Nat.zero_le _) (Nat.zero_le _) hl.1 rfl (Nat.le_of_ble_eq_true rfl) dX9_eats_6 ?_
  rintro _ H locs ⟨rfl, hP1⟩ hz1 hk1 hS1
  have hM : voH D dA tr rn s.heap H locs (t + 1) (upd T t (nI 11)) := ⟨hP1, voD hne _ _ _, hS1⟩
  refine lv_aload_n hx hb dX9_eats_9 rfl (lv_at hl 0 rfl) ?_
  refine lv_iload_n hx hb dX9_eats_10 rfl (lv_at hl 1 rfl) ?_
  skip
  refine cg_callU (x := ⟨RX9, "wants", "(I)I"⟩) (y := yX9_wants) (C := RX13) (owner := RX9) hx hb hml hown hts hK hM.2.2 (vo_wants_0_4 x tr rn w mm _ (t + 1) hne hxA v (by omega)) ⟨hM.1, hO.kept (hM.2.2.2.1 x hO.lt hxA)⟩ (fun q hq => hq) ((hO.kept (hM.2.2.2.1 x hO.lt hxA)).recv hK rfl) (fun R hf hl => va_cwO 1 hts (lw_app (lw_6 q1141 q1837 q1101 q1841 q1101 q74) (lw_meth q1103)) rfl rfl rfl q1103 nw_X9_wants ⟨hf, hl⟩) rfl (by rw [hRf]; decide) (by rw [hRl]; decide) (Nat.zero_le _) (Nat.zero_le _) hl.1 rfl (Nat.le_of_ble_eq_true rfl) dX9_eats_11 ?_
  rintro _ H locs ⟨rfl, hP1⟩ hz1 hk1 hS1
  have hM : voH D dA tr rn s.heap H locs (t + 1 + 1) (upd (upd T t (nI 11)) (t + 1) (nI 10)) := ⟨hP1, voD hne _ _ _, hS1⟩
  refine lv_iconst (v := nI 2) hx hb dX9_eats_14 (by decide) ?_
  refine lv_imul hx hb dX9_eats_15 ?_
  exact hret (⟨rfl, hM.1⟩) hM.2.2 dX9_eats_16
set_option maxHeartbeats 400000 in
theorem vo_eats_1_4 {D : va_G} {dA : Nat → ClassId} (x tr rn w : Nat) (mm : Int32) (T : Nat → Int32) (t : Nat) (hne : tr ≠ rn) (hxA : ¬ voA tr rn x) (v : Int32) (ht : t + 4 ≤ 40) : Cg D dA (voA tr rn) yX10_eats cX10_eats 3 (some .int) 3 63 0 0 [.ref x, .int v] (fun H => va_P D cmCl (voWs dA tr rn t T) H ∧ cAt D x (.inr (14, [.ref tr, .int (nI w), .int mm])) H) (fun v' H => v' = some (.int (((v + (nI w)) * (nI 2)) - ((nI 1) - mm))) ∧ va_P D cmCl (voWs dA tr rn (t + 1 + 1 + 1 + 1) (upd (upd (upd (upd T t (nI 20)) (t + 1) (nI 11)) (t + 1 + 1) (nI 10)) (t + 1 + 1 + 1) (nI 12))) H) := by
  refine Cg.ofI (by decide) (own := RX10) rfl (Nat.le_of_ble_eq_true rfl) ?_
  intro p l e R s m args below meth c Q ls hx hb hml hRf hRl hRc hRs hin hts hown hK hP hl hret
  have hl : lv_has ls 3 [(0, .ref x), (1, .int v)] := hl
  obtain ⟨hP, hO⟩ := hP
  have hM : voH D dA tr rn s.heap s.heap [] t T := ⟨hP, voD hne _ _ _, va_S.rf⟩
  refine lv_aload_n hx hb dX10_eats_0 rfl (lv_at hl 0 rfl) ?_
  refine c_getU (v := .ref tr) hx hb hts in_X13 hown hK (hO.kept (hM.2.2.2.1 x hO.lt hxA)) rfl 0 (by decide) q419 q420 rfl dX10_eats_1 ?_
  refine lv_bipush (v := nI 20) hx hb dX10_eats_4 (by decide) ?_
  refine cg_callV (y := yX4_begins) hx hb hml hown hts hK hM.2.2 (vo_begins tr rn (t) 20 _ hne (by omega)) hM.1 (fun q hq => hq) (cAt.recv hK (hM.1 0 _ rfl) rfl) q1148 q1105 q1106 q68 q1107 ndX4_begins rfl (by rw [hRf]; decide) (by rw [hRl]; decide) (Nat.zero_le _) (Nat.zero_le _) hl.1 rfl (Nat.le_of_ble_eq_true rfl) dX10_eats_6 ?_
  rintro _ H locs ⟨rfl, hP1⟩ hz1 hk1 hS1
  have hM : voH D dA tr rn s.heap H locs (t + 1) (upd T t (nI 20)) := ⟨hP1, voD hne _ _ _, hS1⟩
  refine lv_aload_n hx hb dX10_eats_9 rfl (lv_at hl 0 rfl) ?_
  refine lv_iload_n hx hb dX10_eats_10 rfl (lv_at hl 1 rfl) ?_
  refine cg_callSU (y := yX9_eats) (C := RX13) hx hb hml hown hts hK hM.2.2 (hK.1.1 14 _ rfl).2 (vo_eats_0_4 x tr rn w mm _ (t + 1) hne hxA v (by omega)) ⟨hM.1, hO.kept (hM.2.2.2.1 x hO.lt hxA)⟩ (fun q hq => hq) ((hO.kept (hM.2.2.2.1 x hO.lt hxA)).recv hK rfl) q1149 q1845 q446 q1138 q74 q1140 nsX9_eats rfl (by rw [hRf]; decide) (by rw [hRl]; decide) (Nat.zero_le _) (Nat.zero_le _) hl.1 rfl (Nat.le_of_ble_eq_true rfl) dX10_eats_11 ?_
  rintro _ H locs ⟨rfl, hP1⟩ hz1 hk1 hS1
  have hM : voH D dA tr rn s.heap H locs (t + 1 + 1 + 1) (upd (upd (upd T t (nI 20)) (t + 1) (nI 11)) (t + 1 + 1) (nI 10)) := ⟨hP1, voD hne _ _ _, hS1⟩
  refine lv_istore_n (lv' := [(2, .int ((v + (nI w)) * (nI 2))), (0, .ref x), (1, .int v)]) hx hb dX10_eats_14 rfl hl (by decide) rfl (fun ls hl => ?_)
  refine lv_iload_n hx hb dX10_eats_15 rfl (lv_at hl 0 rfl) ?_
  refine lv_aload_n hx hb dX10_eats_16 rfl (lv_at hl 1 rfl) ?_
  refine lv_iconst (v := nI 1) hx hb dX10_eats_17 (by decide) ?_
  have nq := hK.D 1 rfl
  refine cg_callU (x := ⟨RX10, "knows", "(I)I"⟩) (y := yX9_knows) (C := RX13) (owner := RX9) hx hb hml hown hts hK hM.2.2 (vo_knows_0_4 x tr rn w mm _ (t + 1 + 1 + 1) hne hxA (nI 1) (by omega)) ⟨hM.1, hO.kept (hM.2.2.2.1 x hO.lt hxA)⟩ (fun q hq => hq) ((hO.kept (hM.2.2.2.1 x hO.lt hxA)).recv hK rfl) (fun R hf hl => va_cwA 1 hts (lw_app (lw_5 q1150 q1151 q1154 q1155 q74) (lw_meth q1156)) rfl rfl rfl nq nw_X9_knows ⟨hf, hl⟩) rfl (by rw [hRf]; decide) (by rw [hRl]; decide) (Nat.zero_le _) (Nat.zero_le _) hl.1 rfl (Nat.le_of_ble_eq_true rfl) dX10_eats_18 ?_
  rintro _ H locs ⟨rfl, hP1⟩ hz1 hk1 hS1
  have hM : voH D dA tr rn s.heap H locs (t + 1 + 1 + 1 + 1) (upd (upd (upd (upd T t (nI 20)) (t + 1) (nI 11)) (t + 1 + 1) (nI 10)) (t + 1 + 1 + 1) (nI 12)) := ⟨hP1, voD hne _ _ _, hS1⟩
  refine lv_isub hx hb dX10_eats_21 ?_
  exact hret (⟨rfl, hM.1⟩) hM.2.2 dX10_eats_22
theorem nsX10_eats : yX10_eats.name ≠ "<init>" ∧ (parseMethodDescriptor yX10_eats.desc).map (fun d => d.parameters.length) = some 1 := by decide +kernel

set_option maxHeartbeats 400000 in
theorem vo_eats_4_4 {D : va_G} {dA : Nat → ClassId} (x tr rn w : Nat) (mm : Int32) (T : Nat → Int32) (t : Nat) (hne : tr ≠ rn) (hxA : ¬ voA tr rn x) (v : Int32) (ht : t + 5 ≤ 40) : Cg D dA (voA tr rn) yX13_eats cX13_eats 2 (some .int) 4 85 0 0 [.ref x, .int v] (fun H => va_P D cmCl (voWs dA tr rn t T) H ∧ cAt D x (.inr (14, [.ref tr, .int (nI w), .int mm])) H) (fun v' H => v' = some (.int ((((v + (nI 1)) + (nI w)) * (nI 2)) - ((nI 1) - mm))) ∧ va_P D cmCl (voWs dA tr rn (t + 1 + 1 + 1 + 1 + 1) (upd (upd (upd (upd (upd T t (nI 50)) (t + 1) (nI 20)) (t + 1 + 1) (nI 11)) (t + 1 + 1 + 1) (nI 10)) (t + 1 + 1 + 1 + 1) (nI 12))) H) := by
  refine Cg.ofI (by decide) (own := RX13) rfl (Nat.le_of_ble_eq_true rfl) ?_
  intro p l e R s m args below meth c Q ls hx hb hml hRf hRl hRc hRs hin hts hown hK hP hl hret
  have hl : lv_has ls 2 [(0, .ref x), (1, .int v)] := hl
  obtain ⟨hP, hO⟩ := hP
  have hM : voH D dA tr rn s.heap s.heap [] t T := ⟨hP, voD hne _ _ _, va_S.rf⟩
  refine lv_aload_n hx hb dX13_eats_0 rfl (lv_at hl 0 rfl) ?_
  refine c_getU (v := .ref tr) hx hb hts in_X13 hown hK (hO.kept (hM.2.2.2.1 x hO.lt hxA)) rfl 0 (by decide) q425 q426 rfl dX13_eats_1 ?_
  refine lv_bipush (v := nI 50) hx hb dX13_eats_4 (by decide) ?_
  refine cg_callV (y := yX4_begins) hx hb hml hown hts hK hM.2.2 (vo_begins tr rn (t) 50 _ hne (by omega)) hM.1 (fun q hq => hq) (cAt.recv hK (hM.1 0 _ rfl) rfl) q1166 q1105 q1106 q68 q1107 ndX4_begins rfl (by rw [hRf]; decide) (by rw [hRl]; decide) (Nat.zero_le _) (Nat.zero_le _) hl.1 rfl (Nat.le_of_ble_eq_true rfl) dX13_eats_6 ?_
  rintro _ H locs ⟨rfl, hP1⟩ hz1 hk1 hS1
  have hM : voH D dA tr rn s.heap H locs (t + 1) (upd T t (nI 50)) := ⟨hP1, voD hne _ _ _, hS1⟩
  refine lv_aload_n hx hb dX13_eats_9 rfl (lv_at hl 0 rfl) ?_
  refine lv_iload_n hx hb dX13_eats_10 rfl (lv_at hl 1 rfl) ?_
  refine lv_iconst (v := nI 1) hx hb dX13_eats_11 (by decide) ?_
  refine lv_iadd hx hb dX13_eats_12 ?_
  refine cg_callSU (y := yX10_eats) (C := RX13) hx hb hml hown hts hK hM.2.2 (hK.1.1 14 _ rfl).2 (vo_eats_1_4 x tr rn w mm _ (t + 1) hne hxA (v + (nI 1)) (by omega)) ⟨hM.1, hO.kept (hM.2.2.2.1 x hO.lt hxA)⟩ (fun q hq => hq) ((hO.kept (hM.2.2.2.1 x hO.lt hxA)).recv hK rfl) q1167 q1846 q476 q1145 q75 q1147 nsX10_eats rfl (by rw [hRf]; decide) (by rw [hRl]; decide) (Nat.zero_le _) (Nat.zero_le _) hl.1 rfl (Nat.le_of_ble_eq_true rfl) dX13_eats_13 ?_
  rintro _ H locs ⟨rfl, hP1⟩ hz1 hk1 hS1
  have hM : voH D dA tr rn s.heap H locs (t + 1 + 1 + 1 + 1 + 1) (upd (upd (upd (upd (upd T t (nI 50)) (t + 1) (nI 20)) (t + 1 + 1) (nI 11)) (t + 1 + 1 + 1) (nI 10)) (t + 1 + 1 + 1 + 1) (nI 12)) := ⟨hP1, voD hne _ _ _, hS1⟩
  exact hret (⟨rfl, hM.1⟩) hM.2.2 dX13_eats_16
set_option maxHeartbeats 400000 in
theorem vo_tells_0_4 {D : va_G} {dA : Nat → ClassId} (x tr rn w : Nat) (mm : Int32) (T : Nat → Int32) (t : Nat) (hne : tr ≠ rn) (hxA : ¬ voA tr rn x) (v : Int32) (ht : t + 7 ≤ 40) : Cg D dA (voA tr rn) yX9_tells cX9_tells 3 (some .int) 5 106 0 0 [.ref x, .int v] (fun H => va_P D cmCl (voWs dA tr rn t T) H ∧ cAt D x (.inr (14, [.ref tr, .int (nI w), .int mm])) H) (fun v' H => v' = some (.int (((((v + (nI 1)) + (nI w)) * (nI 2)) - ((nI 1) - mm)) ^^^ (v - mm))) ∧ va_P D cmCl (voWs dA tr rn (t + 1 + 1 + 1 + 1 + 1 + 1 + 1) (upd (upd (upd (upd (upd (upd (upd T t (nI 13)) (t + 1) (nI 50)) (t + 1 + 1) (nI 20)) (t + 1 + 1 + 1) (nI 11)) (t + 1 + 1 + 1 + 1) (nI 10)) (t + 1 + 1 + 1 + 1 + 1) (nI 12)) (t + 1 + 1 + 1 + 1 + 1 + 1) (nI 12))) H) := by
  refine Cg.ofI (by decide) (own := RX9) rfl (Nat.le_of_ble_eq_true rfl) ?_
  intro p l e R s m args below meth c Q ls hx hb hml hRf hRl hRc hRs hin hts hown hK hP hl hret
  have hl : lv_has ls 3 [(0, .ref x), (1, .int v)] := hl
  obtain ⟨hP, hO⟩ := hP
  have hM : voH D dA tr rn s.heap s.heap [] t T := ⟨hP, voD hne _ _ _, va_S.rf⟩
  refine lv_aload_n hx hb dX9_tells_0 rfl (lv_at hl 0 rfl) ?_
  refine c_get (v := .ref tr) hx hb hts in_X13 hown hK (hO.kept (hM.2.2.2.1 x hO.lt hxA)) rfl 0 (by decide) q414 rfl rfl dX9_tells_1 ?_
  refine lv_bipush (v := nI 13) hx hb dX9_tells_4 (by decide) ?_
  refine cg_callV (y := yX4_begins) hx hb hml hown hts hK hM.2.2 (vo_begins tr rn (t) 13 _ hne (by omega)) hM.1 (fun q hq => hq) (cAt.recv hK (hM.1 0 _ rfl) rfl) q1104 q1105 q1106 q68 q1107 ndX4_begins rfl (by rw [hRf]; decide) (by rw [hRl]; decide) (Nat.zero_le _) (Nat.zero_le _) hl.1 rfl (Nat.le_of_ble_eq_true rfl) dX9_tells_6 ?_
  rintro _ H locs ⟨rfl, hP1⟩ hz1 hk1 hS1
  have hM : voH D dA tr rn s.heap H locs (t + 1) (upd T t (nI 13)) := ⟨hP1, voD hne _ _ _, hS1⟩
  refine lv_aload_n hx hb dX9_tells_9 rfl (lv_at hl 0 rfl) ?_
  refine lv_iload_n hx hb dX9_tells_10 rfl (lv_at hl 1 rfl) ?_
  have nq := hK.D 0 rfl
  refine cg_callU (x := ⟨RX9, "eats", "(I)I"⟩) (y := yX13_eats) (C := RX13) (owner := RX9) hx hb hml hown hts hK hM.2.2 (vo_eats_4_4 x tr rn w mm _ (t + 1) hne hxA v (by omega)) ⟨hM.1, hO.kept (hM.2.2.2.1 x hO.lt hxA)⟩ (fun q hq => hq) ((hO.kept (hM.2.2.2.1 x hO.lt hxA)).recv hK rfl) (fun R hf hl => va_cwA 1 hts (lw_app (lw_5 q1223 q1845 q1852 q1163 q78) (lw_meth q1165)) rfl rfl rfl nq nw_X9_eats ⟨hf, hl⟩) rfl (by rw [hRf]; decide) (by rw [hRl]; decide) (Nat.zero_le _) (Nat.zero_le _) hl.1 rfl (Nat.le_of_ble_eq_true rfl) dX9_tells_11 ?_
  rintro _ H locs ⟨rfl, hP1⟩ hz1 hk1 hS1
  have hM : voH D dA tr rn s.heap H locs (t + 1 + 1 + 1 + 1 + 1 + 1) (upd (upd (upd (upd (upd (upd T t (nI 13)) (t + 1) (nI 50)) (t + 1 + 1) (nI 20)) (t + 1 + 1 + 1) (nI 11)) (t + 1 + 1 + 1 + 1) (nI 10)) (t + 1 + 1 + 1 + 1 + 1) (nI 12)) := ⟨hP1, voD hne _ _ _, hS1⟩
  refine lv_istore_n (lv' := [(2, .int ((((v + (nI 1)) + (nI w)) * (nI 2)) - ((nI 1) - mm))), (0, .ref x), (1, .int v)]) hx hb dX9_tells_14 rfl hl (by decide) rfl (fun ls hl => ?_)
  refine lv_iload_n hx hb dX9_tells_15 rfl (lv_at hl 0 rfl) ?_
  refine lv_aload_n hx hb dX9_tells_16 rfl (lv_at hl 1 rfl) ?_
  refine lv_iload_n hx hb dX9_tells_17 rfl (lv_at hl 2 rfl) ?_
  have nq := hK.D 1 rfl
  refine cg_callU (x := ⟨RX9, "knows", "(I)I"⟩) (y := yX9_knows) (C := RX13) (owner := RX9) hx hb hml hown hts hK hM.2.2 (vo_knows_0_4 x tr rn w mm _ (t + 1 + 1 + 1 + 1 + 1 + 1) hne hxA v (by omega)) ⟨hM.1, hO.kept (hM.2.2.2.1 x hO.lt hxA)⟩ (fun q hq => hq) ((hO.kept (hM.2.2.2.1 x hO.lt hxA)).recv hK rfl) (fun R hf hl => va_cwA 1 hts (lw_app (lw_5 q1224 q1847 q1859 q1155 q74) (lw_meth q1156)) rfl rfl rfl nq nw_X9_knows ⟨hf, hl⟩) rfl (by rw [hRf]; decide) (by rw [hRl]; decide) (Nat.zero_le _) (Nat.zero_le _) hl.1 rfl (Nat.le_of_ble_eq_true rfl) dX9_tells_18 ?_
  rintro _ H locs ⟨rfl, hP1⟩ hz1 hk1 hS1
  have hM : voH D dA tr rn s.heap H locs (t + 1 + 1 + 1 + 1 + 1 + 1 + 1) (upd (upd (upd (upd (upd (upd (upd T t (nI 13)) (t + 1) (nI 50)) (t + 1 + 1) (nI 20)) (t + 1 + 1 + 1) (nI 11)) (t + 1 + 1 + 1 + 1) (nI 10)) (t + 1 + 1 + 1 + 1 + 1) (nI 12)) (t + 1 + 1 + 1 + 1 + 1 + 1) (nI 12)) := ⟨hP1, voD hne _ _ _, hS1⟩
  refine lv_ixor hx hb dX9_tells_21 ?_
  exact hret (⟨rfl, hM.1⟩) hM.2.2 dX9_tells_22
set_option maxHeartbeats 400000 in
theorem vo_wants_0_5 {D : va_G} {dA : Nat → ClassId} (x tr rn w : Nat) (mm : Int32) (T : Nat → Int32) (t : Nat) (hne : tr ≠ rn) (hxA : ¬ voA tr rn x) (v : Int32) (ht : t + 1 ≤ 40) : Cg D dA (voA tr rn) yX9_wants cX9_wants 2 (some .int) 1 21 0 0 [.ref x, .int v] (fun H => va_P D cmCl (voWs dA tr rn t T) H ∧ cAt D x (.inr (15, [.ref tr, .int (nI w), .int mm])) H) (fun v' H => v' = some (.int (v + (nI w))) ∧ va_P D cmCl (voWs dA tr rn (t + 1) (upd T t (nI 10))) H) := by
  refine Cg.ofI (by decide) (own := RX9) rfl (Nat.le_of_ble_eq_true rfl) ?_
  intro p l e R s m args below meth c Q ls hx hb hml hRf hRl hRc hRs hin hts hown hK hP hl hret
  have hl : lv_has ls 2 [(0, .ref x), (1, .int v)] := hl
  obtain ⟨hP, hO⟩ := hP
  have hM : voH D dA tr rn s.heap s.heap [] t T := ⟨hP, voD hne _ _ _, va_S.rf⟩
  refine lv_aload_n hx hb dX9_wants_0 rfl (lv_at hl 0 rfl) ?_
  refine c_get (v := .ref tr) hx hb hts in_X14 hown hK (hO.kept (hM.2.2.2.1 x hO.lt hxA)) rfl 0 (by decide) q414 rfl rfl dX9_wants_1 ?_
  refine lv_bipush (v := nI 10) hx hb dX9_wants_4 (by decide) ?_
  refine cg_callV (y := yX4_begins) hx hb hml hown hts hK hM.2.2 (vo_begins tr rn (t) 10 _ hne (by omega)) hM.1 (fun q hq => hq) (cAt.recv hK (hM.1 0 _ rfl) rfl) q1104 q1105 q1106 q68 q1107 ndX4_begins rfl (by rw [hRf]; decide) (by rw [hRl]; decide) (Nat.zero_le _) (Nat.zero_le _) hl.1 rfl (Nat.le_of_ble_eq_true rfl) dX9_wants_6 ?_
  rintro _ H locs ⟨rfl, hP1⟩ hz1 hk1 hS1
  have hM : voH D dA tr rn s.heap H locs (t + 1) (upd T t (nI 10)) := ⟨hP1, voD hne _ _ _, hS1⟩
  refine lv_iload_n hx hb dX9_wants_9 rfl (lv_at hl 1 rfl) ?_
  refine lv_aload_n hx hb dX9_wants_10 rfl (lv_at hl 0 rfl) ?_
  refine c_get (v := .int (nI w)) hx hb hts in_X14 hown hK (hO.kept (hM.2.2.2.1 x hO.lt hxA)) rfl 1 (by decide) q427 rfl rfl dX9_wants_11 ?_
  refine lv_iadd hx hb dX9_wants_14 ?_
  exact hret (⟨rfl, hM.1⟩) hM.2.2 dX9_wants_15
set_option maxHeartbeats 400000 in
theorem vo_wants_2_5 {D : va_G} {dA : Nat → ClassId} (x tr rn w : Nat) (mm : Int32) (T : Nat → Int32) (t : Nat) (hne : tr ≠ rn) (hxA : ¬ voA tr rn x) (v : Int32) (ht : t + 2 ≤ 40) : Cg D dA (voA tr rn) yX11_wants cX11_wants 2 (some .int) 2 42 0 0 [.ref x, .int v] (fun H => va_P D cmCl (voWs dA tr rn t T) H ∧ cAt D x (.inr (15, [.ref tr, .int (nI w), .int mm])) H) (fun v' H => v' = some (.int ((v + (nI w)) * (nI 3))) ∧ va_P D cmCl (voWs dA tr rn (t + 1 + 1) (upd (upd T t (nI 30)) (t + 1) (nI 10))) H) := by
  refine Cg.ofI (by decide) (own := RX11) rfl (Nat.le_of_ble_eq_true rfl) ?_
  intro p l e R s m args below meth c Q ls hx hb hml hRf hRl hRc hRs hin hts hown hK hP hl hret
  have hl : lv_has ls 2 [(0, .ref x), (1, .int v)] := hl
  obtain ⟨hP, hO⟩ := hP
  have hM : voH D dA tr rn s.heap s.heap [] t T := ⟨hP, voD hne _ _ _, va_S.rf⟩
  refine lv_aload_n hx hb dX11_wants_0 rfl (lv_at hl 0 rfl) ?_
  refine c_getU (v := .ref tr) hx hb hts in_X14 hown hK (hO.kept (hM.2.2.2.1 x hO.lt hxA)) rfl 0 (by decide) q417 q418 rfl dX11_wants_1 ?_
  refine lv_bipush (v := nI 30) hx hb dX11_wants_4 (by decide) ?_
  refine cg_callV (y := yX4_begins) hx hb hml hown hts hK hM.2.2 (vo_begins tr rn (t) 30 _ hne (by omega)) hM.1 (fun q hq => hq) (cAt.recv hK (hM.1 0 _ rfl) rfl) q1126 q1105 q1106 q68 q1107 ndX4_begins rfl (by rw [hRf]; decide) (by rw [hRl]; decide) (Nat.zero_le _) (Nat.zero_le _) hl.1 rfl (Nat.le_of_ble_eq_true rfl) dX11_wants_6 ?_
  rintro _ H locs ⟨rfl, hP1⟩ hz1 hk1 hS1
  have hM : voH D dA tr rn s.heap H locs (t + 1) (upd T t (nI 30)) := ⟨hP1, voD hne _ _ _, hS1⟩
  refine lv_aload_n hx hb dX11_wants_9 rfl (lv_at hl 0 rfl) ?_
  refine lv_iload_n hx hb dX11_wants_10 rfl (lv_at hl 1 rfl) ?_
  refine cg_callSU (y := yX9_wants) (C := RX14) hx hb hml hown hts hK hM.2.2 (hK.1.1 15 _ rfl).2 (vo_wants_0_5 x tr rn w mm _ (t + 1) hne hxA v (by omega)) ⟨hM.1, hO.kept (hM.2.2.2.1 x hO.lt hxA)⟩ (fun q hq => hq) ((hO.kept (hM.2.2.2.1 x hO.lt hxA)).recv hK rfl) q1127 q1837 q456 q1101 q74 q1103 nsX9_wants rfl (by rw [hRf]; decide) (by rw [hRl]; decide) (Nat.zero_le _) (Nat.zero_le _) hl.1 rfl (Nat.le_of_ble_eq_true rfl) dX11_wants_11 ?_
  rintro _ H locs ⟨rfl, hP1⟩ hz1 hk1 hS1
  have hM : voH D dA tr rn s.heap H locs (t + 1 + 1) (upd (upd T t (nI 30)) (t + 1) (nI 10)) := ⟨hP1, voD hne _ _ _, hS1⟩
  refine lv_iconst (v := nI 3) hx hb dX11_wants_14 (by decide) ?_
  refine lv_imul hx hb dX11_wants_15 ?_
  exact hret (⟨rfl, hM.1⟩) hM.2.2 dX11_wants_16
set_option maxHeartbeats 400000 in
theorem vo_knows_0_5 {D : va_G} {dA : Nat → ClassId} (x tr rn w : Nat) (mm : Int32) (T : Nat → Int32) (t : Nat) (hne : tr ≠ rn) (hxA : ¬ voA tr rn x) (v : Int32) (ht : t + 1 ≤ 40) : Cg D dA (voA tr rn) yX9_knows cX9_knows 2 (some .int) 1 21 0 0 [.ref x, .int v] (fun H => va_P D cmCl (voWs dA tr rn t T) H ∧ cAt D x (.inr (15, [.ref tr, .int (nI w), .int mm])) H) (fun v' H => v' = some (.int (v - mm)) ∧ va_P D cmCl (voWs dA tr rn (t + 1) (upd T t (nI 12))) H) := by
  refine Cg.ofI (by decide) (own := RX9) rfl (Nat.le_of_ble_eq_true rfl) ?_
  intro p l e R s m args below meth c Q ls hx hb hml hRf hRl hRc hRs hin hts hown hK hP hl hret
  have hl : lv_has ls 2 [(0, .ref x), (1, .int v)] := hl
  obtain ⟨hP, hO⟩ := hP
  have hM : voH D dA tr rn s.heap s.heap [] t T := ⟨hP, voD hne _ _ _, va_S.rf⟩
  refine lv_aload_n hx hb dX9_knows_0 rfl (lv_at hl 0 rfl) ?_
  refine c_get (v := .ref tr) hx hb hts in_X14 hown hK (hO.kept (hM.2.2.2.1 x hO.lt hxA)) rfl 0 (by decide) q414 rfl rfl dX9_knows_1 ?_
  refine lv_bipush (v := nI 12) hx hb dX9_knows_4 (by decide) ?_
  refine cg_callV (y := yX4_begins) hx hb hml hown hts hK hM.2.2 (vo_begins tr rn (t) 12 _ hne (by omega)) hM.1 (fun q hq => hq) (cAt.recv hK (hM.1 0 _ rfl) rfl) q1104 q1105 q1106 q68 q1107 ndX4_begins rfl (by rw [hRf]; decide) (by rw [hRl]; decide) (Nat.zero_le _) (Nat.zero_le _) hl.1 rfl (Nat.le_of_ble_eq_true rfl) dX9_knows_6 ?_
  rintro _ H locs ⟨rfl, hP1⟩ hz1 hk1 hS1
  have hM : voH D dA tr rn s.heap H locs (t + 1) (upd T t (nI 12)) := ⟨hP1, voD hne _ _ _, hS1⟩
  refine lv_iload_n hx hb dX9_knows_9 rfl (lv_at hl 1 rfl) ?_
  refine lv_aload_n hx hb dX9_knows_10 rfl (lv_at hl 0 rfl) ?_
  refine c_get (v := .int mm) hx hb hts in_X14 hown hK (hO.kept (hM.2.2.2.1 x hO.lt hxA)) rfl 2 (by decide) q430 rfl rfl dX9_knows_11 ?_
  refine lv_isub hx hb dX9_knows_14 ?_
  exact hret (⟨rfl, hM.1⟩) hM.2.2 dX9_knows_15
set_option maxHeartbeats 400000 in
theorem vo_eats_0_5 {D : va_G} {dA : Nat → ClassId} (x tr rn w : Nat) (mm : Int32) (T : Nat → Int32) (t : Nat) (hne : tr ≠ rn) (hxA : ¬ voA tr rn x) (v : Int32) (ht : t + 3 ≤ 40) : Cg D dA (voA tr rn) yX9_eats cX9_eats 2 (some .int) 3 63 0 0 [.ref x, .int v] (fun H => va_P D cmCl (voWs dA tr rn t T) H ∧ cAt D x (.inr (15, [.ref tr, .int (nI w), .int mm])) H) (fun v' H => v' = some (.int (((v + (nI w)) * (nI 3)) * (nI 2))) ∧ va_P D cmCl (voWs dA tr rn (t + 1 + 1 + 1) (upd (upd (upd T t (nI 11)) (t + 1) (nI 30)) (t + 1 + 1) (nI 10))) H) := by
  refine Cg.ofI (by decide) (own := RX9) rfl (Nat.le_of_ble_eq_true rfl) ?_
  intro p l e R s m args below meth c Q ls hx hb hml hRf hRl hRc hRs hin hts hown hK hP hl hret
  have hl : lv_has ls 2 [(0, .ref x), (1, .int v)] := hl
  obtain ⟨hP, hO⟩ := hP
  have hM : voH D dA tr rn s.heap s.heap [] t T := ⟨hP, voD hne _ _ _, va_S.rf⟩
  refine lv_aload_n hx hb dX9_eats_0 rfl (lv_at hl 0 rfl) ?_
  refine c_get (v := .ref tr) hx hb hts in_X14 hown hK (hO.kept (hM.2.2.2.1 x hO.lt hxA)) rfl 0 (by decide) q414 rfl rfl dX9_eats_1 ?_
  refine lv_bipush (v := nI 11) hx hb dX9_eats_4 (by decide) ?_
  refine cg_callV (y := yX4_begins) hx hb hml hown hts hK hM.2.2 (vo_begins tr rn (t) 11 _ hne (by omega)) hM.1 (fun q hq => hq) (cAt.recv hK (hM.1 0 _ rfl) rfl) q1104 q1105 q1106 q68 q1107 ndX4_begins rfl (by rw [hRf]; decide) (by rw [hRl]; decide) (Nat.zero_le _) (Nat.zero_le _) hl.1 rfl (Nat.le_of_ble_eq_true rfl) dX9_eats_6 ?_
  rintro _ H locs ⟨rfl, hP1⟩ hz1 hk1 hS1
  have hM : voH D dA tr rn s.heap H locs (t + 1) (upd T t (nI 11)) := ⟨hP1, voD hne _ _ _, hS1⟩
  refine lv_aload_n hx hb dX9_eats_9 rfl (lv_at hl 0 rfl) ?_
  refine lv_iload_n hx hb dX9_eats_10 rfl (lv_at hl 1 rfl) ?_
  skip
  refine cg_callU (x := ⟨RX9, "wants", "(I)I"⟩) (y := yX11_wants) (C := RX14) (owner := RX9) hx hb hml hown hts hK hM.2.2 (vo_wants_2_5 x tr rn w mm _ (t + 1) hne hxA v (by omega)) ⟨hM.1, hO.kept (hM.2.2.2.1 x hO.lt hxA)⟩ (fun q hq => hq) ((hO.kept (hM.2.2.2.1 x hO.lt hxA)).recv hK rfl) (fun R hf hl => va_cwO 1 hts (lw_app (lw_6 q1141 q1837 q1101 q1843 q1123 q76) (lw_meth q1125)) rfl rfl rfl q1103 nw_X9_wants ⟨hf, hl⟩) rfl (by rw [hRf]; decide) (by rw [hRl]; decide) (Nat.zero_le _) (Nat.zero_le _) hl.1 rfl (Nat.le_of_ble_eq_true rfl) dX9_eats_11 ?_
  rintro _ H locs ⟨rfl, hP1⟩ hz1 hk1 hS1
  have hM : voH D dA tr rn s.heap H locs (t + 1 + 1 + 1) (upd (upd (upd T t (nI 11)) (t + 1) (nI 30)) (t + 1 + 1) (nI 10)) := ⟨hP1, voD hne _ _ _, hS1⟩
  refine lv_iconst (v := nI 2) hx hb dX9_eats_14 (by decide) ?_
  refine lv_imul hx hb dX9_eats_15 ?_
  exact hret (⟨rfl, hM.1⟩) hM.2.2 dX9_eats_16
set_option maxHeartbeats 400000 in
theorem vo_tells_0_5 {D : va_G} {dA : Nat → ClassId} (x tr rn w : Nat) (mm : Int32) (T : Nat → Int32) (t : Nat) (hne : tr ≠ rn) (hxA : ¬ voA tr rn x) (v : Int32) (ht : t + 5 ≤ 40) : Cg D dA (voA tr rn) yX9_tells cX9_tells 3 (some .int) 4 84 0 0 [.ref x, .int v] (fun H => va_P D cmCl (voWs dA tr rn t T) H ∧ cAt D x (.inr (15, [.ref tr, .int (nI w), .int mm])) H) (fun v' H => v' = some (.int ((((v + (nI w)) * (nI 3)) * (nI 2)) ^^^ (v - mm))) ∧ va_P D cmCl (voWs dA tr rn (t + 1 + 1 + 1 + 1 + 1) (upd (upd (upd (upd (upd T t (nI 13)) (t + 1) (nI 11)) (t + 1 + 1) (nI 30)) (t + 1 + 1 + 1) (nI 10)) (t + 1 + 1 + 1 + 1) (nI 12))) H) := by
  refine Cg.ofI (by decide) (own := RX9) rfl (Nat.le_of_ble_eq_true rfl) ?_
  intro p l e R s m args below meth c Q ls hx hb hml hRf hRl hRc hRs hin hts hown hK hP hl hret
  have hl : lv_has ls 3 [(0, .ref x), (1, .int v)] := hl
  obtain ⟨hP, hO⟩ := hP
  have hM : voH D dA tr rn s.heap s.heap [] t T := ⟨hP, voD hne _ _ _, va_S.rf⟩
  refine lv_aload_n hx hb dX9_tells_0 rfl (lv_at hl 0 rfl) ?_
  refine c_get (v := .ref tr) hx hb hts in_X14 hown hK (hO.kept (hM.2.2.2.1 x hO.lt hxA)) rfl 0 (by decide) q414 rfl rfl dX9_tells_1 ?_
  refine lv_bipush (v := nI 13) hx hb dX9_tells_4 (by decide) ?_
  refine cg_callV (y := yX4_begins) hx hb hml hown hts hK hM.2.2 (vo_begins tr rn (t) 13 _ hne (by omega)) hM.1 (fun q hq => hq) (cAt.recv hK (hM.1 0 _ rfl) rfl) q1104 q1105 q1106 q68 q1107 ndX4_begins rfl (by rw [hRf]; decide) (by rw [hRl]; decide) (Nat.zero_le _) (Nat.zero_le _) hl.1 rfl (Nat.le_of_ble_eq_true rfl) dX9_tells_6 ?_
  rintro _ H locs ⟨rfl, hP1⟩ hz1 hk1 hS1
  have hM : voH D dA tr rn s.heap H locs (t + 1) (upd T t (nI 13)) := ⟨hP1, voD hne _ _ _, hS1⟩
  refine lv_aload_n hx hb dX9_tells_9 rfl (lv_at hl 0 rfl) ?_
  refine lv_iload_n hx hb dX9_tells_10 rfl (lv_at hl 1 rfl) ?_
  have nq := hK.D 0 rfl
  refine cg_callU (x := ⟨RX9, "eats", "(I)I"⟩) (y := yX9_eats) (C := RX14) (owner := RX9) hx hb hml hown hts hK hM.2.2 (vo_eats_0_5 x tr rn w mm _ (t + 1) hne hxA v (by omega)) ⟨hM.1, hO.kept (hM.2.2.2.1 x hO.lt hxA)⟩ (fun q hq => hq) ((hO.kept (hM.2.2.2.1 x hO.lt hxA)).recv hK rfl) (fun R hf hl => va_cwA 1 hts (lw_app (lw_5 q1223 q1845 q1854 q1138 q74) (lw_meth q1140)) rfl rfl rfl nq nw_X9_eats ⟨hf, hl⟩) rfl (by rw [hRf]; decide) (by rw [hRl]; decide) (Nat.zero_le _) (Nat.zero_le _) hl.1 rfl (Nat.le_of_ble_eq_true rfl) dX9_tells_11 ?_
  rintro _ H locs ⟨rfl, hP1⟩ hz1 hk1 hS1
  have hM : voH D dA tr rn s.heap H locs (t + 1 + 1 + 1 + 1) (upd (upd (upd (upd T t (nI 13)) (t + 1) (nI 11)) (t + 1 + 1) (nI 30)) (t + 1 + 1 + 1) (nI 10)) := ⟨hP1, voD hne _ _ _, hS1⟩
  refine lv_istore_n (lv' := [(2, .int (((v + (nI w)) * (nI 3)) * (nI 2))), (0, .ref x), (1, .int v)]) hx hb dX9_tells_14 rfl hl (by decide) rfl (fun ls hl => ?_)
  refine lv_iload_n hx hb dX9_tells_15 rfl (lv_at hl 0 rfl) ?_
  refine lv_aload_n hx hb dX9_tells_16 rfl (lv_at hl 1 rfl) ?_
  refine lv_iload_n hx hb dX9_tells_17 rfl (lv_at hl 2 rfl) ?_
  have nq := hK.D 1 rfl
  refine cg_callU (x := ⟨RX9, "knows", "(I)I"⟩) (y := yX9_knows) (C := RX14) (owner := RX9) hx hb hml hown hts hK hM.2.2 (vo_knows_0_5 x tr rn w mm _ (t + 1 + 1 + 1 + 1) hne hxA v (by omega)) ⟨hM.1, hO.kept (hM.2.2.2.1 x hO.lt hxA)⟩ (fun q hq => hq) ((hO.kept (hM.2.2.2.1 x hO.lt hxA)).recv hK rfl) (fun R hf hl => va_cwA 1 hts (lw_app (lw_5 q1224 q1847 q1861 q1155 q74) (lw_meth q1156)) rfl rfl rfl nq nw_X9_knows ⟨hf, hl⟩) rfl (by rw [hRf]; decide) (by rw [hRl]; decide) (Nat.zero_le _) (Nat.zero_le _) hl.1 rfl (Nat.le_of_ble_eq_true rfl) dX9_tells_18 ?_
  rintro _ H locs ⟨rfl, hP1⟩ hz1 hk1 hS1
  have hM : voH D dA tr rn s.heap H locs (t + 1 + 1 + 1 + 1 + 1) (upd (upd (upd (upd (upd T t (nI 13)) (t + 1) (nI 11)) (t + 1 + 1) (nI 30)) (t + 1 + 1 + 1) (nI 10)) (t + 1 + 1 + 1 + 1) (nI 12)) := ⟨hP1, voD hne _ _ _, hS1⟩
  refine lv_ixor hx hb dX9_tells_21 ?_
  exact hret (⟨rfl, hM.1⟩) hM.2.2 dX9_tells_22
theorem nz_tells : ("tells" : String) ≠ "<init>" ∧ ("tells" : String) = yX9_tells.name ∧ ("(I)I" : String) = yX9_tells.desc ∧ (parseMethodDescriptor yX9_tells.desc).map (fun d => d.parameters.length) = some 1 := by decide +kernel
theorem nw_X11_wants : (RX11 : String) ≠ "java/lang/invoke/MethodHandle" ∧ (RX11 : String) ≠ "java/lang/invoke/VarHandle" ∧ (parseMethodDescriptor "(I)I").map (fun d => d.parameters.length) = some 1 := by decide +kernel

set_option maxHeartbeats 400000 in
theorem vo_tells_5_5 {D : va_G} {dA : Nat → ClassId} (x tr rn w : Nat) (mm : Int32) (T : Nat → Int32) (t : Nat) (hne : tr ≠ rn) (hxA : ¬ voA tr rn x) (v : Int32) (ht : t + 8 ≤ 40) : Cg D dA (voA tr rn) yX14_tells cX14_tells 3 (some .int) 5 106 0 0 [.ref x, .int v] (fun H => va_P D cmCl (voWs dA tr rn t T) H ∧ cAt D x (.inr (15, [.ref tr, .int (nI w), .int mm])) H) (fun v' H => v' = some (.int (((((v + (nI w)) * (nI 3)) * (nI 2)) ^^^ (v - mm)) - (((nI 2) + (nI w)) * (nI 3)))) ∧ va_P D cmCl (voWs dA tr rn (t + 1 + 1 + 1 + 1 + 1 + 1 + 1 + 1) (upd (upd (upd (upd (upd (upd (upd (upd T t (nI 60)) (t + 1) (nI 13)) (t + 1 + 1) (nI 11)) (t + 1 + 1 + 1) (nI 30)) (t + 1 + 1 + 1 + 1) (nI 10)) (t + 1 + 1 + 1 + 1 + 1) (nI 12)) (t + 1 + 1 + 1 + 1 + 1 + 1) (nI 30)) (t + 1 + 1 + 1 + 1 + 1 + 1 + 1) (nI 10))) H) := by
  refine Cg.ofI (by decide) (own := RX14) rfl (Nat.le_of_ble_eq_true rfl) ?_
  intro p l e R s m args below meth c Q ls hx hb hml hRf hRl hRc hRs hin hts hown hK hP hl hret
  have hl : lv_has ls 3 [(0, .ref x), (1, .int v)] := hl
  obtain ⟨hP, hO⟩ := hP
  have hM : voH D dA tr rn s.heap s.heap [] t T := ⟨hP, voD hne _ _ _, va_S.rf⟩
  refine lv_aload_n hx hb dX14_tells_0 rfl (lv_at hl 0 rfl) ?_
  refine c_getU (v := .ref tr) hx hb hts in_X14 hown hK (hO.kept (hM.2.2.2.1 x hO.lt hxA)) rfl 0 (by decide) q415 q416 rfl dX14_tells_1 ?_
  refine lv_bipush (v := nI 60) hx hb dX14_tells_4 (by decide) ?_
  refine cg_callV (y := yX4_begins) hx hb hml hown hts hK hM.2.2 (vo_begins tr rn (t) 60 _ hne (by omega)) hM.1 (fun q hq => hq) (cAt.recv hK (hM.1 0 _ rfl) rfl) q1253 q1105 q1106 q68 q1107 ndX4_begins rfl (by rw [hRf]; decide) (by rw [hRl]; decide) (Nat.zero_le _) (Nat.zero_le _) hl.1 rfl (Nat.le_of_ble_eq_true rfl) dX14_tells_6 ?_
  rintro _ H locs ⟨rfl, hP1⟩ hz1 hk1 hS1
  have hM : voH D dA tr rn s.heap H locs (t + 1) (upd T t (nI 60)) := ⟨hP1, voD hne _ _ _, hS1⟩
  refine lv_aload_n hx hb dX14_tells_9 rfl (lv_at hl 0 rfl) ?_
  refine lv_iload_n hx hb dX14_tells_10 rfl (lv_at hl 1 rfl) ?_
  refine cg_callSX (x := ⟨RX11, "tells", "(I)I"⟩) (y := yX9_tells) (C := RX14) hx hb hml hown hts hK hM.2.2 (hK.1.1 15 _ rfl).2 (vo_tells_0_5 x tr rn w mm _ (t + 1) hne hxA v (by omega)) ⟨hM.1, hO.kept (hM.2.2.2.1 x hO.lt hxA)⟩ (fun q hq => hq) ((hO.kept (hM.2.2.2.1 x hO.lt hxA)).recv hK rfl) q1254 q1255 q486 q456 q1220 q74 q1222 nz_tells rfl (by rw [hRf]; decide) (by rw [hRl]; decide) (Nat.zero_le _) (Nat.zero_le _) hl.1 rfl (Nat.le_of_ble_eq_true rfl) dX14_tells_11 ?_
  rintro _ H locs ⟨rfl, hP1⟩ hz1 hk1 hS1
  have hM : voH D dA tr rn s.heap H locs (t + 1 + 1 + 1 + 1 + 1 + 1) (upd (upd (upd (upd (upd (upd T t (nI 60)) (t + 1) (nI 13)) (t + 1 + 1) (nI 11)) (t + 1 + 1 + 1) (nI 30)) (t + 1 + 1 + 1 + 1) (nI 10)) (t + 1 + 1 + 1 + 1 + 1) (nI 12)) := ⟨hP1, voD hne _ _ _, hS1⟩
  refine lv_istore_n (lv' := [(2, .int ((((v + (nI w)) * (nI 3)) * (nI 2)) ^^^ (v - mm))), (0, .ref x), (1, .int v)]) hx hb dX14_tells_14 rfl hl (by decide) rfl (fun ls hl => ?_)
  refine lv_iload_n hx hb dX14_tells_15 rfl (lv_at hl 0 rfl) ?_
  refine lv_aload_n hx hb dX14_tells_16 rfl (lv_at hl 1 rfl) ?_
  refine lv_iconst (v := nI 2) hx hb dX14_tells_17 (by decide) ?_
  have nq := hK.D 11 rfl
  refine cg_callU (x := ⟨RX14, "wants", "(I)I"⟩) (y := yX11_wants) (C := RX14) (owner := RX11) hx hb hml hown hts hK hM.2.2 (vo_wants_2_5 x tr rn w mm _ (t + 1 + 1 + 1 + 1 + 1 + 1) hne hxA (nI 2) (by omega)) ⟨hM.1, hO.kept (hM.2.2.2.1 x hO.lt hxA)⟩ (fun q hq => hq) ((hO.kept (hM.2.2.2.1 x hO.lt hxA)).recv hK rfl) (fun R hf hl => va_cwA 1 hts (lw_app (lw_5 q1256 q1257 q1259 q1123 q76) (lw_meth q1125)) rfl rfl rfl nq nw_X11_wants ⟨hf, hl⟩) rfl (by rw [hRf]; decide) (by rw [hRl]; decide) (Nat.zero_le _) (Nat.zero_le _) hl.1 rfl (Nat.le_of_ble_eq_true rfl) dX14_tells_18 ?_
  rintro _ H locs ⟨rfl, hP1⟩ hz1 hk1 hS1
  have hM : voH D dA tr rn s.heap H locs (t + 1 + 1 + 1 + 1 + 1 + 1 + 1 + 1) (upd (upd (upd (upd (upd (upd (upd (upd T t (nI 60)) (t + 1) (nI 13)) (t + 1 + 1) (nI 11)) (t + 1 + 1 + 1) (nI 30)) (t + 1 + 1 + 1 + 1) (nI 10)) (t + 1 + 1 + 1 + 1 + 1) (nI 12)) (t + 1 + 1 + 1 + 1 + 1 + 1) (nI 30)) (t + 1 + 1 + 1 + 1 + 1 + 1 + 1) (nI 10)) := ⟨hP1, voD hne _ _ _, hS1⟩
  refine lv_isub hx hb dX14_tells_21 ?_
  exact hret (⟨rfl, hM.1⟩) hM.2.2 dX14_tells_22
set_option maxHeartbeats 400000 in
theorem vo_wants_0_6 {D : va_G} {dA : Nat → ClassId} (x tr rn w : Nat) (mm : Int32) (T : Nat → Int32) (t : Nat) (hne : tr ≠ rn) (hxA : ¬ voA tr rn x) (v : Int32) (ht : t + 1 ≤ 40) : Cg D dA (voA tr rn) yX9_wants cX9_wants 2 (some .int) 1 21 0 0 [.ref x, .int v] (fun H => va_P D cmCl (voWs dA tr rn t T) H ∧ cAt D x (.inr (16, [.ref tr, .int (nI w), .int mm])) H) (fun v' H => v' = some (.int (v + (nI w))) ∧ va_P D cmCl (voWs dA tr rn (t + 1) (upd T t (nI 10))) H) := by
  refine Cg.ofI (by decide) (own := RX9) rfl (Nat.le_of_ble_eq_true rfl) ?_
  intro p l e R s m args below meth c Q ls hx hb hml hRf hRl hRc hRs hin hts hown hK hP hl hret
  have hl : lv_has ls 2 [(0, .ref x), (1, .int v)] := hl
  obtain ⟨hP, hO⟩ := hP
  have hM : voH D dA tr rn s.heap s.heap [] t T := ⟨hP, voD hne _ _ _, va_S.rf⟩
  refine lv_aload_n hx hb dX9_wants_0 rfl (lv_at hl 0 rfl) ?_
  refine c_get (v := .ref tr) hx hb hts in_X15 hown hK (hO.kept (hM.2.2.2.1 x hO.lt hxA)) rfl 0 (by decide) q414 rfl rfl dX9_wants_1 ?_
  refine lv_bipush (v := nI 10) hx hb dX9_wants_4 (by decide) ?_
  refine cg_callV (y := yX4_begins) hx hb hml hown hts hK hM.2.2 (vo_begins tr rn (t) 10 _ hne (by omega)) hM.1 (fun q hq => hq) (cAt.recv hK (hM.1 0 _ rfl) rfl) q1104 q1105 q1106 q68 q1107 ndX4_begins rfl (by rw [hRf]; decide) (by rw [hRl]; decide) (Nat.zero_le _) (Nat.zero_le _) hl.1 rfl (Nat.le_of_ble_eq_true rfl) dX9_wants_6 ?_
  rintro _ H locs ⟨rfl, hP1⟩ hz1 hk1 hS1
  have hM : voH D dA tr rn s.heap H locs (t + 1) (upd T t (nI 10)) := ⟨hP1, voD hne _ _ _, hS1⟩
  refine lv_iload_n hx hb dX9_wants_9 rfl (lv_at hl 1 rfl) ?_
  refine lv_aload_n hx hb dX9_wants_10 rfl (lv_at hl 0 rfl) ?_
  refine c_get (v := .int (nI w)) hx hb hts in_X15 hown hK (hO.kept (hM.2.2.2.1 x hO.lt hxA)) rfl 1 (by decide) q427 rfl rfl dX9_wants_11 ?_
  refine lv_iadd hx hb dX9_wants_14 ?_
  exact hret (⟨rfl, hM.1⟩) hM.2.2 dX9_wants_15
set_option maxHeartbeats 400000 in
theorem vo_knows_0_6 {D : va_G} {dA : Nat → ClassId} (x tr rn w : Nat) (mm : Int32) (T : Nat → Int32) (t : Nat) (hne : tr ≠ rn) (hxA : ¬ voA tr rn x) (v : Int32) (ht : t + 1 ≤ 40) : Cg D dA (voA tr rn) yX9_knows cX9_knows 2 (some .int) 1 21 0 0 [.ref x, .int v] (fun H => va_P D cmCl (voWs dA tr rn t T) H ∧ cAt D x (.inr (16, [.ref tr, .int (nI w), .int mm])) H) (fun v' H => v' = some (.int (v - mm)) ∧ va_P D cmCl (voWs dA tr rn (t + 1) (upd T t (nI 12))) H) := by
  refine Cg.ofI (by decide) (own := RX9) rfl (Nat.le_of_ble_eq_true rfl) ?_
  intro p l e R s m args below meth c Q ls hx hb hml hRf hRl hRc hRs hin hts hown hK hP hl hret
  have hl : lv_has ls 2 [(0, .ref x), (1, .int v)] := hl
  obtain ⟨hP, hO⟩ := hP
  have hM : voH D dA tr rn s.heap s.heap [] t T := ⟨hP, voD hne _ _ _, va_S.rf⟩
  refine lv_aload_n hx hb dX9_knows_0 rfl (lv_at hl 0 rfl) ?_
  refine c_get (v := .ref tr) hx hb hts in_X15 hown hK (hO.kept (hM.2.2.2.1 x hO.lt hxA)) rfl 0 (by decide) q414 rfl rfl dX9_knows_1 ?_
  refine lv_bipush (v := nI 12) hx hb dX9_knows_4 (by decide) ?_
  refine cg_callV (y := yX4_begins) hx hb hml hown hts hK hM.2.2 (vo_begins tr rn (t) 12 _ hne (by omega)) hM.1 (fun q hq => hq) (cAt.recv hK (hM.1 0 _ rfl) rfl) q1104 q1105 q1106 q68 q1107 ndX4_begins rfl (by rw [hRf]; decide) (by rw [hRl]; decide) (Nat.zero_le _) (Nat.zero_le _) hl.1 rfl (Nat.le_of_ble_eq_true rfl) dX9_knows_6 ?_
  rintro _ H locs ⟨rfl, hP1⟩ hz1 hk1 hS1
  have hM : voH D dA tr rn s.heap H locs (t + 1) (upd T t (nI 12)) := ⟨hP1, voD hne _ _ _, hS1⟩
  refine lv_iload_n hx hb dX9_knows_9 rfl (lv_at hl 1 rfl) ?_
  refine lv_aload_n hx hb dX9_knows_10 rfl (lv_at hl 0 rfl) ?_
  refine c_get (v := .int mm) hx hb hts in_X15 hown hK (hO.kept (hM.2.2.2.1 x hO.lt hxA)) rfl 2 (by decide) q430 rfl rfl dX9_knows_11 ?_
  refine lv_isub hx hb dX9_knows_14 ?_
  exact hret (⟨rfl, hM.1⟩) hM.2.2 dX9_knows_15
set_option maxHeartbeats 400000 in
theorem vo_knows_3_6 {D : va_G} {dA : Nat → ClassId} (x tr rn w : Nat) (mm : Int32) (T : Nat → Int32) (t : Nat) (hne : tr ≠ rn) (hxA : ¬ voA tr rn x) (v : Int32) (ht : t + 2 ≤ 40) : Cg D dA (voA tr rn) yX12_knows cX12_knows 2 (some .int) 2 42 0 0 [.ref x, .int v] (fun H => va_P D cmCl (voWs dA tr rn t T) H ∧ cAt D x (.inr (16, [.ref tr, .int (nI w), .int mm])) H) (fun v' H => v' = some (.int (-(v - mm))) ∧ va_P D cmCl (voWs dA tr rn (t + 1 + 1) (upd (upd T t (nI 40)) (t + 1) (nI 12))) H) := by
  refine Cg.ofI (by decide) (own := RX12) rfl (Nat.le_of_ble_eq_true rfl) ?_
  intro p l e R s m args below meth c Q ls hx hb hml hRf hRl hRc hRs hin hts hown hK hP hl hret
  have hl : lv_has ls 2 [(0, .ref x), (1, .int v)] := hl
  obtain ⟨hP, hO⟩ := hP
  have hM : voH D dA tr rn s.heap s.heap [] t T := ⟨hP, voD hne _ _ _, va_S.rf⟩
  refine lv_aload_n hx hb dX12_knows_0 rfl (lv_at hl 0 rfl) ?_
  refine c_getU (v := .ref tr) hx hb hts in_X15 hown hK (hO.kept (hM.2.2.2.1 x hO.lt hxA)) rfl 0 (by decide) q421 q422 rfl dX12_knows_1 ?_
  refine lv_bipush (v := nI 40) hx hb dX12_knows_4 (by decide) ?_
  refine cg_callV (y := yX4_begins) hx hb hml hown hts hK hM.2.2 (vo_begins tr rn (t) 40 _ hne (by omega)) hM.1 (fun q hq => hq) (cAt.recv hK (hM.1 0 _ rfl) rfl) q1194 q1105 q1106 q68 q1107 ndX4_begins rfl (by rw [hRf]; decide) (by rw [hRl]; decide) (Nat.zero_le _) (Nat.zero_le _) hl.1 rfl (Nat.le_of_ble_eq_true rfl) dX12_knows_6 ?_
  rintro _ H locs ⟨rfl, hP1⟩ hz1 hk1 hS1
  have hM : voH D dA tr rn s.heap H locs (t + 1) (upd T t (nI 40)) := ⟨hP1, voD hne _ _ _, hS1⟩
  refine lv_aload_n hx hb dX12_knows_9 rfl (lv_at hl 0 rfl) ?_
  refine lv_iload_n hx hb dX12_knows_10 rfl (lv_at hl 1 rfl) ?_
  refine cg_callSU (y := yX9_knows) (C := RX15) hx hb hml hown hts hK hM.2.2 (hK.1.1 16 _ rfl).2 (vo_knows_0_6 x tr rn w mm _ (t + 1) hne hxA v (by omega)) ⟨hM.1, hO.kept (hM.2.2.2.1 x hO.lt hxA)⟩ (fun q hq => hq) ((hO.kept (hM.2.2.2.1 x hO.lt hxA)).recv hK rfl) q1195 q1847 q466 q1155 q74 q1156 nsX9_knows rfl (by rw [hRf]; decide) (by rw [hRl]; decide) (Nat.zero_le _) (Nat.zero_le _) hl.1 rfl (Nat.le_of_ble_eq_true rfl) dX12_knows_11 ?_
  rintro _ H locs ⟨rfl, hP1⟩ hz1 hk1 hS1
  have hM : voH D dA tr rn s.heap H locs (t + 1 + 1) (upd (upd T t (nI 40)) (t + 1) (nI 12)) := ⟨hP1, voD hne _ _ _, hS1⟩
  refine lv_ineg hx hb dX12_knows_14 ?_
  exact hret (⟨rfl, hM.1⟩) hM.2.2 dX12_knows_15
theorem nsX12_knows : yX12_knows.name ≠ "<init>" ∧ (parseMethodDescriptor yX12_knows.desc).map (fun d => d.parameters.length) = some 1 := by decide +kernel

set_option maxHeartbeats 400000 in
theorem vo_knows_6_6 {D : va_G} {dA : Nat → ClassId} (x tr rn w : Nat) (mm : Int32) (T : Nat → Int32) (t : Nat) (hne : tr ≠ rn) (hxA : ¬ voA tr rn x) (v : Int32) (ht : t + 3 ≤ 40) : Cg D dA (voA tr rn) yX15_knows cX15_knows 2 (some .int) 3 63 0 0 [.ref x, .int v] (fun H => va_P D cmCl (voWs dA tr rn t T) H ∧ cAt D x (.inr (16, [.ref tr, .int (nI w), .int mm])) H) (fun v' H => v' = some (.int ((-(v - mm)) ^^^ (nI w))) ∧ va_P D cmCl (voWs dA tr rn (t + 1 + 1 + 1) (upd (upd (upd T t (nI 70)) (t + 1) (nI 40)) (t + 1 + 1) (nI 12))) H) := by
  refine Cg.ofI (by decide) (own := RX15) rfl (Nat.le_of_ble_eq_true rfl) ?_
  intro p l e R s m args below meth c Q ls hx hb hml hRf hRl hRc hRs hin hts hown hK hP hl hret
  have hl : lv_has ls 2 [(0, .ref x), (1, .int v)] := hl
  obtain ⟨hP, hO⟩ := hP
  have hM : voH D dA tr rn s.heap s.heap [] t T := ⟨hP, voD hne _ _ _, va_S.rf⟩
  refine lv_aload_n hx hb dX15_knows_0 rfl (lv_at hl 0 rfl) ?_
  refine c_getU (v := .ref tr) hx hb hts in_X15 hown hK (hO.kept (hM.2.2.2.1 x hO.lt hxA)) rfl 0 (by decide) q423 q424 rfl dX15_knows_1 ?_
  refine lv_bipush (v := nI 70) hx hb dX15_knows_4 (by decide) ?_
  refine cg_callV (y := yX4_begins) hx hb hml hown hts hK hM.2.2 (vo_begins tr rn (t) 70 _ hne (by omega)) hM.1 (fun q hq => hq) (cAt.recv hK (hM.1 0 _ rfl) rfl) q1205 q1105 q1106 q68 q1107 ndX4_begins rfl (by rw [hRf]; decide) (by rw [hRl]; decide) (Nat.zero_le _) (Nat.zero_le _) hl.1 rfl (Nat.le_of_ble_eq_true rfl) dX15_knows_6 ?_
  rintro _ H locs ⟨rfl, hP1⟩ hz1 hk1 hS1
  have hM : voH D dA tr rn s.heap H locs (t + 1) (upd T t (nI 70)) := ⟨hP1, voD hne _ _ _, hS1⟩
  refine lv_aload_n hx hb dX15_knows_9 rfl (lv_at hl 0 rfl) ?_
  refine lv_iload_n hx hb dX15_knows_10 rfl (lv_at hl 1 rfl) ?_
  refine cg_callSU (y := yX12_knows) (C := RX15) hx hb hml hown hts hK hM.2.2 (hK.1.1 16 _ rfl).2 (vo_knows_3_6 x tr rn w mm _ (t + 1) hne hxA v (by omega)) ⟨hM.1, hO.kept (hM.2.2.2.1 x hO.lt hxA)⟩ (fun q hq => hq) ((hO.kept (hM.2.2.2.1 x hO.lt hxA)).recv hK rfl) q1206 q1848 q496 q1191 q77 q1193 nsX12_knows rfl (by rw [hRf]; decide) (by rw [hRl]; decide) (Nat.zero_le _) (Nat.zero_le _) hl.1 rfl (Nat.le_of_ble_eq_true rfl) dX15_knows_11 ?_
  rintro _ H locs ⟨rfl, hP1⟩ hz1 hk1 hS1
  have hM : voH D dA tr rn s.heap H locs (t + 1 + 1 + 1) (upd (upd (upd T t (nI 70)) (t + 1) (nI 40)) (t + 1 + 1) (nI 12)) := ⟨hP1, voD hne _ _ _, hS1⟩
  refine lv_aload_n hx hb dX15_knows_14 rfl (lv_at hl 0 rfl) ?_
  refine c_getU (v := .int (nI w)) hx hb hts in_X15 hown hK (hO.kept (hM.2.2.2.1 x hO.lt hxA)) rfl 1 (by decide) q428 q429 rfl dX15_knows_15 ?_
  refine lv_ixor hx hb dX15_knows_18 ?_
  exact hret (⟨rfl, hM.1⟩) hM.2.2 dX15_knows_19
set_option maxHeartbeats 400000 in
theorem vo_eats_0_6 {D : va_G} {dA : Nat → ClassId} (x tr rn w : Nat) (mm : Int32) (T : Nat → Int32) (t : Nat) (hne : tr ≠ rn) (hxA : ¬ voA tr rn x) (v : Int32) (ht : t + 2 ≤ 40) : Cg D dA (voA tr rn) yX9_eats cX9_eats 2 (some .int) 2 42 0 0 [.ref x, .int v] (fun H => va_P D cmCl (voWs dA tr rn t T) H ∧ cAt D x (.inr (16, [.ref tr, .int (nI w), .int mm])) H) (fun v' H => v' = some (.int ((v + (nI w)) * (nI 2))) ∧ va_P D cmCl (voWs dA tr rn (t + 1 + 1) (upd (upd T t (nI 11)) (t + 1) (nI 10))) H) := by
  refine Cg.ofI (by decide) (own := RX9) rfl (Nat.le_of_ble_eq_true rfl) ?_
  intro p l e R s m args below meth c Q ls hx hb hml hRf hRl hRc hRs hin hts hown hK hP hl hret
  have hl : lv_has ls 2 [(0, .ref x), (1, .int v)] := hl
  obtain ⟨hP, hO⟩ := hP
  have hM : voH D dA tr rn s.heap s.heap [] t T := ⟨hP, voD hne _ _ _, va_S.rf⟩
  refine lv_aload_n hx hb dX9_eats_0 rfl (lv_at hl 0 rfl) ?_
  refine c_get (v := .ref tr) hx hb hts in_X15 hown hK (hO.kept (hM.2.2.2.1 x hO.lt hxA)) rfl 0 (by decide) q414 rfl rfl dX9_eats_1 ?_
  refine lv_bipush (v := nI 11) hx hb dX9_eats_4 (by decide) ?_
  refine cg_callV (y := yX4_begins) hx hb hml hown hts hK hM.2.2 (vo_begins tr rn (t) 11 _ hne (by omega)) hM.1 (fun q hq => hq) (cAt.recv hK (hM.1 0 _ rfl) rfl) q1104 q1105 q1106 q68 q1107 ndX4_begins rfl (by rw [hRf]; decide) (by rw [hRl]; decide) (Nat.zero_le _) (Nat.zero_le _) hl.1 rfl (Nat.le_of_ble_eq_true rfl) dX9_eats_6 ?_
  rintro _ H locs ⟨rfl, hP1⟩ hz1 hk1 hS1
  have hM : voH D dA tr rn s.heap H locs (t + 1) (upd T t (nI 11)) := ⟨hP1, voD hne _ _ _, hS1⟩
  refine lv_aload_n hx hb dX9_eats_9 rfl (lv_at hl 0 rfl) ?_
  refine lv_iload_n hx hb dX9_eats_10 rfl (lv_at hl 1 rfl) ?_
  skip
  refine cg_callU (x := ⟨RX9, "wants", "(I)I"⟩) (y := yX9_wants) (C := RX15) (owner := RX9) hx hb hml hown hts hK hM.2.2 (vo_wants_0_6 x tr rn w mm _ (t + 1) hne hxA v (by omega)) ⟨hM.1, hO.kept (hM.2.2.2.1 x hO.lt hxA)⟩ (fun q hq => hq) ((hO.kept (hM.2.2.2.1 x hO.lt hxA)).recv hK rfl) (fun R hf hl => va_cwO 1 hts (lw_app (lw_6 q1141 q1837 q1101 q1842 q1101 q74) (lw_meth q1103)) rfl rfl rfl q1103 nw_X9_wants ⟨hf, hl⟩) rfl (by rw [hRf]; decide) (by rw [hRl]; decide) (Nat.zero_le _) (Nat.zero_le _) hl.1 rfl (Nat.le_of_ble_eq_true rfl) dX9_eats_11 ?_
  rintro _ H locs ⟨rfl, hP1⟩ hz1 hk1 hS1
  have hM : voH D dA tr rn s.heap H locs (t + 1 + 1) (upd (upd T t (nI 11)) (t + 1) (nI 10)) := ⟨hP1, voD hne _ _ _, hS1⟩
  refine lv_iconst (v := nI 2) hx hb dX9_eats_14 (by decide) ?_
  refine lv_imul hx hb dX9_eats_15 ?_
  exact hret (⟨rfl, hM.1⟩) hM.2.2 dX9_eats_16
set_option maxHeartbeats 400000 in
theorem vo_tells_0_6 {D : va_G} {dA : Nat → ClassId} (x tr rn w : Nat) (mm : Int32) (T : Nat → Int32) (t : Nat) (hne : tr ≠ rn) (hxA : ¬ voA tr rn x) (v : Int32) (ht : t + 6 ≤ 40) : Cg D dA (voA tr rn) yX9_tells cX9_tells 3 (some .int) 4 84 0 0 [.ref x, .int v] (fun H => va_P D cmCl (voWs dA tr rn t T) H ∧ cAt D x (.inr (16, [.ref tr, .int (nI w), .int mm])) H) (fun v' H => v' = some (.int (((v + (nI w)) * (nI 2)) ^^^ ((-(v - mm)) ^^^ (nI w)))) ∧ va_P D cmCl (voWs dA tr rn (t + 1 + 1 + 1 + 1 + 1 + 1) (upd (upd (upd (upd (upd (upd T t (nI 13)) (t + 1) (nI 11)) (t + 1 + 1) (nI 10)) (t + 1 + 1 + 1) (nI 70)) (t + 1 + 1 + 1 + 1) (nI 40)) (t + 1 + 1 + 1 + 1 + 1) (nI 12))) H) := by
  refine Cg.ofI (by decide) (own := RX9) rfl (Nat.le_of_ble_eq_true rfl) ?_
  intro p l e R s m args below meth c Q ls hx hb hml hRf hRl hRc hRs hin hts hown hK hP hl hret
  have hl : lv_has ls 3 [(0, .ref x), (1, .int v)] := hl
  obtain ⟨hP, hO⟩ := hP
  have hM : voH D dA tr rn s.heap s.heap [] t T := ⟨hP, voD hne _ _ _, va_S.rf⟩
  refine lv_aload_n hx hb dX9_tells_0 rfl (lv_at hl 0 rfl) ?_
  refine c_get (v := .ref tr) hx hb hts in_X15 hown hK (hO.kept (hM.2.2.2.1 x hO.lt hxA)) rfl 0 (by decide) q414 rfl rfl dX9_tells_1 ?_
  refine lv_bipush (v := nI 13) hx hb dX9_tells_4 (by decide) ?_
  refine cg_callV (y := yX4_begins) hx hb hml hown hts hK hM.2.2 (vo_begins tr rn (t) 13 _ hne (by omega)) hM.1 (fun q hq => hq) (cAt.recv hK (hM.1 0 _ rfl) rfl) q1104 q1105 q1106 q68 q1107 ndX4_begins rfl (by rw [hRf]; decide) (by rw [hRl]; decide) (Nat.zero_le _) (Nat.zero_le _) hl.1 rfl (Nat.le_of_ble_eq_true rfl) dX9_tells_6 ?_
  rintro _ H locs ⟨rfl, hP1⟩ hz1 hk1 hS1
  have hM : voH D dA tr rn s.heap H locs (t + 1) (upd T t (nI 13)) := ⟨hP1, voD hne _ _ _, hS1⟩
  refine lv_aload_n hx hb dX9_tells_9 rfl (lv_at hl 0 rfl) ?_
  refine lv_iload_n hx hb dX9_tells_10 rfl (lv_at hl 1 rfl) ?_
  have nq := hK.D 0 rfl
  refine cg_callU (x := ⟨RX9, "eats", "(I)I"⟩) (y := yX9_eats) (C := RX15) (owner := RX9) hx hb hml hown hts hK hM.2.2 (vo_eats_0_6 x tr rn w mm _ (t + 1) hne hxA v (by omega)) ⟨hM.1, hO.kept (hM.2.2.2.1 x hO.lt hxA)⟩ (fun q hq => hq) ((hO.kept (hM.2.2.2.1 x hO.lt hxA)).recv hK rfl) (fun R hf hl => va_cwA 1 hts (lw_app (lw_5 q1223 q1845 q1853 q1138 q74) (lw_meth q1140)) rfl rfl rfl nq nw_X9_eats ⟨hf, hl⟩) rfl (by rw [hRf]; decide) (by rw [hRl]; decide) (Nat.zero_le _) (Nat.zero_le _) hl.1 rfl (Nat.le_of_ble_eq_true rfl) dX9_tells_11 ?_
  rintro _ H locs ⟨rfl, hP1⟩ hz1 hk1 hS1
  have hM : voH D dA tr rn s.heap H locs (t + 1 + 1 + 1) (upd (upd (upd T t (nI 13)) (t + 1) (nI 11)) (t + 1 + 1) (nI 10)) := ⟨hP1, voD hne _ _ _, hS1⟩
  refine lv_istore_n (lv' := [(2, .int ((v + (nI w)) * (nI 2))), (0, .ref x), (1, .int v)]) hx hb dX9_tells_14 rfl hl (by decide) rfl (fun ls hl => ?_)
  refine lv_iload_n hx hb dX9_tells_15 rfl (lv_at hl 0 rfl) ?_
  refine lv_aload_n hx hb dX9_tells_16 rfl (lv_at hl 1 rfl) ?_
  refine lv_iload_n hx hb dX9_tells_17 rfl (lv_at hl 2 rfl) ?_
  have nq := hK.D 1 rfl
  refine cg_callU (x := ⟨RX9, "knows", "(I)I"⟩) (y := yX15_knows) (C := RX15) (owner := RX9) hx hb hml hown hts hK hM.2.2 (vo_knows_6_6 x tr rn w mm _ (t + 1 + 1 + 1) hne hxA v (by omega)) ⟨hM.1, hO.kept (hM.2.2.2.1 x hO.lt hxA)⟩ (fun q hq => hq) ((hO.kept (hM.2.2.2.1 x hO.lt hxA)).recv hK rfl) (fun R hf hl => va_cwA 1 hts (lw_app (lw_5 q1224 q1847 q1860 q1202 q80) (lw_meth q1204)) rfl rfl rfl nq nw_X9_knows ⟨hf, hl⟩) rfl (by rw [hRf]; decide) (by rw [hRl]; decide) (Nat.zero_le _) (Nat.zero_le _) hl.1 rfl (Nat.le_of_ble_eq_true rfl) dX9_tells_18 ?_
  rintro _ H locs ⟨rfl, hP1⟩ hz1 hk1 hS1
  have hM : voH D dA tr rn s.heap H locs (t + 1 + 1 + 1 + 1 + 1 + 1) (upd (upd (upd (upd (upd (upd T t (nI 13)) (t + 1) (nI 11)) (t + 1 + 1) (nI 10)) (t + 1 + 1 + 1) (nI 70)) (t + 1 + 1 + 1 + 1) (nI 40)) (t + 1 + 1 + 1 + 1 + 1) (nI 12)) := ⟨hP1, voD hne _ _ _, hS1⟩
  refine lv_ixor hx hb dX9_tells_21 ?_
  exact hret (⟨rfl, hM.1⟩) hM.2.2 dX9_tells_22
set_option maxHeartbeats 400000 in
theorem vo_tells_6_6 {D : va_G} {dA : Nat → ClassId} (x tr rn w : Nat) (mm : Int32) (T : Nat → Int32) (t : Nat) (hne : tr ≠ rn) (hxA : ¬ voA tr rn x) (v : Int32) (ht : t + 9 ≤ 40) : Cg D dA (voA tr rn) yX15_tells cX15_tells 3 (some .int) 5 106 0 0 [.ref x, .int v] (fun H => va_P D cmCl (voWs dA tr rn t T) H ∧ cAt D x (.inr (16, [.ref tr, .int (nI w), .int mm])) H) (fun v' H => v' = some (.int (((v + (nI w)) * (nI 2)) - (((v + (nI w)) * (nI 2)) ^^^ ((-(v - mm)) ^^^ (nI w))))) ∧ va_P D cmCl (voWs dA tr rn (t + 1 + 1 + 1 + 1 + 1 + 1 + 1 + 1 + 1) (upd (upd (upd (upd (upd (upd (upd (upd (upd T t (nI 71)) (t + 1) (nI 11)) (t + 1 + 1) (nI 10)) (t + 1 + 1 + 1) (nI 13)) (t + 1 + 1 + 1 + 1) (nI 11)) (t + 1 + 1 + 1 + 1 + 1) (nI 10)) (t + 1 + 1 + 1 + 1 + 1 + 1) (nI 70)) (t + 1 + 1 + 1 + 1 + 1 + 1 + 1) (nI 40)) (t + 1 + 1 + 1 + 1 + 1 + 1 + 1 + 1) (nI 12))) H) := by
  refine Cg.ofI (by decide) (own := RX15) rfl (Nat.le_of_ble_eq_true rfl) ?_
  intro p l e R s m args below meth c Q ls hx hb hml hRf hRl hRc hRs hin hts hown hK hP hl hret
  have hl : lv_has ls 3 [(0, .ref x), (1, .int v)] := hl
  obtain ⟨hP, hO⟩ := hP
  have hM : voH D dA tr rn s.heap s.heap [] t T := ⟨hP, voD hne _ _ _, va_S.rf⟩
  refine lv_aload_n hx hb dX15_tells_0 rfl (lv_at hl 0 rfl) ?_
  refine c_getU (v := .ref tr) hx hb hts in_X15 hown hK (hO.kept (hM.2.2.2.1 x hO.lt hxA)) rfl 0 (by decide) q423 q424 rfl dX15_tells_1 ?_
  refine lv_bipush (v := nI 71) hx hb dX15_tells_4 (by decide) ?_
  refine cg_callV (y := yX4_begins) hx hb hml hown hts hK hM.2.2 (vo_begins tr rn (t) 71 _ hne (by omega)) hM.1 (fun q hq => hq) (cAt.recv hK (hM.1 0 _ rfl) rfl) q1205 q1105 q1106 q68 q1107 ndX4_begins rfl (by rw [hRf]; decide) (by rw [hRl]; decide) (Nat.zero_le _) (Nat.zero_le _) hl.1 rfl (Nat.le_of_ble_eq_true rfl) dX15_tells_6 ?_
  rintro _ H locs ⟨rfl, hP1⟩ hz1 hk1 hS1
  have hM : voH D dA tr rn s.heap H locs (t + 1) (upd T t (nI 71)) := ⟨hP1, voD hne _ _ _, hS1⟩
  refine lv_aload_n hx hb dX15_tells_9 rfl (lv_at hl 0 rfl) ?_
  refine lv_iload_n hx hb dX15_tells_10 rfl (lv_at hl 1 rfl) ?_
  have nq := hK.D 0 rfl
  refine cg_callU (x := ⟨RX15, "eats", "(I)I"⟩) (y := yX9_eats) (C := RX15) (owner := RX9) hx hb hml hown hts hK hM.2.2 (vo_eats_0_6 x tr rn w mm _ (t + 1) hne hxA v (by omega)) ⟨hM.1, hO.kept (hM.2.2.2.1 x hO.lt hxA)⟩ (fun q hq => hq) ((hO.kept (hM.2.2.2.1 x hO.lt hxA)).recv hK rfl) (fun R hf hl => va_cwA 1 hts (lw_app (lw_5 q1240 q1241 q1243 q1138 q74) (lw_meth q1140)) rfl rfl rfl nq nw_X9_eats ⟨hf, hl⟩) rfl (by rw [hRf]; decide) (by rw [hRl]; decide) (Nat.zero_le _) (Nat.zero_le _) hl.1 rfl (Nat.le_of_ble_eq_true rfl) dX15_tells_11 ?_
  rintro _ H locs ⟨rfl, hP1⟩ hz1 hk1 hS1
  have hM : voH D dA tr rn s.heap H locs (t + 1 + 1 + 1) (upd (upd (upd T t (nI 71)) (t + 1) (nI 11)) (t + 1 + 1) (nI 10)) := ⟨hP1, voD hne _ _ _, hS1⟩
  refine lv_istore_n (lv' := [(2, .int ((v + (nI w)) * (nI 2))), (0, .ref x), (1, .int v)]) hx hb dX15_tells_14 rfl hl (by decide) rfl (fun ls hl => ?_)
  refine lv_iload_n hx hb dX15_tells_15 rfl (lv_at hl 0 rfl) ?_
  refine lv_aload_n hx hb dX15_tells_16 rfl (lv_at hl 1 rfl) ?_
  refine lv_iload_n hx hb dX15_tells_17 rfl (lv_at hl 2 rfl) ?_
  refine cg_callSX (x := ⟨RX12, "tells", "(I)I"⟩) (y := yX9_tells) (C := RX15) hx hb hml hown hts hK hM.2.2 (hK.1.1 16 _ rfl).2 (vo_tells_0_6 x tr rn w mm _ (t + 1 + 1 + 1) hne hxA v (by omega)) ⟨hM.1, hO.kept (hM.2.2.2.1 x hO.lt hxA)⟩ (fun q hq => hq) ((hO.kept (hM.2.2.2.1 x hO.lt hxA)).recv hK rfl) q1244 q1245 q496 q466 q1220 q74 q1222 nz_tells rfl (by rw [hRf]; decide) (by rw [hRl]; decide) (Nat.zero_le _) (Nat.zero_le _) hl.1 rfl (Nat.le_of_ble_eq_true rfl) dX15_tells_18 ?_
  rintro _ H locs ⟨rfl, hP1⟩ hz1 hk1 hS1
  have hM : voH D dA tr rn s.heap H locs (t + 1 + 1 + 1 + 1 + 1 + 1 + 1 + 1 + 1) (upd (upd (upd (upd (upd (upd (upd (upd (upd T t (nI 71)) (t + 1) (nI 11)) (t + 1 + 1) (nI 10)) (t + 1 + 1 + 1) (nI 13)) (t + 1 + 1 + 1 + 1) (nI 11)) (t + 1 + 1 + 1 + 1 + 1) (nI 10)) (t + 1 + 1 + 1 + 1 + 1 + 1) (nI 70)) (t + 1 + 1 + 1 + 1 + 1 + 1 + 1) (nI 40)) (t + 1 + 1 + 1 + 1 + 1 + 1 + 1 + 1) (nI 12)) := ⟨hP1, voD hne _ _ _, hS1⟩
  refine lv_isub hx hb dX15_tells_21 ?_
  exact hret (⟨rfl, hM.1⟩) hM.2.2 dX15_tells_22
