/-! cows are made (printed by comp30.py) -/
set_option maxRecDepth 100000
theorem g_oneS {D : va_G} {a : Nat} {e : va_E} {H0 H : Heap} {locs : List Loc} (h : cAt D a e H) (hS : va_S (fun q => q = a) H0 H locs) : gH D (fun q => q = a) [(a, e)] H0 H locs := ⟨h.P, (g_one h).2.1, hS⟩
theorem cAt.cl2 {D : va_G} {a ci cj : Nat} {fs : List Value} {H : Heap} (h : cAt D a (.inr (ci, fs)) H) (e : ci = cj) : cAt D a (.inr (cj, fs)) H := e ▸ h
theorem ndX9_init : yX9_init.name = "<init>" ∧ yX9_init.cls ≠ "java/lang/invoke/MethodHandle" ∧ yX9_init.cls ≠ "java/lang/invoke/VarHandle" ∧ (parseMethodDescriptor yX9_init.desc).map (fun d => d.parameters.length) = some 3 := by decide +kernel
set_option maxHeartbeats 400000 in
theorem ci_0_0 {D : va_G} {dA : Nat → ClassId} (x tr w : Nat) (mm : Int32) : Cg D dA (fun q => q = x) yX9_init cX9_init 4 none 1 21 0 0 [.ref x, .ref tr, .int (nI w), .int mm] (fun H => cAt D x (.inr (10, [.null, .int 0, .int 0])) H) (fun v' H => v' = none ∧ cAt D x (.inr (10, [.ref tr, .int (nI w), .int mm])) H) := by
  refine Cg.ofV (by decide) (own := RX9) rfl (Nat.le_of_ble_eq_true rfl) ?_
  intro p l e R s m args below meth c Q ls hx hb hml hRf hRl hRc hRs hin hts hown hK hP hl hret
  have hl : lv_has ls 4 [(0, .ref x), (1, .ref tr), (2, .int (nI w)), (3, .int mm)] := hl
  have hM := g_one hP
  refine lv_aload_n hx hb dX9_init_0 rfl (lv_at hl 0 rfl) ?_
  refine W.objInit hx hb hown (hts _ q413) (hts _ q103) (hts _ q104) rfl (by rw [hml]; exact hl.1) rfl dX9_init_1 (by rw [hRf]; exact Nat.le_of_ble_eq_true rfl) (by rw [hRl]; exact Nat.le_of_ble_eq_true rfl) ?_
  refine lv_aload_n hx hb dX9_init_4 rfl (lv_at hl 0 rfl) ?_
  refine lv_aload_n hx hb dX9_init_5 rfl (lv_at hl 1 rfl) ?_
  refine g_putF hx hb hts in_X9 tyX9 tyX9_ok nmX9 hown hK hM 0 rfl rfl 0 (by decide) q414 rfl rfl hin rfl rfl rfl (Nat.le_of_ble_eq_true rfl) dX9_init_6 (fun H locs hM => ?_)
  refine lv_aload_n hx hb dX9_init_9 rfl (lv_at hl 0 rfl) ?_
  refine lv_iload_n hx hb dX9_init_10 rfl (lv_at hl 2 rfl) ?_
  refine g_putF hx hb hts in_X9 tyX9 tyX9_ok nmX9 hown hK hM 0 rfl rfl 1 (by decide) q427 rfl rfl hin rfl rfl rfl (Nat.le_of_ble_eq_true rfl) dX9_init_11 (fun H locs hM => ?_)
  refine lv_aload_n hx hb dX9_init_14 rfl (lv_at hl 0 rfl) ?_
  refine lv_iload_n hx hb dX9_init_15 rfl (lv_at hl 3 rfl) ?_
  refine g_putF hx hb hts in_X9 tyX9 tyX9_ok nmX9 hown hK hM 0 rfl rfl 2 (by decide) q430 rfl rfl hin rfl rfl rfl (Nat.le_of_ble_eq_true rfl) dX9_init_16 (fun H locs hM => ?_)
  exact hret ⟨rfl, hM.1 0 _ rfl⟩ hM.2.2 dX9_init_19
set_option maxHeartbeats 400000 in
theorem ci_0_1 {D : va_G} {dA : Nat → ClassId} (x tr w : Nat) (mm : Int32) : Cg D dA (fun q => q = x) yX9_init cX9_init 4 none 1 21 0 0 [.ref x, .ref tr, .int (nI w), .int mm] (fun H => cAt D x (.inr (11, [.null, .int 0, .int 0])) H) (fun v' H => v' = none ∧ cAt D x (.inr (11, [.ref tr, .int (nI w), .int mm])) H) := by
  refine Cg.ofV (by decide) (own := RX9) rfl (Nat.le_of_ble_eq_true rfl) ?_
  intro p l e R s m args below meth c Q ls hx hb hml hRf hRl hRc hRs hin hts hown hK hP hl hret
  have hl : lv_has ls 4 [(0, .ref x), (1, .ref tr), (2, .int (nI w)), (3, .int mm)] := hl
  have hM := g_one hP
  refine lv_aload_n hx hb dX9_init_0 rfl (lv_at hl 0 rfl) ?_
  refine W.objInit hx hb hown (hts _ q413) (hts _ q103) (hts _ q104) rfl (by rw [hml]; exact hl.1) rfl dX9_init_1 (by rw [hRf]; exact Nat.le_of_ble_eq_true rfl) (by rw [hRl]; exact Nat.le_of_ble_eq_true rfl) ?_
  refine lv_aload_n hx hb dX9_init_4 rfl (lv_at hl 0 rfl) ?_
  refine lv_aload_n hx hb dX9_init_5 rfl (lv_at hl 1 rfl) ?_
  refine g_putF hx hb hts in_X10 tyX10 tyX10_ok nmX10 hown hK hM 0 rfl rfl 0 (by decide) q414 rfl rfl hin rfl rfl rfl (Nat.le_of_ble_eq_true rfl) dX9_init_6 (fun H locs hM => ?_)
  refine lv_aload_n hx hb dX9_init_9 rfl (lv_at hl 0 rfl) ?_
  refine lv_iload_n hx hb dX9_init_10 rfl (lv_at hl 2 rfl) ?_
  refine g_putF hx hb hts in_X10 tyX10 tyX10_ok nmX10 hown hK hM 0 rfl rfl 1 (by decide) q427 rfl rfl hin rfl rfl rfl (Nat.le_of_ble_eq_true rfl) dX9_init_11 (fun H locs hM => ?_)
  refine lv_aload_n hx hb dX9_init_14 rfl (lv_at hl 0 rfl) ?_
  refine lv_iload_n hx hb dX9_init_15 rfl (lv_at hl 3 rfl) ?_
  refine g_putF hx hb hts in_X10 tyX10 tyX10_ok nmX10 hown hK hM 0 rfl rfl 2 (by decide) q430 rfl rfl hin rfl rfl rfl (Nat.le_of_ble_eq_true rfl) dX9_init_16 (fun H locs hM => ?_)
  exact hret ⟨rfl, hM.1 0 _ rfl⟩ hM.2.2 dX9_init_19
theorem ndX10_init : yX10_init.name = "<init>" ∧ yX10_init.cls ≠ "java/lang/invoke/MethodHandle" ∧ yX10_init.cls ≠ "java/lang/invoke/VarHandle" ∧ (parseMethodDescriptor yX10_init.desc).map (fun d => d.parameters.length) = some 3 := by decide +kernel
set_option maxHeartbeats 400000 in
theorem ci_1_1 {D : va_G} {dA : Nat → ClassId} (x tr w : Nat) (mm : Int32) : Cg D dA (fun q => q = x) yX10_init cX10_init 4 none 2 44 0 0 [.ref x, .ref tr, .int (nI w), .int mm] (fun H => cAt D x (.inr (11, [.null, .int 0, .int 0])) H) (fun v' H => v' = none ∧ cAt D x (.inr (11, [.ref tr, .int (nI w), .int mm])) H) := by
  refine Cg.ofV (by decide) (own := RX10) rfl (Nat.le_of_ble_eq_true rfl) ?_
  intro p l e R s m args below meth c Q ls hx hb hml hRf hRl hRc hRs hin hts hown hK hP hl hret
  have hl : lv_has ls 4 [(0, .ref x), (1, .ref tr), (2, .int (nI w)), (3, .int mm)] := hl
  have hM := g_one hP
  refine lv_aload_n hx hb dX10_init_0 rfl (lv_at hl 0 rfl) ?_
  refine lv_aload_n hx hb dX10_init_1 rfl (lv_at hl 1 rfl) ?_
  refine lv_iload_n hx hb dX10_init_2 rfl (lv_at hl 2 rfl) ?_
  refine lv_iload_n hx hb dX10_init_3 rfl (lv_at hl 3 rfl) ?_
  refine cg_callI (y := yX9_init) (b := x) (As := [.ref tr, .int (nI w), .int mm]) hx hb hml hown hts hK hM.2.2 (ci_0_1 x tr w mm) (hM.1 0 _ rfl) (fun q hq => hq) q410 q411 q74 q412 ndX9_init rfl (by rw [hRf]; decide) (by rw [hRl]; decide) (Nat.zero_le _) (Nat.zero_le _) hl.1 rfl (Nat.le_of_ble_eq_true rfl) dX10_init_4 ?_
  rintro _ H locs ⟨rfl, hP1⟩ hz1 hk1 hS1
  exact hret ⟨rfl, hP1⟩ hS1 dX10_init_7
set_option maxHeartbeats 400000 in
theorem ci_0_2 {D : va_G} {dA : Nat → ClassId} (x tr w : Nat) (mm : Int32) : Cg D dA (fun q => q = x) yX9_init cX9_init 4 none 1 21 0 0 [.ref x, .ref tr, .int (nI w), .int mm] (fun H => cAt D x (.inr (12, [.null, .int 0, .int 0])) H) (fun v' H => v' = none ∧ cAt D x (.inr (12, [.ref tr, .int (nI w), .int mm])) H) := by
  refine Cg.ofV (by decide) (own := RX9) rfl (Nat.le_of_ble_eq_true rfl) ?_
  intro p l e R s m args below meth c Q ls hx hb hml hRf hRl hRc hRs hin hts hown hK hP hl hret
  have hl : lv_has ls 4 [(0, .ref x), (1, .ref tr), (2, .int (nI w)), (3, .int mm)] := hl
  have hM := g_one hP
  refine lv_aload_n hx hb dX9_init_0 rfl (lv_at hl 0 rfl) ?_
  refine W.objInit hx hb hown (hts _ q413) (hts _ q103) (hts _ q104) rfl (by rw [hml]; exact hl.1) rfl dX9_init_1 (by rw [hRf]; exact Nat.le_of_ble_eq_true rfl) (by rw [hRl]; exact Nat.le_of_ble_eq_true rfl) ?_
  refine lv_aload_n hx hb dX9_init_4 rfl (lv_at hl 0 rfl) ?_
  refine lv_aload_n hx hb dX9_init_5 rfl (lv_at hl 1 rfl) ?_
  refine g_putF hx hb hts in_X11 tyX11 tyX11_ok nmX11 hown hK hM 0 rfl rfl 0 (by decide) q414 rfl rfl hin rfl rfl rfl (Nat.le_of_ble_eq_true rfl) dX9_init_6 (fun H locs hM => ?_)
  refine lv_aload_n hx hb dX9_init_9 rfl (lv_at hl 0 rfl) ?_
  refine lv_iload_n hx hb dX9_init_10 rfl (lv_at hl 2 rfl) ?_
  refine g_putF hx hb hts in_X11 tyX11 tyX11_ok nmX11 hown hK hM 0 rfl rfl 1 (by decide) q427 rfl rfl hin rfl rfl rfl (Nat.le_of_ble_eq_true rfl) dX9_init_11 (fun H locs hM => ?_)
  refine lv_aload_n hx hb dX9_init_14 rfl (lv_at hl 0 rfl) ?_
  refine lv_iload_n hx hb dX9_init_15 rfl (lv_at hl 3 rfl) ?_
  refine g_putF hx hb hts in_X11 tyX11 tyX11_ok nmX11 hown hK hM 0 rfl rfl 2 (by decide) q430 rfl rfl hin rfl rfl rfl (Nat.le_of_ble_eq_true rfl) dX9_init_16 (fun H locs hM => ?_)
  exact hret ⟨rfl, hM.1 0 _ rfl⟩ hM.2.2 dX9_init_19
theorem ndX11_init : yX11_init.name = "<init>" ∧ yX11_init.cls ≠ "java/lang/invoke/MethodHandle" ∧ yX11_init.cls ≠ "java/lang/invoke/VarHandle" ∧ (parseMethodDescriptor yX11_init.desc).map (fun d => d.parameters.length) = some 3 := by decide +kernel
set_option maxHeartbeats 400000 in
theorem ci_2_2 {D : va_G} {dA : Nat → ClassId} (x tr w : Nat) (mm : Int32) : Cg D dA (fun q => q = x) yX11_init cX11_init 4 none 2 44 0 0 [.ref x, .ref tr, .int (nI w), .int mm] (fun H => cAt D x (.inr (12, [.null, .int 0, .int 0])) H) (fun v' H => v' = none ∧ cAt D x (.inr (12, [.ref tr, .int (nI w), .int mm])) H) := by
  refine Cg.ofV (by decide) (own := RX11) rfl (Nat.le_of_ble_eq_true rfl) ?_
  intro p l e R s m args below meth c Q ls hx hb hml hRf hRl hRc hRs hin hts hown hK hP hl hret
  have hl : lv_has ls 4 [(0, .ref x), (1, .ref tr), (2, .int (nI w)), (3, .int mm)] := hl
  have hM := g_one hP
  refine lv_aload_n hx hb dX11_init_0 rfl (lv_at hl 0 rfl) ?_
  refine lv_aload_n hx hb dX11_init_1 rfl (lv_at hl 1 rfl) ?_
  refine lv_iload_n hx hb dX11_init_2 rfl (lv_at hl 2 rfl) ?_
  refine lv_iload_n hx hb dX11_init_3 rfl (lv_at hl 3 rfl) ?_
  refine cg_callI (y := yX9_init) (b := x) (As := [.ref tr, .int (nI w), .int mm]) hx hb hml hown hts hK hM.2.2 (ci_0_2 x tr w mm) (hM.1 0 _ rfl) (fun q hq => hq) q452 q411 q74 q412 ndX9_init rfl (by rw [hRf]; decide) (by rw [hRl]; decide) (Nat.zero_le _) (Nat.zero_le _) hl.1 rfl (Nat.le_of_ble_eq_true rfl) dX11_init_4 ?_
  rintro _ H locs ⟨rfl, hP1⟩ hz1 hk1 hS1
  exact hret ⟨rfl, hP1⟩ hS1 dX11_init_7
set_option maxHeartbeats 400000 in
theorem ci_0_3 {D : va_G} {dA : Nat → ClassId} (x tr w : Nat) (mm : Int32) : Cg D dA (fun q => q = x) yX9_init cX9_init 4 none 1 21 0 0 [.ref x, .ref tr, .int (nI w), .int mm] (fun H => cAt D x (.inr (13, [.null, .int 0, .int 0])) H) (fun v' H => v' = none ∧ cAt D x (.inr (13, [.ref tr, .int (nI w), .int mm])) H) := by
  refine Cg.ofV (by decide) (own := RX9) rfl (Nat.le_of_ble_eq_true rfl) ?_
  intro p l e R s m args below meth c Q ls hx hb hml hRf hRl hRc hRs hin hts hown hK hP hl hret
  have hl : lv_has ls 4 [(0, .ref x), (1, .ref tr), (2, .int (nI w)), (3, .int mm)] := hl
  have hM := g_one hP
  refine lv_aload_n hx hb dX9_init_0 rfl (lv_at hl 0 rfl) ?_
  refine W.objInit hx hb hown (hts _ q413) (hts _ q103) (hts _ q104) rfl (by rw [hml]; exact hl.1) rfl dX9_init_1 (by rw [hRf]; exact Nat.le_of_ble_eq_true rfl) (by rw [hRl]; exact Nat.le_of_ble_eq_true rfl) ?_
  refine lv_aload_n hx hb dX9_init_4 rfl (lv_at hl 0 rfl) ?_
  refine lv_aload_n hx hb dX9_init_5 rfl (lv_at hl 1 rfl) ?_
  refine g_putF hx hb hts in_X12 tyX12 tyX12_ok nmX12 hown hK hM 0 rfl rfl 0 (by decide) q414 rfl rfl hin rfl rfl rfl (Nat.le_of_ble_eq_true rfl) dX9_init_6 (fun H locs hM => ?_)
  refine lv_aload_n hx hb dX9_init_9 rfl (lv_at hl 0 rfl) ?_
  refine lv_iload_n hx hb dX9_init_10 rfl (lv_at hl 2 rfl) ?_
  refine g_putF hx hb hts in_X12 tyX12 tyX12_ok nmX12 hown hK hM 0 rfl rfl 1 (by decide) q427 rfl rfl hin rfl rfl rfl (Nat.le_of_ble_eq_true rfl) dX9_init_11 (fun H locs hM => ?_)
  refine lv_aload_n hx hb dX9_init_14 rfl (lv_at hl 0 rfl) ?_
  refine lv_iload_n hx hb dX9_init_15 rfl (lv_at hl 3 rfl) ?_
  refine g_putF hx hb hts in_X12 tyX12 tyX12_ok nmX12 hown hK hM 0 rfl rfl 2 (by decide) q430 rfl rfl hin rfl rfl rfl (Nat.le_of_ble_eq_true rfl) dX9_init_16 (fun H locs hM => ?_)
  exact hret ⟨rfl, hM.1 0 _ rfl⟩ hM.2.2 dX9_init_19
theorem ndX12_init : yX12_init.name = "<init>" ∧ yX12_init.cls ≠ "java/lang/invoke/MethodHandle" ∧ yX12_init.cls ≠ "java/lang/invoke/VarHandle" ∧ (parseMethodDescriptor yX12_init.desc).map (fun d => d.parameters.length) = some 3 := by decide +kernel
set_option maxHeartbeats 400000 in
theorem ci_3_3 {D : va_G} {dA : Nat → ClassId} (x tr w : Nat) (mm : Int32) : Cg D dA (fun q => q = x) yX12_init cX12_init 4 none 2 44 0 0 [.ref x, .ref tr, .int (nI w), .int mm] (fun H => cAt D x (.inr (13, [.null, .int 0, .int 0])) H) (fun v' H => v' = none ∧ cAt D x (.inr (13, [.ref tr, .int (nI w), .int mm])) H) := by
  refine Cg.ofV (by decide) (own := RX12) rfl (Nat.le_of_ble_eq_true rfl) ?_
  intro p l e R s m args below meth c Q ls hx hb hml hRf hRl hRc hRs hin hts hown hK hP hl hret
  have hl : lv_has ls 4 [(0, .ref x), (1, .ref tr), (2, .int (nI w)), (3, .int mm)] := hl
  have hM := g_one hP
  refine lv_aload_n hx hb dX12_init_0 rfl (lv_at hl 0 rfl) ?_
  refine lv_aload_n hx hb dX12_init_1 rfl (lv_at hl 1 rfl) ?_
  refine lv_iload_n hx hb dX12_init_2 rfl (lv_at hl 2 rfl) ?_
  refine lv_iload_n hx hb dX12_init_3 rfl (lv_at hl 3 rfl) ?_
  refine cg_callI (y := yX9_init) (b := x) (As := [.ref tr, .int (nI w), .int mm]) hx hb hml hown hts hK hM.2.2 (ci_0_3 x tr w mm) (hM.1 0 _ rfl) (fun q hq => hq) q462 q411 q74 q412 ndX9_init rfl (by rw [hRf]; decide) (by rw [hRl]; decide) (Nat.zero_le _) (Nat.zero_le _) hl.1 rfl (Nat.le_of_ble_eq_true rfl) dX12_init_4 ?_
  rintro _ H locs ⟨rfl, hP1⟩ hz1 hk1 hS1
  exact hret ⟨rfl, hP1⟩ hS1 dX12_init_7
set_option maxHeartbeats 400000 in
theorem ci_0_4 {D : va_G} {dA : Nat → ClassId} (x tr w : Nat) (mm : Int32) : Cg D dA (fun q => q = x) yX9_init cX9_init 4 none 1 21 0 0 [.ref x, .ref tr, .int (nI w), .int mm] (fun H => cAt D x (.inr (14, [.null, .int 0, .int 0])) H) (fun v' H => v' = none ∧ cAt D x (.inr (14, [.ref tr, .int (nI w), .int mm])) H) := by
  refine Cg.ofV (by decide) (own := RX9) rfl (Nat.le_of_ble_eq_true rfl) ?_
  intro p l e R s m args below meth c Q ls hx hb hml hRf hRl hRc hRs hin hts hown hK hP hl hret
  have hl : lv_has ls 4 [(0, .ref x), (1, .ref tr), (2, .int (nI w)), (3, .int mm)] := hl
  have hM := g_one hP
  refine lv_aload_n hx hb dX9_init_0 rfl (lv_at hl 0 rfl) ?_
  refine W.objInit hx hb hown (hts _ q413) (hts _ q103) (hts _ q104) rfl (by rw [hml]; exact hl.1) rfl dX9_init_1 (by rw [hRf]; exact Nat.le_of_ble_eq_true rfl) (by rw [hRl]; exact Nat.le_of_ble_eq_true rfl) ?_
  refine lv_aload_n hx hb dX9_init_4 rfl (lv_at hl 0 rfl) ?_
  refine lv_aload_n hx hb dX9_init_5 rfl (lv_at hl 1 rfl) ?_
  refine g_putF hx hb hts in_X13 tyX13 tyX13_ok nmX13 hown hK hM 0 rfl rfl 0 (by decide) q414 rfl rfl hin rfl rfl rfl (Nat.le_of_ble_eq_true rfl) dX9_init_6 (fun H locs hM => ?_)
  refine lv_aload_n hx hb dX9_init_9 rfl (lv_at hl 0 rfl) ?_
  refine lv_iload_n hx hb dX9_init_10 rfl (lv_at hl 2 rfl) ?_
  refine g_putF hx hb hts in_X13 tyX13 tyX13_ok nmX13 hown hK hM 0 rfl rfl 1 (by decide) q427 rfl rfl hin rfl rfl rfl (Nat.le_of_ble_eq_true rfl) dX9_init_11 (fun H locs hM => ?_)
  refine lv_aload_n hx hb dX9_init_14 rfl (lv_at hl 0 rfl) ?_
  refine lv_iload_n hx hb dX9_init_15 rfl (lv_at hl 3 rfl) ?_
  refine g_putF hx hb hts in_X13 tyX13 tyX13_ok nmX13 hown hK hM 0 rfl rfl 2 (by decide) q430 rfl rfl hin rfl rfl rfl (Nat.le_of_ble_eq_true rfl) dX9_init_16 (fun H locs hM => ?_)
  exact hret ⟨rfl, hM.1 0 _ rfl⟩ hM.2.2 dX9_init_19
set_option maxHeartbeats 400000 in
theorem ci_1_4 {D : va_G} {dA : Nat → ClassId} (x tr w : Nat) (mm : Int32) : Cg D dA (fun q => q = x) yX10_init cX10_init 4 none 2 44 0 0 [.ref x, .ref tr, .int (nI w), .int mm] (fun H => cAt D x (.inr (14, [.null, .int 0, .int 0])) H) (fun v' H => v' = none ∧ cAt D x (.inr (14, [.ref tr, .int (nI w), .int mm])) H) := by
  refine Cg.ofV (by decide) (own := RX10) rfl (Nat.le_of_ble_eq_true rfl) ?_
  intro p l e R s m args below meth c Q ls hx hb hml hRf hRl hRc hRs hin hts hown hK hP hl hret
  have hl : lv_has ls 4 [(0, .ref x), (1, .ref tr), (2, .int (nI w)), (3, .int mm)] := hl
  have hM := g_one hP
  refine lv_aload_n hx hb dX10_init_0 rfl (lv_at hl 0 rfl) ?_
  refine lv_aload_n hx hb dX10_init_1 rfl (lv_at hl 1 rfl) ?_
  refine lv_iload_n hx hb dX10_init_2 rfl (lv_at hl 2 rfl) ?_
  refine lv_iload_n hx hb dX10_init_3 rfl (lv_at hl 3 rfl) ?_
  refine cg_callI (y := yX9_init) (b := x) (As := [.ref tr, .int (nI w), .int mm]) hx hb hml hown hts hK hM.2.2 (ci_0_4 x tr w mm) (hM.1 0 _ rfl) (fun q hq => hq) q410 q411 q74 q412 ndX9_init rfl (by rw [hRf]; decide) (by rw [hRl]; decide) (Nat.zero_le _) (Nat.zero_le _) hl.1 rfl (Nat.le_of_ble_eq_true rfl) dX10_init_4 ?_
  rintro _ H locs ⟨rfl, hP1⟩ hz1 hk1 hS1
  exact hret ⟨rfl, hP1⟩ hS1 dX10_init_7
theorem ndX13_init : yX13_init.name = "<init>" ∧ yX13_init.cls ≠ "java/lang/invoke/MethodHandle" ∧ yX13_init.cls ≠ "java/lang/invoke/VarHandle" ∧ (parseMethodDescriptor yX13_init.desc).map (fun d => d.parameters.length) = some 3 := by decide +kernel
set_option maxHeartbeats 400000 in
theorem ci_4_4 {D : va_G} {dA : Nat → ClassId} (x tr w : Nat) (mm : Int32) : Cg D dA (fun q => q = x) yX13_init cX13_init 4 none 3 67 0 0 [.ref x, .ref tr, .int (nI w), .int mm] (fun H => cAt D x (.inr (14, [.null, .int 0, .int 0])) H) (fun v' H => v' = none ∧ cAt D x (.inr (14, [.ref tr, .int (nI w), .int mm])) H) := by
  refine Cg.ofV (by decide) (own := RX13) rfl (Nat.le_of_ble_eq_true rfl) ?_
  intro p l e R s m args below meth c Q ls hx hb hml hRf hRl hRc hRs hin hts hown hK hP hl hret
  have hl : lv_has ls 4 [(0, .ref x), (1, .ref tr), (2, .int (nI w)), (3, .int mm)] := hl
  have hM := g_one hP
  refine lv_aload_n hx hb dX13_init_0 rfl (lv_at hl 0 rfl) ?_
  refine lv_aload_n hx hb dX13_init_1 rfl (lv_at hl 1 rfl) ?_
  refine lv_iload_n hx hb dX13_init_2 rfl (lv_at hl 2 rfl) ?_
  refine lv_iload_n hx hb dX13_init_3 rfl (lv_at hl 3 rfl) ?_
  refine cg_callI (y := yX10_init) (b := x) (As := [.ref tr, .int (nI w), .int mm]) hx hb hml hown hts hK hM.2.2 (ci_1_4 x tr w mm) (hM.1 0 _ rfl) (fun q hq => hq) q472 q408 q75 q409 ndX10_init rfl (by rw [hRf]; decide) (by rw [hRl]; decide) (Nat.zero_le _) (Nat.zero_le _) hl.1 rfl (Nat.le_of_ble_eq_true rfl) dX13_init_4 ?_
  rintro _ H locs ⟨rfl, hP1⟩ hz1 hk1 hS1
  exact hret ⟨rfl, hP1⟩ hS1 dX13_init_7
set_option maxHeartbeats 400000 in
theorem ci_0_5 {D : va_G} {dA : Nat → ClassId} (x tr w : Nat) (mm : Int32) : Cg D dA (fun q => q = x) yX9_init cX9_init 4 none 1 21 0 0 [.ref x, .ref tr, .int (nI w), .int mm] (fun H => cAt D x (.inr (15, [.null, .int 0, .int 0])) H) (fun v' H => v' = none ∧ cAt D x (.inr (15, [.ref tr, .int (nI w), .int mm])) H) := by
  refine Cg.ofV (by decide) (own := RX9) rfl (Nat.le_of_ble_eq_true rfl) ?_
  intro p l e R s m args below meth c Q ls hx hb hml hRf hRl hRc hRs hin hts hown hK hP hl hret
  have hl : lv_has ls 4 [(0, .ref x), (1, .ref tr), (2, .int (nI w)), (3, .int mm)] := hl
  have hM := g_one hP
  refine lv_aload_n hx hb dX9_init_0 rfl (lv_at hl 0 rfl) ?_
  refine W.objInit hx hb hown (hts _ q413) (hts _ q103) (hts _ q104) rfl (by rw [hml]; exact hl.1) rfl dX9_init_1 (by rw [hRf]; exact Nat.le_of_ble_eq_true rfl) (by rw [hRl]; exact Nat.le_of_ble_eq_true rfl) ?_
  refine lv_aload_n hx hb dX9_init_4 rfl (lv_at hl 0 rfl) ?_
  refine lv_aload_n hx hb dX9_init_5 rfl (lv_at hl 1 rfl) ?_
  refine g_putF hx hb hts in_X14 tyX14 tyX14_ok nmX14 hown hK hM 0 rfl rfl 0 (by decide) q414 rfl rfl hin rfl rfl rfl (Nat.le_of_ble_eq_true rfl) dX9_init_6 (fun H locs hM => ?_)
  refine lv_aload_n hx hb dX9_init_9 rfl (lv_at hl 0 rfl) ?_
  refine lv_iload_n hx hb dX9_init_10 rfl (lv_at hl 2 rfl) ?_
  refine g_putF hx hb hts in_X14 tyX14 tyX14_ok nmX14 hown hK hM 0 rfl rfl 1 (by decide) q427 rfl rfl hin rfl rfl rfl (Nat.le_of_ble_eq_true rfl) dX9_init_11 (fun H locs hM => ?_)
  refine lv_aload_n hx hb dX9_init_14 rfl (lv_at hl 0 rfl) ?_
  refine lv_iload_n hx hb dX9_init_15 rfl (lv_at hl 3 rfl) ?_
  refine g_putF hx hb hts in_X14 tyX14 tyX14_ok nmX14 hown hK hM 0 rfl rfl 2 (by decide) q430 rfl rfl hin rfl rfl rfl (Nat.le_of_ble_eq_true rfl) dX9_init_16 (fun H locs hM => ?_)
  exact hret ⟨rfl, hM.1 0 _ rfl⟩ hM.2.2 dX9_init_19
set_option maxHeartbeats 400000 in
theorem ci_2_5 {D : va_G} {dA : Nat → ClassId} (x tr w : Nat) (mm : Int32) : Cg D dA (fun q => q = x) yX11_init cX11_init 4 none 2 44 0 0 [.ref x, .ref tr, .int (nI w), .int mm] (fun H => cAt D x (.inr (15, [.null, .int 0, .int 0])) H) (fun v' H => v' = none ∧ cAt D x (.inr (15, [.ref tr, .int (nI w), .int mm])) H) := by
  refine Cg.ofV (by decide) (own := RX11) rfl (Nat.le_of_ble_eq_true rfl) ?_
  intro p l e R s m args below meth c Q ls hx hb hml hRf hRl hRc hRs hin hts hown hK hP hl hret
  have hl : lv_has ls 4 [(0, .ref x), (1, .ref tr), (2, .int (nI w)), (3, .int mm)] := hl
  have hM := g_one hP
  refine lv_aload_n hx hb dX11_init_0 rfl (lv_at hl 0 rfl) ?_
  refine lv_aload_n hx hb dX11_init_1 rfl (lv_at hl 1 rfl) ?_
  refine lv_iload_n hx hb dX11_init_2 rfl (lv_at hl 2 rfl) ?_
  refine lv_iload_n hx hb dX11_init_3 rfl (lv_at hl 3 rfl) ?_
  refine cg_callI (y := yX9_init) (b := x) (As := [.ref tr, .int (nI w), .int mm]) hx hb hml hown hts hK hM.2.2 (ci_0_5 x tr w mm) (hM.1 0 _ rfl) (fun q hq => hq) q452 q411 q74 q412 ndX9_init rfl (by rw [hRf]; decide) (by rw [hRl]; decide) (Nat.zero_le _) (Nat.zero_le _) hl.1 rfl (Nat.le_of_ble_eq_true rfl) dX11_init_4 ?_
  rintro _ H locs ⟨rfl, hP1⟩ hz1 hk1 hS1
  exact hret ⟨rfl, hP1⟩ hS1 dX11_init_7
theorem ndX14_init : yX14_init.name = "<init>" ∧ yX14_init.cls ≠ "java/lang/invoke/MethodHandle" ∧ yX14_init.cls ≠ "java/lang/invoke/VarHandle" ∧ (parseMethodDescriptor yX14_init.desc).map (fun d => d.parameters.length) = some 3 := by decide +kernel
set_option maxHeartbeats 400000 in
theorem ci_5_5 {D : va_G} {dA : Nat → ClassId} (x tr w : Nat) (mm : Int32) : Cg D dA (fun q => q = x) yX14_init cX14_init 4 none 3 67 0 0 [.ref x, .ref tr, .int (nI w), .int mm] (fun H => cAt D x (.inr (15, [.null, .int 0, .int 0])) H) (fun v' H => v' = none ∧ cAt D x (.inr (15, [.ref tr, .int (nI w), .int mm])) H) := by
  refine Cg.ofV (by decide) (own := RX14) rfl (Nat.le_of_ble_eq_true rfl) ?_
  intro p l e R s m args below meth c Q ls hx hb hml hRf hRl hRc hRs hin hts hown hK hP hl hret
  have hl : lv_has ls 4 [(0, .ref x), (1, .ref tr), (2, .int (nI w)), (3, .int mm)] := hl
  have hM := g_one hP
  refine lv_aload_n hx hb dX14_init_0 rfl (lv_at hl 0 rfl) ?_
  refine lv_aload_n hx hb dX14_init_1 rfl (lv_at hl 1 rfl) ?_
  refine lv_iload_n hx hb dX14_init_2 rfl (lv_at hl 2 rfl) ?_
  refine lv_iload_n hx hb dX14_init_3 rfl (lv_at hl 3 rfl) ?_
  refine cg_callI (y := yX11_init) (b := x) (As := [.ref tr, .int (nI w), .int mm]) hx hb hml hown hts hK hM.2.2 (ci_2_5 x tr w mm) (hM.1 0 _ rfl) (fun q hq => hq) q482 q450 q76 q451 ndX11_init rfl (by rw [hRf]; decide) (by rw [hRl]; decide) (Nat.zero_le _) (Nat.zero_le _) hl.1 rfl (Nat.le_of_ble_eq_true rfl) dX14_init_4 ?_
  rintro _ H locs ⟨rfl, hP1⟩ hz1 hk1 hS1
  exact hret ⟨rfl, hP1⟩ hS1 dX14_init_7
set_option maxHeartbeats 400000 in
theorem ci_0_6 {D : va_G} {dA : Nat → ClassId} (x tr w : Nat) (mm : Int32) : Cg D dA (fun q => q = x) yX9_init cX9_init 4 none 1 21 0 0 [.ref x, .ref tr, .int (nI w), .int mm] (fun H => cAt D x (.inr (16, [.null, .int 0, .int 0])) H) (fun v' H => v' = none ∧ cAt D x (.inr (16, [.ref tr, .int (nI w), .int mm])) H) := by
  refine Cg.ofV (by decide) (own := RX9) rfl (Nat.le_of_ble_eq_true rfl) ?_
  intro p l e R s m args below meth c Q ls hx hb hml hRf hRl hRc hRs hin hts hown hK hP hl hret
  have hl : lv_has ls 4 [(0, .ref x), (1, .ref tr), (2, .int (nI w)), (3, .int mm)] := hl
  have hM := g_one hP
  refine lv_aload_n hx hb dX9_init_0 rfl (lv_at hl 0 rfl) ?_
  refine W.objInit hx hb hown (hts _ q413) (hts _ q103) (hts _ q104) rfl (by rw [hml]; exact hl.1) rfl dX9_init_1 (by rw [hRf]; exact Nat.le_of_ble_eq_true rfl) (by rw [hRl]; exact Nat.le_of_ble_eq_true rfl) ?_
  refine lv_aload_n hx hb dX9_init_4 rfl (lv_at hl 0 rfl) ?_
  refine lv_aload_n hx hb dX9_init_5 rfl (lv_at hl 1 rfl) ?_
  refine g_putF hx hb hts in_X15 tyX15 tyX15_ok nmX15 hown hK hM 0 rfl rfl 0 (by decide) q414 rfl rfl hin rfl rfl rfl (Nat.le_of_ble_eq_true rfl) dX9_init_6 (fun H locs hM => ?_)
  refine lv_aload_n hx hb dX9_init_9 rfl (lv_at hl 0 rfl) ?_
  refine lv_iload_n hx hb dX9_init_10 rfl (lv_at hl 2 rfl) ?_
  refine g_putF hx hb hts in_X15 tyX15 tyX15_ok nmX15 hown hK hM 0 rfl rfl 1 (by decide) q427 rfl rfl hin rfl rfl rfl (Nat.le_of_ble_eq_true rfl) dX9_init_11 (fun H locs hM => ?_)
  refine lv_aload_n hx hb dX9_init_14 rfl (lv_at hl 0 rfl) ?_
  refine lv_iload_n hx hb dX9_init_15 rfl (lv_at hl 3 rfl) ?_
  refine g_putF hx hb hts in_X15 tyX15 tyX15_ok nmX15 hown hK hM 0 rfl rfl 2 (by decide) q430 rfl rfl hin rfl rfl rfl (Nat.le_of_ble_eq_true rfl) dX9_init_16 (fun H locs hM => ?_)
  exact hret ⟨rfl, hM.1 0 _ rfl⟩ hM.2.2 dX9_init_19
set_option maxHeartbeats 400000 in
theorem ci_3_6 {D : va_G} {dA : Nat → ClassId} (x tr w : Nat) (mm : Int32) : Cg D dA (fun q => q = x) yX12_init cX12_init 4 none 2 44 0 0 [.ref x, .ref tr, .int (nI w), .int mm] (fun H => cAt D x (.inr (16, [.null, .int 0, .int 0])) H) (fun v' H => v' = none ∧ cAt D x (.inr (16, [.ref tr, .int (nI w), .int mm])) H) := by
  refine Cg.ofV (by decide) (own := RX12) rfl (Nat.le_of_ble_eq_true rfl) ?_
  intro p l e R s m args below meth c Q ls hx hb hml hRf hRl hRc hRs hin hts hown hK hP hl hret
  have hl : lv_has ls 4 [(0, .ref x), (1, .ref tr), (2, .int (nI w)), (3, .int mm)] := hl
  have hM := g_one hP
  refine lv_aload_n hx hb dX12_init_0 rfl (lv_at hl 0 rfl) ?_
  refine lv_aload_n hx hb dX12_init_1 rfl (lv_at hl 1 rfl) ?_
  refine lv_iload_n hx hb dX12_init_2 rfl (lv_at hl 2 rfl) ?_
  refine lv_iload_n hx hb dX12_init_3 rfl (lv_at hl 3 rfl) ?_
  refine cg_callI (y := yX9_init) (b := x) (As := [.ref tr, .int (nI w), .int mm]) hx hb hml hown hts hK hM.2.2 (ci_0_6 x tr w mm) (hM.1 0 _ rfl) (fun q hq => hq) q462 q411 q74 q412 ndX9_init rfl (by rw [hRf]; decide) (by rw [hRl]; decide) (Nat.zero_le _) (Nat.zero_le _) hl.1 rfl (Nat.le_of_ble_eq_true rfl) dX12_init_4 ?_
  rintro _ H locs ⟨rfl, hP1⟩ hz1 hk1 hS1
  exact hret ⟨rfl, hP1⟩ hS1 dX12_init_7
theorem ndX15_init : yX15_init.name = "<init>" ∧ yX15_init.cls ≠ "java/lang/invoke/MethodHandle" ∧ yX15_init.cls ≠ "java/lang/invoke/VarHandle" ∧ (parseMethodDescriptor yX15_init.desc).map (fun d => d.parameters.length) = some 3 := by decide +kernel
set_option maxHeartbeats 400000 in
theorem ci_6_6 {D : va_G} {dA : Nat → ClassId} (x tr w : Nat) (mm : Int32) : Cg D dA (fun q => q = x) yX15_init cX15_init 4 none 3 67 0 0 [.ref x, .ref tr, .int (nI w), .int mm] (fun H => cAt D x (.inr (16, [.null, .int 0, .int 0])) H) (fun v' H => v' = none ∧ cAt D x (.inr (16, [.ref tr, .int (nI w), .int mm])) H) := by
  refine Cg.ofV (by decide) (own := RX15) rfl (Nat.le_of_ble_eq_true rfl) ?_
  intro p l e R s m args below meth c Q ls hx hb hml hRf hRl hRc hRs hin hts hown hK hP hl hret
  have hl : lv_has ls 4 [(0, .ref x), (1, .ref tr), (2, .int (nI w)), (3, .int mm)] := hl
  have hM := g_one hP
  refine lv_aload_n hx hb dX15_init_0 rfl (lv_at hl 0 rfl) ?_
  refine lv_aload_n hx hb dX15_init_1 rfl (lv_at hl 1 rfl) ?_
  refine lv_iload_n hx hb dX15_init_2 rfl (lv_at hl 2 rfl) ?_
  refine lv_iload_n hx hb dX15_init_3 rfl (lv_at hl 3 rfl) ?_
  refine cg_callI (y := yX12_init) (b := x) (As := [.ref tr, .int (nI w), .int mm]) hx hb hml hown hts hK hM.2.2 (ci_3_6 x tr w mm) (hM.1 0 _ rfl) (fun q hq => hq) q492 q460 q77 q461 ndX12_init rfl (by rw [hRf]; decide) (by rw [hRl]; decide) (Nat.zero_le _) (Nat.zero_le _) hl.1 rfl (Nat.le_of_ble_eq_true rfl) dX15_init_4 ?_
  rintro _ H locs ⟨rfl, hP1⟩ hz1 hk1 hS1
  exact hret ⟨rfl, hP1⟩ hS1 dX15_init_7
/-- cowOf: a new cow -/
theorem ca_cowOf {D : va_G} {dA : Nat → ClassId} (b K tr w : Nat) (hK6 : K ≤ 6) (mm : Int32) : Cg D dA (fun q => b ≤ q) yX0_cowOf cX0_cowOf 4 (some (.object "MeadowMilk$Cow")) 4 90 1 3 [.int (nI K), .ref tr, .int (nI w), .int mm] (fun H => H.size = b) (fun v' H => ∃ x, v' = some (.ref x) ∧ b ≤ x ∧ cAt D x (.inr (10 + K, [.ref tr, .int (nI w), .int mm])) H) := by
  rcases (show K = 0 ∨ K = 1 ∨ K = 2 ∨ K = 3 ∨ K = 4 ∨ K = 5 ∨ K = 6 by omega) with rfl | rfl | rfl | rfl | rfl | rfl | rfl
  · refine Cg.ofA (Or.inl ⟨_, rfl⟩) (by decide) (own := RX0) rfl (Nat.le_of_ble_eq_true rfl) ?_
    intro p l e R s m args below meth c Q ls hx hb hml hRf hRl hRc hRs hin hts hown hK hP hl hret
    have hl : lv_has ls 4 [(0, .int (nI 0)), (1, .ref tr), (2, .int (nI w)), (3, .int mm)] := hl
    subst hP
    refine lv_iload_n hx hb dX0_cowOf_0 rfl (lv_at hl 0 rfl) ?_
    refine lv_tableOut (tgt := 106) hx hb dX0_cowOf_1 (by decide) (by decide) ?_
    refine c_new (ci := 10) (fs := [.null, .int 0, .int 0]) (C := RX9) (T := TX9) (N := 3) hx hb hts in_X9 tyX9 tyX9_ok hown q497 q498 q74 hK rfl (fun j hj => by rcases (show j = 0 ∨ j = 1 ∨ j = 2 by omega) with rfl | rfl | rfl <;> rfl) (by rw [hRc]; decide) (by rw [hRs]; decide) dX0_cowOf_106 (fun H hX hz hk => ?_)
    refine lv_dup hx hb dX0_cowOf_109 rfl ?_
    refine lv_aload_n hx hb dX0_cowOf_110 rfl (lv_at hl 1 rfl) ?_
    refine lv_iload_n hx hb dX0_cowOf_111 rfl (lv_at hl 2 rfl) ?_
    refine lv_iload_n hx hb dX0_cowOf_112 rfl (lv_at hl 3 rfl) ?_
    refine cg_callI (A := fun q => s.heap.size ≤ q) (H0 := s.heap) (y := yX9_init) (b := s.heap.size) (As := [.ref tr, .int (nI w), .int mm]) hx hb hml hown hts hK ⟨by omega, fun q h1 _ => hk q h1, fun q hq => by cases hq⟩ (ci_0_0 s.heap.size tr w mm) hX (fun q hq => by rw [hq]; exact Nat.le_refl _) q499 q411 q74 q412 ndX9_init rfl (by rw [hRf]; decide) (by rw [hRl]; decide) (by rw [hRc]; decide) (by rw [hRs]; decide) hl.1 rfl (Nat.le_of_ble_eq_true rfl) dX0_cowOf_113 ?_
    rintro _ H locs ⟨rfl, hP1⟩ hz1 hk1 hS1
    exact hret ⟨_, rfl, Nat.le_refl _, hP1⟩ hS1 dX0_cowOf_116
  · refine Cg.ofA (Or.inl ⟨_, rfl⟩) (by decide) (own := RX0) rfl (Nat.le_of_ble_eq_true rfl) ?_
    intro p l e R s m args below meth c Q ls hx hb hml hRf hRl hRc hRs hin hts hown hK hP hl hret
    have hl : lv_has ls 4 [(0, .int (nI 1)), (1, .ref tr), (2, .int (nI w)), (3, .int mm)] := hl
    subst hP
    refine lv_iload_n hx hb dX0_cowOf_0 rfl (lv_at hl 0 rfl) ?_
    refine lv_tableIn (off := 39) (tgt := 40) hx hb dX0_cowOf_1 (by decide) (by decide) (by rfl) (by decide) ?_
    refine c_new (ci := 11) (fs := [.null, .int 0, .int 0]) (C := RX10) (T := TX10) (N := 3) hx hb hts in_X10 tyX10 tyX10_ok hown q405 q406 q75 hK rfl (fun j hj => by rcases (show j = 0 ∨ j = 1 ∨ j = 2 by omega) with rfl | rfl | rfl <;> rfl) (by rw [hRc]; decide) (by rw [hRs]; decide) dX0_cowOf_40 (fun H hX hz hk => ?_)
    refine lv_dup hx hb dX0_cowOf_43 rfl ?_
    refine lv_aload_n hx hb dX0_cowOf_44 rfl (lv_at hl 1 rfl) ?_
    refine lv_iload_n hx hb dX0_cowOf_45 rfl (lv_at hl 2 rfl) ?_
    refine lv_iload_n hx hb dX0_cowOf_46 rfl (lv_at hl 3 rfl) ?_
    refine cg_callI (A := fun q => s.heap.size ≤ q) (H0 := s.heap) (y := yX10_init) (b := s.heap.size) (As := [.ref tr, .int (nI w), .int mm]) hx hb hml hown hts hK ⟨by omega, fun q h1 _ => hk q h1, fun q hq => by cases hq⟩ (ci_1_1 s.heap.size tr w mm) hX (fun q hq => by rw [hq]; exact Nat.le_refl _) q407 q408 q75 q409 ndX10_init rfl (by rw [hRf]; decide) (by rw [hRl]; decide) (by rw [hRc]; decide) (by rw [hRs]; decide) hl.1 rfl (Nat.le_of_ble_eq_true rfl) dX0_cowOf_47 ?_
    rintro _ H locs ⟨rfl, hP1⟩ hz1 hk1 hS1
    exact hret ⟨_, rfl, Nat.le_refl _, hP1⟩ hS1 dX0_cowOf_50
  · refine Cg.ofA (Or.inl ⟨_, rfl⟩) (by decide) (own := RX0) rfl (Nat.le_of_ble_eq_true rfl) ?_
    intro p l e R s m args below meth c Q ls hx hb hml hRf hRl hRc hRs hin hts hown hK hP hl hret
    have hl : lv_has ls 4 [(0, .int (nI 2)), (1, .ref tr), (2, .int (nI w)), (3, .int mm)] := hl
    subst hP
    refine lv_iload_n hx hb dX0_cowOf_0 rfl (lv_at hl 0 rfl) ?_
    refine lv_tableIn (off := 50) (tgt := 51) hx hb dX0_cowOf_1 (by decide) (by decide) (by rfl) (by decide) ?_
    refine c_new (ci := 12) (fs := [.null, .int 0, .int 0]) (C := RX11) (T := TX11) (N := 3) hx hb hts in_X11 tyX11 tyX11_ok hown q447 q448 q76 hK rfl (fun j hj => by rcases (show j = 0 ∨ j = 1 ∨ j = 2 by omega) with rfl | rfl | rfl <;> rfl) (by rw [hRc]; decide) (by rw [hRs]; decide) dX0_cowOf_51 (fun H hX hz hk => ?_)
    refine lv_dup hx hb dX0_cowOf_54 rfl ?_
    refine lv_aload_n hx hb dX0_cowOf_55 rfl (lv_at hl 1 rfl) ?_
    refine lv_iload_n hx hb dX0_cowOf_56 rfl (lv_at hl 2 rfl) ?_
    refine lv_iload_n hx hb dX0_cowOf_57 rfl (lv_at hl 3 rfl) ?_
    refine cg_callI (A := fun q => s.heap.size ≤ q) (H0 := s.heap) (y := yX11_init) (b := s.heap.size) (As := [.ref tr, .int (nI w), .int mm]) hx hb hml hown hts hK ⟨by omega, fun q h1 _ => hk q h1, fun q hq => by cases hq⟩ (ci_2_2 s.heap.size tr w mm) hX (fun q hq => by rw [hq]; exact Nat.le_refl _) q449 q450 q76 q451 ndX11_init rfl (by rw [hRf]; decide) (by rw [hRl]; decide) (by rw [hRc]; decide) (by rw [hRs]; decide) hl.1 rfl (Nat.le_of_ble_eq_true rfl) dX0_cowOf_58 ?_
    rintro _ H locs ⟨rfl, hP1⟩ hz1 hk1 hS1
    exact hret ⟨_, rfl, Nat.le_refl _, hP1⟩ hS1 dX0_cowOf_61
  · refine Cg.ofA (Or.inl ⟨_, rfl⟩) (by decide) (own := RX0) rfl (Nat.le_of_ble_eq_true rfl) ?_
    intro p l e R s m args below meth c Q ls hx hb hml hRf hRl hRc hRs hin hts hown hK hP hl hret
    have hl : lv_has ls 4 [(0, .int (nI 3)), (1, .ref tr), (2, .int (nI w)), (3, .int mm)] := hl
    subst hP
    refine lv_iload_n hx hb dX0_cowOf_0 rfl (lv_at hl 0 rfl) ?_
    refine lv_tableIn (off := 61) (tgt := 62) hx hb dX0_cowOf_1 (by decide) (by decide) (by rfl) (by decide) ?_
    refine c_new (ci := 13) (fs := [.null, .int 0, .int 0]) (C := RX12) (T := TX12) (N := 3) hx hb hts in_X12 tyX12 tyX12_ok hown q457 q458 q77 hK rfl (fun j hj => by rcases (show j = 0 ∨ j = 1 ∨ j = 2 by omega) with rfl | rfl | rfl <;> rfl) (by rw [hRc]; decide) (by rw [hRs]; decide) dX0_cowOf_62 (fun H hX hz hk => ?_)
    refine lv_dup hx hb dX0_cowOf_65 rfl ?_
    refine lv_aload_n hx hb dX0_cowOf_66 rfl (lv_at hl 1 rfl) ?_
    refine lv_iload_n hx hb dX0_cowOf_67 rfl (lv_at hl 2 rfl) ?_
    refine lv_iload_n hx hb dX0_cowOf_68 rfl (lv_at hl 3 rfl) ?_
    refine cg_callI (A := fun q => s.heap.size ≤ q) (H0 := s.heap) (y := yX12_init) (b := s.heap.size) (As := [.ref tr, .int (nI w), .int mm]) hx hb hml hown hts hK ⟨by omega, fun q h1 _ => hk q h1, fun q hq => by cases hq⟩ (ci_3_3 s.heap.size tr w mm) hX (fun q hq => by rw [hq]; exact Nat.le_refl _) q459 q460 q77 q461 ndX12_init rfl (by rw [hRf]; decide) (by rw [hRl]; decide) (by rw [hRc]; decide) (by rw [hRs]; decide) hl.1 rfl (Nat.le_of_ble_eq_true rfl) dX0_cowOf_69 ?_
    rintro _ H locs ⟨rfl, hP1⟩ hz1 hk1 hS1
    exact hret ⟨_, rfl, Nat.le_refl _, hP1⟩ hS1 dX0_cowOf_72
  · refine Cg.ofA (Or.inl ⟨_, rfl⟩) (by decide) (own := RX0) rfl (Nat.le_of_ble_eq_true rfl) ?_
    intro p l e R s m args below meth c Q ls hx hb hml hRf hRl hRc hRs hin hts hown hK hP hl hret
    have hl : lv_has ls 4 [(0, .int (nI 4)), (1, .ref tr), (2, .int (nI w)), (3, .int mm)] := hl
    subst hP
    refine lv_iload_n hx hb dX0_cowOf_0 rfl (lv_at hl 0 rfl) ?_
    refine lv_tableIn (off := 72) (tgt := 73) hx hb dX0_cowOf_1 (by decide) (by decide) (by rfl) (by decide) ?_
    refine c_new (ci := 14) (fs := [.null, .int 0, .int 0]) (C := RX13) (T := TX13) (N := 3) hx hb hts in_X13 tyX13 tyX13_ok hown q467 q468 q78 hK rfl (fun j hj => by rcases (show j = 0 ∨ j = 1 ∨ j = 2 by omega) with rfl | rfl | rfl <;> rfl) (by rw [hRc]; decide) (by rw [hRs]; decide) dX0_cowOf_73 (fun H hX hz hk => ?_)
    refine lv_dup hx hb dX0_cowOf_76 rfl ?_
    refine lv_aload_n hx hb dX0_cowOf_77 rfl (lv_at hl 1 rfl) ?_
    refine lv_iload_n hx hb dX0_cowOf_78 rfl (lv_at hl 2 rfl) ?_
    refine lv_iload_n hx hb dX0_cowOf_79 rfl (lv_at hl 3 rfl) ?_
    refine cg_callI (A := fun q => s.heap.size ≤ q) (H0 := s.heap) (y := yX13_init) (b := s.heap.size) (As := [.ref tr, .int (nI w), .int mm]) hx hb hml hown hts hK ⟨by omega, fun q h1 _ => hk q h1, fun q hq => by cases hq⟩ (ci_4_4 s.heap.size tr w mm) hX (fun q hq => by rw [hq]; exact Nat.le_refl _) q469 q470 q78 q471 ndX13_init rfl (by rw [hRf]; decide) (by rw [hRl]; decide) (by rw [hRc]; decide) (by rw [hRs]; decide) hl.1 rfl (Nat.le_of_ble_eq_true rfl) dX0_cowOf_80 ?_
    rintro _ H locs ⟨rfl, hP1⟩ hz1 hk1 hS1
    exact hret ⟨_, rfl, Nat.le_refl _, hP1⟩ hS1 dX0_cowOf_83
  · refine Cg.ofA (Or.inl ⟨_, rfl⟩) (by decide) (own := RX0) rfl (Nat.le_of_ble_eq_true rfl) ?_
    intro p l e R s m args below meth c Q ls hx hb hml hRf hRl hRc hRs hin hts hown hK hP hl hret
    have hl : lv_has ls 4 [(0, .int (nI 5)), (1, .ref tr), (2, .int (nI w)), (3, .int mm)] := hl
    subst hP
    refine lv_iload_n hx hb dX0_cowOf_0 rfl (lv_at hl 0 rfl) ?_
    refine lv_tableIn (off := 83) (tgt := 84) hx hb dX0_cowOf_1 (by decide) (by decide) (by rfl) (by decide) ?_
    refine c_new (ci := 15) (fs := [.null, .int 0, .int 0]) (C := RX14) (T := TX14) (N := 3) hx hb hts in_X14 tyX14 tyX14_ok hown q477 q478 q79 hK rfl (fun j hj => by rcases (show j = 0 ∨ j = 1 ∨ j = 2 by omega) with rfl | rfl | rfl <;> rfl) (by rw [hRc]; decide) (by rw [hRs]; decide) dX0_cowOf_84 (fun H hX hz hk => ?_)
    refine lv_dup hx hb dX0_cowOf_87 rfl ?_
    refine lv_aload_n hx hb dX0_cowOf_88 rfl (lv_at hl 1 rfl) ?_
    refine lv_iload_n hx hb dX0_cowOf_89 rfl (lv_at hl 2 rfl) ?_
    refine lv_iload_n hx hb dX0_cowOf_90 rfl (lv_at hl 3 rfl) ?_
    refine cg_callI (A := fun q => s.heap.size ≤ q) (H0 := s.heap) (y := yX14_init) (b := s.heap.size) (As := [.ref tr, .int (nI w), .int mm]) hx hb hml hown hts hK ⟨by omega, fun q h1 _ => hk q h1, fun q hq => by cases hq⟩ (ci_5_5 s.heap.size tr w mm) hX (fun q hq => by rw [hq]; exact Nat.le_refl _) q479 q480 q79 q481 ndX14_init rfl (by rw [hRf]; decide) (by rw [hRl]; decide) (by rw [hRc]; decide) (by rw [hRs]; decide) hl.1 rfl (Nat.le_of_ble_eq_true rfl) dX0_cowOf_91 ?_
    rintro _ H locs ⟨rfl, hP1⟩ hz1 hk1 hS1
    exact hret ⟨_, rfl, Nat.le_refl _, hP1⟩ hS1 dX0_cowOf_94
  · refine Cg.ofA (Or.inl ⟨_, rfl⟩) (by decide) (own := RX0) rfl (Nat.le_of_ble_eq_true rfl) ?_
    intro p l e R s m args below meth c Q ls hx hb hml hRf hRl hRc hRs hin hts hown hK hP hl hret
    have hl : lv_has ls 4 [(0, .int (nI 6)), (1, .ref tr), (2, .int (nI w)), (3, .int mm)] := hl
    subst hP
    refine lv_iload_n hx hb dX0_cowOf_0 rfl (lv_at hl 0 rfl) ?_
    refine lv_tableIn (off := 94) (tgt := 95) hx hb dX0_cowOf_1 (by decide) (by decide) (by rfl) (by decide) ?_
    refine c_new (ci := 16) (fs := [.null, .int 0, .int 0]) (C := RX15) (T := TX15) (N := 3) hx hb hts in_X15 tyX15 tyX15_ok hown q487 q488 q80 hK rfl (fun j hj => by rcases (show j = 0 ∨ j = 1 ∨ j = 2 by omega) with rfl | rfl | rfl <;> rfl) (by rw [hRc]; decide) (by rw [hRs]; decide) dX0_cowOf_95 (fun H hX hz hk => ?_)
    refine lv_dup hx hb dX0_cowOf_98 rfl ?_
    refine lv_aload_n hx hb dX0_cowOf_99 rfl (lv_at hl 1 rfl) ?_
    refine lv_iload_n hx hb dX0_cowOf_100 rfl (lv_at hl 2 rfl) ?_
    refine lv_iload_n hx hb dX0_cowOf_101 rfl (lv_at hl 3 rfl) ?_
    refine cg_callI (A := fun q => s.heap.size ≤ q) (H0 := s.heap) (y := yX15_init) (b := s.heap.size) (As := [.ref tr, .int (nI w), .int mm]) hx hb hml hown hts hK ⟨by omega, fun q h1 _ => hk q h1, fun q hq => by cases hq⟩ (ci_6_6 s.heap.size tr w mm) hX (fun q hq => by rw [hq]; exact Nat.le_refl _) q489 q490 q80 q491 ndX15_init rfl (by rw [hRf]; decide) (by rw [hRl]; decide) (by rw [hRc]; decide) (by rw [hRs]; decide) hl.1 rfl (Nat.le_of_ble_eq_true rfl) dX0_cowOf_102 ?_
    rintro _ H locs ⟨rfl, hP1⟩ hz1 hk1 hS1
    exact hret ⟨_, rfl, Nat.le_refl _, hP1⟩ hS1 dX0_cowOf_105
