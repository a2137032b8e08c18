/-! cows of kinds: what they say and leave the heap as it is (printed by comp2.py) -/
set_option maxRecDepth 100000
set_option maxHeartbeats 400000 in
theorem cow_kind_0_0 {D : va_G} {dA : Nat → ClassId} (x tr w : Nat) (mm : Int32) : Rd D dA yX9_kind cX9_kind 1 (some .int) 0 0 [.ref x] (fun H => cAt D x (.inr (10, [.ref tr, .int (nI w), .int mm])) H) (some (.int (nI 0))) := by
  refine Rd.ofI (by decide) (own := RX9) rfl (Nat.le_of_ble_eq_true rfl) ?_
  intro p l e R s m args below meth c Q ls hx hb hml hRf hRl hts hown hK hP hl hret
  have hl : lv_has ls 1 [(0, .ref x)] := hl
  refine lv_iconst (v := nI 0) hx hb dX9_kind_0 (by decide) ?_
  exact hret (by first | rfl | (simp only [iI, nI_0, nI_one]; grind)) dX9_kind_1
set_option maxHeartbeats 400000 in
theorem cow_isOf_0_0 {D : va_G} {dA : Nat → ClassId} (x tr w : Nat) (mm : Int32) (k0 : Int32) : Rd D dA yX9_isOf cX9_isOf 2 (some .boolean) 0 0 [.ref x, .int k0] (fun H => cAt D x (.inr (10, [.ref tr, .int (nI w), .int mm])) H) (some (.int (iI (k0 = nI 0)))) := by
  refine Rd.ofZ (by decide) (own := RX9) rfl (Nat.le_of_ble_eq_true rfl) iI_n ?_
  intro p l e R s m args below meth c Q ls hx hb hml hRf hRl hts hown hK hP hl hret
  have hl : lv_has ls 2 [(0, .ref x), (1, .int k0)] := hl
  refine lv_iload_n hx hb dX9_isOf_0 rfl (lv_at hl 1 rfl) ?_
  refine lv_if_ne (tgt := 8) hx hb dX9_isOf_1 (by decide) (fun c_1 => ?_) (fun c_1 => ?_)
  · refine lv_iconst (v := nI 0) hx hb dX9_isOf_8 (by decide) ?_
    exact hret (iI_0 c_1) dX9_isOf_9
  · refine lv_iconst (v := nI 1) hx hb dX9_isOf_4 (by decide) ?_
    refine lv_goto (tgt := 9) hx hb dX9_isOf_5 (by decide) ?_
    exact hret (iI_1 c_1) dX9_isOf_9
set_option maxHeartbeats 400000 in
theorem cow_wanted_0_0 {D : va_G} {dA : Nat → ClassId} (x tr w : Nat) (mm : Int32) (v mk : Int32) (kn sy : Prop) [Decidable kn] [Decidable sy] : Rd D dA yX9_wanted cX9_wanted 5 (some .int) 0 0 [.ref x, .int v, .int mk, .int (iI kn), .int (iI sy)] (fun H => cAt D x (.inr (10, [.ref tr, .int (nI w), .int mm])) H) (some (.int v)) := by
  refine Rd.ofI (by decide) (own := RX9) rfl (Nat.le_of_ble_eq_true rfl) ?_
  intro p l e R s m args below meth c Q ls hx hb hml hRf hRl hts hown hK hP hl hret
  have hl : lv_has ls 5 [(0, .ref x), (1, .int v), (2, .int mk), (3, .int (iI kn)), (4, .int (iI sy))] := hl
  refine lv_iload_n hx hb dX9_wanted_0 rfl (lv_at hl 1 rfl) ?_
  exact hret (by first | rfl | (rfl)) dX9_wanted_1
set_option maxHeartbeats 400000 in
theorem cow_eaten_0_0 {D : va_G} {dA : Nat → ClassId} (x tr w : Nat) (mm : Int32) : Rd D dA yX9_eaten cX9_eaten 1 (some .int) 0 0 [.ref x] (fun H => cAt D x (.inr (10, [.ref tr, .int (nI w), .int mm])) H) (some (.int (nI 10))) := by
  refine Rd.ofI (by decide) (own := RX9) rfl (Nat.le_of_ble_eq_true rfl) ?_
  intro p l e R s m args below meth c Q ls hx hb hml hRf hRl hts hown hK hP hl hret
  have hl : lv_has ls 1 [(0, .ref x)] := hl
  refine lv_bipush (v := nI 10) hx hb dX9_eaten_0 (by decide) ?_
  exact hret (by first | rfl | (simp only [iI, nI_0, nI_one]; grind)) dX9_eaten_2
set_option maxHeartbeats 400000 in
theorem cow_span_0_0 {D : va_G} {dA : Nat → ClassId} (x tr w : Nat) (mm : Int32) : Rd D dA yX9_span cX9_span 1 (some .int) 0 0 [.ref x] (fun H => cAt D x (.inr (10, [.ref tr, .int (nI w), .int mm])) H) (some (.int (nI 6))) := by
  refine Rd.ofI (by decide) (own := RX9) rfl (Nat.le_of_ble_eq_true rfl) ?_
  intro p l e R s m args below meth c Q ls hx hb hml hRf hRl hts hown hK hP hl hret
  have hl : lv_has ls 1 [(0, .ref x)] := hl
  refine lv_bipush (v := nI 6) hx hb dX9_span_0 (by decide) ?_
  exact hret (by first | rfl | (simp only [iI, nI_0, nI_one]; grind)) dX9_span_2
set_option maxHeartbeats 400000 in
theorem cow_kind_1_1 {D : va_G} {dA : Nat → ClassId} (x tr w : Nat) (mm : Int32) : Rd D dA yX10_kind cX10_kind 1 (some .int) 0 0 [.ref x] (fun H => cAt D x (.inr (11, [.ref tr, .int (nI w), .int mm])) H) (some (.int (nI 1))) := by
  refine Rd.ofI (by decide) (own := RX10) rfl (Nat.le_of_ble_eq_true rfl) ?_
  intro p l e R s m args below meth c Q ls hx hb hml hRf hRl hts hown hK hP hl hret
  have hl : lv_has ls 1 [(0, .ref x)] := hl
  refine lv_iconst (v := nI 1) hx hb dX10_kind_0 (by decide) ?_
  exact hret (by first | rfl | (simp only [iI, nI_0, nI_one]; grind)) dX10_kind_1
set_option maxHeartbeats 400000 in
theorem cow_isOf_0_1 {D : va_G} {dA : Nat → ClassId} (x tr w : Nat) (mm : Int32) (k0 : Int32) : Rd D dA yX9_isOf cX9_isOf 2 (some .boolean) 0 0 [.ref x, .int k0] (fun H => cAt D x (.inr (11, [.ref tr, .int (nI w), .int mm])) H) (some (.int (iI (k0 = nI 0)))) := by
  refine Rd.ofZ (by decide) (own := RX9) rfl (Nat.le_of_ble_eq_true rfl) iI_n ?_
  intro p l e R s m args below meth c Q ls hx hb hml hRf hRl hts hown hK hP hl hret
  have hl : lv_has ls 2 [(0, .ref x), (1, .int k0)] := hl
  refine lv_iload_n hx hb dX9_isOf_0 rfl (lv_at hl 1 rfl) ?_
  refine lv_if_ne (tgt := 8) hx hb dX9_isOf_1 (by decide) (fun c_1 => ?_) (fun c_1 => ?_)
  · refine lv_iconst (v := nI 0) hx hb dX9_isOf_8 (by decide) ?_
    exact hret (iI_0 c_1) dX9_isOf_9
  · refine lv_iconst (v := nI 1) hx hb dX9_isOf_4 (by decide) ?_
    refine lv_goto (tgt := 9) hx hb dX9_isOf_5 (by decide) ?_
    exact hret (iI_1 c_1) dX9_isOf_9
theorem nsX9_isOf : yX9_isOf.name ≠ "<init>" ∧ (parseMethodDescriptor yX9_isOf.desc).map (fun d => d.parameters.length) = some 1 := by decide +kernel

set_option maxHeartbeats 400000 in
theorem cow_isOf_1_1 {D : va_G} {dA : Nat → ClassId} (x tr w : Nat) (mm : Int32) (k0 : Int32) : Rd D dA yX10_isOf cX10_isOf 2 (some .boolean) 1 21 [.ref x, .int k0] (fun H => cAt D x (.inr (11, [.ref tr, .int (nI w), .int mm])) H) (some (.int (iI (k0 = nI 1 ∨ k0 = nI 0)))) := by
  refine Rd.ofZ (by decide) (own := RX10) rfl (Nat.le_of_ble_eq_true rfl) iI_n ?_
  intro p l e R s m args below meth c Q ls hx hb hml hRf hRl hts hown hK hP hl hret
  have hl : lv_has ls 2 [(0, .ref x), (1, .int k0)] := hl
  refine lv_iload_n hx hb dX10_isOf_0 rfl (lv_at hl 1 rfl) ?_
  refine lv_iconst (v := nI 1) hx hb dX10_isOf_1 (by decide) ?_
  refine lv_icmp_eq (tgt := 13) hx hb dX10_isOf_2 (by decide) (fun c_1 => ?_) (fun c_1 => ?_)
  · refine lv_iconst (v := nI 1) hx hb dX10_isOf_13 (by decide) ?_
    refine lv_goto (tgt := 18) hx hb dX10_isOf_14 (by decide) ?_
    exact hret (iI_1 (Or.inl c_1)) dX10_isOf_18
  · refine lv_aload_n hx hb dX10_isOf_5 rfl (lv_at hl 0 rfl) ?_
    refine lv_iload_n hx hb dX10_isOf_6 rfl (lv_at hl 1 rfl) ?_
    refine rd_callSU (y := yX9_isOf) hx hb hml hown hts hK (hK.1.1 11 _ rfl).2 (cow_isOf_0_1 x tr w mm k0) hP (hP.recv hK rfl) q642 q638 q446 q636 q74 q663 nsX9_isOf rfl (by rw [hRf]; decide) (by rw [hRl]; decide) (Nat.zero_le _) (Nat.zero_le _) hl.1 rfl (Nat.le_of_ble_eq_true rfl) dX10_isOf_7 ?_
    refine w_if_eqT (tgt := 17) hx hb dX10_isOf_10 (by decide) (fun c_2 => ?_) (fun c_2 => ?_)
    · refine lv_iconst (v := nI 0) hx hb dX10_isOf_17 (by decide) ?_
      exact hret (iI_0 (fun q => q.elim c_1 c_2)) dX10_isOf_18
    · refine lv_iconst (v := nI 1) hx hb dX10_isOf_13 (by decide) ?_
      refine lv_goto (tgt := 18) hx hb dX10_isOf_14 (by decide) ?_
      exact hret (iI_1 (Or.inr c_2)) dX10_isOf_18
set_option maxHeartbeats 400000 in
theorem cow_wanted_0_1 {D : va_G} {dA : Nat → ClassId} (x tr w : Nat) (mm : Int32) (v mk : Int32) (kn sy : Prop) [Decidable kn] [Decidable sy] : Rd D dA yX9_wanted cX9_wanted 5 (some .int) 0 0 [.ref x, .int v, .int mk, .int (iI kn), .int (iI sy)] (fun H => cAt D x (.inr (11, [.ref tr, .int (nI w), .int mm])) H) (some (.int v)) := by
  refine Rd.ofI (by decide) (own := RX9) rfl (Nat.le_of_ble_eq_true rfl) ?_
  intro p l e R s m args below meth c Q ls hx hb hml hRf hRl hts hown hK hP hl hret
  have hl : lv_has ls 5 [(0, .ref x), (1, .int v), (2, .int mk), (3, .int (iI kn)), (4, .int (iI sy))] := hl
  refine lv_iload_n hx hb dX9_wanted_0 rfl (lv_at hl 1 rfl) ?_
  exact hret (by first | rfl | (rfl)) dX9_wanted_1
theorem nsX9_wanted : yX9_wanted.name ≠ "<init>" ∧ (parseMethodDescriptor yX9_wanted.desc).map (fun d => d.parameters.length) = some 4 := by decide +kernel

set_option maxHeartbeats 400000 in
theorem cow_wanted_1_1 {D : va_G} {dA : Nat → ClassId} (x tr w : Nat) (mm : Int32) (v mk : Int32) (kn sy : Prop) [Decidable kn] [Decidable sy] : Rd D dA yX10_wanted cX10_wanted 5 (some .int) 1 24 [.ref x, .int v, .int mk, .int (iI kn), .int (iI sy)] (fun H => cAt D x (.inr (11, [.ref tr, .int (nI w), .int mm])) H) (some (.int (v + nI 10 * mk))) := by
  refine Rd.ofI (by decide) (own := RX10) rfl (Nat.le_of_ble_eq_true rfl) ?_
  intro p l e R s m args below meth c Q ls hx hb hml hRf hRl hts hown hK hP hl hret
  have hl : lv_has ls 5 [(0, .ref x), (1, .int v), (2, .int mk), (3, .int (iI kn)), (4, .int (iI sy))] := hl
  refine lv_aload_n hx hb dX10_wanted_0 rfl (lv_at hl 0 rfl) ?_
  refine lv_iload_n hx hb dX10_wanted_1 rfl (lv_at hl 1 rfl) ?_
  refine lv_iload_n hx hb dX10_wanted_2 rfl (lv_at hl 2 rfl) ?_
  refine lv_iload_n hx hb dX10_wanted_3 rfl (lv_at hl 3 rfl) ?_
  refine lv_iload hx hb dX10_wanted_4 (lv_at hl 4 rfl) ?_
  refine rd_callSU (y := yX9_wanted) hx hb hml hown hts hK (hK.1.1 11 _ rfl).2 (cow_wanted_0_1 x tr w mm v mk kn sy) hP (hP.recv hK rfl) q600 q596 q446 q594 q74 q621 nsX9_wanted rfl (by rw [hRf]; decide) (by rw [hRl]; decide) (Nat.zero_le _) (Nat.zero_le _) hl.1 rfl (Nat.le_of_ble_eq_true rfl) dX10_wanted_6 ?_
  refine lv_bipush (v := nI 10) hx hb dX10_wanted_9 (by decide) ?_
  refine lv_iload_n hx hb dX10_wanted_11 rfl (lv_at hl 2 rfl) ?_
  refine lv_imul hx hb dX10_wanted_12 ?_
  refine lv_iadd hx hb dX10_wanted_13 ?_
  exact hret (by first | rfl | (rfl)) dX10_wanted_14
set_option maxHeartbeats 400000 in
theorem cow_eaten_1_1 {D : va_G} {dA : Nat → ClassId} (x tr w : Nat) (mm : Int32) : Rd D dA yX10_eaten cX10_eaten 1 (some .int) 0 0 [.ref x] (fun H => cAt D x (.inr (11, [.ref tr, .int (nI w), .int mm])) H) (some (.int (nI 5 + mm))) := by
  refine Rd.ofI (by decide) (own := RX10) rfl (Nat.le_of_ble_eq_true rfl) ?_
  intro p l e R s m args below meth c Q ls hx hb hml hRf hRl hts hown hK hP hl hret
  have hl : lv_has ls 1 [(0, .ref x)] := hl
  refine lv_iconst (v := nI 5) hx hb dX10_eaten_0 (by decide) ?_
  refine lv_aload_n hx hb dX10_eaten_1 rfl (lv_at hl 0 rfl) ?_
  refine c_getU (v := .int mm) hx hb hts in_X10 hown hK hP rfl 2 (by decide) q435 q436 rfl dX10_eaten_2 ?_
  refine lv_iadd hx hb dX10_eaten_5 ?_
  exact hret (by first | rfl | (simp only [iI, nI_0, nI_one]; grind)) dX10_eaten_6
set_option maxHeartbeats 400000 in
theorem cow_span_0_1 {D : va_G} {dA : Nat → ClassId} (x tr w : Nat) (mm : Int32) : Rd D dA yX9_span cX9_span 1 (some .int) 0 0 [.ref x] (fun H => cAt D x (.inr (11, [.ref tr, .int (nI w), .int mm])) H) (some (.int (nI 6))) := by
  refine Rd.ofI (by decide) (own := RX9) rfl (Nat.le_of_ble_eq_true rfl) ?_
  intro p l e R s m args below meth c Q ls hx hb hml hRf hRl hts hown hK hP hl hret
  have hl : lv_has ls 1 [(0, .ref x)] := hl
  refine lv_bipush (v := nI 6) hx hb dX9_span_0 (by decide) ?_
  exact hret (by first | rfl | (simp only [iI, nI_0, nI_one]; grind)) dX9_span_2
set_option maxHeartbeats 400000 in
theorem cow_kind_2_2 {D : va_G} {dA : Nat → ClassId} (x tr w : Nat) (mm : Int32) : Rd D dA yX11_kind cX11_kind 1 (some .int) 0 0 [.ref x] (fun H => cAt D x (.inr (12, [.ref tr, .int (nI w), .int mm])) H) (some (.int (nI 2))) := by
  refine Rd.ofI (by decide) (own := RX11) rfl (Nat.le_of_ble_eq_true rfl) ?_
  intro p l e R s m args below meth c Q ls hx hb hml hRf hRl hts hown hK hP hl hret
  have hl : lv_has ls 1 [(0, .ref x)] := hl
  refine lv_iconst (v := nI 2) hx hb dX11_kind_0 (by decide) ?_
  exact hret (by first | rfl | (simp only [iI, nI_0, nI_one]; grind)) dX11_kind_1
set_option maxHeartbeats 400000 in
theorem cow_isOf_0_2 {D : va_G} {dA : Nat → ClassId} (x tr w : Nat) (mm : Int32) (k0 : Int32) : Rd D dA yX9_isOf cX9_isOf 2 (some .boolean) 0 0 [.ref x, .int k0] (fun H => cAt D x (.inr (12, [.ref tr, .int (nI w), .int mm])) H) (some (.int (iI (k0 = nI 0)))) := by
  refine Rd.ofZ (by decide) (own := RX9) rfl (Nat.le_of_ble_eq_true rfl) iI_n ?_
  intro p l e R s m args below meth c Q ls hx hb hml hRf hRl hts hown hK hP hl hret
  have hl : lv_has ls 2 [(0, .ref x), (1, .int k0)] := hl
  refine lv_iload_n hx hb dX9_isOf_0 rfl (lv_at hl 1 rfl) ?_
  refine lv_if_ne (tgt := 8) hx hb dX9_isOf_1 (by decide) (fun c_1 => ?_) (fun c_1 => ?_)
  · refine lv_iconst (v := nI 0) hx hb dX9_isOf_8 (by decide) ?_
    exact hret (iI_0 c_1) dX9_isOf_9
  · refine lv_iconst (v := nI 1) hx hb dX9_isOf_4 (by decide) ?_
    refine lv_goto (tgt := 9) hx hb dX9_isOf_5 (by decide) ?_
    exact hret (iI_1 c_1) dX9_isOf_9
set_option maxHeartbeats 400000 in
theorem cow_isOf_2_2 {D : va_G} {dA : Nat → ClassId} (x tr w : Nat) (mm : Int32) (k0 : Int32) : Rd D dA yX11_isOf cX11_isOf 2 (some .boolean) 1 21 [.ref x, .int k0] (fun H => cAt D x (.inr (12, [.ref tr, .int (nI w), .int mm])) H) (some (.int (iI (k0 = nI 2 ∨ k0 = nI 0)))) := by
  refine Rd.ofZ (by decide) (own := RX11) rfl (Nat.le_of_ble_eq_true rfl) iI_n ?_
  intro p l e R s m args below meth c Q ls hx hb hml hRf hRl hts hown hK hP hl hret
  have hl : lv_has ls 2 [(0, .ref x), (1, .int k0)] := hl
  refine lv_iload_n hx hb dX11_isOf_0 rfl (lv_at hl 1 rfl) ?_
  refine lv_iconst (v := nI 2) hx hb dX11_isOf_1 (by decide) ?_
  refine lv_icmp_eq (tgt := 13) hx hb dX11_isOf_2 (by decide) (fun c_1 => ?_) (fun c_1 => ?_)
  · refine lv_iconst (v := nI 1) hx hb dX11_isOf_13 (by decide) ?_
    refine lv_goto (tgt := 18) hx hb dX11_isOf_14 (by decide) ?_
    exact hret (iI_1 (Or.inl c_1)) dX11_isOf_18
  · refine lv_aload_n hx hb dX11_isOf_5 rfl (lv_at hl 0 rfl) ?_
    refine lv_iload_n hx hb dX11_isOf_6 rfl (lv_at hl 1 rfl) ?_
    refine rd_callSU (y := yX9_isOf) hx hb hml hown hts hK (hK.1.1 12 _ rfl).2 (cow_isOf_0_2 x tr w mm k0) hP (hP.recv hK rfl) q661 q638 q456 q636 q74 q663 nsX9_isOf rfl (by rw [hRf]; decide) (by rw [hRl]; decide) (Nat.zero_le _) (Nat.zero_le _) hl.1 rfl (Nat.le_of_ble_eq_true rfl) dX11_isOf_7 ?_
    refine w_if_eqT (tgt := 17) hx hb dX11_isOf_10 (by decide) (fun c_2 => ?_) (fun c_2 => ?_)
    · refine lv_iconst (v := nI 0) hx hb dX11_isOf_17 (by decide) ?_
      exact hret (iI_0 (fun q => q.elim c_1 c_2)) dX11_isOf_18
    · refine lv_iconst (v := nI 1) hx hb dX11_isOf_13 (by decide) ?_
      refine lv_goto (tgt := 18) hx hb dX11_isOf_14 (by decide) ?_
      exact hret (iI_1 (Or.inr c_2)) dX11_isOf_18
set_option maxHeartbeats 400000 in
theorem cow_wanted_0_2 {D : va_G} {dA : Nat → ClassId} (x tr w : Nat) (mm : Int32) (v mk : Int32) (kn sy : Prop) [Decidable kn] [Decidable sy] : Rd D dA yX9_wanted cX9_wanted 5 (some .int) 0 0 [.ref x, .int v, .int mk, .int (iI kn), .int (iI sy)] (fun H => cAt D x (.inr (12, [.ref tr, .int (nI w), .int mm])) H) (some (.int v)) := by
  refine Rd.ofI (by decide) (own := RX9) rfl (Nat.le_of_ble_eq_true rfl) ?_
  intro p l e R s m args below meth c Q ls hx hb hml hRf hRl hts hown hK hP hl hret
  have hl : lv_has ls 5 [(0, .ref x), (1, .int v), (2, .int mk), (3, .int (iI kn)), (4, .int (iI sy))] := hl
  refine lv_iload_n hx hb dX9_wanted_0 rfl (lv_at hl 1 rfl) ?_
  exact hret (by first | rfl | (rfl)) dX9_wanted_1
set_option maxHeartbeats 400000 in
theorem cow_wanted_2_2 {D : va_G} {dA : Nat → ClassId} (x tr w : Nat) (mm : Int32) (v mk : Int32) (kn sy : Prop) [Decidable kn] [Decidable sy] : Rd D dA yX11_wanted cX11_wanted 5 (some .int) 1 24 [.ref x, .int v, .int mk, .int (iI kn), .int (iI sy)] (fun H => cAt D x (.inr (12, [.ref tr, .int (nI w), .int mm])) H) (some (.int (v - (if kn then nI 50 else nI 0)))) := by
  refine Rd.ofI (by decide) (own := RX11) rfl (Nat.le_of_ble_eq_true rfl) ?_
  intro p l e R s m args below meth c Q ls hx hb hml hRf hRl hts hown hK hP hl hret
  have hl : lv_has ls 5 [(0, .ref x), (1, .int v), (2, .int mk), (3, .int (iI kn)), (4, .int (iI sy))] := hl
  refine lv_aload_n hx hb dX11_wanted_0 rfl (lv_at hl 0 rfl) ?_
  refine lv_iload_n hx hb dX11_wanted_1 rfl (lv_at hl 1 rfl) ?_
  refine lv_iload_n hx hb dX11_wanted_2 rfl (lv_at hl 2 rfl) ?_
  refine lv_iload_n hx hb dX11_wanted_3 rfl (lv_at hl 3 rfl) ?_
  refine lv_iload hx hb dX11_wanted_4 (lv_at hl 4 rfl) ?_
  refine rd_callSU (y := yX9_wanted) hx hb hml hown hts hK (hK.1.1 12 _ rfl).2 (cow_wanted_0_2 x tr w mm v mk kn sy) hP (hP.recv hK rfl) q619 q596 q456 q594 q74 q621 nsX9_wanted rfl (by rw [hRf]; decide) (by rw [hRl]; decide) (Nat.zero_le _) (Nat.zero_le _) hl.1 rfl (Nat.le_of_ble_eq_true rfl) dX11_wanted_6 ?_
  refine lv_iload_n hx hb dX11_wanted_9 rfl (lv_at hl 3 rfl) ?_
  refine w_if_eqT (tgt := 18) hx hb dX11_wanted_10 (by decide) (fun c_1 => ?_) (fun c_1 => ?_)
  · refine lv_iconst (v := nI 0) hx hb dX11_wanted_18 (by decide) ?_
    refine lv_isub hx hb dX11_wanted_19 ?_
    exact hret (by first | rfl | (first | simp only [if_pos c_1] | simp only [if_neg c_1])) dX11_wanted_20
  · refine lv_bipush (v := nI 50) hx hb dX11_wanted_13 (by decide) ?_
    refine lv_goto (tgt := 19) hx hb dX11_wanted_15 (by decide) ?_
    refine lv_isub hx hb dX11_wanted_19 ?_
    exact hret (by first | rfl | (first | simp only [if_pos c_1] | simp only [if_neg c_1])) dX11_wanted_20
set_option maxHeartbeats 400000 in
theorem cow_eaten_0_2 {D : va_G} {dA : Nat → ClassId} (x tr w : Nat) (mm : Int32) : Rd D dA yX9_eaten cX9_eaten 1 (some .int) 0 0 [.ref x] (fun H => cAt D x (.inr (12, [.ref tr, .int (nI w), .int mm])) H) (some (.int (nI 10))) := by
  refine Rd.ofI (by decide) (own := RX9) rfl (Nat.le_of_ble_eq_true rfl) ?_
  intro p l e R s m args below meth c Q ls hx hb hml hRf hRl hts hown hK hP hl hret
  have hl : lv_has ls 1 [(0, .ref x)] := hl
  refine lv_bipush (v := nI 10) hx hb dX9_eaten_0 (by decide) ?_
  exact hret (by first | rfl | (simp only [iI, nI_0, nI_one]; grind)) dX9_eaten_2
set_option maxHeartbeats 400000 in
theorem cow_span_2_2 {D : va_G} {dA : Nat → ClassId} (x tr w : Nat) (mm : Int32) : Rd D dA yX11_span cX11_span 1 (some .int) 0 0 [.ref x] (fun H => cAt D x (.inr (12, [.ref tr, .int (nI w), .int mm])) H) (some (.int (nI 8))) := by
  refine Rd.ofI (by decide) (own := RX11) rfl (Nat.le_of_ble_eq_true rfl) ?_
  intro p l e R s m args below meth c Q ls hx hb hml hRf hRl hts hown hK hP hl hret
  have hl : lv_has ls 1 [(0, .ref x)] := hl
  refine lv_bipush (v := nI 8) hx hb dX11_span_0 (by decide) ?_
  exact hret (by first | rfl | (simp only [iI, nI_0, nI_one]; grind)) dX11_span_2
set_option maxHeartbeats 400000 in
theorem cow_kind_3_3 {D : va_G} {dA : Nat → ClassId} (x tr w : Nat) (mm : Int32) : Rd D dA yX12_kind cX12_kind 1 (some .int) 0 0 [.ref x] (fun H => cAt D x (.inr (13, [.ref tr, .int (nI w), .int mm])) H) (some (.int (nI 3))) := by
  refine Rd.ofI (by decide) (own := RX12) rfl (Nat.le_of_ble_eq_true rfl) ?_
  intro p l e R s m args below meth c Q ls hx hb hml hRf hRl hts hown hK hP hl hret
  have hl : lv_has ls 1 [(0, .ref x)] := hl
  refine lv_iconst (v := nI 3) hx hb dX12_kind_0 (by decide) ?_
  exact hret (by first | rfl | (simp only [iI, nI_0, nI_one]; grind)) dX12_kind_1
set_option maxHeartbeats 400000 in
theorem cow_isOf_0_3 {D : va_G} {dA : Nat → ClassId} (x tr w : Nat) (mm : Int32) (k0 : Int32) : Rd D dA yX9_isOf cX9_isOf 2 (some .boolean) 0 0 [.ref x, .int k0] (fun H => cAt D x (.inr (13, [.ref tr, .int (nI w), .int mm])) H) (some (.int (iI (k0 = nI 0)))) := by
  refine Rd.ofZ (by decide) (own := RX9) rfl (Nat.le_of_ble_eq_true rfl) iI_n ?_
  intro p l e R s m args below meth c Q ls hx hb hml hRf hRl hts hown hK hP hl hret
  have hl : lv_has ls 2 [(0, .ref x), (1, .int k0)] := hl
  refine lv_iload_n hx hb dX9_isOf_0 rfl (lv_at hl 1 rfl) ?_
  refine lv_if_ne (tgt := 8) hx hb dX9_isOf_1 (by decide) (fun c_1 => ?_) (fun c_1 => ?_)
  · refine lv_iconst (v := nI 0) hx hb dX9_isOf_8 (by decide) ?_
    exact hret (iI_0 c_1) dX9_isOf_9
  · refine lv_iconst (v := nI 1) hx hb dX9_isOf_4 (by decide) ?_
    refine lv_goto (tgt := 9) hx hb dX9_isOf_5 (by decide) ?_
    exact hret (iI_1 c_1) dX9_isOf_9
set_option maxHeartbeats 400000 in
theorem cow_isOf_3_3 {D : va_G} {dA : Nat → ClassId} (x tr w : Nat) (mm : Int32) (k0 : Int32) : Rd D dA yX12_isOf cX12_isOf 2 (some .boolean) 1 21 [.ref x, .int k0] (fun H => cAt D x (.inr (13, [.ref tr, .int (nI w), .int mm])) H) (some (.int (iI (k0 = nI 3 ∨ k0 = nI 0)))) := by
  refine Rd.ofZ (by decide) (own := RX12) rfl (Nat.le_of_ble_eq_true rfl) iI_n ?_
  intro p l e R s m args below meth c Q ls hx hb hml hRf hRl hts hown hK hP hl hret
  have hl : lv_has ls 2 [(0, .ref x), (1, .int k0)] := hl
  refine lv_iload_n hx hb dX12_isOf_0 rfl (lv_at hl 1 rfl) ?_
  refine lv_iconst (v := nI 3) hx hb dX12_isOf_1 (by decide) ?_
  refine lv_icmp_eq (tgt := 13) hx hb dX12_isOf_2 (by decide) (fun c_1 => ?_) (fun c_1 => ?_)
  · refine lv_iconst (v := nI 1) hx hb dX12_isOf_13 (by decide) ?_
    refine lv_goto (tgt := 18) hx hb dX12_isOf_14 (by decide) ?_
    exact hret (iI_1 (Or.inl c_1)) dX12_isOf_18
  · refine lv_aload_n hx hb dX12_isOf_5 rfl (lv_at hl 0 rfl) ?_
    refine lv_iload_n hx hb dX12_isOf_6 rfl (lv_at hl 1 rfl) ?_
    refine rd_callSU (y := yX9_isOf) hx hb hml hown hts hK (hK.1.1 13 _ rfl).2 (cow_isOf_0_3 x tr w mm k0) hP (hP.recv hK rfl) q646 q638 q466 q636 q74 q663 nsX9_isOf rfl (by rw [hRf]; decide) (by rw [hRl]; decide) (Nat.zero_le _) (Nat.zero_le _) hl.1 rfl (Nat.le_of_ble_eq_true rfl) dX12_isOf_7 ?_
    refine w_if_eqT (tgt := 17) hx hb dX12_isOf_10 (by decide) (fun c_2 => ?_) (fun c_2 => ?_)
    · refine lv_iconst (v := nI 0) hx hb dX12_isOf_17 (by decide) ?_
      exact hret (iI_0 (fun q => q.elim c_1 c_2)) dX12_isOf_18
    · refine lv_iconst (v := nI 1) hx hb dX12_isOf_13 (by decide) ?_
      refine lv_goto (tgt := 18) hx hb dX12_isOf_14 (by decide) ?_
      exact hret (iI_1 (Or.inr c_2)) dX12_isOf_18
set_option maxHeartbeats 400000 in
theorem cow_wanted_0_3 {D : va_G} {dA : Nat → ClassId} (x tr w : Nat) (mm : Int32) (v mk : Int32) (kn sy : Prop) [Decidable kn] [Decidable sy] : Rd D dA yX9_wanted cX9_wanted 5 (some .int) 0 0 [.ref x, .int v, .int mk, .int (iI kn), .int (iI sy)] (fun H => cAt D x (.inr (13, [.ref tr, .int (nI w), .int mm])) H) (some (.int v)) := by
  refine Rd.ofI (by decide) (own := RX9) rfl (Nat.le_of_ble_eq_true rfl) ?_
  intro p l e R s m args below meth c Q ls hx hb hml hRf hRl hts hown hK hP hl hret
  have hl : lv_has ls 5 [(0, .ref x), (1, .int v), (2, .int mk), (3, .int (iI kn)), (4, .int (iI sy))] := hl
  refine lv_iload_n hx hb dX9_wanted_0 rfl (lv_at hl 1 rfl) ?_
  exact hret (by first | rfl | (rfl)) dX9_wanted_1
set_option maxHeartbeats 400000 in
theorem cow_wanted_3_3 {D : va_G} {dA : Nat → ClassId} (x tr w : Nat) (mm : Int32) (v mk : Int32) (kn sy : Prop) [Decidable kn] [Decidable sy] : Rd D dA yX12_wanted cX12_wanted 5 (some .int) 1 24 [.ref x, .int v, .int mk, .int (iI kn), .int (iI sy)] (fun H => cAt D x (.inr (13, [.ref tr, .int (nI w), .int mm])) H) (some (.int (v + (if sy then mm else nI 0)))) := by
  refine Rd.ofI (by decide) (own := RX12) rfl (Nat.le_of_ble_eq_true rfl) ?_
  intro p l e R s m args below meth c Q ls hx hb hml hRf hRl hts hown hK hP hl hret
  have hl : lv_has ls 5 [(0, .ref x), (1, .int v), (2, .int mk), (3, .int (iI kn)), (4, .int (iI sy))] := hl
  refine lv_aload_n hx hb dX12_wanted_0 rfl (lv_at hl 0 rfl) ?_
  refine lv_iload_n hx hb dX12_wanted_1 rfl (lv_at hl 1 rfl) ?_
  refine lv_iload_n hx hb dX12_wanted_2 rfl (lv_at hl 2 rfl) ?_
  refine lv_iload_n hx hb dX12_wanted_3 rfl (lv_at hl 3 rfl) ?_
  refine lv_iload hx hb dX12_wanted_4 (lv_at hl 4 rfl) ?_
  refine rd_callSU (y := yX9_wanted) hx hb hml hown hts hK (hK.1.1 13 _ rfl).2 (cow_wanted_0_3 x tr w mm v mk kn sy) hP (hP.recv hK rfl) q604 q596 q466 q594 q74 q621 nsX9_wanted rfl (by rw [hRf]; decide) (by rw [hRl]; decide) (Nat.zero_le _) (Nat.zero_le _) hl.1 rfl (Nat.le_of_ble_eq_true rfl) dX12_wanted_6 ?_
  refine lv_iload hx hb dX12_wanted_9 (lv_at hl 4 rfl) ?_
  refine w_if_eqT (tgt := 21) hx hb dX12_wanted_11 (by decide) (fun c_1 => ?_) (fun c_1 => ?_)
  · refine lv_iconst (v := nI 0) hx hb dX12_wanted_21 (by decide) ?_
    refine lv_iadd hx hb dX12_wanted_22 ?_
    exact hret (by first | rfl | (first | simp only [if_pos c_1] | simp only [if_neg c_1])) dX12_wanted_23
  · refine lv_aload_n hx hb dX12_wanted_14 rfl (lv_at hl 0 rfl) ?_
    refine c_getU (v := .int mm) hx hb hts in_X12 hown hK hP rfl 2 (by decide) q431 q432 rfl dX12_wanted_15 ?_
    refine lv_goto (tgt := 22) hx hb dX12_wanted_18 (by decide) ?_
    refine lv_iadd hx hb dX12_wanted_22 ?_
    exact hret (by first | rfl | (first | simp only [if_pos c_1] | simp only [if_neg c_1])) dX12_wanted_23
set_option maxHeartbeats 400000 in
theorem cow_eaten_3_3 {D : va_G} {dA : Nat → ClassId} (x tr w : Nat) (mm : Int32) : Rd D dA yX12_eaten cX12_eaten 1 (some .int) 0 0 [.ref x] (fun H => cAt D x (.inr (13, [.ref tr, .int (nI w), .int mm])) H) (some (.int (nI 15))) := by
  refine Rd.ofI (by decide) (own := RX12) rfl (Nat.le_of_ble_eq_true rfl) ?_
  intro p l e R s m args below meth c Q ls hx hb hml hRf hRl hts hown hK hP hl hret
  have hl : lv_has ls 1 [(0, .ref x)] := hl
  refine lv_bipush (v := nI 15) hx hb dX12_eaten_0 (by decide) ?_
  exact hret (by first | rfl | (simp only [iI, nI_0, nI_one]; grind)) dX12_eaten_2
set_option maxHeartbeats 400000 in
theorem cow_span_0_3 {D : va_G} {dA : Nat → ClassId} (x tr w : Nat) (mm : Int32) : Rd D dA yX9_span cX9_span 1 (some .int) 0 0 [.ref x] (fun H => cAt D x (.inr (13, [.ref tr, .int (nI w), .int mm])) H) (some (.int (nI 6))) := by
  refine Rd.ofI (by decide) (own := RX9) rfl (Nat.le_of_ble_eq_true rfl) ?_
  intro p l e R s m args below meth c Q ls hx hb hml hRf hRl hts hown hK hP hl hret
  have hl : lv_has ls 1 [(0, .ref x)] := hl
  refine lv_bipush (v := nI 6) hx hb dX9_span_0 (by decide) ?_
  exact hret (by first | rfl | (simp only [iI, nI_0, nI_one]; grind)) dX9_span_2
set_option maxHeartbeats 400000 in
theorem cow_kind_4_4 {D : va_G} {dA : Nat → ClassId} (x tr w : Nat) (mm : Int32) : Rd D dA yX13_kind cX13_kind 1 (some .int) 0 0 [.ref x] (fun H => cAt D x (.inr (14, [.ref tr, .int (nI w), .int mm])) H) (some (.int (nI 4))) := by
  refine Rd.ofI (by decide) (own := RX13) rfl (Nat.le_of_ble_eq_true rfl) ?_
  intro p l e R s m args below meth c Q ls hx hb hml hRf hRl hts hown hK hP hl hret
  have hl : lv_has ls 1 [(0, .ref x)] := hl
  refine lv_iconst (v := nI 4) hx hb dX13_kind_0 (by decide) ?_
  exact hret (by first | rfl | (simp only [iI, nI_0, nI_one]; grind)) dX13_kind_1
set_option maxHeartbeats 400000 in
theorem cow_isOf_0_4 {D : va_G} {dA : Nat → ClassId} (x tr w : Nat) (mm : Int32) (k0 : Int32) : Rd D dA yX9_isOf cX9_isOf 2 (some .boolean) 0 0 [.ref x, .int k0] (fun H => cAt D x (.inr (14, [.ref tr, .int (nI w), .int mm])) H) (some (.int (iI (k0 = nI 0)))) := by
  refine Rd.ofZ (by decide) (own := RX9) rfl (Nat.le_of_ble_eq_true rfl) iI_n ?_
  intro p l e R s m args below meth c Q ls hx hb hml hRf hRl hts hown hK hP hl hret
  have hl : lv_has ls 2 [(0, .ref x), (1, .int k0)] := hl
  refine lv_iload_n hx hb dX9_isOf_0 rfl (lv_at hl 1 rfl) ?_
  refine lv_if_ne (tgt := 8) hx hb dX9_isOf_1 (by decide) (fun c_1 => ?_) (fun c_1 => ?_)
  · refine lv_iconst (v := nI 0) hx hb dX9_isOf_8 (by decide) ?_
    exact hret (iI_0 c_1) dX9_isOf_9
  · refine lv_iconst (v := nI 1) hx hb dX9_isOf_4 (by decide) ?_
    refine lv_goto (tgt := 9) hx hb dX9_isOf_5 (by decide) ?_
    exact hret (iI_1 c_1) dX9_isOf_9
set_option maxHeartbeats 400000 in
theorem cow_isOf_1_4 {D : va_G} {dA : Nat → ClassId} (x tr w : Nat) (mm : Int32) (k0 : Int32) : Rd D dA yX10_isOf cX10_isOf 2 (some .boolean) 1 21 [.ref x, .int k0] (fun H => cAt D x (.inr (14, [.ref tr, .int (nI w), .int mm])) H) (some (.int (iI (k0 = nI 1 ∨ k0 = nI 0)))) := by
  refine Rd.ofZ (by decide) (own := RX10) rfl (Nat.le_of_ble_eq_true rfl) iI_n ?_
  intro p l e R s m args below meth c Q ls hx hb hml hRf hRl hts hown hK hP hl hret
  have hl : lv_has ls 2 [(0, .ref x), (1, .int k0)] := hl
  refine lv_iload_n hx hb dX10_isOf_0 rfl (lv_at hl 1 rfl) ?_
  refine lv_iconst (v := nI 1) hx hb dX10_isOf_1 (by decide) ?_
  refine lv_icmp_eq (tgt := 13) hx hb dX10_isOf_2 (by decide) (fun c_1 => ?_) (fun c_1 => ?_)
  · refine lv_iconst (v := nI 1) hx hb dX10_isOf_13 (by decide) ?_
    refine lv_goto (tgt := 18) hx hb dX10_isOf_14 (by decide) ?_
    exact hret (iI_1 (Or.inl c_1)) dX10_isOf_18
  · refine lv_aload_n hx hb dX10_isOf_5 rfl (lv_at hl 0 rfl) ?_
    refine lv_iload_n hx hb dX10_isOf_6 rfl (lv_at hl 1 rfl) ?_
    refine rd_callSU (y := yX9_isOf) hx hb hml hown hts hK (hK.1.1 14 _ rfl).2 (cow_isOf_0_4 x tr w mm k0) hP (hP.recv hK rfl) q642 q638 q446 q636 q74 q663 nsX9_isOf rfl (by rw [hRf]; decide) (by rw [hRl]; decide) (Nat.zero_le _) (Nat.zero_le _) hl.1 rfl (Nat.le_of_ble_eq_true rfl) dX10_isOf_7 ?_
    refine w_if_eqT (tgt := 17) hx hb dX10_isOf_10 (by decide) (fun c_2 => ?_) (fun c_2 => ?_)
    · refine lv_iconst (v := nI 0) hx hb dX10_isOf_17 (by decide) ?_
      exact hret (iI_0 (fun q => q.elim c_1 c_2)) dX10_isOf_18
    · refine lv_iconst (v := nI 1) hx hb dX10_isOf_13 (by decide) ?_
      refine lv_goto (tgt := 18) hx hb dX10_isOf_14 (by decide) ?_
      exact hret (iI_1 (Or.inr c_2)) dX10_isOf_18
theorem nsX10_isOf : yX10_isOf.name ≠ "<init>" ∧ (parseMethodDescriptor yX10_isOf.desc).map (fun d => d.parameters.length) = some 1 := by decide +kernel

set_option maxHeartbeats 400000 in
theorem cow_isOf_4_4 {D : va_G} {dA : Nat → ClassId} (x tr w : Nat) (mm : Int32) (k0 : Int32) : Rd D dA yX13_isOf cX13_isOf 2 (some .boolean) 2 42 [.ref x, .int k0] (fun H => cAt D x (.inr (14, [.ref tr, .int (nI w), .int mm])) H) (some (.int (iI (k0 = nI 4 ∨ k0 = nI 1 ∨ k0 = nI 0)))) := by
  refine Rd.ofZ (by decide) (own := RX13) rfl (Nat.le_of_ble_eq_true rfl) iI_n ?_
  intro p l e R s m args below meth c Q ls hx hb hml hRf hRl hts hown hK hP hl hret
  have hl : lv_has ls 2 [(0, .ref x), (1, .int k0)] := hl
  refine lv_iload_n hx hb dX13_isOf_0 rfl (lv_at hl 1 rfl) ?_
  refine lv_iconst (v := nI 4) hx hb dX13_isOf_1 (by decide) ?_
  refine lv_icmp_eq (tgt := 13) hx hb dX13_isOf_2 (by decide) (fun c_1 => ?_) (fun c_1 => ?_)
  · refine lv_iconst (v := nI 1) hx hb dX13_isOf_13 (by decide) ?_
    refine lv_goto (tgt := 18) hx hb dX13_isOf_14 (by decide) ?_
    exact hret (iI_1 (Or.inl c_1)) dX13_isOf_18
  · refine lv_aload_n hx hb dX13_isOf_5 rfl (lv_at hl 0 rfl) ?_
    refine lv_iload_n hx hb dX13_isOf_6 rfl (lv_at hl 1 rfl) ?_
    refine rd_callSU (y := yX10_isOf) hx hb hml hown hts hK (hK.1.1 14 _ rfl).2 (cow_isOf_1_4 x tr w mm k0) hP (hP.recv hK rfl) q650 q1834 q476 q640 q75 q641 nsX10_isOf rfl (by rw [hRf]; decide) (by rw [hRl]; decide) (Nat.zero_le _) (Nat.zero_le _) hl.1 rfl (Nat.le_of_ble_eq_true rfl) dX13_isOf_7 ?_
    refine w_if_eqT (tgt := 17) hx hb dX13_isOf_10 (by decide) (fun c_2 => ?_) (fun c_2 => ?_)
    · refine lv_iconst (v := nI 0) hx hb dX13_isOf_17 (by decide) ?_
      exact hret (iI_0 (fun q => q.elim c_1 c_2)) dX13_isOf_18
    · refine lv_iconst (v := nI 1) hx hb dX13_isOf_13 (by decide) ?_
      refine lv_goto (tgt := 18) hx hb dX13_isOf_14 (by decide) ?_
      exact hret (iI_1 (Or.inr c_2)) dX13_isOf_18
set_option maxHeartbeats 400000 in
theorem cow_wanted_0_4 {D : va_G} {dA : Nat → ClassId} (x tr w : Nat) (mm : Int32) (v mk : Int32) (kn sy : Prop) [Decidable kn] [Decidable sy] : Rd D dA yX9_wanted cX9_wanted 5 (some .int) 0 0 [.ref x, .int v, .int mk, .int (iI kn), .int (iI sy)] (fun H => cAt D x (.inr (14, [.ref tr, .int (nI w), .int mm])) H) (some (.int v)) := by
  refine Rd.ofI (by decide) (own := RX9) rfl (Nat.le_of_ble_eq_true rfl) ?_
  intro p l e R s m args below meth c Q ls hx hb hml hRf hRl hts hown hK hP hl hret
  have hl : lv_has ls 5 [(0, .ref x), (1, .int v), (2, .int mk), (3, .int (iI kn)), (4, .int (iI sy))] := hl
  refine lv_iload_n hx hb dX9_wanted_0 rfl (lv_at hl 1 rfl) ?_
  exact hret (by first | rfl | (rfl)) dX9_wanted_1
set_option maxHeartbeats 400000 in
theorem cow_wanted_1_4 {D : va_G} {dA : Nat → ClassId} (x tr w : Nat) (mm : Int32) (v mk : Int32) (kn sy : Prop) [Decidable kn] [Decidable sy] : Rd D dA yX10_wanted cX10_wanted 5 (some .int) 1 24 [.ref x, .int v, .int mk, .int (iI kn), .int (iI sy)] (fun H => cAt D x (.inr (14, [.ref tr, .int (nI w), .int mm])) H) (some (.int (v + nI 10 * mk))) := by
  refine Rd.ofI (by decide) (own := RX10) rfl (Nat.le_of_ble_eq_true rfl) ?_
  intro p l e R s m args below meth c Q ls hx hb hml hRf hRl hts hown hK hP hl hret
  have hl : lv_has ls 5 [(0, .ref x), (1, .int v), (2, .int mk), (3, .int (iI kn)), (4, .int (iI sy))] := hl
  refine lv_aload_n hx hb dX10_wanted_0 rfl (lv_at hl 0 rfl) ?_
  refine lv_iload_n hx hb dX10_wanted_1 rfl (lv_at hl 1 rfl) ?_
  refine lv_iload_n hx hb dX10_wanted_2 rfl (lv_at hl 2 rfl) ?_
  refine lv_iload_n hx hb dX10_wanted_3 rfl (lv_at hl 3 rfl) ?_
  refine lv_iload hx hb dX10_wanted_4 (lv_at hl 4 rfl) ?_
  refine rd_callSU (y := yX9_wanted) hx hb hml hown hts hK (hK.1.1 14 _ rfl).2 (cow_wanted_0_4 x tr w mm v mk kn sy) hP (hP.recv hK rfl) q600 q596 q446 q594 q74 q621 nsX9_wanted rfl (by rw [hRf]; decide) (by rw [hRl]; decide) (Nat.zero_le _) (Nat.zero_le _) hl.1 rfl (Nat.le_of_ble_eq_true rfl) dX10_wanted_6 ?_
  refine lv_bipush (v := nI 10) hx hb dX10_wanted_9 (by decide) ?_
  refine lv_iload_n hx hb dX10_wanted_11 rfl (lv_at hl 2 rfl) ?_
  refine lv_imul hx hb dX10_wanted_12 ?_
  refine lv_iadd hx hb dX10_wanted_13 ?_
  exact hret (by first | rfl | (rfl)) dX10_wanted_14
theorem nsX10_wanted : yX10_wanted.name ≠ "<init>" ∧ (parseMethodDescriptor yX10_wanted.desc).map (fun d => d.parameters.length) = some 4 := by decide +kernel

set_option maxHeartbeats 400000 in
theorem cow_wanted_4_4 {D : va_G} {dA : Nat → ClassId} (x tr w : Nat) (mm : Int32) (v mk : Int32) (kn sy : Prop) [Decidable kn] [Decidable sy] : Rd D dA yX13_wanted cX13_wanted 5 (some .int) 2 48 [.ref x, .int v, .int mk, .int (iI kn), .int (iI sy)] (fun H => cAt D x (.inr (14, [.ref tr, .int (nI w), .int mm])) H) (some (.int ((v + nI 10 * mk) - (if sy then nI 20 else nI 0)))) := by
  refine Rd.ofI (by decide) (own := RX13) rfl (Nat.le_of_ble_eq_true rfl) ?_
  intro p l e R s m args below meth c Q ls hx hb hml hRf hRl hts hown hK hP hl hret
  have hl : lv_has ls 5 [(0, .ref x), (1, .int v), (2, .int mk), (3, .int (iI kn)), (4, .int (iI sy))] := hl
  refine lv_aload_n hx hb dX13_wanted_0 rfl (lv_at hl 0 rfl) ?_
  refine lv_iload_n hx hb dX13_wanted_1 rfl (lv_at hl 1 rfl) ?_
  refine lv_iload_n hx hb dX13_wanted_2 rfl (lv_at hl 2 rfl) ?_
  refine lv_iload_n hx hb dX13_wanted_3 rfl (lv_at hl 3 rfl) ?_
  refine lv_iload hx hb dX13_wanted_4 (lv_at hl 4 rfl) ?_
  refine rd_callSU (y := yX10_wanted) hx hb hml hown hts hK (hK.1.1 14 _ rfl).2 (cow_wanted_1_4 x tr w mm v mk kn sy) hP (hP.recv hK rfl) q608 q1831 q476 q598 q75 q599 nsX10_wanted rfl (by rw [hRf]; decide) (by rw [hRl]; decide) (Nat.zero_le _) (Nat.zero_le _) hl.1 rfl (Nat.le_of_ble_eq_true rfl) dX13_wanted_6 ?_
  refine lv_iload hx hb dX13_wanted_9 (lv_at hl 4 rfl) ?_
  refine w_if_eqT (tgt := 19) hx hb dX13_wanted_11 (by decide) (fun c_1 => ?_) (fun c_1 => ?_)
  · refine lv_iconst (v := nI 0) hx hb dX13_wanted_19 (by decide) ?_
    refine lv_isub hx hb dX13_wanted_20 ?_
    exact hret (by first | rfl | (first | simp only [if_pos c_1] | simp only [if_neg c_1])) dX13_wanted_21
  · refine lv_bipush (v := nI 20) hx hb dX13_wanted_14 (by decide) ?_
    refine lv_goto (tgt := 20) hx hb dX13_wanted_16 (by decide) ?_
    refine lv_isub hx hb dX13_wanted_20 ?_
    exact hret (by first | rfl | (first | simp only [if_pos c_1] | simp only [if_neg c_1])) dX13_wanted_21
set_option maxHeartbeats 400000 in
theorem cow_eaten_1_4 {D : va_G} {dA : Nat → ClassId} (x tr w : Nat) (mm : Int32) : Rd D dA yX10_eaten cX10_eaten 1 (some .int) 0 0 [.ref x] (fun H => cAt D x (.inr (14, [.ref tr, .int (nI w), .int mm])) H) (some (.int (nI 5 + mm))) := by
  refine Rd.ofI (by decide) (own := RX10) rfl (Nat.le_of_ble_eq_true rfl) ?_
  intro p l e R s m args below meth c Q ls hx hb hml hRf hRl hts hown hK hP hl hret
  have hl : lv_has ls 1 [(0, .ref x)] := hl
  refine lv_iconst (v := nI 5) hx hb dX10_eaten_0 (by decide) ?_
  refine lv_aload_n hx hb dX10_eaten_1 rfl (lv_at hl 0 rfl) ?_
  refine c_getU (v := .int mm) hx hb hts in_X13 hown hK hP rfl 2 (by decide) q435 q436 rfl dX10_eaten_2 ?_
  refine lv_iadd hx hb dX10_eaten_5 ?_
  exact hret (by first | rfl | (simp only [iI, nI_0, nI_one]; grind)) dX10_eaten_6
theorem nsX10_eaten : yX10_eaten.name ≠ "<init>" ∧ (parseMethodDescriptor yX10_eaten.desc).map (fun d => d.parameters.length) = some 0 := by decide +kernel

set_option maxHeartbeats 400000 in
theorem cow_eaten_4_4 {D : va_G} {dA : Nat → ClassId} (x tr w : Nat) (mm : Int32) : Rd D dA yX13_eaten cX13_eaten 1 (some .int) 1 20 [.ref x] (fun H => cAt D x (.inr (14, [.ref tr, .int (nI w), .int mm])) H) (some (.int ((nI 5 + mm) / nI 2))) := by
  refine Rd.ofI (by decide) (own := RX13) rfl (Nat.le_of_ble_eq_true rfl) ?_
  intro p l e R s m args below meth c Q ls hx hb hml hRf hRl hts hown hK hP hl hret
  have hl : lv_has ls 1 [(0, .ref x)] := hl
  refine lv_aload_n hx hb dX13_eaten_0 rfl (lv_at hl 0 rfl) ?_
  refine rd_callSU (y := yX10_eaten) hx hb hml hown hts hK (hK.1.1 14 _ rfl).2 (cow_eaten_1_4 x tr w mm) hP (hP.recv hK rfl) q552 q1830 q476 q544 q75 q545 nsX10_eaten rfl (by rw [hRf]; decide) (by rw [hRl]; decide) (Nat.zero_le _) (Nat.zero_le _) hl.1 rfl (Nat.le_of_ble_eq_true rfl) dX13_eaten_1 ?_
  refine lv_iconst (v := nI 2) hx hb dX13_eaten_4 (by decide) ?_
  refine lv_idiv hx hb dX13_eaten_5 (by decide) ?_
  exact hret (by first | rfl | (simp only [iI, nI_0, nI_one]; grind)) dX13_eaten_6
set_option maxHeartbeats 400000 in
theorem cow_span_4_4 {D : va_G} {dA : Nat → ClassId} (x tr w : Nat) (mm : Int32) : Rd D dA yX13_span cX13_span 1 (some .int) 0 0 [.ref x] (fun H => cAt D x (.inr (14, [.ref tr, .int (nI w), .int mm])) H) (some (.int (nI 4))) := by
  refine Rd.ofI (by decide) (own := RX13) rfl (Nat.le_of_ble_eq_true rfl) ?_
  intro p l e R s m args below meth c Q ls hx hb hml hRf hRl hts hown hK hP hl hret
  have hl : lv_has ls 1 [(0, .ref x)] := hl
  refine lv_iconst (v := nI 4) hx hb dX13_span_0 (by decide) ?_
  exact hret (by first | rfl | (simp only [iI, nI_0, nI_one]; grind)) dX13_span_1
set_option maxHeartbeats 400000 in
theorem cow_kind_5_5 {D : va_G} {dA : Nat → ClassId} (x tr w : Nat) (mm : Int32) : Rd D dA yX14_kind cX14_kind 1 (some .int) 0 0 [.ref x] (fun H => cAt D x (.inr (15, [.ref tr, .int (nI w), .int mm])) H) (some (.int (nI 5))) := by
  refine Rd.ofI (by decide) (own := RX14) rfl (Nat.le_of_ble_eq_true rfl) ?_
  intro p l e R s m args below meth c Q ls hx hb hml hRf hRl hts hown hK hP hl hret
  have hl : lv_has ls 1 [(0, .ref x)] := hl
  refine lv_iconst (v := nI 5) hx hb dX14_kind_0 (by decide) ?_
  exact hret (by first | rfl | (simp only [iI, nI_0, nI_one]; grind)) dX14_kind_1
set_option maxHeartbeats 400000 in
theorem cow_isOf_0_5 {D : va_G} {dA : Nat → ClassId} (x tr w : Nat) (mm : Int32) (k0 : Int32) : Rd D dA yX9_isOf cX9_isOf 2 (some .boolean) 0 0 [.ref x, .int k0] (fun H => cAt D x (.inr (15, [.ref tr, .int (nI w), .int mm])) H) (some (.int (iI (k0 = nI 0)))) := by
  refine Rd.ofZ (by decide) (own := RX9) rfl (Nat.le_of_ble_eq_true rfl) iI_n ?_
  intro p l e R s m args below meth c Q ls hx hb hml hRf hRl hts hown hK hP hl hret
  have hl : lv_has ls 2 [(0, .ref x), (1, .int k0)] := hl
  refine lv_iload_n hx hb dX9_isOf_0 rfl (lv_at hl 1 rfl) ?_
  refine lv_if_ne (tgt := 8) hx hb dX9_isOf_1 (by decide) (fun c_1 => ?_) (fun c_1 => ?_)
  · refine lv_iconst (v := nI 0) hx hb dX9_isOf_8 (by decide) ?_
    exact hret (iI_0 c_1) dX9_isOf_9
  · refine lv_iconst (v := nI 1) hx hb dX9_isOf_4 (by decide) ?_
    refine lv_goto (tgt := 9) hx hb dX9_isOf_5 (by decide) ?_
    exact hret (iI_1 c_1) dX9_isOf_9
set_option maxHeartbeats 400000 in
theorem cow_isOf_2_5 {D : va_G} {dA : Nat → ClassId} (x tr w : Nat) (mm : Int32) (k0 : Int32) : Rd D dA yX11_isOf cX11_isOf 2 (some .boolean) 1 21 [.ref x, .int k0] (fun H => cAt D x (.inr (15, [.ref tr, .int (nI w), .int mm])) H) (some (.int (iI (k0 = nI 2 ∨ k0 = nI 0)))) := by
  refine Rd.ofZ (by decide) (own := RX11) rfl (Nat.le_of_ble_eq_true rfl) iI_n ?_
  intro p l e R s m args below meth c Q ls hx hb hml hRf hRl hts hown hK hP hl hret
  have hl : lv_has ls 2 [(0, .ref x), (1, .int k0)] := hl
  refine lv_iload_n hx hb dX11_isOf_0 rfl (lv_at hl 1 rfl) ?_
  refine lv_iconst (v := nI 2) hx hb dX11_isOf_1 (by decide) ?_
  refine lv_icmp_eq (tgt := 13) hx hb dX11_isOf_2 (by decide) (fun c_1 => ?_) (fun c_1 => ?_)
  · refine lv_iconst (v := nI 1) hx hb dX11_isOf_13 (by decide) ?_
    refine lv_goto (tgt := 18) hx hb dX11_isOf_14 (by decide) ?_
    exact hret (iI_1 (Or.inl c_1)) dX11_isOf_18
  · refine lv_aload_n hx hb dX11_isOf_5 rfl (lv_at hl 0 rfl) ?_
    refine lv_iload_n hx hb dX11_isOf_6 rfl (lv_at hl 1 rfl) ?_
    refine rd_callSU (y := yX9_isOf) hx hb hml hown hts hK (hK.1.1 15 _ rfl).2 (cow_isOf_0_5 x tr w mm k0) hP (hP.recv hK rfl) q661 q638 q456 q636 q74 q663 nsX9_isOf rfl (by rw [hRf]; decide) (by rw [hRl]; decide) (Nat.zero_le _) (Nat.zero_le _) hl.1 rfl (Nat.le_of_ble_eq_true rfl) dX11_isOf_7 ?_
    refine w_if_eqT (tgt := 17) hx hb dX11_isOf_10 (by decide) (fun c_2 => ?_) (fun c_2 => ?_)
    · refine lv_iconst (v := nI 0) hx hb dX11_isOf_17 (by decide) ?_
      exact hret (iI_0 (fun q => q.elim c_1 c_2)) dX11_isOf_18
    · refine lv_iconst (v := nI 1) hx hb dX11_isOf_13 (by decide) ?_
      refine lv_goto (tgt := 18) hx hb dX11_isOf_14 (by decide) ?_
      exact hret (iI_1 (Or.inr c_2)) dX11_isOf_18
theorem nsX11_isOf : yX11_isOf.name ≠ "<init>" ∧ (parseMethodDescriptor yX11_isOf.desc).map (fun d => d.parameters.length) = some 1 := by decide +kernel

set_option maxHeartbeats 400000 in
theorem cow_isOf_5_5 {D : va_G} {dA : Nat → ClassId} (x tr w : Nat) (mm : Int32) (k0 : Int32) : Rd D dA yX14_isOf cX14_isOf 2 (some .boolean) 2 42 [.ref x, .int k0] (fun H => cAt D x (.inr (15, [.ref tr, .int (nI w), .int mm])) H) (some (.int (iI (k0 = nI 5 ∨ k0 = nI 2 ∨ k0 = nI 0)))) := by
  refine Rd.ofZ (by decide) (own := RX14) rfl (Nat.le_of_ble_eq_true rfl) iI_n ?_
  intro p l e R s m args below meth c Q ls hx hb hml hRf hRl hts hown hK hP hl hret
  have hl : lv_has ls 2 [(0, .ref x), (1, .int k0)] := hl
  refine lv_iload_n hx hb dX14_isOf_0 rfl (lv_at hl 1 rfl) ?_
  refine lv_iconst (v := nI 5) hx hb dX14_isOf_1 (by decide) ?_
  refine lv_icmp_eq (tgt := 13) hx hb dX14_isOf_2 (by decide) (fun c_1 => ?_) (fun c_1 => ?_)
  · refine lv_iconst (v := nI 1) hx hb dX14_isOf_13 (by decide) ?_
    refine lv_goto (tgt := 18) hx hb dX14_isOf_14 (by decide) ?_
    exact hret (iI_1 (Or.inl c_1)) dX14_isOf_18
  · refine lv_aload_n hx hb dX14_isOf_5 rfl (lv_at hl 0 rfl) ?_
    refine lv_iload_n hx hb dX14_isOf_6 rfl (lv_at hl 1 rfl) ?_
    refine rd_callSU (y := yX11_isOf) hx hb hml hown hts hK (hK.1.1 15 _ rfl).2 (cow_isOf_2_5 x tr w mm k0) hP (hP.recv hK rfl) q658 q1836 q486 q659 q76 q660 nsX11_isOf rfl (by rw [hRf]; decide) (by rw [hRl]; decide) (Nat.zero_le _) (Nat.zero_le _) hl.1 rfl (Nat.le_of_ble_eq_true rfl) dX14_isOf_7 ?_
    refine w_if_eqT (tgt := 17) hx hb dX14_isOf_10 (by decide) (fun c_2 => ?_) (fun c_2 => ?_)
    · refine lv_iconst (v := nI 0) hx hb dX14_isOf_17 (by decide) ?_
      exact hret (iI_0 (fun q => q.elim c_1 c_2)) dX14_isOf_18
    · refine lv_iconst (v := nI 1) hx hb dX14_isOf_13 (by decide) ?_
      refine lv_goto (tgt := 18) hx hb dX14_isOf_14 (by decide) ?_
      exact hret (iI_1 (Or.inr c_2)) dX14_isOf_18
set_option maxHeartbeats 400000 in
theorem cow_wanted_0_5 {D : va_G} {dA : Nat → ClassId} (x tr w : Nat) (mm : Int32) (v mk : Int32) (kn sy : Prop) [Decidable kn] [Decidable sy] : Rd D dA yX9_wanted cX9_wanted 5 (some .int) 0 0 [.ref x, .int v, .int mk, .int (iI kn), .int (iI sy)] (fun H => cAt D x (.inr (15, [.ref tr, .int (nI w), .int mm])) H) (some (.int v)) := by
  refine Rd.ofI (by decide) (own := RX9) rfl (Nat.le_of_ble_eq_true rfl) ?_
  intro p l e R s m args below meth c Q ls hx hb hml hRf hRl hts hown hK hP hl hret
  have hl : lv_has ls 5 [(0, .ref x), (1, .int v), (2, .int mk), (3, .int (iI kn)), (4, .int (iI sy))] := hl
  refine lv_iload_n hx hb dX9_wanted_0 rfl (lv_at hl 1 rfl) ?_
  exact hret (by first | rfl | (rfl)) dX9_wanted_1
set_option maxHeartbeats 400000 in
theorem cow_wanted_2_5 {D : va_G} {dA : Nat → ClassId} (x tr w : Nat) (mm : Int32) (v mk : Int32) (kn sy : Prop) [Decidable kn] [Decidable sy] : Rd D dA yX11_wanted cX11_wanted 5 (some .int) 1 24 [.ref x, .int v, .int mk, .int (iI kn), .int (iI sy)] (fun H => cAt D x (.inr (15, [.ref tr, .int (nI w), .int mm])) H) (some (.int (v - (if kn then nI 50 else nI 0)))) := by
  refine Rd.ofI (by decide) (own := RX11) rfl (Nat.le_of_ble_eq_true rfl) ?_
  intro p l e R s m args below meth c Q ls hx hb hml hRf hRl hts hown hK hP hl hret
  have hl : lv_has ls 5 [(0, .ref x), (1, .int v), (2, .int mk), (3, .int (iI kn)), (4, .int (iI sy))] := hl
  refine lv_aload_n hx hb dX11_wanted_0 rfl (lv_at hl 0 rfl) ?_
  refine lv_iload_n hx hb dX11_wanted_1 rfl (lv_at hl 1 rfl) ?_
  refine lv_iload_n hx hb dX11_wanted_2 rfl (lv_at hl 2 rfl) ?_
  refine lv_iload_n hx hb dX11_wanted_3 rfl (lv_at hl 3 rfl) ?_
  refine lv_iload hx hb dX11_wanted_4 (lv_at hl 4 rfl) ?_
  refine rd_callSU (y := yX9_wanted) hx hb hml hown hts hK (hK.1.1 15 _ rfl).2 (cow_wanted_0_5 x tr w mm v mk kn sy) hP (hP.recv hK rfl) q619 q596 q456 q594 q74 q621 nsX9_wanted rfl (by rw [hRf]; decide) (by rw [hRl]; decide) (Nat.zero_le _) (Nat.zero_le _) hl.1 rfl (Nat.le_of_ble_eq_true rfl) dX11_wanted_6 ?_
  refine lv_iload_n hx hb dX11_wanted_9 rfl (lv_at hl 3 rfl) ?_
  refine w_if_eqT (tgt := 18) hx hb dX11_wanted_10 (by decide) (fun c_1 => ?_) (fun c_1 => ?_)
  · refine lv_iconst (v := nI 0) hx hb dX11_wanted_18 (by decide) ?_
    refine lv_isub hx hb dX11_wanted_19 ?_
    exact hret (by first | rfl | (first | simp only [if_pos c_1] | simp only [if_neg c_1])) dX11_wanted_20
  · refine lv_bipush (v := nI 50) hx hb dX11_wanted_13 (by decide) ?_
    refine lv_goto (tgt := 19) hx hb dX11_wanted_15 (by decide) ?_
    refine lv_isub hx hb dX11_wanted_19 ?_
    exact hret (by first | rfl | (first | simp only [if_pos c_1] | simp only [if_neg c_1])) dX11_wanted_20
theorem nsX11_wanted : yX11_wanted.name ≠ "<init>" ∧ (parseMethodDescriptor yX11_wanted.desc).map (fun d => d.parameters.length) = some 4 := by decide +kernel

set_option maxHeartbeats 400000 in
theorem cow_wanted_5_5 {D : va_G} {dA : Nat → ClassId} (x tr w : Nat) (mm : Int32) (v mk : Int32) (kn sy : Prop) [Decidable kn] [Decidable sy] : Rd D dA yX14_wanted cX14_wanted 5 (some .int) 2 48 [.ref x, .int v, .int mk, .int (iI kn), .int (iI sy)] (fun H => cAt D x (.inr (15, [.ref tr, .int (nI w), .int mm])) H) (some (.int ((v - (if kn then nI 50 else nI 0)) + (if kn then nI 0 else nI 5 * mm)))) := by
  refine Rd.ofI (by decide) (own := RX14) rfl (Nat.le_of_ble_eq_true rfl) ?_
  intro p l e R s m args below meth c Q ls hx hb hml hRf hRl hts hown hK hP hl hret
  have hl : lv_has ls 5 [(0, .ref x), (1, .int v), (2, .int mk), (3, .int (iI kn)), (4, .int (iI sy))] := hl
  refine lv_aload_n hx hb dX14_wanted_0 rfl (lv_at hl 0 rfl) ?_
  refine lv_iload_n hx hb dX14_wanted_1 rfl (lv_at hl 1 rfl) ?_
  refine lv_iload_n hx hb dX14_wanted_2 rfl (lv_at hl 2 rfl) ?_
  refine lv_iload_n hx hb dX14_wanted_3 rfl (lv_at hl 3 rfl) ?_
  refine lv_iload hx hb dX14_wanted_4 (lv_at hl 4 rfl) ?_
  refine rd_callSU (y := yX11_wanted) hx hb hml hown hts hK (hK.1.1 15 _ rfl).2 (cow_wanted_2_5 x tr w mm v mk kn sy) hP (hP.recv hK rfl) q616 q1833 q486 q617 q76 q618 nsX11_wanted rfl (by rw [hRf]; decide) (by rw [hRl]; decide) (Nat.zero_le _) (Nat.zero_le _) hl.1 rfl (Nat.le_of_ble_eq_true rfl) dX14_wanted_6 ?_
  refine lv_iload_n hx hb dX14_wanted_9 rfl (lv_at hl 3 rfl) ?_
  refine w_if_eqT (tgt := 17) hx hb dX14_wanted_10 (by decide) (fun c_1 => ?_) (fun c_1 => ?_)
  · refine lv_iconst (v := nI 5) hx hb dX14_wanted_17 (by decide) ?_
    refine lv_aload_n hx hb dX14_wanted_18 rfl (lv_at hl 0 rfl) ?_
    refine c_getU (v := .int mm) hx hb hts in_X14 hown hK hP rfl 2 (by decide) q433 q434 rfl dX14_wanted_19 ?_
    refine lv_imul hx hb dX14_wanted_22 ?_
    refine lv_iadd hx hb dX14_wanted_23 ?_
    exact hret (by first | rfl | (first | simp only [if_pos c_1] | simp only [if_neg c_1])) dX14_wanted_24
  · refine lv_iconst (v := nI 0) hx hb dX14_wanted_13 (by decide) ?_
    refine lv_goto (tgt := 23) hx hb dX14_wanted_14 (by decide) ?_
    refine lv_iadd hx hb dX14_wanted_23 ?_
    exact hret (by first | rfl | (first | simp only [if_pos c_1] | simp only [if_neg c_1])) dX14_wanted_24
set_option maxHeartbeats 400000 in
theorem cow_eaten_0_5 {D : va_G} {dA : Nat → ClassId} (x tr w : Nat) (mm : Int32) : Rd D dA yX9_eaten cX9_eaten 1 (some .int) 0 0 [.ref x] (fun H => cAt D x (.inr (15, [.ref tr, .int (nI w), .int mm])) H) (some (.int (nI 10))) := by
  refine Rd.ofI (by decide) (own := RX9) rfl (Nat.le_of_ble_eq_true rfl) ?_
  intro p l e R s m args below meth c Q ls hx hb hml hRf hRl hts hown hK hP hl hret
  have hl : lv_has ls 1 [(0, .ref x)] := hl
  refine lv_bipush (v := nI 10) hx hb dX9_eaten_0 (by decide) ?_
  exact hret (by first | rfl | (simp only [iI, nI_0, nI_one]; grind)) dX9_eaten_2
set_option maxHeartbeats 400000 in
theorem cow_span_2_5 {D : va_G} {dA : Nat → ClassId} (x tr w : Nat) (mm : Int32) : Rd D dA yX11_span cX11_span 1 (some .int) 0 0 [.ref x] (fun H => cAt D x (.inr (15, [.ref tr, .int (nI w), .int mm])) H) (some (.int (nI 8))) := by
  refine Rd.ofI (by decide) (own := RX11) rfl (Nat.le_of_ble_eq_true rfl) ?_
  intro p l e R s m args below meth c Q ls hx hb hml hRf hRl hts hown hK hP hl hret
  have hl : lv_has ls 1 [(0, .ref x)] := hl
  refine lv_bipush (v := nI 8) hx hb dX11_span_0 (by decide) ?_
  exact hret (by first | rfl | (simp only [iI, nI_0, nI_one]; grind)) dX11_span_2
set_option maxHeartbeats 400000 in
theorem cow_kind_6_6 {D : va_G} {dA : Nat → ClassId} (x tr w : Nat) (mm : Int32) : Rd D dA yX15_kind cX15_kind 1 (some .int) 0 0 [.ref x] (fun H => cAt D x (.inr (16, [.ref tr, .int (nI w), .int mm])) H) (some (.int (nI 6))) := by
  refine Rd.ofI (by decide) (own := RX15) rfl (Nat.le_of_ble_eq_true rfl) ?_
  intro p l e R s m args below meth c Q ls hx hb hml hRf hRl hts hown hK hP hl hret
  have hl : lv_has ls 1 [(0, .ref x)] := hl
  refine lv_bipush (v := nI 6) hx hb dX15_kind_0 (by decide) ?_
  exact hret (by first | rfl | (simp only [iI, nI_0, nI_one]; grind)) dX15_kind_2
set_option maxHeartbeats 400000 in
theorem cow_isOf_0_6 {D : va_G} {dA : Nat → ClassId} (x tr w : Nat) (mm : Int32) (k0 : Int32) : Rd D dA yX9_isOf cX9_isOf 2 (some .boolean) 0 0 [.ref x, .int k0] (fun H => cAt D x (.inr (16, [.ref tr, .int (nI w), .int mm])) H) (some (.int (iI (k0 = nI 0)))) := by
  refine Rd.ofZ (by decide) (own := RX9) rfl (Nat.le_of_ble_eq_true rfl) iI_n ?_
  intro p l e R s m args below meth c Q ls hx hb hml hRf hRl hts hown hK hP hl hret
  have hl : lv_has ls 2 [(0, .ref x), (1, .int k0)] := hl
  refine lv_iload_n hx hb dX9_isOf_0 rfl (lv_at hl 1 rfl) ?_
  refine lv_if_ne (tgt := 8) hx hb dX9_isOf_1 (by decide) (fun c_1 => ?_) (fun c_1 => ?_)
  · refine lv_iconst (v := nI 0) hx hb dX9_isOf_8 (by decide) ?_
    exact hret (iI_0 c_1) dX9_isOf_9
  · refine lv_iconst (v := nI 1) hx hb dX9_isOf_4 (by decide) ?_
    refine lv_goto (tgt := 9) hx hb dX9_isOf_5 (by decide) ?_
    exact hret (iI_1 c_1) dX9_isOf_9
set_option maxHeartbeats 400000 in
theorem cow_isOf_3_6 {D : va_G} {dA : Nat → ClassId} (x tr w : Nat) (mm : Int32) (k0 : Int32) : Rd D dA yX12_isOf cX12_isOf 2 (some .boolean) 1 21 [.ref x, .int k0] (fun H => cAt D x (.inr (16, [.ref tr, .int (nI w), .int mm])) H) (some (.int (iI (k0 = nI 3 ∨ k0 = nI 0)))) := by
  refine Rd.ofZ (by decide) (own := RX12) rfl (Nat.le_of_ble_eq_true rfl) iI_n ?_
  intro p l e R s m args below meth c Q ls hx hb hml hRf hRl hts hown hK hP hl hret
  have hl : lv_has ls 2 [(0, .ref x), (1, .int k0)] := hl
  refine lv_iload_n hx hb dX12_isOf_0 rfl (lv_at hl 1 rfl) ?_
  refine lv_iconst (v := nI 3) hx hb dX12_isOf_1 (by decide) ?_
  refine lv_icmp_eq (tgt := 13) hx hb dX12_isOf_2 (by decide) (fun c_1 => ?_) (fun c_1 => ?_)
  · refine lv_iconst (v := nI 1) hx hb dX12_isOf_13 (by decide) ?_
    refine lv_goto (tgt := 18) hx hb dX12_isOf_14 (by decide) ?_
    exact hret (iI_1 (Or.inl c_1)) dX12_isOf_18
  · refine lv_aload_n hx hb dX12_isOf_5 rfl (lv_at hl 0 rfl) ?_
    refine lv_iload_n hx hb dX12_isOf_6 rfl (lv_at hl 1 rfl) ?_
    refine rd_callSU (y := yX9_isOf) hx hb hml hown hts hK (hK.1.1 16 _ rfl).2 (cow_isOf_0_6 x tr w mm k0) hP (hP.recv hK rfl) q646 q638 q466 q636 q74 q663 nsX9_isOf rfl (by rw [hRf]; decide) (by rw [hRl]; decide) (Nat.zero_le _) (Nat.zero_le _) hl.1 rfl (Nat.le_of_ble_eq_true rfl) dX12_isOf_7 ?_
    refine w_if_eqT (tgt := 17) hx hb dX12_isOf_10 (by decide) (fun c_2 => ?_) (fun c_2 => ?_)
    · refine lv_iconst (v := nI 0) hx hb dX12_isOf_17 (by decide) ?_
      exact hret (iI_0 (fun q => q.elim c_1 c_2)) dX12_isOf_18
    · refine lv_iconst (v := nI 1) hx hb dX12_isOf_13 (by decide) ?_
      refine lv_goto (tgt := 18) hx hb dX12_isOf_14 (by decide) ?_
      exact hret (iI_1 (Or.inr c_2)) dX12_isOf_18
theorem nsX12_isOf : yX12_isOf.name ≠ "<init>" ∧ (parseMethodDescriptor yX12_isOf.desc).map (fun d => d.parameters.length) = some 1 := by decide +kernel

set_option maxHeartbeats 400000 in
theorem cow_isOf_6_6 {D : va_G} {dA : Nat → ClassId} (x tr w : Nat) (mm : Int32) (k0 : Int32) : Rd D dA yX15_isOf cX15_isOf 2 (some .boolean) 2 42 [.ref x, .int k0] (fun H => cAt D x (.inr (16, [.ref tr, .int (nI w), .int mm])) H) (some (.int (iI (k0 = nI 6 ∨ k0 = nI 3 ∨ k0 = nI 0)))) := by
  refine Rd.ofZ (by decide) (own := RX15) rfl (Nat.le_of_ble_eq_true rfl) iI_n ?_
  intro p l e R s m args below meth c Q ls hx hb hml hRf hRl hts hown hK hP hl hret
  have hl : lv_has ls 2 [(0, .ref x), (1, .int k0)] := hl
  refine lv_iload_n hx hb dX15_isOf_0 rfl (lv_at hl 1 rfl) ?_
  refine lv_bipush (v := nI 6) hx hb dX15_isOf_1 (by decide) ?_
  refine lv_icmp_eq (tgt := 14) hx hb dX15_isOf_3 (by decide) (fun c_1 => ?_) (fun c_1 => ?_)
  · refine lv_iconst (v := nI 1) hx hb dX15_isOf_14 (by decide) ?_
    refine lv_goto (tgt := 19) hx hb dX15_isOf_15 (by decide) ?_
    exact hret (iI_1 (Or.inl c_1)) dX15_isOf_19
  · refine lv_aload_n hx hb dX15_isOf_6 rfl (lv_at hl 0 rfl) ?_
    refine lv_iload_n hx hb dX15_isOf_7 rfl (lv_at hl 1 rfl) ?_
    refine rd_callSU (y := yX12_isOf) hx hb hml hown hts hK (hK.1.1 16 _ rfl).2 (cow_isOf_3_6 x tr w mm k0) hP (hP.recv hK rfl) q654 q1835 q496 q644 q77 q645 nsX12_isOf rfl (by rw [hRf]; decide) (by rw [hRl]; decide) (Nat.zero_le _) (Nat.zero_le _) hl.1 rfl (Nat.le_of_ble_eq_true rfl) dX15_isOf_8 ?_
    refine w_if_eqT (tgt := 18) hx hb dX15_isOf_11 (by decide) (fun c_2 => ?_) (fun c_2 => ?_)
    · refine lv_iconst (v := nI 0) hx hb dX15_isOf_18 (by decide) ?_
      exact hret (iI_0 (fun q => q.elim c_1 c_2)) dX15_isOf_19
    · refine lv_iconst (v := nI 1) hx hb dX15_isOf_14 (by decide) ?_
      refine lv_goto (tgt := 19) hx hb dX15_isOf_15 (by decide) ?_
      exact hret (iI_1 (Or.inr c_2)) dX15_isOf_19
set_option maxHeartbeats 400000 in
theorem cow_wanted_0_6 {D : va_G} {dA : Nat → ClassId} (x tr w : Nat) (mm : Int32) (v mk : Int32) (kn sy : Prop) [Decidable kn] [Decidable sy] : Rd D dA yX9_wanted cX9_wanted 5 (some .int) 0 0 [.ref x, .int v, .int mk, .int (iI kn), .int (iI sy)] (fun H => cAt D x (.inr (16, [.ref tr, .int (nI w), .int mm])) H) (some (.int v)) := by
  refine Rd.ofI (by decide) (own := RX9) rfl (Nat.le_of_ble_eq_true rfl) ?_
  intro p l e R s m args below meth c Q ls hx hb hml hRf hRl hts hown hK hP hl hret
  have hl : lv_has ls 5 [(0, .ref x), (1, .int v), (2, .int mk), (3, .int (iI kn)), (4, .int (iI sy))] := hl
  refine lv_iload_n hx hb dX9_wanted_0 rfl (lv_at hl 1 rfl) ?_
  exact hret (by first | rfl | (rfl)) dX9_wanted_1
set_option maxHeartbeats 400000 in
theorem cow_wanted_3_6 {D : va_G} {dA : Nat → ClassId} (x tr w : Nat) (mm : Int32) (v mk : Int32) (kn sy : Prop) [Decidable kn] [Decidable sy] : Rd D dA yX12_wanted cX12_wanted 5 (some .int) 1 24 [.ref x, .int v, .int mk, .int (iI kn), .int (iI sy)] (fun H => cAt D x (.inr (16, [.ref tr, .int (nI w), .int mm])) H) (some (.int (v + (if sy then mm else nI 0)))) := by
  refine Rd.ofI (by decide) (own := RX12) rfl (Nat.le_of_ble_eq_true rfl) ?_
  intro p l e R s m args below meth c Q ls hx hb hml hRf hRl hts hown hK hP hl hret
  have hl : lv_has ls 5 [(0, .ref x), (1, .int v), (2, .int mk), (3, .int (iI kn)), (4, .int (iI sy))] := hl
  refine lv_aload_n hx hb dX12_wanted_0 rfl (lv_at hl 0 rfl) ?_
  refine lv_iload_n hx hb dX12_wanted_1 rfl (lv_at hl 1 rfl) ?_
  refine lv_iload_n hx hb dX12_wanted_2 rfl (lv_at hl 2 rfl) ?_
  refine lv_iload_n hx hb dX12_wanted_3 rfl (lv_at hl 3 rfl) ?_
  refine lv_iload hx hb dX12_wanted_4 (lv_at hl 4 rfl) ?_
  refine rd_callSU (y := yX9_wanted) hx hb hml hown hts hK (hK.1.1 16 _ rfl).2 (cow_wanted_0_6 x tr w mm v mk kn sy) hP (hP.recv hK rfl) q604 q596 q466 q594 q74 q621 nsX9_wanted rfl (by rw [hRf]; decide) (by rw [hRl]; decide) (Nat.zero_le _) (Nat.zero_le _) hl.1 rfl (Nat.le_of_ble_eq_true rfl) dX12_wanted_6 ?_
  refine lv_iload hx hb dX12_wanted_9 (lv_at hl 4 rfl) ?_
  refine w_if_eqT (tgt := 21) hx hb dX12_wanted_11 (by decide) (fun c_1 => ?_) (fun c_1 => ?_)
  · refine lv_iconst (v := nI 0) hx hb dX12_wanted_21 (by decide) ?_
    refine lv_iadd hx hb dX12_wanted_22 ?_
    exact hret (by first | rfl | (first | simp only [if_pos c_1] | simp only [if_neg c_1])) dX12_wanted_23
  · refine lv_aload_n hx hb dX12_wanted_14 rfl (lv_at hl 0 rfl) ?_
    refine c_getU (v := .int mm) hx hb hts in_X15 hown hK hP rfl 2 (by decide) q431 q432 rfl dX12_wanted_15 ?_
    refine lv_goto (tgt := 22) hx hb dX12_wanted_18 (by decide) ?_
    refine lv_iadd hx hb dX12_wanted_22 ?_
    exact hret (by first | rfl | (first | simp only [if_pos c_1] | simp only [if_neg c_1])) dX12_wanted_23
theorem nsX12_wanted : yX12_wanted.name ≠ "<init>" ∧ (parseMethodDescriptor yX12_wanted.desc).map (fun d => d.parameters.length) = some 4 := by decide +kernel

set_option maxHeartbeats 400000 in
theorem cow_wanted_6_6 {D : va_G} {dA : Nat → ClassId} (x tr w : Nat) (mm : Int32) (v mk : Int32) (kn sy : Prop) [Decidable kn] [Decidable sy] : Rd D dA yX15_wanted cX15_wanted 5 (some .int) 2 48 [.ref x, .int v, .int mk, .int (iI kn), .int (iI sy)] (fun H => cAt D x (.inr (16, [.ref tr, .int (nI w), .int mm])) H) (some (.int ((v + (if sy then mm else nI 0)) + (if kn then nI 20 else nI 0)))) := by
  refine Rd.ofI (by decide) (own := RX15) rfl (Nat.le_of_ble_eq_true rfl) ?_
  intro p l e R s m args below meth c Q ls hx hb hml hRf hRl hts hown hK hP hl hret
  have hl : lv_has ls 5 [(0, .ref x), (1, .int v), (2, .int mk), (3, .int (iI kn)), (4, .int (iI sy))] := hl
  refine lv_aload_n hx hb dX15_wanted_0 rfl (lv_at hl 0 rfl) ?_
  refine lv_iload_n hx hb dX15_wanted_1 rfl (lv_at hl 1 rfl) ?_
  refine lv_iload_n hx hb dX15_wanted_2 rfl (lv_at hl 2 rfl) ?_
  refine lv_iload_n hx hb dX15_wanted_3 rfl (lv_at hl 3 rfl) ?_
  refine lv_iload hx hb dX15_wanted_4 (lv_at hl 4 rfl) ?_
  refine rd_callSU (y := yX12_wanted) hx hb hml hown hts hK (hK.1.1 16 _ rfl).2 (cow_wanted_3_6 x tr w mm v mk kn sy) hP (hP.recv hK rfl) q612 q1832 q496 q602 q77 q603 nsX12_wanted rfl (by rw [hRf]; decide) (by rw [hRl]; decide) (Nat.zero_le _) (Nat.zero_le _) hl.1 rfl (Nat.le_of_ble_eq_true rfl) dX15_wanted_6 ?_
  refine lv_iload_n hx hb dX15_wanted_9 rfl (lv_at hl 3 rfl) ?_
  refine w_if_eqT (tgt := 18) hx hb dX15_wanted_10 (by decide) (fun c_1 => ?_) (fun c_1 => ?_)
  · refine lv_iconst (v := nI 0) hx hb dX15_wanted_18 (by decide) ?_
    refine lv_iadd hx hb dX15_wanted_19 ?_
    exact hret (by first | rfl | (first | simp only [if_pos c_1] | simp only [if_neg c_1])) dX15_wanted_20
  · refine lv_bipush (v := nI 20) hx hb dX15_wanted_13 (by decide) ?_
    refine lv_goto (tgt := 19) hx hb dX15_wanted_15 (by decide) ?_
    refine lv_iadd hx hb dX15_wanted_19 ?_
    exact hret (by first | rfl | (first | simp only [if_pos c_1] | simp only [if_neg c_1])) dX15_wanted_20
set_option maxHeartbeats 400000 in
theorem cow_eaten_3_6 {D : va_G} {dA : Nat → ClassId} (x tr w : Nat) (mm : Int32) : Rd D dA yX12_eaten cX12_eaten 1 (some .int) 0 0 [.ref x] (fun H => cAt D x (.inr (16, [.ref tr, .int (nI w), .int mm])) H) (some (.int (nI 15))) := by
  refine Rd.ofI (by decide) (own := RX12) rfl (Nat.le_of_ble_eq_true rfl) ?_
  intro p l e R s m args below meth c Q ls hx hb hml hRf hRl hts hown hK hP hl hret
  have hl : lv_has ls 1 [(0, .ref x)] := hl
  refine lv_bipush (v := nI 15) hx hb dX12_eaten_0 (by decide) ?_
  exact hret (by first | rfl | (simp only [iI, nI_0, nI_one]; grind)) dX12_eaten_2
set_option maxHeartbeats 400000 in
theorem cow_span_6_6 {D : va_G} {dA : Nat → ClassId} (x tr w : Nat) (mm : Int32) : Rd D dA yX15_span cX15_span 1 (some .int) 0 0 [.ref x] (fun H => cAt D x (.inr (16, [.ref tr, .int (nI w), .int mm])) H) (some (.int (nI 6 + mm / nI 2))) := by
  refine Rd.ofI (by decide) (own := RX15) rfl (Nat.le_of_ble_eq_true rfl) ?_
  intro p l e R s m args below meth c Q ls hx hb hml hRf hRl hts hown hK hP hl hret
  have hl : lv_has ls 1 [(0, .ref x)] := hl
  refine lv_bipush (v := nI 6) hx hb dX15_span_0 (by decide) ?_
  refine lv_aload_n hx hb dX15_span_2 rfl (lv_at hl 0 rfl) ?_
  refine c_getU (v := .int mm) hx hb hts in_X15 hown hK hP rfl 2 (by decide) q437 q438 rfl dX15_span_3 ?_
  refine lv_iconst (v := nI 2) hx hb dX15_span_6 (by decide) ?_
  refine lv_idiv hx hb dX15_span_7 (by decide) ?_
  refine lv_iadd hx hb dX15_span_8 ?_
  exact hret (by first | rfl | (simp only [iI, nI_0, nI_one]; grind)) dX15_span_9
