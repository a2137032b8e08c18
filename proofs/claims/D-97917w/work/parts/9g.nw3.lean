/-! sheets are made (printed by comp32.py) -/
set_option maxRecDepth 100000
theorem g_oneA {D : va_G} {A : Nat → Prop} {a : Nat} {e : va_E} {H0 H : Heap} {locs : List Loc} (h : cAt D a e H) (ha : A a) (hS : va_S A H0 H locs) : gH D A [(a, e)] H0 H locs := ⟨h.P, ⟨(g_one h).2.1.1, fun k q hk => by
    have hk2 : k < 1 := (List.getElem?_eq_some_iff.mp hk).1
    match k, hk2, hk with
    | 0, _, hk => cases hk; exact ha⟩, hS⟩
theorem g_twoA {D : va_G} {A : Nat → Prop} {a b : Nat} {e e' : va_E} {H0 H : Heap} {locs : List Loc} (h : cAt D a e H) (h' : cAt D b e' H) (hab : a ≠ b) (ha : A a) (hb : A b) (hS : va_S A H0 H locs) : gH D A [(a, e), (b, e')] H0 H locs := by
  refine ⟨fun k q hk => ?_, ⟨fun i j p q hi hj e => ?_, fun k q hk => ?_⟩, hS⟩
  · have hk2 : k < 2 := (List.getElem?_eq_some_iff.mp hk).1
    match k, hk2, hk with
    | 0, _, hk => cases hk; exact h
    | 1, _, hk => cases hk; exact h'
  · have i1 : i < 2 := (List.getElem?_eq_some_iff.mp hi).1
    have j1 : j < 2 := (List.getElem?_eq_some_iff.mp hj).1
    match i, j, i1, j1, hi, hj with
    | 0, 0, _, _, _, _ => rfl
    | 1, 1, _, _, _, _ => rfl
    | 0, 1, _, _, hi, hj => cases hi; cases hj; exact absurd e hab
    | 1, 0, _, _, hi, hj => cases hi; cases hj; exact absurd e.symm hab
  · have hk2 : k < 2 := (List.getElem?_eq_some_iff.mp hk).1
    match k, hk2, hk with
    | 0, _, hk => cases hk; exact ha
    | 1, _, hk => cases hk; exact hb
theorem ndX21_init : yX21_init.name = "<init>" ∧ yX21_init.cls ≠ "java/lang/invoke/MethodHandle" ∧ yX21_init.cls ≠ "java/lang/invoke/VarHandle" ∧ (parseMethodDescriptor yX21_init.desc).map (fun d => d.parameters.length) = some 0 := by decide +kernel
set_option maxHeartbeats 400000 in
theorem cs_super {D : va_G} {dA : Nat → ClassId} (x : Nat) : Cg D dA (fun _ => False) yX21_init cX21_init 1 none 1 21 0 0 [.ref x] (fun _ => True) (fun v' H => v' = none) := by
  refine Cg.ofV (by decide) (own := RX21) rfl (Nat.le_of_ble_eq_true rfl) ?_
  intro p l e R s m args below meth c Q ls hx hb hml hRf hRl hRc hRs hin hts hown hK hP hl hret
  have hl : lv_has ls 1 [(0, .ref x)] := hl
  refine lv_aload_n hx hb dX21_init_0 rfl (lv_at hl 0 rfl) ?_
  refine W.objInit hx hb hown (hts _ q1293) (hts _ q103) (hts _ q104) rfl (by rw [hml]; exact hl.1) rfl dX21_init_1 (by rw [hRf]; exact Nat.le_of_ble_eq_true rfl) (by rw [hRl]; exact Nat.le_of_ble_eq_true rfl) ?_
  exact hret rfl va_S.rf dX21_init_4
theorem ndX22_init : yX22_init.name = "<init>" ∧ yX22_init.cls ≠ "java/lang/invoke/MethodHandle" ∧ yX22_init.cls ≠ "java/lang/invoke/VarHandle" ∧ (parseMethodDescriptor yX22_init.desc).map (fun d => d.parameters.length) = some 1 := by decide +kernel
set_option maxHeartbeats 400000 in
theorem cs_init_0 {D : va_G} {dA : Nat → ClassId} (b x n : Nat) (hn : n ≤ 40) : Cg D dA (fun q => q = x ∨ b ≤ q) yX22_init cX22_init 2 none 2 41 1 40 [.ref x, .int (nI n)] (fun H => H.size = b ∧ cAt D x (.inr (19, [.null])) H) (fun v' H => v' = none ∧ ∃ y, b ≤ y ∧ cAt D x (.inr (19, [.ref y])) H ∧ cAt D y (.inl (dA 1, n, .inl (fun _ => 0))) H) := by
  refine Cg.ofV (by decide) (own := RX22) rfl (Nat.le_of_ble_eq_true rfl) ?_
  intro p l e R s m args below meth c Q ls hx hb hml hRf hRl hRc hRs hin hts hown hK hP hl hret
  have hl : lv_has ls 2 [(0, .ref x), (1, .int (nI n))] := hl
  obtain ⟨rfl, hX⟩ := hP
  have nq := hK.M 2 rfl
  refine lv_aload_n hx hb dX22_init_0 rfl (lv_at hl 0 rfl) ?_
  refine cg_callIN (A := fun q => q = x ∨ s.heap.size ≤ q) (H0 := s.heap) (y := yX21_init) (b := x) (As := []) hx hb hml hown hts hK ⟨Nat.le_refl _, fun _ _ _ => rfl, fun q hq => by cases hq⟩ (cs_super x) trivial (fun q hq => hq.elim) nq q1291 q93 q1292 ndX21_init rfl (by rw [hRf]; decide) (by rw [hRl]; decide) (Nat.zero_le _) (Nat.zero_le _) hl.1 rfl (Nat.le_of_ble_eq_true rfl) dX22_init_1 ?_
  rintro _ H locs rfl hz1 hk1 hS1
  refine lv_aload_n hx hb dX22_init_4 rfl (lv_at hl 0 rfl) ?_
  refine lv_iload_n hx hb dX22_init_5 rfl (lv_at hl 1 rfl) ?_
  refine c_newa (atype := .byte) hx hb hts q196 hK 1 rfl rfl n rfl (by omega) (by simp only [newarray.typeOf, componentBytes]; omega) (by rw [hRc]; decide) (by rw [hRs]; omega) dX22_init_6 (fun H2 hY hz2 hk2 => ?_)
  have hX1 := hX.kept (hk1 x hX.lt (fun q => q))
  have hX2 := hX1.kept (hk2 x hX1.lt)
  have hM : gH D (fun q => q = x ∨ s.heap.size ≤ q) [(x, .inr (19, [.null])), (H.size, .inl (dA 1, n, .inl (fun _ => 0)))] s.heap H2 locs := g_twoA hX2 hY (by have := hX1.lt; omega) (Or.inl rfl) (Or.inr hz1) (hS1.new (by omega) hk2)
  refine g_putF hx hb hts in_X22 tyX22 tyX22_ok nmX22 hown hK hM 0 rfl rfl 0 (by decide) q1294 rfl rfl hin rfl rfl rfl (Nat.le_of_ble_eq_true rfl) dX22_init_8 (fun H locs hM => ?_)
  refine W.widen (k := 1) (n := 40) (by omega) (by omega) ?_
  exact hret ⟨rfl, _, hz1, hM.1 0 _ rfl, hM.1 1 _ rfl⟩ hM.2.2 dX22_init_11
theorem ndX23_init : yX23_init.name = "<init>" ∧ yX23_init.cls ≠ "java/lang/invoke/MethodHandle" ∧ yX23_init.cls ≠ "java/lang/invoke/VarHandle" ∧ (parseMethodDescriptor yX23_init.desc).map (fun d => d.parameters.length) = some 1 := by decide +kernel
set_option maxHeartbeats 400000 in
theorem cs_init_1 {D : va_G} {dA : Nat → ClassId} (b x n : Nat) (hn : n ≤ 40) : Cg D dA (fun q => q = x ∨ b ≤ q) yX23_init cX23_init 2 none 2 41 1 40 [.ref x, .int (nI n)] (fun H => H.size = b ∧ cAt D x (.inr (20, [.null])) H) (fun v' H => v' = none ∧ ∃ y, b ≤ y ∧ cAt D x (.inr (20, [.ref y])) H ∧ cAt D y (.inl (dA 2, n, .inl (fun _ => 0))) H) := by
  refine Cg.ofV (by decide) (own := RX23) rfl (Nat.le_of_ble_eq_true rfl) ?_
  intro p l e R s m args below meth c Q ls hx hb hml hRf hRl hRc hRs hin hts hown hK hP hl hret
  have hl : lv_has ls 2 [(0, .ref x), (1, .int (nI n))] := hl
  obtain ⟨rfl, hX⟩ := hP
  have nq := hK.M 9 rfl
  refine lv_aload_n hx hb dX23_init_0 rfl (lv_at hl 0 rfl) ?_
  refine cg_callIN (A := fun q => q = x ∨ s.heap.size ≤ q) (H0 := s.heap) (y := yX21_init) (b := x) (As := []) hx hb hml hown hts hK ⟨Nat.le_refl _, fun _ _ _ => rfl, fun q hq => by cases hq⟩ (cs_super x) trivial (fun q hq => hq.elim) nq q1291 q93 q1292 ndX21_init rfl (by rw [hRf]; decide) (by rw [hRl]; decide) (Nat.zero_le _) (Nat.zero_le _) hl.1 rfl (Nat.le_of_ble_eq_true rfl) dX23_init_1 ?_
  rintro _ H locs rfl hz1 hk1 hS1
  refine lv_aload_n hx hb dX23_init_4 rfl (lv_at hl 0 rfl) ?_
  refine lv_iload_n hx hb dX23_init_5 rfl (lv_at hl 1 rfl) ?_
  refine c_newa (atype := .short) hx hb hts q1308 hK 2 rfl rfl n rfl (by omega) (by simp only [newarray.typeOf, componentBytes]; omega) (by rw [hRc]; decide) (by rw [hRs]; omega) dX23_init_6 (fun H2 hY hz2 hk2 => ?_)
  have hX1 := hX.kept (hk1 x hX.lt (fun q => q))
  have hX2 := hX1.kept (hk2 x hX1.lt)
  have hM : gH D (fun q => q = x ∨ s.heap.size ≤ q) [(x, .inr (20, [.null])), (H.size, .inl (dA 2, n, .inl (fun _ => 0)))] s.heap H2 locs := g_twoA hX2 hY (by have := hX1.lt; omega) (Or.inl rfl) (Or.inr hz1) (hS1.new (by omega) hk2)
  refine g_putF hx hb hts in_X23 tyX23 tyX23_ok nmX23 hown hK hM 0 rfl rfl 0 (by decide) q1304 rfl rfl hin rfl rfl rfl (Nat.le_of_ble_eq_true rfl) dX23_init_8 (fun H locs hM => ?_)
  refine W.widen (k := 1) (n := 40) (by omega) (by omega) ?_
  exact hret ⟨rfl, _, hz1, hM.1 0 _ rfl, hM.1 1 _ rfl⟩ hM.2.2 dX23_init_11
theorem ndX24_init : yX24_init.name = "<init>" ∧ yX24_init.cls ≠ "java/lang/invoke/MethodHandle" ∧ yX24_init.cls ≠ "java/lang/invoke/VarHandle" ∧ (parseMethodDescriptor yX24_init.desc).map (fun d => d.parameters.length) = some 1 := by decide +kernel
set_option maxHeartbeats 400000 in
theorem cs_init_2 {D : va_G} {dA : Nat → ClassId} (b x n : Nat) (hn : n ≤ 40) : Cg D dA (fun q => q = x ∨ b ≤ q) yX24_init cX24_init 2 none 2 41 1 40 [.ref x, .int (nI n)] (fun H => H.size = b ∧ cAt D x (.inr (21, [.null])) H) (fun v' H => v' = none ∧ ∃ y, b ≤ y ∧ cAt D x (.inr (21, [.ref y])) H ∧ cAt D y (.inl (dA 0, n, .inl (fun _ => 0))) H) := by
  refine Cg.ofV (by decide) (own := RX24) rfl (Nat.le_of_ble_eq_true rfl) ?_
  intro p l e R s m args below meth c Q ls hx hb hml hRf hRl hRc hRs hin hts hown hK hP hl hret
  have hl : lv_has ls 2 [(0, .ref x), (1, .int (nI n))] := hl
  obtain ⟨rfl, hX⟩ := hP
  have nq := hK.M 4 rfl
  refine lv_aload_n hx hb dX24_init_0 rfl (lv_at hl 0 rfl) ?_
  refine cg_callIN (A := fun q => q = x ∨ s.heap.size ≤ q) (H0 := s.heap) (y := yX21_init) (b := x) (As := []) hx hb hml hown hts hK ⟨Nat.le_refl _, fun _ _ _ => rfl, fun q hq => by cases hq⟩ (cs_super x) trivial (fun q hq => hq.elim) nq q1291 q93 q1292 ndX21_init rfl (by rw [hRf]; decide) (by rw [hRl]; decide) (Nat.zero_le _) (Nat.zero_le _) hl.1 rfl (Nat.le_of_ble_eq_true rfl) dX24_init_1 ?_
  rintro _ H locs rfl hz1 hk1 hS1
  refine lv_aload_n hx hb dX24_init_4 rfl (lv_at hl 0 rfl) ?_
  refine lv_iload_n hx hb dX24_init_5 rfl (lv_at hl 1 rfl) ?_
  refine c_newa (atype := .int) hx hb hts q195 hK 0 rfl rfl n rfl (by omega) (by simp only [newarray.typeOf, componentBytes]; omega) (by rw [hRc]; decide) (by rw [hRs]; omega) dX24_init_6 (fun H2 hY hz2 hk2 => ?_)
  have hX1 := hX.kept (hk1 x hX.lt (fun q => q))
  have hX2 := hX1.kept (hk2 x hX1.lt)
  have hM : gH D (fun q => q = x ∨ s.heap.size ≤ q) [(x, .inr (21, [.null])), (H.size, .inl (dA 0, n, .inl (fun _ => 0)))] s.heap H2 locs := g_twoA hX2 hY (by have := hX1.lt; omega) (Or.inl rfl) (Or.inr hz1) (hS1.new (by omega) hk2)
  refine g_putF hx hb hts in_X24 tyX24 tyX24_ok nmX24 hown hK hM 0 rfl rfl 0 (by decide) q1315 rfl rfl hin rfl rfl rfl (Nat.le_of_ble_eq_true rfl) dX24_init_8 (fun H locs hM => ?_)
  refine W.widen (k := 1) (n := 40) (by omega) (by omega) ?_
  exact hret ⟨rfl, _, hz1, hM.1 0 _ rfl, hM.1 1 _ rfl⟩ hM.2.2 dX24_init_11
/-- a new sheet on a shelf -/
theorem shOK.put {D : va_G} {h : Nat → Nat} {dA : Nat → ClassId} {hd : Nat → Option Nat} {S : Nat → Prop} {a : Nat → Nat → Int32} {H : Heap} (hs : shOK D h dA hd S a H) {sh wi x y n : Nat} (hsh : sh < 4) (hwi : wi < 3) (hn : n ≤ 40) (hx : ¬ S x) (hy : ¬ S y) (hxy : x ≠ y) (hX : cAt D x (.inr (19 + wi, [.ref y])) H) (hY : cAt D y (.inl (dA (shT wi), n, .inl (fun _ => 0))) H) : shOK D h dA (va_up hd sh (some x)) (fun q => S q ∨ q = x ∨ q = y) (va_up (va_up (va_up a 6 (upd (a 6) sh (shB wi))) 7 (upd (a 7) sh (nI n))) 8 (zrK (a 8) sh 40)) H := by
  obtain ⟨ya, hinj, hall⟩ := hs
  refine ⟨va_up ya sh y, fun u v hu hv q1 q2 => ?_, fun u hu => ?_⟩
  · have g6 : ∀ u, ¬ u = sh → ¬ upd (a 6) sh (shB wi) u = 0 → ¬ a 6 u = 0 := fun u e q z => q ((pk_un e).trans z)
    have hS : ∀ u, u < 4 → ¬ u = sh → ¬ upd (a 6) sh (shB wi) u = 0 → S (ya u) ∧ ∃ x, hd u = some x ∧ S x := fun u hu e q => by
      rcases hall u hu with z | ⟨x, wi, z1, z2, z3, z4, -⟩
      · exact absurd z.1 (g6 u e q)
      · exact ⟨z4, x, z2, z3⟩
    by_cases eu : u = sh
    · by_cases ev : v = sh
      · subst eu; subst ev
        refine ⟨fun _ => rfl, ?_⟩
        rw [va_us, va_us]
        intro z; cases z; exact hxy rfl
      · obtain ⟨s1, -⟩ := hS v hv ev q2
        subst eu
        rw [va_us, va_us, va_un ev]
        exact ⟨fun z => absurd (z ▸ s1) hy, fun z => by cases z; exact hx s1⟩
    · obtain ⟨s1, x1, s2, s3⟩ := hS u hu eu q1
      rw [va_un eu, va_un eu]
      by_cases ev : v = sh
      · subst ev
        rw [va_us]
        exact ⟨fun z => absurd (z ▸ s1) hy, fun z => by rw [s2] at z; cases z; exact hy s3⟩
      · rw [va_un ev]
        exact hinj u v hu hv (g6 u eu q1) (g6 v ev q2)
  · by_cases e : u = sh
    · subst e
      refine Or.inr ⟨x, wi, hwi, va_us _ _ _, Or.inr (Or.inl rfl), Or.inr (Or.inr (va_us _ _ _)), pk_us, ?_, ?_, ?_⟩
      · show okN (upd (a 7) u (nI n) u) 40
        rw [pk_us]; exact ⟨by rw [show cl (nI n) = n from nI_clamp (by omega)], by rw [show cl (nI n) = n from nI_clamp (by omega)]; exact hn⟩
      · rw [va_us]; exact hX
      · show cAt D (va_up ya u y u) (.inl (dA (shT wi), cl (upd (a 7) u (nI n) u), .inl (fun k => zrK (a 8) u 40 (40 * u + k)))) H
        rw [pk_us, va_us, show cl (nI n) = n from nI_clamp (by omega)]
        exact c_cong hY (fun k hk => by unfold zrK; rw [if_pos (by omega)]; rfl)
    · rcases hall u hu with ⟨q1, q2⟩ | ⟨x1, w1, q1, q2, q3, q4, q5, q6, q7, q8⟩
      · exact Or.inl ⟨(pk_un e).trans q1, (va_un e).trans q2⟩
      · have e7 : upd (a 7) sh (nI n) u = a 7 u := pk_un e
        rw [va_un (a := ya) e]
        refine Or.inr ⟨x1, w1, q1, (va_un e).trans q2, Or.inl q3, Or.inl q4, (pk_un e).trans q5, ?_, q7, ?_⟩
        · show okN (upd (a 7) sh (nI n) u) 40
          rw [e7]; exact q6
        · show cAt D (ya u) (.inl (dA (shT w1), cl (upd (a 7) sh (nI n) u), .inl (fun k => zrK (a 8) sh 40 (40 * u + k)))) H
          rw [e7]
          exact c_cong q8 (fun k hk => by unfold zrK; rw [if_neg (by have := q6.2; omega)])
set_option maxHeartbeats 400000 in
theorem ca_sheet_ok8 (f : Nat → Int32) (a : Nat → Nat → Int32) (sh : Nat) (hs : sh < 4) (n : Nat) (hn0 : n ≤ 40) : CmN yX0_sheet cX0_sheet 5 [(0, 43, 127, 8), (44, 126, 127, 8)] 3 62 2 41 [.int (nI sh), .int (nI 8), .int (nI n)] f a (nI 1) f (va_up (va_up (va_up a 6 (upd (a 6) sh (nI 8))) 7 (upd (a 7) sh (nI n))) 8 (zrK (a 8) sh 40)) := by
  refine CmN.ofM (by decide) rfl (Nat.le_of_ble_eq_true rfl) ?_
  intro p l e R s m args below meth c Q D dA h fc wk hd ri rt cw tx nm B S A0 b2 ls hx hb hml hRf hRl hRc hRs htab hts hown hK hI hB hS0 hQ hN hIm hZ hSh hM hl hA hf hsz hBS hR hretM
  have hl : lv_has ls 5 [(0, .ref (h 0)), (1, .int (nI sh)), (2, .int (nI 8)), (3, .int (nI n))] := hl
  refine lv_aload_n hx hb dX0_sheet_0 rfl (lv_at hl 0 rfl) ?_
  refine lv_iload_n hx hb dX0_sheet_1 rfl (lv_at hl 1 rfl) ?_
  refine st_callS (y := yX0_isSheet) hx hb hml hown hts (cmX0_isSheet (nI sh)) q1020 q1021 q61 q1022 ndX0_isSheet rfl (by rw [hRf]; decide) (by rw [hRl]; decide) (Nat.zero_le _) (Nat.zero_le _) hl.1 rfl (Nat.le_of_ble_eq_true rfl) dX0_sheet_2 ?_
  refine w_if_eqT (tgt := 23) hx hb dX0_sheet_5 (by decide) (fun c_1 => ?_) (fun c_1 => ?_)
  · exact absurd (by first | exact (in_nat (by decide)).mpr ⟨_, by omega, rfl⟩ | exact (in_nat1 _ (by decide) (by decide)).mpr ⟨_, by omega, by omega, rfl⟩ | exact cow_in hN0 (by omega) | assumption) c_1
  · refine lv_iload_n hx hb dX0_sheet_8 rfl (lv_at hl 2 rfl) ?_
    refine lv_if_eq (tgt := 19) hx hb dX0_sheet_9 (by decide) (fun q => absurd q (by decide)) (fun _ => ?_)
    refine lv_iload_n hx hb dX0_sheet_12 rfl (lv_at hl 2 rfl) ?_
    refine st_callS (y := yX0_isWidth) hx hb hml hown hts (cmX0_isWidth (nI 8)) q1282 q1283 q61 q1284 ndX0_isWidth rfl (by rw [hRf]; decide) (by rw [hRl]; decide) (Nat.zero_le _) (Nat.zero_le _) hl.1 rfl (Nat.le_of_ble_eq_true rfl) dX0_sheet_13 ?_
    refine w_if_eqT (tgt := 23) hx hb dX0_sheet_16 (by decide) (fun c_3 => ?_) (fun c_3 => ?_)
    · exact absurd (by decide) c_3
    · refine lv_iconst (v := nI 1) hx hb dX0_sheet_19 (by decide) ?_
      refine lv_goto (tgt := 24) hx hb dX0_sheet_20 (by decide) ?_
      refine lv_iconst (v := nI 1) hx hb dX0_sheet_24 (by decide) ?_
      refine cm_n1 hx hb hml hown hts hK hI hM htab (hpc := 127) rfl q333 (by rw [hRf]; decide) (by rw [hRl]; decide) (Nat.zero_le _) (Nat.zero_le _) hl.1 (Nat.le_of_ble_eq_true rfl) dX0_sheet_25 (fun locs hM => ?_)
      refine lv_iload_n hx hb dX0_sheet_28 rfl (lv_at hl 2 rfl) ?_
      refine lv_if_ne (tgt := 44) hx hb dX0_sheet_29 (by decide) (fun _ => ?_) (fun q => absurd q (by decide))
      refine lv_aload_n hx hb dX0_sheet_44 rfl (lv_at hl 0 rfl) ?_
      refine lv_iload_n hx hb dX0_sheet_45 rfl (lv_at hl 3 rfl) ?_
      refine w_if_ltN (tgt := 53) hx hb (by omega) dX0_sheet_46 (by decide) ?_
      refine lv_iconst (v := nI 1) hx hb dX0_sheet_49 (by decide) ?_
      refine lv_goto (tgt := 54) hx hb dX0_sheet_50 (by decide) ?_
      refine lv_iconst (v := nI 3) hx hb dX0_sheet_54 (by decide) ?_
      refine cm_n1 hx hb hml hown hts hK hI hM htab (hpc := 127) rfl q333 (by rw [hRf]; decide) (by rw [hRl]; decide) (Nat.zero_le _) (Nat.zero_le _) hl.1 (Nat.le_of_ble_eq_true rfl) dX0_sheet_55 (fun locs hM => ?_)
      refine lv_aload_n hx hb dX0_sheet_58 rfl (lv_at hl 0 rfl) ?_
      refine lv_iload_n hx hb dX0_sheet_59 rfl (lv_at hl 3 rfl) ?_
      refine lv_bipush (v := nI 40) hx hb dX0_sheet_60 (by decide) ?_
      refine w_icmp_gtN (tgt := 69) hx hb (by omega) (by omega) dX0_sheet_62 (by decide) (fun c_6 => ?_) (fun c_6 => ?_)
      · exact absurd c_6 (by omega)
      · refine lv_iconst (v := nI 1) hx hb dX0_sheet_65 (by decide) ?_
        refine lv_goto (tgt := 70) hx hb dX0_sheet_66 (by decide) ?_
        refine lv_iconst (v := nI 1) hx hb dX0_sheet_70 (by decide) ?_
        refine cm_n1 hx hb hml hown hts hK hI hM htab (hpc := 127) rfl q333 (by rw [hRf]; decide) (by rw [hRl]; decide) (Nat.zero_le _) (Nat.zero_le _) hl.1 (Nat.le_of_ble_eq_true rfl) dX0_sheet_71 (fun locs hM => ?_)
        refine lv_aload_n hx hb dX0_sheet_74 rfl (lv_at hl 0 rfl) ?_
        refine c_get (v := .ref (h 5)) hx hb hts in_X0 hown hK (hM.1 0 _ rfl) rfl 7 (by decide) q293 rfl rfl dX0_sheet_75 ?_
        refine lv_iload_n hx hb dX0_sheet_78 rfl (lv_at hl 1 rfl) ?_
        refine c_aldq hx hb hK 5 rfl (hM.1 5 _ rfl) sh ⟨by omega, by decide, rfl⟩ dX0_sheet_79 ?_
        refine lv_iload_n hx hb dX0_sheet_80 rfl (lv_at hl 2 rfl) ?_
        refine lv_bipush (v := nI 8) hx hb dX0_sheet_81 (by decide) ?_
        refine lv_icmp_ne (tgt := 97) hx hb dX0_sheet_83 (by decide) (fun q => absurd q (by decide)) (fun _ => ?_)
        refine c_new (ci := 19) (fs := [.null]) (C := RX22) (T := TX22) (N := 1) hx hb hts in_X22 tyX22 tyX22_ok hown q1285 q1286 q94 hK rfl (fun j hj => by rcases (show j = 0 by omega) with rfl <;> rfl) (by rw [hRc]; decide) (by rw [hRs]; decide) dX0_sheet_86 (fun H8 hX8 hz8 hk8 => ?_)
        refine lv_dup hx hb dX0_sheet_89 rfl ?_
        refine lv_iload_n hx hb dX0_sheet_90 rfl (lv_at hl 3 rfl) ?_
        have hx80 := hX8.lt
        have hs8 := hM.2.2.1
        refine cg_callIN2 (y := yX22_init) (As := [.int (nI n)]) hx hb hml hown hts hK hM.2.2.1 hx80 (cs_init_0 _ _ n (by omega)) ⟨rfl, hX8⟩ q1287 q1288 q94 q1289 ndX22_init rfl (by rw [hRf]; decide) (by rw [hRl]; decide) (by rw [hRc]; decide) (by rw [hRs]; decide) hl.1 rfl (Nat.le_of_ble_eq_true rfl) dX0_sheet_91 ?_
        rintro _ H1 ⟨rfl, y9, hyb, hX, hY⟩ hz9 hk9
        have hz := Nat.le_trans (Nat.le_of_lt hx80) hz9
        have hk := fun q hq => (hk9 q (Nat.lt_trans hq hx80) (by omega)).trans (hk8 q hq)
        have hM1 := hM.new hI hz hk
        have hS8 : va_S A0 s.heap H1 locs := hM1.2.2.wd hA
        have hQ1 : cmPl D h B (a 1) ri rt cw tx H1 := hQ.at hB hN mwEq.rf mwEq.rf mwEq.rf hM1.2.2
        have hSh1 : shOK D h dA hd S a H1 := hSh.to hS0 ⟨rfl, rfl, rfl⟩ hM1.2.2
        have hM9 := hM
        have hM := hM1.here hI
        refine lv_goto (tgt := 122) hx hb dX0_sheet_94 (by decide) ?_
        refine cm_put_held hx hb hts hown hK hI hM sh hs (some _) dX0_sheet_122 (fun H locs hM => ?_)
        refine lv_iconst (v := nI 1) hx hb dX0_sheet_125 (by decide) ?_
        have hP2 := (hM.cg (a' := va_up (va_up (va_up a 6 (upd (a 6) sh (nI 8))) 7 (upd (a 7) sh (nI n))) 8 (zrK (a 8) sh 40)) (f' := f) rfl rfl rfl rfl rfl).1
        have hS1 := hS8.tr (hM.2.2.wd hA)
        have hxn : ∀ q, cmA h q → q < _ := cm_lt hM9.1
        have hX2 := hX.kept (hM.2.2.2.1 _ hX.lt (fun q => by have := hxn _ q; omega))
        have hY2 := hY.kept (hM.2.2.2.1 y9 hY.lt (fun q => by have := hxn _ q; omega))
        have hlt : ∀ q, B q ∨ S q → q < s.heap.size := fun q hq => (hR q hq).2
        have hQ2 : cmQ D dA h (va_up hd sh (some s.heap.size)) A0 f (va_up (va_up (va_up a 6 (upd (a 6) sh (nI 8))) 7 (upd (a 7) sh (nI n))) 8 (zrK (a 8) sh 40)) ri rt cw tx H := by
          refine ⟨B, _, ⟨hB, fun q hq => ?_, fun q hq hb9 => ?_, fun q hq => ?_⟩, hQ1.at hB hN mwEq.rf mwEq.rf mwEq.rf hM.2.2, hN, hIm, hZ, (hSh1.to hS0 ⟨rfl, rfl, rfl⟩ hM.2.2).put (wi := 0) (n := n) hs (by decide) (by omega) (fun q => by have := hlt _ (Or.inr q); omega) (fun q => by have := hlt _ (Or.inr q); omega) (by omega) hX2 hY2⟩
          · rcases hq with z | z | z
            · exact hS0 q z
            · exact fun w => by have := hxn q w; omega
            · exact fun w => by have := hxn q w; omega
          · have := hlt q (Or.inl hb9)
            rcases hq with z | z | z
            · exact hBS q z hb9
            · omega
            · omega
          · rcases hq with z | z | z | z
            · exact ⟨(hR q (Or.inl z)).1, Nat.lt_of_lt_of_le (hR q (Or.inl z)).2 hS1.1⟩
            · exact ⟨(hR q (Or.inr z)).1, Nat.lt_of_lt_of_le (hR q (Or.inr z)).2 hS1.1⟩
            · rw [z]; exact ⟨hf _ (by omega), hX2.lt⟩
            · rw [z]; exact ⟨hf _ (by omega), hY2.lt⟩
        exact hretM hP2 hQ2 hS1 (rfl) dX0_sheet_126
set_option maxHeartbeats 400000 in
theorem ca_sheet_ok16 (f : Nat → Int32) (a : Nat → Nat → Int32) (sh : Nat) (hs : sh < 4) (n : Nat) (hn0 : n ≤ 40) : CmN yX0_sheet cX0_sheet 5 [(0, 43, 127, 8), (44, 126, 127, 8)] 3 62 2 41 [.int (nI sh), .int (nI 16), .int (nI n)] f a (nI 1) f (va_up (va_up (va_up a 6 (upd (a 6) sh (nI 16))) 7 (upd (a 7) sh (nI n))) 8 (zrK (a 8) sh 40)) := by
  refine CmN.ofM (by decide) rfl (Nat.le_of_ble_eq_true rfl) ?_
  intro p l e R s m args below meth c Q D dA h fc wk hd ri rt cw tx nm B S A0 b2 ls hx hb hml hRf hRl hRc hRs htab hts hown hK hI hB hS0 hQ hN hIm hZ hSh hM hl hA hf hsz hBS hR hretM
  have hl : lv_has ls 5 [(0, .ref (h 0)), (1, .int (nI sh)), (2, .int (nI 16)), (3, .int (nI n))] := hl
  refine lv_aload_n hx hb dX0_sheet_0 rfl (lv_at hl 0 rfl) ?_
  refine lv_iload_n hx hb dX0_sheet_1 rfl (lv_at hl 1 rfl) ?_
  refine st_callS (y := yX0_isSheet) hx hb hml hown hts (cmX0_isSheet (nI sh)) q1020 q1021 q61 q1022 ndX0_isSheet rfl (by rw [hRf]; decide) (by rw [hRl]; decide) (Nat.zero_le _) (Nat.zero_le _) hl.1 rfl (Nat.le_of_ble_eq_true rfl) dX0_sheet_2 ?_
  refine w_if_eqT (tgt := 23) hx hb dX0_sheet_5 (by decide) (fun c_1 => ?_) (fun c_1 => ?_)
  · exact absurd (by first | exact (in_nat (by decide)).mpr ⟨_, by omega, rfl⟩ | exact (in_nat1 _ (by decide) (by decide)).mpr ⟨_, by omega, by omega, rfl⟩ | exact cow_in hN0 (by omega) | assumption) c_1
  · refine lv_iload_n hx hb dX0_sheet_8 rfl (lv_at hl 2 rfl) ?_
    refine lv_if_eq (tgt := 19) hx hb dX0_sheet_9 (by decide) (fun q => absurd q (by decide)) (fun _ => ?_)
    refine lv_iload_n hx hb dX0_sheet_12 rfl (lv_at hl 2 rfl) ?_
    refine st_callS (y := yX0_isWidth) hx hb hml hown hts (cmX0_isWidth (nI 16)) q1282 q1283 q61 q1284 ndX0_isWidth rfl (by rw [hRf]; decide) (by rw [hRl]; decide) (Nat.zero_le _) (Nat.zero_le _) hl.1 rfl (Nat.le_of_ble_eq_true rfl) dX0_sheet_13 ?_
    refine w_if_eqT (tgt := 23) hx hb dX0_sheet_16 (by decide) (fun c_3 => ?_) (fun c_3 => ?_)
    · exact absurd (by decide) c_3
    · refine lv_iconst (v := nI 1) hx hb dX0_sheet_19 (by decide) ?_
      refine lv_goto (tgt := 24) hx hb dX0_sheet_20 (by decide) ?_
      refine lv_iconst (v := nI 1) hx hb dX0_sheet_24 (by decide) ?_
      refine cm_n1 hx hb hml hown hts hK hI hM htab (hpc := 127) rfl q333 (by rw [hRf]; decide) (by rw [hRl]; decide) (Nat.zero_le _) (Nat.zero_le _) hl.1 (Nat.le_of_ble_eq_true rfl) dX0_sheet_25 (fun locs hM => ?_)
      refine lv_iload_n hx hb dX0_sheet_28 rfl (lv_at hl 2 rfl) ?_
      refine lv_if_ne (tgt := 44) hx hb dX0_sheet_29 (by decide) (fun _ => ?_) (fun q => absurd q (by decide))
      refine lv_aload_n hx hb dX0_sheet_44 rfl (lv_at hl 0 rfl) ?_
      refine lv_iload_n hx hb dX0_sheet_45 rfl (lv_at hl 3 rfl) ?_
      refine w_if_ltN (tgt := 53) hx hb (by omega) dX0_sheet_46 (by decide) ?_
      refine lv_iconst (v := nI 1) hx hb dX0_sheet_49 (by decide) ?_
      refine lv_goto (tgt := 54) hx hb dX0_sheet_50 (by decide) ?_
      refine lv_iconst (v := nI 3) hx hb dX0_sheet_54 (by decide) ?_
      refine cm_n1 hx hb hml hown hts hK hI hM htab (hpc := 127) rfl q333 (by rw [hRf]; decide) (by rw [hRl]; decide) (Nat.zero_le _) (Nat.zero_le _) hl.1 (Nat.le_of_ble_eq_true rfl) dX0_sheet_55 (fun locs hM => ?_)
      refine lv_aload_n hx hb dX0_sheet_58 rfl (lv_at hl 0 rfl) ?_
      refine lv_iload_n hx hb dX0_sheet_59 rfl (lv_at hl 3 rfl) ?_
      refine lv_bipush (v := nI 40) hx hb dX0_sheet_60 (by decide) ?_
      refine w_icmp_gtN (tgt := 69) hx hb (by omega) (by omega) dX0_sheet_62 (by decide) (fun c_6 => ?_) (fun c_6 => ?_)
      · exact absurd c_6 (by omega)
      · refine lv_iconst (v := nI 1) hx hb dX0_sheet_65 (by decide) ?_
        refine lv_goto (tgt := 70) hx hb dX0_sheet_66 (by decide) ?_
        refine lv_iconst (v := nI 1) hx hb dX0_sheet_70 (by decide) ?_
        refine cm_n1 hx hb hml hown hts hK hI hM htab (hpc := 127) rfl q333 (by rw [hRf]; decide) (by rw [hRl]; decide) (Nat.zero_le _) (Nat.zero_le _) hl.1 (Nat.le_of_ble_eq_true rfl) dX0_sheet_71 (fun locs hM => ?_)
        refine lv_aload_n hx hb dX0_sheet_74 rfl (lv_at hl 0 rfl) ?_
        refine c_get (v := .ref (h 5)) hx hb hts in_X0 hown hK (hM.1 0 _ rfl) rfl 7 (by decide) q293 rfl rfl dX0_sheet_75 ?_
        refine lv_iload_n hx hb dX0_sheet_78 rfl (lv_at hl 1 rfl) ?_
        refine c_aldq hx hb hK 5 rfl (hM.1 5 _ rfl) sh ⟨by omega, by decide, rfl⟩ dX0_sheet_79 ?_
        refine lv_iload_n hx hb dX0_sheet_80 rfl (lv_at hl 2 rfl) ?_
        refine lv_bipush (v := nI 8) hx hb dX0_sheet_81 (by decide) ?_
        refine lv_icmp_ne (tgt := 97) hx hb dX0_sheet_83 (by decide) (fun _ => ?_) (fun q => absurd q (by decide))
        refine lv_iload_n hx hb dX0_sheet_97 rfl (lv_at hl 2 rfl) ?_
        refine lv_bipush (v := nI 16) hx hb dX0_sheet_98 (by decide) ?_
        refine lv_icmp_ne (tgt := 114) hx hb dX0_sheet_100 (by decide) (fun q => absurd q (by decide)) (fun _ => ?_)
        refine c_new (ci := 20) (fs := [.null]) (C := RX23) (T := TX23) (N := 1) hx hb hts in_X23 tyX23 tyX23_ok hown q1298 q1299 q95 hK rfl (fun j hj => by rcases (show j = 0 by omega) with rfl <;> rfl) (by rw [hRc]; decide) (by rw [hRs]; decide) dX0_sheet_103 (fun H8 hX8 hz8 hk8 => ?_)
        refine lv_dup hx hb dX0_sheet_106 rfl ?_
        refine lv_iload_n hx hb dX0_sheet_107 rfl (lv_at hl 3 rfl) ?_
        have hx80 := hX8.lt
        have hs8 := hM.2.2.1
        refine cg_callIN2 (y := yX23_init) (As := [.int (nI n)]) hx hb hml hown hts hK hM.2.2.1 hx80 (cs_init_1 _ _ n (by omega)) ⟨rfl, hX8⟩ q1300 q1301 q95 q1302 ndX23_init rfl (by rw [hRf]; decide) (by rw [hRl]; decide) (by rw [hRc]; decide) (by rw [hRs]; decide) hl.1 rfl (Nat.le_of_ble_eq_true rfl) dX0_sheet_108 ?_
        rintro _ H1 ⟨rfl, y9, hyb, hX, hY⟩ hz9 hk9
        have hz := Nat.le_trans (Nat.le_of_lt hx80) hz9
        have hk := fun q hq => (hk9 q (Nat.lt_trans hq hx80) (by omega)).trans (hk8 q hq)
        have hM1 := hM.new hI hz hk
        have hS8 : va_S A0 s.heap H1 locs := hM1.2.2.wd hA
        have hQ1 : cmPl D h B (a 1) ri rt cw tx H1 := hQ.at hB hN mwEq.rf mwEq.rf mwEq.rf hM1.2.2
        have hSh1 : shOK D h dA hd S a H1 := hSh.to hS0 ⟨rfl, rfl, rfl⟩ hM1.2.2
        have hM9 := hM
        have hM := hM1.here hI
        refine lv_goto (tgt := 122) hx hb dX0_sheet_111 (by decide) ?_
        refine cm_put_held hx hb hts hown hK hI hM sh hs (some _) dX0_sheet_122 (fun H locs hM => ?_)
        refine lv_iconst (v := nI 1) hx hb dX0_sheet_125 (by decide) ?_
        have hP2 := (hM.cg (a' := va_up (va_up (va_up a 6 (upd (a 6) sh (nI 16))) 7 (upd (a 7) sh (nI n))) 8 (zrK (a 8) sh 40)) (f' := f) rfl rfl rfl rfl rfl).1
        have hS1 := hS8.tr (hM.2.2.wd hA)
        have hxn : ∀ q, cmA h q → q < _ := cm_lt hM9.1
        have hX2 := hX.kept (hM.2.2.2.1 _ hX.lt (fun q => by have := hxn _ q; omega))
        have hY2 := hY.kept (hM.2.2.2.1 y9 hY.lt (fun q => by have := hxn _ q; omega))
        have hlt : ∀ q, B q ∨ S q → q < s.heap.size := fun q hq => (hR q hq).2
        have hQ2 : cmQ D dA h (va_up hd sh (some s.heap.size)) A0 f (va_up (va_up (va_up a 6 (upd (a 6) sh (nI 16))) 7 (upd (a 7) sh (nI n))) 8 (zrK (a 8) sh 40)) ri rt cw tx H := by
          refine ⟨B, _, ⟨hB, fun q hq => ?_, fun q hq hb9 => ?_, fun q hq => ?_⟩, hQ1.at hB hN mwEq.rf mwEq.rf mwEq.rf hM.2.2, hN, hIm, hZ, (hSh1.to hS0 ⟨rfl, rfl, rfl⟩ hM.2.2).put (wi := 1) (n := n) hs (by decide) (by omega) (fun q => by have := hlt _ (Or.inr q); omega) (fun q => by have := hlt _ (Or.inr q); omega) (by omega) hX2 hY2⟩
          · rcases hq with z | z | z
            · exact hS0 q z
            · exact fun w => by have := hxn q w; omega
            · exact fun w => by have := hxn q w; omega
          · have := hlt q (Or.inl hb9)
            rcases hq with z | z | z
            · exact hBS q z hb9
            · omega
            · omega
          · rcases hq with z | z | z | z
            · exact ⟨(hR q (Or.inl z)).1, Nat.lt_of_lt_of_le (hR q (Or.inl z)).2 hS1.1⟩
            · exact ⟨(hR q (Or.inr z)).1, Nat.lt_of_lt_of_le (hR q (Or.inr z)).2 hS1.1⟩
            · rw [z]; exact ⟨hf _ (by omega), hX2.lt⟩
            · rw [z]; exact ⟨hf _ (by omega), hY2.lt⟩
        exact hretM hP2 hQ2 hS1 (rfl) dX0_sheet_126
set_option maxHeartbeats 400000 in
theorem ca_sheet_ok32 (f : Nat → Int32) (a : Nat → Nat → Int32) (sh : Nat) (hs : sh < 4) (n : Nat) (hn0 : n ≤ 40) : CmN yX0_sheet cX0_sheet 5 [(0, 43, 127, 8), (44, 126, 127, 8)] 3 62 2 41 [.int (nI sh), .int (nI 32), .int (nI n)] f a (nI 1) f (va_up (va_up (va_up a 6 (upd (a 6) sh (nI 32))) 7 (upd (a 7) sh (nI n))) 8 (zrK (a 8) sh 40)) := by
  refine CmN.ofM (by decide) rfl (Nat.le_of_ble_eq_true rfl) ?_
  intro p l e R s m args below meth c Q D dA h fc wk hd ri rt cw tx nm B S A0 b2 ls hx hb hml hRf hRl hRc hRs htab hts hown hK hI hB hS0 hQ hN hIm hZ hSh hM hl hA hf hsz hBS hR hretM
  have hl : lv_has ls 5 [(0, .ref (h 0)), (1, .int (nI sh)), (2, .int (nI 32)), (3, .int (nI n))] := hl
  refine lv_aload_n hx hb dX0_sheet_0 rfl (lv_at hl 0 rfl) ?_
  refine lv_iload_n hx hb dX0_sheet_1 rfl (lv_at hl 1 rfl) ?_
  refine st_callS (y := yX0_isSheet) hx hb hml hown hts (cmX0_isSheet (nI sh)) q1020 q1021 q61 q1022 ndX0_isSheet rfl (by rw [hRf]; decide) (by rw [hRl]; decide) (Nat.zero_le _) (Nat.zero_le _) hl.1 rfl (Nat.le_of_ble_eq_true rfl) dX0_sheet_2 ?_
  refine w_if_eqT (tgt := 23) hx hb dX0_sheet_5 (by decide) (fun c_1 => ?_) (fun c_1 => ?_)
  · exact absurd (by first | exact (in_nat (by decide)).mpr ⟨_, by omega, rfl⟩ | exact (in_nat1 _ (by decide) (by decide)).mpr ⟨_, by omega, by omega, rfl⟩ | exact cow_in hN0 (by omega) | assumption) c_1
  · refine lv_iload_n hx hb dX0_sheet_8 rfl (lv_at hl 2 rfl) ?_
    refine lv_if_eq (tgt := 19) hx hb dX0_sheet_9 (by decide) (fun q => absurd q (by decide)) (fun _ => ?_)
    refine lv_iload_n hx hb dX0_sheet_12 rfl (lv_at hl 2 rfl) ?_
    refine st_callS (y := yX0_isWidth) hx hb hml hown hts (cmX0_isWidth (nI 32)) q1282 q1283 q61 q1284 ndX0_isWidth rfl (by rw [hRf]; decide) (by rw [hRl]; decide) (Nat.zero_le _) (Nat.zero_le _) hl.1 rfl (Nat.le_of_ble_eq_true rfl) dX0_sheet_13 ?_
    refine w_if_eqT (tgt := 23) hx hb dX0_sheet_16 (by decide) (fun c_3 => ?_) (fun c_3 => ?_)
    · exact absurd (by decide) c_3
    · refine lv_iconst (v := nI 1) hx hb dX0_sheet_19 (by decide) ?_
      refine lv_goto (tgt := 24) hx hb dX0_sheet_20 (by decide) ?_
      refine lv_iconst (v := nI 1) hx hb dX0_sheet_24 (by decide) ?_
      refine cm_n1 hx hb hml hown hts hK hI hM htab (hpc := 127) rfl q333 (by rw [hRf]; decide) (by rw [hRl]; decide) (Nat.zero_le _) (Nat.zero_le _) hl.1 (Nat.le_of_ble_eq_true rfl) dX0_sheet_25 (fun locs hM => ?_)
      refine lv_iload_n hx hb dX0_sheet_28 rfl (lv_at hl 2 rfl) ?_
      refine lv_if_ne (tgt := 44) hx hb dX0_sheet_29 (by decide) (fun _ => ?_) (fun q => absurd q (by decide))
      refine lv_aload_n hx hb dX0_sheet_44 rfl (lv_at hl 0 rfl) ?_
      refine lv_iload_n hx hb dX0_sheet_45 rfl (lv_at hl 3 rfl) ?_
      refine w_if_ltN (tgt := 53) hx hb (by omega) dX0_sheet_46 (by decide) ?_
      refine lv_iconst (v := nI 1) hx hb dX0_sheet_49 (by decide) ?_
      refine lv_goto (tgt := 54) hx hb dX0_sheet_50 (by decide) ?_
      refine lv_iconst (v := nI 3) hx hb dX0_sheet_54 (by decide) ?_
      refine cm_n1 hx hb hml hown hts hK hI hM htab (hpc := 127) rfl q333 (by rw [hRf]; decide) (by rw [hRl]; decide) (Nat.zero_le _) (Nat.zero_le _) hl.1 (Nat.le_of_ble_eq_true rfl) dX0_sheet_55 (fun locs hM => ?_)
      refine lv_aload_n hx hb dX0_sheet_58 rfl (lv_at hl 0 rfl) ?_
      refine lv_iload_n hx hb dX0_sheet_59 rfl (lv_at hl 3 rfl) ?_
      refine lv_bipush (v := nI 40) hx hb dX0_sheet_60 (by decide) ?_
      refine w_icmp_gtN (tgt := 69) hx hb (by omega) (by omega) dX0_sheet_62 (by decide) (fun c_6 => ?_) (fun c_6 => ?_)
      · exact absurd c_6 (by omega)
      · refine lv_iconst (v := nI 1) hx hb dX0_sheet_65 (by decide) ?_
        refine lv_goto (tgt := 70) hx hb dX0_sheet_66 (by decide) ?_
        refine lv_iconst (v := nI 1) hx hb dX0_sheet_70 (by decide) ?_
        refine cm_n1 hx hb hml hown hts hK hI hM htab (hpc := 127) rfl q333 (by rw [hRf]; decide) (by rw [hRl]; decide) (Nat.zero_le _) (Nat.zero_le _) hl.1 (Nat.le_of_ble_eq_true rfl) dX0_sheet_71 (fun locs hM => ?_)
        refine lv_aload_n hx hb dX0_sheet_74 rfl (lv_at hl 0 rfl) ?_
        refine c_get (v := .ref (h 5)) hx hb hts in_X0 hown hK (hM.1 0 _ rfl) rfl 7 (by decide) q293 rfl rfl dX0_sheet_75 ?_
        refine lv_iload_n hx hb dX0_sheet_78 rfl (lv_at hl 1 rfl) ?_
        refine c_aldq hx hb hK 5 rfl (hM.1 5 _ rfl) sh ⟨by omega, by decide, rfl⟩ dX0_sheet_79 ?_
        refine lv_iload_n hx hb dX0_sheet_80 rfl (lv_at hl 2 rfl) ?_
        refine lv_bipush (v := nI 8) hx hb dX0_sheet_81 (by decide) ?_
        refine lv_icmp_ne (tgt := 97) hx hb dX0_sheet_83 (by decide) (fun _ => ?_) (fun q => absurd q (by decide))
        refine lv_iload_n hx hb dX0_sheet_97 rfl (lv_at hl 2 rfl) ?_
        refine lv_bipush (v := nI 16) hx hb dX0_sheet_98 (by decide) ?_
        refine lv_icmp_ne (tgt := 114) hx hb dX0_sheet_100 (by decide) (fun _ => ?_) (fun q => absurd q (by decide))
        refine c_new (ci := 21) (fs := [.null]) (C := RX24) (T := TX24) (N := 1) hx hb hts in_X24 tyX24 tyX24_ok hown q1309 q1310 q96 hK rfl (fun j hj => by rcases (show j = 0 by omega) with rfl <;> rfl) (by rw [hRc]; decide) (by rw [hRs]; decide) dX0_sheet_114 (fun H8 hX8 hz8 hk8 => ?_)
        refine lv_dup hx hb dX0_sheet_117 rfl ?_
        refine lv_iload_n hx hb dX0_sheet_118 rfl (lv_at hl 3 rfl) ?_
        have hx80 := hX8.lt
        have hs8 := hM.2.2.1
        refine cg_callIN2 (y := yX24_init) (As := [.int (nI n)]) hx hb hml hown hts hK hM.2.2.1 hx80 (cs_init_2 _ _ n (by omega)) ⟨rfl, hX8⟩ q1311 q1312 q96 q1313 ndX24_init rfl (by rw [hRf]; decide) (by rw [hRl]; decide) (by rw [hRc]; decide) (by rw [hRs]; decide) hl.1 rfl (Nat.le_of_ble_eq_true rfl) dX0_sheet_119 ?_
        rintro _ H1 ⟨rfl, y9, hyb, hX, hY⟩ hz9 hk9
        have hz := Nat.le_trans (Nat.le_of_lt hx80) hz9
        have hk := fun q hq => (hk9 q (Nat.lt_trans hq hx80) (by omega)).trans (hk8 q hq)
        have hM1 := hM.new hI hz hk
        have hS8 : va_S A0 s.heap H1 locs := hM1.2.2.wd hA
        have hQ1 : cmPl D h B (a 1) ri rt cw tx H1 := hQ.at hB hN mwEq.rf mwEq.rf mwEq.rf hM1.2.2
        have hSh1 : shOK D h dA hd S a H1 := hSh.to hS0 ⟨rfl, rfl, rfl⟩ hM1.2.2
        have hM9 := hM
        have hM := hM1.here hI
        refine cm_put_held hx hb hts hown hK hI hM sh hs (some _) dX0_sheet_122 (fun H locs hM => ?_)
        refine lv_iconst (v := nI 1) hx hb dX0_sheet_125 (by decide) ?_
        have hP2 := (hM.cg (a' := va_up (va_up (va_up a 6 (upd (a 6) sh (nI 32))) 7 (upd (a 7) sh (nI n))) 8 (zrK (a 8) sh 40)) (f' := f) rfl rfl rfl rfl rfl).1
        have hS1 := hS8.tr (hM.2.2.wd hA)
        have hxn : ∀ q, cmA h q → q < _ := cm_lt hM9.1
        have hX2 := hX.kept (hM.2.2.2.1 _ hX.lt (fun q => by have := hxn _ q; omega))
        have hY2 := hY.kept (hM.2.2.2.1 y9 hY.lt (fun q => by have := hxn _ q; omega))
        have hlt : ∀ q, B q ∨ S q → q < s.heap.size := fun q hq => (hR q hq).2
        have hQ2 : cmQ D dA h (va_up hd sh (some s.heap.size)) A0 f (va_up (va_up (va_up a 6 (upd (a 6) sh (nI 32))) 7 (upd (a 7) sh (nI n))) 8 (zrK (a 8) sh 40)) ri rt cw tx H := by
          refine ⟨B, _, ⟨hB, fun q hq => ?_, fun q hq hb9 => ?_, fun q hq => ?_⟩, hQ1.at hB hN mwEq.rf mwEq.rf mwEq.rf hM.2.2, hN, hIm, hZ, (hSh1.to hS0 ⟨rfl, rfl, rfl⟩ hM.2.2).put (wi := 2) (n := n) hs (by decide) (by omega) (fun q => by have := hlt _ (Or.inr q); omega) (fun q => by have := hlt _ (Or.inr q); omega) (by omega) hX2 hY2⟩
          · rcases hq with z | z | z
            · exact hS0 q z
            · exact fun w => by have := hxn q w; omega
            · exact fun w => by have := hxn q w; omega
          · have := hlt q (Or.inl hb9)
            rcases hq with z | z | z
            · exact hBS q z hb9
            · omega
            · omega
          · rcases hq with z | z | z | z
            · exact ⟨(hR q (Or.inl z)).1, Nat.lt_of_lt_of_le (hR q (Or.inl z)).2 hS1.1⟩
            · exact ⟨(hR q (Or.inr z)).1, Nat.lt_of_lt_of_le (hR q (Or.inr z)).2 hS1.1⟩
            · rw [z]; exact ⟨hf _ (by omega), hX2.lt⟩
            · rw [z]; exact ⟨hf _ (by omega), hY2.lt⟩
        exact hretM hP2 hQ2 hS1 (rfl) dX0_sheet_126
