/-! write (printed by comp23.py) -/
set_option maxRecDepth 100000
theorem CmF.ofM {y : MethodName} {cc : ByteArray} {maxL fr lo : Nat} {hh : List (Nat × Nat × Nat × Nat)} {As : List Value} {f f' : Nat → Int32} {a a' : Nat → Nat → Int32} {v : Int32} (hy : plainName y.cls = true) (hcl : y.cls = RX0) (hlen : (lg_sl (.ref 0 :: As)).length ≤ maxL)
    (body : ∀ (p : Program) (l : Launch) (e : Env) (R : Room) (s : State) (m : MethodId) (args : Array Value) (below : List Frame) (meth : Method) (c : Code) (Q : State → Prop) (D : va_G) (dA : Nat → ClassId) (h : Nat → Nat) (fc : Int32) (wk : Nat → Nat → Int32) (hd : Nat → Option Nat) (ri rt : Nat → Int32) (cw tx : Nat → Nat → Option Nat) (nm : Nat → Nat → Int32) (B S A0 : Nat → Prop) (b2 : Nat) (ls : Array Slot), p.tables.exec = Jvm.exec → c.code = cc → c.maxLocals = maxL → R.frames = fr → R.locals = lo → R.cells = 0 → R.slots = 0 → c.exceptionTable.toList = tableOf hh → (∀ w ∈ lw_all, w.before args s = true) → s.vm.findClass RX0 = some m.cls → cmK D dA s → cmI h → (∀ q, B q → ¬ cmA h q) → (∀ q, S q → ¬ cmA h q) → cmPl D h B (a 1) ri rt cw tx s.heap → (cl (a 1 3) ≤ 5 ∧ cl (ri 3) ≤ 5 ∧ cl (rt 3) ≤ 5) → (¬ f 4 = 0 → ri = a 2) → cmZ (a 1) ri cw → shOK D h dA hd S a s.heap → cmH D h dA s.heap s.heap [] f a fc wk hd ri rt cw tx nm → lv_has ls maxL (lv_args 0 (.ref (h 0) :: As)) →
      (∀ q, cmA h q → A0 q) → (∀ q, b2 ≤ q → A0 q) → b2 ≤ s.heap.size → (∀ q, S q → ¬ B q) → (∀ q, B q ∨ S q → A0 q ∧ q < s.heap.size) →
      (∀ {H : Heap} {locs : List Loc} {pc : Nat} {ls : Array Slot} {x : Int32} {fc' : Int32} {wk' : Nat → Nat → Int32} {hd' : Nat → Option Nat} {ri' rt' : Nat → Int32} {cw' tx' : Nat → Nat → Option Nat} {nm' : Nat → Nat → Int32}, va_P D cmCl (cmWs h dA f' a' fc' wk' hd' ri' rt' cw' tx' nm') H → cmQ D dA h hd' A0 f' a' ri' rt' cw' tx' H → va_S A0 s.heap H locs → x = v → decode cc pc = .ok (.ireturn, 1) → W p l e R s m args below meth c H locs 0 0 Q (F0 m pc ls [.int x])) →
      W p l e R s m args below meth c s.heap [] 0 0 Q (F0 m 0 ls [])) : CmF y cc maxL hh fr lo As f a v f' a' := by
  intro D dA h fc wk hd ri rt cw tx nm A0 b2 hI hA hf
  refine Cw.ofI hy hcl hlen ?_
  intro p l e R s m args below meth c Q ls hx hb hml hRf hRl hRc hRs htab hts hown hK hP hl hret
  obtain ⟨hsz, hP, B, S, ⟨hB, hS0, hBS, hR⟩, hQ, hN, hIm, hZ, hSh⟩ := hP
  refine body p l e R s m args below meth c Q D dA h fc wk hd ri rt cw tx nm B S A0 b2 ls hx hb hml hRf hRl hRc hRs htab hts hown hK hI hB hS0 hQ hN hIm hZ hSh (cmH.of hI hP va_S.rf) hl hA hf hsz hBS hR ?_
  intro H locs pc ls x fc' wk' hd' ri' rt' cw' tx' nm' h1 h2 h3 hv hdg
  exact hret ⟨by rw [hv], _, _, _, _, _, _, _, _, h1, h2⟩ h3 hdg
theorem c_cong {D : va_G} {x n : Nat} {cA : ClassId} {f g : Nat → Int32} {H : Heap} (hc : cAt D x (.inl (cA, n, .inl f)) H) (h : ∀ k, k < n → f k = g k) : cAt D x (.inl (cA, n, .inl g)) H := by
  show H[x]? = some (vp_cell cA (n, .inl g))
  rw [← arrV_c cA n h]
  exact hc
theorem upd_sh (b : Nat → Int32) (sh i : Nat) (V : Int32) : (fun k => upd b (40 * sh + i) V (40 * sh + k)) = upd (fun k => b (40 * sh + k)) i V := by
  funext k
  unfold upd
  by_cases e : k = i
  · rw [if_pos (by omega), if_pos e]
  · rw [if_neg (by omega), if_neg e]
set_option maxHeartbeats 400000 in
theorem ca_write_ok (f : Nat → Int32) (a : Nat → Nat → Int32) (sh : Nat) (hs : sh < 4) (i : Nat) (v : Int32) (hb00 : ¬ a 6 sh = 0) (hi : i < cl (a 7 sh)) : CmF yX0_write cX0_write 5 [(0, 41, 42, 8)] 3 81 [.int (nI sh), .int (nI i), .int v] f a (nI 1) f (va_up a 8 (upd (a 8) (40 * sh + i) (narF (a 6 sh) v))) := by
  refine CmF.ofM (by decide) rfl (Nat.le_of_ble_eq_true rfl) ?_
  intro p l e R s m args below meth c Q D dA h fc wk hd ri rt cw tx nm B S A0 b2 ls hx hb hml hRf hRl hRc hRs htab hts hown hK hI hB hS0 hQ hN hIm hZ hSh hM hl hA hf hsz hBS hR hretM
  have hl : lv_has ls 5 [(0, .ref (h 0)), (1, .int (nI sh)), (2, .int (nI i)), (3, .int v)] := hl
  have hs0 := hs
  have hSh2 := hSh
  obtain ⟨ya, hinj, hall⟩ := hSh2
  obtain ⟨x0, wi0, hwi0, hxd0, hxA0, hyA0, hb60, hz70, hX0, hY0⟩ := (hall sh hs0).resolve_left (fun q => hb00 q.1)
  have hz720 := hz70.2
  have hin : nI 0 ≤ nI i ∧ nI i ≤ a 7 sh - nI 1 := by rw [hz70.1, pk_sub (by omega)]; exact ⟨nI_le (Nat.zero_le _) (by omega), nI_le (by omega) (by omega)⟩
  refine lv_aload_n hx hb dX0_write_0 rfl (lv_at hl 0 rfl) ?_
  refine lv_iload_n hx hb dX0_write_1 rfl (lv_at hl 1 rfl) ?_
  refine st_callS (y := yX0_isSheet) hx hb hml hown hts (cmX0_isSheet (nI sh)) q1020 q1021 q61 q1022 ndX0_isSheet rfl (by rw [hRf]; decide) (by rw [hRl]; decide) (Nat.zero_le _) (Nat.zero_le _) hl.1 rfl (Nat.le_of_ble_eq_true rfl) dX0_write_2 ?_
  refine lv_iconst (v := nI 1) hx hb dX0_write_5 (by decide) ?_
  refine cm_need hx hb hml hown hts hK hI hM htab (hpc := 42) rfl q333 (by rw [hRf]; decide) (by rw [hRl]; decide) (Nat.zero_le _) (Nat.zero_le _) hl.1 (Nat.le_of_ble_eq_true rfl) dX0_write_6 (fun c_1 locs hM => ?_) (fun c_1 H locs hM => ?_)
  · refine lv_aload_n hx hb dX0_write_9 rfl (lv_at hl 0 rfl) ?_
    refine lv_iload_n hx hb dX0_write_10 rfl (lv_at hl 1 rfl) ?_
    refine cg_callV (y := yX0_sheetAt) (b := h 0) (C := RX0) (As := [.int (nI sh)]) hx hb hml hown hts hK hM.2.2 (ca_sheetAt_ok D dA h _ _ _ _ _ _ _ _ _ _ hI sh x0 wi0 hs0 hxd0 (hS0 _ hxA0) hwi0 _) ⟨hM.1, hX0.kept (hM.2.2.2.1 x0 hX0.lt (hS0 _ hxA0))⟩ (fun q hq => hq) (cAt.recv hK (hM.1 0 _ rfl) rfl) q1023 q1025 qs18 q61 q1026 ndX0_sheetAt rfl (by rw [hRf]; decide) (by rw [hRl]; decide) (Nat.zero_le _) (Nat.zero_le _) hl.1 rfl (Nat.le_of_ble_eq_true rfl) dX0_write_11 ?_
    rintro _ H locs ⟨rfl, hP1⟩ hz1 hk1 hS1
    have hM := cmH.of hI hP1 hS1
    refine lv_astore (lv' := [(4, .ref x0), (0, .ref (h 0)), (1, .int (nI sh)), (2, .int (nI i)), (3, .int v)]) hx hb dX0_write_14 hl (by decide) rfl (fun ls hl => ?_)
    refine lv_aload_n hx hb dX0_write_16 rfl (lv_at hl 1 rfl) ?_
    refine lv_iload_n hx hb dX0_write_17 rfl (lv_at hl 3 rfl) ?_
    refine lv_iconst (v := nI 0) hx hb dX0_write_18 (by decide) ?_
    refine lv_aload hx hb dX0_write_19 (lv_at hl 0 rfl) ?_
    refine sv_size hx hb hml hown hts hK q1028 wi0 hwi0 x0 (ya sh) (cl (a 7 sh)) (fun k => a 8 (40 * sh + k)) (hX0.kept (hM.2.2.2.1 x0 hX0.lt (hS0 _ hxA0))) (hY0.kept (hM.2.2.2.1 _ hY0.lt (hS0 _ hyA0))) (by rw [hRf]; decide) (by rw [hRl]; decide) (Nat.zero_le _) (Nat.zero_le _) hl.1 (Nat.le_of_ble_eq_true rfl) dX0_write_21 ?_
    refine w_top (a 7 sh) (hz70.1.symm) ?_
    refine lv_iconst (v := nI 1) hx hb dX0_write_24 (by decide) ?_
    refine lv_isub hx hb dX0_write_25 ?_
    refine st_callS (y := yX0_in) hx hb hml hown hts (cmX0_in (nI i) (nI 0) ((a 7 sh) - (nI 1))) q330 q331 q61 q332 ndX0_in rfl (by rw [hRf]; decide) (by rw [hRl]; decide) (Nat.zero_le _) (Nat.zero_le _) hl.1 rfl (Nat.le_of_ble_eq_true rfl) dX0_write_26 ?_
    refine lv_iconst (v := nI 1) hx hb dX0_write_29 (by decide) ?_
    refine cm_need hx hb hml hown hts hK hI hM htab (hpc := 42) rfl q333 (by rw [hRf]; decide) (by rw [hRl]; decide) (Nat.zero_le _) (Nat.zero_le _) hl.1 (Nat.le_of_ble_eq_true rfl) dX0_write_30 (fun c_2 locs hM => ?_) (fun c_2 H locs hM => ?_)
    · refine lv_aload hx hb dX0_write_33 (lv_at hl 0 rfl) ?_
      refine lv_iload_n hx hb dX0_write_35 rfl (lv_at hl 3 rfl) ?_
      refine lv_iload_n hx hb dX0_write_36 rfl (lv_at hl 4 rfl) ?_
      refine sv_put hx hb hml hown hts hK q1323 (hM.2.2.wd hA) wi0 hwi0 x0 (ya sh) (cl (a 7 sh)) (hR _ (Or.inr hyA0)).1 (fun k => a 8 (40 * sh + k)) i v ⟨by omega, by omega⟩ (hX0.kept (hM.2.2.2.1 x0 hX0.lt (hS0 _ hxA0))) (hY0.kept (hM.2.2.2.1 _ hY0.lt (hS0 _ hyA0))) (by rw [hRf]; decide) (by rw [hRl]; decide) (Nat.zero_le _) (Nat.zero_le _) hl.1 (Nat.le_of_ble_eq_true rfl) dX0_write_37 (fun H1 locs1 hY1 hk1 hS1 => ?_)
      have hne : ∀ q, cmA h q → ¬ q = ya sh := fun q hq e => hS0 _ hyA0 (e ▸ hq)
      have hP2 : va_P D cmCl (cmWs h dA f (va_up a 8 (upd (a 8) (40 * sh + i) (narF (a 6 sh) v))) fc wk hd ri rt cw tx nm) H1 := cm_off (B := fun q => q = ya sh) hM.1 hk1 (fun j q hj => by obtain ⟨j1, j2⟩ := cm_at h dA f a fc wk hd (a 1) ri rt (mwAr (a 1)) (mwAr ri) (mwAr rt) cw tx nm j q hj; exact hne _ ⟨j, j1, j2⟩)
      have hkB : ∀ q, q < s.heap.size → B q → B q ∧ H1[q]? = s.heap[q]? := fun q q1 q2 => ⟨q2, (hk1 q (Nat.lt_of_lt_of_le q1 hM.2.2.1) (fun e => hBS _ hyA0 (e ▸ q2))).trans (hM.2.2.2.1 q q1 (hB q q2))⟩
      have hkS : ∀ q, q < s.heap.size → S q → ¬ q = ya sh → H1[q]? = s.heap[q]? := fun q q1 q2 q3 => (hk1 q (Nat.lt_of_lt_of_le q1 hM.2.2.1) q3).trans (hM.2.2.2.1 q q1 (hS0 q q2))
      have hSh1 : shOK D h dA hd S (va_up a 8 (upd (a 8) (40 * sh + i) (narF (a 6 sh) v))) H1 := by
        refine ⟨ya, hinj, fun u hu => ?_⟩
        by_cases e : u = sh
        · subst e
          refine Or.inr ⟨x0, wi0, hwi0, hxd0, hxA0, hyA0, hb60, hz70, hX0.kept (hkS _ hX0.lt hxA0 (fun e2 => (hinj u u hu hu hb00 hb00).2 (by rw [hxd0, e2]))), ?_⟩
          show cAt D (ya u) (.inl (dA (shT wi0), cl (a 7 u), .inl (fun k => (upd (a 8) (40 * u + i) (narF (a 6 u) v)) (40 * u + k)))) H1
          rw [upd_sh, hb60]
          exact hY1
        · rcases hall u hu with q | ⟨x, wi, q1, q2, q3, q4, q5, q6, q7, q8⟩
          · exact Or.inl q
          · have q0 : ¬ a 6 u = 0 := by rw [q5]; exact shB_ne wi
            refine Or.inr ⟨x, wi, q1, q2, q3, q4, q5, q6, q7.kept (hkS _ q7.lt q3 (fun e2 => (hinj u sh hu hs q0 hb00).2 (by rw [q2, e2]))), ?_⟩
            have q9 := q8.kept (hkS _ q8.lt q4 (fun e2 => e ((hinj u sh hu hs q0 hb00).1 e2)))
            exact c_cong q9 (fun k hk => (pk_un (by have hk2 : k < cl (a 7 u) := hk; have := q6.2; omega)).symm)
      have hQ2 : cmQ D dA h hd A0 f (va_up a 8 (upd (a 8) (40 * sh + i) (narF (a 6 sh) v))) ri rt cw tx H1 := ⟨B, S, ⟨hB, hS0, hBS, fun q hq => ⟨(hR q hq).1, Nat.lt_of_lt_of_le (hR q hq).2 hS1.1⟩⟩, ⟨hQ.1.to mwEq.rf hN.1 hkB, hQ.2.1.to mwEq.rf hN.2.1 hkB, hQ.2.2.to mwEq.rf hN.2.2 hkB⟩, hN, hIm, hZ, hSh1⟩
      refine lv_iconst (v := nI 1) hx hb dX0_write_40 (by decide) ?_
      exact hretM hP2 hQ2 hS1 rfl dX0_write_41
    · exact absurd hin c_2
  · exact absurd (by first | exact (in_nat (by decide)).mpr ⟨_, by omega, rfl⟩ | exact (in_nat1 _ (by decide) (by decide)).mpr ⟨_, by omega, by omega, rfl⟩ | exact cow_in hN0 (by omega) | assumption) c_1
set_option maxHeartbeats 400000 in
theorem ca_write_n (f : Nat → Int32) (a : Nat → Nat → Int32) (sh : Nat) (hs : sh < 4) (i v : Int32) (hb0 : a 6 sh = 0) : CmF yX0_write cX0_write 5 [(0, 41, 42, 8)] 3 81 [.int (nI sh), .int i, .int v] f a (-1000000002 : Int32) f (mErr a 2) := by
  refine CmF.ofI (by decide) rfl (Nat.le_of_ble_eq_true rfl) ?_
  intro p l e R s m args below meth c Q D dA h fc wk hd ri rt cw tx nm B S ls hx hb hml hRf hRl hRc hRs htab hts hown hK hI hB hS0 hQ hN hIm hZ hSh hM hl hret hret0
  have hl : lv_has ls 5 [(0, .ref (h 0)), (1, .int (nI sh)), (2, .int i), (3, .int v)] := hl
  have hSh2 := hSh
  obtain ⟨ya, hinj, hall⟩ := hSh2
  have hnone : hd sh = none := ((hall sh hs).resolve_right (fun ⟨x, wi, w1, w2, w3, w4, w5, _⟩ => shB_ne wi (w5.symm.trans hb0))).2
  refine lv_aload_n hx hb dX0_write_0 rfl (lv_at hl 0 rfl) ?_
  refine lv_iload_n hx hb dX0_write_1 rfl (lv_at hl 1 rfl) ?_
  refine st_callS (y := yX0_isSheet) hx hb hml hown hts (cmX0_isSheet (nI sh)) q1020 q1021 q61 q1022 ndX0_isSheet rfl (by rw [hRf]; decide) (by rw [hRl]; decide) (Nat.zero_le _) (Nat.zero_le _) hl.1 rfl (Nat.le_of_ble_eq_true rfl) dX0_write_2 ?_
  refine lv_iconst (v := nI 1) hx hb dX0_write_5 (by decide) ?_
  refine cm_need hx hb hml hown hts hK hI hM htab (hpc := 42) rfl q333 (by rw [hRf]; decide) (by rw [hRl]; decide) (Nat.zero_le _) (Nat.zero_le _) hl.1 (Nat.le_of_ble_eq_true rfl) dX0_write_6 (fun c_1 locs hM => ?_) (fun c_1 H locs hM => ?_)
  · refine lv_aload_n hx hb dX0_write_9 rfl (lv_at hl 0 rfl) ?_
    refine lv_iload_n hx hb dX0_write_10 rfl (lv_at hl 1 rfl) ?_
    refine cm_thr (y := yX0_sheetAt) (As := [.int (nI sh)]) hx hb hml hown hts hK hM.2.2 (ca_sheetAt_n D dA h _ _ _ _ _ _ _ _ _ _ hI sh hs hnone) hM.1 (cAt.recv hK (hM.1 0 _ rfl) rfl) (fun H1 hq => ⟨_, hq 1 _ rfl⟩) htab (hpc := 42) rfl q1023 q1025 qs18 q1026 ndX0_sheetAt rfl (by rw [hRf]; decide) (by rw [hRl]; decide) (Nat.zero_le _) (Nat.zero_le _) hl.1 rfl (Nat.le_of_ble_eq_true rfl) dX0_write_11 (fun H locs hP1 hS1 => ?_)
    have hM := cmH.of hI hP1 hS1
    refine lv_astore (lv' := [(4, .ref (h 1)), (0, .ref (h 0)), (1, .int (nI sh)), (2, .int i), (3, .int v)]) hx hb dX0_write_42 hl (by decide) rfl (fun ls hl => ?_)
    refine lv_aload_n hx hb dX0_write_44 rfl (lv_at hl 1 rfl) ?_
    refine lv_aload hx hb dX0_write_45 (lv_at hl 0 rfl) ?_
    refine cm_fin hx hb hml hown hts hK hI 2 (by decide) hM q341 (by rw [hRf]; decide) (by rw [hRl]; decide) (Nat.zero_le _) (Nat.zero_le _) hl.1 (Nat.le_of_ble_eq_true rfl) dX0_write_47 (fun H locs hM => ?_)
    exact hret0 hM (mwEq.rf) rfl rfl ⟨rfl, rfl, rfl⟩ (by decide) dX0_write_50
  · exact absurd (by first | exact (in_nat (by decide)).mpr ⟨_, by omega, rfl⟩ | exact (in_nat1 _ (by decide) (by decide)).mpr ⟨_, by omega, by omega, rfl⟩ | exact cow_in hN0 (by omega) | assumption) c_1
set_option maxHeartbeats 400000 in
theorem ca_write_i (f : Nat → Int32) (a : Nat → Nat → Int32) (sh : Nat) (hs : sh < 4) (i v : Int32) (hb00 : ¬ a 6 sh = 0) (hni : ¬ (nI 0 ≤ i ∧ i ≤ a 7 sh - nI 1)) : CmF yX0_write cX0_write 5 [(0, 41, 42, 8)] 3 81 [.int (nI sh), .int i, .int v] f a (-1000000001 : Int32) f (mErr a 1) := by
  refine CmF.ofI (by decide) rfl (Nat.le_of_ble_eq_true rfl) ?_
  intro p l e R s m args below meth c Q D dA h fc wk hd ri rt cw tx nm B S ls hx hb hml hRf hRl hRc hRs htab hts hown hK hI hB hS0 hQ hN hIm hZ hSh hM hl hret hret0
  have hl : lv_has ls 5 [(0, .ref (h 0)), (1, .int (nI sh)), (2, .int i), (3, .int v)] := hl
  have hs0 := hs
  have hSh2 := hSh
  obtain ⟨ya, hinj, hall⟩ := hSh2
  obtain ⟨x0, wi0, hwi0, hxd0, hxA0, hyA0, hb60, hz70, hX0, hY0⟩ := (hall sh hs0).resolve_left (fun q => hb00 q.1)
  have hz720 := hz70.2
  refine lv_aload_n hx hb dX0_write_0 rfl (lv_at hl 0 rfl) ?_
  refine lv_iload_n hx hb dX0_write_1 rfl (lv_at hl 1 rfl) ?_
  refine st_callS (y := yX0_isSheet) hx hb hml hown hts (cmX0_isSheet (nI sh)) q1020 q1021 q61 q1022 ndX0_isSheet rfl (by rw [hRf]; decide) (by rw [hRl]; decide) (Nat.zero_le _) (Nat.zero_le _) hl.1 rfl (Nat.le_of_ble_eq_true rfl) dX0_write_2 ?_
  refine lv_iconst (v := nI 1) hx hb dX0_write_5 (by decide) ?_
  refine cm_need hx hb hml hown hts hK hI hM htab (hpc := 42) rfl q333 (by rw [hRf]; decide) (by rw [hRl]; decide) (Nat.zero_le _) (Nat.zero_le _) hl.1 (Nat.le_of_ble_eq_true rfl) dX0_write_6 (fun c_1 locs hM => ?_) (fun c_1 H locs hM => ?_)
  · refine lv_aload_n hx hb dX0_write_9 rfl (lv_at hl 0 rfl) ?_
    refine lv_iload_n hx hb dX0_write_10 rfl (lv_at hl 1 rfl) ?_
    refine cg_callV (y := yX0_sheetAt) (b := h 0) (C := RX0) (As := [.int (nI sh)]) hx hb hml hown hts hK hM.2.2 (ca_sheetAt_ok D dA h _ _ _ _ _ _ _ _ _ _ hI sh x0 wi0 hs0 hxd0 (hS0 _ hxA0) hwi0 _) ⟨hM.1, hX0.kept (hM.2.2.2.1 x0 hX0.lt (hS0 _ hxA0))⟩ (fun q hq => hq) (cAt.recv hK (hM.1 0 _ rfl) rfl) q1023 q1025 qs18 q61 q1026 ndX0_sheetAt rfl (by rw [hRf]; decide) (by rw [hRl]; decide) (Nat.zero_le _) (Nat.zero_le _) hl.1 rfl (Nat.le_of_ble_eq_true rfl) dX0_write_11 ?_
    rintro _ H locs ⟨rfl, hP1⟩ hz1 hk1 hS1
    have hM := cmH.of hI hP1 hS1
    refine lv_astore (lv' := [(4, .ref x0), (0, .ref (h 0)), (1, .int (nI sh)), (2, .int i), (3, .int v)]) hx hb dX0_write_14 hl (by decide) rfl (fun ls hl => ?_)
    refine lv_aload_n hx hb dX0_write_16 rfl (lv_at hl 1 rfl) ?_
    refine lv_iload_n hx hb dX0_write_17 rfl (lv_at hl 3 rfl) ?_
    refine lv_iconst (v := nI 0) hx hb dX0_write_18 (by decide) ?_
    refine lv_aload hx hb dX0_write_19 (lv_at hl 0 rfl) ?_
    refine sv_size hx hb hml hown hts hK q1028 wi0 hwi0 x0 (ya sh) (cl (a 7 sh)) (fun k => a 8 (40 * sh + k)) (hX0.kept (hM.2.2.2.1 x0 hX0.lt (hS0 _ hxA0))) (hY0.kept (hM.2.2.2.1 _ hY0.lt (hS0 _ hyA0))) (by rw [hRf]; decide) (by rw [hRl]; decide) (Nat.zero_le _) (Nat.zero_le _) hl.1 (Nat.le_of_ble_eq_true rfl) dX0_write_21 ?_
    refine w_top (a 7 sh) (hz70.1.symm) ?_
    refine lv_iconst (v := nI 1) hx hb dX0_write_24 (by decide) ?_
    refine lv_isub hx hb dX0_write_25 ?_
    refine st_callS (y := yX0_in) hx hb hml hown hts (cmX0_in i (nI 0) ((a 7 sh) - (nI 1))) q330 q331 q61 q332 ndX0_in rfl (by rw [hRf]; decide) (by rw [hRl]; decide) (Nat.zero_le _) (Nat.zero_le _) hl.1 rfl (Nat.le_of_ble_eq_true rfl) dX0_write_26 ?_
    refine lv_iconst (v := nI 1) hx hb dX0_write_29 (by decide) ?_
    refine cm_need hx hb hml hown hts hK hI hM htab (hpc := 42) rfl q333 (by rw [hRf]; decide) (by rw [hRl]; decide) (Nat.zero_le _) (Nat.zero_le _) hl.1 (Nat.le_of_ble_eq_true rfl) dX0_write_30 (fun c_2 locs hM => ?_) (fun c_2 H locs hM => ?_)
    · exact absurd c_2 hni
    · refine lv_astore (lv' := [(4, .ref (h 1)), (0, .ref (h 0)), (1, .int (nI sh)), (2, .int i), (3, .int v)]) hx hb dX0_write_42 hl (by decide) rfl (fun ls hl => ?_)
      refine lv_aload_n hx hb dX0_write_44 rfl (lv_at hl 1 rfl) ?_
      refine lv_aload hx hb dX0_write_45 (lv_at hl 0 rfl) ?_
      refine cm_fin hx hb hml hown hts hK hI 1 (by decide) hM q341 (by rw [hRf]; decide) (by rw [hRl]; decide) (Nat.zero_le _) (Nat.zero_le _) hl.1 (Nat.le_of_ble_eq_true rfl) dX0_write_47 (fun H locs hM => ?_)
      exact hret0 hM (mwEq.rf) rfl rfl ⟨rfl, rfl, rfl⟩ (by decide) dX0_write_50
  · exact absurd (by first | exact (in_nat (by decide)).mpr ⟨_, by omega, rfl⟩ | exact (in_nat1 _ (by decide) (by decide)).mpr ⟨_, by omega, by omega, rfl⟩ | exact cow_in hN0 (by omega) | assumption) c_1
set_option maxHeartbeats 400000 in
theorem ca_write_e (f : Nat → Int32) (a : Nat → Nat → Int32) (sh i v : Int32) (he : ¬ (nI 0 ≤ sh ∧ sh ≤ nI 3)) : CmF yX0_write cX0_write 5 [(0, 41, 42, 8)] 2 60 [.int sh, .int i, .int v] f a (-1000000001 : Int32) f (mErr a 1) := by
  refine CmF.ofI (by decide) rfl (Nat.le_of_ble_eq_true rfl) ?_
  intro p l e R s m args below meth c Q D dA h fc wk hd ri rt cw tx nm B S ls hx hb hml hRf hRl hRc hRs htab hts hown hK hI hB hS0 hQ hN hIm hZ hSh hM hl hret hret0
  have hl : lv_has ls 5 [(0, .ref (h 0)), (1, .int sh), (2, .int i), (3, .int v)] := hl
  refine lv_aload_n hx hb dX0_write_0 rfl (lv_at hl 0 rfl) ?_
  refine lv_iload_n hx hb dX0_write_1 rfl (lv_at hl 1 rfl) ?_
  refine st_callS (y := yX0_isSheet) hx hb hml hown hts (cmX0_isSheet sh) q1020 q1021 q61 q1022 ndX0_isSheet rfl (by rw [hRf]; decide) (by rw [hRl]; decide) (Nat.zero_le _) (Nat.zero_le _) hl.1 rfl (Nat.le_of_ble_eq_true rfl) dX0_write_2 ?_
  refine lv_iconst (v := nI 1) hx hb dX0_write_5 (by decide) ?_
  refine cm_need hx hb hml hown hts hK hI hM htab (hpc := 42) rfl q333 (by rw [hRf]; decide) (by rw [hRl]; decide) (Nat.zero_le _) (Nat.zero_le _) hl.1 (Nat.le_of_ble_eq_true rfl) dX0_write_6 (fun c_1 locs hM => ?_) (fun c_1 H locs hM => ?_)
  · exact absurd c_1 he
  · refine lv_astore (lv' := [(4, .ref (h 1)), (0, .ref (h 0)), (1, .int sh), (2, .int i), (3, .int v)]) hx hb dX0_write_42 hl (by decide) rfl (fun ls hl => ?_)
    refine lv_aload_n hx hb dX0_write_44 rfl (lv_at hl 1 rfl) ?_
    refine lv_aload hx hb dX0_write_45 (lv_at hl 0 rfl) ?_
    refine cm_fin hx hb hml hown hts hK hI 1 (by decide) hM q341 (by rw [hRf]; decide) (by rw [hRl]; decide) (Nat.zero_le _) (Nat.zero_le _) hl.1 (Nat.le_of_ble_eq_true rfl) dX0_write_47 (fun H locs hM => ?_)
    exact hret0 hM (mwEq.rf) rfl rfl ⟨rfl, rfl, rfl⟩ (by decide) dX0_write_50
