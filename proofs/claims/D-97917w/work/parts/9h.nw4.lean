/-! move (printed by comp33.py) -/
set_option maxRecDepth 100000
def ySh_row : MethodName := ⟨RX21, "row", "()[I"⟩
theorem nv_sh_row : (RX21 : String) ≠ "java/lang/invoke/MethodHandle" ∧ (RX21 : String) ≠ "java/lang/invoke/VarHandle" ∧ (parseMethodDescriptor ySh_row.desc).map (fun d => d.parameters.length) = some 0 := by decide +kernel
set_option maxHeartbeats 400000 in
theorem cs_row {D : va_G} {dA : Nat → ClassId} (b wi x y n : Nat) (g : Nat → Int32) (hwi : wi < 3) (hn : n ≤ 40) (hxb : x < b) (hyb : y < b) : Cg D dA (fun q => b ≤ q) yX21_row cX21_row 3 (some (.array .int)) 1 22 1 40 [.ref x] (fun H => H.size = b ∧ cAt D x (.inr (19 + wi, [.ref y])) H ∧ cAt D y (.inl (dA (shT wi), n, .inl g)) H) (fun v' H => ∃ z, v' = some (.ref z) ∧ b ≤ z ∧ cAt D z (.inl (dA 0, n, .inl g)) H) := by
  refine Cg.ofA (Or.inr ⟨_, rfl⟩) (by decide) (own := RX21) rfl (Nat.le_of_ble_eq_true rfl) ?_
  intro p l e R s m args below meth c Q ls hx hb hml hRf hRl hRc hRs hin hts hown hK hP hl hret
  have hl : lv_has ls 3 [(0, .ref x)] := hl
  obtain ⟨rfl, hX, hY⟩ := hP
  refine lv_aload_n hx hb dX21_row_0 rfl (lv_at hl 0 rfl) ?_
  refine sv_size hx hb hml hown hts hK q1358 wi hwi x y n g hX hY (by rw [hRf]; decide) (by rw [hRl]; decide) (Nat.zero_le _) (Nat.zero_le _) hl.1 (Nat.le_of_ble_eq_true rfl) dX21_row_1 ?_
  refine c_newa (atype := .int) hx hb hts q195 hK 0 rfl rfl n rfl (by omega) (by simp only [newarray.typeOf, componentBytes]; omega) (by rw [hRc]; decide) (by rw [hRs]; omega) dX21_row_4 (fun H hZ hz hk => ?_)
  refine lv_astore_n (lv' := [(1, .ref s.heap.size), (0, .ref x)]) hx hb dX21_row_6 rfl hl (by decide) rfl (fun ls hl => ?_)
  refine lv_iconst (v := nI 0) hx hb dX21_row_7 (by decide) ?_
  refine lv_istore_n (lv' := [(2, .int (nI 0)), (1, .ref s.heap.size), (0, .ref x)]) hx hb dX21_row_8 rfl hl (by decide) rfl (fun ls hl => ?_)
  have loop9 : ∀ (fu k : Nat), k ≤ n → n < k + fu → ∀ (H : Heap) (locs : List Loc), gH D (fun q => s.heap.size ≤ q) [(s.heap.size, .inl (dA 0, n, .inl (cpk g (fun _ => 0) k)))] s.heap H locs → ∀ (ls : Array Slot), lv_has ls 3 [(2, .int (nI k)), (1, .ref s.heap.size), (0, .ref x)] → W p l e R s m args below meth c H locs (0 + 1) (0 + n) Q (F0 m 9 ls []) := by
    intro fu
    induction fu with
    | zero =>
      intro k hk hf
      omega
    | succ fu ih =>
      intro k hk hf H locs hM ls hl
      have hX1 := hX.kept (hM.2.2.2.1 x hX.lt (by omega))
      have hY1 := hY.kept (hM.2.2.2.1 y hY.lt (by omega))
      refine lv_iload_n hx hb dX21_row_9 rfl (lv_at hl 0 rfl) ?_
      refine lv_aload_n hx hb dX21_row_10 rfl (lv_at hl 1 rfl) ?_
      refine c_alen hx hb hK 0 rfl (hM.1 0 _ rfl) dX21_row_11 ?_
      refine w_icmp_geN (tgt := 29) hx hb (by omega) (by omega) dX21_row_12 (by decide) (fun c_1 => ?_) (fun c_1 => ?_)
      · refine lv_aload_n hx hb dX21_row_29 rfl (lv_at hl 1 rfl) ?_
        refine W.widen (k := 1) (n := 40) (by omega) (by omega) ?_
        exact hret ⟨_, rfl, Nat.le_refl _, c_cong (hM.1 0 _ rfl) (fun q hq => by unfold cpk; rw [if_pos (by omega)])⟩ hM.2.2 dX21_row_30
      · refine lv_aload_n hx hb dX21_row_15 rfl (lv_at hl 1 rfl) ?_
        refine lv_iload_n hx hb dX21_row_16 rfl (lv_at hl 0 rfl) ?_
        refine lv_aload_n hx hb dX21_row_17 rfl (lv_at hl 2 rfl) ?_
        refine lv_iload_n hx hb dX21_row_18 rfl (lv_at hl 0 rfl) ?_
        refine sv_get hx hb hml hown hts hK q1359 wi hwi x y n g k ⟨by omega, by omega⟩ hX1 hY1 (by rw [hRf]; decide) (by rw [hRl]; decide) (by rw [hRc]; decide) (by rw [hRs]; omega) hl.1 (Nat.le_of_ble_eq_true rfl) dX21_row_19 ?_
        refine g_iast hx hb hK hM 0 rfl k ⟨by omega, by omega, rfl⟩ dX21_row_22 (fun H locs hM => ?_)
        refine lv_iinc (v := nI (k + 1)) (lv' := [(2, .int (nI (k + 1))), (1, .ref s.heap.size), (0, .ref x)]) hx hb dX21_row_23 hl (k := 0) rfl (by rw [show Int32.ofInt 1 = nI 1 from by decide]; exact nI_add _ _) (by decide) rfl (fun ls hl => ?_)
        refine lv_goto (tgt := 9) hx hb dX21_row_26 (by decide) ?_
        exact ih (k + 1) (by omega) (by omega) _ _ (hM.to (by rw [← cpk_u]; rfl)) ls hl
  exact loop9 (n + 1) 0 (by omega) (by omega) H [] (g_oneA (by rw [cpk_z]; exact hZ) (Nat.le_refl _) ⟨by omega, fun q h1 _ => hk q h1, fun q hq => by cases hq⟩) ls hl
section SHR
variable {p : Program} {l : Launch} {e : Env} {R : Room} {s : State} {m : MethodId} {args : Array Value} {below : List Frame} {meth : Method} {c : Code} {H H0 : Heap} {locs : List Loc} {cells slots : Nat} {Q : State → Prop}
variable {cc : ByteArray} {pc : Nat} {ls : Array Slot} {rest : List Value} {D : va_G} {dA : Nat → ClassId} {A B : Nat → Prop} {b : Nat} {P : Heap → Prop} {Qv : Option Value → Heap → Prop} {Qo : Outcome → Heap → Prop}
variable {y x : MethodName} {cy : ByteArray} {maxL nL fr lo idx mc ms n : Nat} {ret : Option FieldType} {As st : List Value} {own C : String}
theorem cg_callUN2 {owner : String} (hx : p.tables.exec = Jvm.exec) (hb : c.code = cc) (hml : c.maxLocals = nL) (hown : s.vm.findClass own = some m.cls) (hts : ∀ w ∈ lw_all, w.before args s = true) (hK : cmK D dA s) (hs : s.heap.size ≤ H.size)
    (hC : Cg D dA (fun q => H.size ≤ q) y cy maxL ret fr lo mc ms (.ref b :: As) P Qv) (hP : P H) (hrc : ∃ cell : Cell, H[b]? = some cell ∧ cell.vm.isStatics = false ∧ s.vm.findClass C = some cell.cls)
    (hcw : ∀ (R : Room), fr + 1 ≤ R.frames → 8 + (maxL + 11) + lo ≤ R.locals → va_CU R s args own C owner idx x y cy maxL ret (ws_ y cy maxL ret) { frames := fr, cells := mc, slots := ms, locals := lo } mc ms n)
    (hn : As.length = n) (hRf : fr + 1 ≤ R.frames) (hRl : 8 + (maxL + 11) + lo ≤ R.locals) (hRc : cells + mc ≤ R.cells) (hRs : slots + ms ≤ R.slots) (hsize : ls.size = nL) (hst : st = As.reverse ++ .ref b :: rest) (hW : (rest.map fun v => v.category).sum ≤ 8) (hdg : decode cc pc = .ok (.invokevirtual idx, 3))
    (kk : ∀ (v : Option Value) (H1 : Heap), Qv v H1 → H.size ≤ H1.size → (∀ q, q < H.size → H1[q]? = H[q]?) → W p l e R s m args below meth c H1 locs (cells + mc) (slots + ms) Q (F0 m (pc + 3) ls (v.toList ++ rest))) : W p l e R s m args below meth c H locs cells slots Q (F0 m pc ls st) :=
  cg_goN (va_runU (below := below) (meth := meth) (locs := locs) (cells := cells) (slots := slots) (e := e) (As := As) (rest := rest) (g := F0 m pc ls st) (b := b) (Ts := lw_all) (own := own) (C := C) (n := n) ⟨hx, hb, hml, hown, hts⟩ (hC l) (hcw R hRf hRl)
    ⟨cm_blind, hrc, fun U hU hW => ⟨rfl, by rw [hU]; exact hP, hK.warm hW⟩⟩ rfl hn hsize hst (lv_room hW) hdg ⟨hRc, hRs⟩) (fun q h => h) hs kk
theorem sv_row (hx : p.tables.exec = Jvm.exec) (hb : c.code = cc) (hml : c.maxLocals = nL) (hown : s.vm.findClass own = some m.cls) (hts : ∀ w ∈ lw_all, w.before args s = true) (hK : cmK D dA s) (h1 : Cond.methodLink own idx ySh_row ∈ lw_all) (hs : s.heap.size ≤ H.size) (wi : Nat) (hwi : wi < 3) (x y n : Nat) (g : Nat → Int32) (hn : n ≤ 40) (ho : cAt D x (.inr (19 + wi, [.ref y])) H) (hy : cAt D y (.inl (dA (shT wi), n, .inl g)) H) (hRf : 2 ≤ R.frames) (hRl : 44 ≤ R.locals) (hRc : cells + 1 ≤ R.cells) (hRs : slots + 40 ≤ R.slots) (hsize : ls.size = nL) (hW : (rest.map fun v => v.category).sum ≤ 8) (hdg : decode cc pc = .ok (.invokevirtual idx, 3))
    (kk : ∀ (z : Nat) (H1 : Heap), H.size ≤ z → cAt D z (.inl (dA 0, n, .inl g)) H1 → H.size ≤ H1.size → (∀ q, q < H.size → H1[q]? = H[q]?) → W p l e R s m args below meth c H1 locs (cells + 1) (slots + 40) Q (F0 m (pc + 3) ls (.ref z :: rest))) : W p l e R s m args below meth c H locs cells slots Q (F0 m pc ls (.ref x :: rest)) := by
  rcases (show wi = 0 ∨ wi = 1 ∨ wi = 2 by omega) with rfl | rfl | rfl
  · refine cg_callUN2 (x := ySh_row) (y := yX21_row) (b := x) (C := RX22) (owner := RX21) (As := []) hx hb hml hown hts hK hs (cs_row H.size 0 x y n g hwi hn ho.lt hy.lt) ⟨rfl, ho, hy⟩ (ho.recv hK rfl) (fun R hf hl => va_cwO 0 hts (lw_app (lw_6 h1 q1353 q1352 q1354 q1352 q93) (lw_meth q1357)) rfl rfl rfl q1357 nv_sh_row ⟨hf, hl⟩) rfl hRf (by omega) hRc hRs hsize rfl hW hdg ?_
    rintro _ H1 ⟨z, rfl, hz, hZ⟩ hz1 hk1
    exact kk z H1 hz hZ hz1 hk1
  · refine cg_callUN2 (x := ySh_row) (y := yX21_row) (b := x) (C := RX23) (owner := RX21) (As := []) hx hb hml hown hts hK hs (cs_row H.size 1 x y n g hwi hn ho.lt hy.lt) ⟨rfl, ho, hy⟩ (ho.recv hK rfl) (fun R hf hl => va_cwO 0 hts (lw_app (lw_6 h1 q1353 q1352 q1356 q1352 q93) (lw_meth q1357)) rfl rfl rfl q1357 nv_sh_row ⟨hf, hl⟩) rfl hRf (by omega) hRc hRs hsize rfl hW hdg ?_
    rintro _ H1 ⟨z, rfl, hz, hZ⟩ hz1 hk1
    exact kk z H1 hz hZ hz1 hk1
  · refine cg_callUN2 (x := ySh_row) (y := yX21_row) (b := x) (C := RX24) (owner := RX21) (As := []) hx hb hml hown hts hK hs (cs_row H.size 2 x y n g hwi hn ho.lt hy.lt) ⟨rfl, ho, hy⟩ (ho.recv hK rfl) (fun R hf hl => va_cwO 0 hts (lw_app (lw_6 h1 q1353 q1352 q1355 q1352 q93) (lw_meth q1357)) rfl rfl rfl q1357 nv_sh_row ⟨hf, hl⟩) rfl hRf (by omega) hRc hRs hsize rfl hW hdg ?_
    rintro _ H1 ⟨z, rfl, hz, hZ⟩ hz1 hk1
    exact kk z H1 hz hZ hz1 hk1
end SHR
theorem shB_inj {u v : Nat} (hu : u < 3) (hv : v < 3) (h : shB u = shB v) : u = v := by
  have : ∀ u, u < 3 → ∀ v, v < 3 → shB u = shB v → u = v := by decide
  exact this u hu v hv h
theorem shOK.mv {D : va_G} {h : Nat → Nat} {dA : Nat → ClassId} {hd : Nat → Option Nat} {S : Nat → Prop} {a a' : Nat → Nat → Int32} {H1 H : Heap} {ya : Nat → Nat} (hinj : ∀ u v, u < 4 → v < 4 → ¬ a 6 u = 0 → ¬ a 6 v = 0 → (ya u = ya v → u = v) ∧ ¬ hd u = some (ya v)) (hall : ∀ u, u < 4 → (a 6 u = 0 ∧ hd u = none) ∨ (∃ x wi, wi < 3 ∧ hd u = some x ∧ S x ∧ S (ya u) ∧ a 6 u = shB wi ∧ okN (a 7 u) 40 ∧ cAt D x (.inr (19 + wi, [.ref (ya u)])) H1 ∧ cAt D (ya u) (.inl (dA (shT wi), cl (a 7 u), .inl (fun k => a 8 (40 * u + k)))) H1))
    {ot j n wi1 : Nat} {F : Nat → Int32} (ho : ot < 4) (hb : ¬ a 6 ot = 0) (hw1 : wi1 < 3) (hb1 : a 6 ot = shB wi1) (hj : j + n ≤ cl (a 7 ot)) (hYk : cAt D (ya ot) (.inl (dA (shT wi1), cl (a 7 ot), .inl (fun q => mwK (a 8) (40 * ot + j) F n (40 * ot + q)))) H) (hkk : ∀ q, q < H1.size → S q → ¬ q = ya ot → H[q]? = H1[q]?) (e6 : a' 6 = a 6) (e7 : a' 7 = a 7) (e8 : a' 8 = mwK (a 8) (40 * ot + j) F n) : shOK D h dA hd S a' H := by
  unfold shOK
  rw [e6, e7, e8]
  refine ⟨ya, hinj, fun u hu => ?_⟩
  rcases hall u hu with q | ⟨x, wi, q1, q2, q3, q4, q5, q6, q7, q8⟩
  · exact Or.inl q
  · have hu6 : ¬ a 6 u = 0 := by rw [q5]; exact shB_ne wi
    have hX := q7.kept (hkk x q7.lt q3 (fun z => (hinj u ot hu ho hu6 hb).2 (by rw [q2, z])))
    refine Or.inr ⟨x, wi, q1, q2, q3, q4, q5, q6, hX, ?_⟩
    by_cases e : u = ot
    · subst e
      have hww : wi = wi1 := shB_inj q1 hw1 (q5.symm.trans hb1)
      rw [hww]
      exact hYk
    · exact c_cong (q8.kept (hkk _ q8.lt q4 (fun z => e ((hinj u ot hu ho hu6 hb).1 z)))) (fun k hk => by unfold mwK; rw [if_neg (by
        have := q6.2
        rcases hall ot ho with z | ⟨x2, wi2, -, -, -, -, -, z6, -⟩
        · exact absurd z.1 hb
        · have := z6.2; omega)])
set_option maxHeartbeats 400000 in
theorem ca_move_ok (f : Nat → Int32) (a : Nat → Nat → Int32) (sh ot : Nat) (hs : sh < 4) (ho : ot < 4) (i j n : Nat) (hb00 : ¬ a 6 sh = 0) (hb01 : ¬ a 6 ot = 0) (heq : a 6 sh = a 6 ot) (h1 : i + n ≤ cl (a 7 sh)) (h2 : j + n ≤ cl (a 7 ot)) (hnar : ∀ k, k < n → narF (a 6 ot) (a 8 (40 * sh + i + k)) = a 8 (40 * sh + i + k)) : CmN yX0_move cX0_move 10 [(0, 152, 153, 8)] 3 81 1 40 [.int (nI sh), .int (nI i), .int (nI ot), .int (nI j), .int (nI n)] f a (nI n) f (va_up (va_up a 9 (cpk (fun q => a 8 (40 * sh + i + q)) (a 9) n)) 8 (mwK (a 8) (40 * ot + j) (fun q => a 8 (40 * sh + i + q)) n)) := by
  refine CmN.ofM (by decide) rfl (Nat.le_of_ble_eq_true rfl) ?_
  intro p l e R s m args below meth c Q D dA h fc wk hd ri rt cw tx nm B S A0 b2 ls hx hb hml hRf hRl hRc hRs htab hts hown hK hI hB hS0 hQ hN hIm hZ hSh hM hl hA hf hsz hBS hR hretM
  have hl : lv_has ls 10 [(0, .ref (h 0)), (1, .int (nI sh)), (2, .int (nI i)), (3, .int (nI ot)), (4, .int (nI j)), (5, .int (nI n))] := hl
  have hs0 := hs
  have hs1 := ho
  have hSh2 := hSh
  obtain ⟨ya, hinj, hall⟩ := hSh2
  obtain ⟨x0, wi0, hwi0, hxd0, hxA0, hyA0, hb60, hz70, hX0, hY0⟩ := (hall sh hs0).resolve_left (fun q => hb00 q.1)
  have hz720 := hz70.2
  obtain ⟨x1, wi1, hwi1, hxd1, hxA1, hyA1, hb61, hz71, hX1, hY1⟩ := (hall ot hs1).resolve_left (fun q => hb01 q.1)
  have hz721 := hz71.2
  refine lv_aload_n hx hb dX0_move_0 rfl (lv_at hl 0 rfl) ?_
  refine lv_iload_n hx hb dX0_move_1 rfl (lv_at hl 1 rfl) ?_
  refine st_callS (y := yX0_isSheet) hx hb hml hown hts (cmX0_isSheet (nI sh)) q1020 q1021 q61 q1022 ndX0_isSheet rfl (by rw [hRf]; decide) (by rw [hRl]; decide) (Nat.zero_le _) (Nat.zero_le _) hl.1 rfl (Nat.le_of_ble_eq_true rfl) dX0_move_2 ?_
  refine w_if_eqT (tgt := 19) hx hb dX0_move_5 (by decide) (fun c_1 => ?_) (fun c_1 => ?_)
  · exact absurd (by first | exact (in_nat (by decide)).mpr ⟨_, by omega, rfl⟩ | exact (in_nat1 _ (by decide) (by decide)).mpr ⟨_, by omega, by omega, rfl⟩ | exact cow_in hN0 (by omega) | assumption) c_1
  · refine lv_iload_n hx hb dX0_move_8 rfl (lv_at hl 3 rfl) ?_
    refine st_callS (y := yX0_isSheet) hx hb hml hown hts (cmX0_isSheet (nI ot)) q1020 q1021 q61 q1022 ndX0_isSheet rfl (by rw [hRf]; decide) (by rw [hRl]; decide) (Nat.zero_le _) (Nat.zero_le _) hl.1 rfl (Nat.le_of_ble_eq_true rfl) dX0_move_9 ?_
    refine w_if_eqT (tgt := 19) hx hb dX0_move_12 (by decide) (fun c_2 => ?_) (fun c_2 => ?_)
    · exact absurd (by first | exact (in_nat (by decide)).mpr ⟨_, by omega, rfl⟩ | exact (in_nat1 _ (by decide) (by decide)).mpr ⟨_, by omega, by omega, rfl⟩ | exact cow_in hN0 (by omega) | assumption) c_2
    · refine lv_iconst (v := nI 1) hx hb dX0_move_15 (by decide) ?_
      refine lv_goto (tgt := 20) hx hb dX0_move_16 (by decide) ?_
      refine lv_iconst (v := nI 1) hx hb dX0_move_20 (by decide) ?_
      refine cm_n1 hx hb hml hown hts hK hI hM htab (hpc := 153) rfl q333 (by rw [hRf]; decide) (by rw [hRl]; decide) (Nat.zero_le _) (Nat.zero_le _) hl.1 (Nat.le_of_ble_eq_true rfl) dX0_move_21 (fun locs hM => ?_)
      refine lv_aload_n hx hb dX0_move_24 rfl (lv_at hl 0 rfl) ?_
      refine lv_iload_n hx hb dX0_move_25 rfl (lv_at hl 1 rfl) ?_
      refine cg_callV (y := yX0_sheetAt) (b := h 0) (C := RX0) (As := [.int (nI sh)]) hx hb hml hown hts hK hM.2.2 (ca_sheetAt_ok D dA h _ _ _ _ _ _ _ _ _ _ hI sh x0 wi0 hs0 hxd0 (hS0 _ hxA0) hwi0 _) ⟨hM.1, hX0.kept (hM.2.2.2.1 x0 hX0.lt (hS0 _ hxA0))⟩ (fun q hq => hq) (cAt.recv hK (hM.1 0 _ rfl) rfl) q1023 q1025 qs18 q61 q1026 ndX0_sheetAt rfl (by rw [hRf]; decide) (by rw [hRl]; decide) (Nat.zero_le _) (Nat.zero_le _) hl.1 rfl (Nat.le_of_ble_eq_true rfl) dX0_move_26 ?_
      rintro _ H locs ⟨rfl, hP1⟩ hz1 hk1 hS1
      have hM := cmH.of hI hP1 hS1
      refine lv_astore (lv' := [(6, .ref x0), (0, .ref (h 0)), (1, .int (nI sh)), (2, .int (nI i)), (3, .int (nI ot)), (4, .int (nI j)), (5, .int (nI n))]) hx hb dX0_move_29 hl (by decide) rfl (fun ls hl => ?_)
      refine lv_aload_n hx hb dX0_move_31 rfl (lv_at hl 1 rfl) ?_
      refine lv_iload_n hx hb dX0_move_32 rfl (lv_at hl 4 rfl) ?_
      refine cg_callV (y := yX0_sheetAt) (b := h 0) (C := RX0) (As := [.int (nI ot)]) hx hb hml hown hts hK hM.2.2 (ca_sheetAt_ok D dA h _ _ _ _ _ _ _ _ _ _ hI ot x1 wi1 hs1 hxd1 (hS0 _ hxA1) hwi1 _) ⟨hM.1, hX1.kept (hM.2.2.2.1 x1 hX1.lt (hS0 _ hxA1))⟩ (fun q hq => hq) (cAt.recv hK (hM.1 0 _ rfl) rfl) q1023 q1025 qs18 q61 q1026 ndX0_sheetAt rfl (by rw [hRf]; decide) (by rw [hRl]; decide) (Nat.zero_le _) (Nat.zero_le _) hl.1 rfl (Nat.le_of_ble_eq_true rfl) dX0_move_33 ?_
      rintro _ H locs ⟨rfl, hP1⟩ hz1 hk1 hS1
      have hM := cmH.of hI hP1 hS1
      refine lv_astore (lv' := [(7, .ref x1), (6, .ref x0), (0, .ref (h 0)), (1, .int (nI sh)), (2, .int (nI i)), (3, .int (nI ot)), (4, .int (nI j)), (5, .int (nI n))]) hx hb dX0_move_36 hl (by decide) rfl (fun ls hl => ?_)
      refine lv_aload_n hx hb dX0_move_38 rfl (lv_at hl 2 rfl) ?_
      refine lv_aload hx hb dX0_move_39 (lv_at hl 1 rfl) ?_
      refine sv_width hx hb hml hown hts hK q1339 wi0 hwi0 x0 (ya sh) (cl (a 7 sh)) (fun k => a 8 (40 * sh + k)) (hX0.kept (hM.2.2.2.1 x0 hX0.lt (hS0 _ hxA0))) (hY0.kept (hM.2.2.2.1 _ hY0.lt (hS0 _ hyA0))) (by rw [hRf]; decide) (by rw [hRl]; decide) (Nat.zero_le _) (Nat.zero_le _) hl.1 (Nat.le_of_ble_eq_true rfl) dX0_move_41 ?_
      refine w_top (a 6 sh) hb60.symm ?_
      refine lv_aload hx hb dX0_move_44 (lv_at hl 0 rfl) ?_
      refine sv_width hx hb hml hown hts hK q1339 wi1 hwi1 x1 (ya ot) (cl (a 7 ot)) (fun k => a 8 (40 * ot + k)) (hX1.kept (hM.2.2.2.1 x1 hX1.lt (hS0 _ hxA1))) (hY1.kept (hM.2.2.2.1 _ hY1.lt (hS0 _ hyA1))) (by rw [hRf]; decide) (by rw [hRl]; decide) (Nat.zero_le _) (Nat.zero_le _) hl.1 (Nat.le_of_ble_eq_true rfl) dX0_move_46 ?_
      refine w_top (a 6 ot) hb61.symm ?_
      refine lv_icmp_ne (tgt := 56) hx hb dX0_move_49 (by decide) (fun c_3 => ?_) (fun c_3 => ?_)
      · exact absurd heq c_3
      · refine lv_iconst (v := nI 1) hx hb dX0_move_52 (by decide) ?_
        refine lv_goto (tgt := 57) hx hb dX0_move_53 (by decide) ?_
        refine lv_iconst (v := nI 5) hx hb dX0_move_57 (by decide) ?_
        refine cm_n1 hx hb hml hown hts hK hI hM htab (hpc := 153) rfl q333 (by rw [hRf]; decide) (by rw [hRl]; decide) (Nat.zero_le _) (Nat.zero_le _) hl.1 (Nat.le_of_ble_eq_true rfl) dX0_move_58 (fun locs hM => ?_)
        refine lv_aload_n hx hb dX0_move_61 rfl (lv_at hl 2 rfl) ?_
        refine lv_iload hx hb dX0_move_62 (lv_at hl 7 rfl) ?_
        refine w_if_ltN (tgt := 105) hx hb (by omega) dX0_move_64 (by decide) ?_
        refine lv_iload_n hx hb dX0_move_67 rfl (lv_at hl 4 rfl) ?_
        refine w_if_ltN (tgt := 105) hx hb (by omega) dX0_move_68 (by decide) ?_
        refine lv_iload hx hb dX0_move_71 (lv_at hl 6 rfl) ?_
        refine w_if_ltN (tgt := 105) hx hb (by omega) dX0_move_73 (by decide) ?_
        refine lv_iload_n hx hb dX0_move_76 rfl (lv_at hl 4 rfl) ?_
        refine lv_aload hx hb dX0_move_77 (lv_at hl 1 rfl) ?_
        refine sv_size hx hb hml hown hts hK q1028 wi0 hwi0 x0 (ya sh) (cl (a 7 sh)) (fun k => a 8 (40 * sh + k)) (hX0.kept (hM.2.2.2.1 x0 hX0.lt (hS0 _ hxA0))) (hY0.kept (hM.2.2.2.1 _ hY0.lt (hS0 _ hyA0))) (by rw [hRf]; decide) (by rw [hRl]; decide) (Nat.zero_le _) (Nat.zero_le _) hl.1 (Nat.le_of_ble_eq_true rfl) dX0_move_79 ?_
        refine lv_iload hx hb dX0_move_82 (lv_at hl 7 rfl) ?_
        refine w_isubN hx hb (by omega) dX0_move_84 ?_
        refine w_icmp_gtN (tgt := 105) hx hb (by omega) (by omega) dX0_move_85 (by decide) (fun c_7 => ?_) (fun c_7 => ?_)
        · exact absurd c_7 (by omega)
        · refine lv_iload hx hb dX0_move_88 (lv_at hl 6 rfl) ?_
          refine lv_aload hx hb dX0_move_90 (lv_at hl 0 rfl) ?_
          refine sv_size hx hb hml hown hts hK q1028 wi1 hwi1 x1 (ya ot) (cl (a 7 ot)) (fun k => a 8 (40 * ot + k)) (hX1.kept (hM.2.2.2.1 x1 hX1.lt (hS0 _ hxA1))) (hY1.kept (hM.2.2.2.1 _ hY1.lt (hS0 _ hyA1))) (by rw [hRf]; decide) (by rw [hRl]; decide) (Nat.zero_le _) (Nat.zero_le _) hl.1 (Nat.le_of_ble_eq_true rfl) dX0_move_92 ?_
          refine lv_iload hx hb dX0_move_95 (lv_at hl 7 rfl) ?_
          refine w_isubN hx hb (by omega) dX0_move_97 ?_
          refine w_icmp_gtN (tgt := 105) hx hb (by omega) (by omega) dX0_move_98 (by decide) (fun c_8 => ?_) (fun c_8 => ?_)
          · exact absurd c_8 (by omega)
          · refine lv_iconst (v := nI 1) hx hb dX0_move_101 (by decide) ?_
            refine lv_goto (tgt := 106) hx hb dX0_move_102 (by decide) ?_
            refine lv_iconst (v := nI 1) hx hb dX0_move_106 (by decide) ?_
            refine cm_n1 hx hb hml hown hts hK hI hM htab (hpc := 153) rfl q333 (by rw [hRf]; decide) (by rw [hRl]; decide) (Nat.zero_le _) (Nat.zero_le _) hl.1 (Nat.le_of_ble_eq_true rfl) dX0_move_107 (fun locs hM => ?_)
            refine lv_aload hx hb dX0_move_110 (lv_at hl 1 rfl) ?_
            refine sv_row hx hb hml hown hts hK q1351 hM.2.2.1 wi0 hwi0 x0 (ya sh) (cl (a 7 sh)) (fun k => a 8 (40 * sh + k)) hz720 (hX0.kept (hM.2.2.2.1 x0 hX0.lt (hS0 _ hxA0))) (hY0.kept (hM.2.2.2.1 _ hY0.lt (hS0 _ hyA0))) (by rw [hRf]; decide) (by rw [hRl]; decide) (by rw [hRc]; decide) (by rw [hRs]; decide) hl.1 (Nat.le_of_ble_eq_true rfl) dX0_move_112 (fun z9 H1 hzb hZ9 hz hk => ?_)
            have hM1 := hM.new hI hz hk
            have hS8 : va_S A0 s.heap H1 locs := hM1.2.2.wd hA
            have hQ1 : cmPl D h B (a 1) ri rt cw tx H1 := hQ.at hB hN mwEq.rf mwEq.rf mwEq.rf hM1.2.2
            have hSh1 : shOK D h dA hd S a H1 := hSh.to hS0 ⟨rfl, rfl, rfl⟩ hM1.2.2
            have hX1n := hX1.kept (hM1.2.2.2.1 x1 hX1.lt (hS0 _ hxA1))
            have hY1n := hY1.kept (hM1.2.2.2.1 _ hY1.lt (hS0 _ hyA1))
            have hzne : ¬ z9 = ya ot := fun z => by have := (hR _ (Or.inr hyA1)).2; have := hM.2.2.1; omega
            have hxne : ¬ x1 = ya ot := fun z => (hinj ot ot ho ho hb01 hb01).2 (by rw [hxd1, z])
            have hM9 := hM
            have hM := hM1.here hI
            refine lv_astore (lv' := [(8, .ref z9), (7, .ref x1), (6, .ref x0), (0, .ref (h 0)), (1, .int (nI sh)), (2, .int (nI i)), (3, .int (nI ot)), (4, .int (nI j)), (5, .int (nI n))]) hx hb dX0_move_115 hl (by decide) rfl (fun ls hl => ?_)
            refine lv_iconst (v := nI 0) hx hb dX0_move_117 (by decide) ?_
            refine lv_istore (lv' := [(9, .int (nI 0)), (8, .ref z9), (7, .ref x1), (6, .ref x0), (0, .ref (h 0)), (1, .int (nI sh)), (2, .int (nI i)), (3, .int (nI ot)), (4, .int (nI j)), (5, .int (nI n))]) hx hb dX0_move_118 hl (by decide) rfl (fun ls hl => ?_)
            have loop120 : ∀ (fu : Nat) (k : Nat), (k ≤ n) → (n < k + fu) → ∀ (H : Heap) (locs : List Loc), cAt D (ya ot) (.inl (dA (shT wi1), cl (a 7 ot), .inl (fun q => mwK (a 8) (40 * ot + j) (fun q => a 8 (40 * sh + i + q)) k (40 * ot + q)))) H → (∀ q, q < H1.size → ¬ q = ya ot → H[q]? = H1[q]?) → va_S A0 s.heap H locs → ∀ (ls : Array Slot), lv_has ls 10 [(9, .int (nI k)), (8, .ref z9), (7, .ref x1), (6, .ref x0), (0, .ref (h 0)), (1, .int (nI sh)), (2, .int (nI i)), (3, .int (nI ot)), (4, .int (nI j)), (5, .int (nI n))] → W p l e R s m args below meth c H locs (0 + 1) (0 + 40) Q (F0 m 120 ls []) := by
              intro fu
              induction fu with
              | zero =>
                intro k hk0 hf0
                omega
              | succ fu ih120 =>
                intro k hk0 hf0 H locs hYk hkk hSk ls hl
                have hHs : H1.size ≤ H.size := Nat.le_of_not_lt (fun hlt => by have := hkk H.size hlt (fun z => by have := hYk.lt; omega); rw [Array.getElem?_eq_none (Nat.le_refl _)] at this; have h7 := Array.getElem?_eq_getElem hlt; rw [h7] at this; cases this)
                refine lv_iload hx hb dX0_move_120 (lv_at hl 0 rfl) ?_
                refine lv_iload hx hb dX0_move_122 (lv_at hl 9 rfl) ?_
                refine w_icmp_geN (tgt := 150) hx hb (by omega) (by omega) dX0_move_124 (by decide) (fun c_9 => ?_) (fun c_9 => ?_)
                · refine lv_iload hx hb dX0_move_150 (lv_at hl 9 rfl) ?_
                  have hkn : k = n := by omega
                  subst hkn
                  have hP2 : va_P D cmCl (cmWs h dA f (va_up (va_up a 9 (cpk (fun q => a 8 (40 * sh + i + q)) (a 9) k)) 8 (mwK (a 8) (40 * ot + j) (fun q => a 8 (40 * sh + i + q)) k)) fc wk hd ri rt cw tx nm) H := (cmH.cg (a' := va_up (va_up a 9 (cpk (fun q => a 8 (40 * sh + i + q)) (a 9) k)) 8 (mwK (a 8) (40 * ot + j) (fun q => a 8 (40 * sh + i + q)) k)) (f' := f) (cmH.of hI (cm_P_keep hM.1 (fun j q hj => hkk q.1 (cAt.lt (a := q.1) (e := q.2) (hM.1 j q hj)) (fun z => hS0 _ hyA1 (z ▸ hM.2.1.2 j q hj)))) (H0 := H) (locs := []) ⟨Nat.le_refl _, fun _ _ _ => rfl, fun q hq => by cases hq⟩) rfl rfl rfl rfl rfl).1
                  have hS1 := hSk
                  have hkB : ∀ q, q < H1.size → B q → B q ∧ H[q]? = H1[q]? := fun q h1 h2 => ⟨h2, hkk q h1 (fun z => hBS _ hyA1 (z ▸ h2))⟩
                  have hQ2 : cmQ D dA h hd A0 f (va_up (va_up a 9 (cpk (fun q => a 8 (40 * sh + i + q)) (a 9) k)) 8 (mwK (a 8) (40 * ot + j) (fun q => a 8 (40 * sh + i + q)) k)) ri rt cw tx H := ⟨B, S, ⟨hB, hS0, hBS, fun q hq => ⟨(hR q hq).1, Nat.lt_of_lt_of_le (hR q hq).2 hS1.1⟩⟩, ⟨hQ1.1.to mwEq.rf hN.1 hkB, hQ1.2.1.to mwEq.rf hN.2.1 hkB, hQ1.2.2.to mwEq.rf hN.2.2 hkB⟩, hN, hIm, hZ, shOK.mv hinj hall ho hb01 hwi1 hb61 h2 hYk (fun q g1 g2 g3 => (hkk q (Nat.lt_of_lt_of_le g1 hM1.2.2.1) g3).trans (hM1.2.2.2.1 q g1 (hS0 q g2))) rfl rfl rfl⟩
                  exact hretM hP2 hQ2 hS1 (rfl) dX0_move_152
                · refine lv_aload hx hb dX0_move_127 (lv_at hl 2 rfl) ?_
                  refine lv_iload hx hb dX0_move_129 (lv_at hl 8 rfl) ?_
                  refine lv_iload hx hb dX0_move_131 (lv_at hl 0 rfl) ?_
                  refine w_iaddN hx hb dX0_move_133 ?_
                  refine lv_aload hx hb dX0_move_134 (lv_at hl 1 rfl) ?_
                  refine lv_iload_n hx hb dX0_move_136 rfl (lv_at hl 6 rfl) ?_
                  refine lv_iload hx hb dX0_move_137 (lv_at hl 0 rfl) ?_
                  refine w_iaddN hx hb dX0_move_139 ?_
                  refine c_iald hx hb hK (hZ9.kept (hkk z9 hZ9.lt hzne)) (i + k) ⟨by omega, by omega, rfl⟩ dX0_move_140 ?_
                  refine w_top (a 8 (40 * sh + i + k)) (by rw [Nat.add_assoc]) ?_
                  refine sv_put hx hb hml hown hts hK q1323 hSk wi1 hwi1 x1 (ya ot) (cl (a 7 ot)) (hR _ (Or.inr hyA1)).1 (fun q => mwK (a 8) (40 * ot + j) (fun q => a 8 (40 * sh + i + q)) k (40 * ot + q)) (j + k) (a 8 (40 * sh + i + k)) ⟨by omega, by omega⟩ (hX1n.kept (hkk x1 hX1n.lt hxne)) hYk (by rw [hRf]; decide) (by rw [hRl]; decide) (by rw [hRc]; decide) (by rw [hRs]; decide) hl.1 (Nat.le_of_ble_eq_true rfl) dX0_move_141 (fun H2 locs2 hY2 hk2 hS2 => ?_)
                  have hYn : cAt D (ya ot) (.inl (dA (shT wi1), cl (a 7 ot), .inl (fun q => mwK (a 8) (40 * ot + j) (fun q => a 8 (40 * sh + i + q)) (k + 1) (40 * ot + q)))) H2 := by
                    rw [← hb61, hnar k (by omega), ← upd_sh, show 40 * ot + (j + k) = 40 * ot + j + k by omega, mwK_s] at hY2
                    exact hY2
                  have hkn : ∀ q, q < H1.size → ¬ q = ya ot → H2[q]? = H1[q]? := fun q h1 h2 => (hk2 q (Nat.lt_of_lt_of_le h1 hHs) h2).trans (hkk q h1 h2)
                  refine lv_iinc (v := nI (k + 1)) (lv' := [(9, .int (nI (k + 1))), (8, .ref z9), (7, .ref x1), (6, .ref x0), (0, .ref (h 0)), (1, .int (nI sh)), (2, .int (nI i)), (3, .int (nI ot)), (4, .int (nI j)), (5, .int (nI n))]) hx hb dX0_move_144 hl (k := 0) rfl (by rw [show Int32.ofInt 1 = nI 1 from by decide]; exact nI_add _ _) (by decide) rfl (fun ls hl => ?_)
                  refine lv_goto (tgt := 120) hx hb dX0_move_147 (by decide) ?_
                  exact ih120 (k + 1) (by omega) (by omega) _ _ hYn hkn hS2 ls (lv_sub hl [0, 1, 2, 3, 4, 5, 6, 7, 8, 9] rfl)
            exact loop120 (n + 1) 0 (by omega) (by omega) _ _ (by rw [mwK_0]; exact hY1n) (fun q _ _ => rfl) hS8 ls (lv_sub hl [0, 1, 2, 3, 4, 5, 6, 7, 8, 9] rfl)
