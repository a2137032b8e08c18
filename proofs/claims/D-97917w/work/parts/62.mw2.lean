/-! facts; a cell of a world is set; rows of the meadow's own -/
set_option maxRecDepth 100000
theorem cm_P_set {D : va_G} {A : Nat → Prop} {ws : va_W} {H H1 : Heap} {k a : Nat} {e0 e : va_E} (hP : va_P D cmCl ws H) (hD : va_D A ws) (hk : ws[k]? = some (a, e0)) (he : cAt D a e H1) (ho : ∀ q, q < H.size → q ≠ a → H1[q]? = H[q]?) : va_P D cmCl (ws.set k (a, e)) H1 := by
  have hl := (List.getElem?_eq_some_iff.mp hk).1
  intro j q hj
  by_cases hjk : j = k
  · subst hjk
    rw [List.getElem?_set_self hl] at hj
    cases hj
    exact he
  · rw [List.getElem?_set_ne (Ne.symm hjk)] at hj
    have h1 := hP j q hj
    exact cAt.kept (a := q.1) (e := q.2) h1 (ho q.1 (cAt.lt (a := q.1) (e := q.2) h1) (fun h => hjk (hD.1 j k q (a, e0) hj hk h)))
theorem ndX3_with : yX3_with.cls = RX3 ∧ yX3_with.cls ≠ "java/lang/invoke/MethodHandle" ∧ yX3_with.cls ≠ "java/lang/invoke/VarHandle" ∧ (parseMethodDescriptor yX3_with.desc).map (fun d => d.parameters.length) = some 2 := by decide +kernel
set_option maxHeartbeats 400000 in
/-- a name is given a number -/
theorem fc_with (D : va_G) (dA : Nat → ClassId) (fa na : Nat) (nm : Nat → Int32) (k : Nat) (hk : k < 128) (v : Int32) : Cg D dA (fun q => q = na) yX3_with cX3_with 3 (some (.object "MeadowMilk$Facts")) 0 0 0 0 [.ref fa, .int (nI k), .int v] (fun H => fcP D dA fa na nm H) (fun v' H => v' = some (.ref fa) ∧ cAt D na (.inl (dA 0, 128, .inl (upd nm k v))) H) := by
  refine Cg.ofA (Or.inl ⟨_, rfl⟩) (by decide) (own := RX3) rfl (Nat.le_of_ble_eq_true rfl) ?_
  intro p l e R s m args below meth c Q ls hx hb hml hRf hRl hRc hRs hin hts hown hK hP hl hret
  obtain ⟨h1, h2⟩ := hP
  have hl : lv_has ls 3 [(0, .ref fa), (1, .int (nI k)), (2, .int v)] := hl
  have hM : gH D (fun q => q = na) [(na, .inl (dA 0, 128, .inl nm))] s.heap s.heap [] := ⟨h2.P, ⟨fun i j p q hi hj _ => by
    have hi2 : i < 1 := (List.getElem?_eq_some_iff.mp hi).1
    have hj2 : j < 1 := (List.getElem?_eq_some_iff.mp hj).1
    omega, fun j q hj => by
    have hj2 : j < 1 := (List.getElem?_eq_some_iff.mp hj).1
    obtain rfl : j = 0 := by omega
    cases hj; rfl⟩, va_S.rf⟩
  refine lv_aload_n hx hb dX3_with_0 rfl (lv_at hl 0 rfl) ?_
  refine c_get (v := .ref na) hx hb hts in_X3 hown hK h1 rfl 0 (by decide) q190 rfl rfl dX3_with_1 ?_
  refine lv_iload_n hx hb dX3_with_4 rfl (lv_at hl 1 rfl) ?_
  refine lv_iload_n hx hb dX3_with_5 rfl (lv_at hl 2 rfl) ?_
  refine g_iast hx hb hK hM 0 rfl k ⟨hk, by decide, rfl⟩ dX3_with_6 (fun H locs hM => ?_)
  refine lv_aload_n hx hb dX3_with_7 rfl (lv_at hl 0 rfl) ?_
  exact hret ⟨rfl, hM.1 0 _ rfl⟩ hM.2.2 dX3_with_8
section MWC
variable {p : Program} {l : Launch} {e : Env} {R : Room} {s : State} {m : MethodId} {args : Array Value} {below : List Frame} {meth : Method} {c : Code} {H H0 : Heap} {locs : List Loc} {cells slots : Nat} {Q : State → Prop}
variable {cc : ByteArray} {pc : Nat} {ls : Array Slot} {rest : List Value} {D : va_G} {dA : Nat → ClassId} {h : Nat → Nat} {r r1 r2 : Nat → Int32} {cw tx : Nat → Option Nat} {nm : Nat → Int32}
theorem mw_with {nL idx : Nat} (hx : p.tables.exec = Jvm.exec) (hb : c.code = cc) (hml : c.maxLocals = nL) (hown : s.vm.findClass RX2 = some m.cls) (hts : ∀ w ∈ lw_all, w.before args s = true) (hK : cmK D dA s) (hI : mwI h) (hM : mwH D h dA H0 H locs r cw tx nm) (k : Nat) (hk : k < 128) {v : Int32} (h1 : Cond.methodLink RX2 idx yX3_with ∈ lw_all) (hRf : 1 ≤ R.frames) (hRl : 30 ≤ R.locals) (hsize : ls.size = nL) (hW : (rest.map fun v => v.category).sum ≤ 8) (hdg : decode cc pc = .ok (.invokevirtual idx, 3))
    (kk : ∀ (H1 : Heap) (locs1 : List Loc), mwH D h dA H0 H1 locs1 r cw tx (upd nm k v) → W p l e R s m args below meth c H1 locs1 0 0 Q (F0 m (pc + 3) ls (.ref (h 10) :: rest))) : W p l e R s m args below meth c H locs 0 0 Q (F0 m pc ls (.int v :: .int (nI k) :: .ref (h 10) :: rest)) := by
  refine cg_callV (y := yX3_with) (b := h 10) (C := RX3) (As := [.int (nI k), .int v]) hx hb hml hown hts hK hM.2.2 (fc_with D dA (h 10) (h 11) nm k hk v) ⟨hM.1 10 _ rfl, hM.1 11 _ rfl⟩ (fun q hq => ⟨11, by omega, hq⟩) (cAt.recv hK (hM.1 10 _ rfl) rfl) h1 q359 q360 q67 q361 ndX3_with rfl (by omega) (by omega) (Nat.zero_le _) (Nat.zero_le _) hsize rfl hW hdg ?_
  intro v' H1 locs1 hq hz hk1 hS
  obtain ⟨rfl, hq⟩ := hq
  exact kk H1 locs1 ⟨cm_P_set (k := 11) hM.1 hM.2.1 rfl hq (fun q h1 h2 => hk1 q h1 h2), mwD hI _ _ _ _ _ _, hS⟩
end MWC
