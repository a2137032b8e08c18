/-! sheets: size, get, width (printed by comp19.py) -/
set_option maxRecDepth 100000
section SHA
variable {p : Program} {l : Launch} {e : Env} {R : Room} {s : State} {m : MethodId} {args : Array Value} {below : List Frame} {meth : Method} {c : Code} {H : Heap} {locs : List Loc} {cells slots : Nat} {Q : State → Prop}
variable {cc : ByteArray} {pc : Nat} {ls : Array Slot} {rest : List Value} {D : va_G} {dA : Nat → ClassId} {a : Nat}
theorem c_alen (hx : p.tables.exec = Jvm.exec) (hb : c.code = cc) (hK : cmK D dA s) (t0 : Nat) {ty : FieldType} (ht : (cmTy dA)[t0]? = some (dA t0, ty)) {n : Nat} {f : Nat → Int32} (ha : cAt D a (.inl (dA t0, n, .inl f)) H) (hdg : decode cc pc = .ok (.arraylength, 1))
    (kk : W p l e R s m args below meth c H locs cells slots Q (F0 m (pc + 1) ls (.int (nI n) :: rest))) : W p l e R s m args below meth c H locs cells slots Q (F0 m pc ls (.ref a :: rest)) :=
  va_alen hx hb hK.1 ha.P 0 t0 rfl ht rfl hdg kk
theorem c_sald (hx : p.tables.exec = Jvm.exec) (hb : c.code = cc) (hK : cmK D dA s) {n : Nat} {f : Nat → Int32} (ha : cAt D a (.inl (dA 2, n, .inl f)) H) {i : Int32} (i' : Nat) (hi : i' < n ∧ n < 2 ^ 31 ∧ i = nI i') (hdg : decode cc pc = .ok (.saload, 1))
    (kk : W p l e R s m args below meth c H locs cells slots Q (F0 m (pc + 1) ls (.int (f i') :: rest))) : W p l e R s m args below meth c H locs cells slots Q (F0 m pc ls (.int i :: .ref a :: rest)) := by
  obtain ⟨h1, h2, rfl⟩ := hi
  refine va_sald hx hb hK.1 ha.P 0 2 rfl rfl (vp_in_nI h1 h2) hdg ?_
  rw [nI_clamp (Nat.lt_trans h1 h2)]
  exact kk
end SHA
theorem sh_size_0 (D : va_G) (dA : Nat → ClassId) (x y n : Nat) (g : Nat → Int32) : Rd D dA yX22_size cX22_size 1 (some .int) 0 0 [.ref x] (fun H => cAt D x (.inr (19, [.ref y])) H ∧ cAt D y (.inl (dA 1, n, .inl g)) H) (some (.int (nI n))) := by
  refine Rd.ofI (by decide) (own := RX22) rfl (Nat.le_of_ble_eq_true rfl) ?_
  intro p l e R s m args below meth c Q ls hx hb hml hRf hRl hts hown hK hP hl hret
  have hl : lv_has ls 1 [(0, .ref x)] := hl
  refine lv_aload_n hx hb dX22_size_0 rfl (lv_at hl 0 rfl) ?_
  refine c_get (v := .ref y) hx hb hts in_X22 hown hK hP.1 rfl 0 (by decide) q1294 rfl rfl dX22_size_1 ?_
  refine c_alen hx hb hK 1 rfl hP.2 dX22_size_4 ?_
  exact hret rfl dX22_size_5
theorem sh_get_0 (D : va_G) (dA : Nat → ClassId) (x y n : Nat) (g : Nat → Int32) (i : Nat) (hi : i < n ∧ n < 2 ^ 31) : Rd D dA yX22_get cX22_get 2 (some .int) 0 0 [.ref x, .int (nI i)] (fun H => cAt D x (.inr (19, [.ref y])) H ∧ cAt D y (.inl (dA 1, n, .inl g)) H) (some (.int (g i))) := by
  refine Rd.ofI (by decide) (own := RX22) rfl (Nat.le_of_ble_eq_true rfl) ?_
  intro p l e R s m args below meth c Q ls hx hb hml hRf hRl hts hown hK hP hl hret
  have hl : lv_has ls 2 [(0, .ref x), (1, .int (nI i))] := hl
  refine lv_aload_n hx hb dX22_get_0 rfl (lv_at hl 0 rfl) ?_
  refine c_get (v := .ref y) hx hb hts in_X22 hown hK hP.1 rfl 0 (by decide) q1294 rfl rfl dX22_get_1 ?_
  refine lv_iload_n hx hb dX22_get_4 rfl (lv_at hl 1 rfl) ?_
  refine c_bald hx hb hK hP.2 i ⟨hi.1, hi.2, rfl⟩ dX22_get_5 ?_
  exact hret rfl dX22_get_6
theorem sh_width_0 (D : va_G) (dA : Nat → ClassId) (x y n : Nat) (g : Nat → Int32) : Rd D dA yX22_width cX22_width 1 (some .int) 0 0 [.ref x] (fun H => cAt D x (.inr (19, [.ref y])) H ∧ cAt D y (.inl (dA 1, n, .inl g)) H) (some (.int (nI 8))) := by
  refine Rd.ofI (by decide) (own := RX22) rfl (Nat.le_of_ble_eq_true rfl) ?_
  intro p l e R s m args below meth c Q ls hx hb hml hRf hRl hts hown hK hP hl hret
  refine lv_bipush (v := nI 8) hx hb dX22_width_0 (by decide) ?_
  exact hret rfl dX22_width_2
theorem sh_size_1 (D : va_G) (dA : Nat → ClassId) (x y n : Nat) (g : Nat → Int32) : Rd D dA yX23_size cX23_size 1 (some .int) 0 0 [.ref x] (fun H => cAt D x (.inr (20, [.ref y])) H ∧ cAt D y (.inl (dA 2, n, .inl g)) H) (some (.int (nI n))) := by
  refine Rd.ofI (by decide) (own := RX23) rfl (Nat.le_of_ble_eq_true rfl) ?_
  intro p l e R s m args below meth c Q ls hx hb hml hRf hRl hts hown hK hP hl hret
  have hl : lv_has ls 1 [(0, .ref x)] := hl
  refine lv_aload_n hx hb dX23_size_0 rfl (lv_at hl 0 rfl) ?_
  refine c_get (v := .ref y) hx hb hts in_X23 hown hK hP.1 rfl 0 (by decide) q1304 rfl rfl dX23_size_1 ?_
  refine c_alen hx hb hK 2 rfl hP.2 dX23_size_4 ?_
  exact hret rfl dX23_size_5
theorem sh_get_1 (D : va_G) (dA : Nat → ClassId) (x y n : Nat) (g : Nat → Int32) (i : Nat) (hi : i < n ∧ n < 2 ^ 31) : Rd D dA yX23_get cX23_get 2 (some .int) 0 0 [.ref x, .int (nI i)] (fun H => cAt D x (.inr (20, [.ref y])) H ∧ cAt D y (.inl (dA 2, n, .inl g)) H) (some (.int (g i))) := by
  refine Rd.ofI (by decide) (own := RX23) rfl (Nat.le_of_ble_eq_true rfl) ?_
  intro p l e R s m args below meth c Q ls hx hb hml hRf hRl hts hown hK hP hl hret
  have hl : lv_has ls 2 [(0, .ref x), (1, .int (nI i))] := hl
  refine lv_aload_n hx hb dX23_get_0 rfl (lv_at hl 0 rfl) ?_
  refine c_get (v := .ref y) hx hb hts in_X23 hown hK hP.1 rfl 0 (by decide) q1304 rfl rfl dX23_get_1 ?_
  refine lv_iload_n hx hb dX23_get_4 rfl (lv_at hl 1 rfl) ?_
  refine c_sald hx hb hK hP.2 i ⟨hi.1, hi.2, rfl⟩ dX23_get_5 ?_
  exact hret rfl dX23_get_6
theorem sh_width_1 (D : va_G) (dA : Nat → ClassId) (x y n : Nat) (g : Nat → Int32) : Rd D dA yX23_width cX23_width 1 (some .int) 0 0 [.ref x] (fun H => cAt D x (.inr (20, [.ref y])) H ∧ cAt D y (.inl (dA 2, n, .inl g)) H) (some (.int (nI 16))) := by
  refine Rd.ofI (by decide) (own := RX23) rfl (Nat.le_of_ble_eq_true rfl) ?_
  intro p l e R s m args below meth c Q ls hx hb hml hRf hRl hts hown hK hP hl hret
  refine lv_bipush (v := nI 16) hx hb dX23_width_0 (by decide) ?_
  exact hret rfl dX23_width_2
theorem sh_size_2 (D : va_G) (dA : Nat → ClassId) (x y n : Nat) (g : Nat → Int32) : Rd D dA yX24_size cX24_size 1 (some .int) 0 0 [.ref x] (fun H => cAt D x (.inr (21, [.ref y])) H ∧ cAt D y (.inl (dA 0, n, .inl g)) H) (some (.int (nI n))) := by
  refine Rd.ofI (by decide) (own := RX24) rfl (Nat.le_of_ble_eq_true rfl) ?_
  intro p l e R s m args below meth c Q ls hx hb hml hRf hRl hts hown hK hP hl hret
  have hl : lv_has ls 1 [(0, .ref x)] := hl
  refine lv_aload_n hx hb dX24_size_0 rfl (lv_at hl 0 rfl) ?_
  refine c_get (v := .ref y) hx hb hts in_X24 hown hK hP.1 rfl 0 (by decide) q1315 rfl rfl dX24_size_1 ?_
  refine c_alen hx hb hK 0 rfl hP.2 dX24_size_4 ?_
  exact hret rfl dX24_size_5
theorem sh_get_2 (D : va_G) (dA : Nat → ClassId) (x y n : Nat) (g : Nat → Int32) (i : Nat) (hi : i < n ∧ n < 2 ^ 31) : Rd D dA yX24_get cX24_get 2 (some .int) 0 0 [.ref x, .int (nI i)] (fun H => cAt D x (.inr (21, [.ref y])) H ∧ cAt D y (.inl (dA 0, n, .inl g)) H) (some (.int (g i))) := by
  refine Rd.ofI (by decide) (own := RX24) rfl (Nat.le_of_ble_eq_true rfl) ?_
  intro p l e R s m args below meth c Q ls hx hb hml hRf hRl hts hown hK hP hl hret
  have hl : lv_has ls 2 [(0, .ref x), (1, .int (nI i))] := hl
  refine lv_aload_n hx hb dX24_get_0 rfl (lv_at hl 0 rfl) ?_
  refine c_get (v := .ref y) hx hb hts in_X24 hown hK hP.1 rfl 0 (by decide) q1315 rfl rfl dX24_get_1 ?_
  refine lv_iload_n hx hb dX24_get_4 rfl (lv_at hl 1 rfl) ?_
  refine c_iald hx hb hK hP.2 i ⟨hi.1, hi.2, rfl⟩ dX24_get_5 ?_
  exact hret rfl dX24_get_6
theorem sh_width_2 (D : va_G) (dA : Nat → ClassId) (x y n : Nat) (g : Nat → Int32) : Rd D dA yX24_width cX24_width 1 (some .int) 0 0 [.ref x] (fun H => cAt D x (.inr (21, [.ref y])) H ∧ cAt D y (.inl (dA 0, n, .inl g)) H) (some (.int (nI 32))) := by
  refine Rd.ofI (by decide) (own := RX24) rfl (Nat.le_of_ble_eq_true rfl) ?_
  intro p l e R s m args below meth c Q ls hx hb hml hRf hRl hts hown hK hP hl hret
  refine lv_bipush (v := nI 32) hx hb dX24_width_0 (by decide) ?_
  exact hret rfl dX24_width_2
section SHB
variable {p : Program} {l : Launch} {e : Env} {R : Room} {s : State} {m : MethodId} {args : Array Value} {below : List Frame} {meth : Method} {c : Code} {H : Heap} {locs : List Loc} {cells slots : Nat} {Q : State → Prop}
variable {cc : ByteArray} {pc : Nat} {ls : Array Slot} {rest : List Value} {D : va_G} {dA : Nat → ClassId} {nL idx : Nat} {own : String}
def ySh_size : MethodName := ⟨RX21, "size", "()I"⟩
theorem nv_sh_size : (RX21 : String) ≠ "java/lang/invoke/MethodHandle" ∧ (RX21 : String) ≠ "java/lang/invoke/VarHandle" ∧ (parseMethodDescriptor ySh_size.desc).map (fun d => d.parameters.length) = some 0 := by decide +kernel
theorem sv_size (hx : p.tables.exec = Jvm.exec) (hb : c.code = cc) (hml : c.maxLocals = nL) (hown : s.vm.findClass own = some m.cls) (hts : ∀ w ∈ lw_all, w.before args s = true) (hK : cmK D dA s) (h1 : Cond.methodLink own idx ySh_size ∈ lw_all) (wi : Nat) (hwi : wi < 3) (x y n : Nat) (g : Nat → Int32) (ho : cAt D x (.inr (19 + wi, [.ref y])) H) (hy : cAt D y (.inl (dA (shT wi), n, .inl g)) H) (hRf : 1 ≤ R.frames) (hRl : 20 ≤ R.locals) (hRc : cells ≤ R.cells) (hRs : slots ≤ R.slots) (hsize : ls.size = nL) (hW : (rest.map fun v => v.category).sum ≤ 8) (hdg : decode cc pc = .ok (.invokevirtual idx, 3))
    (kk : W p l e R s m args below meth c H locs cells slots Q (F0 m (pc + 3) ls (.int (nI n) :: rest))) : W p l e R s m args below meth c H locs cells slots Q (F0 m pc ls (.ref x :: rest)) := by
  have nq := hK.D 7 rfl
  rcases (show wi = 0 ∨ wi = 1 ∨ wi = 2 by omega) with rfl | rfl | rfl
  · exact rd_callU (x := ySh_size) (y := yX22_size) (C := RX22) (owner := RX21) (As := []) hx hb hml hown hts hK (sh_size_0 D dA x y n g) ⟨ho, hy⟩ (ho.recv hK rfl) (fun hf hl => va_cwA 0 hts (lw_app (lw_5 h1 q1030 q1031 q1032 q94) (lw_meth q1033)) rfl rfl rfl nq nv_sh_size ⟨hf, hl⟩) rfl (by omega) (by omega) hRc hRs hsize rfl hW hdg kk
  · exact rd_callU (x := ySh_size) (y := yX23_size) (C := RX23) (owner := RX21) (As := []) hx hb hml hown hts hK (sh_size_1 D dA x y n g) ⟨ho, hy⟩ (ho.recv hK rfl) (fun hf hl => va_cwA 0 hts (lw_app (lw_5 h1 q1030 q1037 q1038 q95) (lw_meth q1039)) rfl rfl rfl nq nv_sh_size ⟨hf, hl⟩) rfl (by omega) (by omega) hRc hRs hsize rfl hW hdg kk
  · exact rd_callU (x := ySh_size) (y := yX24_size) (C := RX24) (owner := RX21) (As := []) hx hb hml hown hts hK (sh_size_2 D dA x y n g) ⟨ho, hy⟩ (ho.recv hK rfl) (fun hf hl => va_cwA 0 hts (lw_app (lw_5 h1 q1030 q1034 q1035 q96) (lw_meth q1036)) rfl rfl rfl nq nv_sh_size ⟨hf, hl⟩) rfl (by omega) (by omega) hRc hRs hsize rfl hW hdg kk
def ySh_get : MethodName := ⟨RX21, "get", "(I)I"⟩
theorem nv_sh_get : (RX21 : String) ≠ "java/lang/invoke/MethodHandle" ∧ (RX21 : String) ≠ "java/lang/invoke/VarHandle" ∧ (parseMethodDescriptor ySh_get.desc).map (fun d => d.parameters.length) = some 1 := by decide +kernel
theorem sv_get (hx : p.tables.exec = Jvm.exec) (hb : c.code = cc) (hml : c.maxLocals = nL) (hown : s.vm.findClass own = some m.cls) (hts : ∀ w ∈ lw_all, w.before args s = true) (hK : cmK D dA s) (h1 : Cond.methodLink own idx ySh_get ∈ lw_all) (wi : Nat) (hwi : wi < 3) (x y n : Nat) (g : Nat → Int32) (i : Nat) (hi : i < n ∧ n < 2 ^ 31) (ho : cAt D x (.inr (19 + wi, [.ref y])) H) (hy : cAt D y (.inl (dA (shT wi), n, .inl g)) H) (hRf : 1 ≤ R.frames) (hRl : 21 ≤ R.locals) (hRc : cells ≤ R.cells) (hRs : slots ≤ R.slots) (hsize : ls.size = nL) (hW : (rest.map fun v => v.category).sum ≤ 8) (hdg : decode cc pc = .ok (.invokevirtual idx, 3))
    (kk : W p l e R s m args below meth c H locs cells slots Q (F0 m (pc + 3) ls (.int (g i) :: rest))) : W p l e R s m args below meth c H locs cells slots Q (F0 m pc ls (.int (nI i) :: .ref x :: rest)) := by
  have nq := hK.D 5 rfl
  rcases (show wi = 0 ∨ wi = 1 ∨ wi = 2 by omega) with rfl | rfl | rfl
  · exact rd_callU (x := ySh_get) (y := yX22_get) (C := RX22) (owner := RX21) (As := [.int (nI i)]) hx hb hml hown hts hK (sh_get_0 D dA x y n g i hi) ⟨ho, hy⟩ (ho.recv hK rfl) (fun hf hl => va_cwA 1 hts (lw_app (lw_5 h1 q1042 q1043 q1044 q94) (lw_meth q1045)) rfl rfl rfl nq nv_sh_get ⟨hf, hl⟩) rfl (by omega) (by omega) hRc hRs hsize rfl hW hdg kk
  · exact rd_callU (x := ySh_get) (y := yX23_get) (C := RX23) (owner := RX21) (As := [.int (nI i)]) hx hb hml hown hts hK (sh_get_1 D dA x y n g i hi) ⟨ho, hy⟩ (ho.recv hK rfl) (fun hf hl => va_cwA 1 hts (lw_app (lw_5 h1 q1042 q1049 q1050 q95) (lw_meth q1051)) rfl rfl rfl nq nv_sh_get ⟨hf, hl⟩) rfl (by omega) (by omega) hRc hRs hsize rfl hW hdg kk
  · exact rd_callU (x := ySh_get) (y := yX24_get) (C := RX24) (owner := RX21) (As := [.int (nI i)]) hx hb hml hown hts hK (sh_get_2 D dA x y n g i hi) ⟨ho, hy⟩ (ho.recv hK rfl) (fun hf hl => va_cwA 1 hts (lw_app (lw_5 h1 q1042 q1046 q1047 q96) (lw_meth q1048)) rfl rfl rfl nq nv_sh_get ⟨hf, hl⟩) rfl (by omega) (by omega) hRc hRs hsize rfl hW hdg kk
def ySh_width : MethodName := ⟨RX21, "width", "()I"⟩
theorem nv_sh_width : (RX21 : String) ≠ "java/lang/invoke/MethodHandle" ∧ (RX21 : String) ≠ "java/lang/invoke/VarHandle" ∧ (parseMethodDescriptor ySh_width.desc).map (fun d => d.parameters.length) = some 0 := by decide +kernel
theorem sv_width (hx : p.tables.exec = Jvm.exec) (hb : c.code = cc) (hml : c.maxLocals = nL) (hown : s.vm.findClass own = some m.cls) (hts : ∀ w ∈ lw_all, w.before args s = true) (hK : cmK D dA s) (h1 : Cond.methodLink own idx ySh_width ∈ lw_all) (wi : Nat) (hwi : wi < 3) (x y n : Nat) (g : Nat → Int32) (ho : cAt D x (.inr (19 + wi, [.ref y])) H) (hy : cAt D y (.inl (dA (shT wi), n, .inl g)) H) (hRf : 1 ≤ R.frames) (hRl : 20 ≤ R.locals) (hRc : cells ≤ R.cells) (hRs : slots ≤ R.slots) (hsize : ls.size = nL) (hW : (rest.map fun v => v.category).sum ≤ 8) (hdg : decode cc pc = .ok (.invokevirtual idx, 3))
    (kk : W p l e R s m args below meth c H locs cells slots Q (F0 m (pc + 3) ls (.int (shB wi) :: rest))) : W p l e R s m args below meth c H locs cells slots Q (F0 m pc ls (.ref x :: rest)) := by
  have nq := hK.D 8 rfl
  rcases (show wi = 0 ∨ wi = 1 ∨ wi = 2 by omega) with rfl | rfl | rfl
  · exact rd_callU (x := ySh_width) (y := yX22_width) (C := RX22) (owner := RX21) (As := []) hx hb hml hown hts hK (sh_width_0 D dA x y n g) ⟨ho, hy⟩ (ho.recv hK rfl) (fun hf hl => va_cwA 0 hts (lw_app (lw_5 h1 q1341 q1342 q1343 q94) (lw_meth q1344)) rfl rfl rfl nq nv_sh_width ⟨hf, hl⟩) rfl (by omega) (by omega) hRc hRs hsize rfl hW hdg kk
  · exact rd_callU (x := ySh_width) (y := yX23_width) (C := RX23) (owner := RX21) (As := []) hx hb hml hown hts hK (sh_width_1 D dA x y n g) ⟨ho, hy⟩ (ho.recv hK rfl) (fun hf hl => va_cwA 0 hts (lw_app (lw_5 h1 q1341 q1348 q1349 q95) (lw_meth q1350)) rfl rfl rfl nq nv_sh_width ⟨hf, hl⟩) rfl (by omega) (by omega) hRc hRs hsize rfl hW hdg kk
  · exact rd_callU (x := ySh_width) (y := yX24_width) (C := RX24) (owner := RX21) (As := []) hx hb hml hown hts hK (sh_width_2 D dA x y n g) ⟨ho, hy⟩ (ho.recv hK rfl) (fun hf hl => va_cwA 0 hts (lw_app (lw_5 h1 q1341 q1345 q1346 q96) (lw_meth q1347)) rfl rfl rfl nq nv_sh_width ⟨hf, hl⟩) rfl (by omega) (by omega) hRc hRs hsize rfl hW hdg kk
end SHB
