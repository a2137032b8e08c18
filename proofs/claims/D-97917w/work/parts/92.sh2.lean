/-! sheets: put (printed by comp22.py) -/
set_option maxRecDepth 100000
section SHC
variable {p : Program} {l : Launch} {e : Env} {R : Room} {s : State} {m : MethodId} {args : Array Value} {below : List Frame} {meth : Method} {c : Code} {H H0 : Heap} {locs : List Loc} {cells slots : Nat} {Q : State → Prop}
variable {cc : ByteArray} {pc : Nat} {ls : Array Slot} {rest : List Value} {D : va_G} {dA : Nat → ClassId} {A : Nat → Prop} {ws : va_W} {a : Nat}
theorem g_sast (hx : p.tables.exec = Jvm.exec) (hb : c.code = cc) (hK : cmK D dA s) (hM : gH D A ws H0 H locs) (q0 : Nat) {n : Nat} {f : Nat → Int32} (ha : ws[q0]? = some (a, .inl (dA 2, n, .inl f))) {i x : Int32} (i' : Nat) (hi : i' < n ∧ n < 2 ^ 31 ∧ i = nI i') (hdg : decode cc pc = .ok (.sastore, 1))
    (kk : ∀ (H1 : Heap) (locs1 : List Loc), gH D A (ws.set q0 (a, .inl (dA 2, n, .inl (upd f i' (vp_nar .short x))))) H0 H1 locs1 → W p l e R s m args below meth c H1 locs1 cells slots Q (F0 m (pc + 1) ls rest)) : W p l e R s m args below meth c H locs cells slots Q (F0 m pc ls (.int x :: .int i :: .ref a :: rest)) := by
  obtain ⟨h1, h2, rfl⟩ := hi
  refine va_sast hx hb hK.1 hM.1 hM.2.1 hM.2.2 q0 2 ha rfl (vp_in_nI h1 h2) hdg (fun H1 locs1 hP hD hS => ?_)
  rw [nI_clamp (Nat.lt_trans h1 h2)] at hP hD
  exact kk H1 locs1 ⟨hP, hD, hS⟩
end SHC
theorem nar8 (v : Int32) : vp_nar .byte v.toInt8.toInt32 = narF (nI 8) v := by
  show v.toInt8.toInt32.toInt8.toInt32 = _
  rw [narF, if_pos rfl, Int8.toInt8_toInt32]
theorem nar16 (v : Int32) : vp_nar .short v.toInt16.toInt32 = narF (nI 16) v := by
  show v.toInt16.toInt32.toInt16.toInt32 = _
  rw [narF, if_neg (by decide), if_pos rfl, Int16.toInt16_toInt32]
theorem nar32 (v : Int32) : v = narF (nI 32) v := by
  rw [narF, if_neg (by decide), if_neg (by decide)]
theorem sh_put_0 (D : va_G) (dA : Nat → ClassId) (x y n : Nat) (g : Nat → Int32) (i : Nat) (v : Int32) (hi : i < n ∧ n < 2 ^ 31) : Cg D dA (fun q => q = y) yX22_put cX22_put 3 none 0 0 0 0 [.ref x, .int (nI i), .int v] (fun H => cAt D x (.inr (19, [.ref y])) H ∧ cAt D y (.inl (dA 1, n, .inl g)) H) (fun v' H => v' = none ∧ cAt D y (.inl (dA 1, n, .inl (upd g i (narF (nI 8) v)))) H) := by
  refine Cg.ofV (by decide) (own := RX22) rfl (Nat.le_of_ble_eq_true rfl) ?_
  intro p l e R s m args below meth c Q ls hx hb hml hRf hRl hRc hRs hin hts hown hK hP hl hret
  have hl : lv_has ls 3 [(0, .ref x), (1, .int (nI i)), (2, .int v)] := hl
  have hM := g_one hP.2
  refine lv_aload_n hx hb dX22_put_0 rfl (lv_at hl 0 rfl) ?_
  refine c_get (v := .ref y) hx hb hts in_X22 hown hK hP.1 rfl 0 (by decide) q1294 rfl rfl dX22_put_1 ?_
  refine lv_iload_n hx hb dX22_put_4 rfl (lv_at hl 1 rfl) ?_
  refine lv_iload_n hx hb dX22_put_5 rfl (lv_at hl 2 rfl) ?_
  refine lv_i2b (v := v.toInt8.toInt32) hx hb dX22_put_6 rfl ?_
  refine g_bast hx hb hK hM 0 rfl i ⟨hi.1, hi.2, rfl⟩ dX22_put_7 (fun H locs hM => ?_)
  rw [nar8] at hM
  exact hret ⟨rfl, hM.1 0 _ rfl⟩ hM.2.2 dX22_put_8
theorem sh_put_1 (D : va_G) (dA : Nat → ClassId) (x y n : Nat) (g : Nat → Int32) (i : Nat) (v : Int32) (hi : i < n ∧ n < 2 ^ 31) : Cg D dA (fun q => q = y) yX23_put cX23_put 3 none 0 0 0 0 [.ref x, .int (nI i), .int v] (fun H => cAt D x (.inr (20, [.ref y])) H ∧ cAt D y (.inl (dA 2, n, .inl g)) H) (fun v' H => v' = none ∧ cAt D y (.inl (dA 2, n, .inl (upd g i (narF (nI 16) v)))) H) := by
  refine Cg.ofV (by decide) (own := RX23) rfl (Nat.le_of_ble_eq_true rfl) ?_
  intro p l e R s m args below meth c Q ls hx hb hml hRf hRl hRc hRs hin hts hown hK hP hl hret
  have hl : lv_has ls 3 [(0, .ref x), (1, .int (nI i)), (2, .int v)] := hl
  have hM := g_one hP.2
  refine lv_aload_n hx hb dX23_put_0 rfl (lv_at hl 0 rfl) ?_
  refine c_get (v := .ref y) hx hb hts in_X23 hown hK hP.1 rfl 0 (by decide) q1304 rfl rfl dX23_put_1 ?_
  refine lv_iload_n hx hb dX23_put_4 rfl (lv_at hl 1 rfl) ?_
  refine lv_iload_n hx hb dX23_put_5 rfl (lv_at hl 2 rfl) ?_
  refine lv_i2s (v := v.toInt16.toInt32) hx hb dX23_put_6 rfl ?_
  refine g_sast hx hb hK hM 0 rfl i ⟨hi.1, hi.2, rfl⟩ dX23_put_7 (fun H locs hM => ?_)
  rw [nar16] at hM
  exact hret ⟨rfl, hM.1 0 _ rfl⟩ hM.2.2 dX23_put_8
theorem sh_put_2 (D : va_G) (dA : Nat → ClassId) (x y n : Nat) (g : Nat → Int32) (i : Nat) (v : Int32) (hi : i < n ∧ n < 2 ^ 31) : Cg D dA (fun q => q = y) yX24_put cX24_put 3 none 0 0 0 0 [.ref x, .int (nI i), .int v] (fun H => cAt D x (.inr (21, [.ref y])) H ∧ cAt D y (.inl (dA 0, n, .inl g)) H) (fun v' H => v' = none ∧ cAt D y (.inl (dA 0, n, .inl (upd g i (narF (nI 32) v)))) H) := by
  refine Cg.ofV (by decide) (own := RX24) rfl (Nat.le_of_ble_eq_true rfl) ?_
  intro p l e R s m args below meth c Q ls hx hb hml hRf hRl hRc hRs hin hts hown hK hP hl hret
  have hl : lv_has ls 3 [(0, .ref x), (1, .int (nI i)), (2, .int v)] := hl
  have hM := g_one hP.2
  refine lv_aload_n hx hb dX24_put_0 rfl (lv_at hl 0 rfl) ?_
  refine c_get (v := .ref y) hx hb hts in_X24 hown hK hP.1 rfl 0 (by decide) q1315 rfl rfl dX24_put_1 ?_
  refine lv_iload_n hx hb dX24_put_4 rfl (lv_at hl 1 rfl) ?_
  refine lv_iload_n hx hb dX24_put_5 rfl (lv_at hl 2 rfl) ?_
  refine g_iast hx hb hK hM 0 rfl i ⟨hi.1, hi.2, rfl⟩ dX24_put_6 (fun H locs hM => ?_)
  rw [nar32 v] at hM
  exact hret ⟨rfl, hM.1 0 _ rfl⟩ hM.2.2 dX24_put_7
def ySh_put : MethodName := ⟨RX21, "put", "(II)V"⟩
theorem nv_sh_put : (RX21 : String) ≠ "java/lang/invoke/MethodHandle" ∧ (RX21 : String) ≠ "java/lang/invoke/VarHandle" ∧ (parseMethodDescriptor ySh_put.desc).map (fun d => d.parameters.length) = some 2 := by decide +kernel
section SHD
variable {p : Program} {l : Launch} {e : Env} {R : Room} {s : State} {m : MethodId} {args : Array Value} {below : List Frame} {meth : Method} {c : Code} {H H0 : Heap} {locs : List Loc} {cells slots : Nat} {Q : State → Prop}
variable {cc : ByteArray} {pc : Nat} {ls : Array Slot} {rest : List Value} {D : va_G} {dA : Nat → ClassId} {A : Nat → Prop} {nL idx : Nat} {own : String}
theorem sv_put (hx : p.tables.exec = Jvm.exec) (hb : c.code = cc) (hml : c.maxLocals = nL) (hown : s.vm.findClass own = some m.cls) (hts : ∀ w ∈ lw_all, w.before args s = true) (hK : cmK D dA s) (h1 : Cond.methodLink own idx ySh_put ∈ lw_all) (hS : va_S A H0 H locs) (wi : Nat) (hwi : wi < 3) (x y n : Nat) (hyA : A y) (g : Nat → Int32) (i : Nat) (v : Int32) (hi : i < n ∧ n < 2 ^ 31) (ho : cAt D x (.inr (19 + wi, [.ref y])) H) (hy : cAt D y (.inl (dA (shT wi), n, .inl g)) H) (hRf : 1 ≤ R.frames) (hRl : 22 ≤ R.locals) (hRc : cells ≤ R.cells) (hRs : slots ≤ R.slots) (hsize : ls.size = nL) (hW : (rest.map fun v => v.category).sum ≤ 8) (hdg : decode cc pc = .ok (.invokevirtual idx, 3))
    (kk : ∀ (H1 : Heap) (locs1 : List Loc), cAt D y (.inl (dA (shT wi), n, .inl (upd g i (narF (shB wi) v)))) H1 → (∀ q, q < H.size → ¬ q = y → H1[q]? = H[q]?) → va_S A H0 H1 locs1 → W p l e R s m args below meth c H1 locs1 cells slots Q (F0 m (pc + 3) ls rest)) : W p l e R s m args below meth c H locs cells slots Q (F0 m pc ls (.int v :: .int (nI i) :: .ref x :: rest)) := by
  have nq := hK.D 6 rfl
  rcases (show wi = 0 ∨ wi = 1 ∨ wi = 2 by omega) with rfl | rfl | rfl
  · refine cg_callU (x := ySh_put) (y := yX22_put) (b := x) (C := RX22) (owner := RX21) (As := [.int (nI i), .int v]) hx hb hml hown hts hK hS (sh_put_0 D dA x y n g i v hi) ⟨ho, hy⟩ (fun q hq => by rw [hq]; exact hyA) (ho.recv hK rfl) (fun R hf hl => va_cwA 2 hts (lw_app (lw_5 h1 q1325 q1326 q1327 q94) (lw_meth q1328)) rfl rfl rfl nq nv_sh_put ⟨hf, hl⟩) rfl (by omega) (by omega) (by omega) (by omega) hsize rfl hW hdg ?_
    intro v' H1 locs1 hq hz hk hS1
    obtain ⟨rfl, hq⟩ := hq
    exact kk H1 locs1 hq hk hS1
  · refine cg_callU (x := ySh_put) (y := yX23_put) (b := x) (C := RX23) (owner := RX21) (As := [.int (nI i), .int v]) hx hb hml hown hts hK hS (sh_put_1 D dA x y n g i v hi) ⟨ho, hy⟩ (fun q hq => by rw [hq]; exact hyA) (ho.recv hK rfl) (fun R hf hl => va_cwA 2 hts (lw_app (lw_5 h1 q1325 q1332 q1333 q95) (lw_meth q1334)) rfl rfl rfl nq nv_sh_put ⟨hf, hl⟩) rfl (by omega) (by omega) (by omega) (by omega) hsize rfl hW hdg ?_
    intro v' H1 locs1 hq hz hk hS1
    obtain ⟨rfl, hq⟩ := hq
    exact kk H1 locs1 hq hk hS1
  · refine cg_callU (x := ySh_put) (y := yX24_put) (b := x) (C := RX24) (owner := RX21) (As := [.int (nI i), .int v]) hx hb hml hown hts hK hS (sh_put_2 D dA x y n g i v hi) ⟨ho, hy⟩ (fun q hq => by rw [hq]; exact hyA) (ho.recv hK rfl) (fun R hf hl => va_cwA 2 hts (lw_app (lw_5 h1 q1325 q1329 q1330 q96) (lw_meth q1331)) rfl rfl rfl nq nv_sh_put ⟨hf, hl⟩) rfl (by omega) (by omega) (by omega) (by omega) hsize rfl hW hdg ?_
    intro v' H1 locs1 hq hz hk hS1
    obtain ⟨rfl, hq⟩ := hq
    exact kk H1 locs1 hq hk hS1
end SHD
