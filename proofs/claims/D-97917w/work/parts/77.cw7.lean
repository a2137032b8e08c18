/-! Meadow.become: copies of rows -/
set_option maxRecDepth 100000
section BCA
variable {p : Program} {l : Launch} {e : Env} {R : Room} {s : State} {m : MethodId} {args : Array Value} {below : List Frame} {meth : Method} {c : Code} {H H0 : Heap} {locs : List Loc} {cells slots : Nat} {Q : State → Prop}
variable {cc : ByteArray} {pc : Nat} {ls : Array Slot} {rest : List Value} {D : va_G} {dA : Nat → ClassId} {A : Nat → Prop} {ws : va_W}
theorem any_of {C E : String} {x : Nat} (hc : va_Nw (.castable C E) s) (hr : ∃ cell : Cell, H[x]? = some cell ∧ cell.vm.isStatics = false ∧ s.vm.findClass C = some cell.cls) : va_Any E s H x := by
  obtain ⟨cell, h1, h2, h3⟩ := hr
  obtain ⟨c9, t9, w1, w2, w3⟩ := Cond.castable_spec hc
  obtain ⟨kC, hkC, -⟩ := Vm.findClass_spec h3
  refine ⟨cell, h1, h2, ⟨kC, hkC⟩, fun comp h => ?_⟩
  rw [h3] at w1
  rw [h] at w2
  cases w1
  cases w2
  exact w3
theorem asg_self (vm : Vm) (c : ClassId) : vm.assignable c c = true := by
  unfold Vm.assignable Vm.assignableAux
  simp
theorem any_self {C : String} {x : Nat} (hr : ∃ cell : Cell, H[x]? = some cell ∧ cell.vm.isStatics = false ∧ s.vm.findClass C = some cell.cls) : va_Any C s H x := by
  obtain ⟨cell, h1, h2, h3⟩ := hr
  obtain ⟨kC, hkC, -⟩ := Vm.findClass_spec h3
  refine ⟨cell, h1, h2, ⟨kC, hkC⟩, fun comp h => ?_⟩
  rw [h3] at h
  cases h
  exact asg_self _ _
theorem any_cow (hK : cmK D dA s) {k x : Nat} (hk : k ≤ 6) {fs : List Value} (ho : cAt D x (.inr (10 + k, fs)) H) : va_Any "MeadowMilk$Cow" s H x := by
  have n1 := hK.C 38 rfl
  have n2 := hK.C 30 rfl
  have n3 := hK.C 25 rfl
  have n4 := hK.C 19 rfl
  have n5 := hK.C 13 rfl
  have n6 := hK.C 8 rfl
  rcases (show k = 0 ∨ k = 1 ∨ k = 2 ∨ k = 3 ∨ k = 4 ∨ k = 5 ∨ k = 6 by omega) with rfl | rfl | rfl | rfl | rfl | rfl | rfl
  · exact any_self (ho.recv hK rfl)
  · exact any_of (by first | exact n1 | exact n2 | exact n3 | exact n4 | exact n5 | exact n6) (ho.recv (C := RX10) hK rfl)
  · exact any_of (by first | exact n1 | exact n2 | exact n3 | exact n4 | exact n5 | exact n6) (ho.recv (C := RX11) hK rfl)
  · exact any_of (by first | exact n1 | exact n2 | exact n3 | exact n4 | exact n5 | exact n6) (ho.recv (C := RX12) hK rfl)
  · exact any_of (by first | exact n1 | exact n2 | exact n3 | exact n4 | exact n5 | exact n6) (ho.recv (C := RX13) hK rfl)
  · exact any_of (by first | exact n1 | exact n2 | exact n3 | exact n4 | exact n5 | exact n6) (ho.recv (C := RX14) hK rfl)
  · exact any_of (by first | exact n1 | exact n2 | exact n3 | exact n4 | exact n5 | exact n6) (ho.recv (C := RX15) hK rfl)
theorem any_term (hK : cmK D dA s) {B : Nat → Prop} {n x : Nat} {F : (Nat → Int32) → Int32} (ho : TmOK D B n H x F) : va_Any "MeadowMilk$Term" s H x := by
  have n1 := hK.C 6 rfl
  have n2 := hK.C 24 rfl
  have n3 := hK.C 36 rfl
  have n4 := hK.C 37 rfl
  cases n with
  | zero => exact ho.elim
  | succ n =>
    rcases ho.2 with ⟨v, h, -⟩ | ⟨k, -, h, -⟩ | ⟨y, G, h, -⟩ | ⟨sg, y, z, G, K, -, h, -⟩
    · exact any_of n1 (h.recv (C := RX20) hK rfl)
    · exact any_of n2 (h.recv (C := RX17) hK rfl)
    · exact any_of n3 (h.recv (C := RX19) hK rfl)
    · exact any_of n4 (h.recv (C := RX8) hK rfl)
theorem g_copyi {nL idx a a0 : Nat} {own : String} (hx : p.tables.exec = Jvm.exec) (hb : c.code = cc) (hml : c.maxLocals = nL) (hown : s.vm.findClass own = some m.cls) (hts : ∀ w ∈ lw_all, w.before args s = true) (hK : cmK D dA s) (h1 : Cond.methodLink own idx arraycopyName ∈ lw_all) (hM : gH D A ws H0 H locs) (q0 q1 : Nat) {n : Nat} {f g : Nat → Int32} (ha0 : ws[q0]? = some (a0, .inl (dA 0, n, .inl f))) (ha1 : ws[q1]? = some (a, .inl (dA 0, n, .inl g))) (hn : n < 2 ^ 31) (hRf : 1 ≤ R.frames) (hRl : 40 ≤ R.locals) (hsize : ls.size = nL) (hW : (rest.map fun v => v.category).sum ≤ 8) (hdg : decode cc pc = .ok (.invokestatic idx, 3))
    (kk : ∀ (H1 : Heap) (locs1 : List Loc), gH D A (ws.set q1 (a, .inl (dA 0, n, .inl (va_cpy f g 0 0 n)))) H0 H1 locs1 → W p l e R s m args below meth c H1 locs1 cells slots Q (F0 m (pc + 3) ls rest)) : W p l e R s m args below meth c H locs cells slots Q (F0 m pc ls (.int (nI n) :: .int (nI 0) :: .ref a :: .int (nI 0) :: .ref a0 :: rest)) := by
  have hc : (nI n).toNatClampNeg = n := nI_clamp hn
  have hc0 : (nI 0).toNatClampNeg = 0 := by decide
  have hn0 : ¬ (nI n) < 0 := by
    intro q
    have := Int32.lt_iff_toInt_lt.mp q
    rw [nI_toInt hn] at this
    simp at this
    omega
  refine va_copyi hx hb (hml.trans hsize.symm) hown (hts _ h1) (hts _ q981) (hts _ q980) (hts _ q92) hK.1 hM.1 hM.2.1 hM.2.2 q0 q1 0 0 (ty := .int) ha0 ha1 rfl rfl rfl (by decide) (by decide) hn0 (by rw [hc, hc0]; omega) (by rw [hc, hc0]; omega) (fun _ _ => rfl) hRf ?_ hdg (fun H1 locs1 hP hD hS => ?_)
  · have : nativeFrameWords "java/lang/System" "arraycopy" 5 + 11 ≤ 32 := by decide
    omega
  · rw [hc, hc0] at hP hD
    exact kk H1 locs1 ⟨hP, hD, hS⟩
theorem g_copyb {nL idx a a0 : Nat} {own : String} (hx : p.tables.exec = Jvm.exec) (hb : c.code = cc) (hml : c.maxLocals = nL) (hown : s.vm.findClass own = some m.cls) (hts : ∀ w ∈ lw_all, w.before args s = true) (hK : cmK D dA s) (h1 : Cond.methodLink own idx arraycopyName ∈ lw_all) (hM : gH D A ws H0 H locs) (q0 q1 : Nat) {n : Nat} {f g : Nat → Int32} (ha0 : ws[q0]? = some (a0, .inl (dA 1, n, .inl f))) (ha1 : ws[q1]? = some (a, .inl (dA 1, n, .inl g))) (hfb : ∀ i, i < n → fits .byte (.int (f i)) = true) (hn : n < 2 ^ 31) (hRf : 1 ≤ R.frames) (hRl : 40 ≤ R.locals) (hsize : ls.size = nL) (hW : (rest.map fun v => v.category).sum ≤ 8) (hdg : decode cc pc = .ok (.invokestatic idx, 3))
    (kk : ∀ (H1 : Heap) (locs1 : List Loc), gH D A (ws.set q1 (a, .inl (dA 1, n, .inl (va_cpy f g 0 0 n)))) H0 H1 locs1 → W p l e R s m args below meth c H1 locs1 cells slots Q (F0 m (pc + 3) ls rest)) : W p l e R s m args below meth c H locs cells slots Q (F0 m pc ls (.int (nI n) :: .int (nI 0) :: .ref a :: .int (nI 0) :: .ref a0 :: rest)) := by
  have hc : (nI n).toNatClampNeg = n := nI_clamp hn
  have hc0 : (nI 0).toNatClampNeg = 0 := by decide
  have hn0 : ¬ (nI n) < 0 := by
    intro q
    have := Int32.lt_iff_toInt_lt.mp q
    rw [nI_toInt hn] at this
    simp at this
    omega
  refine va_copyi hx hb (hml.trans hsize.symm) hown (hts _ h1) (hts _ q981) (hts _ q980) (hts _ q92) hK.1 hM.1 hM.2.1 hM.2.2 q0 q1 1 1 (ty := .byte) ha0 ha1 rfl rfl rfl (by decide) (by decide) hn0 (by rw [hc, hc0]; omega) (by rw [hc, hc0]; omega) (fun i hi => by rw [hc] at hi; rw [hc0, Nat.zero_add]; exact hfb i hi) hRf ?_ hdg (fun H1 locs1 hP hD hS => ?_)
  · have : nativeFrameWords "java/lang/System" "arraycopy" 5 + 11 ≤ 32 := by decide
    omega
  · rw [hc, hc0] at hP hD
    exact kk H1 locs1 ⟨hP, hD, hS⟩
theorem g_copyq {nL idx a a0 : Nat} {own : String} (hx : p.tables.exec = Jvm.exec) (hb : c.code = cc) (hml : c.maxLocals = nL) (hown : s.vm.findClass own = some m.cls) (hts : ∀ w ∈ lw_all, w.before args s = true) (hK : cmK D dA s) (h1 : Cond.methodLink own idx arraycopyName ∈ lw_all) (hM : gH D A ws H0 H locs) (q0 q1 : Nat) {n : Nat} {f g : Nat → Option Nat} {E1 : String} {t0 : Nat} (ha0 : ws[q0]? = some (a0, .inl (dA t0, n, .inr (.inr (.inr (.inr f)))))) (ha1 : ws[q1]? = some (a, .inl (dA t0, n, .inr (.inr (.inr (.inr g)))))) (ht : (cmTy dA)[t0]? = some (dA t0, .object E1)) (hel : ∀ i, i < n → ∀ y, f i = some y → va_Any E1 s H y) (hn : n < 2 ^ 31) (hRf : 1 ≤ R.frames) (hRl : 40 ≤ R.locals) (hsize : ls.size = nL) (hW : (rest.map fun v => v.category).sum ≤ 8) (hdg : decode cc pc = .ok (.invokestatic idx, 3))
    (kk : ∀ (H1 : Heap) (locs1 : List Loc), gH D A (ws.set q1 (a, .inl (dA t0, n, .inr (.inr (.inr (.inr (va_cpy f g 0 0 n))))))) H0 H1 locs1 → W p l e R s m args below meth c H1 locs1 cells slots Q (F0 m (pc + 3) ls rest)) : W p l e R s m args below meth c H locs cells slots Q (F0 m pc ls (.int (nI n) :: .int (nI 0) :: .ref a :: .int (nI 0) :: .ref a0 :: rest)) := by
  have hc : (nI n).toNatClampNeg = n := nI_clamp hn
  have hc0 : (nI 0).toNatClampNeg = 0 := by decide
  have hn0 : ¬ (nI n) < 0 := by
    intro q
    have := Int32.lt_iff_toInt_lt.mp q
    rw [nI_toInt hn] at this
    simp at this
    omega
  refine va_copyM hx hb (hml.trans hsize.symm) hown (hts _ h1) (hts _ q981) (hts _ q980) (hts _ q92) hK.1 hM.1 hM.2.1 hM.2.2 q0 q1 t0 t0 ha0 ha1 ht ht (by decide) (by decide) hn0 (by rw [hc, hc0]; omega) (by rw [hc, hc0]; omega) (fun i hi y hy => by rw [hc] at hi; rw [hc0, Nat.zero_add] at hy; exact hel i hi y hy) hRf ?_ hdg (fun H1 locs1 hP hD hS => ?_)
  · have : nativeFrameWords "java/lang/System" "arraycopy" 5 + 11 ≤ 32 := by decide
    omega
  · rw [hc, hc0] at hP hD
    exact kk H1 locs1 ⟨hP, hD, hS⟩
end BCA
theorem cpy_in {α : Type} {f g : Nat → α} {n k : Nat} (h : k < n) : va_cpy f g 0 0 n k = f k := by
  unfold va_cpy
  rw [if_pos ⟨Nat.zero_le _, by omega⟩]
  simp
theorem fits_b (x : Int32) : fits .byte (.int x.toInt8.toInt32) = true := by
  have h1 := Int8.le_toInt x.toInt8
  have h2 := Int8.toInt_lt x.toInt8
  simp only [fits, Bool.and_eq_true, decide_eq_true_eq]
  rw [Int32.le_iff_toInt_le, Int32.le_iff_toInt_le, Int8.toInt_toInt32]
  exact ⟨h1, by show _ ≤ (127 : Int); omega⟩
