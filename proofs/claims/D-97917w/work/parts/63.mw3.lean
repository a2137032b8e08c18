/-! the meadow: what is written (printed) -/
set_option maxRecDepth 100000
section MWD
variable {p : Program} {l : Launch} {e : Env} {R : Room} {s : State} {m : MethodId} {args : Array Value} {below : List Frame} {meth : Method} {c : Code} {H H0 : Heap} {locs : List Loc} {cells slots : Nat} {Q : State → Prop}
variable {cc : ByteArray} {pc : Nat} {ls : Array Slot} {rest : List Value} {D : va_G} {dA : Nat → ClassId} {h : Nat → Nat} {r r1 r2 : Nat → Int32} {cw tx : Nat → Option Nat} {nm : Nat → Int32}
theorem mw_up_mark (r : Nat → Int32) (c0 : Nat) (hc : c0 < 25) (x : Int32) : (∀ k, k < 6 → r k = upd r (8 + c0) x k) ∧ ∀ j k, mwJ j → k < mwLn j → va_up (mwAr r) 1 (upd (mwAr r 1) (c0) (x)) j k = mwAr (upd r (8 + c0) x) j k := by
  refine ⟨fun k hk => (pk_un (by omega)).symm, fun j k hj hk => ?_⟩
  rcases hj with rfl | rfl | rfl | rfl | rfl | rfl | rfl
  · have hk : k < 25 := hk
    show upd (mwAr r 1) (c0) x k = upd r (8 + c0) x (8 + k)
    by_cases hkk : k = c0
    · subst hkk; rw [pk_us, pk_us]
    · rw [pk_un hkk, pk_un (by omega)]; rfl
  · have hk : k < 25 := hk
    show r (33 + k) = upd r (8 + c0) x (33 + k)
    exact (pk_un (by omega)).symm
  · have hk : k < 5 := hk
    show r (58 + 14 * k + 2) = upd r (8 + c0) x (58 + 14 * k + 2)
    exact (pk_un (by omega)).symm
  · have hk : k < 60 := hk
    show mwMk r k = mwMk (upd r (8 + c0) x) k
    unfold mwMk
    by_cases h10 : k % 12 < 10
    · rw [if_pos h10, if_pos h10, pk_un (by omega)]
    · rw [if_neg h10, if_neg h10]
  · have hk : k < 5 := hk
    show r (58 + 14 * k + 3) = upd r (8 + c0) x (58 + 14 * k + 3)
    exact (pk_un (by omega)).symm
  · have hk : k < 50 := hk
    show (r (128 + k)).toInt8.toInt32 = (upd r (8 + c0) x (128 + k)).toInt8.toInt32
    rw [pk_un (by omega)]
  · have hk : k < 20 := hk
    show r (178 + k) = upd r (8 + c0) x (178 + k)
    exact (pk_un (by omega)).symm
theorem mw_up_grass (r : Nat → Int32) (c0 : Nat) (hc : c0 < 25) (x : Int32) : (∀ k, k < 6 → r k = upd r (33 + c0) x k) ∧ ∀ j k, mwJ j → k < mwLn j → va_up (mwAr r) 2 (upd (mwAr r 2) (c0) (x)) j k = mwAr (upd r (33 + c0) x) j k := by
  refine ⟨fun k hk => (pk_un (by omega)).symm, fun j k hj hk => ?_⟩
  rcases hj with rfl | rfl | rfl | rfl | rfl | rfl | rfl
  · have hk : k < 25 := hk
    show r (8 + k) = upd r (33 + c0) x (8 + k)
    exact (pk_un (by omega)).symm
  · have hk : k < 25 := hk
    show upd (mwAr r 2) (c0) x k = upd r (33 + c0) x (33 + k)
    by_cases hkk : k = c0
    · subst hkk; rw [pk_us, pk_us]
    · rw [pk_un hkk, pk_un (by omega)]; rfl
  · have hk : k < 5 := hk
    show r (58 + 14 * k + 2) = upd r (33 + c0) x (58 + 14 * k + 2)
    exact (pk_un (by omega)).symm
  · have hk : k < 60 := hk
    show mwMk r k = mwMk (upd r (33 + c0) x) k
    unfold mwMk
    by_cases h10 : k % 12 < 10
    · rw [if_pos h10, if_pos h10, pk_un (by omega)]
    · rw [if_neg h10, if_neg h10]
  · have hk : k < 5 := hk
    show r (58 + 14 * k + 3) = upd r (33 + c0) x (58 + 14 * k + 3)
    exact (pk_un (by omega)).symm
  · have hk : k < 50 := hk
    show (r (128 + k)).toInt8.toInt32 = (upd r (33 + c0) x (128 + k)).toInt8.toInt32
    rw [pk_un (by omega)]
  · have hk : k < 20 := hk
    show r (178 + k) = upd r (33 + c0) x (178 + k)
    exact (pk_un (by omega)).symm
theorem mw_up_at (r : Nat → Int32) (c0 : Nat) (hc : c0 < 5) (x : Int32) : (∀ k, k < 6 → r k = upd r (58 + 14 * c0 + 2) x k) ∧ ∀ j k, mwJ j → k < mwLn j → va_up (mwAr r) 4 (upd (mwAr r 4) (c0) (x)) j k = mwAr (upd r (58 + 14 * c0 + 2) x) j k := by
  refine ⟨fun k hk => (pk_un (by omega)).symm, fun j k hj hk => ?_⟩
  rcases hj with rfl | rfl | rfl | rfl | rfl | rfl | rfl
  · have hk : k < 25 := hk
    show r (8 + k) = upd r (58 + 14 * c0 + 2) x (8 + k)
    exact (pk_un (by omega)).symm
  · have hk : k < 25 := hk
    show r (33 + k) = upd r (58 + 14 * c0 + 2) x (33 + k)
    exact (pk_un (by omega)).symm
  · have hk : k < 5 := hk
    show upd (mwAr r 4) (c0) x k = upd r (58 + 14 * c0 + 2) x (58 + 14 * k + 2)
    by_cases hkk : k = c0
    · subst hkk; rw [pk_us, pk_us]
    · rw [pk_un hkk, pk_un (by omega)]; rfl
  · have hk : k < 60 := hk
    show mwMk r k = mwMk (upd r (58 + 14 * c0 + 2) x) k
    unfold mwMk
    by_cases h10 : k % 12 < 10
    · rw [if_pos h10, if_pos h10, pk_un (by omega)]
    · rw [if_neg h10, if_neg h10]
  · have hk : k < 5 := hk
    show r (58 + 14 * k + 3) = upd r (58 + 14 * c0 + 2) x (58 + 14 * k + 3)
    exact (pk_un (by omega)).symm
  · have hk : k < 50 := hk
    show (r (128 + k)).toInt8.toInt32 = (upd r (58 + 14 * c0 + 2) x (128 + k)).toInt8.toInt32
    rw [pk_un (by omega)]
  · have hk : k < 20 := hk
    show r (178 + k) = upd r (58 + 14 * c0 + 2) x (178 + k)
    exact (pk_un (by omega)).symm
theorem mw_up_milk (r : Nat → Int32) (w i : Nat) (hw : w < 5) (hi : i < 10) (x : Int32) : (∀ k, k < 6 → r k = upd r (58 + 14 * w + (4 + i)) x k) ∧ ∀ j k, mwJ j → k < mwLn j → va_up (mwAr r) 5 (upd (mwAr r 5) (12 * w + i) (x)) j k = mwAr (upd r (58 + 14 * w + (4 + i)) x) j k := by
  refine ⟨fun k hk => (pk_un (by omega)).symm, fun j k hj hk => ?_⟩
  rcases hj with rfl | rfl | rfl | rfl | rfl | rfl | rfl
  · have hk : k < 25 := hk
    show r (8 + k) = upd r (58 + 14 * w + (4 + i)) x (8 + k)
    exact (pk_un (by omega)).symm
  · have hk : k < 25 := hk
    show r (33 + k) = upd r (58 + 14 * w + (4 + i)) x (33 + k)
    exact (pk_un (by omega)).symm
  · have hk : k < 5 := hk
    show r (58 + 14 * k + 2) = upd r (58 + 14 * w + (4 + i)) x (58 + 14 * k + 2)
    exact (pk_un (by omega)).symm
  · have hk : k < 60 := hk
    show upd (mwAr r 5) (12 * w + i) x k = mwMk (upd r (58 + 14 * w + (4 + i)) x) k
    by_cases hkk : k = 12 * w + i
    · subst hkk; rw [pk_us, mwMk_at hi, pk_us]
    · rw [pk_un hkk]
      show mwMk r k = _
      unfold mwMk
      by_cases h10 : k % 12 < 10
      · rw [if_pos h10, if_pos h10, pk_un (by omega)]
      · rw [if_neg h10, if_neg h10]
  · have hk : k < 5 := hk
    show r (58 + 14 * k + 3) = upd r (58 + 14 * w + (4 + i)) x (58 + 14 * k + 3)
    exact (pk_un (by omega)).symm
  · have hk : k < 50 := hk
    show (r (128 + k)).toInt8.toInt32 = (upd r (58 + 14 * w + (4 + i)) x (128 + k)).toInt8.toInt32
    rw [pk_un (by omega)]
  · have hk : k < 20 := hk
    show r (178 + k) = upd r (58 + 14 * w + (4 + i)) x (178 + k)
    exact (pk_un (by omega)).symm
theorem mw_up_many (r : Nat → Int32) (c0 : Nat) (hc : c0 < 5) (x : Int32) : (∀ k, k < 6 → r k = upd r (58 + 14 * c0 + 3) x k) ∧ ∀ j k, mwJ j → k < mwLn j → va_up (mwAr r) 6 (upd (mwAr r 6) (c0) (x)) j k = mwAr (upd r (58 + 14 * c0 + 3) x) j k := by
  refine ⟨fun k hk => (pk_un (by omega)).symm, fun j k hj hk => ?_⟩
  rcases hj with rfl | rfl | rfl | rfl | rfl | rfl | rfl
  · have hk : k < 25 := hk
    show r (8 + k) = upd r (58 + 14 * c0 + 3) x (8 + k)
    exact (pk_un (by omega)).symm
  · have hk : k < 25 := hk
    show r (33 + k) = upd r (58 + 14 * c0 + 3) x (33 + k)
    exact (pk_un (by omega)).symm
  · have hk : k < 5 := hk
    show r (58 + 14 * k + 2) = upd r (58 + 14 * c0 + 3) x (58 + 14 * k + 2)
    exact (pk_un (by omega)).symm
  · have hk : k < 60 := hk
    show mwMk r k = mwMk (upd r (58 + 14 * c0 + 3) x) k
    unfold mwMk
    by_cases h10 : k % 12 < 10
    · rw [if_pos h10, if_pos h10, pk_un (by omega)]
    · rw [if_neg h10, if_neg h10]
  · have hk : k < 5 := hk
    show upd (mwAr r 6) (c0) x k = upd r (58 + 14 * c0 + 3) x (58 + 14 * k + 3)
    by_cases hkk : k = c0
    · subst hkk; rw [pk_us, pk_us]
    · rw [pk_un hkk, pk_un (by omega)]; rfl
  · have hk : k < 50 := hk
    show (r (128 + k)).toInt8.toInt32 = (upd r (58 + 14 * c0 + 3) x (128 + k)).toInt8.toInt32
    rw [pk_un (by omega)]
  · have hk : k < 20 := hk
    show r (178 + k) = upd r (58 + 14 * c0 + 3) x (178 + k)
    exact (pk_un (by omega)).symm
theorem mw_up_tape (r : Nat → Int32) (c0 : Nat) (hc : c0 < 50) (x : Int32) : (∀ k, k < 6 → r k = upd r (128 + c0) x k) ∧ ∀ j k, mwJ j → k < mwLn j → va_up (mwAr r) 8 (upd (mwAr r 8) (c0) (x.toInt8.toInt32)) j k = mwAr (upd r (128 + c0) x) j k := by
  refine ⟨fun k hk => (pk_un (by omega)).symm, fun j k hj hk => ?_⟩
  rcases hj with rfl | rfl | rfl | rfl | rfl | rfl | rfl
  · have hk : k < 25 := hk
    show r (8 + k) = upd r (128 + c0) x (8 + k)
    exact (pk_un (by omega)).symm
  · have hk : k < 25 := hk
    show r (33 + k) = upd r (128 + c0) x (33 + k)
    exact (pk_un (by omega)).symm
  · have hk : k < 5 := hk
    show r (58 + 14 * k + 2) = upd r (128 + c0) x (58 + 14 * k + 2)
    exact (pk_un (by omega)).symm
  · have hk : k < 60 := hk
    show mwMk r k = mwMk (upd r (128 + c0) x) k
    unfold mwMk
    by_cases h10 : k % 12 < 10
    · rw [if_pos h10, if_pos h10, pk_un (by omega)]
    · rw [if_neg h10, if_neg h10]
  · have hk : k < 5 := hk
    show r (58 + 14 * k + 3) = upd r (128 + c0) x (58 + 14 * k + 3)
    exact (pk_un (by omega)).symm
  · have hk : k < 50 := hk
    show upd (mwAr r 8) (c0) (x.toInt8.toInt32) k = (upd r (128 + c0) x (128 + k)).toInt8.toInt32
    by_cases hkk : k = c0
    · subst hkk; rw [pk_us, pk_us]
    · rw [pk_un hkk, pk_un (by omega)]; rfl
  · have hk : k < 20 := hk
    show r (178 + k) = upd r (128 + c0) x (178 + k)
    exact (pk_un (by omega)).symm
theorem mw_up_waiting (r : Nat → Int32) (c0 : Nat) (hc : c0 < 20) (x : Int32) : (∀ k, k < 6 → r k = upd r (178 + c0) x k) ∧ ∀ j k, mwJ j → k < mwLn j → va_up (mwAr r) 9 (upd (mwAr r 9) (c0) (x)) j k = mwAr (upd r (178 + c0) x) j k := by
  refine ⟨fun k hk => (pk_un (by omega)).symm, fun j k hj hk => ?_⟩
  rcases hj with rfl | rfl | rfl | rfl | rfl | rfl | rfl
  · have hk : k < 25 := hk
    show r (8 + k) = upd r (178 + c0) x (8 + k)
    exact (pk_un (by omega)).symm
  · have hk : k < 25 := hk
    show r (33 + k) = upd r (178 + c0) x (33 + k)
    exact (pk_un (by omega)).symm
  · have hk : k < 5 := hk
    show r (58 + 14 * k + 2) = upd r (178 + c0) x (58 + 14 * k + 2)
    exact (pk_un (by omega)).symm
  · have hk : k < 60 := hk
    show mwMk r k = mwMk (upd r (178 + c0) x) k
    unfold mwMk
    by_cases h10 : k % 12 < 10
    · rw [if_pos h10, if_pos h10, pk_un (by omega)]
    · rw [if_neg h10, if_neg h10]
  · have hk : k < 5 := hk
    show r (58 + 14 * k + 3) = upd r (178 + c0) x (58 + 14 * k + 3)
    exact (pk_un (by omega)).symm
  · have hk : k < 50 := hk
    show (r (128 + k)).toInt8.toInt32 = (upd r (178 + c0) x (128 + k)).toInt8.toInt32
    rw [pk_un (by omega)]
  · have hk : k < 20 := hk
    show upd (mwAr r 9) (c0) x k = upd r (178 + c0) x (178 + k)
    by_cases hkk : k = c0
    · subst hkk; rw [pk_us, pk_us]
    · rw [pk_un hkk, pk_un (by omega)]; rfl
theorem mw_ast_mark (hx : p.tables.exec = Jvm.exec) (hb : c.code = cc) (hK : cmK D dA s) (hI : mwI h) (hM : mwH D h dA H0 H locs r cw tx nm) {i x : Int32} (c0 : Nat) (hi : c0 < 25 ∧ i = nI c0) (hdg : decode cc pc = .ok (.iastore, 1))
    (kk : ∀ (H1 : Heap) (locs1 : List Loc), mwH D h dA H0 H1 locs1 (upd r (8 + c0) x) cw tx nm → W p l e R s m args below meth c H1 locs1 cells slots Q (F0 m (pc + 1) ls rest)) : W p l e R s m args below meth c H locs cells slots Q (F0 m pc ls (.int x :: .int i :: .ref (h 1) :: rest)) :=
  g_iast hx hb hK hM 1 rfl c0 ⟨hi.1, by decide, hi.2⟩ hdg (fun H1 locs1 hM1 => kk H1 locs1 (mwH.cong hI (g := r) (a := va_up (mwAr r) 1 (upd (mwAr r 1) c0 x)) hM1 (mw_up_mark r c0 hi.1 x).1 (mw_up_mark r c0 hi.1 x).2))
theorem mw_ast_grass (hx : p.tables.exec = Jvm.exec) (hb : c.code = cc) (hK : cmK D dA s) (hI : mwI h) (hM : mwH D h dA H0 H locs r cw tx nm) {i x : Int32} (c0 : Nat) (hi : c0 < 25 ∧ i = nI c0) (hdg : decode cc pc = .ok (.iastore, 1))
    (kk : ∀ (H1 : Heap) (locs1 : List Loc), mwH D h dA H0 H1 locs1 (upd r (33 + c0) x) cw tx nm → W p l e R s m args below meth c H1 locs1 cells slots Q (F0 m (pc + 1) ls rest)) : W p l e R s m args below meth c H locs cells slots Q (F0 m pc ls (.int x :: .int i :: .ref (h 2) :: rest)) :=
  g_iast hx hb hK hM 2 rfl c0 ⟨hi.1, by decide, hi.2⟩ hdg (fun H1 locs1 hM1 => kk H1 locs1 (mwH.cong hI (g := r) (a := va_up (mwAr r) 2 (upd (mwAr r 2) c0 x)) hM1 (mw_up_grass r c0 hi.1 x).1 (mw_up_grass r c0 hi.1 x).2))
theorem mw_ast_at (hx : p.tables.exec = Jvm.exec) (hb : c.code = cc) (hK : cmK D dA s) (hI : mwI h) (hM : mwH D h dA H0 H locs r cw tx nm) {i x : Int32} (c0 : Nat) (hi : c0 < 5 ∧ i = nI c0) (hdg : decode cc pc = .ok (.iastore, 1))
    (kk : ∀ (H1 : Heap) (locs1 : List Loc), mwH D h dA H0 H1 locs1 (upd r (58 + 14 * c0 + 2) x) cw tx nm → W p l e R s m args below meth c H1 locs1 cells slots Q (F0 m (pc + 1) ls rest)) : W p l e R s m args below meth c H locs cells slots Q (F0 m pc ls (.int x :: .int i :: .ref (h 4) :: rest)) :=
  g_iast hx hb hK hM 4 rfl c0 ⟨hi.1, by decide, hi.2⟩ hdg (fun H1 locs1 hM1 => kk H1 locs1 (mwH.cong hI (g := r) (a := va_up (mwAr r) 4 (upd (mwAr r 4) c0 x)) hM1 (mw_up_at r c0 hi.1 x).1 (mw_up_at r c0 hi.1 x).2))
theorem mw_ast_many (hx : p.tables.exec = Jvm.exec) (hb : c.code = cc) (hK : cmK D dA s) (hI : mwI h) (hM : mwH D h dA H0 H locs r cw tx nm) {i x : Int32} (c0 : Nat) (hi : c0 < 5 ∧ i = nI c0) (hdg : decode cc pc = .ok (.iastore, 1))
    (kk : ∀ (H1 : Heap) (locs1 : List Loc), mwH D h dA H0 H1 locs1 (upd r (58 + 14 * c0 + 3) x) cw tx nm → W p l e R s m args below meth c H1 locs1 cells slots Q (F0 m (pc + 1) ls rest)) : W p l e R s m args below meth c H locs cells slots Q (F0 m pc ls (.int x :: .int i :: .ref (h 6) :: rest)) :=
  g_iast hx hb hK hM 6 rfl c0 ⟨hi.1, by decide, hi.2⟩ hdg (fun H1 locs1 hM1 => kk H1 locs1 (mwH.cong hI (g := r) (a := va_up (mwAr r) 6 (upd (mwAr r 6) c0 x)) hM1 (mw_up_many r c0 hi.1 x).1 (mw_up_many r c0 hi.1 x).2))
theorem mw_ast_waiting (hx : p.tables.exec = Jvm.exec) (hb : c.code = cc) (hK : cmK D dA s) (hI : mwI h) (hM : mwH D h dA H0 H locs r cw tx nm) {i x : Int32} (c0 : Nat) (hi : c0 < 20 ∧ i = nI c0) (hdg : decode cc pc = .ok (.iastore, 1))
    (kk : ∀ (H1 : Heap) (locs1 : List Loc), mwH D h dA H0 H1 locs1 (upd r (178 + c0) x) cw tx nm → W p l e R s m args below meth c H1 locs1 cells slots Q (F0 m (pc + 1) ls rest)) : W p l e R s m args below meth c H locs cells slots Q (F0 m pc ls (.int x :: .int i :: .ref (h 9) :: rest)) :=
  g_iast hx hb hK hM 9 rfl c0 ⟨hi.1, by decide, hi.2⟩ hdg (fun H1 locs1 hM1 => kk H1 locs1 (mwH.cong hI (g := r) (a := va_up (mwAr r) 9 (upd (mwAr r 9) c0 x)) hM1 (mw_up_waiting r c0 hi.1 x).1 (mw_up_waiting r c0 hi.1 x).2))
theorem mw_ast_milk (hx : p.tables.exec = Jvm.exec) (hb : c.code = cc) (hK : cmK D dA s) (hI : mwI h) (hM : mwH D h dA H0 H locs r cw tx nm) {j x : Int32} (w i : Nat) (hi : w < 5 ∧ i < 10 ∧ j = nI (12 * w + i)) (hdg : decode cc pc = .ok (.iastore, 1))
    (kk : ∀ (H1 : Heap) (locs1 : List Loc), mwH D h dA H0 H1 locs1 (upd r (58 + 14 * w + (4 + i)) x) cw tx nm → W p l e R s m args below meth c H1 locs1 cells slots Q (F0 m (pc + 1) ls rest)) : W p l e R s m args below meth c H locs cells slots Q (F0 m pc ls (.int x :: .int j :: .ref (h 5) :: rest)) :=
  g_iast hx hb hK hM 5 rfl (12 * w + i) ⟨by omega, by decide, hi.2.2⟩ hdg (fun H1 locs1 hM1 => kk H1 locs1 (mwH.cong hI (g := r) (a := va_up (mwAr r) 5 (upd (mwAr r 5) (12 * w + i) x)) hM1 (mw_up_milk r w i hi.1 hi.2.1 x).1 (mw_up_milk r w i hi.1 hi.2.1 x).2))
theorem mw_fl_day (r : Nat → Int32) (x : Int32) : ∀ j k, mwJ j → k < mwLn j → mwAr r j k = mwAr (upd r 0 x) j k := by
  intro j k hj hk
  rcases hj with rfl | rfl | rfl | rfl | rfl | rfl | rfl
  · show r (8 + k) = upd r 0 x (8 + k)
    exact (pk_un (by omega)).symm
  · show r (33 + k) = upd r 0 x (33 + k)
    exact (pk_un (by omega)).symm
  · show r (58 + 14 * k + 2) = upd r 0 x (58 + 14 * k + 2)
    exact (pk_un (by omega)).symm
  · show mwMk r k = mwMk (upd r 0 x) k
    unfold mwMk
    by_cases h10 : k % 12 < 10
    · rw [if_pos h10, if_pos h10, pk_un (by omega)]
    · rw [if_neg h10, if_neg h10]
  · show r (58 + 14 * k + 3) = upd r 0 x (58 + 14 * k + 3)
    exact (pk_un (by omega)).symm
  · show (r (128 + k)).toInt8.toInt32 = (upd r 0 x (128 + k)).toInt8.toInt32
    rw [pk_un (by omega)]
  · show r (178 + k) = upd r 0 x (178 + k)
    exact (pk_un (by omega)).symm
theorem mw_put_day {index : Nat} (hx : p.tables.exec = Jvm.exec) (hb : c.code = cc) (hts : ∀ w ∈ lw_all, w.before args s = true) (hown : s.vm.findClass RX2 = some m.cls) (hK : cmK D dA s) (hI : mwI h) (hM : mwH D h dA H0 H locs r cw tx nm) {x : Int32} (hq : Cond.fieldLink RX2 index RX2 (TX2 8).2.1 (TX2 8).2.2.1 ∈ lw_all) (hdg : decode cc pc = .ok (.putfield index, 3))
    (kk : ∀ (H1 : Heap) (locs1 : List Loc), mwH D h dA H0 H1 locs1 (upd r 0 x) cw tx nm → W p l e R s m args below meth c H1 locs1 cells slots Q (F0 m (pc + 3) ls rest)) : W p l e R s m args below meth c H locs cells slots Q (F0 m pc ls (.int x :: .ref (h 0) :: rest)) :=
  g_put hx hb hts in_X2 tyX2 tyX2_ok nmX2 hown hK hM 0 rfl rfl 8 (by decide) hq rfl rfl rfl rfl (Nat.le_of_ble_eq_true rfl) hdg (fun H1 locs1 hM1 => kk H1 locs1 (mwH.cong hI (g := upd r 0 x) (a := mwAr r) hM1 (fun _ _ => rfl) (mw_fl_day r x)))
theorem mw_putN_day {own host : String} {index : Nat} (hx : p.tables.exec = Jvm.exec) (hb : c.code = cc) (hts : ∀ w ∈ lw_all, w.before args s = true) (hown : s.vm.findClass own = some m.cls) (hK : cmK D dA s) (hI : mwI h) (hM : mwH D h dA H0 H locs r cw tx nm) {x : Int32} (hq : va_Nw (.fieldLinkNest own index RX2 (TX2 8).2.1 (TX2 8).2.2.1 host) s) (hdg : decode cc pc = .ok (.putfield index, 3))
    (kk : ∀ (H1 : Heap) (locs1 : List Loc), mwH D h dA H0 H1 locs1 (upd r 0 x) cw tx nm → W p l e R s m args below meth c H1 locs1 cells slots Q (F0 m (pc + 3) ls rest)) : W p l e R s m args below meth c H locs cells slots Q (F0 m pc ls (.int x :: .ref (h 0) :: rest)) :=
  g_putN hx hb hts in_X2 tyX2 tyX2_ok nmX2 hown hK hM 0 rfl rfl 8 (by decide) hq rfl rfl rfl rfl (Nat.le_of_ble_eq_true rfl) hdg (fun H1 locs1 hM1 => kk H1 locs1 (mwH.cong hI (g := upd r 0 x) (a := mwAr r) hM1 (fun _ _ => rfl) (mw_fl_day r x)))
theorem mw_fl_grows (r : Nat → Int32) (x : Int32) : ∀ j k, mwJ j → k < mwLn j → mwAr r j k = mwAr (upd r 1 x) j k := by
  intro j k hj hk
  rcases hj with rfl | rfl | rfl | rfl | rfl | rfl | rfl
  · show r (8 + k) = upd r 1 x (8 + k)
    exact (pk_un (by omega)).symm
  · show r (33 + k) = upd r 1 x (33 + k)
    exact (pk_un (by omega)).symm
  · show r (58 + 14 * k + 2) = upd r 1 x (58 + 14 * k + 2)
    exact (pk_un (by omega)).symm
  · show mwMk r k = mwMk (upd r 1 x) k
    unfold mwMk
    by_cases h10 : k % 12 < 10
    · rw [if_pos h10, if_pos h10, pk_un (by omega)]
    · rw [if_neg h10, if_neg h10]
  · show r (58 + 14 * k + 3) = upd r 1 x (58 + 14 * k + 3)
    exact (pk_un (by omega)).symm
  · show (r (128 + k)).toInt8.toInt32 = (upd r 1 x (128 + k)).toInt8.toInt32
    rw [pk_un (by omega)]
  · show r (178 + k) = upd r 1 x (178 + k)
    exact (pk_un (by omega)).symm
theorem mw_put_grows {index : Nat} (hx : p.tables.exec = Jvm.exec) (hb : c.code = cc) (hts : ∀ w ∈ lw_all, w.before args s = true) (hown : s.vm.findClass RX2 = some m.cls) (hK : cmK D dA s) (hI : mwI h) (hM : mwH D h dA H0 H locs r cw tx nm) {x : Int32} (hq : Cond.fieldLink RX2 index RX2 (TX2 2).2.1 (TX2 2).2.2.1 ∈ lw_all) (hdg : decode cc pc = .ok (.putfield index, 3))
    (kk : ∀ (H1 : Heap) (locs1 : List Loc), mwH D h dA H0 H1 locs1 (upd r 1 x) cw tx nm → W p l e R s m args below meth c H1 locs1 cells slots Q (F0 m (pc + 3) ls rest)) : W p l e R s m args below meth c H locs cells slots Q (F0 m pc ls (.int x :: .ref (h 0) :: rest)) :=
  g_put hx hb hts in_X2 tyX2 tyX2_ok nmX2 hown hK hM 0 rfl rfl 2 (by decide) hq rfl rfl rfl rfl (Nat.le_of_ble_eq_true rfl) hdg (fun H1 locs1 hM1 => kk H1 locs1 (mwH.cong hI (g := upd r 1 x) (a := mwAr r) hM1 (fun _ _ => rfl) (mw_fl_grows r x)))
theorem mw_putN_grows {own host : String} {index : Nat} (hx : p.tables.exec = Jvm.exec) (hb : c.code = cc) (hts : ∀ w ∈ lw_all, w.before args s = true) (hown : s.vm.findClass own = some m.cls) (hK : cmK D dA s) (hI : mwI h) (hM : mwH D h dA H0 H locs r cw tx nm) {x : Int32} (hq : va_Nw (.fieldLinkNest own index RX2 (TX2 2).2.1 (TX2 2).2.2.1 host) s) (hdg : decode cc pc = .ok (.putfield index, 3))
    (kk : ∀ (H1 : Heap) (locs1 : List Loc), mwH D h dA H0 H1 locs1 (upd r 1 x) cw tx nm → W p l e R s m args below meth c H1 locs1 cells slots Q (F0 m (pc + 3) ls rest)) : W p l e R s m args below meth c H locs cells slots Q (F0 m pc ls (.int x :: .ref (h 0) :: rest)) :=
  g_putN hx hb hts in_X2 tyX2 tyX2_ok nmX2 hown hK hM 0 rfl rfl 2 (by decide) hq rfl rfl rfl rfl (Nat.le_of_ble_eq_true rfl) hdg (fun H1 locs1 hM1 => kk H1 locs1 (mwH.cong hI (g := upd r 1 x) (a := mwAr r) hM1 (fun _ _ => rfl) (mw_fl_grows r x)))
theorem mw_fl_z (r : Nat → Int32) (x : Int32) : ∀ j k, mwJ j → k < mwLn j → mwAr r j k = mwAr (upd r 2 x) j k := by
  intro j k hj hk
  rcases hj with rfl | rfl | rfl | rfl | rfl | rfl | rfl
  · show r (8 + k) = upd r 2 x (8 + k)
    exact (pk_un (by omega)).symm
  · show r (33 + k) = upd r 2 x (33 + k)
    exact (pk_un (by omega)).symm
  · show r (58 + 14 * k + 2) = upd r 2 x (58 + 14 * k + 2)
    exact (pk_un (by omega)).symm
  · show mwMk r k = mwMk (upd r 2 x) k
    unfold mwMk
    by_cases h10 : k % 12 < 10
    · rw [if_pos h10, if_pos h10, pk_un (by omega)]
    · rw [if_neg h10, if_neg h10]
  · show r (58 + 14 * k + 3) = upd r 2 x (58 + 14 * k + 3)
    exact (pk_un (by omega)).symm
  · show (r (128 + k)).toInt8.toInt32 = (upd r 2 x (128 + k)).toInt8.toInt32
    rw [pk_un (by omega)]
  · show r (178 + k) = upd r 2 x (178 + k)
    exact (pk_un (by omega)).symm
theorem mw_put_z {index : Nat} (hx : p.tables.exec = Jvm.exec) (hb : c.code = cc) (hts : ∀ w ∈ lw_all, w.before args s = true) (hown : s.vm.findClass RX2 = some m.cls) (hK : cmK D dA s) (hI : mwI h) (hM : mwH D h dA H0 H locs r cw tx nm) {x : Int32} (hq : Cond.fieldLink RX2 index RX2 (TX2 10).2.1 (TX2 10).2.2.1 ∈ lw_all) (hdg : decode cc pc = .ok (.putfield index, 3))
    (kk : ∀ (H1 : Heap) (locs1 : List Loc), mwH D h dA H0 H1 locs1 (upd r 2 x) cw tx nm → W p l e R s m args below meth c H1 locs1 cells slots Q (F0 m (pc + 3) ls rest)) : W p l e R s m args below meth c H locs cells slots Q (F0 m pc ls (.int x :: .ref (h 0) :: rest)) :=
  g_put hx hb hts in_X2 tyX2 tyX2_ok nmX2 hown hK hM 0 rfl rfl 10 (by decide) hq rfl rfl rfl rfl (Nat.le_of_ble_eq_true rfl) hdg (fun H1 locs1 hM1 => kk H1 locs1 (mwH.cong hI (g := upd r 2 x) (a := mwAr r) hM1 (fun _ _ => rfl) (mw_fl_z r x)))
theorem mw_putN_z {own host : String} {index : Nat} (hx : p.tables.exec = Jvm.exec) (hb : c.code = cc) (hts : ∀ w ∈ lw_all, w.before args s = true) (hown : s.vm.findClass own = some m.cls) (hK : cmK D dA s) (hI : mwI h) (hM : mwH D h dA H0 H locs r cw tx nm) {x : Int32} (hq : va_Nw (.fieldLinkNest own index RX2 (TX2 10).2.1 (TX2 10).2.2.1 host) s) (hdg : decode cc pc = .ok (.putfield index, 3))
    (kk : ∀ (H1 : Heap) (locs1 : List Loc), mwH D h dA H0 H1 locs1 (upd r 2 x) cw tx nm → W p l e R s m args below meth c H1 locs1 cells slots Q (F0 m (pc + 3) ls rest)) : W p l e R s m args below meth c H locs cells slots Q (F0 m pc ls (.int x :: .ref (h 0) :: rest)) :=
  g_putN hx hb hts in_X2 tyX2 tyX2_ok nmX2 hown hK hM 0 rfl rfl 10 (by decide) hq rfl rfl rfl rfl (Nat.le_of_ble_eq_true rfl) hdg (fun H1 locs1 hM1 => kk H1 locs1 (mwH.cong hI (g := upd r 2 x) (a := mwAr r) hM1 (fun _ _ => rfl) (mw_fl_z r x)))
theorem mw_fl_cows (r : Nat → Int32) (x : Int32) : ∀ j k, mwJ j → k < mwLn j → mwAr r j k = mwAr (upd r 3 x) j k := by
  intro j k hj hk
  rcases hj with rfl | rfl | rfl | rfl | rfl | rfl | rfl
  · show r (8 + k) = upd r 3 x (8 + k)
    exact (pk_un (by omega)).symm
  · show r (33 + k) = upd r 3 x (33 + k)
    exact (pk_un (by omega)).symm
  · show r (58 + 14 * k + 2) = upd r 3 x (58 + 14 * k + 2)
    exact (pk_un (by omega)).symm
  · show mwMk r k = mwMk (upd r 3 x) k
    unfold mwMk
    by_cases h10 : k % 12 < 10
    · rw [if_pos h10, if_pos h10, pk_un (by omega)]
    · rw [if_neg h10, if_neg h10]
  · show r (58 + 14 * k + 3) = upd r 3 x (58 + 14 * k + 3)
    exact (pk_un (by omega)).symm
  · show (r (128 + k)).toInt8.toInt32 = (upd r 3 x (128 + k)).toInt8.toInt32
    rw [pk_un (by omega)]
  · show r (178 + k) = upd r 3 x (178 + k)
    exact (pk_un (by omega)).symm
theorem mw_put_cows {index : Nat} (hx : p.tables.exec = Jvm.exec) (hb : c.code = cc) (hts : ∀ w ∈ lw_all, w.before args s = true) (hown : s.vm.findClass RX2 = some m.cls) (hK : cmK D dA s) (hI : mwI h) (hM : mwH D h dA H0 H locs r cw tx nm) {x : Int32} (hq : Cond.fieldLink RX2 index RX2 (TX2 3).2.1 (TX2 3).2.2.1 ∈ lw_all) (hdg : decode cc pc = .ok (.putfield index, 3))
    (kk : ∀ (H1 : Heap) (locs1 : List Loc), mwH D h dA H0 H1 locs1 (upd r 3 x) cw tx nm → W p l e R s m args below meth c H1 locs1 cells slots Q (F0 m (pc + 3) ls rest)) : W p l e R s m args below meth c H locs cells slots Q (F0 m pc ls (.int x :: .ref (h 0) :: rest)) :=
  g_put hx hb hts in_X2 tyX2 tyX2_ok nmX2 hown hK hM 0 rfl rfl 3 (by decide) hq rfl rfl rfl rfl (Nat.le_of_ble_eq_true rfl) hdg (fun H1 locs1 hM1 => kk H1 locs1 (mwH.cong hI (g := upd r 3 x) (a := mwAr r) hM1 (fun _ _ => rfl) (mw_fl_cows r x)))
theorem mw_putN_cows {own host : String} {index : Nat} (hx : p.tables.exec = Jvm.exec) (hb : c.code = cc) (hts : ∀ w ∈ lw_all, w.before args s = true) (hown : s.vm.findClass own = some m.cls) (hK : cmK D dA s) (hI : mwI h) (hM : mwH D h dA H0 H locs r cw tx nm) {x : Int32} (hq : va_Nw (.fieldLinkNest own index RX2 (TX2 3).2.1 (TX2 3).2.2.1 host) s) (hdg : decode cc pc = .ok (.putfield index, 3))
    (kk : ∀ (H1 : Heap) (locs1 : List Loc), mwH D h dA H0 H1 locs1 (upd r 3 x) cw tx nm → W p l e R s m args below meth c H1 locs1 cells slots Q (F0 m (pc + 3) ls rest)) : W p l e R s m args below meth c H locs cells slots Q (F0 m pc ls (.int x :: .ref (h 0) :: rest)) :=
  g_putN hx hb hts in_X2 tyX2 tyX2_ok nmX2 hown hK hM 0 rfl rfl 3 (by decide) hq rfl rfl rfl rfl (Nat.le_of_ble_eq_true rfl) hdg (fun H1 locs1 hM1 => kk H1 locs1 (mwH.cong hI (g := upd r 3 x) (a := mwAr r) hM1 (fun _ _ => rfl) (mw_fl_cows r x)))
theorem mw_fl_taped (r : Nat → Int32) (x : Int32) : ∀ j k, mwJ j → k < mwLn j → mwAr r j k = mwAr (upd r 4 x) j k := by
  intro j k hj hk
  rcases hj with rfl | rfl | rfl | rfl | rfl | rfl | rfl
  · show r (8 + k) = upd r 4 x (8 + k)
    exact (pk_un (by omega)).symm
  · show r (33 + k) = upd r 4 x (33 + k)
    exact (pk_un (by omega)).symm
  · show r (58 + 14 * k + 2) = upd r 4 x (58 + 14 * k + 2)
    exact (pk_un (by omega)).symm
  · show mwMk r k = mwMk (upd r 4 x) k
    unfold mwMk
    by_cases h10 : k % 12 < 10
    · rw [if_pos h10, if_pos h10, pk_un (by omega)]
    · rw [if_neg h10, if_neg h10]
  · show r (58 + 14 * k + 3) = upd r 4 x (58 + 14 * k + 3)
    exact (pk_un (by omega)).symm
  · show (r (128 + k)).toInt8.toInt32 = (upd r 4 x (128 + k)).toInt8.toInt32
    rw [pk_un (by omega)]
  · show r (178 + k) = upd r 4 x (178 + k)
    exact (pk_un (by omega)).symm
theorem mw_put_taped {index : Nat} (hx : p.tables.exec = Jvm.exec) (hb : c.code = cc) (hts : ∀ w ∈ lw_all, w.before args s = true) (hown : s.vm.findClass RX2 = some m.cls) (hK : cmK D dA s) (hI : mwI h) (hM : mwH D h dA H0 H locs r cw tx nm) {x : Int32} (hq : Cond.fieldLink RX2 index RX2 (TX2 12).2.1 (TX2 12).2.2.1 ∈ lw_all) (hdg : decode cc pc = .ok (.putfield index, 3))
    (kk : ∀ (H1 : Heap) (locs1 : List Loc), mwH D h dA H0 H1 locs1 (upd r 4 x) cw tx nm → W p l e R s m args below meth c H1 locs1 cells slots Q (F0 m (pc + 3) ls rest)) : W p l e R s m args below meth c H locs cells slots Q (F0 m pc ls (.int x :: .ref (h 0) :: rest)) :=
  g_put hx hb hts in_X2 tyX2 tyX2_ok nmX2 hown hK hM 0 rfl rfl 12 (by decide) hq rfl rfl rfl rfl (Nat.le_of_ble_eq_true rfl) hdg (fun H1 locs1 hM1 => kk H1 locs1 (mwH.cong hI (g := upd r 4 x) (a := mwAr r) hM1 (fun _ _ => rfl) (mw_fl_taped r x)))
theorem mw_putN_taped {own host : String} {index : Nat} (hx : p.tables.exec = Jvm.exec) (hb : c.code = cc) (hts : ∀ w ∈ lw_all, w.before args s = true) (hown : s.vm.findClass own = some m.cls) (hK : cmK D dA s) (hI : mwI h) (hM : mwH D h dA H0 H locs r cw tx nm) {x : Int32} (hq : va_Nw (.fieldLinkNest own index RX2 (TX2 12).2.1 (TX2 12).2.2.1 host) s) (hdg : decode cc pc = .ok (.putfield index, 3))
    (kk : ∀ (H1 : Heap) (locs1 : List Loc), mwH D h dA H0 H1 locs1 (upd r 4 x) cw tx nm → W p l e R s m args below meth c H1 locs1 cells slots Q (F0 m (pc + 3) ls rest)) : W p l e R s m args below meth c H locs cells slots Q (F0 m pc ls (.int x :: .ref (h 0) :: rest)) :=
  g_putN hx hb hts in_X2 tyX2 tyX2_ok nmX2 hown hK hM 0 rfl rfl 12 (by decide) hq rfl rfl rfl rfl (Nat.le_of_ble_eq_true rfl) hdg (fun H1 locs1 hM1 => kk H1 locs1 (mwH.cong hI (g := upd r 4 x) (a := mwAr r) hM1 (fun _ _ => rfl) (mw_fl_taped r x)))
theorem mw_fl_waits (r : Nat → Int32) (x : Int32) : ∀ j k, mwJ j → k < mwLn j → mwAr r j k = mwAr (upd r 5 x) j k := by
  intro j k hj hk
  rcases hj with rfl | rfl | rfl | rfl | rfl | rfl | rfl
  · show r (8 + k) = upd r 5 x (8 + k)
    exact (pk_un (by omega)).symm
  · show r (33 + k) = upd r 5 x (33 + k)
    exact (pk_un (by omega)).symm
  · show r (58 + 14 * k + 2) = upd r 5 x (58 + 14 * k + 2)
    exact (pk_un (by omega)).symm
  · show mwMk r k = mwMk (upd r 5 x) k
    unfold mwMk
    by_cases h10 : k % 12 < 10
    · rw [if_pos h10, if_pos h10, pk_un (by omega)]
    · rw [if_neg h10, if_neg h10]
  · show r (58 + 14 * k + 3) = upd r 5 x (58 + 14 * k + 3)
    exact (pk_un (by omega)).symm
  · show (r (128 + k)).toInt8.toInt32 = (upd r 5 x (128 + k)).toInt8.toInt32
    rw [pk_un (by omega)]
  · show r (178 + k) = upd r 5 x (178 + k)
    exact (pk_un (by omega)).symm
theorem mw_put_waits {index : Nat} (hx : p.tables.exec = Jvm.exec) (hb : c.code = cc) (hts : ∀ w ∈ lw_all, w.before args s = true) (hown : s.vm.findClass RX2 = some m.cls) (hK : cmK D dA s) (hI : mwI h) (hM : mwH D h dA H0 H locs r cw tx nm) {x : Int32} (hq : Cond.fieldLink RX2 index RX2 (TX2 14).2.1 (TX2 14).2.2.1 ∈ lw_all) (hdg : decode cc pc = .ok (.putfield index, 3))
    (kk : ∀ (H1 : Heap) (locs1 : List Loc), mwH D h dA H0 H1 locs1 (upd r 5 x) cw tx nm → W p l e R s m args below meth c H1 locs1 cells slots Q (F0 m (pc + 3) ls rest)) : W p l e R s m args below meth c H locs cells slots Q (F0 m pc ls (.int x :: .ref (h 0) :: rest)) :=
  g_put hx hb hts in_X2 tyX2 tyX2_ok nmX2 hown hK hM 0 rfl rfl 14 (by decide) hq rfl rfl rfl rfl (Nat.le_of_ble_eq_true rfl) hdg (fun H1 locs1 hM1 => kk H1 locs1 (mwH.cong hI (g := upd r 5 x) (a := mwAr r) hM1 (fun _ _ => rfl) (mw_fl_waits r x)))
theorem mw_putN_waits {own host : String} {index : Nat} (hx : p.tables.exec = Jvm.exec) (hb : c.code = cc) (hts : ∀ w ∈ lw_all, w.before args s = true) (hown : s.vm.findClass own = some m.cls) (hK : cmK D dA s) (hI : mwI h) (hM : mwH D h dA H0 H locs r cw tx nm) {x : Int32} (hq : va_Nw (.fieldLinkNest own index RX2 (TX2 14).2.1 (TX2 14).2.2.1 host) s) (hdg : decode cc pc = .ok (.putfield index, 3))
    (kk : ∀ (H1 : Heap) (locs1 : List Loc), mwH D h dA H0 H1 locs1 (upd r 5 x) cw tx nm → W p l e R s m args below meth c H1 locs1 cells slots Q (F0 m (pc + 3) ls rest)) : W p l e R s m args below meth c H locs cells slots Q (F0 m pc ls (.int x :: .ref (h 0) :: rest)) :=
  g_putN hx hb hts in_X2 tyX2 tyX2_ok nmX2 hown hK hM 0 rfl rfl 14 (by decide) hq rfl rfl rfl rfl (Nat.le_of_ble_eq_true rfl) hdg (fun H1 locs1 hM1 => kk H1 locs1 (mwH.cong hI (g := upd r 5 x) (a := mwAr r) hM1 (fun _ _ => rfl) (mw_fl_waits r x)))
end MWD
