/-! THE ACTS' WORLD: a list of 50 cells: the object, what it finds by, its trace, errors, sheets' shelves, four scratch rows; three meadows. f, a: the model's fields and rows -/
set_option maxRecDepth 100000
abbrev hm0 (h : Nat → Nat) : Nat → Nat := fun k => h (14 + k)
abbrev hm1 (h : Nat → Nat) : Nat → Nat := fun k => h (26 + k)
abbrev hm2 (h : Nat → Nat) : Nat → Nat := fun k => h (38 + k)
abbrev cmOf (h : Nat → Nat) (f : Nat → Int32) : List Value := [.ref (h 1), .ref (hm0 h 0), .ref (hm1 h 0), .ref (hm2 h 0), .int (f 5), .ref (h 2), .ref (h 4), .ref (h 5), .ref (h 10), .ref (h 11), .ref (h 12), .ref (h 13)]
abbrev cmFi (fc : Int32) : List Value := [.null, .null, .null, .null, .null, .int 0, .int fc]
abbrev cmBs (h : Nat → Nat) (dA : Nat → ClassId) (f : Nat → Int32) (a : Nat → Nat → Int32) (fc : Int32) (wk : Nat → Nat → Int32) (hd : Nat → Option Nat) : va_W := [(h 0, .inr (0, cmOf h f)), (h 1, .inr (1, cmFi fc)), (h 2, .inr (4, [.ref (h 3), .int (f 24)])), (h 3, .inl (dA 0, 40, .inl (a 14))), (h 4, .inl (dA 0, 6, .inl (a 5))), (h 5, .inl (dA 5, 4, .inr (.inr (.inr (.inr (fun k => some (h (6 + k)))))))), (h 6, .inr (5, [va_rf (hd 0)])), (h 7, .inr (5, [va_rf (hd 1)])), (h 8, .inr (5, [va_rf (hd 2)])), (h 9, .inr (5, [va_rf (hd 3)])), (h 10, .inl (dA 0, 25, .inl (wk 10))), (h 11, .inl (dA 0, 25, .inl (wk 11))), (h 12, .inl (dA 0, 25, .inl (wk 12))), (h 13, .inl (dA 0, 25, .inl (wk 13)))]
abbrev cmWs (h : Nat → Nat) (dA : Nat → ClassId) (f : Nat → Int32) (a : Nat → Nat → Int32) (fc : Int32) (wk : Nat → Nat → Int32) (hd : Nat → Option Nat) (ri rt : Nat → Int32) (cw tx : Nat → Nat → Option Nat) (nm : Nat → Nat → Int32) : va_W := cmBs h dA f a fc wk hd ++ (mwWs (hm0 h) dA (a 1) (cw 0) (tx 0) (nm 0) ++ (mwWs (hm1 h) dA ri (cw 1) (tx 1) (nm 1) ++ mwWs (hm2 h) dA rt (cw 2) (tx 2) (nm 2)))
def cmA (h : Nat → Nat) : Nat → Prop := fun q => ∃ k, k < 50 ∧ q = h k
def cmI (h : Nat → Nat) : Prop := ∀ i, i < 50 → ∀ j, j < 50 → h i = h j → i = j
/-- any list of 50 cells at h 0 .. h 49 -/
def cmL (h : Nat → Nat) (ws : va_W) : Prop := ∀ (k : Nat) (q : Nat × va_E), ws[k]? = some q → k < 50 ∧ q.1 = h k
theorem cmD_of {h : Nat → Nat} (hI : cmI h) {ws : va_W} (hL : cmL h ws) : va_D (cmA h) ws := by
  refine ⟨fun i j p q hi hj e => ?_, fun k q hk => ?_⟩
  · obtain ⟨i1, i2⟩ := hL i p hi
    obtain ⟨j1, j2⟩ := hL j q hj
    exact hI i i1 j j1 (i2.symm.trans (e.trans j2))
  · obtain ⟨i1, i2⟩ := hL k q hk
    exact ⟨k, i1, i2⟩
theorem cm_at (h : Nat → Nat) (dA : Nat → ClassId) (f : Nat → Int32) (a : Nat → Nat → Int32) (fc : Int32) (wk : Nat → Nat → Int32) (hd : Nat → Option Nat) (g0 g1 g2 : Nat → Int32) (a0 a1 a2 : Nat → Nat → Int32) (cw tx : Nat → Nat → Option Nat) (nm : Nat → Nat → Int32) : cmL h (cmBs h dA f a fc wk hd ++ (mwRw (hm0 h) dA g0 a0 (cw 0) (tx 0) (nm 0) ++ (mwRw (hm1 h) dA g1 a1 (cw 1) (tx 1) (nm 1) ++ mwRw (hm2 h) dA g2 a2 (cw 2) (tx 2) (nm 2)))) := by
  intro k q hk
  have h2 : k < 50 := (List.getElem?_eq_some_iff.mp hk).1
  refine ⟨h2, ?_⟩
  match k, h2, hk with
  | 0, _, hk => cases hk; rfl
  | 1, _, hk => cases hk; rfl
  | 2, _, hk => cases hk; rfl
  | 3, _, hk => cases hk; rfl
  | 4, _, hk => cases hk; rfl
  | 5, _, hk => cases hk; rfl
  | 6, _, hk => cases hk; rfl
  | 7, _, hk => cases hk; rfl
  | 8, _, hk => cases hk; rfl
  | 9, _, hk => cases hk; rfl
  | 10, _, hk => cases hk; rfl
  | 11, _, hk => cases hk; rfl
  | 12, _, hk => cases hk; rfl
  | 13, _, hk => cases hk; rfl
  | 14, _, hk => cases hk; rfl
  | 15, _, hk => cases hk; rfl
  | 16, _, hk => cases hk; rfl
  | 17, _, hk => cases hk; rfl
  | 18, _, hk => cases hk; rfl
  | 19, _, hk => cases hk; rfl
  | 20, _, hk => cases hk; rfl
  | 21, _, hk => cases hk; rfl
  | 22, _, hk => cases hk; rfl
  | 23, _, hk => cases hk; rfl
  | 24, _, hk => cases hk; rfl
  | 25, _, hk => cases hk; rfl
  | 26, _, hk => cases hk; rfl
  | 27, _, hk => cases hk; rfl
  | 28, _, hk => cases hk; rfl
  | 29, _, hk => cases hk; rfl
  | 30, _, hk => cases hk; rfl
  | 31, _, hk => cases hk; rfl
  | 32, _, hk => cases hk; rfl
  | 33, _, hk => cases hk; rfl
  | 34, _, hk => cases hk; rfl
  | 35, _, hk => cases hk; rfl
  | 36, _, hk => cases hk; rfl
  | 37, _, hk => cases hk; rfl
  | 38, _, hk => cases hk; rfl
  | 39, _, hk => cases hk; rfl
  | 40, _, hk => cases hk; rfl
  | 41, _, hk => cases hk; rfl
  | 42, _, hk => cases hk; rfl
  | 43, _, hk => cases hk; rfl
  | 44, _, hk => cases hk; rfl
  | 45, _, hk => cases hk; rfl
  | 46, _, hk => cases hk; rfl
  | 47, _, hk => cases hk; rfl
  | 48, _, hk => cases hk; rfl
  | 49, _, hk => cases hk; rfl
  | k + 50, h2, _ => omega
theorem cmD {h : Nat → Nat} (hI : cmI h) (dA : Nat → ClassId) (f : Nat → Int32) (a : Nat → Nat → Int32) (fc : Int32) (wk : Nat → Nat → Int32) (hd : Nat → Option Nat) (ri rt : Nat → Int32) (cw tx : Nat → Nat → Option Nat) (nm : Nat → Nat → Int32) : va_D (cmA h) (cmWs h dA f a fc wk hd ri rt cw tx nm) := cmD_of hI (cm_at h dA f a fc wk hd (a 1) ri rt (mwAr (a 1)) (mwAr ri) (mwAr rt) cw tx nm)
abbrev cmH (D : va_G) (h : Nat → Nat) (dA : Nat → ClassId) (H0 H : Heap) (locs : List Loc) (f : Nat → Int32) (a : Nat → Nat → Int32) (fc : Int32) (wk : Nat → Nat → Int32) (hd : Nat → Option Nat) (ri rt : Nat → Int32) (cw tx : Nat → Nat → Option Nat) (nm : Nat → Nat → Int32) : Prop := gH D (cmA h) (cmWs h dA f a fc wk hd ri rt cw tx nm) H0 H locs
/-- the pools of the three meadows -/
def cmPl (D : va_G) (h : Nat → Nat) (B : Nat → Prop) (r0 ri rt : Nat → Int32) (cw tx : Nat → Nat → Option Nat) (H : Heap) : Prop := mwPl D (h 2) B r0 (cw 0) (tx 0) H ∧ mwPl D (h 2) B ri (cw 1) (tx 1) H ∧ mwPl D (h 2) B rt (cw 2) (tx 2) H
section CMH
variable {D : va_G} {h : Nat → Nat} {dA : Nat → ClassId} {H0 H : Heap} {locs : List Loc} {f : Nat → Int32} {a : Nat → Nat → Int32} {fc : Int32} {wk : Nat → Nat → Int32} {hd : Nat → Option Nat} {ri rt : Nat → Int32} {cw tx : Nat → Nat → Option Nat} {nm : Nat → Nat → Int32}
theorem cmH.of (hI : cmI h) (hP : va_P D cmCl (cmWs h dA f a fc wk hd ri rt cw tx nm) H) (hS : va_S (cmA h) H0 H locs) : cmH D h dA H0 H locs f a fc wk hd ri rt cw tx nm := ⟨hP, cmD hI _ _ _ _ _ _ _ _ _ _ _, hS⟩
theorem cmH.to {f' : Nat → Int32} {a' : Nat → Nat → Int32} (hM : cmH D h dA H0 H locs f a fc wk hd ri rt cw tx nm) (e1 : f = f') (e2 : a = a') : cmH D h dA H0 H locs f' a' fc wk hd ri rt cw tx nm := by subst e1; subst e2; exact hM
theorem cm_parts (hP : va_P D cmCl (cmWs h dA f a fc wk hd ri rt cw tx nm) H) : va_P D cmCl (cmBs h dA f a fc wk hd) H ∧ va_P D cmCl (mwWs (hm0 h) dA (a 1) (cw 0) (tx 0) (nm 0)) H ∧ va_P D cmCl (mwWs (hm1 h) dA ri (cw 1) (tx 1) (nm 1)) H ∧ va_P D cmCl (mwWs (hm2 h) dA rt (cw 2) (tx 2) (nm 2)) H := by
  obtain ⟨h1, h2⟩ := cm_P_app.mp hP
  obtain ⟨h3, h4⟩ := cm_P_app.mp h2
  obtain ⟨h5, h6⟩ := cm_P_app.mp h4
  exact ⟨h1, h3, h5, h6⟩
theorem cm_join (h1 : va_P D cmCl (cmBs h dA f a fc wk hd) H) (h2 : va_P D cmCl (mwWs (hm0 h) dA (a 1) (cw 0) (tx 0) (nm 0)) H) (h3 : va_P D cmCl (mwWs (hm1 h) dA ri (cw 1) (tx 1) (nm 1)) H) (h4 : va_P D cmCl (mwWs (hm2 h) dA rt (cw 2) (tx 2) (nm 2)) H) : va_P D cmCl (cmWs h dA f a fc wk hd ri rt cw tx nm) H :=
  cm_P_app.mpr ⟨h1, cm_P_app.mpr ⟨h2, cm_P_app.mpr ⟨h3, h4⟩⟩⟩
theorem cmI.m0 (hI : cmI h) : mwI (hm0 h) := fun i hi j hj e => by have := hI (14 + i) (by omega) (14 + j) (by omega) e; omega
theorem cmI.m1 (hI : cmI h) : mwI (hm1 h) := fun i hi j hj e => by have := hI (26 + i) (by omega) (26 + j) (by omega) e; omega
theorem cmI.m2 (hI : cmI h) : mwI (hm2 h) := fun i hi j hj e => by have := hI (38 + i) (by omega) (38 + j) (by omega) e; omega
theorem mwA.m0 {q : Nat} (hq : mwA (hm0 h) q) : cmA h q := by obtain ⟨k, h1, h2⟩ := hq; exact ⟨14 + k, by omega, h2⟩
theorem mwA.m1 {q : Nat} (hq : mwA (hm1 h) q) : cmA h q := by obtain ⟨k, h1, h2⟩ := hq; exact ⟨26 + k, by omega, h2⟩
theorem mwA.m2 {q : Nat} (hq : mwA (hm2 h) q) : cmA h q := by obtain ⟨k, h1, h2⟩ := hq; exact ⟨38 + k, by omega, h2⟩
/-- cells of a list that lie off B stay -/
theorem cm_off {B : Nat → Prop} {ws : va_W} {H1 : Heap} (hP : va_P D cmCl ws H) (hk : ∀ q, q < H.size → ¬ B q → H1[q]? = H[q]?) (ho : ∀ (j : Nat) (q : Nat × va_E), ws[j]? = some q → ¬ B q.1) : va_P D cmCl ws H1 := cm_P_keep hP (fun j q hj => hk q.1 (cAt.lt (a := q.1) (e := q.2) (hP j q hj)) (ho j q hj))
theorem cm_bat (j : Nat) (q : Nat × va_E) (hj : (cmBs h dA f a fc wk hd)[j]? = some q) : j < 14 ∧ q.1 = h j := by
  have h2 : j < 14 := (List.getElem?_eq_some_iff.mp hj).1
  refine ⟨h2, ?_⟩
  match j, h2, hj with
  | 0, _, hj => cases hj; rfl
  | 1, _, hj => cases hj; rfl
  | 2, _, hj => cases hj; rfl
  | 3, _, hj => cases hj; rfl
  | 4, _, hj => cases hj; rfl
  | 5, _, hj => cases hj; rfl
  | 6, _, hj => cases hj; rfl
  | 7, _, hj => cases hj; rfl
  | 8, _, hj => cases hj; rfl
  | 9, _, hj => cases hj; rfl
  | 10, _, hj => cases hj; rfl
  | 11, _, hj => cases hj; rfl
  | 12, _, hj => cases hj; rfl
  | 13, _, hj => cases hj; rfl
  | k + 14, h2, _ => omega
/-- the meadow is gone on with, nothing else -/
theorem cm_upd0 {H1 : Heap} {r' : Nat → Int32} {c' t' : Nat → Option Nat} {n' : Nat → Int32} (hI : cmI h) (hP : va_P D cmCl (cmWs h dA f a fc wk hd ri rt cw tx nm) H) (hk : ∀ q, q < H.size → ¬ mwA (hm0 h) q → H1[q]? = H[q]?) (h1 : va_P D cmCl (mwWs (hm0 h) dA r' c' t' n') H1) : va_P D cmCl (cmWs h dA f (va_up a 1 r') fc wk hd ri rt (va_up cw 0 c') (va_up tx 0 t') (va_up nm 0 n')) H1 := by
  obtain ⟨p1, p2, p3, p4⟩ := cm_parts hP
  refine cm_join (cm_off p1 hk ?_) h1 (cm_off p3 hk ?_) (cm_off p4 hk ?_)
  · rintro j q hj ⟨k, k1, k2⟩
    obtain ⟨j1, j2⟩ := cm_bat j q hj
    have := hI j (by omega) (14 + k) (by omega) (j2.symm.trans k2); omega
  · rintro j q hj ⟨k, k1, k2⟩
    obtain ⟨j1, j2⟩ := mwRw_at j q hj
    have := hI (26 + j) (by omega) (14 + k) (by omega) (j2.symm.trans k2); omega
  · rintro j q hj ⟨k, k1, k2⟩
    obtain ⟨j1, j2⟩ := mwRw_at j q hj
    have := hI (38 + j) (by omega) (14 + k) (by omega) (j2.symm.trans k2); omega
theorem cm_upd1 {H1 : Heap} {r' : Nat → Int32} {c' t' : Nat → Option Nat} {n' : Nat → Int32} (hI : cmI h) (hP : va_P D cmCl (cmWs h dA f a fc wk hd ri rt cw tx nm) H) (hk : ∀ q, q < H.size → ¬ mwA (hm1 h) q → H1[q]? = H[q]?) (h1 : va_P D cmCl (mwWs (hm1 h) dA r' c' t' n') H1) : va_P D cmCl (cmWs h dA f a fc wk hd r' rt (va_up cw 1 c') (va_up tx 1 t') (va_up nm 1 n')) H1 := by
  obtain ⟨p1, p2, p3, p4⟩ := cm_parts hP
  refine cm_join (cm_off p1 hk ?_) (cm_off p2 hk ?_) h1 (cm_off p4 hk ?_)
  · rintro j q hj ⟨k, k1, k2⟩
    obtain ⟨j1, j2⟩ := cm_bat j q hj
    have := hI j (by omega) (26 + k) (by omega) (j2.symm.trans k2); omega
  · rintro j q hj ⟨k, k1, k2⟩
    obtain ⟨j1, j2⟩ := mwRw_at j q hj
    have := hI (14 + j) (by omega) (26 + k) (by omega) (j2.symm.trans k2); omega
  · rintro j q hj ⟨k, k1, k2⟩
    obtain ⟨j1, j2⟩ := mwRw_at j q hj
    have := hI (38 + j) (by omega) (26 + k) (by omega) (j2.symm.trans k2); omega
theorem cm_upd2 {H1 : Heap} {r' : Nat → Int32} {c' t' : Nat → Option Nat} {n' : Nat → Int32} (hI : cmI h) (hP : va_P D cmCl (cmWs h dA f a fc wk hd ri rt cw tx nm) H) (hk : ∀ q, q < H.size → ¬ mwA (hm2 h) q → H1[q]? = H[q]?) (h1 : va_P D cmCl (mwWs (hm2 h) dA r' c' t' n') H1) : va_P D cmCl (cmWs h dA f a fc wk hd ri r' (va_up cw 2 c') (va_up tx 2 t') (va_up nm 2 n')) H1 := by
  obtain ⟨p1, p2, p3, p4⟩ := cm_parts hP
  refine cm_join (cm_off p1 hk ?_) (cm_off p2 hk ?_) (cm_off p3 hk ?_) h1
  · rintro j q hj ⟨k, k1, k2⟩
    obtain ⟨j1, j2⟩ := cm_bat j q hj
    have := hI j (by omega) (38 + k) (by omega) (j2.symm.trans k2); omega
  · rintro j q hj ⟨k, k1, k2⟩
    obtain ⟨j1, j2⟩ := mwRw_at j q hj
    have := hI (14 + j) (by omega) (38 + k) (by omega) (j2.symm.trans k2); omega
  · rintro j q hj ⟨k, k1, k2⟩
    obtain ⟨j1, j2⟩ := mwRw_at j q hj
    have := hI (26 + j) (by omega) (38 + k) (by omega) (j2.symm.trans k2); omega
/-- the pools, later in an act -/
theorem cmPl.at {B : Nat → Prop} {r0 r0' ri' rt' : Nat → Int32} (hQ : cmPl D h B r0 ri rt cw tx H0) (hB : ∀ q, B q → ¬ cmA h q) (hN : cl (r0 3) ≤ 5 ∧ cl (ri 3) ≤ 5 ∧ cl (rt 3) ≤ 5) (e0 : mwEq r0 r0') (e1 : mwEq ri ri') (e2 : mwEq rt rt') (hS : va_S (cmA h) H0 H locs) : cmPl D h B r0' ri' rt' cw tx H := ⟨hQ.1.to e0 hN.1 (fun q h1 h2 => ⟨h2, hS.2.1 q h1 (hB q h2)⟩), hQ.2.1.to e1 hN.2.1 (fun q h1 h2 => ⟨h2, hS.2.1 q h1 (hB q h2)⟩), hQ.2.2.to e2 hN.2.2 (fun q h1 h2 => ⟨h2, hS.2.1 q h1 (hB q h2)⟩)⟩
theorem mwPl.in {tr : Nat} {B B' : Nat → Prop} {r : Nat → Int32} {c t : Nat → Option Nat} (hQ : mwPl D tr B r c t H) (hN : cl (r 3) ≤ 5) (hb : ∀ q, B q → B' q) : mwPl D tr B' r c t H := hQ.to mwEq.rf hN (fun q _ h => ⟨hb q h, rfl⟩)
end CMH
/-- the first entry of a table that covers pc: where it goes, its class's place -/
def exF : List (Nat × Nat × Nat × Nat) → Nat → Option (Nat × Nat)
  | [], _ => none
  | q :: t, pc => if q.1 ≤ pc ∧ pc < q.2.1 then some (q.2.2.1, q.2.2.2) else exF t pc
theorem exF_spec : ∀ (hh : List (Nat × Nat × Nat × Nat)) (pc hpc ct : Nat), exF hh pc = some (hpc, ct) → ∃ (pre post : List ExceptionTableEntry) (en : ExceptionTableEntry), tableOf hh = pre ++ en :: post ∧ (∀ y ∈ pre, covers y pc = false) ∧ covers en pc = true ∧ en.catchType = ct ∧ en.handlerPc = hpc := by
  intro hh
  induction hh with
  | nil => intro pc hpc ct h; cases h
  | cons q t ih =>
    intro pc hpc ct h
    unfold exF at h
    by_cases hc : q.1 ≤ pc ∧ pc < q.2.1
    · rw [if_pos hc] at h
      cases h
      exact ⟨[], tableOf t, ⟨q.1, q.2.1, q.2.2.1, q.2.2.2⟩, rfl, (fun y hy => by cases hy), (by simp [covers, hc.1, hc.2]), rfl, rfl⟩
    · rw [if_neg hc] at h
      obtain ⟨pre, post, en, h1, h2, h3, h4, h5⟩ := ih pc hpc ct h
      refine ⟨⟨q.1, q.2.1, q.2.2.1, q.2.2.2⟩ :: pre, post, en, by show _ :: tableOf t = _; rw [h1]; rfl, fun y hy => ?_, h3, h4, h5⟩
      rcases List.mem_cons.mp hy with e | e
      · rw [e]
        simp only [covers]
        by_cases g1 : q.1 ≤ pc
        · simp [g1, fun g2 => hc ⟨g1, g2⟩]
          omega
        · simp [g1]
      · exact h2 y e
