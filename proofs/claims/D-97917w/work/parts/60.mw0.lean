/-! THE MEADOW: its cells are a picture of a row r of the model; cw: its cows' addresses, tx: its texts', nm: its facts -/
set_option maxRecDepth 100000
/-- the milk: of each cow 12 places, ten of them in the row -/
def mwMk (r : Nat → Int32) (j : Nat) : Int32 := if j % 12 < 10 then r (58 + 14 * (j / 12) + (4 + j % 12)) else 0
def mwAr (r : Nat → Int32) : Nat → Nat → Int32 := fun j k => if j = 1 then r (8 + k) else if j = 2 then r (33 + k) else if j = 4 then r (58 + 14 * k + 2) else if j = 5 then mwMk r k else if j = 6 then r (58 + 14 * k + 3) else if j = 8 then (r (128 + k)).toInt8.toInt32 else r (178 + k)
abbrev mwFs (h : Nat → Nat) (g : Nat → Int32) : List Value := [.ref (h 1), .ref (h 2), .int (g 1), .int (g 3), .ref (h 3), .ref (h 4), .ref (h 5), .ref (h 6), .int (g 0), .ref (h 7), .int (g 2), .ref (h 8), .int (g 4), .ref (h 9), .int (g 5), .ref (h 10)]
abbrev mwRw (h : Nat → Nat) (dA : Nat → ClassId) (g : Nat → Int32) (a : Nat → Nat → Int32) (cw tx : Nat → Option Nat) (nm : Nat → Int32) : va_W := [(h 0, .inr (2, mwFs h g)), (h 1, .inl (dA 0, 25, .inl (a 1))), (h 2, .inl (dA 0, 25, .inl (a 2))), (h 3, .inl (dA 3, 5, .inr (.inr (.inr (.inr cw))))), (h 4, .inl (dA 0, 5, .inl (a 4))), (h 5, .inl (dA 0, 60, .inl (a 5))), (h 6, .inl (dA 0, 5, .inl (a 6))), (h 7, .inl (dA 4, 2, .inr (.inr (.inr (.inr tx))))), (h 8, .inl (dA 1, 50, .inl (a 8))), (h 9, .inl (dA 0, 20, .inl (a 9))), (h 10, .inr (3, [.ref (h 11)])), (h 11, .inl (dA 0, 128, .inl nm))]
abbrev mwWs (h : Nat → Nat) (dA : Nat → ClassId) (r : Nat → Int32) (cw tx : Nat → Option Nat) (nm : Nat → Int32) : va_W := mwRw h dA r (mwAr r) cw tx nm
def mwA (h : Nat → Nat) : Nat → Prop := fun q => ∃ k, k < 12 ∧ q = h k
def mwI (h : Nat → Nat) : Prop := ∀ i, i < 12 → ∀ j, j < 12 → h i = h j → i = j
theorem mwRw_at {h : Nat → Nat} {dA : Nat → ClassId} {g : Nat → Int32} {a : Nat → Nat → Int32} {cw tx : Nat → Option Nat} {nm : Nat → Int32} (k : Nat) (q : Nat × va_E) (hk : (mwRw h dA g a cw tx nm)[k]? = some q) : k < 12 ∧ q.1 = h k := by
  have h2 : k < 12 := (List.getElem?_eq_some_iff.mp hk).1
  refine ⟨h2, ?_⟩
  match k, h2, hk with
  | 0, _, hk => cases hk; rfl
  | 1, _, hk => cases hk; rfl
  | 2, _, hk => cases hk; rfl
  | 3, _, hk => cases hk; rfl
  | 4, _, hk => cases hk; rfl
  | 5, _, hk => cases hk; rfl
  | 6, _, hk => cases hk; rfl
  | 7, _, hk => cases hk; rfl
  | 8, _, hk => cases hk; rfl
  | 9, _, hk => cases hk; rfl
  | 10, _, hk => cases hk; rfl
  | 11, _, hk => cases hk; rfl
  | k + 12, h2, _ => omega
theorem mwD {h : Nat → Nat} (hI : mwI h) (dA : Nat → ClassId) (g : Nat → Int32) (a : Nat → Nat → Int32) (cw tx : Nat → Option Nat) (nm : Nat → Int32) : va_D (mwA h) (mwRw h dA g a cw tx nm) := by
  refine ⟨fun i j p q hi hj e => ?_, fun k q hk => ?_⟩
  · obtain ⟨i1, i2⟩ := mwRw_at i p hi
    obtain ⟨j1, j2⟩ := mwRw_at j q hj
    exact hI i i1 j j1 (i2.symm.trans (e.trans j2))
  · obtain ⟨i1, i2⟩ := mwRw_at k q hk
    exact ⟨k, i1, i2⟩
/-- how long the arrays are -/
def mwLn (j : Nat) : Nat := if j = 1 ∨ j = 2 then 25 else if j = 4 ∨ j = 6 then 5 else if j = 5 then 60 else if j = 8 then 50 else 20
def mwJ (j : Nat) : Prop := j = 1 ∨ j = 2 ∨ j = 4 ∨ j = 5 ∨ j = 6 ∨ j = 8 ∨ j = 9
/-- two rows that make the same picture -/
theorem mw_cong {D : va_G} {h : Nat → Nat} {dA : Nat → ClassId} {g g' : Nat → Int32} {a a' : Nat → Nat → Int32} {cw tx : Nat → Option Nat} {nm : Nat → Int32} {H : Heap} (hP : va_P D cmCl (mwRw h dA g a cw tx nm) H) (hg : ∀ k, k < 6 → g k = g' k) (ha : ∀ j k, mwJ j → k < mwLn j → a j k = a' j k) : va_P D cmCl (mwRw h dA g' a' cw tx nm) H := by
  intro k q hk
  have h2 : k < 12 := (List.getElem?_eq_some_iff.mp hk).1
  have hA : ∀ (j n : Nat) (x : Nat), mwJ j → mwLn j = n → cAt D x (.inl (dA 0, n, .inl (a j))) H → cAt D x (.inl (dA 0, n, .inl (a' j))) H := fun j n x hj hn hc => by
    show H[x]? = some (vp_cell (dA 0) (n, .inl (a' j)))
    rw [← arrV_c (dA 0) n (fun i hi => ha j i hj (by omega))]
    exact hc
  match k, h2, hk with
  | 0, _, hk =>
    cases hk
    have := hP 0 _ rfl
    simp only [mwFs, hg 0 (by omega), hg 1 (by omega), hg 2 (by omega), hg 3 (by omega), hg 4 (by omega), hg 5 (by omega)] at this
    exact this
  | 1, _, hk => cases hk; exact hA 1 25 _ (by unfold mwJ; omega) rfl (hP 1 _ rfl)
  | 2, _, hk => cases hk; exact hA 2 25 _ (by unfold mwJ; omega) rfl (hP 2 _ rfl)
  | 3, _, hk => cases hk; exact hP 3 _ rfl
  | 4, _, hk => cases hk; exact hA 4 5 _ (by unfold mwJ; omega) rfl (hP 4 _ rfl)
  | 5, _, hk => cases hk; exact hA 5 60 _ (by unfold mwJ; omega) rfl (hP 5 _ rfl)
  | 6, _, hk => cases hk; exact hA 6 5 _ (by unfold mwJ; omega) rfl (hP 6 _ rfl)
  | 7, _, hk => cases hk; exact hP 7 _ rfl
  | 8, _, hk =>
    cases hk
    show H[h 8]? = some (vp_cell (dA 1) (50, .inl (a' 8)))
    rw [← arrV_c (dA 1) 50 (fun i hi => ha 8 i (by unfold mwJ; omega) (by show i < 50; omega))]
    exact hP 8 _ rfl
  | 9, _, hk => cases hk; exact hA 9 20 _ (by unfold mwJ; omega) rfl (hP 9 _ rfl)
  | 10, _, hk => cases hk; exact hP 10 _ rfl
  | 11, _, hk => cases hk; exact hP 11 _ rfl
  | k + 12, h2, _ => omega
abbrev mwH (D : va_G) (h : Nat → Nat) (dA : Nat → ClassId) (H0 H : Heap) (locs : List Loc) (r : Nat → Int32) (cw tx : Nat → Option Nat) (nm : Nat → Int32) : Prop := gH D (mwA h) (mwWs h dA r cw tx nm) H0 H locs
theorem mwH.cong {D : va_G} {h : Nat → Nat} (hI : mwI h) {dA : Nat → ClassId} {H0 H : Heap} {locs : List Loc} {g r' : Nat → Int32} {a : Nat → Nat → Int32} {cw tx : Nat → Option Nat} {nm : Nat → Int32} (hM : gH D (mwA h) (mwRw h dA g a cw tx nm) H0 H locs) (hg : ∀ k, k < 6 → g k = r' k) (ha : ∀ j k, mwJ j → k < mwLn j → a j k = mwAr r' j k) : mwH D h dA H0 H locs r' cw tx nm :=
  ⟨mw_cong hM.1 hg ha, mwD hI _ _ _ _ _ _, hM.2.2⟩
theorem mwH.to {D : va_G} {h : Nat → Nat} {dA : Nat → ClassId} {H0 H : Heap} {locs : List Loc} {r r' : Nat → Int32} {cw tx : Nat → Option Nat} {nm : Nat → Int32} (hM : mwH D h dA H0 H locs r cw tx nm) (e : r = r') : mwH D h dA H0 H locs r' cw tx nm := e ▸ hM
/-- the value of the text u of a row, of facts -/
def txV (r : Nat → Int32) (u : Nat) (nm : Nat → Int32) : Int32 := if u = 0 then (whI (rA r) 0 (cl (r (6 + 0))) (nm 103) (nm 107) (nm 100) 5 0).1 else (whI (rA r) 1 (cl (r (6 + 1))) (nm 107) (nm 97) (nm 110) 5 0).1
/-- the row's cows lie at cw; B: where -/
def mwCow (D : va_G) (tr : Nat) (B : Nat → Prop) (r : Nat → Int32) (cw : Nat → Option Nat) (H : Heap) : Prop := ∀ w, w < cl (r 3) → ∃ x, cw w = some x ∧ B x ∧ cAt D x (.inr (10 + cl (r (58 + 14 * w + 0)), [.ref tr, .int (nI w), .int (r (58 + 14 * w + 1))])) H
/-- the row's texts lie at tx -/
def mwTxt (D : va_G) (B : Nat → Prop) (r : Nat → Int32) (tx : Nat → Option Nat) (H : Heap) : Prop := ∀ u, u < 2 → (r (6 + u) < 0 ∧ tx u = none) ∨ (¬ r (6 + u) < 0 ∧ ∃ x F, tx u = some x ∧ TmOK D B 60 H x F ∧ ∀ nm, F nm = txV r u nm)
def mwPl (D : va_G) (tr : Nat) (B : Nat → Prop) (r : Nat → Int32) (cw tx : Nat → Option Nat) (H : Heap) : Prop := mwCow D tr B r cw H ∧ mwTxt D B r tx H
/-- what cows and texts are read off -/
def mwEq (r r' : Nat → Int32) : Prop := r' 3 = r 3 ∧ (∀ u, u < 2 → r' (6 + u) = r (6 + u)) ∧ (∀ w, w < 5 → r' (58 + 14 * w + 0) = r (58 + 14 * w + 0) ∧ r' (58 + 14 * w + 1) = r (58 + 14 * w + 1)) ∧ ∀ j, r' (198 + j) = r (198 + j)
theorem mwEq.rf {r : Nat → Int32} : mwEq r r := ⟨rfl, fun _ _ => rfl, fun _ _ => ⟨rfl, rfl⟩, fun _ => rfl⟩
theorem mwEq.tr {r r1 r2 : Nat → Int32} (h1 : mwEq r r1) (h2 : mwEq r1 r2) : mwEq r r2 := ⟨h2.1.trans h1.1, fun u hu => (h2.2.1 u hu).trans (h1.2.1 u hu), fun w hw => ⟨(h2.2.2.1 w hw).1.trans (h1.2.2.1 w hw).1, (h2.2.2.1 w hw).2.trans (h1.2.2.1 w hw).2⟩, fun j => (h2.2.2.2 j).trans (h1.2.2.2 j)⟩
theorem mwEq.bT {r r' : Nat → Int32} (h : mwEq r r') (u : Nat) : bT (rA r') u = bT (rA r) u := by
  funext j
  show r' (198 + 50 * u + j) = r (198 + 50 * u + j)
  rw [Nat.add_assoc]
  exact h.2.2.2 _
theorem whI_eq {a a' : Nat → Nat → Int32} {u : Nat} (h : bT a' u = bT a u) (n : Nat) (x y z : Int32) (d : Nat) : whI a' u n x y z d = whI a u n x y z d := by
  show whoF (opI u x y z) (bT a' u) n (facD (opI u x y z) (bT a' u) n u d) = whoF (opI u x y z) (bT a u) n (facD (opI u x y z) (bT a u) n u d)
  rw [h]
theorem txV_eq {r r' : Nat → Int32} (h : mwEq r r') {u : Nat} (hu : u < 2) (nm : Nat → Int32) : txV r' u nm = txV r u nm := by
  have h0 := h.bT 0
  have h1 := h.bT 1
  have e0 := h.2.1 0 (by omega)
  have e1 := h.2.1 1 (by omega)
  unfold txV
  rw [e0, e1, whI_eq h0, whI_eq h1]
theorem lawV_eq {r r' : Nat → Int32} (h : mwEq r r') {u : Nat} (hu : u < 2) (x y z : Int32) : lawV (rA r') u x y z = lawV (rA r) u x y z := by
  have h0 := h.bT u
  have e0 : rA r' 1 (6 + u) = rA r 1 (6 + u) := h.2.1 u hu
  unfold lawV
  rw [e0, whI_eq h0]
theorem mwPl.to {D : va_G} {tr : Nat} {B B' : Nat → Prop} {r r' : Nat → Int32} {cw tx : Nat → Option Nat} {H H1 : Heap} (hQ : mwPl D tr B r cw tx H) (hr : mwEq r r') (hN : cl (r 3) ≤ 5) (hk : ∀ q, q < H.size → B q → B' q ∧ H1[q]? = H[q]?) : mwPl D tr B' r' cw tx H1 := by
  refine ⟨fun w hw => ?_, fun u hu => ?_⟩
  · rw [hr.1] at hw
    obtain ⟨x, h1, h2, h3⟩ := hQ.1 w hw
    obtain ⟨k1, k2⟩ := hk x h3.lt h2
    obtain ⟨e1, e2⟩ := hr.2.2.1 w (by omega)
    refine ⟨x, h1, k1, ?_⟩
    rw [e1, e2]
    exact h3.kept k2
  · rw [hr.2.1 u hu]
    rcases hQ.2 u hu with h | ⟨h1, x, F, h2, h3, h4⟩
    · exact Or.inl h
    · exact Or.inr ⟨h1, x, F, h2, h3.to hk 60 x F, fun nm => by rw [h4, txV_eq hr hu]⟩
