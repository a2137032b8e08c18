/-! days: what the pool is read off stays; small sums -/
set_option maxRecDepth 100000
def wyS (r : Nat → Int32) (i t : Nat) : Nat → Nat × Int32
  | 0 => (0, nI 0)
  | k + 1 => wayS r i t k
theorem wyS_n {r : Nat → Int32} {i t k : Nat} (h : nxt t k = none) : wyS r i t (k + 1) = wyS r i t k := by
  cases k with
  | zero => exact absurd h (by unfold nxt; simp)
  | succ k => show wayS r i t (k + 1) = wayS r i t k; rw [wayS, h]
theorem wyS_up {r : Nat → Int32} {i t k c : Nat} (h1 : nxt t k = some c) (h2 : k = 0 ∨ ¬ wantV r i c (decide (k = 0)) ≤ (wyS r i t k).2) : wyS r i t (k + 1) = (k, wantV r i c (decide (k = 0))) := by
  cases k with
  | zero =>
    have : c = t := by unfold nxt at h1; simpa using h1.symm
    subst this
    rfl
  | succ k =>
    have h3 := h2.resolve_left (by omega)
    show wayS r i t (k + 1) = _
    rw [wayS, h1]
    exact if_pos (Int32.not_le.mp h3)
theorem wyS_le {r : Nat → Int32} {i t k c : Nat} (h0 : ¬ k = 0) (h1 : nxt t k = some c) (h2 : wantV r i c (decide (k = 0)) ≤ (wyS r i t k).2) : wyS r i t (k + 1) = wyS r i t k := by
  cases k with
  | zero => exact absurd rfl h0
  | succ k =>
    show wayS r i t (k + 1) = wayS r i t k
    rw [wayS, h1]
    exact if_neg (Int32.not_lt.mpr h2)
theorem wyS_b (r : Nat → Int32) (i t : Nat) (k : Nat) : (wyS r i t k).1 ≤ k := by
  cases k with
  | zero => exact Nat.le_refl 0
  | succ k => exact Nat.le_succ_of_le (wayS_ok r i t k).1
theorem oI_ne {o : Option Nat} (h : ¬ oI o = -1) : ∃ k, o = some k ∧ oI o = nI k := by
  cases o with
  | none => exact absurd rfl h
  | some k => exact ⟨k, rfl, rfl⟩
theorem rem_keep {m sp : Int32} {n : Nat} (hm : okN m 10) (hs : ∃ j, 4 ≤ j ∧ j ≤ 10 ∧ sp = nI j) (hn : n < 2 ^ 31) (h : hel (m + nI 1) (nI 1) sp = nI n) : (if sp - nI 1 < m then sp - nI 1 else m) = nI (n - 1) := by
  obtain ⟨j, h1, h2, rfl⟩ := hs
  obtain ⟨e1, e2⟩ := hm
  rw [e1, nI_add, hel_nat (by omega) (by omega) (by omega), nI_eq (by omega) (by omega)] at h
  rw [e1, pk_sub (by omega)]
  by_cases hc : j - 1 < cl m
  · rw [if_pos (nI_lt hc (by omega))]; congr 1; omega
  · rw [if_neg (nI_nlt (by omega) (by omega))]; congr 1; omega
theorem max_hel {g e : Int32} (hg : okN g 99) (he : ∃ j, j ≤ 20 ∧ e = nI j) : (if nI 0 < g - e then g - e else nI 0) = hel (g - e) (nI 0) (nI 99) := by
  obtain ⟨j, h1, rfl⟩ := he
  obtain ⟨e1, e2⟩ := hg
  have h3 := pk_sub_toInt (a := cl g) (b := j) (by omega) (by omega)
  rw [← e1] at h3
  have h0 : (nI 0).toInt = 0 := by decide
  have h9 : (nI 99).toInt = 99 := by decide
  unfold hel
  simp only [Int32.lt_iff_toInt_lt, h3, h0, h9]
  by_cases ha : (cl g : Int) - (j : Int) < 0
  · rw [if_neg (by omega), if_pos ha]
  · rw [if_neg ha, if_neg (show ¬ (99 : Int) < (cl g : Int) - (j : Int) by omega)]
    by_cases hb : (0 : Int) < (cl g : Int) - (j : Int)
    · rw [if_pos hb]
    · rw [if_neg hb]
      apply Int32.toInt_inj.mp
      rw [h3, h0]; omega
theorem min_hel {g w : Int32} (hg : okN g 99) (hw : okN w 9) : (if g + w < nI 99 then g + w else nI 99) = hel (g + w) (nI 0) (nI 99) := by
  obtain ⟨e1, e2⟩ := hg
  obtain ⟨e3, e4⟩ := hw
  rw [e1, e3, nI_add, hel_nat (by omega) (by omega) (by omega)]
  by_cases hc : cl g + cl w < 99
  · rw [if_pos (nI_lt hc (by omega))]; congr 1; omega
  · rw [if_neg (nI_nlt (by omega) (by omega))]; congr 1; omega
theorem eatF_in {k m : Int32} (hm : okN m 9) : ∃ j, j ≤ 20 ∧ eatF k m = nI j := by
  obtain ⟨e1, e2⟩ := hm
  unfold eatF
  split
  · exact ⟨5 + cl m, by omega, by rw [e1, nI_add, cl_nI (by omega)]⟩
  · split
    · exact ⟨(5 + cl m) / 2, by omega, by rw [e1, nI_add, pk_div (by omega) (by omega) (by omega), cl_nI (by omega)]⟩
    · split
      · exact ⟨15, by omega, rfl⟩
      · exact ⟨10, by omega, rfl⟩
theorem mwEq_gz1 {r : Nat → Int32} {i : Nat} (hi : i < 5) : mwEq r (gz1 r i) := mwEq_c hi (by omega) (by omega)
theorem mwEq_gz2 {r : Nat → Int32} {i : Nat} (hi : i < 5) (hc : gzC r i < 25) : mwEq r (gz2 r i) := (mwEq_gz1 hi).tr (mwEq_g hc)
theorem gz3_c {r : Nat → Int32} {i n x : Nat} (h : x < 58 + 14 * i + 5) : gz3 r i n 0 x = r x := by
  unfold gz3; rw [if_neg (by omega)]
theorem mwEq_gzR {r : Nat → Int32} {i : Nat} (hi : i < 5) (hc : gzC r i < 25) (hn : gzN r i ≤ 10) : mwEq r (gzR r i) := by
  have key : ∀ j, j < 2 → gzR r i (58 + 14 * i + j) = r (58 + 14 * i + j) := fun j hj => by
    unfold gzR
    rw [pk_un (by omega), pk_un (by omega), gz3_c (by omega)]
    exact gz2_cow hc j (by omega)
  refine ⟨gzR_out hi hc hn (by omega), fun u hu => gzR_out hi hc hn (by omega), fun w hw => ?_, fun j => gzR_out hi hc hn (by omega)⟩
  by_cases h : w = i
  · subst h; exact ⟨key 0 (by omega), key 1 (by omega)⟩
  · exact ⟨gzR_oth hi hc hn h (by omega), gzR_oth hi hc hn h (by omega)⟩
theorem okR_cow {r : Nat → Int32} (h : okR r) {i : Nat} (hi : i < 5) : okN (r (58 + 14 * i + 0)) 6 ∧ okN (r (58 + 14 * i + 1)) 9 ∧ okN (r (58 + 14 * i + 2)) 24 ∧ okN (r (58 + 14 * i + 3)) 10 ∧ ∀ j, j < 10 → okN (r (58 + 14 * i + (4 + j))) 24 := h.2.2.2.2.2.1 i hi
theorem okR_gc {r : Nat → Int32} (h : okR r) {i : Nat} (hi : i < 5) : gzC r i < 25 := gzC_lt (okR_cow h hi).2.2.1.2
theorem okR_gn {r : Nat → Int32} (h : okR r) {i : Nat} (hi : i < 5) : gzNI r i = nI (gzN r i) ∧ 1 ≤ gzN r i ∧ gzN r i ≤ 10 := gzN_in (okR_gc h hi) (okR_cow h hi).2.1 (okR_cow h hi).2.2.2.1
theorem mwEq_gzI {r : Nat → Int32} (h : okR r) : ∀ k, k ≤ 5 → mwEq r (gzI r k) := by
  intro k
  induction k with
  | zero => intro _; exact mwEq.rf
  | succ k ih =>
    intro hk
    have h1 := (okR_gzI h k (by omega)).1
    exact (ih (by omega)).tr (mwEq_gzR (by omega) (okR_gc h1 (by omega)) (okR_gn h1 (by omega)).2.2)
theorem grI_out {r : Nat → Int32} {k x : Nat} (h : x < 33 ∨ 33 + k ≤ x) : grI r k x = r x := by
  unfold grI; rw [if_neg (by omega)]
theorem mwEq_grI {r : Nat → Int32} {k : Nat} (hk : k ≤ 25) : mwEq r (grI r k) := ⟨grI_out (by omega), fun u hu => grI_out (by omega), fun w hw => ⟨grI_out (by omega), grI_out (by omega)⟩, fun j => grI_out (by omega)⟩
theorem mwEq_day {r : Nat → Int32} (h : okR r) : mwEq r (dayR r) := ((mwEq_gzI h (cl (r 3)) h.2.1.2).tr (mwEq_grI (Nat.le_refl 25))).tr (mwEq_u ⟨by omega, by omega, by omega, by omega, fun w hw => ⟨by omega, by omega⟩⟩)
theorem mwEq_dayI {r : Nat → Int32} (h : okR r) : ∀ k, mwEq r (dayI r k) := by
  intro k
  induction k with
  | zero => exact mwEq.rf
  | succ k ih => exact ih.tr (mwEq_day (okR_dayI h k))
