/-! bits -/
set_option maxRecDepth 100000
theorem bt_sh : ∀ k, k < 32 → ((nI k &&& 31).toBitVec.smod 32).toNat = k := by decide +kernel
theorem btI_iff {x : Int32} {k : Nat} (hk : k < 32) : btI x k = nI 1 ↔ x.toBitVec.getLsbD k = true := by
  have h1 : (x >>> (nI k &&& 31)).toBitVec = x.toBitVec.sshiftRight k := by
    show x.toBitVec.sshiftRight' ((nI k &&& 31).toBitVec.smod 32) = _
    rw [BitVec.sshiftRight', bt_sh k hk]
  have h2 : (btI x k).toBitVec = x.toBitVec.sshiftRight k &&& 1#32 := by
    show (x >>> (nI k &&& 31)).toBitVec &&& (nI 1).toBitVec = _
    rw [h1]; rfl
  have h3 : btI x k = nI 1 ↔ (btI x k).toBitVec = 1#32 := ⟨fun h => by rw [h]; rfl, fun h => Int32.toBitVec_inj.mp (h.trans rfl)⟩
  rw [h3, h2, BitVec.and_one_eq_setWidth_ofBool_getLsbD, BitVec.getLsbD_sshiftRight]
  simp only [Nat.add_zero, hk, if_true]
  cases h : x.toBitVec.getLsbD k <;> simp
theorem bt_one : ∀ x, x < 32 → ∀ k, k < 32 → (nI 1 <<< (nI x &&& 31)).toBitVec.getLsbD k = decide (k = x) := by decide +kernel
theorem btI_or {A B : Int32} {k : Nat} (hk : k < 32) : btI (A ||| B) k = nI 1 ↔ btI A k = nI 1 ∨ btI B k = nI 1 := by
  rw [btI_iff hk, btI_iff hk, btI_iff hk]
  show (A.toBitVec ||| B.toBitVec).getLsbD k = true ↔ _
  rw [BitVec.getLsbD_or, Bool.or_eq_true]
theorem btI_and {A B : Int32} {k : Nat} (hk : k < 32) : btI (A &&& B) k = nI 1 ↔ btI A k = nI 1 ∧ btI B k = nI 1 := by
  rw [btI_iff hk, btI_iff hk, btI_iff hk]
  show (A.toBitVec &&& B.toBitVec).getLsbD k = true ↔ _
  rw [BitVec.getLsbD_and, Bool.and_eq_true]
theorem btI_sh {x k : Nat} (hx : x < 32) (hk : k < 32) : btI (nI 1 <<< (nI x &&& 31)) k = nI 1 ↔ k = x := by
  rw [btI_iff hk, bt_one x hx k hk, decide_eq_true_eq]
theorem btI_0 {k : Nat} (hk : k < 32) : ¬ btI (nI 0) k = nI 1 := by
  rw [btI_iff hk]
  show ¬ (0#32).getLsbD k = true
  simp
/-- two ints with the same bits -/
theorem btI_ext {A B : Int32} (h : ∀ k, k < 32 → (btI A k = nI 1 ↔ btI B k = nI 1)) : A = B := by
  apply Int32.toBitVec_inj.mp
  apply BitVec.eq_of_getLsbD_eq
  intro k hk
  have := h k hk
  rw [btI_iff hk, btI_iff hk] at this
  exact Bool.eq_iff_iff.mpr this
theorem wkd_bit {r : Nat → Int32} {w c : Nat} (hc : c < 32) : ∀ n, (∀ j, j < n → okN (r (58 + 14 * w + (4 + j))) 24) → (btI (wkd r w n) c = nI 1 ↔ ∃ j, j < n ∧ r (58 + 14 * w + (4 + j)) = nI c) := by
  intro n
  induction n with
  | zero => intro _; exact ⟨fun h => absurd h (btI_0 hc), fun ⟨j, h, _⟩ => absurd h (by omega)⟩
  | succ n ih =>
    intro hm
    obtain ⟨e1, e2⟩ := hm n (by omega)
    have e3 : btI (nI 1 <<< (r (58 + 14 * w + (4 + n)) &&& 31)) c = nI 1 ↔ r (58 + 14 * w + (4 + n)) = nI c := by
      rw [e1, btI_sh (by omega) hc]
      exact ⟨fun h => by rw [h], fun h => ((nI_eq (by omega) (by omega)).mp h).symm⟩
    rw [wkd, btI_or hc, e3, ih (fun j hj => hm j (by omega))]
    constructor
    · rintro (⟨j, h1, h2⟩ | h)
      · exact ⟨j, by omega, h2⟩
      · exact ⟨n, by omega, h⟩
    · rintro ⟨j, h1, h2⟩
      by_cases hj : j = n
      · subst hj; exact Or.inr h2
      · exact Or.inl ⟨j, by omega, h2⟩
/-- a cell is in the milk -/
theorem wkd_fin {r : Nat → Int32} {w c : Nat} (hc : c < 32) (hq : okN (r (58 + 14 * w + 3)) 10) (hm : ∀ j, j < 10 → okN (r (58 + 14 * w + (4 + j))) 24) : btI (wkd r w (cl (r (58 + 14 * w + 3)))) c = nI 1 ↔ ¬ finR r w (nI c) 0 < 0 := by
  have hq2 := hq.2
  rw [wkd_bit hc _ (fun j hj => hm j (by omega))]
  rcases finM_spec (fun k => r (58 + 14 * w + (4 + k))) (nI c) (cl (r (58 + 14 * w + 3)) - 0) 0 (by omega) with ⟨h1, h2⟩ | ⟨j, h1, h2, h3, h4, -⟩
  · constructor
    · rintro ⟨j, hj, hj2⟩; exact absurd hj2 (h2 j (by omega) (by omega))
    · intro h; exact absurd h1 h
  · constructor
    · intro _ h
      have h : finM (fun k => r (58 + 14 * w + (4 + k))) (nI c) (cl (r (58 + 14 * w + 3)) - 0) 0 < 0 := h
      rw [h3] at h
      exact absurd h (nI_pos (by omega))
    · intro _; exact ⟨j, by omega, h4⟩
/-- what a cow wants, both ways -/
theorem wnt_want {r : Nat → Int32} {i c k : Nat} (hk : okN (r (58 + 14 * i + 0)) 6) (hc : c < 25) (hq : okN (r (58 + 14 * i + 3)) 10) (hm : ∀ j, j < 10 → okN (r (58 + 14 * i + (4 + j))) 24) : wntF (nI (cl (r (58 + 14 * i + 0)))) (r (58 + 14 * i + 1)) (drwV (rA r) c) (r (8 + c)) (btI (wkd r i (cl (r (58 + 14 * i + 3)))) c = nI 1) (k = 0) = wantV r i c (decide (k = 0)) := by
  have hw := wkd_fin (c := c) (by omega) hq hm
  rw [← hk.1]
  unfold wntF wantV
  have z1 : ∀ x : Int32, x - nI 0 = x := fun x => by rw [nI_0]; simp
  have z2 : ∀ x : Int32, x + nI 0 = x := fun x => by rw [nI_0]; simp
  by_cases hf : finR r i (nI c) 0 < 0
  · have hb : ¬ btI (wkd r i (cl (r (58 + 14 * i + 3)))) c = nI 1 := fun h => hw.mp h hf
    by_cases hs : k = 0
    · simp only [if_neg hb, if_pos hf, hs, decide_true, if_true, z1, z2]
    · simp only [if_neg hb, if_pos hf, hs, decide_false, if_false, z1, z2, Bool.false_eq_true]
  · have hb : btI (wkd r i (cl (r (58 + 14 * i + 3)))) c = nI 1 := hw.mpr hf
    by_cases hs : k = 0
    · simp only [if_pos hb, if_neg hf, hs, decide_true, if_true, z1, z2]
    · simp only [if_pos hb, if_neg hf, hs, decide_false, if_false, z1, z2, Bool.false_eq_true]
