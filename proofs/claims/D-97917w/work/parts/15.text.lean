/-! TEXTS: reading and working out, over any values (α): both sides are held against this -/
set_option maxRecDepth 100000
/-- the byte at k, of n; behind them -1 -/
def tk (b : Nat → Int32) (n k : Nat) : Int32 := if k < n then b k else -1
/-- a value, the place behind it, whether all was well -/
abbrev Rs (α : Type) : Type := α × Nat × Bool
/-- number, name, sign, not, nothing -/
abbrev Ops (α : Type) : Type := (Int32 → α) × (Int32 → α) × (Int32 → α → α → α) × (α → α) × α
def digs (b : Nat → Int32) (n : Nat) : Nat → Nat → Int32 → Int32 × Nat
  | 0, t, v => (v, t)
  | c + 1, t, v => if nI 48 ≤ tk b n t ∧ tk b n t ≤ nI 57 then digs b n c (t + 1) (nI 10 * v + tk b n t - nI 48) else (v, t)
/-- is it a name of use u -/
def isNm (u : Nat) (c : Int32) : Bool := if u = 0 then c == nI 103 || c == nI 107 || c == nI 100 else c == nI 107 || c == nI 97 || c == nI 110
def facF {α : Type} (O : Ops α) (b : Nat → Int32) (n u : Nat) (inner : Option ((Nat → Rs α) × (Nat → Rs α))) (t : Nat) : Rs α :=
  if nI 48 ≤ tk b n t ∧ tk b n t ≤ nI 57 then (O.1 (digs b n 4 t (nI 0)).1, (digs b n 4 t (nI 0)).2, true)
  else if ¬ tk b n t = nI 33 ∧ ¬ tk b n t = nI 40 then (if isNm u (tk b n t) = true then (O.2.1 (tk b n t), t + 1, true) else (O.2.2.2.2, t, false))
  else match inner with
    | none => (O.2.2.2.2, t, false)
    | some q => if tk b n t = nI 33 then (O.2.2.2.1 (q.1 (t + 1)).1, (q.1 (t + 1)).2)
      else if (q.2 (t + 1)).2.2 = true ∧ tk b n (q.2 (t + 1)).2.1 = nI 41 then ((q.2 (t + 1)).1, (q.2 (t + 1)).2.1 + 1, true) else (O.2.2.2.2, (q.2 (t + 1)).2.1, false)
/-- while a sign of that kind stands there -/
def lpF {α : Type} (O : Ops α) (b : Nat → Int32) (n : Nat) (isop : Int32 → Bool) (sub : Nat → Rs α) : Nat → Rs α → Rs α
  | 0, r => r
  | k + 1, r => if r.2.2 = true ∧ isop (tk b n r.2.1) = true then lpF O b n isop sub k (O.2.2.1 (tk b n r.2.1) r.1 (sub (r.2.1 + 1)).1, (sub (r.2.1 + 1)).2) else r
def op1 (c : Int32) : Bool := c == nI 42 || c == nI 47 || c == nI 37
def op2 (c : Int32) : Bool := c == nI 43 || c == nI 45
def op3 (c : Int32) : Bool := c == nI 60 || c == nI 61 || c == nI 62
def op4 (c : Int32) : Bool := c == nI 38
def op5 (c : Int32) : Bool := c == nI 124
def prodF {α : Type} (O : Ops α) (b : Nat → Int32) (n : Nat) (fac : Nat → Rs α) (t : Nat) : Rs α := lpF O b n op1 fac (n + 1) (fac t)
def sumF {α : Type} (O : Ops α) (b : Nat → Int32) (n : Nat) (fac : Nat → Rs α) (t : Nat) : Rs α := lpF O b n op2 (prodF O b n fac) (n + 1) (prodF O b n fac t)
def cmpF {α : Type} (O : Ops α) (b : Nat → Int32) (n : Nat) (fac : Nat → Rs α) (t : Nat) : Rs α :=
  if (sumF O b n fac t).2.2 = true ∧ op3 (tk b n (sumF O b n fac t).2.1) = true then (O.2.2.1 (tk b n (sumF O b n fac t).2.1) (sumF O b n fac t).1 (sumF O b n fac ((sumF O b n fac t).2.1 + 1)).1, (sumF O b n fac ((sumF O b n fac t).2.1 + 1)).2) else sumF O b n fac t
def bothF {α : Type} (O : Ops α) (b : Nat → Int32) (n : Nat) (fac : Nat → Rs α) (t : Nat) : Rs α := lpF O b n op4 (cmpF O b n fac) (n + 1) (cmpF O b n fac t)
def whoF {α : Type} (O : Ops α) (b : Nat → Int32) (n : Nat) (fac : Nat → Rs α) (t : Nat) : Rs α := lpF O b n op5 (bothF O b n fac) (n + 1) (bothF O b n fac t)
/-- d more may be opened -/
def facD {α : Type} (O : Ops α) (b : Nat → Int32) (n u : Nat) : Nat → Nat → Rs α
  | 0 => facF O b n u none
  | d + 1 => facF O b n u (some (facD O b n u d, whoF O b n (facD O b n u d)))
/-- never back, never past the end -/
def mono {α : Type} (n : Nat) (g : Nat → Rs α) : Prop := ∀ t, t ≤ n → t ≤ (g t).2.1 ∧ (g t).2.1 ≤ n
theorem tk_lt {b : Nat → Int32} {n k : Nat} (h : ¬ tk b n k = -1) : k < n := by
  unfold tk at h
  grind
theorem digs_mono {b : Nat → Int32} {n : Nat} : ∀ (c t : Nat) (v : Int32), t ≤ n → t ≤ (digs b n c t v).2 ∧ (digs b n c t v).2 ≤ n := by
  intro c
  induction c with
  | zero => intro t v h; exact ⟨Nat.le_refl _, h⟩
  | succ c ih =>
    intro t v h
    unfold digs
    split
    · rename_i h1
      have h2 : t < n := tk_lt (fun q => by rw [q] at h1; exact absurd h1 (by decide))
      have := ih (t + 1) (nI 10 * v + tk b n t - nI 48) h2
      omega
    · exact ⟨Nat.le_refl _, h⟩
theorem lpF_mono {α : Type} {O : Ops α} {b : Nat → Int32} {n : Nat} {isop : Int32 → Bool} {sub : Nat → Rs α} (hs : mono n sub) (h1 : isop (-1) = false) : ∀ (k : Nat) (r : Rs α), r.2.1 ≤ n → r.2.1 ≤ (lpF O b n isop sub k r).2.1 ∧ (lpF O b n isop sub k r).2.1 ≤ n := by
  intro k
  induction k with
  | zero => intro r h; exact ⟨Nat.le_refl _, h⟩
  | succ k ih =>
    intro r h
    unfold lpF
    split
    · rename_i hc
      have h2 : r.2.1 < n := tk_lt (fun q => by rw [q, h1] at hc; exact absurd hc.2 (by decide))
      have h3 := hs (r.2.1 + 1) h2
      have := ih (O.2.2.1 (tk b n r.2.1) r.1 (sub (r.2.1 + 1)).1, (sub (r.2.1 + 1)).2) h3.2
      dsimp only at this
      omega
    · exact ⟨Nat.le_refl _, h⟩
theorem lpS_mono {α : Type} {O : Ops α} {b : Nat → Int32} {n : Nat} {isop : Int32 → Bool} {sub : Nat → Rs α} (hs : mono n sub) (h1 : isop (-1) = false) (k : Nat) : mono n (fun t => lpF O b n isop sub k (sub t)) := by
  intro t ht
  have h2 := hs t ht
  have h3 := lpF_mono (O := O) (b := b) hs h1 k (sub t) h2.2
  dsimp only
  omega
theorem prodF_mono {α : Type} {O : Ops α} {b : Nat → Int32} {n : Nat} {fac : Nat → Rs α} (hs : mono n fac) : mono n (prodF O b n fac) := lpS_mono hs (by decide) (n + 1)
theorem sumF_mono {α : Type} {O : Ops α} {b : Nat → Int32} {n : Nat} {fac : Nat → Rs α} (hs : mono n fac) : mono n (sumF O b n fac) := lpS_mono (prodF_mono hs) (by decide) (n + 1)
theorem cmpF_mono {α : Type} {O : Ops α} {b : Nat → Int32} {n : Nat} {fac : Nat → Rs α} (hs : mono n fac) : mono n (cmpF O b n fac) := by
  intro t ht
  have h1 := sumF_mono (O := O) (b := b) hs t ht
  unfold cmpF
  split
  · rename_i hc
    have h2 : (sumF O b n fac t).2.1 < n := tk_lt (fun q => by rw [q] at hc; exact absurd hc.2 (by decide))
    have h3 := sumF_mono (O := O) (b := b) hs ((sumF O b n fac t).2.1 + 1) h2
    dsimp only
    omega
  · exact h1
theorem bothF_mono {α : Type} {O : Ops α} {b : Nat → Int32} {n : Nat} {fac : Nat → Rs α} (hs : mono n fac) : mono n (bothF O b n fac) := lpS_mono (cmpF_mono hs) (by decide) (n + 1)
theorem whoF_mono {α : Type} {O : Ops α} {b : Nat → Int32} {n : Nat} {fac : Nat → Rs α} (hs : mono n fac) : mono n (whoF O b n fac) := lpS_mono (bothF_mono hs) (by decide) (n + 1)
theorem facF_mono {α : Type} {O : Ops α} {b : Nat → Int32} {n u : Nat} {inner : Option ((Nat → Rs α) × (Nat → Rs α))} (hi : ∀ q, inner = some q → mono n q.1 ∧ mono n q.2) : mono n (facF O b n u inner) := by
  intro t ht
  unfold facF
  split
  · exact digs_mono 4 t (nI 0) ht
  · split
    · split
      · rename_i h1
        have h2 : t < n := tk_lt (fun q => by rw [q] at h1; unfold isNm at h1; split at h1 <;> exact absurd h1 (by decide))
        dsimp only
        omega
      · exact ⟨Nat.le_refl _, ht⟩
    · rename_i h1
      have h2 : t < n := tk_lt (fun q => by rw [q] at h1; exact h1 ⟨by decide, by decide⟩)
      cases inner with
      | none => exact ⟨Nat.le_refl _, ht⟩
      | some q =>
        obtain ⟨m1, m2⟩ := hi q rfl
        have a1 := m1 (t + 1) h2
        have a2 := m2 (t + 1) h2
        dsimp only
        split
        · dsimp only; omega
        · split
          · rename_i h3
            have h4 : (q.2 (t + 1)).2.1 < n := tk_lt (fun z => by rw [z] at h3; exact absurd h3.2 (by decide))
            dsimp only; omega
          · dsimp only; omega
theorem facD_mono {α : Type} {O : Ops α} {b : Nat → Int32} {n u : Nat} : ∀ d, mono n (facD O b n u d) := by
  intro d
  induction d with
  | zero => exact facF_mono (fun q h => by cases h)
  | succ d ih => exact facF_mono (fun q h => by cases h; exact ⟨ih, whoF_mono ih⟩)
