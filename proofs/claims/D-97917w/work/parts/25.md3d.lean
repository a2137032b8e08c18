/-! the model: a text gone through whole, by how many may still be opened -/
set_option maxRecDepth 100000
theorem txS.up {f : Nat → Int32} {u n : Nat} {x y z : Int32} (h : txS f u n x y z) (v : Int32) : txS (upd f 10 v) u n x y z := h
abbrev fcI (a : Nat → Nat → Int32) (u n : Nat) (x y z : Int32) (d : Nat) : Nat → Rs Int32 := facD (opI u x y z) (bT a u) n u d
abbrev whI (a : Nat → Nat → Int32) (u n : Nat) (x y z : Int32) (d : Nat) : Nat → Rs Int32 := whoF (opI u x y z) (bT a u) n (fcI a u n x y z d)
theorem met_wholeF (f : Nat → Int32) (a : Nat → Nat → Int32) (u n : Nat) (x y z : Int32) (hS : txS f u n x y z) (d : Nat) (q : Nat → Rs Int32) (hm : mono n q) (hF : ∀ t, t ≤ n → MdF yX6_factor cX6_factor 3 (some .int) (6 * d + 3) (150 * d + 100) [] (fT f t true) a (some (.int (q t).1)) (fT f (q t).2.1 (q t).2.2) a) :
    ∀ t, t ≤ n → MdF yX6_whole cX6_whole 3 (some .int) (6 * d + 8) (150 * d + 220) [] (fT f t true) a (some (.int (whoF (opI u x y z) (bT a u) n q t).1)) (fT f (whoF (opI u x y z) (bT a u) n q t).2.1 (whoF (opI u x y z) (bT a u) n q t).2.2) a := by
  have h1 := met_productL f a u n x y z hS d q hm hF
  have h2 := met_sumL f a u n x y z hS d (prodF (opI u x y z) (bT a u) n q) (prodF_mono hm) h1
  have h3 := met_comparedL f a u n x y z hS d (sumF (opI u x y z) (bT a u) n q) (sumF_mono hm) h2
  have h4 := met_bothL f a u n x y z hS d (cmpF (opI u x y z) (bT a u) n q) (cmpF_mono hm) h3
  exact met_wholeL f a u n x y z hS d (bothF (opI u x y z) (bT a u) n q) (bothF_mono hm) h4
theorem met_factorD (a : Nat → Nat → Int32) (u n : Nat) (x y z : Int32) : ∀ (d o : Nat) (f : Nat → Int32), txS f u n x y z → f 10 = nI o → o + d = 5 → ∀ t, t ≤ n → MdF yX6_factor cX6_factor 3 (some .int) (6 * d + 3) (150 * d + 100) [] (fT f t true) a (some (.int (fcI a u n x y z d t).1)) (fT f (fcI a u n x y z d t).2.1 (fcI a u n x y z d t).2.2) a := by
  intro d
  induction d with
  | zero =>
    intro o f hS hO ho t ht
    exact met_factor0 f a u n x y z hS t ht o hO ho
  | succ d ih =>
    intro o f hS hO ho t ht
    have h1 := ih (o + 1) (upd f 10 (nI (o + 1))) (hS.up _) rfl (by omega)
    have h2 := met_wholeF (upd f 10 (nI (o + 1))) a u n x y z (hS.up _) d (fcI a u n x y z d) (facD_mono d) h1
    have h3 := met_factorS f a u n x y z hS t ht o hO (by omega) d (fcI a u n x y z d) (whI a u n x y z d) (facD_mono d) (whoF_mono (facD_mono d)) h1 h2
    rw [show 6 * (d + 1) + 3 = 6 * d + 9 by omega, show 150 * (d + 1) + 100 = 150 * d + 250 by omega]
    exact h3
theorem met_wholeD (f : Nat → Int32) (a : Nat → Nat → Int32) (u n : Nat) (x y z : Int32) (hS : txS f u n x y z) (hO : f 10 = nI 0) (t : Nat) (ht : t ≤ n) : MdF yX6_whole cX6_whole 3 (some .int) 38 970 [] (fT f t true) a (some (.int (whI a u n x y z 5 t).1)) (fT f (whI a u n x y z 5 t).2.1 (whI a u n x y z 5 t).2.2) a :=
  met_wholeF f a u n x y z hS 5 (fcI a u n x y z 5) (facD_mono 5) (met_factorD a u n x y z 5 0 f hS hO (by omega)) t ht
