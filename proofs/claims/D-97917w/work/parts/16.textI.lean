/-! texts, worked out in ints; the model's own fields while it does so -/
set_option maxRecDepth 100000
def opB (s v w : Int32) : Int32 := if s = nI 42 then v * w else if s = nI 47 then (if w = 0 then 0 else v / w) else if s = nI 37 then (if w = 0 then 0 else v - v / w * w) else if s = nI 43 then v + w else if s = nI 45 then v - w else if s = nI 60 then iI (v < w) else if s = nI 61 then iI (v = w) else if s = nI 62 then iI (w < v) else if s = nI 38 then iI (¬ v = 0 ∧ ¬ w = 0) else iI (¬ v = 0 ∨ ¬ w = 0)
def nmV (u : Nat) (x y z c : Int32) : Int32 := if u = 0 then (if c = nI 103 then x else if c = nI 107 then y else z) else (if c = nI 107 then x else if c = nI 97 then y else z)
abbrev opI (u : Nat) (x y z : Int32) : Ops Int32 := (id, nmV u x y z, opB, fun v => iI (v = 0), nI 0)
abbrev bT (a : Nat → Nat → Int32) (u : Nat) : Nat → Int32 := fun j => a 1 (198 + 50 * u + j)
/-- the fields, with the place t and 'good' g -/
def fT (f : Nat → Int32) (t : Nat) (g : Bool) : Nat → Int32 := upd (upd f 8 (nI t)) 14 (iI (g = true))
theorem fT_8 (f : Nat → Int32) (t t' : Nat) (g : Bool) : upd (fT f t g) 8 (nI t') = fT f t' g := by
  funext k; simp only [fT, upd]; grind
theorem fT_14 (f : Nat → Int32) (t : Nat) (g g' : Bool) : upd (fT f t g) 14 (iI (g' = true)) = fT f t g' := by
  funext k; simp only [fT, upd]; grind
theorem fT_10 (f : Nat → Int32) (t : Nat) (g : Bool) (x : Int32) : upd (fT f t g) 10 x = fT (upd f 10 x) t g := by
  funext k; simp only [fT, upd]; grind
theorem fT_10b (f : Nat → Int32) (t : Nat) (g : Bool) (x : Int32) : fT (upd (upd f 10 x) 10 (f 10)) t g = fT f t g := by
  funext k; simp only [fT, upd]; grind
/-- what stays while a text is gone through -/
def txS (f : Nat → Int32) (u n : Nat) (x y z : Int32) : Prop := f 7 = nI u ∧ f 9 = nI n ∧ f 11 = x ∧ f 12 = y ∧ f 13 = z ∧ u < 2 ∧ n ≤ 50
theorem fT_10c {f : Nat → Int32} {o : Nat} (hf : f 10 = nI o) (t : Nat) (g : Bool) : upd (fT (upd f 10 (nI (o + 1))) t g) 10 (nI (o + 1 - 1)) = fT f t g := by
  funext k; simp only [fT, upd]
  have : o + 1 - 1 = o := by omega
  rw [this, ← hf]
  grind
theorem op1_a {s : Int32} (h : s = nI 42) : op1 s = true := by subst h; decide
theorem op1_b {s : Int32} (h : s = nI 47) : op1 s = true := by subst h; decide
theorem op1_c {s : Int32} (h : s = nI 37) : op1 s = true := by subst h; decide
theorem op1_n {s : Int32} (h1 : ¬ s = nI 42) (h2 : ¬ s = nI 47) (h3 : ¬ s = nI 37) : ¬ op1 s = true := by simp [op1, h1, h2, h3]
theorem op2_a {s : Int32} (h : s = nI 43) : op2 s = true := by subst h; decide
theorem op2_b {s : Int32} (h : s = nI 45) : op2 s = true := by subst h; decide
theorem op2_n {s : Int32} (h1 : ¬ s = nI 43) (h2 : ¬ s = nI 45) : ¬ op2 s = true := by simp [op2, h1, h2]
theorem op3_a {s : Int32} (h : s = nI 60) : op3 s = true := by subst h; decide
theorem op3_b {s : Int32} (h : s = nI 61) : op3 s = true := by subst h; decide
theorem op3_c {s : Int32} (h : s = nI 62) : op3 s = true := by subst h; decide
theorem op3_n {s : Int32} (h1 : ¬ s = nI 60) (h2 : ¬ s = nI 61) (h3 : ¬ s = nI 62) : ¬ op3 s = true := by simp [op3, h1, h2, h3]
theorem op4_a {s : Int32} (h : s = nI 38) : op4 s = true := by subst h; decide
theorem op4_n {s : Int32} (h1 : ¬ s = nI 38) : ¬ op4 s = true := by simp [op4, h1]
theorem op5_a {s : Int32} (h : s = nI 124) : op5 s = true := by subst h; decide
theorem op5_n {s : Int32} (h1 : ¬ s = nI 124) : ¬ op5 s = true := by simp [op5, h1]
theorem opB_42 {s : Int32} (h : s = nI 42) (v w : Int32) : v * w = opB s v w := by subst h; rfl
theorem opB_z {s : Int32} (hop : op1 s = true) (h : ¬ s = nI 42) {w : Int32} (hw : w = 0) (v : Int32) : nI 0 = opB s v w := by
  simp only [op1, Bool.or_eq_true, beq_iff_eq] at hop
  subst hw
  rcases hop with (hop | hop) | hop
  · exact absurd hop h
  · subst hop; rfl
  · subst hop; rfl
theorem opB_47 {s : Int32} (h : s = nI 47) {w : Int32} (hw : ¬ w = 0) (v : Int32) : v / w = opB s v w := by
  subst h
  show v / w = (if w = 0 then 0 else v / w)
  rw [if_neg hw]
theorem opB_37 {s : Int32} (hop : op1 s = true) (h : ¬ s = nI 42) (h2 : ¬ s = nI 47) {w : Int32} (hw : ¬ w = 0) (v : Int32) : v - v / w * w = opB s v w := by
  simp only [op1, Bool.or_eq_true, beq_iff_eq] at hop
  rcases hop with (hop | hop) | hop
  · exact absurd hop h
  · exact absurd hop h2
  · subst hop
    show v - v / w * w = (if w = 0 then 0 else v - v / w * w)
    rw [if_neg hw]
theorem opB_43 {s : Int32} (h : s = nI 43) (v w : Int32) : v + w = opB s v w := by subst h; rfl
theorem opB_45 {s : Int32} (hop : op2 s = true) (h : ¬ s = nI 43) (v w : Int32) : v - w = opB s v w := by
  simp only [op2, Bool.or_eq_true, beq_iff_eq] at hop
  rcases hop with hop | hop
  · exact absurd hop h
  · subst hop; rfl
theorem opB_38 {s : Int32} (h : s = nI 38) (v w : Int32) : iI (¬ v = 0 ∧ ¬ w = 0) = opB s v w := by subst h; rfl
theorem opB_124 {s : Int32} (h : s = nI 124) (v w : Int32) : iI (¬ v = 0 ∨ ¬ w = 0) = opB s v w := by subst h; rfl
theorem opB_60 {s : Int32} (h : s = nI 60) (v w : Int32) : iI (v < w) = opB s v w := by subst h; rfl
theorem opB_61 {s : Int32} (h : s = nI 61) (v w : Int32) : iI (v = w) = opB s v w := by subst h; rfl
theorem opB_62 {s : Int32} (h : s = nI 62) (v w : Int32) : iI (w < v) = opB s v w := by subst h; rfl
theorem iI_1 {P : Prop} [Decidable P] (h : P) : nI 1 = iI P := (iI_t h).symm
theorem iI_0 {P : Prop} [Decidable P] (h : ¬ P) : nI 0 = iI P := (iI_f h).symm
theorem op3_r {s : Int32} (hop : op3 s = true) (h1 : ¬ s = nI 60) (h2 : ¬ s = nI 61) : s = nI 62 := by
  simp only [op3, Bool.or_eq_true, beq_iff_eq] at hop
  rcases hop with (hop | hop) | hop
  · exact absurd hop h1
  · exact absurd hop h2
  · exact hop
theorem op3_1 {s v w : Int32} (hop : op3 s = true) (h : ¬ opB s v w = 0) : nI 1 = opB s v w := by
  by_cases h1 : s = nI 60
  · subst h1; rw [← opB_60 rfl] at h ⊢; exact iI_1 (iI_nz.mp h)
  · by_cases h2 : s = nI 61
    · subst h2; rw [← opB_61 rfl] at h ⊢; exact iI_1 (iI_nz.mp h)
    · have h3 := op3_r hop h1 h2
      subst h3; rw [← opB_62 rfl] at h ⊢; exact iI_1 (iI_nz.mp h)
/-- the fields as a going through of use u sets them -/
def wB (f : Nat → Int32) (u n : Nat) (x y z : Int32) : Nat → Int32 := upd (upd (upd (upd (upd (upd f 7 (nI u)) 9 (nI n)) 10 (nI 0)) 11 x) 12 y) 13 z
theorem wB_0 (f : Nat → Int32) (u n : Nat) (x y z : Int32) : upd (upd (upd (upd (upd (upd (upd (upd f 7 (nI u)) 8 (nI 0)) 9 (nI n)) 10 (nI 0)) 14 (nI 1)) 11 x) 12 y) 13 z = fT (wB f u n x y z) 0 true := by
  funext k
  have : nI 1 = iI (true = true) := rfl
  simp only [fT, wB, upd, this]
  grind
theorem wB_S {f : Nat → Int32} {u n : Nat} {x y z : Int32} (hu : u < 2) (hn : n ≤ 50) : txS (wB f u n x y z) u n x y z := ⟨rfl, rfl, rfl, rfl, rfl, hu, hn⟩
