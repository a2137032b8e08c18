/-! hays (printed by comp27.py) -/
set_option maxRecDepth 100000
section CWK
variable {D : va_G} {h : Nat → Nat} {dA : Nat → ClassId} {H0 H : Heap} {locs : List Loc} {f : Nat → Int32} {a : Nat → Nat → Int32} {fc : Int32} {wk wk' : Nat → Nat → Int32} {hd : Nat → Option Nat} {ri rt : Nat → Int32} {cw tx : Nat → Nat → Option Nat} {nm : Nat → Nat → Int32}
theorem cmH.wkt (hM : cmH D h dA H0 H locs f a fc wk hd ri rt cw tx nm) (e : wk = wk') : cmH D h dA H0 H locs f a fc wk' hd ri rt cw tx nm := e ▸ hM
/-- the scratch rows, as far as they are long -/
theorem cmH.wkc (hI : cmI h) (hM : cmH D h dA H0 H locs f a fc wk hd ri rt cw tx nm) (e : ∀ j c, 10 ≤ j → j < 14 → c < 25 → wk j c = wk' j c) : cmH D h dA H0 H locs f a fc wk' hd ri rt cw tx nm := by
  obtain ⟨p1, p2, p3, p4⟩ := cm_parts hM.1
  refine cmH.of hI (cm_join (fun k q hk => ?_) p2 p3 p4) hM.2.2
  have h2 : k < 14 := (List.getElem?_eq_some_iff.mp hk).1
  match k, h2, hk with
  | 0, _, hk => cases hk; exact p1 0 _ rfl
  | 1, _, hk => cases hk; exact p1 1 _ rfl
  | 2, _, hk => cases hk; exact p1 2 _ rfl
  | 3, _, hk => cases hk; exact p1 3 _ rfl
  | 4, _, hk => cases hk; exact p1 4 _ rfl
  | 5, _, hk => cases hk; exact p1 5 _ rfl
  | 6, _, hk => cases hk; exact p1 6 _ rfl
  | 7, _, hk => cases hk; exact p1 7 _ rfl
  | 8, _, hk => cases hk; exact p1 8 _ rfl
  | 9, _, hk => cases hk; exact p1 9 _ rfl
  | 10, _, hk => cases hk; exact c_cong (p1 10 _ rfl) (fun c hc => e 10 c (by decide) (by decide) hc)
  | 11, _, hk => cases hk; exact c_cong (p1 11 _ rfl) (fun c hc => e 11 c (by decide) (by decide) hc)
  | 12, _, hk => cases hk; exact c_cong (p1 12 _ rfl) (fun c hc => e 12 c (by decide) (by decide) hc)
  | 13, _, hk => cases hk; exact c_cong (p1 13 _ rfl) (fun c hc => e 13 c (by decide) (by decide) hc)
  | k + 14, h2, _ => omega
end CWK
theorem wk_full {wk : Nat → Nat → Int32} {X T Y : Nat → Int32} {i j k : Nat} (hk : 25 ≤ k) : ∀ u c, 10 ≤ u → u < 14 → c < 25 → va_up (va_up wk i (cpk X T k)) j Y u c = va_up (va_up wk i X) j Y u c := by
  intro u c _ _ hc
  simp only [va_up]
  by_cases h1 : u = j
  · rw [if_pos h1, if_pos h1]
  · rw [if_neg h1, if_neg h1]
    by_cases h2 : u = i
    · rw [if_pos h2, if_pos h2, cpk, if_pos (by omega)]
    · rw [if_neg h2, if_neg h2]
theorem wk_full1 {wk : Nat → Nat → Int32} {X T : Nat → Int32} {i k : Nat} (hk : 25 ≤ k) : ∀ u c, 10 ≤ u → u < 14 → c < 25 → va_up wk i (cpk X T k) u c = va_up wk i X u c := by
  intro u c _ _ hc
  simp only [va_up]
  by_cases h2 : u = i
  · rw [if_pos h2, if_pos h2, cpk, if_pos (by omega)]
  · rw [if_neg h2, if_neg h2]
section CWL
variable {p : Program} {l : Launch} {e : Env} {R : Room} {s : State} {m : MethodId} {args : Array Value} {below : List Frame} {meth : Method} {c : Code} {H H0 : Heap} {locs : List Loc} {cells slots : Nat} {Q : State → Prop}
variable {cc : ByteArray} {pc : Nat} {ls : Array Slot} {rest : List Value} {D : va_G} {dA : Nat → ClassId} {h : Nat → Nat} {f : Nat → Int32} {a : Nat → Nat → Int32} {fc : Int32} {wk : Nat → Nat → Int32} {hd : Nat → Option Nat} {ri rt : Nat → Int32} {cw tx : Nat → Nat → Option Nat} {nm : Nat → Nat → Int32}
theorem cpy_25 {f g : Nat → Int32} {k : Nat} (hk : k < 25) : va_cpy f g 0 0 25 k = f k := by
  unfold va_cpy
  rw [if_pos (by omega)]
  congr 1
  omega
theorem cm_copy_13_12 {nL idx : Nat} {own : String} (hx : p.tables.exec = Jvm.exec) (hb : c.code = cc) (hml : c.maxLocals = nL) (hown : s.vm.findClass own = some m.cls) (hts : ∀ w ∈ lw_all, w.before args s = true) (hK : cmK D dA s) (hI : cmI h) (h1 : Cond.methodLink own idx arraycopyName ∈ lw_all) (hM : cmH D h dA H0 H locs f a fc wk hd ri rt cw tx nm) (hRf : 1 ≤ R.frames) (hRl : 40 ≤ R.locals) (hsize : ls.size = nL) (hW : (rest.map fun v => v.category).sum ≤ 8) (hdg : decode cc pc = .ok (.invokestatic idx, 3))
    (kk : ∀ (H1 : Heap) (locs1 : List Loc), cmH D h dA H0 H1 locs1 f a fc (va_up wk 12 (wk 13)) hd ri rt cw tx nm → W p l e R s m args below meth c H1 locs1 cells slots Q (F0 m (pc + 3) ls rest)) : W p l e R s m args below meth c H locs cells slots Q (F0 m pc ls (.int (nI 25) :: .int (nI 0) :: .ref (h 12) :: .int (nI 0) :: .ref (h 13) :: rest)) := by
  refine g_copyi hx hb hml hown hts hK h1 hM 13 12 rfl rfl (by decide) hRf hRl hsize hW hdg (fun H1 locs1 hM1 => ?_)
  have hM2 : cmH D h dA H0 H1 locs1 f a fc (va_up wk 12 (va_cpy (wk 13) (wk 12) 0 0 25)) hd ri rt cw tx nm := hM1
  refine kk H1 locs1 (hM2.wkc hI (fun j c _ _ hc => ?_))
  simp only [va_up]
  by_cases h2 : j = 12
  · rw [if_pos h2, if_pos h2, cpy_25 hc]
  · rw [if_neg h2, if_neg h2]
theorem cm_copy_10_11 {nL idx : Nat} {own : String} (hx : p.tables.exec = Jvm.exec) (hb : c.code = cc) (hml : c.maxLocals = nL) (hown : s.vm.findClass own = some m.cls) (hts : ∀ w ∈ lw_all, w.before args s = true) (hK : cmK D dA s) (hI : cmI h) (h1 : Cond.methodLink own idx arraycopyName ∈ lw_all) (hM : cmH D h dA H0 H locs f a fc wk hd ri rt cw tx nm) (hRf : 1 ≤ R.frames) (hRl : 40 ≤ R.locals) (hsize : ls.size = nL) (hW : (rest.map fun v => v.category).sum ≤ 8) (hdg : decode cc pc = .ok (.invokestatic idx, 3))
    (kk : ∀ (H1 : Heap) (locs1 : List Loc), cmH D h dA H0 H1 locs1 f a fc (va_up wk 11 (wk 10)) hd ri rt cw tx nm → W p l e R s m args below meth c H1 locs1 cells slots Q (F0 m (pc + 3) ls rest)) : W p l e R s m args below meth c H locs cells slots Q (F0 m pc ls (.int (nI 25) :: .int (nI 0) :: .ref (h 11) :: .int (nI 0) :: .ref (h 10) :: rest)) := by
  refine g_copyi hx hb hml hown hts hK h1 hM 10 11 rfl rfl (by decide) hRf hRl hsize hW hdg (fun H1 locs1 hM1 => ?_)
  have hM2 : cmH D h dA H0 H1 locs1 f a fc (va_up wk 11 (va_cpy (wk 10) (wk 11) 0 0 25)) hd ri rt cw tx nm := hM1
  refine kk H1 locs1 (hM2.wkc hI (fun j c _ _ hc => ?_))
  simp only [va_up]
  by_cases h2 : j = 11
  · rw [if_pos h2, if_pos h2, cpy_25 hc]
  · rw [if_neg h2, if_neg h2]
end CWL
/-- as the component keeps it: -1 is none -/
def hzW (G : Nat → Int32) (o k : Nat) : Nat → (Nat → Int32) → Nat → Int32
  | 0, T => T
  | w + 1, T => match nxt k w with
    | none => hzW G o k w T
    | some d => if hzW G o k w T d = -1 ∨ hyV G o k w < hzW G o k w T d then upd (hzW G o k w T) d (hyV G o k w) else hzW G o k w T
def hzK (r : Nat → Int32) (i : Nat) (G : Nat → Int32) : Nat → (Nat → Int32) → Nat → Int32
  | 0, T => T
  | k + 1, T => if G k = -1 then hzK r i G k T else hzW G (wayS r i k 4).1 k 5 (hzK r i G k T)
def hzI (r : Nat → Int32) (i : Nat) : Nat → Nat → Int32
  | 0 => fun c => if nI c = r (58 + 14 * i + 2) then nI 0 else -1
  | n + 1 => hzK r i (hzI r i n) 25 (fun _ => -1)
theorem hzW_n {F : Nat → Int32} {o k w : Nat} {T : Nat → Int32} (h : nxt k w = none) : hzW F o k w T = hzW F o k (w + 1) T := by rw [hzW, h]
theorem hzW_z {F : Nat → Int32} {o k w d : Nat} {T : Nat → Int32} (h : nxt k w = some d) (h2 : ¬ (hzW F o k w T d = -1 ∨ hyV F o k w < hzW F o k w T d)) : hzW F o k w T = hzW F o k (w + 1) T := by rw [hzW, h]; exact (if_neg h2).symm
theorem hzW_y {F : Nat → Int32} {o k w d : Nat} {T : Nat → Int32} (h : nxt k w = some d) (h2 : hzW F o k w T d = -1 ∨ hyV F o k w < hzW F o k w T d) : upd (hzW F o k w T) d (hyV F o k w) = hzW F o k (w + 1) T := by rw [hzW, h]; exact (if_pos h2).symm
/-- the model's number and the component's -/
def hzR (n : Nat) (x y : Int32) : Prop := (∃ m, m ≤ n ∧ x = nI m ∧ y = nI m) ∨ (x = nI 100 ∧ y = -1)
theorem nI_ltN {a b : Nat} (ha : a < 2 ^ 31) (hb : b < 2 ^ 31) : nI a < nI b ↔ a < b := by
  rw [Int32.lt_iff_toInt_lt, nI_toInt ha, nI_toInt hb]; omega
theorem nI_m1 {n : Nat} (h : n < 2 ^ 31) : ¬ nI n = -1 := by
  intro q
  have q2 : (nI n).toInt = (-1 : Int32).toInt := by rw [q]
  rw [nI_toInt h] at q2
  have : ((-1 : Int32).toInt) = -1 := rfl
  omega
theorem hzR.W {n : Nat} (hn : n ≤ 29) {F G : Nat → Int32} {o k : Nat} (hF : hzR n (F k) (G k)) (hG : ¬ G k = -1) {T T' : Nat → Int32} (hT : ∀ c, hzR (n + 1) (T c) (T' c)) : ∀ w c, hzR (n + 1) (hyW F o k w T c) (hzW G o k w T' c)
  | 0, c => hT c
  | w + 1, c => by
    have ih := hzR.W hn hF hG hT w (o := o)
    rw [hyW, hzW]
    cases hx : nxt k w with
    | none => exact ih c
    | some d =>
      dsimp only
      rcases hF with ⟨m, h1, h2, h3⟩ | ⟨-, h3⟩
      · have hv : ∃ v, v ≤ n + 1 ∧ hyV F o k w = nI v ∧ hyV G o k w = nI v := by
          unfold hyV
          rw [h2, h3]
          by_cases e : nI w = nI o
          · rw [if_pos e]; exact ⟨m + 0, by omega, nI_add _ _, nI_add _ _⟩
          · rw [if_neg e]; exact ⟨m + 1, by omega, nI_add _ _, nI_add _ _⟩
        obtain ⟨v, v1, v2, v3⟩ := hv
        rw [v2, v3]
        have hyes : ∀ c, hzR (n + 1) (upd (hyW F o k w T) d (nI v) c) (upd (hzW G o k w T') d (nI v) c) := fun c => by
          by_cases e : c = d
          · subst e; rw [pk_us, pk_us]; exact Or.inl ⟨v, v1, rfl, rfl⟩
          · rw [pk_un e, pk_un e]; exact ih c
        rcases ih d with ⟨q, q1, q2, q3⟩ | ⟨q2, q3⟩
        · rw [q2, q3]
          by_cases e : nI v < nI q
          · rw [if_pos e, if_pos (Or.inr e)]; exact hyes c
          · rw [if_neg e, if_neg (fun z => z.elim (nI_m1 (by omega)) e)]; exact ih c
        · rw [q2, q3, if_pos ((nI_ltN (by omega) (by omega)).mpr (by omega)), if_pos (Or.inl rfl)]
          exact hyes c
      · exact absurd h3 hG
theorem hyW_100 {n : Nat} (hn : n ≤ 29) {F : Nat → Int32} {o k : Nat} (hF : F k = nI 100) {T : Nat → Int32} (hT : ∀ c, ∃ m, m ≤ 100 ∧ T c = nI m) : ∀ w, hyW F o k w T = T
  | 0 => rfl
  | w + 1 => by
    rw [hyW]
    have ih := hyW_100 hn hF hT w (o := o)
    cases hx : nxt k w with
    | none => exact ih
    | some d =>
      dsimp only
      rw [ih]
      obtain ⟨m, h1, h2⟩ := hT d
      have hv : ∃ v, 100 ≤ v ∧ v ≤ 101 ∧ hyV F o k w = nI v := by
        unfold hyV
        rw [hF]
        by_cases e : nI w = nI o
        · rw [if_pos e]; exact ⟨100, by omega, by omega, rfl⟩
        · rw [if_neg e]; exact ⟨101, by omega, by omega, rfl⟩
      obtain ⟨v, v1, v2, v3⟩ := hv
      rw [v3, h2, if_neg (fun z => by have := (nI_ltN (by omega) (by omega)).mp z; omega)]
theorem hzR.K {n : Nat} (hn : n ≤ 29) {r : Nat → Int32} {i : Nat} {F G : Nat → Int32} (hF : ∀ k, hzR n (F k) (G k)) : ∀ k c, hzR (n + 1) (hyK r i F k (fun _ => nI 100) c) (hzK r i G k (fun _ => -1) c)
  | 0, c => Or.inr ⟨rfl, rfl⟩
  | k + 1, c => by
    have ih := hzR.K hn hF k (r := r) (i := i)
    rw [hyK, hzK]
    by_cases hG : G k = -1
    · rw [if_pos hG]
      rcases hF k with ⟨m, h1, h2, h3⟩ | ⟨h2, -⟩
      · exact absurd (h3.symm.trans hG) (nI_m1 (by omega))
      · rw [hyW_100 hn h2 (fun c => ?_)]
        · exact ih c
        · rcases ih c with ⟨q, q1, q2, -⟩ | ⟨q2, -⟩
          · exact ⟨q, by omega, q2⟩
          · exact ⟨100, by omega, q2⟩
    · rw [if_neg hG]
      exact hzR.W hn (hF k) hG ih 5 c
theorem hz_ok {r : Nat → Int32} {i : Nat} : ∀ n, n ≤ 30 → ∀ c, hzR n (hyI r i n c) (hzI r i n c)
  | 0, _, c => by
    rw [hyI, hzI]
    dsimp only
    by_cases e : nI c = r (58 + 14 * i + 2)
    · rw [if_pos e, if_pos e]; exact Or.inl ⟨0, by omega, rfl, rfl⟩
    · rw [if_neg e, if_neg e]; exact Or.inr ⟨rfl, rfl⟩
  | n + 1, h, c => hzR.K (by omega) (hz_ok n (by omega)) 25 c
theorem hz_lt {r : Nat → Int32} {i n c : Nat} (hn : n ≤ 30) (h : hyI r i n c < nI 100) : ¬ hzI r i n c = -1 ∧ hzI r i n c = hyI r i n c := by
  rcases hz_ok (r := r) (i := i) n hn c with ⟨m, h1, h2, h3⟩ | ⟨h2, h3⟩
  · rw [h2, h3]; exact ⟨nI_m1 (by omega), rfl⟩
  · rw [h2] at h; exact absurd h (by decide)
theorem hz_ge {r : Nat → Int32} {i n c : Nat} (hn : n ≤ 30) (h : ¬ hyI r i n c < nI 100) : hzI r i n c = -1 := by
  rcases hz_ok (r := r) (i := i) n hn c with ⟨m, h1, h2, h3⟩ | ⟨h2, h3⟩
  · rw [h2] at h; exact absurd ((nI_ltN (by omega) (by omega)).mpr (by omega)) h
  · exact h3
set_option maxHeartbeats 400000 in
theorem ca_leads (D : va_G) (dA : Nat → ClassId) (h : Nat → Nat) (f : Nat → Int32) (a : Nat → Nat → Int32) (fc : Int32) (wk : Nat → Nat → Int32) (hd : Nat → Option Nat) (ri rt : Nat → Int32) (cw tx : Nat → Nat → Option Nat) (nm : Nat → Nat → Int32) (hI : cmI h) (hN : cl (a 1 3) ≤ 5 ∧ cl (ri 3) ≤ 5 ∧ cl (rt 3) ≤ 5) (hZ : cmZ (a 1) ri cw) (B : Nat → Prop) (hB : ∀ q, B q → ¬ cmA h q) (i : Nat) (hi : i < cl (a 1 3)) (hR : okR (a 1)) (T G : Nat → Int32) : Cg D dA (cmA h) yX0_leads cX0_leads 7 none 65 1493 0 0 (.ref (h 0) :: [.int (nI i)]) (fun H => va_P D cmCl (cmWs h dA f a fc (va_up (va_up wk 13 (T)) 12 (G)) hd ri rt cw tx nm) H ∧ cmPl D h B (a 1) ri rt cw tx H) (fun v' H => v' = none ∧ ∃ nm', va_P D cmCl (cmWs h dA f a fc (va_up (va_up wk 13 (hzK (a 1) i G 25 (fun _ => (-1 : Int32)))) 12 (hzK (a 1) i G 25 (fun _ => (-1 : Int32)))) hd ri rt cw tx nm') H) := by
  refine Cg.ofV (by decide) (own := RX0) rfl (Nat.le_of_ble_eq_true rfl) ?_
  intro p l e R s m args below meth c Q ls hx hb hml hRf hRl hRc hRs hin hts hown hK hP hl hret
  obtain ⟨hP, hQ⟩ := hP
  have hM : cmH D h dA s.heap s.heap [] f a fc (va_up (va_up wk 13 (T)) 12 (G)) hd ri rt cw tx nm := cmH.of hI hP va_S.rf
  have hl : lv_has ls 7 [(0, .ref (h 0)), (1, .int (nI i))] := hl
  have hN0 := hR.2.1
  have hN2 := hN0.2
  refine lv_iconst (v := nI 0) hx hb dX0_leads_0 (by decide) ?_
  refine lv_istore_n (lv' := [(2, .int (nI 0)), (0, .ref (h 0)), (1, .int (nI i))]) hx hb dX0_leads_1 rfl hl (by decide) rfl (fun ls hl => ?_)
  have loop2 : ∀ (fu : Nat) (k : Nat), (k ≤ 25) → (25 < k + fu) → ∀ (nm : Nat → Nat → Int32) (H : Heap) (locs : List Loc), cmH D h dA s.heap H locs f a fc (va_up (va_up wk 13 (cpk (fun _ => (-1 : Int32)) T k)) 12 (G)) hd ri rt cw tx nm → ∀ (ls : Array Slot), lv_has ls 7 [(2, .int (nI k)), (0, .ref (h 0)), (1, .int (nI i))] → W p l e R s m args below meth c H locs 0 0 Q (F0 m 2 ls []) := by
    intro fu
    induction fu with
    | zero =>
      intro k hk hf
      omega
    | succ fu ih2 =>
      intro k hk hf nm H locs hM ls hl
      refine lv_iload_n hx hb dX0_leads_2 rfl (lv_at hl 0 rfl) ?_
      refine lv_bipush (v := nI 25) hx hb dX0_leads_3 (by decide) ?_
      refine w_icmp_geN (tgt := 21) hx hb (by omega) (by omega) dX0_leads_5 (by decide) (fun c_1 => ?_) (fun c_1 => ?_)
      · have hM := hM.wkc (wk' := va_up (va_up wk 13 ((fun _ => (-1 : Int32)))) 12 (G)) hI (wk_full (by omega))
        refine lv_iconst (v := nI 0) hx hb dX0_leads_21 (by decide) ?_
        refine lv_istore_n (lv' := [(2, .int (nI 0)), (0, .ref (h 0)), (1, .int (nI i))]) hx hb dX0_leads_22 rfl hl (by decide) rfl (fun ls hl => ?_)
        have loop23 : ∀ (fu : Nat) (k2 : Nat), (k2 ≤ 25) → (25 < k2 + fu) → ∀ (nm : Nat → Nat → Int32) (H : Heap) (locs : List Loc), cmH D h dA s.heap H locs f a fc (va_up (va_up wk 13 (hzK (a 1) i G k2 (fun _ => (-1 : Int32)))) 12 (G)) hd ri rt cw tx nm → ∀ (ls : Array Slot), lv_has ls 7 [(2, .int (nI k2)), (0, .ref (h 0)), (1, .int (nI i))] → W p l e R s m args below meth c H locs 0 0 Q (F0 m 23 ls []) := by
          intro fu
          induction fu with
          | zero =>
            intro k2 hk2 hf2
            omega
          | succ fu ih23 =>
            intro k2 hk2 hf2 nm H locs hM ls hl
            refine lv_iload_n hx hb dX0_leads_23 rfl (lv_at hl 0 rfl) ?_
            refine lv_bipush (v := nI 25) hx hb dX0_leads_24 (by decide) ?_
            refine w_icmp_geN (tgt := 150) hx hb (by omega) (by omega) dX0_leads_26 (by decide) (fun c_2 => ?_) (fun c_2 => ?_)
            · refine lv_aload_n hx hb dX0_leads_150 rfl (lv_at hl 1 rfl) ?_
              refine c_get (v := .ref (h 13)) hx hb hts in_X0 hown hK (hM.1 0 _ rfl) rfl 11 (by decide) q297 rfl rfl dX0_leads_151 ?_
              refine lv_iconst (v := nI 0) hx hb dX0_leads_154 (by decide) ?_
              refine lv_aload_n hx hb dX0_leads_155 rfl (lv_at hl 1 rfl) ?_
              refine c_get (v := .ref (h 12)) hx hb hts in_X0 hown hK (hM.1 0 _ rfl) rfl 10 (by decide) q296 rfl rfl dX0_leads_156 ?_
              refine lv_iconst (v := nI 0) hx hb dX0_leads_159 (by decide) ?_
              refine lv_bipush (v := nI 25) hx hb dX0_leads_160 (by decide) ?_
              refine cm_copy_13_12 hx hb hml hown hts hK hI q1056 hM (by rw [hRf]; decide) (by rw [hRl]; decide) hl.1 (Nat.le_of_ble_eq_true rfl) dX0_leads_162 (fun H locs hM => ?_)
              exact hret ⟨rfl, _, (hM.wkt (wk' := va_up (va_up wk 13 (hzK (a 1) i G 25 (fun _ => (-1 : Int32)))) 12 (hzK (a 1) i G 25 (fun _ => (-1 : Int32)))) (by rw [va_uu]; show va_up (va_up wk 13 (hzK (a 1) i G k2 (fun _ => (-1 : Int32)))) 12 (hzK (a 1) i G k2 (fun _ => (-1 : Int32))) = _; rw [show k2 = 25 by omega])).1⟩ hM.2.2 dX0_leads_165
            · refine lv_aload_n hx hb dX0_leads_29 rfl (lv_at hl 1 rfl) ?_
              refine c_get (v := .ref (h 12)) hx hb hts in_X0 hown hK (hM.1 0 _ rfl) rfl 10 (by decide) q296 rfl rfl dX0_leads_30 ?_
              refine lv_iload_n hx hb dX0_leads_33 rfl (lv_at hl 0 rfl) ?_
              refine c_iald hx hb hK (hM.1 12 _ rfl) k2 ⟨by omega, by decide, rfl⟩ dX0_leads_34 ?_
              refine w_top (G k2) (rfl) ?_
              refine lv_iconst (v := (-1 : Int32)) hx hb dX0_leads_35 (by decide) ?_
              refine lv_icmp_ne (tgt := 43) hx hb dX0_leads_36 (by decide) (fun c_3 => ?_) (fun c_3 => ?_)
              · refine lv_aload_n hx hb dX0_leads_43 rfl (lv_at hl 1 rfl) ?_
                refine c_get (v := .ref (hm0 h 0)) hx hb hts in_X0 hown hK (hM.1 0 _ rfl) rfl 1 (by decide) q287 rfl rfl dX0_leads_44 ?_
                refine lv_iload_n hx hb dX0_leads_47 rfl (lv_at hl 2 rfl) ?_
                refine lv_iload_n hx hb dX0_leads_48 rfl (lv_at hl 0 rfl) ?_
                refine cm_mcall0 (y := yX2_wayOf) hx hb hml hown hts hK hI hB hM (hQ.at hB hN mwEq.rf mwEq.rf mwEq.rf hM.2.2) (hN.1) (mw_wayOf (a 1) hR i k2 (by omega) (by omega)) q574 q575 q576 q577 ndX2_wayOf rfl (by rw [hRf]; decide) (by rw [hRl]; decide) (Nat.zero_le _) (Nat.zero_le _) hl.1 rfl (Nat.le_of_ble_eq_true rfl) dX0_leads_49 (fun H locs nm hM => ?_)
                rw [va_uself] at hM
                refine lv_istore_n (lv' := [(3, .int (nI ((wayS (a 1) i k2 4).1))), (2, .int (nI k2)), (0, .ref (h 0)), (1, .int (nI i))]) hx hb dX0_leads_52 rfl hl (by decide) rfl (fun ls hl => ?_)
                refine lv_iconst (v := nI 0) hx hb dX0_leads_53 (by decide) ?_
                refine lv_istore (lv' := [(4, .int (nI 0)), (3, .int (nI ((wayS (a 1) i k2 4).1))), (2, .int (nI k2)), (0, .ref (h 0)), (1, .int (nI i))]) hx hb dX0_leads_54 hl (by decide) rfl (fun ls hl => ?_)
                have loop56 : ∀ (fu : Nat) (w : Nat), (w ≤ 5) → (5 < w + fu) → ∀ (nm : Nat → Nat → Int32) (H : Heap) (locs : List Loc), cmH D h dA s.heap H locs f a fc (va_up (va_up wk 13 (hzW G (wayS (a 1) i k2 4).1 k2 w (hzK (a 1) i G k2 (fun _ => (-1 : Int32))))) 12 (G)) hd ri rt cw tx nm → ∀ (ls : Array Slot), lv_has ls 7 [(4, .int (nI w)), (3, .int (nI ((wayS (a 1) i k2 4).1))), (2, .int (nI k2)), (0, .ref (h 0)), (1, .int (nI i))] → W p l e R s m args below meth c H locs 0 0 Q (F0 m 56 ls []) := by
                  intro fu
                  induction fu with
                  | zero =>
                    intro w hw hf3
                    omega
                  | succ fu ih56 =>
                    intro w hw hf3 nm H locs hM ls hl
                    refine lv_iload hx hb dX0_leads_56 (lv_at hl 0 rfl) ?_
                    refine lv_iconst (v := nI 5) hx hb dX0_leads_58 (by decide) ?_
                    refine w_icmp_geN (tgt := 144) hx hb (by omega) (by omega) dX0_leads_59 (by decide) (fun c_4 => ?_) (fun c_4 => ?_)
                    · refine lv_iinc (v := nI (k2 + 1)) (lv' := [(2, .int (nI (k2 + 1))), (4, .int (nI w)), (3, .int (nI ((wayS (a 1) i k2 4).1))), (0, .ref (h 0)), (1, .int (nI i))]) hx hb dX0_leads_144 hl (k := 2) rfl (by rw [show Int32.ofInt 1 = nI 1 from by decide]; exact nI_add _ _) (by decide) rfl (fun ls hl => ?_)
                      refine lv_goto (tgt := 23) hx hb dX0_leads_147 (by decide) ?_
                      exact ih23 (k2 + 1) (by omega) (by omega) _ _ _ (hM.wkt (by rw [show w = 5 by omega, hzK, if_neg c_3])) ls (lv_sub hl [0, 3, 4] rfl)
                    · refine lv_aload_n hx hb dX0_leads_62 rfl (lv_at hl 3 rfl) ?_
                      refine c_get (v := .ref (h 12)) hx hb hts in_X0 hown hK (hM.1 0 _ rfl) rfl 10 (by decide) q296 rfl rfl dX0_leads_63 ?_
                      refine lv_iload_n hx hb dX0_leads_66 rfl (lv_at hl 2 rfl) ?_
                      refine c_iald hx hb hK (hM.1 12 _ rfl) k2 ⟨by omega, by decide, rfl⟩ dX0_leads_67 ?_
                      refine w_top (G k2) (rfl) ?_
                      refine lv_iconst (v := (-1 : Int32)) hx hb dX0_leads_68 (by decide) ?_
                      refine lv_icmp_eq (tgt := 144) hx hb dX0_leads_69 (by decide) (fun c_5 => ?_) (fun c_5 => ?_)
                      · exact absurd c_5 c_3
                      · refine lv_iload_n hx hb dX0_leads_72 rfl (lv_at hl 2 rfl) ?_
                        refine lv_iload hx hb dX0_leads_73 (lv_at hl 0 rfl) ?_
                        refine st_callS (y := yX2_next) hx hb hml hown hts (cmX2_next k2 w (by omega) (by omega)) q1011 q587 q66 q588 ndX2_next rfl (by rw [hRf]; decide) (by rw [hRl]; decide) (Nat.zero_le _) (Nat.zero_le _) hl.1 rfl (Nat.le_of_ble_eq_true rfl) dX0_leads_75 ?_
                        refine lv_istore (lv' := [(5, .int (oI (nxt k2 w))), (4, .int (nI w)), (3, .int (nI ((wayS (a 1) i k2 4).1))), (2, .int (nI k2)), (0, .ref (h 0)), (1, .int (nI i))]) hx hb dX0_leads_78 hl (by decide) rfl (fun ls hl => ?_)
                        refine lv_aload_n hx hb dX0_leads_80 rfl (lv_at hl 4 rfl) ?_
                        refine c_get (v := .ref (h 12)) hx hb hts in_X0 hown hK (hM.1 0 _ rfl) rfl 10 (by decide) q296 rfl rfl dX0_leads_81 ?_
                        refine lv_iload_n hx hb dX0_leads_84 rfl (lv_at hl 3 rfl) ?_
                        refine c_iald hx hb hK (hM.1 12 _ rfl) k2 ⟨by omega, by decide, rfl⟩ dX0_leads_85 ?_
                        refine w_top (G k2) (rfl) ?_
                        refine lv_iload hx hb dX0_leads_86 (lv_at hl 1 rfl) ?_
                        refine lv_iload_n hx hb dX0_leads_88 rfl (lv_at hl 2 rfl) ?_
                        have j97 : ∀ (nm : Nat → Nat → Int32) (H : Heap) (locs : List Loc), cmH D h dA s.heap H locs f a fc (va_up (va_up wk 13 (hzW G (wayS (a 1) i k2 4).1 k2 w (hzK (a 1) i G k2 (fun _ => (-1 : Int32))))) 12 (G)) hd ri rt cw tx nm → ∀ (ls : Array Slot), lv_has ls 7 [(5, .int (oI (nxt k2 w))), (4, .int (nI w)), (3, .int (nI ((wayS (a 1) i k2 4).1))), (2, .int (nI k2)), (0, .ref (h 0)), (1, .int (nI i))] → W p l e R s m args below meth c H locs 0 0 Q (F0 m 97 ls [.int (if nI w = nI (wayS (a 1) i k2 4).1 then nI 0 else nI 1), .int (G k2)]) := by
                          intro   nm H locs hM ls hl
                          refine lv_iadd hx hb dX0_leads_97 ?_
                          refine w_top (hyV G (wayS (a 1) i k2 4).1 k2 w) (rfl) ?_
                          refine lv_istore (lv' := [(6, .int (hyV G (wayS (a 1) i k2 4).1 k2 w)), (5, .int (oI (nxt k2 w))), (4, .int (nI w)), (3, .int (nI ((wayS (a 1) i k2 4).1))), (2, .int (nI k2)), (0, .ref (h 0)), (1, .int (nI i))]) hx hb dX0_leads_98 hl (by decide) rfl (fun ls hl => ?_)
                          refine lv_iload hx hb dX0_leads_100 (lv_at hl 1 rfl) ?_
                          refine lv_iconst (v := (-1 : Int32)) hx hb dX0_leads_102 (by decide) ?_
                          refine lv_icmp_eq (tgt := 138) hx hb dX0_leads_103 (by decide) (fun c_6 => ?_) (fun c_6 => ?_)
                          · refine lv_iinc (v := nI (w + 1)) (lv' := [(4, .int (nI (w + 1))), (6, .int (hyV G (wayS (a 1) i k2 4).1 k2 w)), (5, .int (oI (nxt k2 w))), (3, .int (nI ((wayS (a 1) i k2 4).1))), (2, .int (nI k2)), (0, .ref (h 0)), (1, .int (nI i))]) hx hb dX0_leads_138 hl (k := 2) rfl (by rw [show Int32.ofInt 1 = nI 1 from by decide]; exact nI_add _ _) (by decide) rfl (fun ls hl => ?_)
                            refine lv_goto (tgt := 56) hx hb dX0_leads_141 (by decide) ?_
                            exact ih56 (w + 1) (by omega) (by omega) _ _ _ (hM.wkt (by rw [hzW_n (oI_neg (by rw [c_6]; decide) (fun z hz => by have := nxt_lt (by omega) hz; omega))])) ls (lv_sub hl [0, 3, 4, 5, 6] rfl)
                          · obtain ⟨d, hd1, hd2⟩ := oI_ne c_6
                            have hd3 := nxt_lt (by omega) hd1
                            refine lv_aload_n hx hb dX0_leads_106 rfl (lv_at hl 5 rfl) ?_
                            refine c_get (v := .ref (h 13)) hx hb hts in_X0 hown hK (hM.1 0 _ rfl) rfl 11 (by decide) q297 rfl rfl dX0_leads_107 ?_
                            refine lv_iload hx hb dX0_leads_110 (lv_at hl 1 rfl) ?_
                            refine c_iald hx hb hK (hM.1 13 _ rfl) d ⟨by omega, by decide, hd2⟩ dX0_leads_112 ?_
                            refine w_top ((hzW G (wayS (a 1) i k2 4).1 k2 w (hzK (a 1) i G k2 (fun _ => (-1 : Int32)))) d) (rfl) ?_
                            refine lv_iconst (v := (-1 : Int32)) hx hb dX0_leads_113 (by decide) ?_
                            refine lv_icmp_eq (tgt := 129) hx hb dX0_leads_114 (by decide) (fun c_7 => ?_) (fun c_7 => ?_)
                            · refine lv_aload_n hx hb dX0_leads_129 rfl (lv_at hl 5 rfl) ?_
                              refine c_get (v := .ref (h 13)) hx hb hts in_X0 hown hK (hM.1 0 _ rfl) rfl 11 (by decide) q297 rfl rfl dX0_leads_130 ?_
                              refine lv_iload hx hb dX0_leads_133 (lv_at hl 1 rfl) ?_
                              refine lv_iload hx hb dX0_leads_135 (lv_at hl 0 rfl) ?_
                              refine cm_ast_wk13 hx hb hK hI hM d ⟨by omega, hd2⟩ dX0_leads_137 (fun H locs hM => ?_)
                              refine lv_iinc (v := nI (w + 1)) (lv' := [(4, .int (nI (w + 1))), (6, .int (hyV G (wayS (a 1) i k2 4).1 k2 w)), (5, .int (oI (nxt k2 w))), (3, .int (nI ((wayS (a 1) i k2 4).1))), (2, .int (nI k2)), (0, .ref (h 0)), (1, .int (nI i))]) hx hb dX0_leads_138 hl (k := 2) rfl (by rw [show Int32.ofInt 1 = nI 1 from by decide]; exact nI_add _ _) (by decide) rfl (fun ls hl => ?_)
                              refine lv_goto (tgt := 56) hx hb dX0_leads_141 (by decide) ?_
                              exact ih56 (w + 1) (by omega) (by omega) _ _ _ (hM.wkt (by rw [va_c2 _ (by decide)]; exact congrArg (fun z => va_up (va_up wk 13 z) 12 G) (hzW_y hd1 (Or.inl c_7)))) ls (lv_sub hl [0, 3, 4, 5, 6] rfl)
                            · refine lv_iload hx hb dX0_leads_117 (lv_at hl 0 rfl) ?_
                              refine lv_aload_n hx hb dX0_leads_119 rfl (lv_at hl 5 rfl) ?_
                              refine c_get (v := .ref (h 13)) hx hb hts in_X0 hown hK (hM.1 0 _ rfl) rfl 11 (by decide) q297 rfl rfl dX0_leads_120 ?_
                              refine lv_iload hx hb dX0_leads_123 (lv_at hl 1 rfl) ?_
                              refine c_iald hx hb hK (hM.1 13 _ rfl) d ⟨by omega, by decide, hd2⟩ dX0_leads_125 ?_
                              refine w_top ((hzW G (wayS (a 1) i k2 4).1 k2 w (hzK (a 1) i G k2 (fun _ => (-1 : Int32)))) d) (rfl) ?_
                              refine lv_icmp_ge (tgt := 138) hx hb dX0_leads_126 (by decide) (fun c_8 => ?_) (fun c_8 => ?_)
                              · refine lv_iinc (v := nI (w + 1)) (lv' := [(4, .int (nI (w + 1))), (6, .int (hyV G (wayS (a 1) i k2 4).1 k2 w)), (5, .int (oI (nxt k2 w))), (3, .int (nI ((wayS (a 1) i k2 4).1))), (2, .int (nI k2)), (0, .ref (h 0)), (1, .int (nI i))]) hx hb dX0_leads_138 hl (k := 2) rfl (by rw [show Int32.ofInt 1 = nI 1 from by decide]; exact nI_add _ _) (by decide) rfl (fun ls hl => ?_)
                                refine lv_goto (tgt := 56) hx hb dX0_leads_141 (by decide) ?_
                                exact ih56 (w + 1) (by omega) (by omega) _ _ _ (hM.wkt (by rw [hzW_z hd1 (fun q => q.elim c_7 (Int32.not_lt.mpr c_8))])) ls (lv_sub hl [0, 3, 4, 5, 6] rfl)
                              · refine lv_aload_n hx hb dX0_leads_129 rfl (lv_at hl 5 rfl) ?_
                                refine c_get (v := .ref (h 13)) hx hb hts in_X0 hown hK (hM.1 0 _ rfl) rfl 11 (by decide) q297 rfl rfl dX0_leads_130 ?_
                                refine lv_iload hx hb dX0_leads_133 (lv_at hl 1 rfl) ?_
                                refine lv_iload hx hb dX0_leads_135 (lv_at hl 0 rfl) ?_
                                refine cm_ast_wk13 hx hb hK hI hM d ⟨by omega, hd2⟩ dX0_leads_137 (fun H locs hM => ?_)
                                refine lv_iinc (v := nI (w + 1)) (lv' := [(4, .int (nI (w + 1))), (6, .int (hyV G (wayS (a 1) i k2 4).1 k2 w)), (5, .int (oI (nxt k2 w))), (3, .int (nI ((wayS (a 1) i k2 4).1))), (2, .int (nI k2)), (0, .ref (h 0)), (1, .int (nI i))]) hx hb dX0_leads_138 hl (k := 2) rfl (by rw [show Int32.ofInt 1 = nI 1 from by decide]; exact nI_add _ _) (by decide) rfl (fun ls hl => ?_)
                                refine lv_goto (tgt := 56) hx hb dX0_leads_141 (by decide) ?_
                                exact ih56 (w + 1) (by omega) (by omega) _ _ _ (hM.wkt (by rw [va_c2 _ (by decide)]; exact congrArg (fun z => va_up (va_up wk 13 z) 12 G) (hzW_y hd1 (Or.inr (Int32.not_le.mp c_8))))) ls (lv_sub hl [0, 3, 4, 5, 6] rfl)
                        refine lv_icmp_ne (tgt := 96) hx hb dX0_leads_89 (by decide) (fun c_9 => ?_) (fun c_9 => ?_)
                        · refine lv_iconst (v := nI 1) hx hb dX0_leads_96 (by decide) ?_
                          refine w_top (if nI w = nI (wayS (a 1) i k2 4).1 then nI 0 else nI 1) ((if_neg c_9).symm) ?_
                          exact j97   _ _ _ hM ls (lv_sub hl [0, 1, 2, 3, 4, 5] rfl)
                        · refine lv_iconst (v := nI 0) hx hb dX0_leads_92 (by decide) ?_
                          refine lv_goto (tgt := 97) hx hb dX0_leads_93 (by decide) ?_
                          refine w_top (if nI w = nI (wayS (a 1) i k2 4).1 then nI 0 else nI 1) ((if_pos c_9).symm) ?_
                          exact j97   _ _ _ hM ls (lv_sub hl [0, 1, 2, 3, 4, 5] rfl)
                exact loop56 6 0 (by omega) (by omega) _ _ _ hM ls (lv_sub hl [0, 1, 2, 3, 4] rfl)
              · refine lv_iconst (v := nI 0) hx hb dX0_leads_39 (by decide) ?_
                refine lv_goto (tgt := 52) hx hb dX0_leads_40 (by decide) ?_
                refine lv_istore_n (lv' := [(3, .int (nI 0)), (2, .int (nI k2)), (0, .ref (h 0)), (1, .int (nI i))]) hx hb dX0_leads_52 rfl hl (by decide) rfl (fun ls hl => ?_)
                refine lv_iconst (v := nI 0) hx hb dX0_leads_53 (by decide) ?_
                refine lv_istore (lv' := [(4, .int (nI 0)), (3, .int (nI 0)), (2, .int (nI k2)), (0, .ref (h 0)), (1, .int (nI i))]) hx hb dX0_leads_54 hl (by decide) rfl (fun ls hl => ?_)
                refine lv_iload hx hb dX0_leads_56 (lv_at hl 0 rfl) ?_
                refine lv_iconst (v := nI 5) hx hb dX0_leads_58 (by decide) ?_
                refine lv_icmp_ge (tgt := 144) hx hb dX0_leads_59 (by decide) (fun q => absurd q (by decide)) (fun _ => ?_)
                refine lv_aload_n hx hb dX0_leads_62 rfl (lv_at hl 3 rfl) ?_
                refine c_get (v := .ref (h 12)) hx hb hts in_X0 hown hK (hM.1 0 _ rfl) rfl 10 (by decide) q296 rfl rfl dX0_leads_63 ?_
                refine lv_iload_n hx hb dX0_leads_66 rfl (lv_at hl 2 rfl) ?_
                refine c_iald hx hb hK (hM.1 12 _ rfl) k2 ⟨by omega, by decide, rfl⟩ dX0_leads_67 ?_
                refine w_top (G k2) (rfl) ?_
                refine lv_iconst (v := (-1 : Int32)) hx hb dX0_leads_68 (by decide) ?_
                refine lv_icmp_eq (tgt := 144) hx hb dX0_leads_69 (by decide) (fun c_11 => ?_) (fun c_11 => ?_)
                · refine lv_iinc (v := nI (k2 + 1)) (lv' := [(2, .int (nI (k2 + 1))), (4, .int (nI 0)), (3, .int (nI 0)), (0, .ref (h 0)), (1, .int (nI i))]) hx hb dX0_leads_144 hl (k := 2) rfl (by rw [show Int32.ofInt 1 = nI 1 from by decide]; exact nI_add _ _) (by decide) rfl (fun ls hl => ?_)
                  refine lv_goto (tgt := 23) hx hb dX0_leads_147 (by decide) ?_
                  exact ih23 (k2 + 1) (by omega) (by omega) _ _ _ (hM.wkt (by rw [hzK, if_pos c_3])) ls (lv_sub hl [0, 3, 4] rfl)
                · exact absurd c_3 c_11
        exact loop23 26 0 (by omega) (by omega) _ _ _ hM ls (lv_sub hl [0, 1, 2] rfl)
      · refine lv_aload_n hx hb dX0_leads_8 rfl (lv_at hl 1 rfl) ?_
        refine c_get (v := .ref (h 13)) hx hb hts in_X0 hown hK (hM.1 0 _ rfl) rfl 11 (by decide) q297 rfl rfl dX0_leads_9 ?_
        refine lv_iload_n hx hb dX0_leads_12 rfl (lv_at hl 0 rfl) ?_
        refine lv_iconst (v := (-1 : Int32)) hx hb dX0_leads_13 (by decide) ?_
        refine cm_ast_wk13 hx hb hK hI hM k ⟨by omega, rfl⟩ dX0_leads_14 (fun H locs hM => ?_)
        refine lv_iinc (v := nI (k + 1)) (lv' := [(2, .int (nI (k + 1))), (0, .ref (h 0)), (1, .int (nI i))]) hx hb dX0_leads_15 hl (k := 0) rfl (by rw [show Int32.ofInt 1 = nI 1 from by decide]; exact nI_add _ _) (by decide) rfl (fun ls hl => ?_)
        refine lv_goto (tgt := 2) hx hb dX0_leads_18 (by decide) ?_
        exact ih2 (k + 1) (by omega) (by omega) _ _ _ (hM.wkt (by rw [va_c2 _ (by decide)]; exact congrArg (fun z => va_up (va_up wk 13 z) 12 G) (cpk_u (fun _ => (-1 : Int32)) T k))) ls (lv_sub hl [0, 1, 2] rfl)
  exact loop2 26 0 (by omega) (by omega) _ _ _ (hM.wkt (by rw [cpk_z])) ls (lv_sub hl [0, 1, 2] rfl)
theorem ndX0_leads : yX0_leads.cls = RX0 ∧ yX0_leads.cls ≠ "java/lang/invoke/MethodHandle" ∧ yX0_leads.cls ≠ "java/lang/invoke/VarHandle" ∧ (parseMethodDescriptor yX0_leads.desc).map (fun d => d.parameters.length) = some 1 := by decide +kernel

set_option maxHeartbeats 400000 in
theorem ca_hays_ok (f : Nat → Int32) (a : Nat → Nat → Int32) (i : Nat) (hi : i < cl (a 1 3)) (hR : okR (a 1)) (c0 : Nat) (hc : c0 < 25) (n : Nat) (h1 : 1 ≤ n) (h30 : n ≤ 30) (hres : hyI (a 1) i n c0 < nI 100) : CmF yX0_hays cX0_hays 5 [(0, 123, 124, 8)] 66 1519 [.int (nI i), .int (nI c0), .int (nI n)] f a (hyI (a 1) i n c0) f (va_up (va_up a 12 (hyI (a 1) i n)) 13 (hyI (a 1) i n)) := by
  refine CmF.ofI (by decide) rfl (Nat.le_of_ble_eq_true rfl) ?_
  intro p l e R s m args below meth c Q D dA h fc wk hd ri rt cw tx nm B S ls hx hb hml hRf hRl hRc hRs htab hts hown hK hI hB hS0 hQ hN hIm hZ hSh hM hl hret hret0
  have hl : lv_has ls 5 [(0, .ref (h 0)), (1, .int (nI i)), (2, .int (nI c0)), (3, .int (nI n))] := hl
  have hN0 := hR.2.1
  have hN2 := hN0.2
  refine lv_aload_n hx hb dX0_hays_0 rfl (lv_at hl 0 rfl) ?_
  refine lv_aload_n hx hb dX0_hays_1 rfl (lv_at hl 0 rfl) ?_
  refine lv_iload_n hx hb dX0_hays_2 rfl (lv_at hl 1 rfl) ?_
  refine rd_callV (y := yX0_isCow) hx hb hml hown hts hK (ca_isCow D dA h _ _ _ _ _ _ _ _ _ _ (nI i)) hM.1 (cAt.recv hK (hM.1 0 _ rfl) rfl) q512 q514 qs4 q61 q515 ndX0_isCow rfl (by rw [hRf]; decide) (by rw [hRl]; decide) (Nat.zero_le _) (Nat.zero_le _) hl.1 rfl (Nat.le_of_ble_eq_true rfl) dX0_hays_3 ?_
  refine w_if_eqT (tgt := 30) hx hb dX0_hays_6 (by decide) (fun c_1 => ?_) (fun c_1 => ?_)
  · exact absurd (by first | exact (in_nat (by decide)).mpr ⟨_, by omega, rfl⟩ | exact (in_nat1 _ (by decide) (by decide)).mpr ⟨_, by omega, by omega, rfl⟩ | exact cow_in hN0 (by omega) | assumption) c_1
  · refine lv_iload_n hx hb dX0_hays_9 rfl (lv_at hl 2 rfl) ?_
    refine st_callS (y := yX0_isCell) hx hb hml hown hts (cmX0_isCell (nI c0)) q327 q328 q61 q329 ndX0_isCell rfl (by rw [hRf]; decide) (by rw [hRl]; decide) (Nat.zero_le _) (Nat.zero_le _) hl.1 rfl (Nat.le_of_ble_eq_true rfl) dX0_hays_10 ?_
    refine w_if_eqT (tgt := 30) hx hb dX0_hays_13 (by decide) (fun c_2 => ?_) (fun c_2 => ?_)
    · exact absurd (by first | exact (in_nat (by decide)).mpr ⟨_, by omega, rfl⟩ | exact (in_nat1 _ (by decide) (by decide)).mpr ⟨_, by omega, by omega, rfl⟩ | exact cow_in hN0 (by omega) | assumption) c_2
    · refine lv_iload_n hx hb dX0_hays_16 rfl (lv_at hl 3 rfl) ?_
      refine lv_iconst (v := nI 1) hx hb dX0_hays_17 (by decide) ?_
      refine lv_bipush (v := nI 30) hx hb dX0_hays_18 (by decide) ?_
      refine st_callS (y := yX0_in) hx hb hml hown hts (cmX0_in (nI n) (nI 1) (nI 30)) q330 q331 q61 q332 ndX0_in rfl (by rw [hRf]; decide) (by rw [hRl]; decide) (Nat.zero_le _) (Nat.zero_le _) hl.1 rfl (Nat.le_of_ble_eq_true rfl) dX0_hays_20 ?_
      refine w_if_eqT (tgt := 30) hx hb dX0_hays_23 (by decide) (fun c_3 => ?_) (fun c_3 => ?_)
      · exact absurd (by first | exact (in_nat (by decide)).mpr ⟨_, by omega, rfl⟩ | exact (in_nat1 _ (by decide) (by decide)).mpr ⟨_, by omega, by omega, rfl⟩ | exact cow_in hN0 (by omega) | assumption) c_3
      · refine lv_iconst (v := nI 1) hx hb dX0_hays_26 (by decide) ?_
        refine lv_goto (tgt := 31) hx hb dX0_hays_27 (by decide) ?_
        refine lv_iconst (v := nI 1) hx hb dX0_hays_31 (by decide) ?_
        refine cm_n1 hx hb hml hown hts hK hI hM htab (hpc := 124) rfl q333 (by rw [hRf]; decide) (by rw [hRl]; decide) (Nat.zero_le _) (Nat.zero_le _) hl.1 (Nat.le_of_ble_eq_true rfl) dX0_hays_32 (fun locs hM => ?_)
        obtain ⟨Z0, hZ0⟩ : ∃ z : Nat → Int32, z = hzI (a 1) i 0 := ⟨_, rfl⟩
        refine lv_iconst (v := nI 0) hx hb dX0_hays_35 (by decide) ?_
        refine lv_istore (lv' := [(4, .int (nI 0)), (0, .ref (h 0)), (1, .int (nI i)), (2, .int (nI c0)), (3, .int (nI n))]) hx hb dX0_hays_36 hl (by decide) rfl (fun ls hl => ?_)
        have loop38 : ∀ (fu : Nat) (k : Nat), (k ≤ 25) → (25 < k + fu) → ∀ (nm : Nat → Nat → Int32) (H : Heap) (locs : List Loc), cmH D h dA s.heap H locs f a fc (va_up wk 12 (cpk Z0 (wk 12) k)) hd ri rt cw tx nm → ∀ (ls : Array Slot), lv_has ls 5 [(4, .int (nI k)), (0, .ref (h 0)), (1, .int (nI i)), (2, .int (nI c0)), (3, .int (nI n))] → W p l e R s m args below meth c H locs 0 0 Q (F0 m 38 ls []) := by
          intro fu
          induction fu with
          | zero =>
            intro k hk hf
            omega
          | succ fu ih38 =>
            intro k hk hf nm H locs hM ls hl
            refine lv_iload hx hb dX0_hays_38 (lv_at hl 0 rfl) ?_
            refine lv_bipush (v := nI 25) hx hb dX0_hays_40 (by decide) ?_
            refine w_icmp_geN (tgt := 77) hx hb (by omega) (by omega) dX0_hays_42 (by decide) (fun c_4 => ?_) (fun c_4 => ?_)
            · have hM := (hM.wkc (wk' := va_up wk 12 Z0) hI (wk_full1 (by omega))).wkt (wk' := va_up (va_up wk 13 (wk 13)) 12 (hzI (a 1) i 0)) (by rw [va_uself, hZ0])
              refine lv_iconst (v := nI 0) hx hb dX0_hays_77 (by decide) ?_
              refine lv_istore (lv' := [(4, .int (nI 0)), (0, .ref (h 0)), (1, .int (nI i)), (2, .int (nI c0)), (3, .int (nI n))]) hx hb dX0_hays_78 hl (by decide) rfl (fun ls hl => ?_)
              have loop80 : ∀ (fu : Nat) (dy : Nat) (T : Nat → Int32), (dy ≤ n) → (n < dy + fu) → ∀ (nm : Nat → Nat → Int32) (H : Heap) (locs : List Loc), cmH D h dA s.heap H locs f a fc (va_up (va_up wk 13 (T)) 12 (hzI (a 1) i dy)) hd ri rt cw tx nm → ∀ (ls : Array Slot), lv_has ls 5 [(4, .int (nI dy)), (0, .ref (h 0)), (1, .int (nI i)), (2, .int (nI c0)), (3, .int (nI n))] → W p l e R s m args below meth c H locs 0 0 Q (F0 m 80 ls []) := by
                intro fu
                induction fu with
                | zero =>
                  intro dy T hd hf2
                  omega
                | succ fu ih80 =>
                  intro dy T hd hf2 nm H locs hM ls hl
                  refine lv_iload hx hb dX0_hays_80 (lv_at hl 0 rfl) ?_
                  refine lv_iload_n hx hb dX0_hays_82 rfl (lv_at hl 4 rfl) ?_
                  refine w_icmp_geN (tgt := 97) hx hb (by omega) (by omega) dX0_hays_83 (by decide) (fun c_5 => ?_) (fun c_5 => ?_)
                  · have hM := hM.wkt (wk' := va_up (va_up wk 13 (T)) 12 (hzI (a 1) i n)) (by rw [show dy = n by omega])
                    refine lv_aload_n hx hb dX0_hays_97 rfl (lv_at hl 1 rfl) ?_
                    refine lv_aload_n hx hb dX0_hays_98 rfl (lv_at hl 1 rfl) ?_
                    refine c_get (v := .ref (h 12)) hx hb hts in_X0 hown hK (hM.1 0 _ rfl) rfl 10 (by decide) q296 rfl rfl dX0_hays_99 ?_
                    refine lv_iload_n hx hb dX0_hays_102 rfl (lv_at hl 3 rfl) ?_
                    refine c_iald hx hb hK (hM.1 12 _ rfl) c0 ⟨by omega, by decide, rfl⟩ dX0_hays_103 ?_
                    refine w_top ((hzI (a 1) i n) c0) (rfl) ?_
                    refine lv_iconst (v := (-1 : Int32)) hx hb dX0_hays_104 (by decide) ?_
                    refine lv_icmp_eq (tgt := 112) hx hb dX0_hays_105 (by decide) (fun c_6 => ?_) (fun c_6 => ?_)
                    · exact absurd c_6 (hz_lt h30 hres).1
                    · refine lv_iconst (v := nI 1) hx hb dX0_hays_108 (by decide) ?_
                      refine lv_goto (tgt := 113) hx hb dX0_hays_109 (by decide) ?_
                      refine lv_iconst (v := nI 2) hx hb dX0_hays_113 (by decide) ?_
                      refine cm_n1 hx hb hml hown hts hK hI hM htab (hpc := 124) rfl q333 (by rw [hRf]; decide) (by rw [hRl]; decide) (Nat.zero_le _) (Nat.zero_le _) hl.1 (Nat.le_of_ble_eq_true rfl) dX0_hays_114 (fun locs hM => ?_)
                      refine lv_aload_n hx hb dX0_hays_117 rfl (lv_at hl 1 rfl) ?_
                      refine c_get (v := .ref (h 12)) hx hb hts in_X0 hown hK (hM.1 0 _ rfl) rfl 10 (by decide) q296 rfl rfl dX0_hays_118 ?_
                      refine lv_iload_n hx hb dX0_hays_121 rfl (lv_at hl 3 rfl) ?_
                      refine c_iald hx hb hK (hM.1 12 _ rfl) c0 ⟨by omega, by decide, rfl⟩ dX0_hays_122 ?_
                      refine w_top ((hzI (a 1) i n) c0) (rfl) ?_
                      exact hret0 (hM.cg (a' := va_up (va_up a 12 (hyI (a 1) i n)) 13 (hyI (a 1) i n)) (f' := f) rfl rfl rfl rfl rfl) (mwEq.rf) rfl rfl ⟨rfl, rfl, rfl⟩ ((hz_lt h30 hres).2) dX0_hays_123
                  · refine lv_aload_n hx hb dX0_hays_86 rfl (lv_at hl 1 rfl) ?_
                    refine lv_iload_n hx hb dX0_hays_87 rfl (lv_at hl 2 rfl) ?_
                    refine cg_callV (y := yX0_leads) (b := h 0) (C := RX0) (As := [.int (nI i)]) hx hb hml hown hts hK hM.2.2 (ca_leads D dA h _ _ _ _ _ _ _ _ _ _ hI hN hZ B hB i hi hR T (hzI (a 1) i dy)) ⟨hM.1, hQ.at hB hN mwEq.rf mwEq.rf mwEq.rf hM.2.2⟩ (fun q hq => hq) (cAt.recv hK (hM.1 0 _ rfl) rfl) q1072 q1074 qs20 q61 q1075 ndX0_leads rfl (by rw [hRf]; decide) (by rw [hRl]; decide) (Nat.zero_le _) (Nat.zero_le _) hl.1 rfl (Nat.le_of_ble_eq_true rfl) dX0_hays_88 ?_
                    rintro _ H locs ⟨rfl, nm, hP1⟩ hz1 hk1 hS1
                    have hM := cmH.of hI hP1 hS1
                    refine lv_iinc (v := nI (dy + 1)) (lv' := [(4, .int (nI (dy + 1))), (0, .ref (h 0)), (1, .int (nI i)), (2, .int (nI c0)), (3, .int (nI n))]) hx hb dX0_hays_91 hl (k := 0) rfl (by rw [show Int32.ofInt 1 = nI 1 from by decide]; exact nI_add _ _) (by decide) rfl (fun ls hl => ?_)
                    refine lv_goto (tgt := 80) hx hb dX0_hays_94 (by decide) ?_
                    exact ih80 (dy + 1) _ (by omega) (by omega) _ _ _ hM ls (lv_sub hl [0, 1, 2, 3, 4] rfl)
              exact loop80 (n + 1) 0 (wk 13) (by omega) (by omega) _ _ _ hM ls (lv_sub hl [0, 1, 2, 3, 4] rfl)
            · refine lv_aload_n hx hb dX0_hays_45 rfl (lv_at hl 1 rfl) ?_
              refine c_get (v := .ref (h 12)) hx hb hts in_X0 hown hK (hM.1 0 _ rfl) rfl 10 (by decide) q296 rfl rfl dX0_hays_46 ?_
              refine lv_iload hx hb dX0_hays_49 (lv_at hl 0 rfl) ?_
              refine lv_iload hx hb dX0_hays_51 (lv_at hl 0 rfl) ?_
              refine lv_aload_n hx hb dX0_hays_53 rfl (lv_at hl 1 rfl) ?_
              refine c_get (v := .ref (hm0 h 0)) hx hb hts in_X0 hown hK (hM.1 0 _ rfl) rfl 1 (by decide) q287 rfl rfl dX0_hays_54 ?_
              have nq := hK.F 5 rfl
              refine c_getN (v := .ref (hm0 h 4)) hx hb hts in_X2 hown hK ((cm_parts hM.1).2.1 0 _ rfl) rfl 5 (by decide) nq rfl rfl dX0_hays_57 ?_
              refine lv_iload_n hx hb dX0_hays_60 rfl (lv_at hl 2 rfl) ?_
              refine c_iald hx hb hK ((cm_parts hM.1).2.1 4 _ rfl) i ⟨by omega, by decide, rfl⟩ dX0_hays_61 ?_
              refine w_top (a 1 (58 + 14 * i + 2)) (rfl) ?_
              refine w_top (a 1 (58 + 14 * i + 2)) (rfl) ?_
              have j70 : ∀ (nm : Nat → Nat → Int32) (H : Heap) (locs : List Loc), cmH D h dA s.heap H locs f a fc (va_up wk 12 (cpk Z0 (wk 12) k)) hd ri rt cw tx nm → ∀ (ls : Array Slot), lv_has ls 5 [(4, .int (nI k)), (0, .ref (h 0)), (1, .int (nI i)), (2, .int (nI c0)), (3, .int (nI n))] → W p l e R s m args below meth c H locs 0 0 Q (F0 m 70 ls [.int (Z0 k), .int (nI k), .ref (h 12)]) := by
                intro   nm H locs hM ls hl
                refine cm_ast_wk12 hx hb hK hI hM k ⟨by omega, rfl⟩ dX0_hays_70 (fun H locs hM => ?_)
                refine lv_iinc (v := nI (k + 1)) (lv' := [(4, .int (nI (k + 1))), (0, .ref (h 0)), (1, .int (nI i)), (2, .int (nI c0)), (3, .int (nI n))]) hx hb dX0_hays_71 hl (k := 0) rfl (by rw [show Int32.ofInt 1 = nI 1 from by decide]; exact nI_add _ _) (by decide) rfl (fun ls hl => ?_)
                refine lv_goto (tgt := 38) hx hb dX0_hays_74 (by decide) ?_
                exact ih38 (k + 1) (by omega) (by omega) _ _ _ (hM.wkt (by rw [va_uu, va_us, cpk_u])) ls (lv_sub hl [0, 1, 2, 3, 4] rfl)
              refine lv_icmp_ne (tgt := 69) hx hb dX0_hays_62 (by decide) (fun c_7 => ?_) (fun c_7 => ?_)
              · refine lv_iconst (v := (-1 : Int32)) hx hb dX0_hays_69 (by decide) ?_
                refine w_top (Z0 k) (by rw [hZ0]; exact (if_neg c_7).symm) ?_
                exact j70   _ _ _ hM ls (lv_sub hl [0, 1, 2, 3, 4] rfl)
              · refine lv_iconst (v := nI 0) hx hb dX0_hays_65 (by decide) ?_
                refine lv_goto (tgt := 70) hx hb dX0_hays_66 (by decide) ?_
                refine w_top (Z0 k) (by rw [hZ0]; exact (if_pos c_7).symm) ?_
                exact j70   _ _ _ hM ls (lv_sub hl [0, 1, 2, 3, 4] rfl)
        exact loop38 26 0 (by omega) (by omega) _ _ _ (hM.wkt (by rw [cpk_z]; exact va_self wk 12)) ls (lv_sub hl [0, 1, 2, 3, 4] rfl)
set_option maxHeartbeats 400000 in
theorem ca_hays_n (f : Nat → Int32) (a : Nat → Nat → Int32) (i : Nat) (hi : i < cl (a 1 3)) (hR : okR (a 1)) (c0 : Nat) (hc : c0 < 25) (n : Nat) (h1 : 1 ≤ n) (h30 : n ≤ 30) (hres : ¬ hyI (a 1) i n c0 < nI 100) : CmF yX0_hays cX0_hays 5 [(0, 123, 124, 8)] 66 1519 [.int (nI i), .int (nI c0), .int (nI n)] f a (-1000000002 : Int32) f (mErr (va_up (va_up a 12 (hyI (a 1) i n)) 13 (hyI (a 1) i n)) 2) := by
  refine CmF.ofI (by decide) rfl (Nat.le_of_ble_eq_true rfl) ?_
  intro p l e R s m args below meth c Q D dA h fc wk hd ri rt cw tx nm B S ls hx hb hml hRf hRl hRc hRs htab hts hown hK hI hB hS0 hQ hN hIm hZ hSh hM hl hret hret0
  have hl : lv_has ls 5 [(0, .ref (h 0)), (1, .int (nI i)), (2, .int (nI c0)), (3, .int (nI n))] := hl
  have hN0 := hR.2.1
  have hN2 := hN0.2
  refine lv_aload_n hx hb dX0_hays_0 rfl (lv_at hl 0 rfl) ?_
  refine lv_aload_n hx hb dX0_hays_1 rfl (lv_at hl 0 rfl) ?_
  refine lv_iload_n hx hb dX0_hays_2 rfl (lv_at hl 1 rfl) ?_
  refine rd_callV (y := yX0_isCow) hx hb hml hown hts hK (ca_isCow D dA h _ _ _ _ _ _ _ _ _ _ (nI i)) hM.1 (cAt.recv hK (hM.1 0 _ rfl) rfl) q512 q514 qs4 q61 q515 ndX0_isCow rfl (by rw [hRf]; decide) (by rw [hRl]; decide) (Nat.zero_le _) (Nat.zero_le _) hl.1 rfl (Nat.le_of_ble_eq_true rfl) dX0_hays_3 ?_
  refine w_if_eqT (tgt := 30) hx hb dX0_hays_6 (by decide) (fun c_1 => ?_) (fun c_1 => ?_)
  · exact absurd (by first | exact (in_nat (by decide)).mpr ⟨_, by omega, rfl⟩ | exact (in_nat1 _ (by decide) (by decide)).mpr ⟨_, by omega, by omega, rfl⟩ | exact cow_in hN0 (by omega) | assumption) c_1
  · refine lv_iload_n hx hb dX0_hays_9 rfl (lv_at hl 2 rfl) ?_
    refine st_callS (y := yX0_isCell) hx hb hml hown hts (cmX0_isCell (nI c0)) q327 q328 q61 q329 ndX0_isCell rfl (by rw [hRf]; decide) (by rw [hRl]; decide) (Nat.zero_le _) (Nat.zero_le _) hl.1 rfl (Nat.le_of_ble_eq_true rfl) dX0_hays_10 ?_
    refine w_if_eqT (tgt := 30) hx hb dX0_hays_13 (by decide) (fun c_2 => ?_) (fun c_2 => ?_)
    · exact absurd (by first | exact (in_nat (by decide)).mpr ⟨_, by omega, rfl⟩ | exact (in_nat1 _ (by decide) (by decide)).mpr ⟨_, by omega, by omega, rfl⟩ | exact cow_in hN0 (by omega) | assumption) c_2
    · refine lv_iload_n hx hb dX0_hays_16 rfl (lv_at hl 3 rfl) ?_
      refine lv_iconst (v := nI 1) hx hb dX0_hays_17 (by decide) ?_
      refine lv_bipush (v := nI 30) hx hb dX0_hays_18 (by decide) ?_
      refine st_callS (y := yX0_in) hx hb hml hown hts (cmX0_in (nI n) (nI 1) (nI 30)) q330 q331 q61 q332 ndX0_in rfl (by rw [hRf]; decide) (by rw [hRl]; decide) (Nat.zero_le _) (Nat.zero_le _) hl.1 rfl (Nat.le_of_ble_eq_true rfl) dX0_hays_20 ?_
      refine w_if_eqT (tgt := 30) hx hb dX0_hays_23 (by decide) (fun c_3 => ?_) (fun c_3 => ?_)
      · exact absurd (by first | exact (in_nat (by decide)).mpr ⟨_, by omega, rfl⟩ | exact (in_nat1 _ (by decide) (by decide)).mpr ⟨_, by omega, by omega, rfl⟩ | exact cow_in hN0 (by omega) | assumption) c_3
      · refine lv_iconst (v := nI 1) hx hb dX0_hays_26 (by decide) ?_
        refine lv_goto (tgt := 31) hx hb dX0_hays_27 (by decide) ?_
        refine lv_iconst (v := nI 1) hx hb dX0_hays_31 (by decide) ?_
        refine cm_n1 hx hb hml hown hts hK hI hM htab (hpc := 124) rfl q333 (by rw [hRf]; decide) (by rw [hRl]; decide) (Nat.zero_le _) (Nat.zero_le _) hl.1 (Nat.le_of_ble_eq_true rfl) dX0_hays_32 (fun locs hM => ?_)
        obtain ⟨Z0, hZ0⟩ : ∃ z : Nat → Int32, z = hzI (a 1) i 0 := ⟨_, rfl⟩
        refine lv_iconst (v := nI 0) hx hb dX0_hays_35 (by decide) ?_
        refine lv_istore (lv' := [(4, .int (nI 0)), (0, .ref (h 0)), (1, .int (nI i)), (2, .int (nI c0)), (3, .int (nI n))]) hx hb dX0_hays_36 hl (by decide) rfl (fun ls hl => ?_)
        have loop38 : ∀ (fu : Nat) (k : Nat), (k ≤ 25) → (25 < k + fu) → ∀ (nm : Nat → Nat → Int32) (H : Heap) (locs : List Loc), cmH D h dA s.heap H locs f a fc (va_up wk 12 (cpk Z0 (wk 12) k)) hd ri rt cw tx nm → ∀ (ls : Array Slot), lv_has ls 5 [(4, .int (nI k)), (0, .ref (h 0)), (1, .int (nI i)), (2, .int (nI c0)), (3, .int (nI n))] → W p l e R s m args below meth c H locs 0 0 Q (F0 m 38 ls []) := by
          intro fu
          induction fu with
          | zero =>
            intro k hk hf
            omega
          | succ fu ih38 =>
            intro k hk hf nm H locs hM ls hl
            refine lv_iload hx hb dX0_hays_38 (lv_at hl 0 rfl) ?_
            refine lv_bipush (v := nI 25) hx hb dX0_hays_40 (by decide) ?_
            refine w_icmp_geN (tgt := 77) hx hb (by omega) (by omega) dX0_hays_42 (by decide) (fun c_4 => ?_) (fun c_4 => ?_)
            · have hM := (hM.wkc (wk' := va_up wk 12 Z0) hI (wk_full1 (by omega))).wkt (wk' := va_up (va_up wk 13 (wk 13)) 12 (hzI (a 1) i 0)) (by rw [va_uself, hZ0])
              refine lv_iconst (v := nI 0) hx hb dX0_hays_77 (by decide) ?_
              refine lv_istore (lv' := [(4, .int (nI 0)), (0, .ref (h 0)), (1, .int (nI i)), (2, .int (nI c0)), (3, .int (nI n))]) hx hb dX0_hays_78 hl (by decide) rfl (fun ls hl => ?_)
              have loop80 : ∀ (fu : Nat) (dy : Nat) (T : Nat → Int32), (dy ≤ n) → (n < dy + fu) → ∀ (nm : Nat → Nat → Int32) (H : Heap) (locs : List Loc), cmH D h dA s.heap H locs f a fc (va_up (va_up wk 13 (T)) 12 (hzI (a 1) i dy)) hd ri rt cw tx nm → ∀ (ls : Array Slot), lv_has ls 5 [(4, .int (nI dy)), (0, .ref (h 0)), (1, .int (nI i)), (2, .int (nI c0)), (3, .int (nI n))] → W p l e R s m args below meth c H locs 0 0 Q (F0 m 80 ls []) := by
                intro fu
                induction fu with
                | zero =>
                  intro dy T hd hf2
                  omega
                | succ fu ih80 =>
                  intro dy T hd hf2 nm H locs hM ls hl
                  refine lv_iload hx hb dX0_hays_80 (lv_at hl 0 rfl) ?_
                  refine lv_iload_n hx hb dX0_hays_82 rfl (lv_at hl 4 rfl) ?_
                  refine w_icmp_geN (tgt := 97) hx hb (by omega) (by omega) dX0_hays_83 (by decide) (fun c_5 => ?_) (fun c_5 => ?_)
                  · have hM := hM.wkt (wk' := va_up (va_up wk 13 (T)) 12 (hzI (a 1) i n)) (by rw [show dy = n by omega])
                    refine lv_aload_n hx hb dX0_hays_97 rfl (lv_at hl 1 rfl) ?_
                    refine lv_aload_n hx hb dX0_hays_98 rfl (lv_at hl 1 rfl) ?_
                    refine c_get (v := .ref (h 12)) hx hb hts in_X0 hown hK (hM.1 0 _ rfl) rfl 10 (by decide) q296 rfl rfl dX0_hays_99 ?_
                    refine lv_iload_n hx hb dX0_hays_102 rfl (lv_at hl 3 rfl) ?_
                    refine c_iald hx hb hK (hM.1 12 _ rfl) c0 ⟨by omega, by decide, rfl⟩ dX0_hays_103 ?_
                    refine w_top ((hzI (a 1) i n) c0) (rfl) ?_
                    refine lv_iconst (v := (-1 : Int32)) hx hb dX0_hays_104 (by decide) ?_
                    refine lv_icmp_eq (tgt := 112) hx hb dX0_hays_105 (by decide) (fun c_6 => ?_) (fun c_6 => ?_)
                    · refine lv_iconst (v := nI 0) hx hb dX0_hays_112 (by decide) ?_
                      refine lv_iconst (v := nI 2) hx hb dX0_hays_113 (by decide) ?_
                      refine cm_n0 hx hb hml hown hts hK hI hM htab (hpc := 124) rfl q333 (by rw [hRf]; decide) (by rw [hRl]; decide) (Nat.zero_le _) (Nat.zero_le _) hl.1 (Nat.le_of_ble_eq_true rfl) dX0_hays_114 (fun H locs hM => ?_)
                      refine lv_astore (lv' := [(4, .ref (h 1)), (0, .ref (h 0)), (1, .int (nI i)), (2, .int (nI c0)), (3, .int (nI n))]) hx hb dX0_hays_124 hl (by decide) rfl (fun ls hl => ?_)
                      refine lv_aload_n hx hb dX0_hays_126 rfl (lv_at hl 1 rfl) ?_
                      refine lv_aload hx hb dX0_hays_127 (lv_at hl 0 rfl) ?_
                      refine cm_fin hx hb hml hown hts hK hI 2 (by decide) hM q341 (by rw [hRf]; decide) (by rw [hRl]; decide) (Nat.zero_le _) (Nat.zero_le _) hl.1 (Nat.le_of_ble_eq_true rfl) dX0_hays_129 (fun H locs hM => ?_)
                      exact hret0 (hM.cg (a' := mErr (va_up (va_up a 12 (hyI (a 1) i n)) 13 (hyI (a 1) i n)) 2) (f' := f) rfl rfl rfl rfl rfl) (mwEq.rf) rfl rfl ⟨rfl, rfl, rfl⟩ (by decide) dX0_hays_132
                    · exact absurd (hz_ge h30 hres) c_6
                  · refine lv_aload_n hx hb dX0_hays_86 rfl (lv_at hl 1 rfl) ?_
                    refine lv_iload_n hx hb dX0_hays_87 rfl (lv_at hl 2 rfl) ?_
                    refine cg_callV (y := yX0_leads) (b := h 0) (C := RX0) (As := [.int (nI i)]) hx hb hml hown hts hK hM.2.2 (ca_leads D dA h _ _ _ _ _ _ _ _ _ _ hI hN hZ B hB i hi hR T (hzI (a 1) i dy)) ⟨hM.1, hQ.at hB hN mwEq.rf mwEq.rf mwEq.rf hM.2.2⟩ (fun q hq => hq) (cAt.recv hK (hM.1 0 _ rfl) rfl) q1072 q1074 qs20 q61 q1075 ndX0_leads rfl (by rw [hRf]; decide) (by rw [hRl]; decide) (Nat.zero_le _) (Nat.zero_le _) hl.1 rfl (Nat.le_of_ble_eq_true rfl) dX0_hays_88 ?_
                    rintro _ H locs ⟨rfl, nm, hP1⟩ hz1 hk1 hS1
                    have hM := cmH.of hI hP1 hS1
                    refine lv_iinc (v := nI (dy + 1)) (lv' := [(4, .int (nI (dy + 1))), (0, .ref (h 0)), (1, .int (nI i)), (2, .int (nI c0)), (3, .int (nI n))]) hx hb dX0_hays_91 hl (k := 0) rfl (by rw [show Int32.ofInt 1 = nI 1 from by decide]; exact nI_add _ _) (by decide) rfl (fun ls hl => ?_)
                    refine lv_goto (tgt := 80) hx hb dX0_hays_94 (by decide) ?_
                    exact ih80 (dy + 1) _ (by omega) (by omega) _ _ _ hM ls (lv_sub hl [0, 1, 2, 3, 4] rfl)
              exact loop80 (n + 1) 0 (wk 13) (by omega) (by omega) _ _ _ hM ls (lv_sub hl [0, 1, 2, 3, 4] rfl)
            · refine lv_aload_n hx hb dX0_hays_45 rfl (lv_at hl 1 rfl) ?_
              refine c_get (v := .ref (h 12)) hx hb hts in_X0 hown hK (hM.1 0 _ rfl) rfl 10 (by decide) q296 rfl rfl dX0_hays_46 ?_
              refine lv_iload hx hb dX0_hays_49 (lv_at hl 0 rfl) ?_
              refine lv_iload hx hb dX0_hays_51 (lv_at hl 0 rfl) ?_
              refine lv_aload_n hx hb dX0_hays_53 rfl (lv_at hl 1 rfl) ?_
              refine c_get (v := .ref (hm0 h 0)) hx hb hts in_X0 hown hK (hM.1 0 _ rfl) rfl 1 (by decide) q287 rfl rfl dX0_hays_54 ?_
              have nq := hK.F 5 rfl
              refine c_getN (v := .ref (hm0 h 4)) hx hb hts in_X2 hown hK ((cm_parts hM.1).2.1 0 _ rfl) rfl 5 (by decide) nq rfl rfl dX0_hays_57 ?_
              refine lv_iload_n hx hb dX0_hays_60 rfl (lv_at hl 2 rfl) ?_
              refine c_iald hx hb hK ((cm_parts hM.1).2.1 4 _ rfl) i ⟨by omega, by decide, rfl⟩ dX0_hays_61 ?_
              refine w_top (a 1 (58 + 14 * i + 2)) (rfl) ?_
              refine w_top (a 1 (58 + 14 * i + 2)) (rfl) ?_
              have j70 : ∀ (nm : Nat → Nat → Int32) (H : Heap) (locs : List Loc), cmH D h dA s.heap H locs f a fc (va_up wk 12 (cpk Z0 (wk 12) k)) hd ri rt cw tx nm → ∀ (ls : Array Slot), lv_has ls 5 [(4, .int (nI k)), (0, .ref (h 0)), (1, .int (nI i)), (2, .int (nI c0)), (3, .int (nI n))] → W p l e R s m args below meth c H locs 0 0 Q (F0 m 70 ls [.int (Z0 k), .int (nI k), .ref (h 12)]) := by
                intro   nm H locs hM ls hl
                refine cm_ast_wk12 hx hb hK hI hM k ⟨by omega, rfl⟩ dX0_hays_70 (fun H locs hM => ?_)
                refine lv_iinc (v := nI (k + 1)) (lv' := [(4, .int (nI (k + 1))), (0, .ref (h 0)), (1, .int (nI i)), (2, .int (nI c0)), (3, .int (nI n))]) hx hb dX0_hays_71 hl (k := 0) rfl (by rw [show Int32.ofInt 1 = nI 1 from by decide]; exact nI_add _ _) (by decide) rfl (fun ls hl => ?_)
                refine lv_goto (tgt := 38) hx hb dX0_hays_74 (by decide) ?_
                exact ih38 (k + 1) (by omega) (by omega) _ _ _ (hM.wkt (by rw [va_uu, va_us, cpk_u])) ls (lv_sub hl [0, 1, 2, 3, 4] rfl)
              refine lv_icmp_ne (tgt := 69) hx hb dX0_hays_62 (by decide) (fun c_7 => ?_) (fun c_7 => ?_)
              · refine lv_iconst (v := (-1 : Int32)) hx hb dX0_hays_69 (by decide) ?_
                refine w_top (Z0 k) (by rw [hZ0]; exact (if_neg c_7).symm) ?_
                exact j70   _ _ _ hM ls (lv_sub hl [0, 1, 2, 3, 4] rfl)
              · refine lv_iconst (v := nI 0) hx hb dX0_hays_65 (by decide) ?_
                refine lv_goto (tgt := 70) hx hb dX0_hays_66 (by decide) ?_
                refine w_top (Z0 k) (by rw [hZ0]; exact (if_pos c_7).symm) ?_
                exact j70   _ _ _ hM ls (lv_sub hl [0, 1, 2, 3, 4] rfl)
        exact loop38 26 0 (by omega) (by omega) _ _ _ (hM.wkt (by rw [cpk_z]; exact va_self wk 12)) ls (lv_sub hl [0, 1, 2, 3, 4] rfl)
