/-! the reader whole (printed by comp40.py) -/
set_option maxRecDepth 100000
/-- all of the reader's methods, 5 - o more may be opened -/
theorem rd_chain {D : va_G} {dA : Nat → ClassId} {b0 : Nat} {ad adV : Nat → Nat} (rd sn ba n : Nat) (tb bb : Nat → Int32) (htb : tbOK tb bb n) (hrd : b0 ≤ rd) (hne : ¬ ba = rd) (o fr0 lo0 : Nat) (hf0 : 7 ≤ fr0) (hl0 : 155 ≤ lo0) (fac : Nat → Rs Dn) (hm : mono n fac) (hS : RM D dA b0 ad adV rd sn ba n tb yX16_single cX16_single 3 fr0 lo0 o fac) : RM D dA b0 ad adV rd sn ba n tb yX16_either cX16_either 2 (fr0 + 5) (lo0 + 109) o (whoF opD bb n fac) := by
  have h1 := rd_product rd sn ba n tb bb htb hrd hne o fr0 lo0 hf0 hl0 fac hm hS
  have h2 := rd_sum rd sn ba n tb bb htb hrd hne o (fr0 + 1) (lo0 + 22) (by omega) (by omega) (prodF opD bb n fac) (prodF_mono hm) h1
  have h3 := rd_relation rd sn ba n tb bb htb hrd hne o (fr0 + 1 + 1) (lo0 + 22 + 22) (by omega) (by omega) (sumF opD bb n fac) (sumF_mono hm) h2
  have h4 := rd_both rd sn ba n tb bb htb hrd hne o (fr0 + 1 + 1 + 1) (lo0 + 22 + 22 + 22) (by omega) (by omega) (cmpF opD bb n fac) (cmpF_mono hm) h3
  have h5 := rd_either rd sn ba n tb bb htb hrd hne o (fr0 + 1 + 1 + 1 + 1) (lo0 + 22 + 22 + 22 + 22) (by omega) (by omega) (bothF opD bb n fac) (bothF_mono hm) h4
  exact h5
theorem rd_single {D : va_G} {dA : Nat → ClassId} {b0 : Nat} {ad adV : Nat → Nat} (rd ba n : Nat) (tb bb : Nat → Int32) (htb : tbOK tb bb n) (hrd : b0 ≤ rd) (hne : ¬ ba = rd) (u : Nat) (hu : u < 2) : ∀ d, d ≤ 5 → RM D dA b0 ad adV rd (ad u) ba n tb yX16_single cX16_single 3 (7 + 6 * d) (155 + 131 * d) (5 - d) (facD opD bb n u d)
  | 0, _ => rd_single0 rd ba n tb bb htb hrd hne u hu
  | d + 1, h => by
    have ih := rd_single (D := D) (dA := dA) (ad := ad) (adV := adV) rd ba n tb bb htb hrd hne u hu d (by omega)
    have hw := rd_chain rd (ad u) ba n tb bb htb hrd hne (5 - d) (7 + 6 * d) (155 + 131 * d) (by omega) (by omega) (facD opD bb n u d) (facD_mono d) ih
    have e : 5 - d = 5 - (d + 1) + 1 := by omega
    rw [e] at ih hw
    exact rd_singleS rd ba n tb bb htb hrd hne u hu (5 - (d + 1)) (7 + 6 * d) (155 + 131 * d) (7 + 6 * d + 5) (155 + 131 * d + 109) (by omega) (by omega) (by omega) (by omega) (by omega) (facD opD bb n u d) (whoF opD bb n (facD opD bb n u d)) (facD_mono d) (whoF_mono (facD_mono d)) ih hw
/-- the whole text, as the reader reads it -/
def rdG (bb : Nat → Int32) (n u : Nat) : Rs Dn := whoF opD bb n (facD opD bb n u 5) 0
def rdR (bb : Nat → Int32) (n u : Nat) : Rs Dn := ((rdG bb n u).1, (rdG bb n u).2.1, (rdG bb n u).2.2 && decide ((rdG bb n u).2.1 = n))
theorem ndX16_read : yX16_read.cls = RX16 ∧ yX16_read.cls ≠ "java/lang/invoke/MethodHandle" ∧ yX16_read.cls ≠ "java/lang/invoke/VarHandle" ∧ (parseMethodDescriptor yX16_read.desc).map (fun d => d.parameters.length) = some 0 := by decide +kernel
set_option maxHeartbeats 1000000 in
theorem rd_read {D : va_G} {dA : Nat → ClassId} {b0 : Nat} {ad adV : Nat → Nat} (rd ba n : Nat) (tb bb : Nat → Int32) (htb : tbOK tb bb n) (hrd : b0 ≤ rd) (hne : ¬ ba = rd) (u : Nat) (hu : u < 2) (b : Nat) (hbb : b0 ≤ b) : Cs D dA b0 ad adV (rdA rd b) yX16_read cX16_read 2 (some (.object "MeadowMilk$Term")) 43 940 (uC 0 (rdR bb n u)) (uS 0 (rdR bb n u)) [.ref rd] (fun H => H.size = b ∧ rdC D dA rd (ad u) ba n 0 0 tb H) (rdQ D rd (ad u) ba n 0 b 0 (rdR bb n u)) := by
  have hei := rd_chain (D := D) (dA := dA) (ad := ad) (adV := adV) rd (ad u) ba n tb bb htb hrd hne 0 37 810 (by omega) (by omega) (facD opD bb n u 5) (facD_mono 5) (rd_single rd ba n tb bb htb hrd hne u hu 5 (by omega))
  refine Cs.ofA (Or.inl ⟨_, rfl⟩) (by decide) (own := RX16) rfl (Nat.le_of_ble_eq_true rfl) ?_
  intro p l e R s m args below meth c Q ls hx hb hml hRf hRl hRc hRs hts hown hK hE hP hl hret hthr
  obtain ⟨rfl, hRd, hBa⟩ := hP
  have hl : lv_has ls 2 [(0, .ref rd)] := hl
  have hrb := hRd.lt
  have hbl := hBa.lt
  have hn5 := htb.1
  have hA0 : ∀ q, rdA rd s.heap.size q → b0 ≤ q := fun q hq => hq.elim (fun z => by rw [z]; exact hrd) (fun z => Nat.le_trans hbb z)
  have hJ : rdJ D rd s (rdF (ad u) ba n 0 0) s.heap [] := ⟨hRd, Nat.le_refl _, fun _ _ _ => rfl, fun q hq => by cases hq⟩
  have hm := (whoF_mono (O := opD) (b := bb) (facD_mono (O := opD) (b := bb) (u := u) 5) : mono n (whoF opD bb n (facD opD bb n u 5))) 0 (Nat.zero_le _)
  have hr9 : whoF opD bb n (facD opD bb n u 5) 0 = rdG bb n u := rfl
  have hrr : rdR bb n u = ((rdG bb n u).1, (rdG bb n u).2.1, (rdG bb n u).2.2 && decide ((rdG bb n u).2.1 = n)) := rfl
  rw [hr9] at hm
  generalize rdG bb n u = r at *
  generalize rdR bb n u = G at *
  have hp : G.2.1 = r.2.1 := by rw [hrr]
  have hU : uC 0 r ≤ uC 0 G ∧ uS 0 r ≤ uS 0 G := by
    rw [hrr]
    unfold uC uS
    dsimp only
    cases r.2.2 <;> simp <;> omega
  have hei0 := hei s.heap.size 0 (Nat.zero_le _) hbb
  rw [hr9] at hei0
  refine lv_aload_n hx hb dX16_read_0 rfl (lv_at hl 0 rfl) ?_
  refine rd_call (y := yX16_either) (As := []) hx hb hml hown hts hK hE hJ hA0 hei0 ⟨rfl, hRd, hBa⟩ q709 q711 qs5 q712 ndX16_either rfl (by rw [hRf]; decide) (by rw [hRl]; decide) (by rw [hRc]; omega) (by rw [hRs]; omega) hl.1 rfl (Nat.le_of_ble_eq_true rfl) dX16_read_1 ?_ ?_
  · intro v H locs hq hz hk hL
    obtain ⟨hg, x, rfl, hR1, hT⟩ := hq.ret
    have hJ := hJ.go hR1 hz hk hL
    obtain ⟨u1, u2⟩ := uC_y (t := 0) hg
    refine lv_astore_n (lv' := [(1, .ref x), (0, .ref rd)]) hx hb dX16_read_4 rfl hl (by decide) rfl (fun ls hl => ?_)
    refine lv_aload_n hx hb dX16_read_5 rfl (lv_at hl 1 rfl) ?_
    refine lv_aload_n hx hb dX16_read_6 rfl (lv_at hl 1 rfl) ?_
    refine c_get (v := .int (nI r.2.1)) hx hb hts in_X16 hown hK hJ.1 rfl 3 (by decide) q692 rfl rfl dX16_read_7 ?_
    refine lv_aload_n hx hb dX16_read_10 rfl (lv_at hl 1 rfl) ?_
    refine c_get (v := .int (nI n)) hx hb hts in_X16 hown hK hJ.1 rfl 2 (by decide) q691 rfl rfl dX16_read_11 ?_
    refine w_icmp_neN (tgt := 21) hx hb (by omega) (by omega) dX16_read_14 (by decide) (fun c1 => ?_) (fun c1 => ?_)
    · have hgG : ¬ G.2.2 = true := by rw [hrr]; dsimp only; rw [decide_eq_false c1]; simp
      obtain ⟨w1, w2⟩ := uC_n (t := 0) hgG
      refine lv_iconst (v := nI 0) hx hb dX16_read_21 (by decide) ?_
      refine rd_call (y := yX16_fault) (As := [.int (nI 0)]) hx hb hml hown hts hK hE hJ hA0 (rd_fault_x rd (ad u) ba n r.2.1 0 H.size hrd) ⟨rfl, hJ.1⟩ q841 q843 qs14 q844 ndX16_fault rfl (by rw [hRf]; omega) (by rw [hRl]; omega) (by rw [hRc]; omega) (by rw [hRs]; omega) hl.1 rfl (Nat.le_of_ble_eq_true rfl) dX16_read_22 (fun v H1 locs1 hq => by obtain ⟨x, hq, -⟩ := hq; cases hq) ?_
      intro x H5 locs hq hz5 hk5 hL5
      obtain ⟨x, hv, hxb, hF⟩ := hq
      cases hv
      refine WT.widen (k := _) (n := _) (by omega) (by omega) (hthr ⟨fun z => absurd z hgG, fun _ => ⟨x, rfl, by omega, by rw [hp]; exact hF⟩⟩ ?_)
      exact ⟨by omega, fun q g1 g2 => (hk5 q (by omega) (fun z => g2 (Or.inl z))).trans (hJ.2.2.1 q g1 (fun z => g2 (Or.inl z))), fun l hl => Or.inl (hL5 l hl)⟩
    · have hgG : G.2.2 = true := by rw [hrr]; dsimp only; rw [hg, decide_eq_true c1]; rfl
      obtain ⟨w1, w2⟩ := uC_y (t := 0) hgG
      refine lv_iconst (v := nI 1) hx hb dX16_read_17 (by decide) ?_
      refine lv_goto (tgt := 22) hx hb dX16_read_18 (by decide) ?_
      refine rd_call (y := yX16_fault) (As := [.int (nI 1)]) hx hb hml hown hts hK hE hJ hA0 (rd_fault_ok rd H.size (rdF (ad u) ba n r.2.1 0)) hJ.1 q841 q843 qs14 q844 ndX16_fault rfl (by rw [hRf]; omega) (by rw [hRl]; omega) (by rw [hRc]; omega) (by rw [hRs]; omega) hl.1 rfl (Nat.le_of_ble_eq_true rfl) dX16_read_22 ?_ (fun x H1 locs1 hq => absurd hq.1 (by intro z; cases z))
      intro v H5 locs hq hz5 hk5 hL5
      obtain ⟨hv, hq⟩ := hq
      cases hv
      have hJ5 := hJ.go hq hz5 hk5 hL5
      refine lv_aload_n hx hb dX16_read_25 rfl (lv_at hl 0 rfl) ?_
      refine W.widen (k := uC 0 G) (n := uS 0 G) (by omega) (by omega) ?_
      refine hret ⟨fun _ => ⟨x, rfl, by rw [hp]; exact hJ5.1, ?_⟩, fun z => absurd hgG z⟩ hJ5.S dX16_read_26
      rw [hp, show G.1 = r.1 by rw [hrr]]
      exact tm_keep hrb hT hk5
  · intro x H locs hq hz hk hL
    obtain ⟨hg, hxb, hF⟩ := hq.thr
    have hgG : ¬ G.2.2 = true := by rw [hrr]; dsimp only; rw [Bool.eq_false_iff.mpr hg]; simp
    exact WT.widen (k := _) (n := _) (by omega) (by omega) (hthr ⟨fun z => absurd z hgG, fun _ => ⟨x, rfl, hxb, by rw [hp]; exact hF⟩⟩ ⟨hz, fun q h1 h2 => hk q h1 (fun z => h2 (Or.inl z)), fun l hl => Or.inl (hL l hl)⟩)
/-- what the tree is of facts is what the ints' reading gives -/
def hmR (nm : Nat → Int32) (r : Rs Dn) (r' : Rs Int32) : Prop := r.1 nm = r'.1 ∧ r.2 = r'.2
theorem hm_lp {nm : Nat → Int32} {O : Ops Int32} {b : Nat → Int32} {n : Nat} {isop : Int32 → Bool} {sub : Nat → Rs Dn} {sub' : Nat → Rs Int32} (hO : O.2.2.1 = opB) (hs : ∀ t, hmR nm (sub t) (sub' t)) : ∀ (k : Nat) (r : Rs Dn) (r' : Rs Int32), hmR nm r r' → hmR nm (lpF opD b n isop sub k r) (lpF O b n isop sub' k r')
  | 0, r, r', h => h
  | k + 1, r, r', h => by
    unfold lpF
    rw [← h.2]
    by_cases c : r.2.2 = true ∧ isop (tk b n r.2.1) = true
    · rw [if_pos c, if_pos c]
      refine hm_lp hO hs k _ _ ⟨?_, (hs _).2⟩
      show opB _ (r.1 nm) ((sub _).1 nm) = O.2.2.1 _ r'.1 (sub' _).1
      rw [hO, h.1, (hs _).1]
    · rw [if_neg c, if_neg c]; exact h
theorem hm_who {nm : Nat → Int32} {O : Ops Int32} {b : Nat → Int32} {n : Nat} {fac : Nat → Rs Dn} {fac' : Nat → Rs Int32} (hO : O.2.2.1 = opB) (hs : ∀ t, hmR nm (fac t) (fac' t)) (t : Nat) : hmR nm (whoF opD b n fac t) (whoF O b n fac' t) := by
  have h1 : ∀ t, hmR nm (prodF opD b n fac t) (prodF O b n fac' t) := fun t => hm_lp hO hs _ _ _ (hs t)
  have h2 : ∀ t, hmR nm (sumF opD b n fac t) (sumF O b n fac' t) := fun t => hm_lp hO h1 _ _ _ (h1 t)
  have h3 : ∀ t, hmR nm (cmpF opD b n fac t) (cmpF O b n fac' t) := fun t => by
    have := hm_lp (b := b) (n := n) (isop := op3) hO h2 1 _ _ (h2 t)
    exact this
  have h4 : ∀ t, hmR nm (bothF opD b n fac t) (bothF O b n fac' t) := fun t => hm_lp hO h3 _ _ _ (h3 t)
  exact hm_lp hO h4 _ _ _ (h4 t)
theorem hm_fac {nm : Nat → Int32} {b : Nat → Int32} {n u : Nat} {x y z : Int32} (hn : ∀ c, isNm u c = true → nm (cl c) = nmV u x y z c) {inner : Option ((Nat → Rs Dn) × (Nat → Rs Dn))} {inner' : Option ((Nat → Rs Int32) × (Nat → Rs Int32))} (hi : (inner = none ∧ inner' = none) ∨ ∃ q q', inner = some q ∧ inner' = some q' ∧ (∀ t, hmR nm (q.1 t) (q'.1 t)) ∧ ∀ t, hmR nm (q.2 t) (q'.2 t)) (t : Nat) : hmR nm (facF opD b n u inner t) (facF (opI u x y z) b n u inner' t) := by
  unfold facF
  by_cases h1 : nI 48 ≤ tk b n t ∧ tk b n t ≤ nI 57
  · rw [if_pos h1, if_pos h1]; exact ⟨rfl, rfl⟩
  · rw [if_neg h1, if_neg h1]
    by_cases h2 : ¬ tk b n t = nI 33 ∧ ¬ tk b n t = nI 40
    · rw [if_pos h2, if_pos h2]
      by_cases h3 : isNm u (tk b n t) = true
      · rw [if_pos h3, if_pos h3]; exact ⟨hn _ h3, rfl⟩
      · rw [if_neg h3, if_neg h3]; exact ⟨rfl, rfl⟩
    · rw [if_neg h2, if_neg h2]
      rcases hi with ⟨e1, e2⟩ | ⟨q, q', e1, e2, g1, g2⟩
      · rw [e1, e2]; exact ⟨rfl, rfl⟩
      · rw [e1, e2]
        dsimp only
        by_cases h4 : tk b n t = nI 33
        · rw [if_pos h4, if_pos h4]
          refine ⟨?_, (g1 _).2⟩
          show iI ((q.1 _).1 nm = 0) = iI ((q'.1 _).1 = 0)
          rw [(g1 _).1]
        · rw [if_neg h4, if_neg h4, ← (g2 (t + 1)).2]
          by_cases h5 : (q.2 (t + 1)).2.2 = true ∧ tk b n (q.2 (t + 1)).2.1 = nI 41
          · rw [if_pos h5, if_pos h5]; exact ⟨(g2 _).1, rfl⟩
          · rw [if_neg h5, if_neg h5]; exact ⟨rfl, rfl⟩
theorem hm_facD {nm : Nat → Int32} {b : Nat → Int32} {n u : Nat} {x y z : Int32} (hn : ∀ c, isNm u c = true → nm (cl c) = nmV u x y z c) : ∀ d t, hmR nm (facD opD b n u d t) (facD (opI u x y z) b n u d t)
  | 0, t => hm_fac hn (Or.inl ⟨rfl, rfl⟩) t
  | d + 1, t => hm_fac hn (Or.inr ⟨_, _, rfl, rfl, hm_facD hn d, fun t => hm_who rfl (hm_facD hn d) t⟩) t
theorem hm_nm0 (nm : Nat → Int32) (c : Int32) (h : isNm 0 c = true) : nm (cl c) = nmV 0 (nm 103) (nm 107) (nm 100) c := by
  simp only [isNm, if_pos, Bool.or_eq_true, beq_iff_eq] at h
  rcases h with (h | h) | h <;> subst h <;> rfl
theorem hm_nm1 (nm : Nat → Int32) (c : Int32) (h : isNm 1 c = true) : nm (cl c) = nmV 1 (nm 107) (nm 97) (nm 110) c := by
  simp only [isNm, if_neg (show ¬ (1 : Nat) = 0 by omega), Bool.or_eq_true, beq_iff_eq] at h
  rcases h with (h | h) | h <;> subst h <;> rfl
theorem hm_0 (b : Nat → Int32) (n : Nat) (nm : Nat → Int32) : hmR nm (rdG b n 0) (whoF (opI 0 (nm 103) (nm 107) (nm 100)) b n (facD (opI 0 (nm 103) (nm 107) (nm 100)) b n 0 5) 0) := hm_who rfl (hm_facD (hm_nm0 nm) 5) 0
theorem hm_1 (b : Nat → Int32) (n : Nat) (nm : Nat → Int32) : hmR nm (rdG b n 1) (whoF (opI 1 (nm 107) (nm 97) (nm 110)) b n (facD (opI 1 (nm 107) (nm 97) (nm 110)) b n 1 5) 0) := hm_who rfl (hm_facD (hm_nm1 nm) 5) 0
/-- place and end of it -/
theorem rdG_2 {a : Nat → Nat → Int32} {u n : Nat} (hu : u < 2) : (rdG (bT a u) n u).2 = (whI a u n (nI 1) (nI 1) (nI 1) 5 0).2 := by
  rcases (show u = 0 ∨ u = 1 by omega) with rfl | rfl
  · exact (hm_0 (bT a 0) n (fun _ => nI 1)).2
  · exact (hm_1 (bT a 1) n (fun _ => nI 1)).2
theorem rdG_1 {r : Nat → Int32} {u : Nat} (hu : u < 2) (nm : Nat → Int32) : (rdG (bT (rA r) u) (cl (r (6 + u))) u).1 nm = txV r u nm := by
  rcases (show u = 0 ∨ u = 1 by omega) with rfl | rfl
  · exact (hm_0 (bT (rA r) 0) _ nm).1
  · exact (hm_1 (bT (rA r) 1) _ nm).1
