/-! the reader: relation, single (printed by comp39.py) -/
set_option maxRecDepth 100000
theorem ndX16_sum : yX16_sum.cls = RX16 ∧ yX16_sum.cls ≠ "java/lang/invoke/MethodHandle" ∧ yX16_sum.cls ≠ "java/lang/invoke/VarHandle" ∧ (parseMethodDescriptor yX16_sum.desc).map (fun d => d.parameters.length) = some 0 := by decide +kernel
theorem cmpF_lp (O : Ops Dn) (b : Nat → Int32) (n : Nat) (fac : Nat → Rs Dn) (t : Nat) : lpF O b n op3 (sumF O b n fac) 1 (sumF O b n fac t) = cmpF O b n fac t := rfl
set_option maxHeartbeats 1000000 in
theorem rd_relation {D : va_G} {dA : Nat → ClassId} {b0 : Nat} {ad adV : Nat → Nat} (rd sn ba n : Nat) (tb bb : Nat → Int32) (htb : tbOK tb bb n) (hrd : b0 ≤ rd) (hne : ¬ ba = rd) (o fr0 lo0 : Nat) (hf0 : 7 ≤ fr0) (hl0 : 155 ≤ lo0) (sub : Nat → Rs Dn) (hm : mono n sub) (hsub : RM D dA b0 ad adV rd sn ba n tb yX16_sum cX16_sum 3 fr0 lo0 o sub) : RM D dA b0 ad adV rd sn ba n tb yX16_relation cX16_relation 3 (fr0 + 1) (lo0 + 22) o (fun t => lpF opD bb n op3 sub 1 (sub t)) := by
  intro b t ht hbb
  refine Cs.ofA (Or.inl ⟨_, rfl⟩) (by decide) (own := RX16) rfl (Nat.le_of_ble_eq_true rfl) ?_
  intro p l e R s m args below meth c Q ls hx hb hml hRf hRl hRc hRs hts hown hK hE hP hl hret hthr
  obtain ⟨rfl, hRd, hBa⟩ := hP
  have hl : lv_has ls 3 [(0, .ref rd)] := hl
  have hrb := hRd.lt
  have hbl := hBa.lt
  have hn5 := htb.1
  have hA0 : ∀ q, rdA rd s.heap.size q → b0 ≤ q := fun q hq => hq.elim (fun z => by rw [z]; exact hrd) (fun z => Nat.le_trans hbb z)
  have hJ : rdJ D rd s (rdF sn ba n t o) s.heap [] := ⟨hRd, Nat.le_refl _, fun _ _ _ => rfl, fun q hq => by cases hq⟩
  have hmt := hm t ht
  have hu0 := lpF_u (O := opD) (b := bb) (t := t) (isop := op3) hm (by decide) 1 (sub t) hmt.2
  dsimp only at hret hthr hRc hRs
  generalize hG : lpF opD bb n op3 sub 1 (sub t) = G at hret hthr hRc hRs hu0
  refine lv_aload_n hx hb dX16_relation_0 rfl (lv_at hl 0 rfl) ?_
  refine rd_call (y := yX16_sum) (As := []) hx hb hml hown hts hK hE hJ hA0 (hsub s.heap.size t ht hbb) ⟨rfl, hRd, hBa⟩ q721 q723 qs8 q724 ndX16_sum rfl (by rw [hRf]; omega) (by rw [hRl]; omega) (by rw [hRc]; omega) (by rw [hRs]; omega) hl.1 rfl (Nat.le_of_ble_eq_true rfl) dX16_relation_1 ?_ ?_
  · intro v H locs hq hz hk hL
    obtain ⟨hg, x, rfl, hR1, hT⟩ := hq.ret
    have hJ := hJ.go hR1 hz hk hL
    generalize hr : sub t = r at *
    obtain ⟨u1, u2⟩ := uC_y (t := t) hg
    have hBa1 := hBa.kept (hJ.2.2.1 ba hbl hne)
    refine lv_astore_n (lv' := [(1, .ref x), (0, .ref rd)]) hx hb dX16_relation_4 rfl hl (by decide) rfl (fun ls hl => ?_)
    refine lv_aload_n hx hb dX16_relation_5 rfl (lv_at hl 1 rfl) ?_
    have nq := hE.2.1 6 _ rfl
    refine va_ldcS hx hb hown nq dX16_relation_6 ?_
    refine rg_callV (y := yX16_isOne) (b := rd) (C := RX16) (As := [.ref (ad 6)]) hx hb hml hown hts (rd_isOne (b0 := b0) (ad := ad) (adV := adV) rd sn ba n r.2.1 o tb bb htb (by omega) 6 (by decide)) rdE_blind (fun U hU hW => ⟨by rw [hU]; exact ⟨hJ.1, hBa1⟩, hK.warm hW, hE.go hW (fun q g1 g2 => by first | (rw [hU]; done) | (rw [hU]; exact hJ.2.2.1 q g1 (fun z => g2 (by rw [z]; exact hrd))))⟩) (cAt.recv hK hJ.1 rfl) q733 q735 qs11 q81 q736 ndX16_isOne rfl (by rw [hRf]; omega) (by rw [hRl]; omega) (by rw [hRc]; omega) (by rw [hRs]; omega) hl.1 rfl (Nat.le_of_ble_eq_true rfl) dX16_relation_8 ?_
    refine w_if_neT (tgt := 16) hx hb dX16_relation_11 (by decide) (fun c1 => ?_) (fun c1 => ?_)
    · have hop : op3 (tk bb n r.2.1) = true := c1
      have hlt : r.2.1 < n := tk_lt (fun q => by rw [q] at hop; exact absurd hop (by decide))
      have hs := hm (r.2.1 + 1) hlt
      have hlp2 : (opD.2.2.1 (tk bb n r.2.1) r.1 (sub (r.2.1 + 1)).1, (sub (r.2.1 + 1)).2) = G := by rw [← hG, lpF, if_pos ⟨hg, hop⟩]; rfl
      obtain ⟨v1, v2⟩ := uC_step (t := t) (opD.2.2.1 (tk bb n r.2.1) r.1 (sub (r.2.1 + 1)).1) (sub (r.2.1 + 1)) hmt.1 hs.1
      rw [hlp2] at v1 v2
      obtain ⟨sg, hsg, hsg2⟩ := sg_of htb (i := 6) (by decide) (by decide) hop
      refine lv_aload_n hx hb dX16_relation_16 rfl (lv_at hl 1 rfl) ?_
      refine rd_callV (y := yX16_look) (b := rd) (C := RX16) (As := []) hx hb hml hown hts hK (rd_look rd sn ba n r.2.1 o tb bb htb hmt.2) ⟨hJ.1, hBa1⟩ (cAt.recv hK hJ.1 rfl) q737 q739 qs12 q81 q740 ndX16_look rfl (by rw [hRf]; omega) (by rw [hRl]; omega) (by rw [hRc]; omega) (by rw [hRs]; omega) hl.1 rfl (Nat.le_of_ble_eq_true rfl) dX16_relation_17 ?_
      refine lv_istore_n (lv' := [(2, .int (tk bb n r.2.1)), (1, .ref x), (0, .ref rd)]) hx hb dX16_relation_20 rfl hl (by decide) rfl (fun ls hl => ?_)
      refine lv_aload_n hx hb dX16_relation_21 rfl (lv_at hl 2 rfl) ?_
      refine lv_dup hx hb dX16_relation_22 rfl ?_
      refine c_get (v := .int (nI r.2.1)) hx hb hts in_X16 hown hK hJ.1 rfl 3 (by decide) q692 rfl rfl dX16_relation_23 ?_
      refine lv_iconst (v := nI 1) hx hb dX16_relation_26 (by decide) ?_
      refine w_iaddN hx hb dX16_relation_27 ?_
      refine rd_putf hx hb hts hown hK hJ 3 (by decide) q692 rfl rfl rfl rfl (Nat.le_of_ble_eq_true rfl) dX16_relation_28 (fun H1 locs hJ1 hz1 hk1 => ?_)
      have hJ1 : rdJ D rd s (rdF sn ba n (r.2.1 + 1) o) H1 locs := hJ1
      refine c_new (ci := 6) (fs := [.int 0, .null, .null]) (C := RX8) (T := TX8) (N := 3) hx hb hts in_X8 tyX8 tyX8_ok hown q887 q888 q72 hK rfl (fun j hj => by rcases (show j = 0 ∨ j = 1 ∨ j = 2 by omega) with rfl | rfl | rfl <;> rfl) (by rw [hRc]; omega) (by rw [hRs]; omega) dX16_relation_31 (fun H2 hX2 hz2 hk2 => ?_)
      have hJ2 := hJ1.go (hJ1.1.kept (hk2 rd hJ1.1.lt)) (by omega) (fun q g1 _ => hk2 q g1) hJ1.2.2.2
      have hx2l := hX2.lt
      have hs1 := hJ1.2.1
      have hBa2 := hBa.kept (hJ2.2.2.1 ba hbl hne)
      refine lv_dup hx hb dX16_relation_34 rfl ?_
      refine lv_iload_n hx hb dX16_relation_35 rfl (lv_at hl 0 rfl) ?_
      refine lv_aload_n hx hb dX16_relation_36 rfl (lv_at hl 1 rfl) ?_
      refine lv_aload_n hx hb dX16_relation_37 rfl (lv_at hl 2 rfl) ?_
      refine rd_call (y := yX16_sum) (As := []) hx hb hml hown hts hK hE hJ2 hA0 (hsub H2.size (r.2.1 + 1) hlt (by omega)) ⟨rfl, hJ2.1, hBa2⟩ q721 q723 qs8 q724 ndX16_sum rfl (by rw [hRf]; omega) (by rw [hRl]; omega) (by rw [hRc]; omega) (by rw [hRs]; omega) hl.1 rfl (Nat.le_of_ble_eq_true rfl) dX16_relation_38 ?_ ?_
      · intro v H3 locs hq hz3 hk3 hL
        obtain ⟨hg3, y, rfl, hR3, hT3⟩ := hq.ret
        obtain ⟨w1, w2⟩ := uC_y (t := r.2.1 + 1) hg3
        have hJ3 := hJ2.go hR3 hz3 hk3 hL
        have hX3 := hX2.kept (hk3 H1.size hx2l (by omega))
        refine cg_callI1 (y := yX8_init) (x0 := H1.size) (As := [.int (tk bb n r.2.1), .ref x, .ref y]) hx hb hml hown hts hK (by omega) (tm_iX8 H1.size (tk bb n r.2.1) x y) hX3 q889 q890 q72 q891 ndX8_init rfl (by rw [hRf]; omega) (by rw [hRl]; omega) (by rw [hRc]; omega) (by rw [hRs]; omega) hl.1 rfl (Nat.le_of_ble_eq_true rfl) dX16_relation_41 ?_
        rintro _ H4 ⟨rfl, hX4⟩ hz4 hk4
        have hJ4 : rdJ D rd s (rdF sn ba n (sub (r.2.1 + 1)).2.1 o) H4 locs := ⟨hJ3.1.kept (hk4 rd hJ3.1.lt (by omega)), by have := hJ3.2.1; omega, fun q g1 g2 => (hk4 q (by have := hJ3.2.1; omega) (by omega)).trans (hJ3.2.2.1 q g1 g2), hJ3.2.2.2⟩
        have hTx : TmOK D (fun q => s.heap.size ≤ q) (r.2.1 - t) H4 x r.1 := hT.to (fun q g1 g2 => ⟨g2, (hk4 q (by omega) (by omega)).trans ((hk3 q (by omega) (by omega)).trans ((hk2 q (by omega)).trans (hk1 q g1 (by omega))))⟩) _ x r.1
        have hTy : TmOK D (fun q => s.heap.size ≤ q) ((sub (r.2.1 + 1)).2.1 - (r.2.1 + 1)) H4 y (sub (r.2.1 + 1)).1 := hT3.to (fun q g1 g2 => ⟨by omega, hk4 q g1 (by omega)⟩) _ y _
        have hT4 := tm_two (k := (sub (r.2.1 + 1)).2.1 - t) hsg hsg2 hX4 (by omega) hTx hTy (by omega) (by omega)
        refine W.widen (k := uC t G) (n := uS t G) (by omega) (by omega) ?_
        subst hlp2
        exact hret ⟨fun _ => ⟨H1.size, rfl, hJ4.1, hT4⟩, fun z => absurd hg3 z⟩ hJ4.S dX16_relation_44
      · intro x9 H3 locs hq hz3 hk3 hL
        obtain ⟨hg3, hxb, hF⟩ := hq.thr
        subst hlp2
        refine WT.widen (k := _) (n := _) (by rw [v1]; omega) (by rw [v2]; omega) (hthr ⟨fun z => absurd z hg3, fun _ => ⟨x9, rfl, by omega, hF⟩⟩ ?_)
        exact ⟨by have := hJ2.2.1; omega, fun q g1 g2 => (hk3 q (by have := hJ2.2.1; omega) (fun z => g2 (Or.inl z))).trans (hJ2.2.2.1 q g1 (fun z => g2 (Or.inl z))), fun l hl => Or.inl (hL l hl)⟩
    · have hGr : G = r := by rw [← hG]; exact lpF_stop c1
      subst hGr
      refine lv_aload_n hx hb dX16_relation_14 rfl (lv_at hl 0 rfl) ?_
      refine W.widen (k := uC t G) (n := uS t G) (by omega) (by omega) ?_
      exact hret ⟨fun _ => ⟨x, rfl, hJ.1, hT⟩, fun z => absurd hg z⟩ hJ.S dX16_relation_15
  · intro x H locs hq hz hk hL
    obtain ⟨hg, hxb, hF⟩ := hq.thr
    have hGe : G = sub t := by rw [← hG]; exact lpF_bad hg
    subst hGe
    exact WT.widen (k := _) (n := _) (by omega) (by omega) (hthr ⟨fun z => absurd z hg, fun _ => ⟨x, rfl, hxb, hF⟩⟩ ⟨hz, fun q h1 h2 => hk q h1 (fun z => h2 (Or.inl z)), fun l hl => Or.inl (hL l hl)⟩)
theorem nm_byte : ∀ m, m < 128 → (nI m).toInt8.toInt32 = nI m := by decide +kernel
theorem nI_inj9 {a b : Nat} (ha : a < 2 ^ 31) (hb : b < 2 ^ 31) (h : nI a = nI b) : a = b := by
  have q : (nI a).toInt = (nI b).toInt := by rw [h]
  rw [nI_toInt ha, nI_toInt hb] at q
  omega
theorem nI_le_iff {a b : Nat} (ha : a < 2 ^ 31) (hb : b < 2 ^ 31) : nI a ≤ nI b ↔ a ≤ b := by
  rw [Int32.le_iff_toInt_le, nI_toInt ha, nI_toInt hb]; omega
theorem isNm_n : ∀ u, u < 2 → ∀ m, m < 256 → (!(isNm u (nI m)) || (decide (57 < m) && decide (m < 128))) = true := by decide +kernel
theorem nm_128 {u m : Nat} (hu : u < 2) (hm : m < 256) (h : isNm u (nI m) = true) : 57 < m ∧ m < 128 := by
  have := isNm_n u hu m hm
  rw [h] at this
  simpa using this
theorem fac_nm {O : Ops Dn} {b : Nat → Int32} {n u t m : Nat} {inner : Option ((Nat → Rs Dn) × (Nat → Rs Dn))} (hu : u < 2) (hm : m < 256) (e : tk b n t = nI m) (h : isNm u (nI m) = true) : facF O b n u inner t = (O.2.1 (tk b n t), t + 1, true) := by
  have h1 := nm_128 hu hm h
  unfold facF
  rw [if_neg (fun q => by have := q.2; rw [e] at this; exact absurd ((nI_le_iff (by omega) (by omega)).mp this) (by omega)), if_pos ⟨fun q => by rw [e] at q; have := nI_inj9 (by omega) (by omega) q; omega, fun q => by rw [e] at q; have := nI_inj9 (by omega) (by omega) q; omega⟩, if_pos (by rw [e]; exact h)]
theorem fac_no {O : Ops Dn} {b : Nat → Int32} {n u t : Nat} {inner : Option ((Nat → Rs Dn) × (Nat → Rs Dn))} (h1 : ¬ (nI 48 ≤ tk b n t ∧ tk b n t ≤ nI 57)) (h2 : ¬ isNm u (tk b n t) = true) (h3 : ¬ tk b n t = nI 33) (h4 : ¬ tk b n t = nI 40) : facF O b n u inner t = (O.2.2.2.2, t, false) := by
  unfold facF
  rw [if_neg h1, if_pos ⟨h3, h4⟩, if_neg h2]
theorem fac_dg {O : Ops Dn} {b : Nat → Int32} {n u t : Nat} {inner : Option ((Nat → Rs Dn) × (Nat → Rs Dn))} (h1 : nI 48 ≤ tk b n t ∧ tk b n t ≤ nI 57) : facF O b n u inner t = (O.1 (digs b n 4 t (nI 0)).1, (digs b n 4 t (nI 0)).2, true) := by
  unfold facF
  rw [if_pos h1]
theorem fac_33 {O : Ops Dn} {b : Nat → Int32} {n u t : Nat} {q : (Nat → Rs Dn) × (Nat → Rs Dn)} (e : tk b n t = nI 33) : facF O b n u (some q) t = (O.2.2.2.1 (q.1 (t + 1)).1, (q.1 (t + 1)).2) := by
  unfold facF
  rw [e, if_neg (by decide), if_neg (by decide)]
  dsimp only
  rw [if_pos rfl]
theorem fac_40 {O : Ops Dn} {b : Nat → Int32} {n u t : Nat} {q : (Nat → Rs Dn) × (Nat → Rs Dn)} (e : tk b n t = nI 40) : facF O b n u (some q) t = if (q.2 (t + 1)).2.2 = true ∧ tk b n (q.2 (t + 1)).2.1 = nI 41 then ((q.2 (t + 1)).1, (q.2 (t + 1)).2.1 + 1, true) else (O.2.2.2.2, (q.2 (t + 1)).2.1, false) := by
  unfold facF
  rw [e, if_neg (by decide), if_neg (by decide)]
  dsimp only
  rw [if_neg (by decide)]
theorem fac_z {O : Ops Dn} {b : Nat → Int32} {n u t : Nat} (e : tk b n t = nI 33 ∨ tk b n t = nI 40) : facF O b n u none t = (O.2.2.2.2, t, false) := by
  unfold facF
  rcases e with e | e <;> rw [e, if_neg (by decide), if_neg (by decide)]
theorem digs_1 {b : Nat → Int32} {n t : Nat} (ht : t ≤ n) (h : nI 48 ≤ tk b n t ∧ tk b n t ≤ nI 57) : t + 1 ≤ (digs b n 4 t (nI 0)).2 := by
  have h2 : t < n := tk_lt (fun q => by rw [q] at h; exact absurd h (by decide))
  rw [digs, if_pos h]
  exact (digs_mono 3 (t + 1) _ h2).1
theorem digs_stop {b : Nat → Int32} {n t c : Nat} {v : Int32} (h : ¬ (nI 48 ≤ tk b n t ∧ tk b n t ≤ nI 57)) : digs b n c t v = (v, t) := by
  cases c with
  | zero => rfl
  | succ c => rw [digs, if_neg h]
theorem isL_u {u : Nat} (hu : u < 2) (c : Int32) : isL u c = isNm u c := by
  rcases (show u = 0 ∨ u = 1 by omega) with rfl | rfl <;> rfl
theorem ndX16_opens : yX16_opens.cls = RX16 ∧ yX16_opens.cls ≠ "java/lang/invoke/MethodHandle" ∧ yX16_opens.cls ≠ "java/lang/invoke/VarHandle" ∧ (parseMethodDescriptor yX16_opens.desc).map (fun d => d.parameters.length) = some 0 := by decide +kernel
theorem ndX16_either : yX16_either.cls = RX16 ∧ yX16_either.cls ≠ "java/lang/invoke/MethodHandle" ∧ yX16_either.cls ≠ "java/lang/invoke/VarHandle" ∧ (parseMethodDescriptor yX16_either.desc).map (fun d => d.parameters.length) = some 0 := by decide +kernel
set_option maxHeartbeats 2000000 in
theorem rd_single0 {D : va_G} {dA : Nat → ClassId} {b0 : Nat} {ad adV : Nat → Nat} (rd ba n : Nat) (tb bb : Nat → Int32) (htb : tbOK tb bb n) (hrd : b0 ≤ rd) (hne : ¬ ba = rd) (u : Nat) (hu : u < 2) : RM D dA b0 ad adV rd (ad u) ba n tb yX16_single cX16_single 3 7 155 5 (facF opD bb n u none) := by
  intro b t ht hbb
  refine Cs.ofA (Or.inl ⟨_, rfl⟩) (by decide) (own := RX16) rfl (Nat.le_of_ble_eq_true rfl) ?_
  intro p l e R s m args below meth c Q ls hx hb hml hRf hRl hRc hRs hts hown hK hE hP hl hret hthr
  obtain ⟨rfl, hRd, hBa⟩ := hP
  have hl : lv_has ls 3 [(0, .ref rd)] := hl
  have hrb := hRd.lt
  have hbl := hBa.lt
  have hn5 := htb.1
  have hA0 : ∀ q, rdA rd s.heap.size q → b0 ≤ q := fun q hq => hq.elim (fun z => by rw [z]; exact hrd) (fun z => Nat.le_trans hbb z)
  have hJ : rdJ D rd s (rdF (ad u) ba n t 5) s.heap [] := ⟨hRd, Nat.le_refl _, fun _ _ _ => rfl, fun q hq => by cases hq⟩
  have hBa1 := hBa
  generalize hG : facF opD bb n u none t = G at hret hthr hRc hRs
  refine lv_aload_n hx hb dX16_single_0 rfl (lv_at hl 0 rfl) ?_
  refine lv_aload_n hx hb dX16_single_1 rfl (lv_at hl 0 rfl) ?_
  refine c_get (v := .ref (ad u)) hx hb hts in_X16 hown hK hJ.1 rfl 0 (by decide) q689 rfl rfl dX16_single_2 ?_
  refine rg_callV (y := yX16_isOne) (b := rd) (C := RX16) (As := [.ref (ad u)]) hx hb hml hown hts (rd_isOne (b0 := b0) (ad := ad) (adV := adV) rd (ad u) ba n t 5 tb bb htb ht u (by omega)) rdE_blind (fun U hU hW => ⟨by rw [hU]; exact ⟨hJ.1, hBa1⟩, hK.warm hW, hE.go hW (fun q g1 g2 => by rw [hU])⟩) (cAt.recv hK hJ.1 rfl) q733 q735 qs11 q81 q736 ndX16_isOne rfl (by rw [hRf]; omega) (by rw [hRl]; omega) (Nat.zero_le _) (Nat.zero_le _) hl.1 rfl (Nat.le_of_ble_eq_true rfl) dX16_single_5 ?_
  refine w_if_eqT (tgt := 40) hx hb dX16_single_8 (by decide) (fun c1 => ?_) (fun c1 => ?_)
  rotate_left
  · have hnm : isNm u (tk bb n t) = true := by rw [← isL_u hu]; exact c1
    obtain ⟨mm, q1, q2⟩ : ∃ m, m < 256 ∧ tk bb n t = nI m := (tk_255 htb t).resolve_left (fun q => by rw [q, isL_m1 u (by omega)] at c1; cases c1)
    have hlt : t < n := tk_lt (fun q => by rw [q, isL_m1 u (by omega)] at c1; cases c1)
    have h128 := nm_128 hu q1 (by rw [← q2]; exact hnm)
    have hGe := fac_nm (O := opD) (inner := none) hu q1 q2 (by rw [← q2]; exact hnm)
    rw [hG] at hGe
    have hbt : bb t = nI mm := by rw [← q2]; unfold tk; rw [if_pos hlt]
    have htt : tb t = nI mm := by
      rw [(htb.2 t hlt).2.2, hbt]
      exact nm_byte mm h128.2
    obtain ⟨u1, u2⟩ := uC_y (t := t) (r := G) (by rw [hGe])
    have hp : G.2.1 = t + 1 := by rw [hGe]
    refine lv_aload_n hx hb dX16_single_11 rfl (lv_at hl 0 rfl) ?_
    refine lv_dup hx hb dX16_single_12 rfl ?_
    refine c_get (v := .int (nI (t))) hx hb hts in_X16 hown hK hJ.1 rfl 3 (by decide) q692 rfl rfl dX16_single_13 ?_
    refine lv_iconst (v := nI 1) hx hb dX16_single_16 (by decide) ?_
    refine w_iaddN hx hb dX16_single_17 ?_
    refine rd_putf hx hb hts hown hK hJ 3 (by decide) q692 rfl rfl rfl rfl (Nat.le_of_ble_eq_true rfl) dX16_single_18 (fun H1 locs hJ1 hz1 hk1 => ?_)
    have hJ1 : rdJ D rd s (rdF (ad u) ba n (t + 1) 5) H1 locs := hJ1
    refine c_new (ci := 7) (fs := [.int 0]) (C := RX17) (T := TX17) (N := 1) hx hb hts in_X17 tyX17 tyX17_ok hown q823 q824 q87 hK rfl (fun j hj => by rcases (show j = 0 by omega) with rfl <;> rfl) (by rw [hRc]; omega) (by rw [hRs]; omega) dX16_single_21 (fun H2 hX2 hz2 hk2 => ?_)
    have hJ2 := hJ1.go (hJ1.1.kept (hk2 rd hJ1.1.lt)) (by omega) (fun q g1 _ => hk2 q g1) hJ1.2.2.2
    have hBa2 := hBa.kept (hJ2.2.2.1 ba hbl hne)
    refine lv_dup hx hb dX16_single_24 rfl ?_
    refine lv_aload_n hx hb dX16_single_25 rfl (lv_at hl 0 rfl) ?_
    refine c_get (v := .ref ba) hx hb hts in_X16 hown hK hJ2.1 rfl 1 (by decide) q690 rfl rfl dX16_single_26 ?_
    refine lv_aload_n hx hb dX16_single_29 rfl (lv_at hl 0 rfl) ?_
    refine c_get (v := .int (nI (t + 1))) hx hb hts in_X16 hown hK hJ2.1 rfl 3 (by decide) q692 rfl rfl dX16_single_30 ?_
    refine lv_iconst (v := nI 1) hx hb dX16_single_33 (by decide) ?_
    refine w_isubN hx hb (by omega) dX16_single_34 ?_
    refine c_bald hx hb hK hBa2 t ⟨by omega, by decide, by rw [Nat.add_sub_cancel]⟩ dX16_single_35 ?_
    refine w_top (nI mm) htt ?_
    refine cg_callI1 (y := yX17_init) (x0 := H1.size) (As := [.int (nI mm)]) hx hb hml hown hts hK (by have := hJ1.2.1; omega) (tm_iX17 H1.size (nI mm)) hX2 q825 q826 q87 q827 ndX17_init rfl (by rw [hRf]; omega) (by rw [hRl]; omega) (by rw [hRc]; omega) (by rw [hRs]; omega) hl.1 rfl (Nat.le_of_ble_eq_true rfl) dX16_single_36 ?_
    rintro _ H4 ⟨rfl, hX4⟩ hz4 hk4
    have hJ4 : rdJ D rd s (rdF (ad u) ba n (t + 1) 5) H4 locs := ⟨(hJ1.1.kept (hk2 rd hJ1.1.lt)).kept (hk4 rd (by have := hJ1.1.lt; omega) (by have := hJ1.1.lt; omega)), by have := hJ1.2.1; omega, fun q g1 g2 => (hk4 q (by have := hJ1.2.1; omega) (by have := hJ1.2.1; omega)).trans ((hk2 q (by have := hJ1.2.1; omega)).trans (hJ1.2.2.1 q g1 g2)), hJ1.2.2.2⟩
    refine W.widen (k := uC t G) (n := uS t G) (by omega) (by omega) ?_
    refine hret ⟨fun _ => ⟨H1.size, rfl, by rw [hp]; exact hJ4.1, ?_⟩, fun z => absurd (by rw [hGe]) z⟩ hJ4.S dX16_single_39
    rw [hp, hGe, show t + 1 - t = 0 + 1 by omega]
    exact ⟨by have := hJ1.2.1; omega, Or.inr (Or.inl ⟨mm, h128.2, hX4, fun nm => by show nm (cl (tk bb n t)) = nm mm; rw [q2, show cl (nI mm) = mm from nI_clamp (by omega)]⟩)⟩
  · have hnm : ¬ isNm u (tk bb n t) = true := by rw [← isL_u hu]; exact c1
    refine lv_aload_n hx hb dX16_single_40 rfl (lv_at hl 0 rfl) ?_
    have nq := hE.2.1 2 _ rfl
    refine va_ldcS hx hb hown nq dX16_single_41 ?_
    refine rg_callV (y := yX16_isOne) (b := rd) (C := RX16) (As := [.ref (ad 2)]) hx hb hml hown hts (rd_isOne (b0 := b0) (ad := ad) (adV := adV) rd (ad u) ba n t 5 tb bb htb (by omega) 2 (by decide)) rdE_blind (fun U hU hW => ⟨by rw [hU]; exact ⟨hJ.1, hBa1⟩, hK.warm hW, hE.go hW (fun q g1 g2 => by first | (rw [hU]; done) | (rw [hU]; exact hJ.2.2.1 q g1 (fun z => g2 (by rw [z]; exact hrd))))⟩) (cAt.recv hK hJ.1 rfl) q733 q735 qs11 q81 q736 ndX16_isOne rfl (by rw [hRf]; omega) (by rw [hRl]; omega) (Nat.zero_le _) (Nat.zero_le _) hl.1 rfl (Nat.le_of_ble_eq_true rfl) dX16_single_43 ?_
    refine w_if_eqT (tgt := 77) hx hb dX16_single_46 (by decide) (fun c2 => ?_) (fun c2 => ?_)
    rotate_left
    · have h33 : tk bb n t = nI 33 := by have : (tk bb n t == nI 33) = true := c2; simpa using this
      have hlt : t < n := tk_lt (fun q => by rw [q] at h33; exact absurd h33 (by decide))
      refine lv_aload_n hx hb dX16_single_49 rfl (lv_at hl 0 rfl) ?_
      have hGe := fac_z (O := opD) (u := u) (Or.inl h33)
      rw [hG] at hGe
      obtain ⟨u1, u2⟩ := uC_n (t := t) (r := G) (by rw [hGe]; exact Bool.false_ne_true)
      refine rd_call (y := yX16_opens) (As := []) hx hb hml hown hts hK hE hJ hA0 (rd_opens_x rd (ad u) ba n t s.heap.size hrd hbb) ⟨rfl, hJ.1⟩ q837 q839 qs13 q840 ndX16_opens rfl (by rw [hRf]; omega) (by rw [hRl]; omega) (by rw [hRc]; omega) (by rw [hRs]; omega) hl.1 rfl (Nat.le_of_ble_eq_true rfl) dX16_single_50 (fun v H1 locs1 hq => by obtain ⟨x, hq, -⟩ := hq; cases hq) ?_
      intro x H locs hq hz hk hL
      obtain ⟨x, hv, hxb, hF⟩ := hq
      cases hv
      exact WT.widen (k := _) (n := _) (by omega) (by omega) (hthr ⟨fun z => absurd z (by rw [hGe]; exact Bool.false_ne_true), fun _ => ⟨x, rfl, hxb, by rw [hGe]; exact hF⟩⟩ ⟨hz, fun q h1 h2 => hk q h1 (fun z => h2 (Or.inl z)), fun l hl => Or.inl (hL l hl)⟩)
    · have h33 : ¬ tk bb n t = nI 33 := fun q => c2 (by rw [q]; decide)
      refine lv_aload_n hx hb dX16_single_77 rfl (lv_at hl 0 rfl) ?_
      have nq := hE.2.1 3 _ rfl
      refine va_ldcS hx hb hown nq dX16_single_78 ?_
      refine rg_callV (y := yX16_isOne) (b := rd) (C := RX16) (As := [.ref (ad 3)]) hx hb hml hown hts (rd_isOne (b0 := b0) (ad := ad) (adV := adV) rd (ad u) ba n t 5 tb bb htb (by omega) 3 (by decide)) rdE_blind (fun U hU hW => ⟨by rw [hU]; exact ⟨hJ.1, hBa1⟩, hK.warm hW, hE.go hW (fun q g1 g2 => by first | (rw [hU]; done) | (rw [hU]; exact hJ.2.2.1 q g1 (fun z => g2 (by rw [z]; exact hrd))))⟩) (cAt.recv hK hJ.1 rfl) q733 q735 qs11 q81 q736 ndX16_isOne rfl (by rw [hRf]; omega) (by rw [hRl]; omega) (Nat.zero_le _) (Nat.zero_le _) hl.1 rfl (Nat.le_of_ble_eq_true rfl) dX16_single_80 ?_
      refine w_if_eqT (tgt := 135) hx hb dX16_single_83 (by decide) (fun c3 => ?_) (fun c3 => ?_)
      rotate_left
      · have h40 : tk bb n t = nI 40 := by have : (tk bb n t == nI 40) = true := c3; simpa using this
        have hlt : t < n := tk_lt (fun q => by rw [q] at h40; exact absurd h40 (by decide))
        refine lv_aload_n hx hb dX16_single_86 rfl (lv_at hl 0 rfl) ?_
        have hGe := fac_z (O := opD) (u := u) (Or.inr h40)
        rw [hG] at hGe
        obtain ⟨u1, u2⟩ := uC_n (t := t) (r := G) (by rw [hGe]; exact Bool.false_ne_true)
        refine rd_call (y := yX16_opens) (As := []) hx hb hml hown hts hK hE hJ hA0 (rd_opens_x rd (ad u) ba n t s.heap.size hrd hbb) ⟨rfl, hJ.1⟩ q837 q839 qs13 q840 ndX16_opens rfl (by rw [hRf]; omega) (by rw [hRl]; omega) (by rw [hRc]; omega) (by rw [hRs]; omega) hl.1 rfl (Nat.le_of_ble_eq_true rfl) dX16_single_87 (fun v H1 locs1 hq => by obtain ⟨x, hq, -⟩ := hq; cases hq) ?_
        intro x H locs hq hz hk hL
        obtain ⟨x, hv, hxb, hF⟩ := hq
        cases hv
        exact WT.widen (k := _) (n := _) (by omega) (by omega) (hthr ⟨fun z => absurd z (by rw [hGe]; exact Bool.false_ne_true), fun _ => ⟨x, rfl, hxb, by rw [hGe]; exact hF⟩⟩ ⟨hz, fun q h1 h2 => hk q h1 (fun z => h2 (Or.inl z)), fun l hl => Or.inl (hL l hl)⟩)
      · have h40 : ¬ tk bb n t = nI 40 := fun q => c3 (by rw [q]; decide)
        refine lv_aload_n hx hb dX16_single_135 rfl (lv_at hl 0 rfl) ?_
        refine lv_aload_n hx hb dX16_single_136 rfl (lv_at hl 0 rfl) ?_
        refine rd_callV (y := yX16_look) (b := rd) (C := RX16) (As := []) hx hb hml hown hts hK (rd_look rd (ad u) ba n (t) 5 tb bb htb (by omega)) ⟨hJ.1, hBa1⟩ (cAt.recv hK hJ.1 rfl) q737 q739 qs12 q81 q740 ndX16_look rfl (by rw [hRf]; omega) (by rw [hRl]; omega) (by rw [hRc]; omega) (by rw [hRs]; omega) hl.1 rfl (Nat.le_of_ble_eq_true rfl) dX16_single_137 ?_
        refine lv_bipush (v := nI 48) hx hb dX16_single_140 (by decide) ?_
        refine lv_bipush (v := nI 57) hx hb dX16_single_142 (by decide) ?_
        have nq := hK.M 8 rfl
        refine st_callN (y := yX0_in) hx hb hml hown hts (cmX0_in (tk bb n t) (nI 48) (nI 57)) nq q331 q61 q332 ndX0_in rfl (by rw [hRf]; omega) (by rw [hRl]; omega) (Nat.zero_le _) (Nat.zero_le _) hl.1 rfl (Nat.le_of_ble_eq_true rfl) dX16_single_144 ?_
        by_cases hdg : nI 48 ≤ tk bb n t ∧ tk bb n t ≤ nI 57
        · have hGe := fac_dg (O := opD) (u := u) (inner := none) hdg
          rw [hG] at hGe
          have hd1 := digs_1 ht hdg
          have hd2 := digs_mono (b := bb) (n := n) 4 t (nI 0) ht
          obtain ⟨u1, u2⟩ := uC_y (t := t) (r := G) (by rw [hGe])
          have hp : G.2.1 = (digs bb n 4 t (nI 0)).2 := by rw [hGe]
          refine w_topV (.int (nI 1)) (congrArg Value.int (iI_1 hdg).symm) ?_
          refine rd_call (y := yX16_fault) (As := [.int (nI 1)]) hx hb hml hown hts hK hE hJ hA0 (rd_fault_ok rd s.heap.size (rdF (ad u) ba n t 5)) hJ.1 q841 q843 qs14 q844 ndX16_fault rfl (by rw [hRf]; omega) (by rw [hRl]; omega) (Nat.zero_le _) (Nat.zero_le _) hl.1 rfl (Nat.le_of_ble_eq_true rfl) dX16_single_147 ?_ (fun x H1 locs1 hq => absurd hq.1 (by intro z; cases z))
          intro v H locs hq hz hk hL
          obtain ⟨hv, hq⟩ := hq
          cases hv
          have hJ := hJ.go hq hz hk hL
          refine lv_iconst (v := nI 0) hx hb dX16_single_150 (by decide) ?_
          refine lv_istore_n (lv' := [(1, .int (nI 0)), (0, .ref rd)]) hx hb dX16_single_151 rfl hl (by decide) rfl (fun ls hl => ?_)
          refine lv_iconst (v := nI 0) hx hb dX16_single_152 (by decide) ?_
          refine lv_istore_n (lv' := [(2, .int (nI 0)), (1, .int (nI 0)), (0, .ref rd)]) hx hb dX16_single_153 rfl hl (by decide) rfl (fun ls hl => ?_)
          have tail : ∀ (v : Int32) (t1 : Nat), digs bb n 4 t (nI 0) = (v, t1) → ∀ (H : Heap) (locs : List Loc), rdJ D rd s (rdF (ad u) ba n t1 5) H locs → ∀ (ls : Array Slot), lv_has ls 3 [(1, .int v), (0, .ref rd)] → W p l e R s m args below meth c H locs 0 0 Q (F0 m 202 ls []) := by
            intro v t1 hv H1 locs hJ1 ls hl
            have hp1 : (digs bb n 4 t (nI 0)).2 = t1 := by rw [hv]
            refine c_new (ci := 9) (fs := [.int 0]) (C := RX20) (T := TX20) (N := 1) hx hb hts in_X20 tyX20 tyX20_ok hown q876 q877 q90 hK rfl (fun j hj => by rcases (show j = 0 by omega) with rfl <;> rfl) (by rw [hRc]; omega) (by rw [hRs]; omega) dX16_single_202 (fun H2 hX2 hz2 hk2 => ?_)
            refine lv_dup hx hb dX16_single_205 rfl ?_
            refine lv_iload_n hx hb dX16_single_206 rfl (lv_at hl 0 rfl) ?_
            refine cg_callI1 (y := yX20_init) (x0 := H1.size) (As := [.int v]) hx hb hml hown hts hK (by have := hJ1.2.1; omega) (tm_iX20 H1.size v) hX2 q878 q879 q90 q880 ndX20_init rfl (by rw [hRf]; omega) (by rw [hRl]; omega) (by rw [hRc]; omega) (by rw [hRs]; omega) hl.1 rfl (Nat.le_of_ble_eq_true rfl) dX16_single_207 ?_
            rintro _ H4 ⟨rfl, hX4⟩ hz4 hk4
            have hJ4 : rdJ D rd s (rdF (ad u) ba n t1 5) H4 locs := ⟨(hJ1.1.kept (hk2 rd hJ1.1.lt)).kept (hk4 rd (by have := hJ1.1.lt; omega) (by have := hJ1.1.lt; omega)), by have := hJ1.2.1; omega, fun q g1 g2 => (hk4 q (by have := hJ1.2.1; omega) (by have := hJ1.2.1; omega)).trans ((hk2 q (by have := hJ1.2.1; omega)).trans (hJ1.2.2.1 q g1 g2)), hJ1.2.2.2⟩
            refine W.widen (k := uC t G) (n := uS t G) (by omega) (by omega) ?_
            refine hret ⟨fun _ => ⟨H1.size, rfl, by rw [hp, hp1]; exact hJ4.1, ?_⟩, fun z => absurd (by rw [hGe]) z⟩ hJ4.S dX16_single_210
            obtain ⟨k9, hk9⟩ : ∃ k', G.2.1 - t = k' + 1 := ⟨G.2.1 - t - 1, by omega⟩
            rw [hk9, show G.1 = opD.1 v by rw [hGe, hv]]
            exact ⟨by have := hJ1.2.1; omega, Or.inl ⟨v, hX4, fun _ => rfl⟩⟩
          have loop154 : ∀ (fu k t1 : Nat) (v : Int32), k ≤ 4 → 4 < k + fu → t1 ≤ n → t ≤ t1 → digs bb n (4 - k) t1 v = digs bb n 4 t (nI 0) → ∀ (H : Heap) (locs : List Loc), rdJ D rd s (rdF (ad u) ba n t1 5) H locs → ∀ (ls : Array Slot), lv_has ls 3 [(2, .int (nI k)), (1, .int v), (0, .ref rd)] → W p l e R s m args below meth c H locs 0 0 Q (F0 m 154 ls []) := by
            intro fu
            induction fu with
            | zero =>
              intro k t1 v h1 h2
              omega
            | succ fu ih =>
              intro k t1 v h1 h2 h3 h4 he H locs hJ ls hl
              have hBa1 := hBa.kept (hJ.2.2.1 ba hbl hne)
              refine lv_iload_n hx hb dX16_single_154 rfl (lv_at hl 0 rfl) ?_
              refine lv_iconst (v := nI 4) hx hb dX16_single_155 (by decide) ?_
              refine w_icmp_geN (tgt := 202) hx hb (by omega) (by omega) dX16_single_156 (by decide) (fun c5 => ?_) (fun c5 => ?_)
              · exact tail v t1 (by rw [← he, show 4 - k = 0 by omega]; rfl) H locs hJ ls (lv_sub hl [1, 2] rfl)
              · refine lv_aload_n hx hb dX16_single_159 rfl (lv_at hl 2 rfl) ?_
                refine rd_callV (y := yX16_look) (b := rd) (C := RX16) (As := []) hx hb hml hown hts hK (rd_look rd (ad u) ba n t1 5 tb bb htb h3) ⟨hJ.1, hBa1⟩ (cAt.recv hK hJ.1 rfl) q737 q739 qs12 q81 q740 ndX16_look rfl (by rw [hRf]; omega) (by rw [hRl]; omega) (Nat.zero_le _) (Nat.zero_le _) hl.1 rfl (Nat.le_of_ble_eq_true rfl) dX16_single_160 ?_
                refine lv_bipush (v := nI 48) hx hb dX16_single_163 (by decide) ?_
                refine lv_bipush (v := nI 57) hx hb dX16_single_165 (by decide) ?_
                refine st_callN (y := yX0_in) hx hb hml hown hts (cmX0_in (tk bb n t1) (nI 48) (nI 57)) nq q331 q61 q332 ndX0_in rfl (by rw [hRf]; omega) (by rw [hRl]; omega) (Nat.zero_le _) (Nat.zero_le _) hl.1 rfl (Nat.le_of_ble_eq_true rfl) dX16_single_167 ?_
                refine w_if_eqT (tgt := 202) hx hb dX16_single_170 (by decide) (fun c6 => ?_) (fun c6 => ?_)
                · exact tail v t1 (by rw [← he]; exact digs_stop c6) H locs hJ ls (lv_sub hl [1, 2] rfl)
                · have hlt : t1 < n := tk_lt (fun q => by rw [q] at c6; exact absurd c6 (by decide))
                  refine lv_bipush (v := nI 10) hx hb dX16_single_173 (by decide) ?_
                  refine lv_iload_n hx hb dX16_single_175 rfl (lv_at hl 1 rfl) ?_
                  refine lv_imul hx hb dX16_single_176 ?_
                  refine lv_aload_n hx hb dX16_single_177 rfl (lv_at hl 2 rfl) ?_
                  refine rd_callV (y := yX16_look) (b := rd) (C := RX16) (As := []) hx hb hml hown hts hK (rd_look rd (ad u) ba n t1 5 tb bb htb h3) ⟨hJ.1, hBa1⟩ (cAt.recv hK hJ.1 rfl) q737 q739 qs12 q81 q740 ndX16_look rfl (by rw [hRf]; omega) (by rw [hRl]; omega) (Nat.zero_le _) (Nat.zero_le _) hl.1 rfl (Nat.le_of_ble_eq_true rfl) dX16_single_178 ?_
                  refine lv_iadd hx hb dX16_single_181 ?_
                  refine lv_bipush (v := nI 48) hx hb dX16_single_182 (by decide) ?_
                  refine lv_isub hx hb dX16_single_184 ?_
                  refine lv_istore_n (lv' := [(1, .int (nI 10 * v + tk bb n t1 - nI 48)), (2, .int (nI k)), (0, .ref rd)]) hx hb dX16_single_185 rfl hl (by decide) rfl (fun ls hl => ?_)
                  refine lv_aload_n hx hb dX16_single_186 rfl (lv_at hl 2 rfl) ?_
                  refine lv_dup hx hb dX16_single_187 rfl ?_
                  refine c_get (v := .int (nI (t1))) hx hb hts in_X16 hown hK hJ.1 rfl 3 (by decide) q692 rfl rfl dX16_single_188 ?_
                  refine lv_iconst (v := nI 1) hx hb dX16_single_191 (by decide) ?_
                  refine w_iaddN hx hb dX16_single_192 ?_
                  refine rd_putf hx hb hts hown hK hJ 3 (by decide) q692 rfl rfl rfl rfl (Nat.le_of_ble_eq_true rfl) dX16_single_193 (fun H1 locs hJ1 hz1 hk1 => ?_)
                  have hJ1 : rdJ D rd s (rdF (ad u) ba n (t1 + 1) 5) H1 locs := hJ1
                  refine lv_iinc (v := nI (k + 1)) (lv' := [(2, .int (nI (k + 1))), (1, .int (nI 10 * v + tk bb n t1 - nI 48)), (0, .ref rd)]) hx hb dX16_single_196 hl (k := 1) rfl (by rw [show Int32.ofInt 1 = nI 1 from by decide]; exact nI_add _ _) (by decide) rfl (fun ls hl => ?_)
                  refine lv_goto (tgt := 154) hx hb dX16_single_199 (by decide) ?_
                  refine ih (k + 1) (t1 + 1) (nI 10 * v + tk bb n t1 - nI 48) (by omega) (by omega) hlt (by omega) ?_ H1 locs hJ1 ls hl
                  rw [show 4 - k = (4 - (k + 1)) + 1 by omega, digs, if_pos c6] at he
                  exact he
          exact loop154 5 0 t (nI 0) (by omega) (by omega) ht (Nat.le_refl _) rfl H locs hJ ls hl
        · have hGe := fac_no (O := opD) (u := u) (inner := none) hdg hnm h33 h40
          rw [hG] at hGe
          obtain ⟨u1, u2⟩ := uC_n (t := t) (r := G) (by rw [hGe]; exact Bool.false_ne_true)
          refine w_topV (.int (nI 0)) (congrArg Value.int (iI_0 hdg).symm) ?_
          refine rd_call (y := yX16_fault) (As := [.int (nI 0)]) hx hb hml hown hts hK hE hJ hA0 (rd_fault_x rd (ad u) ba n t 5 s.heap.size hrd) ⟨rfl, hJ.1⟩ q841 q843 qs14 q844 ndX16_fault rfl (by rw [hRf]; omega) (by rw [hRl]; omega) (by rw [hRc]; omega) (by rw [hRs]; omega) hl.1 rfl (Nat.le_of_ble_eq_true rfl) dX16_single_147 (fun v H1 locs1 hq => by obtain ⟨x, hq, -⟩ := hq; cases hq) ?_
          intro x H locs hq hz hk hL
          obtain ⟨x, hv, hxb, hF⟩ := hq
          cases hv
          exact WT.widen (k := _) (n := _) (by omega) (by omega) (hthr ⟨fun z => absurd z (by rw [hGe]; exact Bool.false_ne_true), fun _ => ⟨x, rfl, hxb, by rw [hGe]; exact hF⟩⟩ ⟨hz, fun q h1 h2 => hk q h1 (fun z => h2 (Or.inl z)), fun l hl => Or.inl (hL l hl)⟩)
set_option maxHeartbeats 2000000 in
theorem rd_singleS {D : va_G} {dA : Nat → ClassId} {b0 : Nat} {ad adV : Nat → Nat} (rd ba n : Nat) (tb bb : Nat → Int32) (htb : tbOK tb bb n) (hrd : b0 ≤ rd) (hne : ¬ ba = rd) (u : Nat) (hu : u < 2) (o fr0 lo0 fr1 lo1 : Nat) (hf0 : 7 ≤ fr0) (hl0 : 155 ≤ lo0) (hf1 : fr0 ≤ fr1) (hl1 : lo0 ≤ lo1) (ho : o < 5) (fd wd : Nat → Rs Dn) (hm1 : mono n fd) (hm2 : mono n wd) (hsd : RM D dA b0 ad adV rd (ad u) ba n tb yX16_single cX16_single 3 fr0 lo0 (o + 1) fd) (hwd : RM D dA b0 ad adV rd (ad u) ba n tb yX16_either cX16_either 2 fr1 lo1 (o + 1) wd) : RM D dA b0 ad adV rd (ad u) ba n tb yX16_single cX16_single 3 (fr1 + 1) (lo1 + 22) o (facF opD bb n u (some (fd, wd))) := by
  intro b t ht hbb
  refine Cs.ofA (Or.inl ⟨_, rfl⟩) (by decide) (own := RX16) rfl (Nat.le_of_ble_eq_true rfl) ?_
  intro p l e R s m args below meth c Q ls hx hb hml hRf hRl hRc hRs hts hown hK hE hP hl hret hthr
  obtain ⟨rfl, hRd, hBa⟩ := hP
  have hl : lv_has ls 3 [(0, .ref rd)] := hl
  have hrb := hRd.lt
  have hbl := hBa.lt
  have hn5 := htb.1
  have hA0 : ∀ q, rdA rd s.heap.size q → b0 ≤ q := fun q hq => hq.elim (fun z => by rw [z]; exact hrd) (fun z => Nat.le_trans hbb z)
  have hJ : rdJ D rd s (rdF (ad u) ba n t o) s.heap [] := ⟨hRd, Nat.le_refl _, fun _ _ _ => rfl, fun q hq => by cases hq⟩
  have hBa1 := hBa
  generalize hG : facF opD bb n u (some (fd, wd)) t = G at hret hthr hRc hRs
  refine lv_aload_n hx hb dX16_single_0 rfl (lv_at hl 0 rfl) ?_
  refine lv_aload_n hx hb dX16_single_1 rfl (lv_at hl 0 rfl) ?_
  refine c_get (v := .ref (ad u)) hx hb hts in_X16 hown hK hJ.1 rfl 0 (by decide) q689 rfl rfl dX16_single_2 ?_
  refine rg_callV (y := yX16_isOne) (b := rd) (C := RX16) (As := [.ref (ad u)]) hx hb hml hown hts (rd_isOne (b0 := b0) (ad := ad) (adV := adV) rd (ad u) ba n t o tb bb htb ht u (by omega)) rdE_blind (fun U hU hW => ⟨by rw [hU]; exact ⟨hJ.1, hBa1⟩, hK.warm hW, hE.go hW (fun q g1 g2 => by rw [hU])⟩) (cAt.recv hK hJ.1 rfl) q733 q735 qs11 q81 q736 ndX16_isOne rfl (by rw [hRf]; omega) (by rw [hRl]; omega) (Nat.zero_le _) (Nat.zero_le _) hl.1 rfl (Nat.le_of_ble_eq_true rfl) dX16_single_5 ?_
  refine w_if_eqT (tgt := 40) hx hb dX16_single_8 (by decide) (fun c1 => ?_) (fun c1 => ?_)
  rotate_left
  · have hnm : isNm u (tk bb n t) = true := by rw [← isL_u hu]; exact c1
    obtain ⟨mm, q1, q2⟩ : ∃ m, m < 256 ∧ tk bb n t = nI m := (tk_255 htb t).resolve_left (fun q => by rw [q, isL_m1 u (by omega)] at c1; cases c1)
    have hlt : t < n := tk_lt (fun q => by rw [q, isL_m1 u (by omega)] at c1; cases c1)
    have h128 := nm_128 hu q1 (by rw [← q2]; exact hnm)
    have hGe := fac_nm (O := opD) (inner := (some (fd, wd))) hu q1 q2 (by rw [← q2]; exact hnm)
    rw [hG] at hGe
    have hbt : bb t = nI mm := by rw [← q2]; unfold tk; rw [if_pos hlt]
    have htt : tb t = nI mm := by
      rw [(htb.2 t hlt).2.2, hbt]
      exact nm_byte mm h128.2
    obtain ⟨u1, u2⟩ := uC_y (t := t) (r := G) (by rw [hGe])
    have hp : G.2.1 = t + 1 := by rw [hGe]
    refine lv_aload_n hx hb dX16_single_11 rfl (lv_at hl 0 rfl) ?_
    refine lv_dup hx hb dX16_single_12 rfl ?_
    refine c_get (v := .int (nI (t))) hx hb hts in_X16 hown hK hJ.1 rfl 3 (by decide) q692 rfl rfl dX16_single_13 ?_
    refine lv_iconst (v := nI 1) hx hb dX16_single_16 (by decide) ?_
    refine w_iaddN hx hb dX16_single_17 ?_
    refine rd_putf hx hb hts hown hK hJ 3 (by decide) q692 rfl rfl rfl rfl (Nat.le_of_ble_eq_true rfl) dX16_single_18 (fun H1 locs hJ1 hz1 hk1 => ?_)
    have hJ1 : rdJ D rd s (rdF (ad u) ba n (t + 1) o) H1 locs := hJ1
    refine c_new (ci := 7) (fs := [.int 0]) (C := RX17) (T := TX17) (N := 1) hx hb hts in_X17 tyX17 tyX17_ok hown q823 q824 q87 hK rfl (fun j hj => by rcases (show j = 0 by omega) with rfl <;> rfl) (by rw [hRc]; omega) (by rw [hRs]; omega) dX16_single_21 (fun H2 hX2 hz2 hk2 => ?_)
    have hJ2 := hJ1.go (hJ1.1.kept (hk2 rd hJ1.1.lt)) (by omega) (fun q g1 _ => hk2 q g1) hJ1.2.2.2
    have hBa2 := hBa.kept (hJ2.2.2.1 ba hbl hne)
    refine lv_dup hx hb dX16_single_24 rfl ?_
    refine lv_aload_n hx hb dX16_single_25 rfl (lv_at hl 0 rfl) ?_
    refine c_get (v := .ref ba) hx hb hts in_X16 hown hK hJ2.1 rfl 1 (by decide) q690 rfl rfl dX16_single_26 ?_
    refine lv_aload_n hx hb dX16_single_29 rfl (lv_at hl 0 rfl) ?_
    refine c_get (v := .int (nI (t + 1))) hx hb hts in_X16 hown hK hJ2.1 rfl 3 (by decide) q692 rfl rfl dX16_single_30 ?_
    refine lv_iconst (v := nI 1) hx hb dX16_single_33 (by decide) ?_
    refine w_isubN hx hb (by omega) dX16_single_34 ?_
    refine c_bald hx hb hK hBa2 t ⟨by omega, by decide, by rw [Nat.add_sub_cancel]⟩ dX16_single_35 ?_
    refine w_top (nI mm) htt ?_
    refine cg_callI1 (y := yX17_init) (x0 := H1.size) (As := [.int (nI mm)]) hx hb hml hown hts hK (by have := hJ1.2.1; omega) (tm_iX17 H1.size (nI mm)) hX2 q825 q826 q87 q827 ndX17_init rfl (by rw [hRf]; omega) (by rw [hRl]; omega) (by rw [hRc]; omega) (by rw [hRs]; omega) hl.1 rfl (Nat.le_of_ble_eq_true rfl) dX16_single_36 ?_
    rintro _ H4 ⟨rfl, hX4⟩ hz4 hk4
    have hJ4 : rdJ D rd s (rdF (ad u) ba n (t + 1) o) H4 locs := ⟨(hJ1.1.kept (hk2 rd hJ1.1.lt)).kept (hk4 rd (by have := hJ1.1.lt; omega) (by have := hJ1.1.lt; omega)), by have := hJ1.2.1; omega, fun q g1 g2 => (hk4 q (by have := hJ1.2.1; omega) (by have := hJ1.2.1; omega)).trans ((hk2 q (by have := hJ1.2.1; omega)).trans (hJ1.2.2.1 q g1 g2)), hJ1.2.2.2⟩
    refine W.widen (k := uC t G) (n := uS t G) (by omega) (by omega) ?_
    refine hret ⟨fun _ => ⟨H1.size, rfl, by rw [hp]; exact hJ4.1, ?_⟩, fun z => absurd (by rw [hGe]) z⟩ hJ4.S dX16_single_39
    rw [hp, hGe, show t + 1 - t = 0 + 1 by omega]
    exact ⟨by have := hJ1.2.1; omega, Or.inr (Or.inl ⟨mm, h128.2, hX4, fun nm => by show nm (cl (tk bb n t)) = nm mm; rw [q2, show cl (nI mm) = mm from nI_clamp (by omega)]⟩)⟩
  · have hnm : ¬ isNm u (tk bb n t) = true := by rw [← isL_u hu]; exact c1
    refine lv_aload_n hx hb dX16_single_40 rfl (lv_at hl 0 rfl) ?_
    have nq := hE.2.1 2 _ rfl
    refine va_ldcS hx hb hown nq dX16_single_41 ?_
    refine rg_callV (y := yX16_isOne) (b := rd) (C := RX16) (As := [.ref (ad 2)]) hx hb hml hown hts (rd_isOne (b0 := b0) (ad := ad) (adV := adV) rd (ad u) ba n t o tb bb htb (by omega) 2 (by decide)) rdE_blind (fun U hU hW => ⟨by rw [hU]; exact ⟨hJ.1, hBa1⟩, hK.warm hW, hE.go hW (fun q g1 g2 => by first | (rw [hU]; done) | (rw [hU]; exact hJ.2.2.1 q g1 (fun z => g2 (by rw [z]; exact hrd))))⟩) (cAt.recv hK hJ.1 rfl) q733 q735 qs11 q81 q736 ndX16_isOne rfl (by rw [hRf]; omega) (by rw [hRl]; omega) (Nat.zero_le _) (Nat.zero_le _) hl.1 rfl (Nat.le_of_ble_eq_true rfl) dX16_single_43 ?_
    refine w_if_eqT (tgt := 77) hx hb dX16_single_46 (by decide) (fun c2 => ?_) (fun c2 => ?_)
    rotate_left
    · have h33 : tk bb n t = nI 33 := by have : (tk bb n t == nI 33) = true := c2; simpa using this
      have hlt : t < n := tk_lt (fun q => by rw [q] at h33; exact absurd h33 (by decide))
      refine lv_aload_n hx hb dX16_single_49 rfl (lv_at hl 0 rfl) ?_
      have hGe := fac_33 (O := opD) (u := u) (q := (fd, wd)) h33
      rw [hG] at hGe
      dsimp only at hGe
      have hs := hm1 (t + 1) hlt
      obtain ⟨v1, v2⟩ := uC_step (t := t) (opD.2.2.2.1 (fd (t + 1)).1) (fd (t + 1)) (Nat.le_refl _) hs.1
      rw [← hGe] at v1 v2
      refine rd_call (y := yX16_opens) (As := []) hx hb hml hown hts hK hE hJ hA0 (rd_opens_ok rd (ad u) ba n t o s.heap.size hrd hbb ho) ⟨rfl, hJ.1⟩ q837 q839 qs13 q840 ndX16_opens rfl (by rw [hRf]; omega) (by rw [hRl]; omega) (Nat.zero_le _) (Nat.zero_le _) hl.1 rfl (Nat.le_of_ble_eq_true rfl) dX16_single_50 ?_ (fun x H1 locs1 hq => absurd hq.1 (by intro z; cases z))
      intro v H1 locs hq hz hk hL
      obtain ⟨hv, hq⟩ := hq
      cases hv
      have hJ1 := hJ.go hq hz hk hL
      have hBa1 := hBa.kept (hJ1.2.2.1 ba hbl hne)
      have hs1 := hJ1.2.1
      refine lv_aload_n hx hb dX16_single_53 rfl (lv_at hl 0 rfl) ?_
      refine rd_call (y := yX16_single) (As := []) hx hb hml hown hts hK hE hJ1 hA0 (hsd H1.size (t + 1) hlt (by omega)) ⟨rfl, hJ1.1, hBa1⟩ q729 q731 qs10 q732 ndX16_single rfl (by rw [hRf]; omega) (by rw [hRl]; omega) (by rw [hRc]; omega) (by rw [hRs]; omega) hl.1 rfl (Nat.le_of_ble_eq_true rfl) dX16_single_54 ?_ ?_
      · intro v H2 locs hq hz3 hk3 hL
        obtain ⟨hg3, y, rfl, hR3, hT3⟩ := hq.ret
        obtain ⟨w1, w2⟩ := uC_y (t := t + 1) hg3
        have hJ2 := hJ1.go hR3 hz3 hk3 hL
        refine lv_astore_n (lv' := [(1, .ref y), (0, .ref rd)]) hx hb dX16_single_57 rfl hl (by decide) rfl (fun ls hl => ?_)
        refine lv_aload_n hx hb dX16_single_58 rfl (lv_at hl 1 rfl) ?_
        refine lv_dup hx hb dX16_single_59 rfl ?_
        refine c_get (v := .int (nI (o + 1))) hx hb hts in_X16 hown hK hJ2.1 rfl 4 (by decide) q693 rfl rfl dX16_single_60 ?_
        refine lv_iconst (v := nI 1) hx hb dX16_single_63 (by decide) ?_
        refine w_isubN hx hb (by omega) dX16_single_64 ?_
        refine rd_putf hx hb hts hown hK hJ2 4 (by decide) q693 rfl rfl rfl rfl (Nat.le_of_ble_eq_true rfl) dX16_single_65 (fun H3 locs hJ3 hz5 hk5 => ?_)
        have hJ3 : rdJ D rd s (rdF (ad u) ba n ((fd (t + 1)).2.1) o) H3 locs := hJ3
        refine c_new (ci := 8) (fs := [.null]) (C := RX19) (T := TX19) (N := 1) hx hb hts in_X19 tyX19 tyX19_ok hown q864 q865 q89 hK rfl (fun j hj => by rcases (show j = 0 by omega) with rfl <;> rfl) (by rw [hRc]; omega) (by rw [hRs]; omega) dX16_single_68 (fun H5 hX2 hz2 hk2 => ?_)
        refine lv_dup hx hb dX16_single_71 rfl ?_
        refine lv_aload_n hx hb dX16_single_72 rfl (lv_at hl 0 rfl) ?_
        refine cg_callI1 (y := yX19_init) (x0 := H3.size) (As := [.ref y]) hx hb hml hown hts hK (by have := hJ3.2.1; omega) (tm_iX19 H3.size y) hX2 q866 q867 q89 q868 ndX19_init rfl (by rw [hRf]; omega) (by rw [hRl]; omega) (by rw [hRc]; omega) (by rw [hRs]; omega) hl.1 rfl (Nat.le_of_ble_eq_true rfl) dX16_single_73 ?_
        rintro _ H4 ⟨rfl, hX4⟩ hz4 hk4
        have hJ4 : rdJ D rd s (rdF (ad u) ba n (fd (t + 1)).2.1 o) H4 locs := ⟨(hJ3.1.kept (hk2 rd hJ3.1.lt)).kept (hk4 rd (by have := hJ3.1.lt; omega) (by have := hJ3.1.lt; omega)), by have := hJ3.2.1; omega, fun q g1 g2 => (hk4 q (by have := hJ3.2.1; omega) (by have := hJ3.2.1; omega)).trans ((hk2 q (by have := hJ3.2.1; omega)).trans (hJ3.2.2.1 q g1 g2)), hJ3.2.2.2⟩
        have hs3 := hJ2.2.1
        have hTy : TmOK D (fun q => s.heap.size ≤ q) ((fd (t + 1)).2.1 - (t + 1)) H4 y (fd (t + 1)).1 := hT3.to (fun q g1 g2 => ⟨by omega, (hk4 q (by omega) (by omega)).trans ((hk2 q (by omega)).trans (hk5 q g1 (by omega)))⟩) _ y _
        refine W.widen (k := uC t G) (n := uS t G) (by omega) (by omega) ?_
        refine hret ⟨fun _ => ⟨H3.size, rfl, by rw [hGe]; exact hJ4.1, ?_⟩, fun z => absurd (by rw [hGe]; exact hg3) z⟩ hJ4.S dX16_single_76
        rw [hGe]
        show TmOK D _ ((fd (t + 1)).2.1 - t) H4 H3.size (opD.2.2.2.1 (fd (t + 1)).1)
        rw [show (fd (t + 1)).2.1 - t = ((fd (t + 1)).2.1 - (t + 1)) + 1 by omega]
        exact ⟨by omega, Or.inr (Or.inr (Or.inl ⟨y, (fd (t + 1)).1, hX4, hTy, fun _ => rfl⟩))⟩
      · intro x9 H3 locs hq hz3 hk3 hL
        obtain ⟨hg3, hxb, hF⟩ := hq.thr
        refine WT.widen (k := _) (n := _) (by rw [v1]; omega) (by rw [v2]; omega) (hthr ⟨fun z => absurd (by rw [hGe] at z; exact z) hg3, fun _ => ⟨x9, rfl, by omega, by rw [hGe]; exact hF⟩⟩ ?_)
        exact ⟨by omega, fun q g1 g2 => (hk3 q (by omega) (fun z => g2 (Or.inl z))).trans (hJ1.2.2.1 q g1 (fun z => g2 (Or.inl z))), fun l hl => Or.inl (hL l hl)⟩
    · have h33 : ¬ tk bb n t = nI 33 := fun q => c2 (by rw [q]; decide)
      refine lv_aload_n hx hb dX16_single_77 rfl (lv_at hl 0 rfl) ?_
      have nq := hE.2.1 3 _ rfl
      refine va_ldcS hx hb hown nq dX16_single_78 ?_
      refine rg_callV (y := yX16_isOne) (b := rd) (C := RX16) (As := [.ref (ad 3)]) hx hb hml hown hts (rd_isOne (b0 := b0) (ad := ad) (adV := adV) rd (ad u) ba n t o tb bb htb (by omega) 3 (by decide)) rdE_blind (fun U hU hW => ⟨by rw [hU]; exact ⟨hJ.1, hBa1⟩, hK.warm hW, hE.go hW (fun q g1 g2 => by first | (rw [hU]; done) | (rw [hU]; exact hJ.2.2.1 q g1 (fun z => g2 (by rw [z]; exact hrd))))⟩) (cAt.recv hK hJ.1 rfl) q733 q735 qs11 q81 q736 ndX16_isOne rfl (by rw [hRf]; omega) (by rw [hRl]; omega) (Nat.zero_le _) (Nat.zero_le _) hl.1 rfl (Nat.le_of_ble_eq_true rfl) dX16_single_80 ?_
      refine w_if_eqT (tgt := 135) hx hb dX16_single_83 (by decide) (fun c3 => ?_) (fun c3 => ?_)
      rotate_left
      · have h40 : tk bb n t = nI 40 := by have : (tk bb n t == nI 40) = true := c3; simpa using this
        have hlt : t < n := tk_lt (fun q => by rw [q] at h40; exact absurd h40 (by decide))
        refine lv_aload_n hx hb dX16_single_86 rfl (lv_at hl 0 rfl) ?_
        have hGe := fac_40 (O := opD) (u := u) (q := (fd, wd)) h40
        rw [hG] at hGe
        dsimp only at hGe
        have hs := hm2 (t + 1) hlt
        have hUc : uC (t + 1) (wd (t + 1)) ≤ uC t G ∧ uS (t + 1) (wd (t + 1)) ≤ uS t G := by
          rw [hGe]
          unfold uC uS
          split <;> split <;> simp_all <;> omega
        refine rd_call (y := yX16_opens) (As := []) hx hb hml hown hts hK hE hJ hA0 (rd_opens_ok rd (ad u) ba n t o s.heap.size hrd hbb ho) ⟨rfl, hJ.1⟩ q837 q839 qs13 q840 ndX16_opens rfl (by rw [hRf]; omega) (by rw [hRl]; omega) (Nat.zero_le _) (Nat.zero_le _) hl.1 rfl (Nat.le_of_ble_eq_true rfl) dX16_single_87 ?_ (fun x H1 locs1 hq => absurd hq.1 (by intro z; cases z))
        intro v H1 locs hq hz hk hL
        obtain ⟨hv, hq⟩ := hq
        cases hv
        have hJ1 := hJ.go hq hz hk hL
        have hBa1 := hBa.kept (hJ1.2.2.1 ba hbl hne)
        have hs1 := hJ1.2.1
        refine lv_aload_n hx hb dX16_single_90 rfl (lv_at hl 0 rfl) ?_
        refine rd_call (y := yX16_either) (As := []) hx hb hml hown hts hK hE hJ1 hA0 (hwd H1.size (t + 1) hlt (by omega)) ⟨rfl, hJ1.1, hBa1⟩ q709 q711 qs5 q712 ndX16_either rfl (by rw [hRf]; omega) (by rw [hRl]; omega) (by rw [hRc]; omega) (by rw [hRs]; omega) hl.1 rfl (Nat.le_of_ble_eq_true rfl) dX16_single_91 ?_ ?_
        · intro v H2 locs hq hz3 hk3 hL
          obtain ⟨hg3, y, rfl, hR3, hT3⟩ := hq.ret
          obtain ⟨w1, w2⟩ := uC_y (t := t + 1) hg3
          have hJ2 := hJ1.go hR3 hz3 hk3 hL
          have hs2 := hJ2.2.1
          have hBa1 := hBa.kept (hJ2.2.2.1 ba hbl hne)
          refine lv_astore_n (lv' := [(1, .ref y), (0, .ref rd)]) hx hb dX16_single_94 rfl hl (by decide) rfl (fun ls hl => ?_)
          refine lv_aload_n hx hb dX16_single_95 rfl (lv_at hl 1 rfl) ?_
          refine lv_aload_n hx hb dX16_single_96 rfl (lv_at hl 1 rfl) ?_
          refine rd_callV (y := yX16_look) (b := rd) (C := RX16) (As := []) hx hb hml hown hts hK (rd_look rd (ad u) ba n ((wd (t + 1)).2.1) (o + 1) tb bb htb (by omega)) ⟨hJ2.1, hBa1⟩ (cAt.recv hK hJ2.1 rfl) q737 q739 qs12 q81 q740 ndX16_look rfl (by rw [hRf]; omega) (by rw [hRl]; omega) (by rw [hRc]; omega) (by rw [hRs]; omega) hl.1 rfl (Nat.le_of_ble_eq_true rfl) dX16_single_97 ?_
          refine lv_bipush (v := nI 41) hx hb dX16_single_100 (by decide) ?_
          refine lv_icmp_ne (tgt := 109) hx hb dX16_single_102 (by decide) (fun c4 => ?_) (fun c4 => ?_)
          · rw [if_neg (fun z => c4 z.2)] at hGe
            obtain ⟨u1, u2⟩ := uC_n (t := t) (r := G) (by rw [hGe]; exact Bool.false_ne_true)
            have hp : G.2.1 = (wd (t + 1)).2.1 := by rw [hGe]
            refine lv_iconst (v := nI 0) hx hb dX16_single_109 (by decide) ?_
            refine rd_call (y := yX16_fault) (As := [.int (nI 0)]) hx hb hml hown hts hK hE hJ2 hA0 (rd_fault_x rd (ad u) ba n (wd (t + 1)).2.1 (o + 1) H2.size hrd) ⟨rfl, hJ2.1⟩ q841 q843 qs14 q844 ndX16_fault rfl (by rw [hRf]; omega) (by rw [hRl]; omega) (by rw [hRc]; omega) (by rw [hRs]; omega) hl.1 rfl (Nat.le_of_ble_eq_true rfl) dX16_single_110 (fun v H1 locs1 hq => by obtain ⟨x, hq, -⟩ := hq; cases hq) ?_
            intro x H5 locs hq hz5 hk5 hL5
            obtain ⟨x, hv, hxb, hF⟩ := hq
            cases hv
            refine WT.widen (k := _) (n := _) (by omega) (by omega) (hthr ⟨fun z => absurd z (by rw [hGe]; exact Bool.false_ne_true), fun _ => ⟨x, rfl, by omega, by rw [hp]; exact hF⟩⟩ ?_)
            exact ⟨by omega, fun q g1 g2 => (hk5 q (by omega) (fun z => g2 (Or.inl z))).trans (hJ2.2.2.1 q g1 (fun z => g2 (Or.inl z))), fun l hl => Or.inl (hL5 l hl)⟩
          · rw [if_pos ⟨hg3, c4⟩] at hGe
            have hlt2 : (wd (t + 1)).2.1 < n := tk_lt (fun q => by rw [q] at c4; exact absurd c4 (by decide))
            obtain ⟨u1, u2⟩ := uC_y (t := t) (r := G) (by rw [hGe])
            have hp : G.2.1 = (wd (t + 1)).2.1 + 1 := by rw [hGe]
            refine lv_iconst (v := nI 1) hx hb dX16_single_105 (by decide) ?_
            refine lv_goto (tgt := 110) hx hb dX16_single_106 (by decide) ?_
            refine rd_call (y := yX16_fault) (As := [.int (nI 1)]) hx hb hml hown hts hK hE hJ2 hA0 (rd_fault_ok rd H2.size (rdF (ad u) ba n (wd (t + 1)).2.1 (o + 1))) hJ2.1 q841 q843 qs14 q844 ndX16_fault rfl (by rw [hRf]; omega) (by rw [hRl]; omega) (by rw [hRc]; omega) (by rw [hRs]; omega) hl.1 rfl (Nat.le_of_ble_eq_true rfl) dX16_single_110 ?_ (fun x H1 locs1 hq => absurd hq.1 (by intro z; cases z))
            intro v H5 locs hq hz5 hk5 hL5
            obtain ⟨hv, hq⟩ := hq
            cases hv
            have hJ5 := hJ2.go hq hz5 hk5 hL5
            refine lv_aload_n hx hb dX16_single_113 rfl (lv_at hl 1 rfl) ?_
            refine lv_dup hx hb dX16_single_114 rfl ?_
            refine c_get (v := .int (nI ((wd (t + 1)).2.1))) hx hb hts in_X16 hown hK hJ5.1 rfl 3 (by decide) q692 rfl rfl dX16_single_115 ?_
            refine lv_iconst (v := nI 1) hx hb dX16_single_118 (by decide) ?_
            refine w_iaddN hx hb dX16_single_119 ?_
            refine rd_putf hx hb hts hown hK hJ5 3 (by decide) q692 rfl rfl rfl rfl (Nat.le_of_ble_eq_true rfl) dX16_single_120 (fun H6 locs hJ6 hz6 hk6 => ?_)
            have hJ6 : rdJ D rd s (rdF (ad u) ba n ((wd (t + 1)).2.1 + 1) (o + 1)) H6 locs := hJ6
            refine lv_aload_n hx hb dX16_single_123 rfl (lv_at hl 1 rfl) ?_
            refine lv_dup hx hb dX16_single_124 rfl ?_
            refine c_get (v := .int (nI (o + 1))) hx hb hts in_X16 hown hK hJ6.1 rfl 4 (by decide) q693 rfl rfl dX16_single_125 ?_
            refine lv_iconst (v := nI 1) hx hb dX16_single_128 (by decide) ?_
            refine w_isubN hx hb (by omega) dX16_single_129 ?_
            refine rd_putf hx hb hts hown hK hJ6 4 (by decide) q693 rfl rfl rfl rfl (Nat.le_of_ble_eq_true rfl) dX16_single_130 (fun H7 locs hJ7 hz7 hk7 => ?_)
            have hJ7 : rdJ D rd s (rdF (ad u) ba n ((wd (t + 1)).2.1 + 1) o) H7 locs := hJ7
            refine lv_aload_n hx hb dX16_single_133 rfl (lv_at hl 0 rfl) ?_
            have hTy : TmOK D (fun q => s.heap.size ≤ q) ((wd (t + 1)).2.1 - (t + 1)) H7 y (wd (t + 1)).1 := hT3.to (fun q g1 g2 => ⟨by omega, (hk7 q (by omega) (by omega)).trans ((hk6 q (by omega) (by omega)).trans (hk5 q g1 (by omega)))⟩) _ y _
            refine W.widen (k := uC t G) (n := uS t G) (by omega) (by omega) ?_
            refine hret ⟨fun _ => ⟨y, rfl, by rw [hp]; exact hJ7.1, ?_⟩, fun z => absurd (by rw [hGe]) z⟩ hJ7.S dX16_single_134
            rw [hp, show G.1 = (wd (t + 1)).1 by rw [hGe]]
            exact TmOK.mono _ _ y _ (by omega) hTy
        · intro x9 H3 locs hq hz3 hk3 hL
          obtain ⟨hg3, hxb, hF⟩ := hq.thr
          rw [if_neg (fun z => hg3 z.1)] at hGe
          have hp : G.2.1 = (wd (t + 1)).2.1 := by rw [hGe]
          refine WT.widen (k := _) (n := _) (by omega) (by omega) (hthr ⟨fun z => absurd z (by rw [hGe]; exact Bool.false_ne_true), fun _ => ⟨x9, rfl, by omega, by rw [hp]; exact hF⟩⟩ ?_)
          exact ⟨by omega, fun q g1 g2 => (hk3 q (by omega) (fun z => g2 (Or.inl z))).trans (hJ1.2.2.1 q g1 (fun z => g2 (Or.inl z))), fun l hl => Or.inl (hL l hl)⟩
      · have h40 : ¬ tk bb n t = nI 40 := fun q => c3 (by rw [q]; decide)
        refine lv_aload_n hx hb dX16_single_135 rfl (lv_at hl 0 rfl) ?_
        refine lv_aload_n hx hb dX16_single_136 rfl (lv_at hl 0 rfl) ?_
        refine rd_callV (y := yX16_look) (b := rd) (C := RX16) (As := []) hx hb hml hown hts hK (rd_look rd (ad u) ba n (t) o tb bb htb (by omega)) ⟨hJ.1, hBa1⟩ (cAt.recv hK hJ.1 rfl) q737 q739 qs12 q81 q740 ndX16_look rfl (by rw [hRf]; omega) (by rw [hRl]; omega) (by rw [hRc]; omega) (by rw [hRs]; omega) hl.1 rfl (Nat.le_of_ble_eq_true rfl) dX16_single_137 ?_
        refine lv_bipush (v := nI 48) hx hb dX16_single_140 (by decide) ?_
        refine lv_bipush (v := nI 57) hx hb dX16_single_142 (by decide) ?_
        have nq := hK.M 8 rfl
        refine st_callN (y := yX0_in) hx hb hml hown hts (cmX0_in (tk bb n t) (nI 48) (nI 57)) nq q331 q61 q332 ndX0_in rfl (by rw [hRf]; omega) (by rw [hRl]; omega) (Nat.zero_le _) (Nat.zero_le _) hl.1 rfl (Nat.le_of_ble_eq_true rfl) dX16_single_144 ?_
        by_cases hdg : nI 48 ≤ tk bb n t ∧ tk bb n t ≤ nI 57
        · have hGe := fac_dg (O := opD) (u := u) (inner := (some (fd, wd))) hdg
          rw [hG] at hGe
          have hd1 := digs_1 ht hdg
          have hd2 := digs_mono (b := bb) (n := n) 4 t (nI 0) ht
          obtain ⟨u1, u2⟩ := uC_y (t := t) (r := G) (by rw [hGe])
          have hp : G.2.1 = (digs bb n 4 t (nI 0)).2 := by rw [hGe]
          refine w_topV (.int (nI 1)) (congrArg Value.int (iI_1 hdg).symm) ?_
          refine rd_call (y := yX16_fault) (As := [.int (nI 1)]) hx hb hml hown hts hK hE hJ hA0 (rd_fault_ok rd s.heap.size (rdF (ad u) ba n t o)) hJ.1 q841 q843 qs14 q844 ndX16_fault rfl (by rw [hRf]; omega) (by rw [hRl]; omega) (Nat.zero_le _) (Nat.zero_le _) hl.1 rfl (Nat.le_of_ble_eq_true rfl) dX16_single_147 ?_ (fun x H1 locs1 hq => absurd hq.1 (by intro z; cases z))
          intro v H locs hq hz hk hL
          obtain ⟨hv, hq⟩ := hq
          cases hv
          have hJ := hJ.go hq hz hk hL
          refine lv_iconst (v := nI 0) hx hb dX16_single_150 (by decide) ?_
          refine lv_istore_n (lv' := [(1, .int (nI 0)), (0, .ref rd)]) hx hb dX16_single_151 rfl hl (by decide) rfl (fun ls hl => ?_)
          refine lv_iconst (v := nI 0) hx hb dX16_single_152 (by decide) ?_
          refine lv_istore_n (lv' := [(2, .int (nI 0)), (1, .int (nI 0)), (0, .ref rd)]) hx hb dX16_single_153 rfl hl (by decide) rfl (fun ls hl => ?_)
          have tail : ∀ (v : Int32) (t1 : Nat), digs bb n 4 t (nI 0) = (v, t1) → ∀ (H : Heap) (locs : List Loc), rdJ D rd s (rdF (ad u) ba n t1 o) H locs → ∀ (ls : Array Slot), lv_has ls 3 [(1, .int v), (0, .ref rd)] → W p l e R s m args below meth c H locs 0 0 Q (F0 m 202 ls []) := by
            intro v t1 hv H1 locs hJ1 ls hl
            have hp1 : (digs bb n 4 t (nI 0)).2 = t1 := by rw [hv]
            refine c_new (ci := 9) (fs := [.int 0]) (C := RX20) (T := TX20) (N := 1) hx hb hts in_X20 tyX20 tyX20_ok hown q876 q877 q90 hK rfl (fun j hj => by rcases (show j = 0 by omega) with rfl <;> rfl) (by rw [hRc]; omega) (by rw [hRs]; omega) dX16_single_202 (fun H2 hX2 hz2 hk2 => ?_)
            refine lv_dup hx hb dX16_single_205 rfl ?_
            refine lv_iload_n hx hb dX16_single_206 rfl (lv_at hl 0 rfl) ?_
            refine cg_callI1 (y := yX20_init) (x0 := H1.size) (As := [.int v]) hx hb hml hown hts hK (by have := hJ1.2.1; omega) (tm_iX20 H1.size v) hX2 q878 q879 q90 q880 ndX20_init rfl (by rw [hRf]; omega) (by rw [hRl]; omega) (by rw [hRc]; omega) (by rw [hRs]; omega) hl.1 rfl (Nat.le_of_ble_eq_true rfl) dX16_single_207 ?_
            rintro _ H4 ⟨rfl, hX4⟩ hz4 hk4
            have hJ4 : rdJ D rd s (rdF (ad u) ba n t1 o) H4 locs := ⟨(hJ1.1.kept (hk2 rd hJ1.1.lt)).kept (hk4 rd (by have := hJ1.1.lt; omega) (by have := hJ1.1.lt; omega)), by have := hJ1.2.1; omega, fun q g1 g2 => (hk4 q (by have := hJ1.2.1; omega) (by have := hJ1.2.1; omega)).trans ((hk2 q (by have := hJ1.2.1; omega)).trans (hJ1.2.2.1 q g1 g2)), hJ1.2.2.2⟩
            refine W.widen (k := uC t G) (n := uS t G) (by omega) (by omega) ?_
            refine hret ⟨fun _ => ⟨H1.size, rfl, by rw [hp, hp1]; exact hJ4.1, ?_⟩, fun z => absurd (by rw [hGe]) z⟩ hJ4.S dX16_single_210
            obtain ⟨k9, hk9⟩ : ∃ k', G.2.1 - t = k' + 1 := ⟨G.2.1 - t - 1, by omega⟩
            rw [hk9, show G.1 = opD.1 v by rw [hGe, hv]]
            exact ⟨by have := hJ1.2.1; omega, Or.inl ⟨v, hX4, fun _ => rfl⟩⟩
          have loop154 : ∀ (fu k t1 : Nat) (v : Int32), k ≤ 4 → 4 < k + fu → t1 ≤ n → t ≤ t1 → digs bb n (4 - k) t1 v = digs bb n 4 t (nI 0) → ∀ (H : Heap) (locs : List Loc), rdJ D rd s (rdF (ad u) ba n t1 o) H locs → ∀ (ls : Array Slot), lv_has ls 3 [(2, .int (nI k)), (1, .int v), (0, .ref rd)] → W p l e R s m args below meth c H locs 0 0 Q (F0 m 154 ls []) := by
            intro fu
            induction fu with
            | zero =>
              intro k t1 v h1 h2
              omega
            | succ fu ih =>
              intro k t1 v h1 h2 h3 h4 he H locs hJ ls hl
              have hBa1 := hBa.kept (hJ.2.2.1 ba hbl hne)
              refine lv_iload_n hx hb dX16_single_154 rfl (lv_at hl 0 rfl) ?_
              refine lv_iconst (v := nI 4) hx hb dX16_single_155 (by decide) ?_
              refine w_icmp_geN (tgt := 202) hx hb (by omega) (by omega) dX16_single_156 (by decide) (fun c5 => ?_) (fun c5 => ?_)
              · exact tail v t1 (by rw [← he, show 4 - k = 0 by omega]; rfl) H locs hJ ls (lv_sub hl [1, 2] rfl)
              · refine lv_aload_n hx hb dX16_single_159 rfl (lv_at hl 2 rfl) ?_
                refine rd_callV (y := yX16_look) (b := rd) (C := RX16) (As := []) hx hb hml hown hts hK (rd_look rd (ad u) ba n t1 o tb bb htb h3) ⟨hJ.1, hBa1⟩ (cAt.recv hK hJ.1 rfl) q737 q739 qs12 q81 q740 ndX16_look rfl (by rw [hRf]; omega) (by rw [hRl]; omega) (Nat.zero_le _) (Nat.zero_le _) hl.1 rfl (Nat.le_of_ble_eq_true rfl) dX16_single_160 ?_
                refine lv_bipush (v := nI 48) hx hb dX16_single_163 (by decide) ?_
                refine lv_bipush (v := nI 57) hx hb dX16_single_165 (by decide) ?_
                refine st_callN (y := yX0_in) hx hb hml hown hts (cmX0_in (tk bb n t1) (nI 48) (nI 57)) nq q331 q61 q332 ndX0_in rfl (by rw [hRf]; omega) (by rw [hRl]; omega) (Nat.zero_le _) (Nat.zero_le _) hl.1 rfl (Nat.le_of_ble_eq_true rfl) dX16_single_167 ?_
                refine w_if_eqT (tgt := 202) hx hb dX16_single_170 (by decide) (fun c6 => ?_) (fun c6 => ?_)
                · exact tail v t1 (by rw [← he]; exact digs_stop c6) H locs hJ ls (lv_sub hl [1, 2] rfl)
                · have hlt : t1 < n := tk_lt (fun q => by rw [q] at c6; exact absurd c6 (by decide))
                  refine lv_bipush (v := nI 10) hx hb dX16_single_173 (by decide) ?_
                  refine lv_iload_n hx hb dX16_single_175 rfl (lv_at hl 1 rfl) ?_
                  refine lv_imul hx hb dX16_single_176 ?_
                  refine lv_aload_n hx hb dX16_single_177 rfl (lv_at hl 2 rfl) ?_
                  refine rd_callV (y := yX16_look) (b := rd) (C := RX16) (As := []) hx hb hml hown hts hK (rd_look rd (ad u) ba n t1 o tb bb htb h3) ⟨hJ.1, hBa1⟩ (cAt.recv hK hJ.1 rfl) q737 q739 qs12 q81 q740 ndX16_look rfl (by rw [hRf]; omega) (by rw [hRl]; omega) (Nat.zero_le _) (Nat.zero_le _) hl.1 rfl (Nat.le_of_ble_eq_true rfl) dX16_single_178 ?_
                  refine lv_iadd hx hb dX16_single_181 ?_
                  refine lv_bipush (v := nI 48) hx hb dX16_single_182 (by decide) ?_
                  refine lv_isub hx hb dX16_single_184 ?_
                  refine lv_istore_n (lv' := [(1, .int (nI 10 * v + tk bb n t1 - nI 48)), (2, .int (nI k)), (0, .ref rd)]) hx hb dX16_single_185 rfl hl (by decide) rfl (fun ls hl => ?_)
                  refine lv_aload_n hx hb dX16_single_186 rfl (lv_at hl 2 rfl) ?_
                  refine lv_dup hx hb dX16_single_187 rfl ?_
                  refine c_get (v := .int (nI (t1))) hx hb hts in_X16 hown hK hJ.1 rfl 3 (by decide) q692 rfl rfl dX16_single_188 ?_
                  refine lv_iconst (v := nI 1) hx hb dX16_single_191 (by decide) ?_
                  refine w_iaddN hx hb dX16_single_192 ?_
                  refine rd_putf hx hb hts hown hK hJ 3 (by decide) q692 rfl rfl rfl rfl (Nat.le_of_ble_eq_true rfl) dX16_single_193 (fun H1 locs hJ1 hz1 hk1 => ?_)
                  have hJ1 : rdJ D rd s (rdF (ad u) ba n (t1 + 1) o) H1 locs := hJ1
                  refine lv_iinc (v := nI (k + 1)) (lv' := [(2, .int (nI (k + 1))), (1, .int (nI 10 * v + tk bb n t1 - nI 48)), (0, .ref rd)]) hx hb dX16_single_196 hl (k := 1) rfl (by rw [show Int32.ofInt 1 = nI 1 from by decide]; exact nI_add _ _) (by decide) rfl (fun ls hl => ?_)
                  refine lv_goto (tgt := 154) hx hb dX16_single_199 (by decide) ?_
                  refine ih (k + 1) (t1 + 1) (nI 10 * v + tk bb n t1 - nI 48) (by omega) (by omega) hlt (by omega) ?_ H1 locs hJ1 ls hl
                  rw [show 4 - k = (4 - (k + 1)) + 1 by omega, digs, if_pos c6] at he
                  exact he
          exact loop154 5 0 t (nI 0) (by omega) (by omega) ht (Nat.le_refl _) rfl H locs hJ ls hl
        · have hGe := fac_no (O := opD) (u := u) (inner := (some (fd, wd))) hdg hnm h33 h40
          rw [hG] at hGe
          obtain ⟨u1, u2⟩ := uC_n (t := t) (r := G) (by rw [hGe]; exact Bool.false_ne_true)
          refine w_topV (.int (nI 0)) (congrArg Value.int (iI_0 hdg).symm) ?_
          refine rd_call (y := yX16_fault) (As := [.int (nI 0)]) hx hb hml hown hts hK hE hJ hA0 (rd_fault_x rd (ad u) ba n t o s.heap.size hrd) ⟨rfl, hJ.1⟩ q841 q843 qs14 q844 ndX16_fault rfl (by rw [hRf]; omega) (by rw [hRl]; omega) (by rw [hRc]; omega) (by rw [hRs]; omega) hl.1 rfl (Nat.le_of_ble_eq_true rfl) dX16_single_147 (fun v H1 locs1 hq => by obtain ⟨x, hq, -⟩ := hq; cases hq) ?_
          intro x H locs hq hz hk hL
          obtain ⟨x, hv, hxb, hF⟩ := hq
          cases hv
          exact WT.widen (k := _) (n := _) (by omega) (by omega) (hthr ⟨fun z => absurd z (by rw [hGe]; exact Bool.false_ne_true), fun _ => ⟨x, rfl, hxb, by rw [hGe]; exact hF⟩⟩ ⟨hz, fun q h1 h2 => hk q h1 (fun z => h2 (Or.inl z)), fun l hl => Or.inl (hL l hl)⟩)
