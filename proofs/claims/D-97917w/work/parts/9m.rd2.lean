/-! the reader: its methods (printed by comp38.py) -/
set_option maxRecDepth 100000
def uC (t : Nat) (r : Rs Dn) : Nat := r.2.1 - t + (if r.2.2 = true then 0 else 1)
def uS (t : Nat) (r : Rs Dn) : Nat := 3 * (r.2.1 - t) + (if r.2.2 = true then 0 else 7)
theorem uC_y {t : Nat} {r : Rs Dn} (h : r.2.2 = true) : uC t r = r.2.1 - t ∧ uS t r = 3 * (r.2.1 - t) := by
  unfold uC uS; rw [if_pos h, if_pos h]; exact ⟨rfl, rfl⟩
theorem uC_n {t : Nat} {r : Rs Dn} (h : ¬ r.2.2 = true) : uC t r = r.2.1 - t + 1 ∧ uS t r = 3 * (r.2.1 - t) + 7 := by
  unfold uC uS; rw [if_neg h, if_neg h]; exact ⟨rfl, rfl⟩
theorem uC_step {t p : Nat} (v : Dn) (s : Rs Dn) (h1 : t ≤ p) (h2 : p + 1 ≤ s.2.1) : uC t (v, s.2) = (p - t) + 1 + uC (p + 1) s ∧ uS t (v, s.2) = 3 * (p - t) + 3 + uS (p + 1) s := by
  unfold uC uS
  dsimp only
  constructor <;> omega
def rdQ (D : va_G) (rd sn ba n o b t : Nat) (r : Rs Dn) (oc : Outcome) (H : Heap) : Prop := (r.2.2 = true → ∃ x, oc = .returned (some (.ref x)) ∧ cAt D rd (.inr (17, rdF sn ba n r.2.1 o)) H ∧ TmOK D (fun q => b ≤ q) (r.2.1 - t) H x r.1) ∧ (¬ r.2.2 = true → ∃ x, oc = .threw x ∧ b ≤ x ∧ cAt D x (.inr (18, ftF r.2.1)) H)
theorem rdQ.ret {D : va_G} {rd sn ba n o b t : Nat} {r : Rs Dn} {v : Option Value} {H : Heap} (h : rdQ D rd sn ba n o b t r (.returned v) H) : r.2.2 = true ∧ ∃ x, v = some (.ref x) ∧ cAt D rd (.inr (17, rdF sn ba n r.2.1 o)) H ∧ TmOK D (fun q => b ≤ q) (r.2.1 - t) H x r.1 := by
  by_cases g : r.2.2 = true
  · obtain ⟨x, h1, h2, h3⟩ := h.1 g
    cases h1
    exact ⟨g, x, rfl, h2, h3⟩
  · obtain ⟨x, h1, -⟩ := h.2 g
    cases h1
theorem rdQ.thr {D : va_G} {rd sn ba n o b t : Nat} {r : Rs Dn} {x : Nat} {H : Heap} (h : rdQ D rd sn ba n o b t r (.threw x) H) : ¬ r.2.2 = true ∧ b ≤ x ∧ cAt D x (.inr (18, ftF r.2.1)) H := by
  by_cases g : r.2.2 = true
  · obtain ⟨x, h1, -⟩ := h.1 g
    cases h1
  · obtain ⟨x, h1, h2, h3⟩ := h.2 g
    cases h1
    exact ⟨g, h2, h3⟩
/-- a reader's method that reads G, d open -/
def RM (D : va_G) (dA : Nat → ClassId) (b0 : Nat) (ad adV : Nat → Nat) (rd sn ba n : Nat) (tb : Nat → Int32) (y : MethodName) (cy : ByteArray) (maxL fr lo o : Nat) (G : Nat → Rs Dn) : Prop :=
  ∀ b t, t ≤ n → b0 ≤ b → Cs D dA b0 ad adV (rdA rd b) y cy maxL (some (.object "MeadowMilk$Term")) fr lo (uC t (G t)) (uS t (G t)) [.ref rd] (fun H => H.size = b ∧ rdC D dA rd sn ba n t o tb H) (rdQ D rd sn ba n o b t (G t))
theorem lpF_bad {α : Type} {O : Ops α} {b : Nat → Int32} {n k : Nat} {isop : Int32 → Bool} {sub : Nat → Rs α} {r : Rs α} (h : ¬ r.2.2 = true) : lpF O b n isop sub k r = r := by
  cases k with
  | zero => rfl
  | succ k => rw [lpF, if_neg (fun q => h q.1)]
theorem lpF_stop {α : Type} {O : Ops α} {b : Nat → Int32} {n k : Nat} {isop : Int32 → Bool} {sub : Nat → Rs α} {r : Rs α} (h : ¬ isop (tk b n r.2.1) = true) : lpF O b n isop sub k r = r := by
  cases k with
  | zero => rfl
  | succ k => rw [lpF, if_neg (fun q => h q.2)]
theorem lpF_u {O : Ops Dn} {b : Nat → Int32} {n t : Nat} {isop : Int32 → Bool} {sub : Nat → Rs Dn} (hs : mono n sub) (h1 : isop (-1) = false) (k : Nat) (r : Rs Dn) (hr : r.2.1 ≤ n) : uC t r ≤ uC t (lpF O b n isop sub k r) ∧ uS t r ≤ uS t (lpF O b n isop sub k r) := by
  by_cases g : r.2.2 = true
  · have h2 := lpF_mono (O := O) (b := b) hs h1 k r hr
    obtain ⟨e1, e2⟩ := uC_y (t := t) g
    rw [e1, e2]
    unfold uC uS
    constructor <;> omega
  · rw [lpF_bad g]; exact ⟨Nat.le_refl _, Nat.le_refl _⟩
theorem isL_sg0 : ∀ i, i < 9 → ∀ m, m < 256 → (!(decide (4 ≤ i) && isL i (nI m)) || sgs.contains m) = true := by decide +kernel
theorem isL_sg (i : Nat) (h9 : i < 9) (m : Nat) (hm : m < 256) (h4 : 4 ≤ i) (h : isL i (nI m) = true) : m ∈ sgs := by
  have := isL_sg0 i h9 m hm
  rw [h, decide_eq_true h4] at this
  simpa using this
theorem sg_of {bb tb : Nat → Int32} {n t i : Nat} (htb : tbOK tb bb n) (h4 : 4 ≤ i) (h9 : i < 9) (h : isL i (tk bb n t) = true) : ∃ sg, sg ∈ sgs ∧ tk bb n t = nI sg := by
  rcases tk_255 htb t with q | ⟨m, q1, q2⟩
  · rw [q, isL_m1 i h9] at h; cases h
  · exact ⟨m, isL_sg i h9 m q1 h4 (by rw [← q2]; exact h), q2⟩
theorem tm_two {D : va_G} {B : Nat → Prop} {H : Heap} {n m k x y z sg : Nat} {s : Int32} {G K : Dn} (hs : sg ∈ sgs) (e : s = nI sg) (hc : cAt D x (.inr (6, [.int s, .ref y, .ref z])) H) (hB : B x) (hy : TmOK D B n H y G) (hz : TmOK D B m H z K) (hn : n + 1 ≤ k) (hm : m + 1 ≤ k) : TmOK D B k H x (fun nm => opB s (G nm) (K nm)) := by
  obtain ⟨k, rfl⟩ : ∃ k', k = k' + 1 := ⟨k - 1, by omega⟩
  subst e
  exact ⟨hB, Or.inr (Or.inr (Or.inr ⟨sg, y, z, G, K, hs, hc, TmOK.mono n k y G (by omega) hy, TmOK.mono m k z K (by omega) hz, fun _ => rfl⟩))⟩
/-- terms stay: they are new, and not the reader -/
theorem tm_keep {D : va_G} {b rd n x : Nat} {H H1 : Heap} {F : Dn} (hrb : rd < b) (hT : TmOK D (fun q => b ≤ q) n H x F) (hk : ∀ q, q < H.size → ¬ q = rd → H1[q]? = H[q]?) : TmOK D (fun q => b ≤ q) n H1 x F := hT.to (fun q h1 h2 => ⟨h2, hk q h1 (fun z => by omega)⟩) n x F
theorem tm_wide {D : va_G} {b b' n x : Nat} {H : Heap} {F : Dn} (hb : b ≤ b') (hT : TmOK D (fun q => b' ≤ q) n H x F) : TmOK D (fun q => b ≤ q) n H x F := hT.to (fun q _ h2 => ⟨Nat.le_trans hb h2, rfl⟩) n x F
section CIB
variable {p : Program} {l : Launch} {e : Env} {R : Room} {s : State} {m : MethodId} {args : Array Value} {below : List Frame} {meth : Method} {c : Code} {H : Heap} {locs : List Loc} {cells slots : Nat} {Q : State → Prop}
variable {cc : ByteArray} {pc : Nat} {ls : Array Slot} {rest : List Value} {D : va_G} {dA : Nat → ClassId} {P : Heap → Prop} {Qv : Option Value → Heap → Prop}
variable {y : MethodName} {cy : ByteArray} {maxL nL fr lo idx n : Nat} {As st : List Value} {own : String}
/-- a constructor that touches its own new cell alone -/
theorem cg_callI1 {x0 : Nat} (hx : p.tables.exec = Jvm.exec) (hb : c.code = cc) (hml : c.maxLocals = nL) (hown : s.vm.findClass own = some m.cls) (hts : ∀ w ∈ lw_all, w.before args s = true) (hK : cmK D dA s) (hs : s.heap.size ≤ x0)
    (hC : Cg D dA (fun q => q = x0) y cy maxL none fr lo 0 0 (.ref x0 :: As) P Qv) (hP : P H)
    (h1 : Cond.methodLink own idx y ∈ lw_all) (h2 : Cond.instanceMethod y ∈ lw_all) (h4 : Cond.initialized y.cls ∈ lw_all) (h5 : Cond.code y cy maxL none ∈ lw_all)
    (hd : y.name = "<init>" ∧ y.cls ≠ "java/lang/invoke/MethodHandle" ∧ y.cls ≠ "java/lang/invoke/VarHandle" ∧ (parseMethodDescriptor y.desc).map (fun d => d.parameters.length) = some n) (hn : As.length = n) (hRf : fr + 1 ≤ R.frames) (hRl : 8 + (maxL + 11) + lo ≤ R.locals) (hRc : cells ≤ R.cells) (hRs : slots ≤ R.slots) (hsize : ls.size = nL) (hst : st = As.reverse ++ .ref x0 :: rest) (hW : (rest.map fun v => v.category).sum ≤ 8) (hdg : decode cc pc = .ok (.invokespecial idx, 3))
    (kk : ∀ (v : Option Value) (H1 : Heap), Qv v H1 → H.size ≤ H1.size → (∀ q, q < H.size → ¬ q = x0 → H1[q]? = H[q]?) → W p l e R s m args below meth c H1 locs cells slots Q (F0 m (pc + 3) ls (v.toList ++ rest))) : W p l e R s m args below meth c H locs cells slots Q (F0 m pc ls st) := by
  intro T hT X
  obtain ⟨v', st₀, t, T', L, h0, X', hL, e1, e2, ⟨⟨v, hv, hq⟩, hF⟩, stp⟩ := (va_runI (below := below) (meth := meth) (locs := locs) (cells := cells) (slots := slots) (e := e) (As := As) (rest := rest) (g := F0 m pc ls st) (b := x0) (Ts := lw_all) (own := own) (n := n) ⟨hx, hb, hml, hown, hts⟩ (hC l) (cwI n hts (lw_meth h5) rfl rfl rfl (hts _ h4) (hts _ h1) (hts _ h2) hd.1 hd.2 ⟨hRf, hRl⟩)
    ⟨cm_blind, fun U hU hW => ⟨rfl, by rw [hU]; exact hP, hK.warm hW⟩⟩ rfl hn hsize hst (lv_room hW) hdg ⟨by omega, by omega⟩) T hT X
  cases hv
  obtain ⟨hz, hk⟩ := hF
  rw [h0] at hz hk
  obtain ⟨t2, a1, b1⟩ := kk v' T'.heap (by rw [e1]; exact hq) (by rw [e1]; exact hz) (fun q h1 h3 => by rw [e1]; exact hk q h1 h3) T' rfl (X'.forget (fun q hq => by rw [hL q hq]; exact hs))
  exact ⟨t2, stp t2 a1, b1⟩
end CIB
theorem ndX16_isOne : yX16_isOne.cls = RX16 ∧ yX16_isOne.cls ≠ "java/lang/invoke/MethodHandle" ∧ yX16_isOne.cls ≠ "java/lang/invoke/VarHandle" ∧ (parseMethodDescriptor yX16_isOne.desc).map (fun d => d.parameters.length) = some 1 := by decide +kernel
theorem ndX16_single : yX16_single.cls = RX16 ∧ yX16_single.cls ≠ "java/lang/invoke/MethodHandle" ∧ yX16_single.cls ≠ "java/lang/invoke/VarHandle" ∧ (parseMethodDescriptor yX16_single.desc).map (fun d => d.parameters.length) = some 0 := by decide +kernel
set_option maxHeartbeats 1000000 in
theorem rd_product {D : va_G} {dA : Nat → ClassId} {b0 : Nat} {ad adV : Nat → Nat} (rd sn ba n : Nat) (tb bb : Nat → Int32) (htb : tbOK tb bb n) (hrd : b0 ≤ rd) (hne : ¬ ba = rd) (o fr0 lo0 : Nat) (hf0 : 7 ≤ fr0) (hl0 : 155 ≤ lo0) (sub : Nat → Rs Dn) (hm : mono n sub) (hsub : RM D dA b0 ad adV rd sn ba n tb yX16_single cX16_single 3 fr0 lo0 o sub) : RM D dA b0 ad adV rd sn ba n tb yX16_product cX16_product 3 (fr0 + 1) (lo0 + 22) o (fun t => lpF opD bb n op1 sub (n + 1) (sub t)) := by
  intro b t ht hbb
  refine Cs.ofA (Or.inl ⟨_, rfl⟩) (by decide) (own := RX16) rfl (Nat.le_of_ble_eq_true rfl) ?_
  intro p l e R s m args below meth c Q ls hx hb hml hRf hRl hRc hRs hts hown hK hE hP hl hret hthr
  obtain ⟨rfl, hRd, hBa⟩ := hP
  have hl : lv_has ls 3 [(0, .ref rd)] := hl
  have hrb := hRd.lt
  have hbl := hBa.lt
  have hn5 := htb.1
  have hA0 : ∀ q, rdA rd s.heap.size q → b0 ≤ q := fun q hq => hq.elim (fun z => by rw [z]; exact hrd) (fun z => Nat.le_trans hbb z)
  have hJ : rdJ D rd s (rdF sn ba n t o) s.heap [] := ⟨hRd, Nat.le_refl _, fun _ _ _ => rfl, fun q hq => by cases hq⟩
  have hmt := hm t ht
  have hu0 := lpF_u (O := opD) (b := bb) (t := t) (isop := op1) hm (by decide) (n + 1) (sub t) hmt.2
  dsimp only at hret hthr hRc hRs
  generalize hG : lpF opD bb n op1 sub (n + 1) (sub t) = G at hret hthr hRc hRs hu0
  refine lv_aload_n hx hb dX16_product_0 rfl (lv_at hl 0 rfl) ?_
  refine rd_call (y := yX16_single) (As := []) hx hb hml hown hts hK hE hJ hA0 (hsub s.heap.size t ht hbb) ⟨rfl, hRd, hBa⟩ q729 q731 qs10 q732 ndX16_single rfl (by rw [hRf]; omega) (by rw [hRl]; omega) (by rw [hRc]; omega) (by rw [hRs]; omega) hl.1 rfl (Nat.le_of_ble_eq_true rfl) dX16_product_1 ?_ ?_
  · intro v H locs hq hz hk hL
    obtain ⟨hg, x, rfl, hR1, hT1⟩ := hq.ret
    obtain ⟨u1, u2⟩ := uC_y (t := t) hg
    refine lv_astore_n (lv' := [(1, .ref x), (0, .ref rd)]) hx hb dX16_product_4 rfl hl (by decide) rfl (fun ls hl => ?_)
    have loop5 : ∀ (fu k : Nat) (r : Rs Dn) (x : Nat), n < r.2.1 + fu → n < r.2.1 + k → r.2.1 ≤ n → t ≤ r.2.1 → r.2.2 = true → lpF opD bb n op1 sub k r = G → ∀ (H : Heap) (locs : List Loc), rdJ D rd s (rdF sn ba n r.2.1 o) H locs → TmOK D (fun q => s.heap.size ≤ q) (r.2.1 - t) H x r.1 → ∀ (ls : Array Slot), lv_has ls 3 [(1, .ref x), (0, .ref rd)] → W p l e R s m args below meth c H locs (r.2.1 - t) (3 * (r.2.1 - t)) Q (F0 m 5 ls []) := by
      intro fu
      induction fu with
      | zero =>
        intro k r x h1 h2 h3
        omega
      | succ fu ih =>
        intro k r x h1 h2 h3 h4 hg hlp H locs hJ hT ls hl
        have hBa1 := hBa.kept (hJ.2.2.1 ba hbl hne)
        obtain ⟨u1, u2⟩ := uC_y (t := t) hg
        have hu := lpF_u (O := opD) (b := bb) (t := t) (isop := op1) hm (by decide) k r h3
        rw [hlp, u1, u2] at hu
        refine lv_aload_n hx hb dX16_product_5 rfl (lv_at hl 1 rfl) ?_
        have nq := hE.2.1 4 _ rfl
        refine va_ldcS hx hb hown nq dX16_product_6 ?_
        refine rg_callV (y := yX16_isOne) (b := rd) (C := RX16) (As := [.ref (ad 4)]) hx hb hml hown hts (rd_isOne (b0 := b0) (ad := ad) (adV := adV) rd sn ba n r.2.1 o tb bb htb (by omega) 4 (by decide)) rdE_blind (fun U hU hW => ⟨by rw [hU]; exact ⟨hJ.1, hBa1⟩, hK.warm hW, hE.go hW (fun q g1 g2 => by first | (rw [hU]; done) | (rw [hU]; exact hJ.2.2.1 q g1 (fun z => g2 (by rw [z]; exact hrd))))⟩) (cAt.recv hK hJ.1 rfl) q733 q735 qs11 q81 q736 ndX16_isOne rfl (by rw [hRf]; omega) (by rw [hRl]; omega) (by rw [hRc]; omega) (by rw [hRs]; omega) hl.1 rfl (Nat.le_of_ble_eq_true rfl) dX16_product_8 ?_
        refine w_if_eqT (tgt := 46) hx hb dX16_product_11 (by decide) (fun c1 => ?_) (fun c1 => ?_)
        · have hGr : G = r := by rw [← hlp]; exact lpF_stop c1
          subst hGr
          refine lv_aload_n hx hb dX16_product_46 rfl (lv_at hl 0 rfl) ?_
          refine W.widen (k := uC t G) (n := uS t G) (by omega) (by omega) ?_
          exact hret ⟨fun _ => ⟨x, rfl, hJ.1, hT⟩, fun z => absurd hg z⟩ hJ.S dX16_product_47
        · have hop : op1 (tk bb n r.2.1) = true := c1
          have hlt : r.2.1 < n := tk_lt (fun q => by rw [q] at hop; exact absurd hop (by decide))
          obtain ⟨k, rfl⟩ : ∃ k', k = k' + 1 := ⟨k - 1, by omega⟩
          have hs := hm (r.2.1 + 1) hlt
          have hlp2 : lpF opD bb n op1 sub k (opD.2.2.1 (tk bb n r.2.1) r.1 (sub (r.2.1 + 1)).1, (sub (r.2.1 + 1)).2) = G := by rw [← hlp, lpF, if_pos ⟨hg, hop⟩]
          have hu2 := lpF_u (O := opD) (b := bb) (t := t) (isop := op1) hm (by decide) k (opD.2.2.1 (tk bb n r.2.1) r.1 (sub (r.2.1 + 1)).1, (sub (r.2.1 + 1)).2) hs.2
          obtain ⟨v1, v2⟩ := uC_step (t := t) (opD.2.2.1 (tk bb n r.2.1) r.1 (sub (r.2.1 + 1)).1) (sub (r.2.1 + 1)) h4 hs.1
          rw [hlp2, v1, v2] at hu2
          obtain ⟨sg, hsg, hsg2⟩ := sg_of htb (i := 4) (by decide) (by decide) hop
          refine lv_aload_n hx hb dX16_product_14 rfl (lv_at hl 1 rfl) ?_
          refine rd_callV (y := yX16_look) (b := rd) (C := RX16) (As := []) hx hb hml hown hts hK (rd_look rd sn ba n r.2.1 o tb bb htb h3) ⟨hJ.1, hBa1⟩ (cAt.recv hK hJ.1 rfl) q737 q739 qs12 q81 q740 ndX16_look rfl (by rw [hRf]; omega) (by rw [hRl]; omega) (by rw [hRc]; omega) (by rw [hRs]; omega) hl.1 rfl (Nat.le_of_ble_eq_true rfl) dX16_product_15 ?_
          refine lv_istore_n (lv' := [(2, .int (tk bb n r.2.1)), (1, .ref x), (0, .ref rd)]) hx hb dX16_product_18 rfl hl (by decide) rfl (fun ls hl => ?_)
          refine lv_aload_n hx hb dX16_product_19 rfl (lv_at hl 2 rfl) ?_
          refine lv_dup hx hb dX16_product_20 rfl ?_
          refine c_get (v := .int (nI r.2.1)) hx hb hts in_X16 hown hK hJ.1 rfl 3 (by decide) q692 rfl rfl dX16_product_21 ?_
          refine lv_iconst (v := nI 1) hx hb dX16_product_24 (by decide) ?_
          refine w_iaddN hx hb dX16_product_25 ?_
          refine rd_putf hx hb hts hown hK hJ 3 (by decide) q692 rfl rfl rfl rfl (Nat.le_of_ble_eq_true rfl) dX16_product_26 (fun H1 locs hJ1 hz1 hk1 => ?_)
          have hJ1 : rdJ D rd s (rdF sn ba n (r.2.1 + 1) o) H1 locs := hJ1
          refine c_new (ci := 6) (fs := [.int 0, .null, .null]) (C := RX8) (T := TX8) (N := 3) hx hb hts in_X8 tyX8 tyX8_ok hown q887 q888 q72 hK rfl (fun j hj => by rcases (show j = 0 ∨ j = 1 ∨ j = 2 by omega) with rfl | rfl | rfl <;> rfl) (by rw [hRc]; omega) (by rw [hRs]; omega) dX16_product_29 (fun H2 hX2 hz2 hk2 => ?_)
          have hJ2 := hJ1.go (hJ1.1.kept (hk2 rd hJ1.1.lt)) (by omega) (fun q g1 _ => hk2 q g1) hJ1.2.2.2
          have hx2l := hX2.lt
          have hs1 := hJ1.2.1
          have hBa2 := hBa.kept (hJ2.2.2.1 ba hbl hne)
          refine lv_dup hx hb dX16_product_32 rfl ?_
          refine lv_iload_n hx hb dX16_product_33 rfl (lv_at hl 0 rfl) ?_
          refine lv_aload_n hx hb dX16_product_34 rfl (lv_at hl 1 rfl) ?_
          refine lv_aload_n hx hb dX16_product_35 rfl (lv_at hl 2 rfl) ?_
          refine rd_call (y := yX16_single) (As := []) hx hb hml hown hts hK hE hJ2 hA0 (hsub H2.size (r.2.1 + 1) hlt (by omega)) ⟨rfl, hJ2.1, hBa2⟩ q729 q731 qs10 q732 ndX16_single rfl (by rw [hRf]; omega) (by rw [hRl]; omega) (by rw [hRc]; omega) (by rw [hRs]; omega) hl.1 rfl (Nat.le_of_ble_eq_true rfl) dX16_product_36 ?_ ?_
          · intro v H3 locs hq hz3 hk3 hL
            obtain ⟨hg3, y, rfl, hR3, hT3⟩ := hq.ret
            obtain ⟨w1, w2⟩ := uC_y (t := r.2.1 + 1) hg3
            have hJ3 := hJ2.go hR3 hz3 hk3 hL
            have hX3 := hX2.kept (hk3 H1.size hx2l (by omega))
            refine cg_callI1 (y := yX8_init) (x0 := H1.size) (As := [.int (tk bb n r.2.1), .ref x, .ref y]) hx hb hml hown hts hK (by omega) (tm_iX8 H1.size (tk bb n r.2.1) x y) hX3 q889 q890 q72 q891 ndX8_init rfl (by rw [hRf]; omega) (by rw [hRl]; omega) (by rw [hRc]; omega) (by rw [hRs]; omega) hl.1 rfl (Nat.le_of_ble_eq_true rfl) dX16_product_39 ?_
            rintro _ H4 ⟨rfl, hX4⟩ hz4 hk4
            have hJ4 : rdJ D rd s (rdF sn ba n (sub (r.2.1 + 1)).2.1 o) H4 locs := ⟨hJ3.1.kept (hk4 rd hJ3.1.lt (by omega)), by have := hJ3.2.1; omega, fun q g1 g2 => (hk4 q (by have := hJ3.2.1; omega) (by omega)).trans (hJ3.2.2.1 q g1 g2), hJ3.2.2.2⟩
            have hTx : TmOK D (fun q => s.heap.size ≤ q) (r.2.1 - t) H4 x r.1 := hT.to (fun q g1 g2 => ⟨g2, (hk4 q (by omega) (by omega)).trans ((hk3 q (by omega) (by omega)).trans ((hk2 q (by omega)).trans (hk1 q g1 (by omega))))⟩) _ x r.1
            have hTy : TmOK D (fun q => s.heap.size ≤ q) ((sub (r.2.1 + 1)).2.1 - (r.2.1 + 1)) H4 y (sub (r.2.1 + 1)).1 := hT3.to (fun q g1 g2 => ⟨by omega, hk4 q g1 (by omega)⟩) _ y _
            have hT4 := tm_two (k := (sub (r.2.1 + 1)).2.1 - t) hsg hsg2 hX4 (by omega) hTx hTy (by omega) (by omega)
            refine lv_astore_n (lv' := [(1, .ref H1.size), (2, .int (tk bb n r.2.1)), (0, .ref rd)]) hx hb dX16_product_42 rfl hl (by decide) rfl (fun ls hl => ?_)
            refine lv_goto (tgt := 5) hx hb dX16_product_43 (by decide) ?_
            refine W.widen (k := (sub (r.2.1 + 1)).2.1 - t) (n := 3 * ((sub (r.2.1 + 1)).2.1 - t)) (by omega) (by omega) ?_
            exact ih k (opD.2.2.1 (tk bb n r.2.1) r.1 (sub (r.2.1 + 1)).1, (sub (r.2.1 + 1)).2) H1.size (by dsimp only; omega) (by dsimp only; omega) hs.2 (by dsimp only; omega) hg3 hlp2 H4 locs hJ4 hT4 ls (lv_sub hl [0, 2] rfl)
          · intro x9 H3 locs hq hz3 hk3 hL
            obtain ⟨hg3, hxb, hF⟩ := hq.thr
            have hGe : G = (opD.2.2.1 (tk bb n r.2.1) r.1 (sub (r.2.1 + 1)).1, (sub (r.2.1 + 1)).2) := by rw [← hlp2]; exact lpF_bad hg3
            subst hGe
            refine WT.widen (k := _) (n := _) (by rw [v1]; omega) (by rw [v2]; omega) (hthr ⟨fun z => absurd z hg3, fun _ => ⟨x9, rfl, by omega, hF⟩⟩ ?_)
            exact ⟨by have := hJ2.2.1; omega, fun q g1 g2 => (hk3 q (by have := hJ2.2.1; omega) (fun z => g2 (Or.inl z))).trans (hJ2.2.2.1 q g1 (fun z => g2 (Or.inl z))), fun l hl => Or.inl (hL l hl)⟩
    refine W.widen (k := (sub t).2.1 - t) (n := 3 * ((sub t).2.1 - t)) (by omega) (by omega) ?_
    exact loop5 (n + 1) (n + 1) (sub t) x (by omega) (by omega) hmt.2 hmt.1 hg hG H locs (hJ.go hR1 hz hk hL) hT1 ls hl
  · intro x H locs hq hz hk hL
    obtain ⟨hg, hxb, hF⟩ := hq.thr
    have hGe : G = sub t := by rw [← hG]; exact lpF_bad hg
    subst hGe
    exact WT.widen (k := _) (n := _) (by omega) (by omega) (hthr ⟨fun z => absurd z hg, fun _ => ⟨x, rfl, hxb, hF⟩⟩ ⟨hz, fun q h1 h2 => hk q h1 (fun z => h2 (Or.inl z)), fun l hl => Or.inl (hL l hl)⟩)
theorem ndX16_product : yX16_product.cls = RX16 ∧ yX16_product.cls ≠ "java/lang/invoke/MethodHandle" ∧ yX16_product.cls ≠ "java/lang/invoke/VarHandle" ∧ (parseMethodDescriptor yX16_product.desc).map (fun d => d.parameters.length) = some 0 := by decide +kernel
set_option maxHeartbeats 1000000 in
theorem rd_sum {D : va_G} {dA : Nat → ClassId} {b0 : Nat} {ad adV : Nat → Nat} (rd sn ba n : Nat) (tb bb : Nat → Int32) (htb : tbOK tb bb n) (hrd : b0 ≤ rd) (hne : ¬ ba = rd) (o fr0 lo0 : Nat) (hf0 : 7 ≤ fr0) (hl0 : 155 ≤ lo0) (sub : Nat → Rs Dn) (hm : mono n sub) (hsub : RM D dA b0 ad adV rd sn ba n tb yX16_product cX16_product 3 fr0 lo0 o sub) : RM D dA b0 ad adV rd sn ba n tb yX16_sum cX16_sum 3 (fr0 + 1) (lo0 + 22) o (fun t => lpF opD bb n op2 sub (n + 1) (sub t)) := by
  intro b t ht hbb
  refine Cs.ofA (Or.inl ⟨_, rfl⟩) (by decide) (own := RX16) rfl (Nat.le_of_ble_eq_true rfl) ?_
  intro p l e R s m args below meth c Q ls hx hb hml hRf hRl hRc hRs hts hown hK hE hP hl hret hthr
  obtain ⟨rfl, hRd, hBa⟩ := hP
  have hl : lv_has ls 3 [(0, .ref rd)] := hl
  have hrb := hRd.lt
  have hbl := hBa.lt
  have hn5 := htb.1
  have hA0 : ∀ q, rdA rd s.heap.size q → b0 ≤ q := fun q hq => hq.elim (fun z => by rw [z]; exact hrd) (fun z => Nat.le_trans hbb z)
  have hJ : rdJ D rd s (rdF sn ba n t o) s.heap [] := ⟨hRd, Nat.le_refl _, fun _ _ _ => rfl, fun q hq => by cases hq⟩
  have hmt := hm t ht
  have hu0 := lpF_u (O := opD) (b := bb) (t := t) (isop := op2) hm (by decide) (n + 1) (sub t) hmt.2
  dsimp only at hret hthr hRc hRs
  generalize hG : lpF opD bb n op2 sub (n + 1) (sub t) = G at hret hthr hRc hRs hu0
  refine lv_aload_n hx hb dX16_sum_0 rfl (lv_at hl 0 rfl) ?_
  refine rd_call (y := yX16_product) (As := []) hx hb hml hown hts hK hE hJ hA0 (hsub s.heap.size t ht hbb) ⟨rfl, hRd, hBa⟩ q725 q727 qs9 q728 ndX16_product rfl (by rw [hRf]; omega) (by rw [hRl]; omega) (by rw [hRc]; omega) (by rw [hRs]; omega) hl.1 rfl (Nat.le_of_ble_eq_true rfl) dX16_sum_1 ?_ ?_
  · intro v H locs hq hz hk hL
    obtain ⟨hg, x, rfl, hR1, hT1⟩ := hq.ret
    obtain ⟨u1, u2⟩ := uC_y (t := t) hg
    refine lv_astore_n (lv' := [(1, .ref x), (0, .ref rd)]) hx hb dX16_sum_4 rfl hl (by decide) rfl (fun ls hl => ?_)
    have loop5 : ∀ (fu k : Nat) (r : Rs Dn) (x : Nat), n < r.2.1 + fu → n < r.2.1 + k → r.2.1 ≤ n → t ≤ r.2.1 → r.2.2 = true → lpF opD bb n op2 sub k r = G → ∀ (H : Heap) (locs : List Loc), rdJ D rd s (rdF sn ba n r.2.1 o) H locs → TmOK D (fun q => s.heap.size ≤ q) (r.2.1 - t) H x r.1 → ∀ (ls : Array Slot), lv_has ls 3 [(1, .ref x), (0, .ref rd)] → W p l e R s m args below meth c H locs (r.2.1 - t) (3 * (r.2.1 - t)) Q (F0 m 5 ls []) := by
      intro fu
      induction fu with
      | zero =>
        intro k r x h1 h2 h3
        omega
      | succ fu ih =>
        intro k r x h1 h2 h3 h4 hg hlp H locs hJ hT ls hl
        have hBa1 := hBa.kept (hJ.2.2.1 ba hbl hne)
        obtain ⟨u1, u2⟩ := uC_y (t := t) hg
        have hu := lpF_u (O := opD) (b := bb) (t := t) (isop := op2) hm (by decide) k r h3
        rw [hlp, u1, u2] at hu
        refine lv_aload_n hx hb dX16_sum_5 rfl (lv_at hl 1 rfl) ?_
        have nq := hE.2.1 5 _ rfl
        refine va_ldcS hx hb hown nq dX16_sum_6 ?_
        refine rg_callV (y := yX16_isOne) (b := rd) (C := RX16) (As := [.ref (ad 5)]) hx hb hml hown hts (rd_isOne (b0 := b0) (ad := ad) (adV := adV) rd sn ba n r.2.1 o tb bb htb (by omega) 5 (by decide)) rdE_blind (fun U hU hW => ⟨by rw [hU]; exact ⟨hJ.1, hBa1⟩, hK.warm hW, hE.go hW (fun q g1 g2 => by first | (rw [hU]; done) | (rw [hU]; exact hJ.2.2.1 q g1 (fun z => g2 (by rw [z]; exact hrd))))⟩) (cAt.recv hK hJ.1 rfl) q733 q735 qs11 q81 q736 ndX16_isOne rfl (by rw [hRf]; omega) (by rw [hRl]; omega) (by rw [hRc]; omega) (by rw [hRs]; omega) hl.1 rfl (Nat.le_of_ble_eq_true rfl) dX16_sum_8 ?_
        refine w_if_eqT (tgt := 46) hx hb dX16_sum_11 (by decide) (fun c1 => ?_) (fun c1 => ?_)
        · have hGr : G = r := by rw [← hlp]; exact lpF_stop c1
          subst hGr
          refine lv_aload_n hx hb dX16_sum_46 rfl (lv_at hl 0 rfl) ?_
          refine W.widen (k := uC t G) (n := uS t G) (by omega) (by omega) ?_
          exact hret ⟨fun _ => ⟨x, rfl, hJ.1, hT⟩, fun z => absurd hg z⟩ hJ.S dX16_sum_47
        · have hop : op2 (tk bb n r.2.1) = true := c1
          have hlt : r.2.1 < n := tk_lt (fun q => by rw [q] at hop; exact absurd hop (by decide))
          obtain ⟨k, rfl⟩ : ∃ k', k = k' + 1 := ⟨k - 1, by omega⟩
          have hs := hm (r.2.1 + 1) hlt
          have hlp2 : lpF opD bb n op2 sub k (opD.2.2.1 (tk bb n r.2.1) r.1 (sub (r.2.1 + 1)).1, (sub (r.2.1 + 1)).2) = G := by rw [← hlp, lpF, if_pos ⟨hg, hop⟩]
          have hu2 := lpF_u (O := opD) (b := bb) (t := t) (isop := op2) hm (by decide) k (opD.2.2.1 (tk bb n r.2.1) r.1 (sub (r.2.1 + 1)).1, (sub (r.2.1 + 1)).2) hs.2
          obtain ⟨v1, v2⟩ := uC_step (t := t) (opD.2.2.1 (tk bb n r.2.1) r.1 (sub (r.2.1 + 1)).1) (sub (r.2.1 + 1)) h4 hs.1
          rw [hlp2, v1, v2] at hu2
          obtain ⟨sg, hsg, hsg2⟩ := sg_of htb (i := 5) (by decide) (by decide) hop
          refine lv_aload_n hx hb dX16_sum_14 rfl (lv_at hl 1 rfl) ?_
          refine rd_callV (y := yX16_look) (b := rd) (C := RX16) (As := []) hx hb hml hown hts hK (rd_look rd sn ba n r.2.1 o tb bb htb h3) ⟨hJ.1, hBa1⟩ (cAt.recv hK hJ.1 rfl) q737 q739 qs12 q81 q740 ndX16_look rfl (by rw [hRf]; omega) (by rw [hRl]; omega) (by rw [hRc]; omega) (by rw [hRs]; omega) hl.1 rfl (Nat.le_of_ble_eq_true rfl) dX16_sum_15 ?_
          refine lv_istore_n (lv' := [(2, .int (tk bb n r.2.1)), (1, .ref x), (0, .ref rd)]) hx hb dX16_sum_18 rfl hl (by decide) rfl (fun ls hl => ?_)
          refine lv_aload_n hx hb dX16_sum_19 rfl (lv_at hl 2 rfl) ?_
          refine lv_dup hx hb dX16_sum_20 rfl ?_
          refine c_get (v := .int (nI r.2.1)) hx hb hts in_X16 hown hK hJ.1 rfl 3 (by decide) q692 rfl rfl dX16_sum_21 ?_
          refine lv_iconst (v := nI 1) hx hb dX16_sum_24 (by decide) ?_
          refine w_iaddN hx hb dX16_sum_25 ?_
          refine rd_putf hx hb hts hown hK hJ 3 (by decide) q692 rfl rfl rfl rfl (Nat.le_of_ble_eq_true rfl) dX16_sum_26 (fun H1 locs hJ1 hz1 hk1 => ?_)
          have hJ1 : rdJ D rd s (rdF sn ba n (r.2.1 + 1) o) H1 locs := hJ1
          refine c_new (ci := 6) (fs := [.int 0, .null, .null]) (C := RX8) (T := TX8) (N := 3) hx hb hts in_X8 tyX8 tyX8_ok hown q887 q888 q72 hK rfl (fun j hj => by rcases (show j = 0 ∨ j = 1 ∨ j = 2 by omega) with rfl | rfl | rfl <;> rfl) (by rw [hRc]; omega) (by rw [hRs]; omega) dX16_sum_29 (fun H2 hX2 hz2 hk2 => ?_)
          have hJ2 := hJ1.go (hJ1.1.kept (hk2 rd hJ1.1.lt)) (by omega) (fun q g1 _ => hk2 q g1) hJ1.2.2.2
          have hx2l := hX2.lt
          have hs1 := hJ1.2.1
          have hBa2 := hBa.kept (hJ2.2.2.1 ba hbl hne)
          refine lv_dup hx hb dX16_sum_32 rfl ?_
          refine lv_iload_n hx hb dX16_sum_33 rfl (lv_at hl 0 rfl) ?_
          refine lv_aload_n hx hb dX16_sum_34 rfl (lv_at hl 1 rfl) ?_
          refine lv_aload_n hx hb dX16_sum_35 rfl (lv_at hl 2 rfl) ?_
          refine rd_call (y := yX16_product) (As := []) hx hb hml hown hts hK hE hJ2 hA0 (hsub H2.size (r.2.1 + 1) hlt (by omega)) ⟨rfl, hJ2.1, hBa2⟩ q725 q727 qs9 q728 ndX16_product rfl (by rw [hRf]; omega) (by rw [hRl]; omega) (by rw [hRc]; omega) (by rw [hRs]; omega) hl.1 rfl (Nat.le_of_ble_eq_true rfl) dX16_sum_36 ?_ ?_
          · intro v H3 locs hq hz3 hk3 hL
            obtain ⟨hg3, y, rfl, hR3, hT3⟩ := hq.ret
            obtain ⟨w1, w2⟩ := uC_y (t := r.2.1 + 1) hg3
            have hJ3 := hJ2.go hR3 hz3 hk3 hL
            have hX3 := hX2.kept (hk3 H1.size hx2l (by omega))
            refine cg_callI1 (y := yX8_init) (x0 := H1.size) (As := [.int (tk bb n r.2.1), .ref x, .ref y]) hx hb hml hown hts hK (by omega) (tm_iX8 H1.size (tk bb n r.2.1) x y) hX3 q889 q890 q72 q891 ndX8_init rfl (by rw [hRf]; omega) (by rw [hRl]; omega) (by rw [hRc]; omega) (by rw [hRs]; omega) hl.1 rfl (Nat.le_of_ble_eq_true rfl) dX16_sum_39 ?_
            rintro _ H4 ⟨rfl, hX4⟩ hz4 hk4
            have hJ4 : rdJ D rd s (rdF sn ba n (sub (r.2.1 + 1)).2.1 o) H4 locs := ⟨hJ3.1.kept (hk4 rd hJ3.1.lt (by omega)), by have := hJ3.2.1; omega, fun q g1 g2 => (hk4 q (by have := hJ3.2.1; omega) (by omega)).trans (hJ3.2.2.1 q g1 g2), hJ3.2.2.2⟩
            have hTx : TmOK D (fun q => s.heap.size ≤ q) (r.2.1 - t) H4 x r.1 := hT.to (fun q g1 g2 => ⟨g2, (hk4 q (by omega) (by omega)).trans ((hk3 q (by omega) (by omega)).trans ((hk2 q (by omega)).trans (hk1 q g1 (by omega))))⟩) _ x r.1
            have hTy : TmOK D (fun q => s.heap.size ≤ q) ((sub (r.2.1 + 1)).2.1 - (r.2.1 + 1)) H4 y (sub (r.2.1 + 1)).1 := hT3.to (fun q g1 g2 => ⟨by omega, hk4 q g1 (by omega)⟩) _ y _
            have hT4 := tm_two (k := (sub (r.2.1 + 1)).2.1 - t) hsg hsg2 hX4 (by omega) hTx hTy (by omega) (by omega)
            refine lv_astore_n (lv' := [(1, .ref H1.size), (2, .int (tk bb n r.2.1)), (0, .ref rd)]) hx hb dX16_sum_42 rfl hl (by decide) rfl (fun ls hl => ?_)
            refine lv_goto (tgt := 5) hx hb dX16_sum_43 (by decide) ?_
            refine W.widen (k := (sub (r.2.1 + 1)).2.1 - t) (n := 3 * ((sub (r.2.1 + 1)).2.1 - t)) (by omega) (by omega) ?_
            exact ih k (opD.2.2.1 (tk bb n r.2.1) r.1 (sub (r.2.1 + 1)).1, (sub (r.2.1 + 1)).2) H1.size (by dsimp only; omega) (by dsimp only; omega) hs.2 (by dsimp only; omega) hg3 hlp2 H4 locs hJ4 hT4 ls (lv_sub hl [0, 2] rfl)
          · intro x9 H3 locs hq hz3 hk3 hL
            obtain ⟨hg3, hxb, hF⟩ := hq.thr
            have hGe : G = (opD.2.2.1 (tk bb n r.2.1) r.1 (sub (r.2.1 + 1)).1, (sub (r.2.1 + 1)).2) := by rw [← hlp2]; exact lpF_bad hg3
            subst hGe
            refine WT.widen (k := _) (n := _) (by rw [v1]; omega) (by rw [v2]; omega) (hthr ⟨fun z => absurd z hg3, fun _ => ⟨x9, rfl, by omega, hF⟩⟩ ?_)
            exact ⟨by have := hJ2.2.1; omega, fun q g1 g2 => (hk3 q (by have := hJ2.2.1; omega) (fun z => g2 (Or.inl z))).trans (hJ2.2.2.1 q g1 (fun z => g2 (Or.inl z))), fun l hl => Or.inl (hL l hl)⟩
    refine W.widen (k := (sub t).2.1 - t) (n := 3 * ((sub t).2.1 - t)) (by omega) (by omega) ?_
    exact loop5 (n + 1) (n + 1) (sub t) x (by omega) (by omega) hmt.2 hmt.1 hg hG H locs (hJ.go hR1 hz hk hL) hT1 ls hl
  · intro x H locs hq hz hk hL
    obtain ⟨hg, hxb, hF⟩ := hq.thr
    have hGe : G = sub t := by rw [← hG]; exact lpF_bad hg
    subst hGe
    exact WT.widen (k := _) (n := _) (by omega) (by omega) (hthr ⟨fun z => absurd z hg, fun _ => ⟨x, rfl, hxb, hF⟩⟩ ⟨hz, fun q h1 h2 => hk q h1 (fun z => h2 (Or.inl z)), fun l hl => Or.inl (hL l hl)⟩)
theorem ndX16_relation : yX16_relation.cls = RX16 ∧ yX16_relation.cls ≠ "java/lang/invoke/MethodHandle" ∧ yX16_relation.cls ≠ "java/lang/invoke/VarHandle" ∧ (parseMethodDescriptor yX16_relation.desc).map (fun d => d.parameters.length) = some 0 := by decide +kernel
set_option maxHeartbeats 1000000 in
theorem rd_both {D : va_G} {dA : Nat → ClassId} {b0 : Nat} {ad adV : Nat → Nat} (rd sn ba n : Nat) (tb bb : Nat → Int32) (htb : tbOK tb bb n) (hrd : b0 ≤ rd) (hne : ¬ ba = rd) (o fr0 lo0 : Nat) (hf0 : 7 ≤ fr0) (hl0 : 155 ≤ lo0) (sub : Nat → Rs Dn) (hm : mono n sub) (hsub : RM D dA b0 ad adV rd sn ba n tb yX16_relation cX16_relation 3 fr0 lo0 o sub) : RM D dA b0 ad adV rd sn ba n tb yX16_both cX16_both 2 (fr0 + 1) (lo0 + 22) o (fun t => lpF opD bb n op4 sub (n + 1) (sub t)) := by
  intro b t ht hbb
  refine Cs.ofA (Or.inl ⟨_, rfl⟩) (by decide) (own := RX16) rfl (Nat.le_of_ble_eq_true rfl) ?_
  intro p l e R s m args below meth c Q ls hx hb hml hRf hRl hRc hRs hts hown hK hE hP hl hret hthr
  obtain ⟨rfl, hRd, hBa⟩ := hP
  have hl : lv_has ls 2 [(0, .ref rd)] := hl
  have hrb := hRd.lt
  have hbl := hBa.lt
  have hn5 := htb.1
  have hA0 : ∀ q, rdA rd s.heap.size q → b0 ≤ q := fun q hq => hq.elim (fun z => by rw [z]; exact hrd) (fun z => Nat.le_trans hbb z)
  have hJ : rdJ D rd s (rdF sn ba n t o) s.heap [] := ⟨hRd, Nat.le_refl _, fun _ _ _ => rfl, fun q hq => by cases hq⟩
  have hmt := hm t ht
  have hu0 := lpF_u (O := opD) (b := bb) (t := t) (isop := op4) hm (by decide) (n + 1) (sub t) hmt.2
  dsimp only at hret hthr hRc hRs
  generalize hG : lpF opD bb n op4 sub (n + 1) (sub t) = G at hret hthr hRc hRs hu0
  refine lv_aload_n hx hb dX16_both_0 rfl (lv_at hl 0 rfl) ?_
  refine rd_call (y := yX16_relation) (As := []) hx hb hml hown hts hK hE hJ hA0 (hsub s.heap.size t ht hbb) ⟨rfl, hRd, hBa⟩ q717 q719 qs7 q720 ndX16_relation rfl (by rw [hRf]; omega) (by rw [hRl]; omega) (by rw [hRc]; omega) (by rw [hRs]; omega) hl.1 rfl (Nat.le_of_ble_eq_true rfl) dX16_both_1 ?_ ?_
  · intro v H locs hq hz hk hL
    obtain ⟨hg, x, rfl, hR1, hT1⟩ := hq.ret
    obtain ⟨u1, u2⟩ := uC_y (t := t) hg
    refine lv_astore_n (lv' := [(1, .ref x), (0, .ref rd)]) hx hb dX16_both_4 rfl hl (by decide) rfl (fun ls hl => ?_)
    have loop5 : ∀ (fu k : Nat) (r : Rs Dn) (x : Nat), n < r.2.1 + fu → n < r.2.1 + k → r.2.1 ≤ n → t ≤ r.2.1 → r.2.2 = true → lpF opD bb n op4 sub k r = G → ∀ (H : Heap) (locs : List Loc), rdJ D rd s (rdF sn ba n r.2.1 o) H locs → TmOK D (fun q => s.heap.size ≤ q) (r.2.1 - t) H x r.1 → ∀ (ls : Array Slot), lv_has ls 2 [(1, .ref x), (0, .ref rd)] → W p l e R s m args below meth c H locs (r.2.1 - t) (3 * (r.2.1 - t)) Q (F0 m 5 ls []) := by
      intro fu
      induction fu with
      | zero =>
        intro k r x h1 h2 h3
        omega
      | succ fu ih =>
        intro k r x h1 h2 h3 h4 hg hlp H locs hJ hT ls hl
        have hBa1 := hBa.kept (hJ.2.2.1 ba hbl hne)
        obtain ⟨u1, u2⟩ := uC_y (t := t) hg
        have hu := lpF_u (O := opD) (b := bb) (t := t) (isop := op4) hm (by decide) k r h3
        rw [hlp, u1, u2] at hu
        refine lv_aload_n hx hb dX16_both_5 rfl (lv_at hl 1 rfl) ?_
        have nq := hE.2.1 7 _ rfl
        refine va_ldcS hx hb hown nq dX16_both_6 ?_
        refine rg_callV (y := yX16_isOne) (b := rd) (C := RX16) (As := [.ref (ad 7)]) hx hb hml hown hts (rd_isOne (b0 := b0) (ad := ad) (adV := adV) rd sn ba n r.2.1 o tb bb htb (by omega) 7 (by decide)) rdE_blind (fun U hU hW => ⟨by rw [hU]; exact ⟨hJ.1, hBa1⟩, hK.warm hW, hE.go hW (fun q g1 g2 => by first | (rw [hU]; done) | (rw [hU]; exact hJ.2.2.1 q g1 (fun z => g2 (by rw [z]; exact hrd))))⟩) (cAt.recv hK hJ.1 rfl) q733 q735 qs11 q81 q736 ndX16_isOne rfl (by rw [hRf]; omega) (by rw [hRl]; omega) (by rw [hRc]; omega) (by rw [hRs]; omega) hl.1 rfl (Nat.le_of_ble_eq_true rfl) dX16_both_8 ?_
        refine w_if_eqT (tgt := 42) hx hb dX16_both_11 (by decide) (fun c1 => ?_) (fun c1 => ?_)
        · have hGr : G = r := by rw [← hlp]; exact lpF_stop c1
          subst hGr
          refine lv_aload_n hx hb dX16_both_42 rfl (lv_at hl 0 rfl) ?_
          refine W.widen (k := uC t G) (n := uS t G) (by omega) (by omega) ?_
          exact hret ⟨fun _ => ⟨x, rfl, hJ.1, hT⟩, fun z => absurd hg z⟩ hJ.S dX16_both_43
        · have hop : op4 (tk bb n r.2.1) = true := c1
          have hlt : r.2.1 < n := tk_lt (fun q => by rw [q] at hop; exact absurd hop (by decide))
          obtain ⟨k, rfl⟩ : ∃ k', k = k' + 1 := ⟨k - 1, by omega⟩
          have hs := hm (r.2.1 + 1) hlt
          have hlp2 : lpF opD bb n op4 sub k (opD.2.2.1 (tk bb n r.2.1) r.1 (sub (r.2.1 + 1)).1, (sub (r.2.1 + 1)).2) = G := by rw [← hlp, lpF, if_pos ⟨hg, hop⟩]
          have hu2 := lpF_u (O := opD) (b := bb) (t := t) (isop := op4) hm (by decide) k (opD.2.2.1 (tk bb n r.2.1) r.1 (sub (r.2.1 + 1)).1, (sub (r.2.1 + 1)).2) hs.2
          obtain ⟨v1, v2⟩ := uC_step (t := t) (opD.2.2.1 (tk bb n r.2.1) r.1 (sub (r.2.1 + 1)).1) (sub (r.2.1 + 1)) h4 hs.1
          rw [hlp2, v1, v2] at hu2
          obtain ⟨sg, hsg, hsg2⟩ := sg_of htb (i := 7) (by decide) (by decide) hop
          refine lv_aload_n hx hb dX16_both_14 rfl (lv_at hl 1 rfl) ?_
          refine lv_dup hx hb dX16_both_15 rfl ?_
          refine c_get (v := .int (nI r.2.1)) hx hb hts in_X16 hown hK hJ.1 rfl 3 (by decide) q692 rfl rfl dX16_both_16 ?_
          refine lv_iconst (v := nI 1) hx hb dX16_both_19 (by decide) ?_
          refine w_iaddN hx hb dX16_both_20 ?_
          refine rd_putf hx hb hts hown hK hJ 3 (by decide) q692 rfl rfl rfl rfl (Nat.le_of_ble_eq_true rfl) dX16_both_21 (fun H1 locs hJ1 hz1 hk1 => ?_)
          have hJ1 : rdJ D rd s (rdF sn ba n (r.2.1 + 1) o) H1 locs := hJ1
          refine c_new (ci := 6) (fs := [.int 0, .null, .null]) (C := RX8) (T := TX8) (N := 3) hx hb hts in_X8 tyX8 tyX8_ok hown q887 q888 q72 hK rfl (fun j hj => by rcases (show j = 0 ∨ j = 1 ∨ j = 2 by omega) with rfl | rfl | rfl <;> rfl) (by rw [hRc]; omega) (by rw [hRs]; omega) dX16_both_24 (fun H2 hX2 hz2 hk2 => ?_)
          have hJ2 := hJ1.go (hJ1.1.kept (hk2 rd hJ1.1.lt)) (by omega) (fun q g1 _ => hk2 q g1) hJ1.2.2.2
          have hx2l := hX2.lt
          have hs1 := hJ1.2.1
          have hBa2 := hBa.kept (hJ2.2.2.1 ba hbl hne)
          refine lv_dup hx hb dX16_both_27 rfl ?_
          refine lv_bipush (v := nI 38) hx hb dX16_both_28 (by decide) ?_
          refine w_topV (.int (tk bb n r.2.1)) (by rw [show tk bb n r.2.1 = nI 38 by simpa [op4] using hop]) ?_
          refine lv_aload_n hx hb dX16_both_30 rfl (lv_at hl 0 rfl) ?_
          refine lv_aload_n hx hb dX16_both_31 rfl (lv_at hl 1 rfl) ?_
          refine rd_call (y := yX16_relation) (As := []) hx hb hml hown hts hK hE hJ2 hA0 (hsub H2.size (r.2.1 + 1) hlt (by omega)) ⟨rfl, hJ2.1, hBa2⟩ q717 q719 qs7 q720 ndX16_relation rfl (by rw [hRf]; omega) (by rw [hRl]; omega) (by rw [hRc]; omega) (by rw [hRs]; omega) hl.1 rfl (Nat.le_of_ble_eq_true rfl) dX16_both_32 ?_ ?_
          · intro v H3 locs hq hz3 hk3 hL
            obtain ⟨hg3, y, rfl, hR3, hT3⟩ := hq.ret
            obtain ⟨w1, w2⟩ := uC_y (t := r.2.1 + 1) hg3
            have hJ3 := hJ2.go hR3 hz3 hk3 hL
            have hX3 := hX2.kept (hk3 H1.size hx2l (by omega))
            refine cg_callI1 (y := yX8_init) (x0 := H1.size) (As := [.int (tk bb n r.2.1), .ref x, .ref y]) hx hb hml hown hts hK (by omega) (tm_iX8 H1.size (tk bb n r.2.1) x y) hX3 q889 q890 q72 q891 ndX8_init rfl (by rw [hRf]; omega) (by rw [hRl]; omega) (by rw [hRc]; omega) (by rw [hRs]; omega) hl.1 rfl (Nat.le_of_ble_eq_true rfl) dX16_both_35 ?_
            rintro _ H4 ⟨rfl, hX4⟩ hz4 hk4
            have hJ4 : rdJ D rd s (rdF sn ba n (sub (r.2.1 + 1)).2.1 o) H4 locs := ⟨hJ3.1.kept (hk4 rd hJ3.1.lt (by omega)), by have := hJ3.2.1; omega, fun q g1 g2 => (hk4 q (by have := hJ3.2.1; omega) (by omega)).trans (hJ3.2.2.1 q g1 g2), hJ3.2.2.2⟩
            have hTx : TmOK D (fun q => s.heap.size ≤ q) (r.2.1 - t) H4 x r.1 := hT.to (fun q g1 g2 => ⟨g2, (hk4 q (by omega) (by omega)).trans ((hk3 q (by omega) (by omega)).trans ((hk2 q (by omega)).trans (hk1 q g1 (by omega))))⟩) _ x r.1
            have hTy : TmOK D (fun q => s.heap.size ≤ q) ((sub (r.2.1 + 1)).2.1 - (r.2.1 + 1)) H4 y (sub (r.2.1 + 1)).1 := hT3.to (fun q g1 g2 => ⟨by omega, hk4 q g1 (by omega)⟩) _ y _
            have hT4 := tm_two (k := (sub (r.2.1 + 1)).2.1 - t) hsg hsg2 hX4 (by omega) hTx hTy (by omega) (by omega)
            refine lv_astore_n (lv' := [(1, .ref H1.size), (0, .ref rd)]) hx hb dX16_both_38 rfl hl (by decide) rfl (fun ls hl => ?_)
            refine lv_goto (tgt := 5) hx hb dX16_both_39 (by decide) ?_
            refine W.widen (k := (sub (r.2.1 + 1)).2.1 - t) (n := 3 * ((sub (r.2.1 + 1)).2.1 - t)) (by omega) (by omega) ?_
            exact ih k (opD.2.2.1 (tk bb n r.2.1) r.1 (sub (r.2.1 + 1)).1, (sub (r.2.1 + 1)).2) H1.size (by dsimp only; omega) (by dsimp only; omega) hs.2 (by dsimp only; omega) hg3 hlp2 H4 locs hJ4 hT4 ls hl
          · intro x9 H3 locs hq hz3 hk3 hL
            obtain ⟨hg3, hxb, hF⟩ := hq.thr
            have hGe : G = (opD.2.2.1 (tk bb n r.2.1) r.1 (sub (r.2.1 + 1)).1, (sub (r.2.1 + 1)).2) := by rw [← hlp2]; exact lpF_bad hg3
            subst hGe
            refine WT.widen (k := _) (n := _) (by rw [v1]; omega) (by rw [v2]; omega) (hthr ⟨fun z => absurd z hg3, fun _ => ⟨x9, rfl, by omega, hF⟩⟩ ?_)
            exact ⟨by have := hJ2.2.1; omega, fun q g1 g2 => (hk3 q (by have := hJ2.2.1; omega) (fun z => g2 (Or.inl z))).trans (hJ2.2.2.1 q g1 (fun z => g2 (Or.inl z))), fun l hl => Or.inl (hL l hl)⟩
    refine W.widen (k := (sub t).2.1 - t) (n := 3 * ((sub t).2.1 - t)) (by omega) (by omega) ?_
    exact loop5 (n + 1) (n + 1) (sub t) x (by omega) (by omega) hmt.2 hmt.1 hg hG H locs (hJ.go hR1 hz hk hL) hT1 ls hl
  · intro x H locs hq hz hk hL
    obtain ⟨hg, hxb, hF⟩ := hq.thr
    have hGe : G = sub t := by rw [← hG]; exact lpF_bad hg
    subst hGe
    exact WT.widen (k := _) (n := _) (by omega) (by omega) (hthr ⟨fun z => absurd z hg, fun _ => ⟨x, rfl, hxb, hF⟩⟩ ⟨hz, fun q h1 h2 => hk q h1 (fun z => h2 (Or.inl z)), fun l hl => Or.inl (hL l hl)⟩)
theorem ndX16_both : yX16_both.cls = RX16 ∧ yX16_both.cls ≠ "java/lang/invoke/MethodHandle" ∧ yX16_both.cls ≠ "java/lang/invoke/VarHandle" ∧ (parseMethodDescriptor yX16_both.desc).map (fun d => d.parameters.length) = some 0 := by decide +kernel
set_option maxHeartbeats 1000000 in
theorem rd_either {D : va_G} {dA : Nat → ClassId} {b0 : Nat} {ad adV : Nat → Nat} (rd sn ba n : Nat) (tb bb : Nat → Int32) (htb : tbOK tb bb n) (hrd : b0 ≤ rd) (hne : ¬ ba = rd) (o fr0 lo0 : Nat) (hf0 : 7 ≤ fr0) (hl0 : 155 ≤ lo0) (sub : Nat → Rs Dn) (hm : mono n sub) (hsub : RM D dA b0 ad adV rd sn ba n tb yX16_both cX16_both 2 fr0 lo0 o sub) : RM D dA b0 ad adV rd sn ba n tb yX16_either cX16_either 2 (fr0 + 1) (lo0 + 21) o (fun t => lpF opD bb n op5 sub (n + 1) (sub t)) := by
  intro b t ht hbb
  refine Cs.ofA (Or.inl ⟨_, rfl⟩) (by decide) (own := RX16) rfl (Nat.le_of_ble_eq_true rfl) ?_
  intro p l e R s m args below meth c Q ls hx hb hml hRf hRl hRc hRs hts hown hK hE hP hl hret hthr
  obtain ⟨rfl, hRd, hBa⟩ := hP
  have hl : lv_has ls 2 [(0, .ref rd)] := hl
  have hrb := hRd.lt
  have hbl := hBa.lt
  have hn5 := htb.1
  have hA0 : ∀ q, rdA rd s.heap.size q → b0 ≤ q := fun q hq => hq.elim (fun z => by rw [z]; exact hrd) (fun z => Nat.le_trans hbb z)
  have hJ : rdJ D rd s (rdF sn ba n t o) s.heap [] := ⟨hRd, Nat.le_refl _, fun _ _ _ => rfl, fun q hq => by cases hq⟩
  have hmt := hm t ht
  have hu0 := lpF_u (O := opD) (b := bb) (t := t) (isop := op5) hm (by decide) (n + 1) (sub t) hmt.2
  dsimp only at hret hthr hRc hRs
  generalize hG : lpF opD bb n op5 sub (n + 1) (sub t) = G at hret hthr hRc hRs hu0
  refine lv_aload_n hx hb dX16_either_0 rfl (lv_at hl 0 rfl) ?_
  refine rd_call (y := yX16_both) (As := []) hx hb hml hown hts hK hE hJ hA0 (hsub s.heap.size t ht hbb) ⟨rfl, hRd, hBa⟩ q713 q715 qs6 q716 ndX16_both rfl (by rw [hRf]; omega) (by rw [hRl]; omega) (by rw [hRc]; omega) (by rw [hRs]; omega) hl.1 rfl (Nat.le_of_ble_eq_true rfl) dX16_either_1 ?_ ?_
  · intro v H locs hq hz hk hL
    obtain ⟨hg, x, rfl, hR1, hT1⟩ := hq.ret
    obtain ⟨u1, u2⟩ := uC_y (t := t) hg
    refine lv_astore_n (lv' := [(1, .ref x), (0, .ref rd)]) hx hb dX16_either_4 rfl hl (by decide) rfl (fun ls hl => ?_)
    have loop5 : ∀ (fu k : Nat) (r : Rs Dn) (x : Nat), n < r.2.1 + fu → n < r.2.1 + k → r.2.1 ≤ n → t ≤ r.2.1 → r.2.2 = true → lpF opD bb n op5 sub k r = G → ∀ (H : Heap) (locs : List Loc), rdJ D rd s (rdF sn ba n r.2.1 o) H locs → TmOK D (fun q => s.heap.size ≤ q) (r.2.1 - t) H x r.1 → ∀ (ls : Array Slot), lv_has ls 2 [(1, .ref x), (0, .ref rd)] → W p l e R s m args below meth c H locs (r.2.1 - t) (3 * (r.2.1 - t)) Q (F0 m 5 ls []) := by
      intro fu
      induction fu with
      | zero =>
        intro k r x h1 h2 h3
        omega
      | succ fu ih =>
        intro k r x h1 h2 h3 h4 hg hlp H locs hJ hT ls hl
        have hBa1 := hBa.kept (hJ.2.2.1 ba hbl hne)
        obtain ⟨u1, u2⟩ := uC_y (t := t) hg
        have hu := lpF_u (O := opD) (b := bb) (t := t) (isop := op5) hm (by decide) k r h3
        rw [hlp, u1, u2] at hu
        refine lv_aload_n hx hb dX16_either_5 rfl (lv_at hl 1 rfl) ?_
        have nq := hE.2.1 8 _ rfl
        refine va_ldcS hx hb hown nq dX16_either_6 ?_
        refine rg_callV (y := yX16_isOne) (b := rd) (C := RX16) (As := [.ref (ad 8)]) hx hb hml hown hts (rd_isOne (b0 := b0) (ad := ad) (adV := adV) rd sn ba n r.2.1 o tb bb htb (by omega) 8 (by decide)) rdE_blind (fun U hU hW => ⟨by rw [hU]; exact ⟨hJ.1, hBa1⟩, hK.warm hW, hE.go hW (fun q g1 g2 => by first | (rw [hU]; done) | (rw [hU]; exact hJ.2.2.1 q g1 (fun z => g2 (by rw [z]; exact hrd))))⟩) (cAt.recv hK hJ.1 rfl) q733 q735 qs11 q81 q736 ndX16_isOne rfl (by rw [hRf]; omega) (by rw [hRl]; omega) (by rw [hRc]; omega) (by rw [hRs]; omega) hl.1 rfl (Nat.le_of_ble_eq_true rfl) dX16_either_8 ?_
        refine w_if_eqT (tgt := 42) hx hb dX16_either_11 (by decide) (fun c1 => ?_) (fun c1 => ?_)
        · have hGr : G = r := by rw [← hlp]; exact lpF_stop c1
          subst hGr
          refine lv_aload_n hx hb dX16_either_42 rfl (lv_at hl 0 rfl) ?_
          refine W.widen (k := uC t G) (n := uS t G) (by omega) (by omega) ?_
          exact hret ⟨fun _ => ⟨x, rfl, hJ.1, hT⟩, fun z => absurd hg z⟩ hJ.S dX16_either_43
        · have hop : op5 (tk bb n r.2.1) = true := c1
          have hlt : r.2.1 < n := tk_lt (fun q => by rw [q] at hop; exact absurd hop (by decide))
          obtain ⟨k, rfl⟩ : ∃ k', k = k' + 1 := ⟨k - 1, by omega⟩
          have hs := hm (r.2.1 + 1) hlt
          have hlp2 : lpF opD bb n op5 sub k (opD.2.2.1 (tk bb n r.2.1) r.1 (sub (r.2.1 + 1)).1, (sub (r.2.1 + 1)).2) = G := by rw [← hlp, lpF, if_pos ⟨hg, hop⟩]
          have hu2 := lpF_u (O := opD) (b := bb) (t := t) (isop := op5) hm (by decide) k (opD.2.2.1 (tk bb n r.2.1) r.1 (sub (r.2.1 + 1)).1, (sub (r.2.1 + 1)).2) hs.2
          obtain ⟨v1, v2⟩ := uC_step (t := t) (opD.2.2.1 (tk bb n r.2.1) r.1 (sub (r.2.1 + 1)).1) (sub (r.2.1 + 1)) h4 hs.1
          rw [hlp2, v1, v2] at hu2
          obtain ⟨sg, hsg, hsg2⟩ := sg_of htb (i := 8) (by decide) (by decide) hop
          refine lv_aload_n hx hb dX16_either_14 rfl (lv_at hl 1 rfl) ?_
          refine lv_dup hx hb dX16_either_15 rfl ?_
          refine c_get (v := .int (nI r.2.1)) hx hb hts in_X16 hown hK hJ.1 rfl 3 (by decide) q692 rfl rfl dX16_either_16 ?_
          refine lv_iconst (v := nI 1) hx hb dX16_either_19 (by decide) ?_
          refine w_iaddN hx hb dX16_either_20 ?_
          refine rd_putf hx hb hts hown hK hJ 3 (by decide) q692 rfl rfl rfl rfl (Nat.le_of_ble_eq_true rfl) dX16_either_21 (fun H1 locs hJ1 hz1 hk1 => ?_)
          have hJ1 : rdJ D rd s (rdF sn ba n (r.2.1 + 1) o) H1 locs := hJ1
          refine c_new (ci := 6) (fs := [.int 0, .null, .null]) (C := RX8) (T := TX8) (N := 3) hx hb hts in_X8 tyX8 tyX8_ok hown q887 q888 q72 hK rfl (fun j hj => by rcases (show j = 0 ∨ j = 1 ∨ j = 2 by omega) with rfl | rfl | rfl <;> rfl) (by rw [hRc]; omega) (by rw [hRs]; omega) dX16_either_24 (fun H2 hX2 hz2 hk2 => ?_)
          have hJ2 := hJ1.go (hJ1.1.kept (hk2 rd hJ1.1.lt)) (by omega) (fun q g1 _ => hk2 q g1) hJ1.2.2.2
          have hx2l := hX2.lt
          have hs1 := hJ1.2.1
          have hBa2 := hBa.kept (hJ2.2.2.1 ba hbl hne)
          refine lv_dup hx hb dX16_either_27 rfl ?_
          refine lv_bipush (v := nI 124) hx hb dX16_either_28 (by decide) ?_
          refine w_topV (.int (tk bb n r.2.1)) (by rw [show tk bb n r.2.1 = nI 124 by simpa [op5] using hop]) ?_
          refine lv_aload_n hx hb dX16_either_30 rfl (lv_at hl 0 rfl) ?_
          refine lv_aload_n hx hb dX16_either_31 rfl (lv_at hl 1 rfl) ?_
          refine rd_call (y := yX16_both) (As := []) hx hb hml hown hts hK hE hJ2 hA0 (hsub H2.size (r.2.1 + 1) hlt (by omega)) ⟨rfl, hJ2.1, hBa2⟩ q713 q715 qs6 q716 ndX16_both rfl (by rw [hRf]; omega) (by rw [hRl]; omega) (by rw [hRc]; omega) (by rw [hRs]; omega) hl.1 rfl (Nat.le_of_ble_eq_true rfl) dX16_either_32 ?_ ?_
          · intro v H3 locs hq hz3 hk3 hL
            obtain ⟨hg3, y, rfl, hR3, hT3⟩ := hq.ret
            obtain ⟨w1, w2⟩ := uC_y (t := r.2.1 + 1) hg3
            have hJ3 := hJ2.go hR3 hz3 hk3 hL
            have hX3 := hX2.kept (hk3 H1.size hx2l (by omega))
            refine cg_callI1 (y := yX8_init) (x0 := H1.size) (As := [.int (tk bb n r.2.1), .ref x, .ref y]) hx hb hml hown hts hK (by omega) (tm_iX8 H1.size (tk bb n r.2.1) x y) hX3 q889 q890 q72 q891 ndX8_init rfl (by rw [hRf]; omega) (by rw [hRl]; omega) (by rw [hRc]; omega) (by rw [hRs]; omega) hl.1 rfl (Nat.le_of_ble_eq_true rfl) dX16_either_35 ?_
            rintro _ H4 ⟨rfl, hX4⟩ hz4 hk4
            have hJ4 : rdJ D rd s (rdF sn ba n (sub (r.2.1 + 1)).2.1 o) H4 locs := ⟨hJ3.1.kept (hk4 rd hJ3.1.lt (by omega)), by have := hJ3.2.1; omega, fun q g1 g2 => (hk4 q (by have := hJ3.2.1; omega) (by omega)).trans (hJ3.2.2.1 q g1 g2), hJ3.2.2.2⟩
            have hTx : TmOK D (fun q => s.heap.size ≤ q) (r.2.1 - t) H4 x r.1 := hT.to (fun q g1 g2 => ⟨g2, (hk4 q (by omega) (by omega)).trans ((hk3 q (by omega) (by omega)).trans ((hk2 q (by omega)).trans (hk1 q g1 (by omega))))⟩) _ x r.1
            have hTy : TmOK D (fun q => s.heap.size ≤ q) ((sub (r.2.1 + 1)).2.1 - (r.2.1 + 1)) H4 y (sub (r.2.1 + 1)).1 := hT3.to (fun q g1 g2 => ⟨by omega, hk4 q g1 (by omega)⟩) _ y _
            have hT4 := tm_two (k := (sub (r.2.1 + 1)).2.1 - t) hsg hsg2 hX4 (by omega) hTx hTy (by omega) (by omega)
            refine lv_astore_n (lv' := [(1, .ref H1.size), (0, .ref rd)]) hx hb dX16_either_38 rfl hl (by decide) rfl (fun ls hl => ?_)
            refine lv_goto (tgt := 5) hx hb dX16_either_39 (by decide) ?_
            refine W.widen (k := (sub (r.2.1 + 1)).2.1 - t) (n := 3 * ((sub (r.2.1 + 1)).2.1 - t)) (by omega) (by omega) ?_
            exact ih k (opD.2.2.1 (tk bb n r.2.1) r.1 (sub (r.2.1 + 1)).1, (sub (r.2.1 + 1)).2) H1.size (by dsimp only; omega) (by dsimp only; omega) hs.2 (by dsimp only; omega) hg3 hlp2 H4 locs hJ4 hT4 ls hl
          · intro x9 H3 locs hq hz3 hk3 hL
            obtain ⟨hg3, hxb, hF⟩ := hq.thr
            have hGe : G = (opD.2.2.1 (tk bb n r.2.1) r.1 (sub (r.2.1 + 1)).1, (sub (r.2.1 + 1)).2) := by rw [← hlp2]; exact lpF_bad hg3
            subst hGe
            refine WT.widen (k := _) (n := _) (by rw [v1]; omega) (by rw [v2]; omega) (hthr ⟨fun z => absurd z hg3, fun _ => ⟨x9, rfl, by omega, hF⟩⟩ ?_)
            exact ⟨by have := hJ2.2.1; omega, fun q g1 g2 => (hk3 q (by have := hJ2.2.1; omega) (fun z => g2 (Or.inl z))).trans (hJ2.2.2.1 q g1 (fun z => g2 (Or.inl z))), fun l hl => Or.inl (hL l hl)⟩
    refine W.widen (k := (sub t).2.1 - t) (n := 3 * ((sub t).2.1 - t)) (by omega) (by omega) ?_
    exact loop5 (n + 1) (n + 1) (sub t) x (by omega) (by omega) hmt.2 hmt.1 hg hG H locs (hJ.go hR1 hz hk hL) hT1 ls hl
  · intro x H locs hq hz hk hL
    obtain ⟨hg, hxb, hF⟩ := hq.thr
    have hGe : G = sub t := by rw [← hG]; exact lpF_bad hg
    subst hGe
    exact WT.widen (k := _) (n := _) (by omega) (by omega) (hthr ⟨fun z => absurd z hg, fun _ => ⟨x, rfl, hxb, hF⟩⟩ ⟨hz, fun q h1 h2 => hk q h1 (fun z => h2 (Or.inl z)), fun l hl => Or.inl (hL l hl)⟩)
