/-! text (printed by comp41.py) -/
set_option maxRecDepth 100000
theorem txF_o {r : Nat → Int32} {u x : Nat} (h6 : x ≠ 6 + u) (h : ¬ (198 + 50 * u ≤ x ∧ x < 198 + 50 * u + 50)) : txF r u x = r x := by
  unfold txF
  rw [pk_un h6]
  exact if_neg h
theorem txF_i {r : Nat → Int32} {u j : Nat} (hu : u < 2) (h : j < 50) : txF r u (198 + 50 * u + j) = r (128 + j) := by
  unfold txF
  rw [pk_un (by omega)]
  refine (if_pos ⟨by omega, by omega⟩).trans ?_
  rw [Nat.add_sub_cancel_left]
theorem tk_c {b b' : Nat → Int32} {n : Nat} (h : ∀ k, k < n → b k = b' k) (k : Nat) : tk b n k = tk b' n k := by
  unfold tk
  by_cases e : k < n
  · rw [if_pos e, if_pos e, h k e]
  · rw [if_neg e, if_neg e]
theorem digs_c {b b' : Nat → Int32} {n : Nat} (h : ∀ k, tk b n k = tk b' n k) : ∀ c t v, digs b n c t v = digs b' n c t v
  | 0, _, _ => rfl
  | c + 1, t, v => by rw [digs, digs, h t, digs_c h c]
theorem lpF_c {α : Type} {O : Ops α} {b b' : Nat → Int32} {n : Nat} {isop : Int32 → Bool} {sub sub' : Nat → Rs α} (h : ∀ k, tk b n k = tk b' n k) (hs : ∀ t, sub t = sub' t) : ∀ k r, lpF O b n isop sub k r = lpF O b' n isop sub' k r
  | 0, _ => rfl
  | k + 1, r => by rw [lpF, lpF, h r.2.1, hs, lpF_c h hs k]
theorem whoF_c {α : Type} {O : Ops α} {b b' : Nat → Int32} {n : Nat} {fac fac' : Nat → Rs α} (h : ∀ k, tk b n k = tk b' n k) (hs : ∀ t, fac t = fac' t) (t : Nat) : whoF O b n fac t = whoF O b' n fac' t := by
  have h1 : ∀ t, prodF O b n fac t = prodF O b' n fac' t := fun t => by rw [prodF, prodF, hs t]; exact lpF_c h hs _ _
  have h2 : ∀ t, sumF O b n fac t = sumF O b' n fac' t := fun t => by rw [sumF, sumF, h1 t]; exact lpF_c h h1 _ _
  have h3 : ∀ t, cmpF O b n fac t = cmpF O b' n fac' t := fun t => by
    unfold cmpF
    rw [h2 t, h2, h]
  have h4 : ∀ t, bothF O b n fac t = bothF O b' n fac' t := fun t => by rw [bothF, bothF, h3 t]; exact lpF_c h h3 _ _
  rw [whoF, whoF, h4 t]; exact lpF_c h h4 _ _
theorem facF_c {α : Type} {O : Ops α} {b b' : Nat → Int32} {n u : Nat} {inner : Option ((Nat → Rs α) × (Nat → Rs α))} (h : ∀ k, tk b n k = tk b' n k) (t : Nat) : facF O b n u inner t = facF O b' n u inner t := by
  unfold facF
  rw [h t, digs_c h]
  by_cases h1 : nI 48 ≤ tk b' n t ∧ tk b' n t ≤ nI 57
  · rw [if_pos h1, if_pos h1]
  · rw [if_neg h1, if_neg h1]
    cases inner with
    | none => rfl
    | some q => dsimp only; rw [h]
theorem facD_c {α : Type} {O : Ops α} {b b' : Nat → Int32} {n u : Nat} (h : ∀ k, tk b n k = tk b' n k) : ∀ d t, facD O b n u d t = facD O b' n u d t
  | 0, t => facF_c h t
  | d + 1, t => by
    have e1 : facD O b n u d = facD O b' n u d := funext (facD_c h d)
    have e2 : whoF O b n (facD O b n u d) = whoF O b' n (facD O b' n u d) := funext (fun t => whoF_c h (facD_c h d) t)
    rw [facD, facD, e1, ← e2, e1]
    rw [e1] at e2
    rw [e2]
    exact facF_c h t
theorem whI_c {a a' : Nat → Nat → Int32} {u n : Nat} (h : ∀ k, k < n → bT a u k = bT a' u k) (x y z : Int32) (d : Nat) : whI a u n x y z d 0 = whI a' u n x y z d 0 := whoF_c (tk_c h) (facD_c (tk_c h) d) 0
/-- a text's value is of its own bytes -/
theorem txV_l {r r' : Nat → Int32} {u : Nat} (hu : u < 2) (h6 : r' (6 + u) = r (6 + u)) (h9 : ∀ j, j < cl (r (6 + u)) → r' (198 + 50 * u + j) = r (198 + 50 * u + j)) (nm : Nat → Int32) : txV r' u nm = txV r u nm := by
  unfold txV
  rcases (show u = 0 ∨ u = 1 by omega) with rfl | rfl
  · rw [if_pos rfl, if_pos rfl, h6]
    exact congrArg (fun q : Rs Int32 => q.1) (whI_c (a := rA r') (a' := rA r) h9 _ _ _ 5)
  · rw [if_neg (by decide), if_neg (by decide), h6]
    exact congrArg (fun q : Rs Int32 => q.1) (whI_c (a := rA r') (a' := rA r) h9 _ _ _ 5)
/-- an act that reads a text -/
def CmT (y : MethodName) (cc : ByteArray) (maxL : Nat) (hh : List (Nat × Nat × Nat × Nat)) (fr lo mc ms : Nat) (As : List Value) (f : Nat → Int32) (a : Nat → Nat → Int32) (v : Int32) (f' : Nat → Int32) (a' : Nat → Nat → Int32) : Prop :=
  ∀ (D : va_G) (dA : Nat → ClassId) (h : Nat → Nat) (fc : Int32) (wk : Nat → Nat → Int32) (hd : Nat → Option Nat) (ri rt : Nat → Int32) (cw tx : Nat → Nat → Option Nat) (nm : Nat → Nat → Int32) (A0 : Nat → Prop) (b2 b0 : Nat) (ad adV : Nat → Nat), cmI h → (∀ q, cmA h q → A0 q) → (∀ q, b2 ≤ q → A0 q) → (∀ q, A0 q → b0 ≤ q) →
    ∀ (l : Launch), Met l y (wsW_ y cc maxL (some .int) hh) { frames := fr, cells := mc, slots := ms, locals := lo } (va_Pc (.ref (h 0) :: As) (fun U => (b2 ≤ U.heap.size ∧ va_P D cmCl (cmWs h dA f a fc wk hd ri rt cw tx nm) U.heap ∧ cmQ D dA h hd A0 f a ri rt cw tx U.heap) ∧ cmK D dA U ∧ SRh b0 ad adV U U.heap))
      (fun _ st oc t => (∃ v', oc = .returned v' ∧ (v' = some (.int v) ∧ ∃ fc' wk' hd' ri' rt' cw' tx' nm', va_P D cmCl (cmWs h dA f' a' fc' wk' hd' ri' rt' cw' tx' nm') t.heap ∧ cmQ D dA h hd' A0 f' a' ri' rt' cw' tx' t.heap)) ∧ va_F A0 st t) mc ms A0
theorem CmT.ofM {mc ms : Nat} {y : MethodName} {cc : ByteArray} {maxL fr lo : Nat} {hh : List (Nat × Nat × Nat × Nat)} {As : List Value} {f f' : Nat → Int32} {a a' : Nat → Nat → Int32} {v : Int32} (hy : plainName y.cls = true) (hcl : y.cls = RX0) (hlen : (lg_sl (.ref 0 :: As)).length ≤ maxL)
    (body : ∀ (p : Program) (l : Launch) (e : Env) (R : Room) (s : State) (m : MethodId) (args : Array Value) (below : List Frame) (meth : Method) (c : Code) (Q : State → Prop) (D : va_G) (dA : Nat → ClassId) (h : Nat → Nat) (fc : Int32) (wk : Nat → Nat → Int32) (hd : Nat → Option Nat) (ri rt : Nat → Int32) (cw tx : Nat → Nat → Option Nat) (nm : Nat → Nat → Int32) (B S A0 : Nat → Prop) (b2 b0 : Nat) (ad adV : Nat → Nat) (ls : Array Slot), p.tables.exec = Jvm.exec → c.code = cc → c.maxLocals = maxL → R.frames = fr → R.locals = lo → R.cells = mc → R.slots = ms → c.exceptionTable.toList = tableOf hh → (∀ w ∈ lw_all, w.before args s = true) → s.vm.findClass RX0 = some m.cls → cmK D dA s → cmI h → (∀ q, B q → ¬ cmA h q) → (∀ q, S q → ¬ cmA h q) → cmPl D h B (a 1) ri rt cw tx s.heap → (cl (a 1 3) ≤ 5 ∧ cl (ri 3) ≤ 5 ∧ cl (rt 3) ≤ 5) → (¬ f 4 = 0 → ri = a 2) → cmZ (a 1) ri cw → shOK D h dA hd S a s.heap → cmH D h dA s.heap s.heap [] f a fc wk hd ri rt cw tx nm → lv_has ls maxL (lv_args 0 (.ref (h 0) :: As)) →
      (∀ q, cmA h q → A0 q) → (∀ q, b2 ≤ q → A0 q) → (∀ q, A0 q → b0 ≤ q) → SRh b0 ad adV s s.heap → b2 ≤ s.heap.size → (∀ q, S q → ¬ B q) → (∀ q, B q ∨ S q → A0 q ∧ q < s.heap.size) →
      (∀ {H : Heap} {locs : List Loc} {pc : Nat} {ls : Array Slot} {x : Int32} {fc' : Int32} {wk' : Nat → Nat → Int32} {hd' : Nat → Option Nat} {ri' rt' : Nat → Int32} {cw' tx' : Nat → Nat → Option Nat} {nm' : Nat → Nat → Int32}, va_P D cmCl (cmWs h dA f' a' fc' wk' hd' ri' rt' cw' tx' nm') H → cmQ D dA h hd' A0 f' a' ri' rt' cw' tx' H → va_S A0 s.heap H locs → x = v → decode cc pc = .ok (.ireturn, 1) → W p l e R s m args below meth c H locs mc ms Q (F0 m pc ls [.int x])) →
      W p l e R s m args below meth c s.heap [] 0 0 Q (F0 m 0 ls [])) : CmT y cc maxL hh fr lo mc ms As f a v f' a' := by
  intro D dA h fc wk hd ri rt cw tx nm A0 b2 b0 ad adV hI hA hf h9 l
  refine MetW.ofW (cc := cc) (maxL := maxL) (ret := some .int) (hh := hh) hy rfl ?_
  intro p e s m args below meth c s₁ BB hml htab hv
  obtain ⟨rfl, ⟨hsz, hP, B, S, ⟨hB, hS0, hBS, hR⟩, hQ, hN, hIm, hZ, hSh⟩, hK, hE⟩ := hv
  have hts := atoms_spec (ws := wsW_ y cc maxL (some .int) hh) BB.pre
  have hts : ∀ w ∈ lw_all, w.before _ s = true := fun w h => hts w (List.mem_cons_of_mem _ h)
  have hown : s.vm.findClass RX0 = some m.cls := by rw [← hcl]; exact findClass_of_methodNamed BB.named
  have hl := lv_entry (.ref (h 0) :: As) (n := maxL) hlen
  rw [lg_entry_eq]
  have hlk := BB.notSynchronized
  refine body p l e _ s m _ below meth c _ D dA h fc wk hd ri rt cw tx nm B S A0 b2 b0 ad adV _ BB.exec BB.bytes hml rfl rfl rfl rfl htab hts hown hK hI hB hS0 hQ hN hIm hZ hSh (cmH.of hI hP va_S.rf) hl hA hf h9 hE hsz hBS hR ?_
  intro H locs pc ls x fc' wk' hd' ri' rt' cw' tx' nm' h1 h2 h3 hv hdg
  exact W.iret BB.exec BB.bytes BB.returns (fun t ht hW => ⟨⟨_, rfl, by rw [hv], _, _, _, _, _, _, _, _, by rw [ht]; exact h1, by rw [ht]; exact h2⟩, h3.F ht⟩) h3.2.2 hdg hlk
section CSN
variable {p : Program} {l : Launch} {e : Env} {R : Room} {s : State} {m : MethodId} {args : Array Value} {below : List Frame} {meth : Method} {c : Code} {H : Heap} {locs : List Loc} {cells slots : Nat} {Q : State → Prop}
variable {cc : ByteArray} {pc : Nat} {ls : Array Slot} {rest : List Value} {D : va_G} {dA : Nat → ClassId} {b0 : Nat} {ad adV : Nat → Nat} {A B : Nat → Prop} {b : Nat} {P : Heap → Prop} {Qo : Outcome → Heap → Prop}
variable {y : MethodName} {cy : ByteArray} {maxL nL fr lo idx mc ms n : Nat} {ret : Option FieldType} {As st : List Value} {own C : String}
/-- a call that may throw, and touches new cells alone -/
theorem cs_callN (hx : p.tables.exec = Jvm.exec) (hb : c.code = cc) (hml : c.maxLocals = nL) (hown : s.vm.findClass own = some m.cls) (hts : ∀ w ∈ lw_all, w.before args s = true) (hK : cmK D dA s) (hE : ∀ U : State, U.heap = H → s.WarmedH U.vm → SRh b0 ad adV U H)
    (hC : Cs D dA b0 ad adV B y cy maxL ret fr lo mc ms (.ref b :: As) P Qo) (hP : P H) (hB : ∀ q, B q → s.heap.size ≤ q) (hrc : ∃ cell : Cell, H[b]? = some cell ∧ cell.vm.isStatics = false ∧ s.vm.findClass C = some cell.cls)
    (h1 : Cond.methodLink own idx y ∈ lw_all) (h2 : Cond.instanceMethod y ∈ lw_all) (h3 : Cond.selects C y y ∈ lw_all) (h4 : Cond.initialized C ∈ lw_all) (h5 : Cond.code y cy maxL ret ∈ lw_all)
    (hd : y.cls = C ∧ y.cls ≠ "java/lang/invoke/MethodHandle" ∧ y.cls ≠ "java/lang/invoke/VarHandle" ∧ (parseMethodDescriptor y.desc).map (fun d => d.parameters.length) = some n) (hn : As.length = n) (hRf : fr + 1 ≤ R.frames) (hRl : 8 + (maxL + 11) + lo ≤ R.locals) (hRc : cells + mc ≤ R.cells) (hRs : slots + ms ≤ R.slots) (hsize : ls.size = nL) (hst : st = As.reverse ++ .ref b :: rest) (hW : (rest.map fun v => v.category).sum ≤ 8) (hdg : decode cc pc = .ok (.invokevirtual idx, 3))
    (kr : ∀ (v : Option Value) (H1 : Heap), Qo (.returned v) H1 → H.size ≤ H1.size → (∀ q, q < H.size → ¬ B q → H1[q]? = H[q]?) → W p l e R s m args below meth c H1 locs (cells + mc) (slots + ms) Q (F0 m (pc + 3) ls (v.toList ++ rest)))
    (kt : ∀ (x : Nat) (H1 : Heap), Qo (.threw x) H1 → H.size ≤ H1.size → (∀ q, q < H.size → ¬ B q → H1[q]? = H[q]?) → WT p l e R s m args below meth c H1 locs (cells + mc) (slots + ms) Q (F0 m pc ls rest) x) : W p l e R s m args below meth c H locs cells slots Q (F0 m pc ls st) := by
  have hr := runVT (below := below) (meth := meth) (locs := locs) (cells := cells) (slots := slots) (e := e) (As := As) (rest := rest) (g := F0 m pc ls st) (b := b) (Ts := lw_all) (own := own) (C := C) (n := n) ⟨hx, hb, hml, hown, hts⟩ (hC l) (cwV n hts (lw_V h1 h2 h3 h4 h5) rfl rfl rfl hd ⟨hRf, hRl⟩)
    ⟨cq_blind, hrc, fun U hU hW => ⟨rfl, by rw [hU]; exact hP, hK.warm hW, by rw [hU]; exact hE U hU hW⟩⟩ rfl hn hsize hst (lv_room hW) hdg ⟨hRc, hRs⟩
  intro T hT X
  obtain ⟨oc, st₀, t, T', L, h0, X', hL, e1, ⟨hq, hF⟩, k1, k2⟩ := hr T hT X
  obtain ⟨hz, hk⟩ := hF
  rw [h0] at hz hk
  rw [← e1] at hq hz hk
  have X2 := X'.forget (fun q hq => hB _ (hL q hq))
  cases oc with
  | returned v =>
    obtain ⟨t2, a1, b1⟩ := kr v T'.heap hq hz hk T' rfl X2
    exact ⟨t2, k1 v rfl t2 a1, b1⟩
  | threw x =>
    obtain ⟨t2, a1, b1⟩ := kt x T'.heap hq hz hk T' rfl X2
    exact ⟨t2, k2 x rfl t2 a1, b1⟩
end CSN
section CTX
variable {p : Program} {l : Launch} {e : Env} {R : Room} {s : State} {m : MethodId} {args : Array Value} {below : List Frame} {meth : Method} {c : Code} {H H0 : Heap} {locs : List Loc} {cells slots : Nat} {Q : State → Prop}
variable {cc : ByteArray} {pc : Nat} {ls : Array Slot} {rest : List Value} {D : va_G} {dA : Nat → ClassId} {h : Nat → Nat} {f : Nat → Int32} {a : Nat → Nat → Int32} {fc : Int32} {wk : Nat → Nat → Int32} {hd : Nat → Option Nat} {ri rt : Nat → Int32} {cw tx : Nat → Nat → Option Nat} {nm : Nat → Nat → Int32}
theorem cm_ast_text (hx : p.tables.exec = Jvm.exec) (hb : c.code = cc) (hK : cmK D dA s) (hI : cmI h) (hM : cmH D h dA H0 H locs f a fc wk hd ri rt cw tx nm) {x : Nat} (hr : va_Any "MeadowMilk$Term" s H x) {i : Int32} (w : Nat) (hi : w < 2 ∧ i = nI w) (hdg : decode cc pc = .ok (.aastore, 1))
    (kk : ∀ (H1 : Heap) (locs1 : List Loc), cmH D h dA H0 H1 locs1 f a fc wk hd ri rt cw (va_up tx 0 (va_up (tx 0) w (some x))) nm → W p l e R s m args below meth c H1 locs1 cells slots Q (F0 m (pc + 1) ls rest)) : W p l e R s m args below meth c H locs cells slots Q (F0 m pc ls (.ref x :: .int i :: .ref (hm0 h 7) :: rest)) := by
  obtain ⟨h1, rfl⟩ := hi
  refine va_astqM hx hb hK.1 hM.1 hM.2.1 hM.2.2 21 4 rfl rfl hr (vp_in_nI h1 (by decide)) hdg (fun H1 locs1 hP hD hS => ?_)
  rw [nI_clamp (by omega)] at hP
  exact kk H1 locs1 (cmH.of hI hP hS)
/-- a text's bytes are no cells of the meadow -/
theorem cmH.txt (hI : cmI h) (hM : cmH D h dA H0 H locs f (va_up a 1 (upd (a 1) 4 (nI 0))) fc wk hd ri rt cw tx nm) (u : Nat) (hu : u < 2) : cmH D h dA H0 H locs f (va_up a 1 (upd (txF (a 1) u) 4 (nI 0))) fc wk hd ri rt cw tx nm := by
  have g : ∀ q, q < 198 → q ≠ 6 + u → upd (a 1) 4 (nI 0) q = upd (txF (a 1) u) 4 (nI 0) q := fun q h1 h2 => by
    by_cases e : q = 4
    · subst e; rw [pk_us, pk_us]
    · rw [pk_un e, pk_un e, txF_o h2 (by omega)]
  have h1 := cm_raw0 (r' := upd (txF (a 1) u) 4 (nI 0)) (g := upd (a 1) 4 (nI 0)) (a0 := mwAr (upd (a 1) 4 (nI 0))) hI hM (fun k hk => g k (by omega) (by omega)) (fun j k hj hk => by
    rcases hj with rfl | rfl | rfl | rfl | rfl | rfl | rfl
    · have hk : k < 25 := hk
      exact g _ (by omega) (by omega)
    · have hk : k < 25 := hk
      exact g _ (by omega) (by omega)
    · have hk : k < 5 := hk
      exact g _ (by omega) (by omega)
    · have hk : k < 60 := hk
      show mwMk _ k = mwMk _ k
      unfold mwMk
      by_cases e : k % 12 < 10
      · rw [if_pos e, if_pos e]; exact g _ (by omega) (by omega)
      · rw [if_neg e, if_neg e]
    · have hk : k < 5 := hk
      exact g _ (by omega) (by omega)
    · have hk : k < 50 := hk
      show (upd (a 1) 4 (nI 0) (128 + k)).toInt8.toInt32 = _
      rw [g (128 + k) (by omega) (by omega)]
      rfl
    · have hk : k < 20 := hk
      exact g _ (by omega) (by omega))
  rw [va_uu] at h1
  exact h1
end CTX
theorem b255 : ∀ m, m < 256 → (nI m).toInt8.toInt32 &&& nI 255 = nI m := by decide +kernel
set_option maxHeartbeats 400000 in
theorem ca_text_e (f : Nat → Int32) (a : Nat → Nat → Int32) (u : Int32) (he : ¬ (nI 0 ≤ u ∧ u ≤ nI 1)) : CmF yX0_text cX0_text 3 [(0, 66, 67, 200), (0, 66, 76, 8)] 2 60 [.int u] f a (-1000000001 : Int32) f (mErr a 1) := by
  refine CmF.ofI (by decide) rfl (Nat.le_of_ble_eq_true rfl) ?_
  intro p l e R s m args below meth c Q D dA h fc wk hd ri rt cw tx nm B S ls hx hb hml hRf hRl hRc hRs htab hts hown hK hI hB hS0 hQ hN hIm hZ hSh hM hl hret hret0
  have hl : lv_has ls 3 [(0, .ref (h 0)), (1, .int u)] := hl
  refine lv_aload_n hx hb dX0_text_0 rfl (lv_at hl 0 rfl) ?_
  refine lv_iload_n hx hb dX0_text_1 rfl (lv_at hl 1 rfl) ?_
  refine lv_iconst (v := nI 0) hx hb dX0_text_2 (by decide) ?_
  refine lv_iconst (v := nI 1) hx hb dX0_text_3 (by decide) ?_
  refine st_callS (y := yX0_in) hx hb hml hown hts (cmX0_in u (nI 0) (nI 1)) q330 q331 q61 q332 ndX0_in rfl (by rw [hRf]; decide) (by rw [hRl]; decide) (Nat.zero_le _) (Nat.zero_le _) hl.1 rfl (Nat.le_of_ble_eq_true rfl) dX0_text_4 ?_
  refine lv_iconst (v := nI 1) hx hb dX0_text_7 (by decide) ?_
  refine cm_needT hx hb hml hown hts hK hI hM q333 (by rw [hRf]; decide) (by rw [hRl]; decide) (Nat.zero_le _) (Nat.zero_le _) hl.1 (Nat.le_of_ble_eq_true rfl) dX0_text_8 (fun hb1 => absurd hb1 he) (fun _ H locs hM => ?_)
  refine WT.catch2 (own := RX0) (C := RX18) (C2 := RX1) (CE := RX1) (index := 200) (index2 := 8) (hpc := 76) hown (hts _ q680) (hts _ q105) (by decide) (by decide) [] ⟨0, 66, 67, 200⟩ ⟨0, 66, 76, 8⟩ htab rfl rfl rfl rfl rfl (cAt.recv hK (hM.1 1 _ rfl) rfl) hK.2.2.2.2.2.2.2.2.2 (hK.C 7 rfl) ?_
  refine lv_astore_n (lv' := [(2, .ref (h 1)), (0, .ref (h 0)), (1, .int u)]) hx hb dX0_text_76 rfl hl (by decide) rfl (fun ls hl => ?_)
  refine lv_aload_n hx hb dX0_text_77 rfl (lv_at hl 1 rfl) ?_
  refine lv_aload_n hx hb dX0_text_78 rfl (lv_at hl 0 rfl) ?_
  refine cm_fin hx hb hml hown hts hK hI 1 (by decide) hM q341 (by rw [hRf]; decide) (by rw [hRl]; decide) (Nat.zero_le _) (Nat.zero_le _) hl.1 (Nat.le_of_ble_eq_true rfl) dX0_text_79 (fun H locs hM => ?_)
  exact hret0 hM mwEq.rf rfl rfl ⟨rfl, rfl, rfl⟩ (by decide) dX0_text_82
set_option maxHeartbeats 2000000 in
theorem ca_text_ok0 (f : Nat → Int32) (a : Nat → Nat → Int32) (hR1 : okR (a 1)) (hby : ∀ k, k < 50 → okN (a 1 (128 + k)) 255) (hg : ((whI (va_up (va_up a 4 (a 1)) 1 (txF (a 1) 0)) 0 (cl (a 1 4)) (nI 1) (nI 1) (nI 1) 5 0).2.2 && decide ((whI (va_up (va_up a 4 (a 1)) 1 (txF (a 1) 0)) 0 (cl (a 1 4)) (nI 1) (nI 1) (nI 1) 5 0).2.1 = cl (a 1 4))) = true) : CmT yX0_text cX0_text 3 [(0, 66, 67, 200), (0, 66, 76, 8)] 44 961 60 200 [.int (nI 0)] f a (nI 1) (fT (wB f 0 (cl (a 1 4)) (nI 1) (nI 1) (nI 1)) (whI (va_up (va_up a 4 (a 1)) 1 (txF (a 1) 0)) 0 (cl (a 1 4)) (nI 1) (nI 1) (nI 1) 5 0).2.1 ((whI (va_up (va_up a 4 (a 1)) 1 (txF (a 1) 0)) 0 (cl (a 1 4)) (nI 1) (nI 1) (nI 1) 5 0).2.2 && decide ((whI (va_up (va_up a 4 (a 1)) 1 (txF (a 1) 0)) 0 (cl (a 1 4)) (nI 1) (nI 1) (nI 1) 5 0).2.1 = cl (a 1 4)))) (va_up (va_up a 4 (a 1)) 1 (upd (txF (a 1) 0) 4 (nI 0))) := by
  refine CmT.ofM (by decide) rfl (Nat.le_of_ble_eq_true rfl) ?_
  intro p l e R s m args below meth c Q D dA h fc wk hd ri rt cw tx nm B S A0 b2 b0 ad adV ls hx hb hml hRf hRl hRc hRs htab hts hown hK hI hB hS0 hQ hN hIm hZ hSh hM hl hA hf h9 hE hsz hBS hR hretM
  have hl : lv_has ls 3 [(0, .ref (h 0)), (1, .int (nI 0))] := hl
  have hq := hR1.2.2.1
  have hq2 := hq.2
  obtain ⟨n, hn⟩ : ∃ n, n = cl (a 1 4) := ⟨_, rfl⟩
  refine lv_aload_n hx hb dX0_text_0 rfl (lv_at hl 0 rfl) ?_
  refine lv_iload_n hx hb dX0_text_1 rfl (lv_at hl 1 rfl) ?_
  refine lv_iconst (v := nI 0) hx hb dX0_text_2 (by decide) ?_
  refine lv_iconst (v := nI 1) hx hb dX0_text_3 (by decide) ?_
  refine st_callS (y := yX0_in) hx hb hml hown hts (cmX0_in (nI 0) (nI 0) (nI 1)) q330 q331 q61 q332 ndX0_in rfl (by rw [hRf]; decide) (by rw [hRl]; decide) (Nat.zero_le _) (Nat.zero_le _) hl.1 rfl (Nat.le_of_ble_eq_true rfl) dX0_text_4 ?_
  refine lv_iconst (v := nI 1) hx hb dX0_text_7 (by decide) ?_
  refine cm_needT hx hb hml hown hts hK hI hM q333 (by rw [hRf]; decide) (by rw [hRl]; decide) (Nat.zero_le _) (Nat.zero_le _) hl.1 (Nat.le_of_ble_eq_true rfl) dX0_text_8 (fun _ locs hM => ?_) (fun q => absurd (by decide) q)
  refine lv_aload_n hx hb dX0_text_11 rfl (lv_at hl 0 rfl) ?_
  refine c_get (v := .ref (hm0 h 0)) hx hb hts in_X0 hown hK (hM.1 0 _ rfl) rfl 1 (by decide) q287 rfl rfl dX0_text_12 ?_
  have nq := hK.F 9 rfl
  refine c_getN (v := .int (a 1 4)) hx hb hts in_X2 hown hK (hM.1 14 _ rfl) rfl 12 (by decide) nq rfl rfl dX0_text_15 ?_
  refine w_top (nI n) (by rw [hn]; exact hq.1) ?_
  refine lv_istore_n (lv' := [(2, .int (nI n)), (0, .ref (h 0)), (1, .int (nI 0))]) hx hb dX0_text_18 rfl hl (by decide) rfl (fun ls hl => ?_)
  refine lv_aload_n hx hb dX0_text_19 rfl (lv_at hl 1 rfl) ?_
  refine c_get (v := .ref (hm0 h 0)) hx hb hts in_X0 hown hK (hM.1 0 _ rfl) rfl 1 (by decide) q287 rfl rfl dX0_text_20 ?_
  refine lv_iconst (v := nI 0) hx hb dX0_text_23 (by decide) ?_
  refine cm_put_taped hx hb hts hown hK hI hM nq dX0_text_24 (fun H locs hM => ?_)
  refine lv_aload_n hx hb dX0_text_27 rfl (lv_at hl 1 rfl) ?_
  refine c_get (v := .ref (hm0 h 0)) hx hb hts in_X0 hown hK (hM.1 0 _ rfl) rfl 1 (by decide) q287 rfl rfl dX0_text_28 ?_
  have nq := hK.F 11 rfl
  refine c_getN (v := .ref (hm0 h 7)) hx hb hts in_X2 hown hK (hM.1 14 _ rfl) rfl 9 (by decide) nq rfl rfl dX0_text_31 ?_
  refine lv_iload_n hx hb dX0_text_34 rfl (lv_at hl 2 rfl) ?_
  refine c_new (ci := 17) (fs := [.null, .null, .int 0, .int 0, .int 0]) (C := RX16) (T := TX16) (N := 5) hx hb hts in_X16 tyX16 tyX16_ok hown q681 q682 q81 hK rfl (fun j hj => by rcases (show j = 0 ∨ j = 1 ∨ j = 2 ∨ j = 3 ∨ j = 4 by omega) with rfl | rfl | rfl | rfl | rfl <;> rfl) (by rw [hRc]; decide) (by rw [hRs]; decide) dX0_text_35 (fun H8 hX8 hz8 hk8 => ?_)
  have hM8 := hM.new hI (by omega) hk8
  have hs8 := hM.2.2.1
  refine lv_dup hx hb dX0_text_38 rfl ?_
  refine lv_iload_n hx hb dX0_text_39 rfl (lv_at hl 2 rfl) ?_
  have nl := hE.2.1 0 _ rfl
  refine lv_if_ne (tgt := 48) hx hb dX0_text_40 (by decide) (fun q => absurd rfl q) (fun _ => ?_)
  refine va_ldcS hx hb hown nl dX0_text_43 ?_
  refine lv_goto (tgt := 50) hx hb dX0_text_45 (by decide) ?_
  refine lv_aload_n hx hb dX0_text_50 rfl (lv_at hl 1 rfl) ?_
  refine c_get (v := .ref (hm0 h 0)) hx hb hts in_X0 hown hK (hM8.1 0 _ rfl) rfl 1 (by decide) q287 rfl rfl dX0_text_51 ?_
  have nq := hK.F 10 rfl
  refine c_getN (v := .ref (hm0 h 8)) hx hb hts in_X2 hown hK (hM8.1 14 _ rfl) rfl 11 (by decide) nq rfl rfl dX0_text_54 ?_
  refine lv_iload_n hx hb dX0_text_57 rfl (lv_at hl 0 rfl) ?_
  refine cg_callI1 (y := yX16_init) (x0 := H.size) (As := [.ref (ad 0), .ref (hm0 h 8), .int (nI n)]) hx hb hml hown hts hK hs8 (rd_init H.size (ad 0) (hm0 h 8) n) hX8 q685 q686 q81 q687 ndX16_init rfl (by rw [hRf]; decide) (by rw [hRl]; decide) (by rw [hRc]; decide) (by rw [hRs]; decide) hl.1 rfl (Nat.le_of_ble_eq_true rfl) dX0_text_58 ?_
  rintro _ H9 ⟨rfl, hX9⟩ hz9 hk9
  have hba := cm_lt hM.1 (hm0 h 8) ⟨14 + 8, by decide, rfl⟩
  have hBa : cAt D (hm0 h 8) (.inl (dA 1, 50, .inl (mwAr (upd (a 1) 4 (nI 0)) 8))) H9 := (cAt.kept (a := hm0 h 8) (hM8.1 22 _ rfl) (hk9 _ (by omega) (by omega)))
  have htb : tbOK (mwAr (upd (a 1) 4 (nI 0)) 8) (bT (va_up (va_up a 4 (a 1)) 1 (txF (a 1) 0)) 0) n := by
    refine ⟨by omega, fun k hk => ?_⟩
    have hb1 := hby k (by omega)
    have e1 : (bT (va_up (va_up a 4 (a 1)) 1 (txF (a 1) 0)) 0) k = a 1 (128 + k) := by
      show txF (a 1) 0 (198 + 50 * 0 + k) = _
      exact txF_i (by decide) (by omega)
    have e2 : mwAr (upd (a 1) 4 (nI 0)) 8 k = (a 1 (128 + k)).toInt8.toInt32 := by
      show (upd (a 1) 4 (nI 0) (128 + k)).toInt8.toInt32 = _
      rw [pk_un (by omega)]
    have hb2 := hb1.2
    rw [e1, e2]
    exact ⟨by rw [hb1.1]; exact b255 _ (by omega), hb1, rfl⟩
  have hrd0 : b0 ≤ H.size := by have := h9 s.heap.size (hf _ hsz); omega
  have hG2 := rdG_2 (a := va_up (va_up a 4 (a 1)) 1 (txF (a 1) 0)) (u := 0) (n := n) (by decide)
  have hGG : (rdR (bT (va_up (va_up a 4 (a 1)) 1 (txF (a 1) 0)) 0) n 0).2.2 = ((whI (va_up (va_up a 4 (a 1)) 1 (txF (a 1) 0)) 0 (n) (nI 1) (nI 1) (nI 1) 5 0).2.2 && decide ((whI (va_up (va_up a 4 (a 1)) 1 (txF (a 1) 0)) 0 (n) (nI 1) (nI 1) (nI 1) 5 0).2.1 = n)) := by
    show ((rdG (bT (va_up (va_up a 4 (a 1)) 1 (txF (a 1) 0)) 0) n 0).2.2 && decide ((rdG (bT (va_up (va_up a 4 (a 1)) 1 (txF (a 1) 0)) 0) n 0).2.1 = n)) = _
    rw [hG2]
  have hPL : (rdR (bT (va_up (va_up a 4 (a 1)) 1 (txF (a 1) 0)) 0) n 0).2.1 = (whI (va_up (va_up a 4 (a 1)) 1 (txF (a 1) 0)) 0 (n) (nI 1) (nI 1) (nI 1) 5 0).2.1 := by
    show (rdG (bT (va_up (va_up a 4 (a 1)) 1 (txF (a 1) 0)) 0) n 0).2.1 = _
    rw [hG2]
  have hmo : (rdR (bT (va_up (va_up a 4 (a 1)) 1 (txF (a 1) 0)) 0) n 0).2.1 ≤ n := ((whoF_mono (O := opD) (b := (bT (va_up (va_up a 4 (a 1)) 1 (txF (a 1) 0)) 0)) (facD_mono (O := opD) (b := (bT (va_up (va_up a 4 (a 1)) 1 (txF (a 1) 0)) 0)) (u := 0) 5) : mono n (whoF opD (bT (va_up (va_up a 4 (a 1)) 1 (txF (a 1) 0)) 0) n (facD opD (bT (va_up (va_up a 4 (a 1)) 1 (txF (a 1) 0)) 0) n 0 5))) 0 (Nat.zero_le _)).2
  have hUc : uC 0 (rdR (bT (va_up (va_up a 4 (a 1)) 1 (txF (a 1) 0)) 0) n 0) ≤ 51 ∧ uS 0 (rdR (bT (va_up (va_up a 4 (a 1)) 1 (txF (a 1) 0)) 0) n 0) ≤ 157 := by
    unfold uC uS
    constructor <;> split <;> omega
  rw [← hn] at hg
  refine cs_callN (y := yX16_read) (b := H.size) (C := RX16) (As := []) hx hb hml hown hts hK (fun U hU hW => hE.go hW (fun q g1 g2 => ?_)) (rd_read (D := D) (dA := dA) (b0 := b0) (ad := ad) (adV := adV) H.size (hm0 h 8) n (mwAr (upd (a 1) 4 (nI 0)) 8) (bT (va_up (va_up a 4 (a 1)) 1 (txF (a 1) 0)) 0) htb hrd0 (by omega) 0 (by decide) H9.size (by omega)) ⟨rfl, hX9, hBa⟩ (fun q hq => hq.elim (fun z => by rw [z]; exact hs8) (fun z => by omega)) (cAt.recv hK hX9 rfl) q705 q706 q707 q81 q708 ndX16_read rfl (by rw [hRf]; decide) (by rw [hRl]; decide) (by rw [hRc]; omega) (by rw [hRs]; omega) hl.1 rfl (Nat.le_of_ble_eq_true rfl) dX0_text_61 ?_ ?_
  · have hq0 : ¬ cmA h q := fun z => g2 (h9 q (hA q z))
    exact (hk9 q (by omega) (by omega)).trans ((hk8 q (by omega)).trans (hM.2.2.2.1 q g1 hq0))
  · intro v H1 hq7 hz3 hk3
    obtain ⟨hg3, x, rfl, hR3, hT3⟩ := hq7.ret
    have hz : H.size ≤ H1.size := by omega
    have hk : ∀ q, q < H.size → H1[q]? = H[q]? := fun q g1 => (hk3 q (by omega) (fun z => z.elim (fun w => by omega) (fun w => by omega))).trans ((hk9 q (by omega) (by omega)).trans (hk8 q g1))
    have hM9 := hM
    have hM1 := hM.new hI hz hk
    have hQ1 : cmPl D h B (a 1) ri rt cw tx H1 := hQ.at hB hN mwEq.rf mwEq.rf mwEq.rf hM1.2.2
    have hSh1 : shOK D h dA hd S a H1 := hSh.to hS0 ⟨rfl, rfl, rfl⟩ hM1.2.2
    have hS8 : va_S A0 s.heap H1 locs := hM1.2.2.wd hA
    have hM := hM1.here hI
    have hTA := any_term (s := s) (dA := dA) hK hT3
    refine cm_ast_text hx hb hK hI hM hTA 0 ⟨by decide, rfl⟩ dX0_text_64 (fun H5 locs hM => ?_)
    refine lv_iconst (v := nI 1) hx hb dX0_text_65 (by decide) ?_
    refine W.widen (k := 60) (n := 200) (by omega) (by omega) ?_
    have hM2 := ((hM.txt hI 0 (by decide)).cg (a' := va_up (va_up a 4 (a 1)) 1 (upd (txF (a 1) 0) 4 (nI 0))) (f' := fT (wB f 0 (cl (a 1 4)) (nI 1) (nI 1) (nI 1)) (whI (va_up (va_up a 4 (a 1)) 1 (txF (a 1) 0)) 0 (cl (a 1 4)) (nI 1) (nI 1) (nI 1) 5 0).2.1 ((whI (va_up (va_up a 4 (a 1)) 1 (txF (a 1) 0)) 0 (cl (a 1 4)) (nI 1) (nI 1) (nI 1) 5 0).2.2 && decide ((whI (va_up (va_up a 4 (a 1)) 1 (txF (a 1) 0)) 0 (cl (a 1 4)) (nI 1) (nI 1) (nI 1) 5 0).2.1 = cl (a 1 4)))) rfl rfl rfl rfl rfl)
    have hlt5 := hM.2.2.1
    refine hretM hM2.1 ?_ (hS8.tr (hM.2.2.wd hA)) rfl dX0_text_66
    have hQ3 := hQ1.at hB hN mwEq.rf mwEq.rf mwEq.rf hM.2.2
    obtain ⟨BB, hBB⟩ : ∃ BB : Nat → Prop, BB = fun q => B q ∨ (H.size ≤ q ∧ q < H5.size) := ⟨_, rfl⟩
    have hI1 : ∀ q, B q → BB q := fun q z => by rw [hBB]; exact Or.inl z
    have hrow : ∀ q, q < 198 → q ≠ 4 → q ≠ 6 + 0 → upd (txF (a 1) 0) 4 (nI 0) q = a 1 q := fun q h1 h2 h3 => by
      rw [pk_un h2, txF_o h3 (by omega)]
    have hr6 : upd (txF (a 1) 0) 4 (nI 0) (6 + 0) = a 1 4 := by
      rw [pk_un (by omega)]; exact txF_z
    have hT4 : TmOK D BB n H5 x (rdR (bT (va_up (va_up a 4 (a 1)) 1 (txF (a 1) 0)) 0) n 0).1 := by
      have e : (rdR (bT (va_up (va_up a 4 (a 1)) 1 (txF (a 1) 0)) 0) n 0).2.1 = n := by
        have h7 := hg3
        rw [show (rdR (bT (va_up (va_up a 4 (a 1)) 1 (txF (a 1) 0)) 0) n 0).2.2 = ((rdG (bT (va_up (va_up a 4 (a 1)) 1 (txF (a 1) 0)) 0) n 0).2.2 && decide ((rdG (bT (va_up (va_up a 4 (a 1)) 1 (txF (a 1) 0)) 0) n 0).2.1 = n)) from rfl, Bool.and_eq_true] at h7
        exact of_decide_eq_true h7.2
      rw [e] at hT3
      exact hT3.to (fun q g1 g2 => ⟨by rw [hBB]; exact Or.inr ⟨by omega, by omega⟩, hM.2.2.2.1 q g1 (fun z => by have := cm_lt hM9.1 q z; omega)⟩) n x _
    refine ⟨BB, S, ⟨fun q hq => ?_, hS0, fun q h1 h2 => ?_, fun q hq => ?_⟩, ⟨⟨fun w hw => ?_, fun u' hu' => ?_⟩, hQ3.2.1.in hN.2.1 hI1, hQ3.2.2.in hN.2.2 hI1⟩, ⟨?_, hN.2⟩, ?_, ⟨fun w h1 h2 => ?_, hZ.2⟩, hSh1.to hS0 ⟨rfl, rfl, rfl⟩ hM.2.2⟩
    · rw [hBB] at hq
      exact hq.elim (hB q) (fun z w => by have := cm_lt hM9.1 q w; omega)
    · rw [hBB] at h2
      exact h2.elim (hBS q h1) (fun z => by have := (hR q (Or.inr h1)).2; omega)
    · rw [hBB] at hq
      rcases hq with (z | z) | z
      · exact ⟨(hR q (Or.inl z)).1, by have := (hR q (Or.inl z)).2; omega⟩
      · exact ⟨hf _ (by omega), z.2⟩
      · exact ⟨(hR q (Or.inr z)).1, by have := (hR q (Or.inr z)).2; omega⟩
    · have hw : w < cl (upd (txF (a 1) 0) 4 (nI 0) 3) := hw
      rw [hrow 3 (by omega) (by omega) (by omega)] at hw
      have hw5 := hN.1
      obtain ⟨y, y1, y2, y3⟩ := hQ3.1.1 w hw
      refine ⟨y, y1, hI1 _ y2, ?_⟩
      show cAt D y (.inr (10 + cl (upd (txF (a 1) 0) 4 (nI 0) (58 + 14 * w + 0)), [.ref (h 2), .int (nI w), .int (upd (txF (a 1) 0) 4 (nI 0) (58 + 14 * w + 1))])) H5
      rw [hrow _ (by omega) (by omega) (by omega), hrow _ (by omega) (by omega) (by omega)]
      exact y3
    · show (upd (txF (a 1) 0) 4 (nI 0) (6 + u') < 0 ∧ va_up (tx 0) 0 (some x) u' = none) ∨ (¬ upd (txF (a 1) 0) 4 (nI 0) (6 + u') < 0 ∧ ∃ x' F, va_up (tx 0) 0 (some x) u' = some x' ∧ TmOK D BB 60 H5 x' F ∧ ∀ nm, F nm = txV (upd (txF (a 1) 0) 4 (nI 0)) u' nm)
      by_cases e : u' = 0
      · subst e
        refine Or.inr ⟨?_, x, _, va_us _ _ _, TmOK.mono n 60 x _ (by omega) hT4, fun nm => ?_⟩
        · rw [hr6, hq.1]; exact Int32.not_lt.mpr (nI_le (Nat.zero_le _) (by omega))
        · rw [← rdG_1 (r := upd (txF (a 1) 0) 4 (nI 0)) (by decide) nm, hr6, ← hn]
          have hbe : bT (rA (upd (txF (a 1) 0) 4 (nI 0))) 0 = (bT (va_up (va_up a 4 (a 1)) 1 (txF (a 1) 0)) 0) := by
            funext j
            show upd (txF (a 1) 0) 4 (nI 0) (198 + 50 * 0 + j) = txF (a 1) 0 (198 + 50 * 0 + j)
            exact pk_un (by omega)
          rw [hbe]; rfl
      · have e6 : upd (txF (a 1) 0) 4 (nI 0) (6 + u') = a 1 (6 + u') := hrow _ (by omega) (by omega) (by omega)
        rw [e6, va_un e]
        rcases hQ3.1.2 u' hu' with q | ⟨q1, x', F, q2, q3, q4⟩
        · exact Or.inl q
        · refine Or.inr ⟨q1, x', F, q2, q3.to (fun q _ hq => ⟨hI1 q hq, rfl⟩) 60 x' F, fun nm => ?_⟩
          rw [q4]
          refine (txV_l hu' e6 (fun j hj => ?_) nm).symm
          have h50 := ((hR1.1 u' hu').resolve_left q1).2
          rw [pk_un (by omega), txF_o (by omega) (by omega)]
    · show cl (upd (txF (a 1) 0) 4 (nI 0) 3) ≤ 5
      rw [hrow 3 (by omega) (by omega) (by omega)]; exact hN.1
    · exact hIm
    · have h1 : cl (upd (txF (a 1) 0) 4 (nI 0) 3) ≤ w := h1
      rw [hrow 3 (by omega) (by omega) (by omega)] at h1
      exact hZ.1 w h1 h2
  · intro x H1 hq hz3 hk3
    obtain ⟨hg3, -⟩ := hq.thr
    rw [hGG] at hg3
    exact absurd hg hg3
set_option maxHeartbeats 2000000 in
theorem ca_text_ok1 (f : Nat → Int32) (a : Nat → Nat → Int32) (hR1 : okR (a 1)) (hby : ∀ k, k < 50 → okN (a 1 (128 + k)) 255) (hg : ((whI (va_up (va_up a 4 (a 1)) 1 (txF (a 1) 1)) 1 (cl (a 1 4)) (nI 1) (nI 1) (nI 1) 5 0).2.2 && decide ((whI (va_up (va_up a 4 (a 1)) 1 (txF (a 1) 1)) 1 (cl (a 1 4)) (nI 1) (nI 1) (nI 1) 5 0).2.1 = cl (a 1 4))) = true) : CmT yX0_text cX0_text 3 [(0, 66, 67, 200), (0, 66, 76, 8)] 44 961 60 200 [.int (nI 1)] f a (nI 1) (fT (wB f 1 (cl (a 1 4)) (nI 1) (nI 1) (nI 1)) (whI (va_up (va_up a 4 (a 1)) 1 (txF (a 1) 1)) 1 (cl (a 1 4)) (nI 1) (nI 1) (nI 1) 5 0).2.1 ((whI (va_up (va_up a 4 (a 1)) 1 (txF (a 1) 1)) 1 (cl (a 1 4)) (nI 1) (nI 1) (nI 1) 5 0).2.2 && decide ((whI (va_up (va_up a 4 (a 1)) 1 (txF (a 1) 1)) 1 (cl (a 1 4)) (nI 1) (nI 1) (nI 1) 5 0).2.1 = cl (a 1 4)))) (va_up (va_up a 4 (a 1)) 1 (upd (txF (a 1) 1) 4 (nI 0))) := by
  refine CmT.ofM (by decide) rfl (Nat.le_of_ble_eq_true rfl) ?_
  intro p l e R s m args below meth c Q D dA h fc wk hd ri rt cw tx nm B S A0 b2 b0 ad adV ls hx hb hml hRf hRl hRc hRs htab hts hown hK hI hB hS0 hQ hN hIm hZ hSh hM hl hA hf h9 hE hsz hBS hR hretM
  have hl : lv_has ls 3 [(0, .ref (h 0)), (1, .int (nI 1))] := hl
  have hq := hR1.2.2.1
  have hq2 := hq.2
  obtain ⟨n, hn⟩ : ∃ n, n = cl (a 1 4) := ⟨_, rfl⟩
  refine lv_aload_n hx hb dX0_text_0 rfl (lv_at hl 0 rfl) ?_
  refine lv_iload_n hx hb dX0_text_1 rfl (lv_at hl 1 rfl) ?_
  refine lv_iconst (v := nI 0) hx hb dX0_text_2 (by decide) ?_
  refine lv_iconst (v := nI 1) hx hb dX0_text_3 (by decide) ?_
  refine st_callS (y := yX0_in) hx hb hml hown hts (cmX0_in (nI 1) (nI 0) (nI 1)) q330 q331 q61 q332 ndX0_in rfl (by rw [hRf]; decide) (by rw [hRl]; decide) (Nat.zero_le _) (Nat.zero_le _) hl.1 rfl (Nat.le_of_ble_eq_true rfl) dX0_text_4 ?_
  refine lv_iconst (v := nI 1) hx hb dX0_text_7 (by decide) ?_
  refine cm_needT hx hb hml hown hts hK hI hM q333 (by rw [hRf]; decide) (by rw [hRl]; decide) (Nat.zero_le _) (Nat.zero_le _) hl.1 (Nat.le_of_ble_eq_true rfl) dX0_text_8 (fun _ locs hM => ?_) (fun q => absurd (by decide) q)
  refine lv_aload_n hx hb dX0_text_11 rfl (lv_at hl 0 rfl) ?_
  refine c_get (v := .ref (hm0 h 0)) hx hb hts in_X0 hown hK (hM.1 0 _ rfl) rfl 1 (by decide) q287 rfl rfl dX0_text_12 ?_
  have nq := hK.F 9 rfl
  refine c_getN (v := .int (a 1 4)) hx hb hts in_X2 hown hK (hM.1 14 _ rfl) rfl 12 (by decide) nq rfl rfl dX0_text_15 ?_
  refine w_top (nI n) (by rw [hn]; exact hq.1) ?_
  refine lv_istore_n (lv' := [(2, .int (nI n)), (0, .ref (h 0)), (1, .int (nI 1))]) hx hb dX0_text_18 rfl hl (by decide) rfl (fun ls hl => ?_)
  refine lv_aload_n hx hb dX0_text_19 rfl (lv_at hl 1 rfl) ?_
  refine c_get (v := .ref (hm0 h 0)) hx hb hts in_X0 hown hK (hM.1 0 _ rfl) rfl 1 (by decide) q287 rfl rfl dX0_text_20 ?_
  refine lv_iconst (v := nI 0) hx hb dX0_text_23 (by decide) ?_
  refine cm_put_taped hx hb hts hown hK hI hM nq dX0_text_24 (fun H locs hM => ?_)
  refine lv_aload_n hx hb dX0_text_27 rfl (lv_at hl 1 rfl) ?_
  refine c_get (v := .ref (hm0 h 0)) hx hb hts in_X0 hown hK (hM.1 0 _ rfl) rfl 1 (by decide) q287 rfl rfl dX0_text_28 ?_
  have nq := hK.F 11 rfl
  refine c_getN (v := .ref (hm0 h 7)) hx hb hts in_X2 hown hK (hM.1 14 _ rfl) rfl 9 (by decide) nq rfl rfl dX0_text_31 ?_
  refine lv_iload_n hx hb dX0_text_34 rfl (lv_at hl 2 rfl) ?_
  refine c_new (ci := 17) (fs := [.null, .null, .int 0, .int 0, .int 0]) (C := RX16) (T := TX16) (N := 5) hx hb hts in_X16 tyX16 tyX16_ok hown q681 q682 q81 hK rfl (fun j hj => by rcases (show j = 0 ∨ j = 1 ∨ j = 2 ∨ j = 3 ∨ j = 4 by omega) with rfl | rfl | rfl | rfl | rfl <;> rfl) (by rw [hRc]; decide) (by rw [hRs]; decide) dX0_text_35 (fun H8 hX8 hz8 hk8 => ?_)
  have hM8 := hM.new hI (by omega) hk8
  have hs8 := hM.2.2.1
  refine lv_dup hx hb dX0_text_38 rfl ?_
  refine lv_iload_n hx hb dX0_text_39 rfl (lv_at hl 2 rfl) ?_
  have nl := hE.2.1 1 _ rfl
  refine lv_if_ne (tgt := 48) hx hb dX0_text_40 (by decide) (fun _ => ?_) (fun q => absurd q (by decide))
  refine va_ldcS hx hb hown nl dX0_text_48 ?_
  refine lv_aload_n hx hb dX0_text_50 rfl (lv_at hl 1 rfl) ?_
  refine c_get (v := .ref (hm0 h 0)) hx hb hts in_X0 hown hK (hM8.1 0 _ rfl) rfl 1 (by decide) q287 rfl rfl dX0_text_51 ?_
  have nq := hK.F 10 rfl
  refine c_getN (v := .ref (hm0 h 8)) hx hb hts in_X2 hown hK (hM8.1 14 _ rfl) rfl 11 (by decide) nq rfl rfl dX0_text_54 ?_
  refine lv_iload_n hx hb dX0_text_57 rfl (lv_at hl 0 rfl) ?_
  refine cg_callI1 (y := yX16_init) (x0 := H.size) (As := [.ref (ad 1), .ref (hm0 h 8), .int (nI n)]) hx hb hml hown hts hK hs8 (rd_init H.size (ad 1) (hm0 h 8) n) hX8 q685 q686 q81 q687 ndX16_init rfl (by rw [hRf]; decide) (by rw [hRl]; decide) (by rw [hRc]; decide) (by rw [hRs]; decide) hl.1 rfl (Nat.le_of_ble_eq_true rfl) dX0_text_58 ?_
  rintro _ H9 ⟨rfl, hX9⟩ hz9 hk9
  have hba := cm_lt hM.1 (hm0 h 8) ⟨14 + 8, by decide, rfl⟩
  have hBa : cAt D (hm0 h 8) (.inl (dA 1, 50, .inl (mwAr (upd (a 1) 4 (nI 0)) 8))) H9 := (cAt.kept (a := hm0 h 8) (hM8.1 22 _ rfl) (hk9 _ (by omega) (by omega)))
  have htb : tbOK (mwAr (upd (a 1) 4 (nI 0)) 8) (bT (va_up (va_up a 4 (a 1)) 1 (txF (a 1) 1)) 1) n := by
    refine ⟨by omega, fun k hk => ?_⟩
    have hb1 := hby k (by omega)
    have e1 : (bT (va_up (va_up a 4 (a 1)) 1 (txF (a 1) 1)) 1) k = a 1 (128 + k) := by
      show txF (a 1) 1 (198 + 50 * 1 + k) = _
      exact txF_i (by decide) (by omega)
    have e2 : mwAr (upd (a 1) 4 (nI 0)) 8 k = (a 1 (128 + k)).toInt8.toInt32 := by
      show (upd (a 1) 4 (nI 0) (128 + k)).toInt8.toInt32 = _
      rw [pk_un (by omega)]
    have hb2 := hb1.2
    rw [e1, e2]
    exact ⟨by rw [hb1.1]; exact b255 _ (by omega), hb1, rfl⟩
  have hrd0 : b0 ≤ H.size := by have := h9 s.heap.size (hf _ hsz); omega
  have hG2 := rdG_2 (a := va_up (va_up a 4 (a 1)) 1 (txF (a 1) 1)) (u := 1) (n := n) (by decide)
  have hGG : (rdR (bT (va_up (va_up a 4 (a 1)) 1 (txF (a 1) 1)) 1) n 1).2.2 = ((whI (va_up (va_up a 4 (a 1)) 1 (txF (a 1) 1)) 1 (n) (nI 1) (nI 1) (nI 1) 5 0).2.2 && decide ((whI (va_up (va_up a 4 (a 1)) 1 (txF (a 1) 1)) 1 (n) (nI 1) (nI 1) (nI 1) 5 0).2.1 = n)) := by
    show ((rdG (bT (va_up (va_up a 4 (a 1)) 1 (txF (a 1) 1)) 1) n 1).2.2 && decide ((rdG (bT (va_up (va_up a 4 (a 1)) 1 (txF (a 1) 1)) 1) n 1).2.1 = n)) = _
    rw [hG2]
  have hPL : (rdR (bT (va_up (va_up a 4 (a 1)) 1 (txF (a 1) 1)) 1) n 1).2.1 = (whI (va_up (va_up a 4 (a 1)) 1 (txF (a 1) 1)) 1 (n) (nI 1) (nI 1) (nI 1) 5 0).2.1 := by
    show (rdG (bT (va_up (va_up a 4 (a 1)) 1 (txF (a 1) 1)) 1) n 1).2.1 = _
    rw [hG2]
  have hmo : (rdR (bT (va_up (va_up a 4 (a 1)) 1 (txF (a 1) 1)) 1) n 1).2.1 ≤ n := ((whoF_mono (O := opD) (b := (bT (va_up (va_up a 4 (a 1)) 1 (txF (a 1) 1)) 1)) (facD_mono (O := opD) (b := (bT (va_up (va_up a 4 (a 1)) 1 (txF (a 1) 1)) 1)) (u := 1) 5) : mono n (whoF opD (bT (va_up (va_up a 4 (a 1)) 1 (txF (a 1) 1)) 1) n (facD opD (bT (va_up (va_up a 4 (a 1)) 1 (txF (a 1) 1)) 1) n 1 5))) 0 (Nat.zero_le _)).2
  have hUc : uC 0 (rdR (bT (va_up (va_up a 4 (a 1)) 1 (txF (a 1) 1)) 1) n 1) ≤ 51 ∧ uS 0 (rdR (bT (va_up (va_up a 4 (a 1)) 1 (txF (a 1) 1)) 1) n 1) ≤ 157 := by
    unfold uC uS
    constructor <;> split <;> omega
  rw [← hn] at hg
  refine cs_callN (y := yX16_read) (b := H.size) (C := RX16) (As := []) hx hb hml hown hts hK (fun U hU hW => hE.go hW (fun q g1 g2 => ?_)) (rd_read (D := D) (dA := dA) (b0 := b0) (ad := ad) (adV := adV) H.size (hm0 h 8) n (mwAr (upd (a 1) 4 (nI 0)) 8) (bT (va_up (va_up a 4 (a 1)) 1 (txF (a 1) 1)) 1) htb hrd0 (by omega) 1 (by decide) H9.size (by omega)) ⟨rfl, hX9, hBa⟩ (fun q hq => hq.elim (fun z => by rw [z]; exact hs8) (fun z => by omega)) (cAt.recv hK hX9 rfl) q705 q706 q707 q81 q708 ndX16_read rfl (by rw [hRf]; decide) (by rw [hRl]; decide) (by rw [hRc]; omega) (by rw [hRs]; omega) hl.1 rfl (Nat.le_of_ble_eq_true rfl) dX0_text_61 ?_ ?_
  · have hq0 : ¬ cmA h q := fun z => g2 (h9 q (hA q z))
    exact (hk9 q (by omega) (by omega)).trans ((hk8 q (by omega)).trans (hM.2.2.2.1 q g1 hq0))
  · intro v H1 hq7 hz3 hk3
    obtain ⟨hg3, x, rfl, hR3, hT3⟩ := hq7.ret
    have hz : H.size ≤ H1.size := by omega
    have hk : ∀ q, q < H.size → H1[q]? = H[q]? := fun q g1 => (hk3 q (by omega) (fun z => z.elim (fun w => by omega) (fun w => by omega))).trans ((hk9 q (by omega) (by omega)).trans (hk8 q g1))
    have hM9 := hM
    have hM1 := hM.new hI hz hk
    have hQ1 : cmPl D h B (a 1) ri rt cw tx H1 := hQ.at hB hN mwEq.rf mwEq.rf mwEq.rf hM1.2.2
    have hSh1 : shOK D h dA hd S a H1 := hSh.to hS0 ⟨rfl, rfl, rfl⟩ hM1.2.2
    have hS8 : va_S A0 s.heap H1 locs := hM1.2.2.wd hA
    have hM := hM1.here hI
    have hTA := any_term (s := s) (dA := dA) hK hT3
    refine cm_ast_text hx hb hK hI hM hTA 1 ⟨by decide, rfl⟩ dX0_text_64 (fun H5 locs hM => ?_)
    refine lv_iconst (v := nI 1) hx hb dX0_text_65 (by decide) ?_
    refine W.widen (k := 60) (n := 200) (by omega) (by omega) ?_
    have hM2 := ((hM.txt hI 1 (by decide)).cg (a' := va_up (va_up a 4 (a 1)) 1 (upd (txF (a 1) 1) 4 (nI 0))) (f' := fT (wB f 1 (cl (a 1 4)) (nI 1) (nI 1) (nI 1)) (whI (va_up (va_up a 4 (a 1)) 1 (txF (a 1) 1)) 1 (cl (a 1 4)) (nI 1) (nI 1) (nI 1) 5 0).2.1 ((whI (va_up (va_up a 4 (a 1)) 1 (txF (a 1) 1)) 1 (cl (a 1 4)) (nI 1) (nI 1) (nI 1) 5 0).2.2 && decide ((whI (va_up (va_up a 4 (a 1)) 1 (txF (a 1) 1)) 1 (cl (a 1 4)) (nI 1) (nI 1) (nI 1) 5 0).2.1 = cl (a 1 4)))) rfl rfl rfl rfl rfl)
    have hlt5 := hM.2.2.1
    refine hretM hM2.1 ?_ (hS8.tr (hM.2.2.wd hA)) rfl dX0_text_66
    have hQ3 := hQ1.at hB hN mwEq.rf mwEq.rf mwEq.rf hM.2.2
    obtain ⟨BB, hBB⟩ : ∃ BB : Nat → Prop, BB = fun q => B q ∨ (H.size ≤ q ∧ q < H5.size) := ⟨_, rfl⟩
    have hI1 : ∀ q, B q → BB q := fun q z => by rw [hBB]; exact Or.inl z
    have hrow : ∀ q, q < 198 → q ≠ 4 → q ≠ 6 + 1 → upd (txF (a 1) 1) 4 (nI 0) q = a 1 q := fun q h1 h2 h3 => by
      rw [pk_un h2, txF_o h3 (by omega)]
    have hr6 : upd (txF (a 1) 1) 4 (nI 0) (6 + 1) = a 1 4 := by
      rw [pk_un (by omega)]; exact txF_z
    have hT4 : TmOK D BB n H5 x (rdR (bT (va_up (va_up a 4 (a 1)) 1 (txF (a 1) 1)) 1) n 1).1 := by
      have e : (rdR (bT (va_up (va_up a 4 (a 1)) 1 (txF (a 1) 1)) 1) n 1).2.1 = n := by
        have h7 := hg3
        rw [show (rdR (bT (va_up (va_up a 4 (a 1)) 1 (txF (a 1) 1)) 1) n 1).2.2 = ((rdG (bT (va_up (va_up a 4 (a 1)) 1 (txF (a 1) 1)) 1) n 1).2.2 && decide ((rdG (bT (va_up (va_up a 4 (a 1)) 1 (txF (a 1) 1)) 1) n 1).2.1 = n)) from rfl, Bool.and_eq_true] at h7
        exact of_decide_eq_true h7.2
      rw [e] at hT3
      exact hT3.to (fun q g1 g2 => ⟨by rw [hBB]; exact Or.inr ⟨by omega, by omega⟩, hM.2.2.2.1 q g1 (fun z => by have := cm_lt hM9.1 q z; omega)⟩) n x _
    refine ⟨BB, S, ⟨fun q hq => ?_, hS0, fun q h1 h2 => ?_, fun q hq => ?_⟩, ⟨⟨fun w hw => ?_, fun u' hu' => ?_⟩, hQ3.2.1.in hN.2.1 hI1, hQ3.2.2.in hN.2.2 hI1⟩, ⟨?_, hN.2⟩, ?_, ⟨fun w h1 h2 => ?_, hZ.2⟩, hSh1.to hS0 ⟨rfl, rfl, rfl⟩ hM.2.2⟩
    · rw [hBB] at hq
      exact hq.elim (hB q) (fun z w => by have := cm_lt hM9.1 q w; omega)
    · rw [hBB] at h2
      exact h2.elim (hBS q h1) (fun z => by have := (hR q (Or.inr h1)).2; omega)
    · rw [hBB] at hq
      rcases hq with (z | z) | z
      · exact ⟨(hR q (Or.inl z)).1, by have := (hR q (Or.inl z)).2; omega⟩
      · exact ⟨hf _ (by omega), z.2⟩
      · exact ⟨(hR q (Or.inr z)).1, by have := (hR q (Or.inr z)).2; omega⟩
    · have hw : w < cl (upd (txF (a 1) 1) 4 (nI 0) 3) := hw
      rw [hrow 3 (by omega) (by omega) (by omega)] at hw
      have hw5 := hN.1
      obtain ⟨y, y1, y2, y3⟩ := hQ3.1.1 w hw
      refine ⟨y, y1, hI1 _ y2, ?_⟩
      show cAt D y (.inr (10 + cl (upd (txF (a 1) 1) 4 (nI 0) (58 + 14 * w + 0)), [.ref (h 2), .int (nI w), .int (upd (txF (a 1) 1) 4 (nI 0) (58 + 14 * w + 1))])) H5
      rw [hrow _ (by omega) (by omega) (by omega), hrow _ (by omega) (by omega) (by omega)]
      exact y3
    · show (upd (txF (a 1) 1) 4 (nI 0) (6 + u') < 0 ∧ va_up (tx 0) 1 (some x) u' = none) ∨ (¬ upd (txF (a 1) 1) 4 (nI 0) (6 + u') < 0 ∧ ∃ x' F, va_up (tx 0) 1 (some x) u' = some x' ∧ TmOK D BB 60 H5 x' F ∧ ∀ nm, F nm = txV (upd (txF (a 1) 1) 4 (nI 0)) u' nm)
      by_cases e : u' = 1
      · subst e
        refine Or.inr ⟨?_, x, _, va_us _ _ _, TmOK.mono n 60 x _ (by omega) hT4, fun nm => ?_⟩
        · rw [hr6, hq.1]; exact Int32.not_lt.mpr (nI_le (Nat.zero_le _) (by omega))
        · rw [← rdG_1 (r := upd (txF (a 1) 1) 4 (nI 0)) (by decide) nm, hr6, ← hn]
          have hbe : bT (rA (upd (txF (a 1) 1) 4 (nI 0))) 1 = (bT (va_up (va_up a 4 (a 1)) 1 (txF (a 1) 1)) 1) := by
            funext j
            show upd (txF (a 1) 1) 4 (nI 0) (198 + 50 * 1 + j) = txF (a 1) 1 (198 + 50 * 1 + j)
            exact pk_un (by omega)
          rw [hbe]; rfl
      · have e6 : upd (txF (a 1) 1) 4 (nI 0) (6 + u') = a 1 (6 + u') := hrow _ (by omega) (by omega) (by omega)
        rw [e6, va_un e]
        rcases hQ3.1.2 u' hu' with q | ⟨q1, x', F, q2, q3, q4⟩
        · exact Or.inl q
        · refine Or.inr ⟨q1, x', F, q2, q3.to (fun q _ hq => ⟨hI1 q hq, rfl⟩) 60 x' F, fun nm => ?_⟩
          rw [q4]
          refine (txV_l hu' e6 (fun j hj => ?_) nm).symm
          have h50 := ((hR1.1 u' hu').resolve_left q1).2
          rw [pk_un (by omega), txF_o (by omega) (by omega)]
    · show cl (upd (txF (a 1) 1) 4 (nI 0) 3) ≤ 5
      rw [hrow 3 (by omega) (by omega) (by omega)]; exact hN.1
    · exact hIm
    · have h1 : cl (upd (txF (a 1) 1) 4 (nI 0) 3) ≤ w := h1
      rw [hrow 3 (by omega) (by omega) (by omega)] at h1
      exact hZ.1 w h1 h2
  · intro x H1 hq hz3 hk3
    obtain ⟨hg3, -⟩ := hq.thr
    rw [hGG] at hg3
    exact absurd hg hg3
set_option maxHeartbeats 2000000 in
theorem ca_text_x0 (f : Nat → Int32) (a : Nat → Nat → Int32) (hR1 : okR (a 1)) (hby : ∀ k, k < 50 → okN (a 1 (128 + k)) 255) (hg : ¬ ((whI (va_up (va_up a 4 (a 1)) 1 (txF (a 1) 0)) 0 (cl (a 1 4)) (nI 1) (nI 1) (nI 1) 5 0).2.2 && decide ((whI (va_up (va_up a 4 (a 1)) 1 (txF (a 1) 0)) 0 (cl (a 1 4)) (nI 1) (nI 1) (nI 1) 5 0).2.1 = cl (a 1 4))) = true) : CmT yX0_text cX0_text 3 [(0, 66, 67, 200), (0, 66, 76, 8)] 44 961 60 200 [.int (nI 0)] f a ((-10 : Int32) - nI (whI (va_up (va_up a 4 (a 1)) 1 (txF (a 1) 0)) 0 (cl (a 1 4)) (nI 1) (nI 1) (nI 1) 5 0).2.1) (fT (wB f 0 (cl (a 1 4)) (nI 1) (nI 1) (nI 1)) (whI (va_up (va_up a 4 (a 1)) 1 (txF (a 1) 0)) 0 (cl (a 1 4)) (nI 1) (nI 1) (nI 1) 5 0).2.1 ((whI (va_up (va_up a 4 (a 1)) 1 (txF (a 1) 0)) 0 (cl (a 1 4)) (nI 1) (nI 1) (nI 1) 5 0).2.2 && decide ((whI (va_up (va_up a 4 (a 1)) 1 (txF (a 1) 0)) 0 (cl (a 1 4)) (nI 1) (nI 1) (nI 1) 5 0).2.1 = cl (a 1 4)))) (va_up (va_up a 4 (a 1)) 1 (upd (a 1) 4 (nI 0))) := by
  refine CmT.ofM (by decide) rfl (Nat.le_of_ble_eq_true rfl) ?_
  intro p l e R s m args below meth c Q D dA h fc wk hd ri rt cw tx nm B S A0 b2 b0 ad adV ls hx hb hml hRf hRl hRc hRs htab hts hown hK hI hB hS0 hQ hN hIm hZ hSh hM hl hA hf h9 hE hsz hBS hR hretM
  have hl : lv_has ls 3 [(0, .ref (h 0)), (1, .int (nI 0))] := hl
  have hq := hR1.2.2.1
  have hq2 := hq.2
  obtain ⟨n, hn⟩ : ∃ n, n = cl (a 1 4) := ⟨_, rfl⟩
  refine lv_aload_n hx hb dX0_text_0 rfl (lv_at hl 0 rfl) ?_
  refine lv_iload_n hx hb dX0_text_1 rfl (lv_at hl 1 rfl) ?_
  refine lv_iconst (v := nI 0) hx hb dX0_text_2 (by decide) ?_
  refine lv_iconst (v := nI 1) hx hb dX0_text_3 (by decide) ?_
  refine st_callS (y := yX0_in) hx hb hml hown hts (cmX0_in (nI 0) (nI 0) (nI 1)) q330 q331 q61 q332 ndX0_in rfl (by rw [hRf]; decide) (by rw [hRl]; decide) (Nat.zero_le _) (Nat.zero_le _) hl.1 rfl (Nat.le_of_ble_eq_true rfl) dX0_text_4 ?_
  refine lv_iconst (v := nI 1) hx hb dX0_text_7 (by decide) ?_
  refine cm_needT hx hb hml hown hts hK hI hM q333 (by rw [hRf]; decide) (by rw [hRl]; decide) (Nat.zero_le _) (Nat.zero_le _) hl.1 (Nat.le_of_ble_eq_true rfl) dX0_text_8 (fun _ locs hM => ?_) (fun q => absurd (by decide) q)
  refine lv_aload_n hx hb dX0_text_11 rfl (lv_at hl 0 rfl) ?_
  refine c_get (v := .ref (hm0 h 0)) hx hb hts in_X0 hown hK (hM.1 0 _ rfl) rfl 1 (by decide) q287 rfl rfl dX0_text_12 ?_
  have nq := hK.F 9 rfl
  refine c_getN (v := .int (a 1 4)) hx hb hts in_X2 hown hK (hM.1 14 _ rfl) rfl 12 (by decide) nq rfl rfl dX0_text_15 ?_
  refine w_top (nI n) (by rw [hn]; exact hq.1) ?_
  refine lv_istore_n (lv' := [(2, .int (nI n)), (0, .ref (h 0)), (1, .int (nI 0))]) hx hb dX0_text_18 rfl hl (by decide) rfl (fun ls hl => ?_)
  refine lv_aload_n hx hb dX0_text_19 rfl (lv_at hl 1 rfl) ?_
  refine c_get (v := .ref (hm0 h 0)) hx hb hts in_X0 hown hK (hM.1 0 _ rfl) rfl 1 (by decide) q287 rfl rfl dX0_text_20 ?_
  refine lv_iconst (v := nI 0) hx hb dX0_text_23 (by decide) ?_
  refine cm_put_taped hx hb hts hown hK hI hM nq dX0_text_24 (fun H locs hM => ?_)
  refine lv_aload_n hx hb dX0_text_27 rfl (lv_at hl 1 rfl) ?_
  refine c_get (v := .ref (hm0 h 0)) hx hb hts in_X0 hown hK (hM.1 0 _ rfl) rfl 1 (by decide) q287 rfl rfl dX0_text_28 ?_
  have nq := hK.F 11 rfl
  refine c_getN (v := .ref (hm0 h 7)) hx hb hts in_X2 hown hK (hM.1 14 _ rfl) rfl 9 (by decide) nq rfl rfl dX0_text_31 ?_
  refine lv_iload_n hx hb dX0_text_34 rfl (lv_at hl 2 rfl) ?_
  refine c_new (ci := 17) (fs := [.null, .null, .int 0, .int 0, .int 0]) (C := RX16) (T := TX16) (N := 5) hx hb hts in_X16 tyX16 tyX16_ok hown q681 q682 q81 hK rfl (fun j hj => by rcases (show j = 0 ∨ j = 1 ∨ j = 2 ∨ j = 3 ∨ j = 4 by omega) with rfl | rfl | rfl | rfl | rfl <;> rfl) (by rw [hRc]; decide) (by rw [hRs]; decide) dX0_text_35 (fun H8 hX8 hz8 hk8 => ?_)
  have hM8 := hM.new hI (by omega) hk8
  have hs8 := hM.2.2.1
  refine lv_dup hx hb dX0_text_38 rfl ?_
  refine lv_iload_n hx hb dX0_text_39 rfl (lv_at hl 2 rfl) ?_
  have nl := hE.2.1 0 _ rfl
  refine lv_if_ne (tgt := 48) hx hb dX0_text_40 (by decide) (fun q => absurd rfl q) (fun _ => ?_)
  refine va_ldcS hx hb hown nl dX0_text_43 ?_
  refine lv_goto (tgt := 50) hx hb dX0_text_45 (by decide) ?_
  refine lv_aload_n hx hb dX0_text_50 rfl (lv_at hl 1 rfl) ?_
  refine c_get (v := .ref (hm0 h 0)) hx hb hts in_X0 hown hK (hM8.1 0 _ rfl) rfl 1 (by decide) q287 rfl rfl dX0_text_51 ?_
  have nq := hK.F 10 rfl
  refine c_getN (v := .ref (hm0 h 8)) hx hb hts in_X2 hown hK (hM8.1 14 _ rfl) rfl 11 (by decide) nq rfl rfl dX0_text_54 ?_
  refine lv_iload_n hx hb dX0_text_57 rfl (lv_at hl 0 rfl) ?_
  refine cg_callI1 (y := yX16_init) (x0 := H.size) (As := [.ref (ad 0), .ref (hm0 h 8), .int (nI n)]) hx hb hml hown hts hK hs8 (rd_init H.size (ad 0) (hm0 h 8) n) hX8 q685 q686 q81 q687 ndX16_init rfl (by rw [hRf]; decide) (by rw [hRl]; decide) (by rw [hRc]; decide) (by rw [hRs]; decide) hl.1 rfl (Nat.le_of_ble_eq_true rfl) dX0_text_58 ?_
  rintro _ H9 ⟨rfl, hX9⟩ hz9 hk9
  have hba := cm_lt hM.1 (hm0 h 8) ⟨14 + 8, by decide, rfl⟩
  have hBa : cAt D (hm0 h 8) (.inl (dA 1, 50, .inl (mwAr (upd (a 1) 4 (nI 0)) 8))) H9 := (cAt.kept (a := hm0 h 8) (hM8.1 22 _ rfl) (hk9 _ (by omega) (by omega)))
  have htb : tbOK (mwAr (upd (a 1) 4 (nI 0)) 8) (bT (va_up (va_up a 4 (a 1)) 1 (txF (a 1) 0)) 0) n := by
    refine ⟨by omega, fun k hk => ?_⟩
    have hb1 := hby k (by omega)
    have e1 : (bT (va_up (va_up a 4 (a 1)) 1 (txF (a 1) 0)) 0) k = a 1 (128 + k) := by
      show txF (a 1) 0 (198 + 50 * 0 + k) = _
      exact txF_i (by decide) (by omega)
    have e2 : mwAr (upd (a 1) 4 (nI 0)) 8 k = (a 1 (128 + k)).toInt8.toInt32 := by
      show (upd (a 1) 4 (nI 0) (128 + k)).toInt8.toInt32 = _
      rw [pk_un (by omega)]
    have hb2 := hb1.2
    rw [e1, e2]
    exact ⟨by rw [hb1.1]; exact b255 _ (by omega), hb1, rfl⟩
  have hrd0 : b0 ≤ H.size := by have := h9 s.heap.size (hf _ hsz); omega
  have hG2 := rdG_2 (a := va_up (va_up a 4 (a 1)) 1 (txF (a 1) 0)) (u := 0) (n := n) (by decide)
  have hGG : (rdR (bT (va_up (va_up a 4 (a 1)) 1 (txF (a 1) 0)) 0) n 0).2.2 = ((whI (va_up (va_up a 4 (a 1)) 1 (txF (a 1) 0)) 0 (n) (nI 1) (nI 1) (nI 1) 5 0).2.2 && decide ((whI (va_up (va_up a 4 (a 1)) 1 (txF (a 1) 0)) 0 (n) (nI 1) (nI 1) (nI 1) 5 0).2.1 = n)) := by
    show ((rdG (bT (va_up (va_up a 4 (a 1)) 1 (txF (a 1) 0)) 0) n 0).2.2 && decide ((rdG (bT (va_up (va_up a 4 (a 1)) 1 (txF (a 1) 0)) 0) n 0).2.1 = n)) = _
    rw [hG2]
  have hPL : (rdR (bT (va_up (va_up a 4 (a 1)) 1 (txF (a 1) 0)) 0) n 0).2.1 = (whI (va_up (va_up a 4 (a 1)) 1 (txF (a 1) 0)) 0 (n) (nI 1) (nI 1) (nI 1) 5 0).2.1 := by
    show (rdG (bT (va_up (va_up a 4 (a 1)) 1 (txF (a 1) 0)) 0) n 0).2.1 = _
    rw [hG2]
  have hmo : (rdR (bT (va_up (va_up a 4 (a 1)) 1 (txF (a 1) 0)) 0) n 0).2.1 ≤ n := ((whoF_mono (O := opD) (b := (bT (va_up (va_up a 4 (a 1)) 1 (txF (a 1) 0)) 0)) (facD_mono (O := opD) (b := (bT (va_up (va_up a 4 (a 1)) 1 (txF (a 1) 0)) 0)) (u := 0) 5) : mono n (whoF opD (bT (va_up (va_up a 4 (a 1)) 1 (txF (a 1) 0)) 0) n (facD opD (bT (va_up (va_up a 4 (a 1)) 1 (txF (a 1) 0)) 0) n 0 5))) 0 (Nat.zero_le _)).2
  have hUc : uC 0 (rdR (bT (va_up (va_up a 4 (a 1)) 1 (txF (a 1) 0)) 0) n 0) ≤ 51 ∧ uS 0 (rdR (bT (va_up (va_up a 4 (a 1)) 1 (txF (a 1) 0)) 0) n 0) ≤ 157 := by
    unfold uC uS
    constructor <;> split <;> omega
  rw [← hn] at hg
  refine cs_callN (y := yX16_read) (b := H.size) (C := RX16) (As := []) hx hb hml hown hts hK (fun U hU hW => hE.go hW (fun q g1 g2 => ?_)) (rd_read (D := D) (dA := dA) (b0 := b0) (ad := ad) (adV := adV) H.size (hm0 h 8) n (mwAr (upd (a 1) 4 (nI 0)) 8) (bT (va_up (va_up a 4 (a 1)) 1 (txF (a 1) 0)) 0) htb hrd0 (by omega) 0 (by decide) H9.size (by omega)) ⟨rfl, hX9, hBa⟩ (fun q hq => hq.elim (fun z => by rw [z]; exact hs8) (fun z => by omega)) (cAt.recv hK hX9 rfl) q705 q706 q707 q81 q708 ndX16_read rfl (by rw [hRf]; decide) (by rw [hRl]; decide) (by rw [hRc]; omega) (by rw [hRs]; omega) hl.1 rfl (Nat.le_of_ble_eq_true rfl) dX0_text_61 ?_ ?_
  · have hq0 : ¬ cmA h q := fun z => g2 (h9 q (hA q z))
    exact (hk9 q (by omega) (by omega)).trans ((hk8 q (by omega)).trans (hM.2.2.2.1 q g1 hq0))
  · intro v H1 hq hz3 hk3
    obtain ⟨hg3, -⟩ := hq.ret
    rw [hGG] at hg3
    exact absurd hg3 hg
  · intro x H1 hq hz3 hk3
    obtain ⟨hg3, hxb, hF⟩ := hq.thr
    have hz : H.size ≤ H1.size := by omega
    have hk : ∀ q, q < H.size → H1[q]? = H[q]? := fun q g1 => (hk3 q (by omega) (fun z => z.elim (fun w => by omega) (fun w => by omega))).trans ((hk9 q (by omega) (by omega)).trans (hk8 q g1))
    have hM9 := hM
    have hM1 := hM.new hI hz hk
    have hQ1 : cmPl D h B (a 1) ri rt cw tx H1 := hQ.at hB hN mwEq.rf mwEq.rf mwEq.rf hM1.2.2
    have hSh1 : shOK D h dA hd S a H1 := hSh.to hS0 ⟨rfl, rfl, rfl⟩ hM1.2.2
    have hS8 : va_S A0 s.heap H1 locs := hM1.2.2.wd hA
    refine WT.catch (own := RX0) (C := RX18) (CE := RX18) (index := 200) (hpc := 67) hown (hts _ q680) (by decide) [] [⟨0, 66, 76, 8⟩] ⟨0, 66, 67, 200⟩ htab (fun y hy => by cases hy) rfl rfl rfl (cAt.recv hK hF rfl) (hK.C 5 rfl) ?_
    refine lv_astore_n (lv' := [(2, .ref x), (0, .ref (h 0)), (1, .int (nI 0))]) hx hb dX0_text_67 rfl hl (by decide) rfl (fun ls hl => ?_)
    refine lv_bipush (v := (-10 : Int32)) hx hb dX0_text_68 (by decide) ?_
    refine lv_aload_n hx hb dX0_text_70 rfl (lv_at hl 0 rfl) ?_
    have nq := hK.F 12 rfl
    refine c_getN (v := .int (nI (rdR (bT (va_up (va_up a 4 (a 1)) 1 (txF (a 1) 0)) 0) n 0).2.1)) hx hb hts in_X18 hown hK hF rfl 6 (by decide) nq rfl rfl dX0_text_71 ?_
    refine lv_isub hx hb dX0_text_74 ?_
    refine W.widen (k := 60) (n := 200) (by omega) (by omega) ?_
    have hM2 := hM1.cg (a' := va_up (va_up a 4 (a 1)) 1 (upd (a 1) 4 (nI 0))) (f' := fT (wB f 0 (cl (a 1 4)) (nI 1) (nI 1) (nI 1)) (whI (va_up (va_up a 4 (a 1)) 1 (txF (a 1) 0)) 0 (cl (a 1 4)) (nI 1) (nI 1) (nI 1) 5 0).2.1 ((whI (va_up (va_up a 4 (a 1)) 1 (txF (a 1) 0)) 0 (cl (a 1 4)) (nI 1) (nI 1) (nI 1) 5 0).2.2 && decide ((whI (va_up (va_up a 4 (a 1)) 1 (txF (a 1) 0)) 0 (cl (a 1 4)) (nI 1) (nI 1) (nI 1) 5 0).2.1 = cl (a 1 4)))) rfl rfl rfl rfl rfl
    refine hretM hM2.1 ?_ hS8 (by rw [hPL, ← hn]) dX0_text_75
    have hr : ∀ q, q ≠ 4 → upd (a 1) 4 (nI 0) q = a 1 q := fun q hq => pk_un hq
    exact ⟨B, S, ⟨hB, hS0, hBS, fun q hq => ⟨(hR q hq).1, by have := (hR q hq).2; omega⟩⟩, ⟨hQ1.1.to ⟨hr 3 (by omega), fun u hu => hr _ (by omega), fun w hw => ⟨hr _ (by omega), hr _ (by omega)⟩, fun j => hr _ (by omega)⟩ hN.1 (fun q _ hq => ⟨hq, rfl⟩), hQ1.2.1, hQ1.2.2⟩, ⟨by show cl (upd (a 1) 4 (nI 0) 3) ≤ 5; rw [hr 3 (by omega)]; exact hN.1, hN.2⟩, hIm, ⟨fun w h1 h2 => hZ.1 w (by have h1 : cl (upd (a 1) 4 (nI 0) 3) ≤ w := h1; rw [hr 3 (by omega)] at h1; exact h1) h2, hZ.2⟩, hSh1⟩
set_option maxHeartbeats 2000000 in
theorem ca_text_x1 (f : Nat → Int32) (a : Nat → Nat → Int32) (hR1 : okR (a 1)) (hby : ∀ k, k < 50 → okN (a 1 (128 + k)) 255) (hg : ¬ ((whI (va_up (va_up a 4 (a 1)) 1 (txF (a 1) 1)) 1 (cl (a 1 4)) (nI 1) (nI 1) (nI 1) 5 0).2.2 && decide ((whI (va_up (va_up a 4 (a 1)) 1 (txF (a 1) 1)) 1 (cl (a 1 4)) (nI 1) (nI 1) (nI 1) 5 0).2.1 = cl (a 1 4))) = true) : CmT yX0_text cX0_text 3 [(0, 66, 67, 200), (0, 66, 76, 8)] 44 961 60 200 [.int (nI 1)] f a ((-10 : Int32) - nI (whI (va_up (va_up a 4 (a 1)) 1 (txF (a 1) 1)) 1 (cl (a 1 4)) (nI 1) (nI 1) (nI 1) 5 0).2.1) (fT (wB f 1 (cl (a 1 4)) (nI 1) (nI 1) (nI 1)) (whI (va_up (va_up a 4 (a 1)) 1 (txF (a 1) 1)) 1 (cl (a 1 4)) (nI 1) (nI 1) (nI 1) 5 0).2.1 ((whI (va_up (va_up a 4 (a 1)) 1 (txF (a 1) 1)) 1 (cl (a 1 4)) (nI 1) (nI 1) (nI 1) 5 0).2.2 && decide ((whI (va_up (va_up a 4 (a 1)) 1 (txF (a 1) 1)) 1 (cl (a 1 4)) (nI 1) (nI 1) (nI 1) 5 0).2.1 = cl (a 1 4)))) (va_up (va_up a 4 (a 1)) 1 (upd (a 1) 4 (nI 0))) := by
  refine CmT.ofM (by decide) rfl (Nat.le_of_ble_eq_true rfl) ?_
  intro p l e R s m args below meth c Q D dA h fc wk hd ri rt cw tx nm B S A0 b2 b0 ad adV ls hx hb hml hRf hRl hRc hRs htab hts hown hK hI hB hS0 hQ hN hIm hZ hSh hM hl hA hf h9 hE hsz hBS hR hretM
  have hl : lv_has ls 3 [(0, .ref (h 0)), (1, .int (nI 1))] := hl
  have hq := hR1.2.2.1
  have hq2 := hq.2
  obtain ⟨n, hn⟩ : ∃ n, n = cl (a 1 4) := ⟨_, rfl⟩
  refine lv_aload_n hx hb dX0_text_0 rfl (lv_at hl 0 rfl) ?_
  refine lv_iload_n hx hb dX0_text_1 rfl (lv_at hl 1 rfl) ?_
  refine lv_iconst (v := nI 0) hx hb dX0_text_2 (by decide) ?_
  refine lv_iconst (v := nI 1) hx hb dX0_text_3 (by decide) ?_
  refine st_callS (y := yX0_in) hx hb hml hown hts (cmX0_in (nI 1) (nI 0) (nI 1)) q330 q331 q61 q332 ndX0_in rfl (by rw [hRf]; decide) (by rw [hRl]; decide) (Nat.zero_le _) (Nat.zero_le _) hl.1 rfl (Nat.le_of_ble_eq_true rfl) dX0_text_4 ?_
  refine lv_iconst (v := nI 1) hx hb dX0_text_7 (by decide) ?_
  refine cm_needT hx hb hml hown hts hK hI hM q333 (by rw [hRf]; decide) (by rw [hRl]; decide) (Nat.zero_le _) (Nat.zero_le _) hl.1 (Nat.le_of_ble_eq_true rfl) dX0_text_8 (fun _ locs hM => ?_) (fun q => absurd (by decide) q)
  refine lv_aload_n hx hb dX0_text_11 rfl (lv_at hl 0 rfl) ?_
  refine c_get (v := .ref (hm0 h 0)) hx hb hts in_X0 hown hK (hM.1 0 _ rfl) rfl 1 (by decide) q287 rfl rfl dX0_text_12 ?_
  have nq := hK.F 9 rfl
  refine c_getN (v := .int (a 1 4)) hx hb hts in_X2 hown hK (hM.1 14 _ rfl) rfl 12 (by decide) nq rfl rfl dX0_text_15 ?_
  refine w_top (nI n) (by rw [hn]; exact hq.1) ?_
  refine lv_istore_n (lv' := [(2, .int (nI n)), (0, .ref (h 0)), (1, .int (nI 1))]) hx hb dX0_text_18 rfl hl (by decide) rfl (fun ls hl => ?_)
  refine lv_aload_n hx hb dX0_text_19 rfl (lv_at hl 1 rfl) ?_
  refine c_get (v := .ref (hm0 h 0)) hx hb hts in_X0 hown hK (hM.1 0 _ rfl) rfl 1 (by decide) q287 rfl rfl dX0_text_20 ?_
  refine lv_iconst (v := nI 0) hx hb dX0_text_23 (by decide) ?_
  refine cm_put_taped hx hb hts hown hK hI hM nq dX0_text_24 (fun H locs hM => ?_)
  refine lv_aload_n hx hb dX0_text_27 rfl (lv_at hl 1 rfl) ?_
  refine c_get (v := .ref (hm0 h 0)) hx hb hts in_X0 hown hK (hM.1 0 _ rfl) rfl 1 (by decide) q287 rfl rfl dX0_text_28 ?_
  have nq := hK.F 11 rfl
  refine c_getN (v := .ref (hm0 h 7)) hx hb hts in_X2 hown hK (hM.1 14 _ rfl) rfl 9 (by decide) nq rfl rfl dX0_text_31 ?_
  refine lv_iload_n hx hb dX0_text_34 rfl (lv_at hl 2 rfl) ?_
  refine c_new (ci := 17) (fs := [.null, .null, .int 0, .int 0, .int 0]) (C := RX16) (T := TX16) (N := 5) hx hb hts in_X16 tyX16 tyX16_ok hown q681 q682 q81 hK rfl (fun j hj => by rcases (show j = 0 ∨ j = 1 ∨ j = 2 ∨ j = 3 ∨ j = 4 by omega) with rfl | rfl | rfl | rfl | rfl <;> rfl) (by rw [hRc]; decide) (by rw [hRs]; decide) dX0_text_35 (fun H8 hX8 hz8 hk8 => ?_)
  have hM8 := hM.new hI (by omega) hk8
  have hs8 := hM.2.2.1
  refine lv_dup hx hb dX0_text_38 rfl ?_
  refine lv_iload_n hx hb dX0_text_39 rfl (lv_at hl 2 rfl) ?_
  have nl := hE.2.1 1 _ rfl
  refine lv_if_ne (tgt := 48) hx hb dX0_text_40 (by decide) (fun _ => ?_) (fun q => absurd q (by decide))
  refine va_ldcS hx hb hown nl dX0_text_48 ?_
  refine lv_aload_n hx hb dX0_text_50 rfl (lv_at hl 1 rfl) ?_
  refine c_get (v := .ref (hm0 h 0)) hx hb hts in_X0 hown hK (hM8.1 0 _ rfl) rfl 1 (by decide) q287 rfl rfl dX0_text_51 ?_
  have nq := hK.F 10 rfl
  refine c_getN (v := .ref (hm0 h 8)) hx hb hts in_X2 hown hK (hM8.1 14 _ rfl) rfl 11 (by decide) nq rfl rfl dX0_text_54 ?_
  refine lv_iload_n hx hb dX0_text_57 rfl (lv_at hl 0 rfl) ?_
  refine cg_callI1 (y := yX16_init) (x0 := H.size) (As := [.ref (ad 1), .ref (hm0 h 8), .int (nI n)]) hx hb hml hown hts hK hs8 (rd_init H.size (ad 1) (hm0 h 8) n) hX8 q685 q686 q81 q687 ndX16_init rfl (by rw [hRf]; decide) (by rw [hRl]; decide) (by rw [hRc]; decide) (by rw [hRs]; decide) hl.1 rfl (Nat.le_of_ble_eq_true rfl) dX0_text_58 ?_
  rintro _ H9 ⟨rfl, hX9⟩ hz9 hk9
  have hba := cm_lt hM.1 (hm0 h 8) ⟨14 + 8, by decide, rfl⟩
  have hBa : cAt D (hm0 h 8) (.inl (dA 1, 50, .inl (mwAr (upd (a 1) 4 (nI 0)) 8))) H9 := (cAt.kept (a := hm0 h 8) (hM8.1 22 _ rfl) (hk9 _ (by omega) (by omega)))
  have htb : tbOK (mwAr (upd (a 1) 4 (nI 0)) 8) (bT (va_up (va_up a 4 (a 1)) 1 (txF (a 1) 1)) 1) n := by
    refine ⟨by omega, fun k hk => ?_⟩
    have hb1 := hby k (by omega)
    have e1 : (bT (va_up (va_up a 4 (a 1)) 1 (txF (a 1) 1)) 1) k = a 1 (128 + k) := by
      show txF (a 1) 1 (198 + 50 * 1 + k) = _
      exact txF_i (by decide) (by omega)
    have e2 : mwAr (upd (a 1) 4 (nI 0)) 8 k = (a 1 (128 + k)).toInt8.toInt32 := by
      show (upd (a 1) 4 (nI 0) (128 + k)).toInt8.toInt32 = _
      rw [pk_un (by omega)]
    have hb2 := hb1.2
    rw [e1, e2]
    exact ⟨by rw [hb1.1]; exact b255 _ (by omega), hb1, rfl⟩
  have hrd0 : b0 ≤ H.size := by have := h9 s.heap.size (hf _ hsz); omega
  have hG2 := rdG_2 (a := va_up (va_up a 4 (a 1)) 1 (txF (a 1) 1)) (u := 1) (n := n) (by decide)
  have hGG : (rdR (bT (va_up (va_up a 4 (a 1)) 1 (txF (a 1) 1)) 1) n 1).2.2 = ((whI (va_up (va_up a 4 (a 1)) 1 (txF (a 1) 1)) 1 (n) (nI 1) (nI 1) (nI 1) 5 0).2.2 && decide ((whI (va_up (va_up a 4 (a 1)) 1 (txF (a 1) 1)) 1 (n) (nI 1) (nI 1) (nI 1) 5 0).2.1 = n)) := by
    show ((rdG (bT (va_up (va_up a 4 (a 1)) 1 (txF (a 1) 1)) 1) n 1).2.2 && decide ((rdG (bT (va_up (va_up a 4 (a 1)) 1 (txF (a 1) 1)) 1) n 1).2.1 = n)) = _
    rw [hG2]
  have hPL : (rdR (bT (va_up (va_up a 4 (a 1)) 1 (txF (a 1) 1)) 1) n 1).2.1 = (whI (va_up (va_up a 4 (a 1)) 1 (txF (a 1) 1)) 1 (n) (nI 1) (nI 1) (nI 1) 5 0).2.1 := by
    show (rdG (bT (va_up (va_up a 4 (a 1)) 1 (txF (a 1) 1)) 1) n 1).2.1 = _
    rw [hG2]
  have hmo : (rdR (bT (va_up (va_up a 4 (a 1)) 1 (txF (a 1) 1)) 1) n 1).2.1 ≤ n := ((whoF_mono (O := opD) (b := (bT (va_up (va_up a 4 (a 1)) 1 (txF (a 1) 1)) 1)) (facD_mono (O := opD) (b := (bT (va_up (va_up a 4 (a 1)) 1 (txF (a 1) 1)) 1)) (u := 1) 5) : mono n (whoF opD (bT (va_up (va_up a 4 (a 1)) 1 (txF (a 1) 1)) 1) n (facD opD (bT (va_up (va_up a 4 (a 1)) 1 (txF (a 1) 1)) 1) n 1 5))) 0 (Nat.zero_le _)).2
  have hUc : uC 0 (rdR (bT (va_up (va_up a 4 (a 1)) 1 (txF (a 1) 1)) 1) n 1) ≤ 51 ∧ uS 0 (rdR (bT (va_up (va_up a 4 (a 1)) 1 (txF (a 1) 1)) 1) n 1) ≤ 157 := by
    unfold uC uS
    constructor <;> split <;> omega
  rw [← hn] at hg
  refine cs_callN (y := yX16_read) (b := H.size) (C := RX16) (As := []) hx hb hml hown hts hK (fun U hU hW => hE.go hW (fun q g1 g2 => ?_)) (rd_read (D := D) (dA := dA) (b0 := b0) (ad := ad) (adV := adV) H.size (hm0 h 8) n (mwAr (upd (a 1) 4 (nI 0)) 8) (bT (va_up (va_up a 4 (a 1)) 1 (txF (a 1) 1)) 1) htb hrd0 (by omega) 1 (by decide) H9.size (by omega)) ⟨rfl, hX9, hBa⟩ (fun q hq => hq.elim (fun z => by rw [z]; exact hs8) (fun z => by omega)) (cAt.recv hK hX9 rfl) q705 q706 q707 q81 q708 ndX16_read rfl (by rw [hRf]; decide) (by rw [hRl]; decide) (by rw [hRc]; omega) (by rw [hRs]; omega) hl.1 rfl (Nat.le_of_ble_eq_true rfl) dX0_text_61 ?_ ?_
  · have hq0 : ¬ cmA h q := fun z => g2 (h9 q (hA q z))
    exact (hk9 q (by omega) (by omega)).trans ((hk8 q (by omega)).trans (hM.2.2.2.1 q g1 hq0))
  · intro v H1 hq hz3 hk3
    obtain ⟨hg3, -⟩ := hq.ret
    rw [hGG] at hg3
    exact absurd hg3 hg
  · intro x H1 hq hz3 hk3
    obtain ⟨hg3, hxb, hF⟩ := hq.thr
    have hz : H.size ≤ H1.size := by omega
    have hk : ∀ q, q < H.size → H1[q]? = H[q]? := fun q g1 => (hk3 q (by omega) (fun z => z.elim (fun w => by omega) (fun w => by omega))).trans ((hk9 q (by omega) (by omega)).trans (hk8 q g1))
    have hM9 := hM
    have hM1 := hM.new hI hz hk
    have hQ1 : cmPl D h B (a 1) ri rt cw tx H1 := hQ.at hB hN mwEq.rf mwEq.rf mwEq.rf hM1.2.2
    have hSh1 : shOK D h dA hd S a H1 := hSh.to hS0 ⟨rfl, rfl, rfl⟩ hM1.2.2
    have hS8 : va_S A0 s.heap H1 locs := hM1.2.2.wd hA
    refine WT.catch (own := RX0) (C := RX18) (CE := RX18) (index := 200) (hpc := 67) hown (hts _ q680) (by decide) [] [⟨0, 66, 76, 8⟩] ⟨0, 66, 67, 200⟩ htab (fun y hy => by cases hy) rfl rfl rfl (cAt.recv hK hF rfl) (hK.C 5 rfl) ?_
    refine lv_astore_n (lv' := [(2, .ref x), (0, .ref (h 0)), (1, .int (nI 1))]) hx hb dX0_text_67 rfl hl (by decide) rfl (fun ls hl => ?_)
    refine lv_bipush (v := (-10 : Int32)) hx hb dX0_text_68 (by decide) ?_
    refine lv_aload_n hx hb dX0_text_70 rfl (lv_at hl 0 rfl) ?_
    have nq := hK.F 12 rfl
    refine c_getN (v := .int (nI (rdR (bT (va_up (va_up a 4 (a 1)) 1 (txF (a 1) 1)) 1) n 1).2.1)) hx hb hts in_X18 hown hK hF rfl 6 (by decide) nq rfl rfl dX0_text_71 ?_
    refine lv_isub hx hb dX0_text_74 ?_
    refine W.widen (k := 60) (n := 200) (by omega) (by omega) ?_
    have hM2 := hM1.cg (a' := va_up (va_up a 4 (a 1)) 1 (upd (a 1) 4 (nI 0))) (f' := fT (wB f 1 (cl (a 1 4)) (nI 1) (nI 1) (nI 1)) (whI (va_up (va_up a 4 (a 1)) 1 (txF (a 1) 1)) 1 (cl (a 1 4)) (nI 1) (nI 1) (nI 1) 5 0).2.1 ((whI (va_up (va_up a 4 (a 1)) 1 (txF (a 1) 1)) 1 (cl (a 1 4)) (nI 1) (nI 1) (nI 1) 5 0).2.2 && decide ((whI (va_up (va_up a 4 (a 1)) 1 (txF (a 1) 1)) 1 (cl (a 1 4)) (nI 1) (nI 1) (nI 1) 5 0).2.1 = cl (a 1 4)))) rfl rfl rfl rfl rfl
    refine hretM hM2.1 ?_ hS8 (by rw [hPL, ← hn]) dX0_text_75
    have hr : ∀ q, q ≠ 4 → upd (a 1) 4 (nI 0) q = a 1 q := fun q hq => pk_un hq
    exact ⟨B, S, ⟨hB, hS0, hBS, fun q hq => ⟨(hR q hq).1, by have := (hR q hq).2; omega⟩⟩, ⟨hQ1.1.to ⟨hr 3 (by omega), fun u hu => hr _ (by omega), fun w hw => ⟨hr _ (by omega), hr _ (by omega)⟩, fun j => hr _ (by omega)⟩ hN.1 (fun q _ hq => ⟨hq, rfl⟩), hQ1.2.1, hQ1.2.2⟩, ⟨by show cl (upd (a 1) 4 (nI 0) 3) ≤ 5; rw [hr 3 (by omega)]; exact hN.1, hN.2⟩, hIm, ⟨fun w h1 h2 => hZ.1 w (by have h1 : cl (upd (a 1) 4 (nI 0) 3) ≤ w := h1; rw [hr 3 (by omega)] at h1; exact h1) h2, hZ.2⟩, hSh1⟩
