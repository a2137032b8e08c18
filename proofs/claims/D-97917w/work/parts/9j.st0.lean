/-! literals: String.indexOf (printed by comp35.py) -/
set_option maxRecDepth 100000
/-- the text's literals -/
def srQ : List (String × Nat × String) := [("MeadowMilk", 189, "gkd"), ("MeadowMilk", 191, "kan"), ("MeadowMilk$Reader", 89, "!"), ("MeadowMilk$Reader", 99, "("), ("MeadowMilk$Reader", 81, "*/%"), ("MeadowMilk$Reader", 76, "+-"), ("MeadowMilk$Reader", 71, "<=>"), ("MeadowMilk$Reader", 66, "&"), ("MeadowMilk$Reader", 52, "|")]
def srL : List Nat := [3, 3, 1, 1, 3, 2, 3, 1, 1]
def srB : List (List Int32) := [[103, 107, 100], [107, 97, 110], [33], [40], [42, 47, 37], [43, 45], [60, 61, 62], [38], [124]]
def SRh (b0 : Nat) (ad adV : Nat → Nat) (U : State) (H : Heap) : Prop := vk_S 9 srL srB ad adV (fun q => b0 ≤ q) U H ∧ (∀ i q, srQ[i]? = some q → vk_R q.1 q.2.1 q.2.2 (ad i) U) ∧ va_Z "java/lang/String" "COMPACT_STRINGS" "Z" (.int 1) (fun q => b0 ≤ q) U H ∧ va_Zq "java/lang/Throwable" "UNASSIGNED_STACK" "[Ljava/lang/StackTraceElement;" (fun q => b0 ≤ q) U H ∧ va_Zq "java/lang/Throwable" "SUPPRESSED_SENTINEL" "Ljava/util/List;" (fun q => b0 ≤ q) U H
theorem SRh.go {b0 : Nat} {ad adV : Nat → Nat} {s U : State} {H0 H : Heap} (h : SRh b0 ad adV s H0) (hW : s.WarmedH U.vm) (hk : ∀ q : Nat, q < H0.size → ¬ b0 ≤ q → H[q]? = H0[q]?) : SRh b0 ad adV U H := ⟨(h.1.moved hW.alike).kept hk, fun i q hq => (h.2.1 i q hq).warm hW, (h.2.2.1.moved hW.alike).kept hk, (h.2.2.2.1.moved hW.alike).kept hk, (h.2.2.2.2.moved hW.alike).kept hk⟩
/-- reads alone; E: of the state -/
def Rg (E : State → Prop) (y : MethodName) (cc : ByteArray) (maxL : Nat) (ret : Option FieldType) (fr lo : Nat) (As : List Value) (v : Option Value) : Prop :=
  ∀ (l : Launch), Met l y (ws_ y cc maxL ret) { frames := fr, cells := 0, slots := 0, locals := lo } (va_Pc As E) (fun _ st oc t => oc = .returned v ∧ t.heap = st.heap) 0 0 (fun _ => False)
section RGA
variable {E : State → Prop} {y : MethodName} {cc : ByteArray} {maxL fr lo : Nat} {ret : Option FieldType} {As : List Value} {own : String} {v : Option Value}
theorem Rg.of (hy : plainName y.cls = true) (hcl : y.cls = own) (hlen : (lg_sl As).length ≤ maxL)
    (body : ∀ (p : Program) (l : Launch) (e : Env) (s : State) (m : MethodId) (below : List Frame) (meth : Method) (c : Code) (ls : Array Slot), p.tables.exec = Jvm.exec → c.code = cc → meth.sig.returnType = ret → meth.locks = false → c.maxLocals = maxL → (∀ w ∈ lw_all, w.before As.toArray s = true) → s.vm.findClass own = some m.cls → E s → lv_has ls maxL (lv_args 0 As) →
      W p l e { frames := fr, cells := 0, slots := 0, locals := lo } s m As.toArray below meth c s.heap [] 0 0 (MQ below (fun _ st oc t => oc = .returned v ∧ t.heap = st.heap) As.toArray s 0 0 (fun _ => False)) (F0 m 0 ls [])) : Rg E y cc maxL ret fr lo As v := by
  intro l
  refine Met.ofW (cc := cc) (maxL := maxL) (ret := ret) hy rfl ?_
  intro p e s m args below meth c s₁ B hml hv
  obtain ⟨rfl, hE⟩ := hv
  have hts := atoms_spec (ws := ws_ y cc maxL ret) B.pre
  have hts : ∀ w ∈ lw_all, w.before _ s = true := fun w h => hts w (List.mem_cons_of_mem _ h)
  have hown : s.vm.findClass own = some m.cls := by rw [← hcl]; exact findClass_of_methodNamed B.named
  have hl := lv_entry As (n := maxL) hlen
  rw [lg_entry_eq]
  exact body p l e s m below meth c _ B.exec B.bytes B.returns B.notSynchronized hml hts hown hE hl
theorem Rg.ofT {ty : FieldType} {v : Int32} (hy : plainName y.cls = true) (hcl : y.cls = own) (hlen : (lg_sl As).length ≤ maxL) (hn : narrow ty (.int v) = .int v)
    (body : ∀ (p : Program) (l : Launch) (e : Env) (R : Room) (s : State) (m : MethodId) (args : Array Value) (below : List Frame) (meth : Method) (c : Code) (Q : State → Prop) (ls : Array Slot), p.tables.exec = Jvm.exec → c.code = cc → c.maxLocals = maxL → R.frames = fr → R.locals = lo → (∀ w ∈ lw_all, w.before args s = true) → s.vm.findClass own = some m.cls → E s → lv_has ls maxL (lv_args 0 As) →
      (∀ {pc : Nat} {ls : Array Slot} {x : Int32}, x = v → decode cc pc = .ok (.ireturn, 1) → W p l e R s m args below meth c s.heap [] 0 0 Q (F0 m pc ls [.int x])) →
      W p l e R s m args below meth c s.heap [] 0 0 Q (F0 m 0 ls [])) : Rg E y cc maxL (some ty) fr lo As (some (.int v)) := by
  refine Rg.of hy hcl hlen ?_
  intro p l e s m below meth c ls hx hb hr hlk hml hts hown hE hl
  exact body p l e _ s m _ below meth c _ ls hx hb hml rfl rfl hts hown hE hl (fun hv hdg => by subst hv; exact W.zret hx hb hr hn (fun t ht hW => ⟨rfl, ht⟩) (fun q hq => by cases hq) hdg hlk)
end RGA
section RGB
variable {p : Program} {l : Launch} {e : Env} {R : Room} {s : State} {m : MethodId} {args : Array Value} {below : List Frame} {meth : Method} {c : Code} {H : Heap} {locs : List Loc} {cells slots : Nat} {Q : State → Prop}
variable {cc : ByteArray} {pc : Nat} {ls : Array Slot} {rest : List Value} {b : Nat} {E : State → Prop} {v : Option Value}
variable {y x : MethodName} {cy : ByteArray} {maxL nL fr lo idx n : Nat} {ret : Option FieldType} {As st : List Value} {own C : String}
theorem rg_callV (hx : p.tables.exec = Jvm.exec) (hb : c.code = cc) (hml : c.maxLocals = nL) (hown : s.vm.findClass own = some m.cls) (hts : ∀ w ∈ lw_all, w.before args s = true)
    (hC : Rg E y cy maxL ret fr lo (.ref b :: As) v) (hbl : FrameBlind (va_Pc (.ref b :: As) E)) (hE : ∀ U : State, U.heap = H → s.WarmedH U.vm → E U) (hrc : ∃ cell : Cell, H[b]? = some cell ∧ cell.vm.isStatics = false ∧ s.vm.findClass C = some cell.cls)
    (h1 : Cond.methodLink own idx y ∈ lw_all) (h2 : Cond.instanceMethod y ∈ lw_all) (h3 : Cond.selects C y y ∈ lw_all) (h4 : Cond.initialized C ∈ lw_all) (h5 : Cond.code y cy maxL ret ∈ lw_all)
    (hd : y.cls = C ∧ y.cls ≠ "java/lang/invoke/MethodHandle" ∧ y.cls ≠ "java/lang/invoke/VarHandle" ∧ (parseMethodDescriptor y.desc).map (fun d => d.parameters.length) = some n) (hn : As.length = n) (hRf : fr + 1 ≤ R.frames) (hRl : 8 + (maxL + 11) + lo ≤ R.locals) (hRc : cells ≤ R.cells) (hRs : slots ≤ R.slots) (hsize : ls.size = nL) (hst : st = As.reverse ++ .ref b :: rest) (hW : (rest.map fun v => v.category).sum ≤ 8) (hdg : decode cc pc = .ok (.invokevirtual idx, 3))
    (kk : W p l e R s m args below meth c H locs cells slots Q (F0 m (pc + 3) ls (v.toList ++ rest))) : W p l e R s m args below meth c H locs cells slots Q (F0 m pc ls st) :=
  rd_go (va_runV (below := below) (meth := meth) (locs := locs) (cells := cells) (slots := slots) (e := e) (As := As) (rest := rest) (g := F0 m pc ls st) (b := b) (Ts := lw_all) (own := own) (C := C) (n := n) ⟨hx, hb, hml, hown, hts⟩ (hC l) (cwV n hts (lw_V h1 h2 h3 h4 h5) rfl rfl rfl hd ⟨hRf, hRl⟩)
    ⟨hbl, hrc, fun U hU hW => ⟨rfl, hE U hU hW⟩⟩ rfl hn hsize hst (lv_room hW) hdg ⟨hRc, hRs⟩) kk
theorem rg_callS (hx : p.tables.exec = Jvm.exec) (hb : c.code = cc) (hml : c.maxLocals = nL) (hown : s.vm.findClass own = some m.cls) (hts : ∀ w ∈ lw_all, w.before args s = true)
    (hC : Rg E y cy maxL ret fr lo As v) (hbl : FrameBlind (va_Pc As E)) (hE : ∀ U : State, U.heap = H → s.WarmedH U.vm → E U) (h1 : Cond.methodLink own idx y ∈ lw_all) (h2 : Cond.static y ∈ lw_all) (h4 : Cond.initialized y.cls ∈ lw_all) (h5 : Cond.code y cy maxL ret ∈ lw_all)
    (hd : y.cls ≠ "java/lang/invoke/MethodHandle" ∧ y.cls ≠ "java/lang/invoke/VarHandle" ∧ (parseMethodDescriptor y.desc).map (fun d => d.parameters.length) = some n) (hn : As.length = n) (hRf : fr + 1 ≤ R.frames) (hRl : 8 + (maxL + 11) + lo ≤ R.locals) (hRc : cells ≤ R.cells) (hRs : slots ≤ R.slots) (hsize : ls.size = nL) (hst : st = As.reverse ++ rest) (hW : (rest.map fun v => v.category).sum ≤ 8) (hdg : decode cc pc = .ok (.invokestatic idx, 3))
    (kk : W p l e R s m args below meth c H locs cells slots Q (F0 m (pc + 3) ls (v.toList ++ rest))) : W p l e R s m args below meth c H locs cells slots Q (F0 m pc ls st) :=
  rd_go (va_runS (below := below) (meth := meth) (locs := locs) (cells := cells) (slots := slots) (e := e) (As := As) (rest := rest) (g := F0 m pc ls st) (Ts := lw_all) (own := own) (n := n) ⟨hx, hb, hml, hown, hts⟩ (hC l) (va_cwS n hts (lw_S h1 h2 h4 h5) rfl rfl rfl hd ⟨hRf, hRl⟩)
    ⟨hbl, fun U hU hW => ⟨rfl, hE U hU hW⟩⟩ rfl hn hsize hst (lv_room hW) hdg ⟨hRc, hRs⟩) kk
end RGB
abbrev srE (b0 : Nat) (ad adV : Nat → Nat) : State → Prop := fun U => SRh b0 ad adV U U.heap
theorem sr_blind {b0 : Nat} {ad adV : Nat → Nat} {As : List Value} : FrameBlind (va_Pc As (srE b0 ad adV)) := fun a U g mk q => ⟨q.1, q.2.go (State.WarmedH.refl U) (fun _ _ _ => rfl)⟩
theorem sr_S {b0 : Nat} {s : State} : va_S (fun q => b0 ≤ q) s.heap s.heap [] := va_S.rf
/-- the place of c in a list -/
def ixN (c : Int32) : List Int32 → Nat → Int32
  | [], _ => -1
  | b :: l, k => if b = c then nI k else ixN c l (k + 1)
theorem sr_len : ∀ i, i < 9 → srL.getD i 0 = (srB.getD i []).length ∧ 1 ≤ srL.getD i 0 ∧ srL.getD i 0 ≤ 3 := by decide
theorem sr_sh : ∀ i, i < 9 → nI (srL.getD i 0) >>> ((0 : Int32) &&& 31) = nI (srL.getD i 0) := by decide
theorem ndJ4_coder : yJ4_coder.cls = RJ4 ∧ yJ4_coder.cls ≠ "java/lang/invoke/MethodHandle" ∧ yJ4_coder.cls ≠ "java/lang/invoke/VarHandle" ∧ (parseMethodDescriptor yJ4_coder.desc).map (fun d => d.parameters.length) = some 0 := by decide +kernel
set_option maxHeartbeats 400000 in
theorem st_coder {b0 : Nat} {ad adV : Nat → Nat} (i : Nat) (hi : i < 9) : Rg (srE b0 ad adV) yJ4_coder cJ4_coder 1 (some .byte) 0 0 [.ref (ad i)] (some (.int (0))) := by
  refine Rg.ofT (by decide) (own := RJ4) rfl (Nat.le_of_ble_eq_true rfl) (rfl) ?_
  intro p l e R s m args below meth c Q ls hx hb hml hRf hRl hts hown hE hl hret
  have hl : lv_has ls 1 [(0, .ref (ad i))] := hl
  obtain ⟨hO, hC0, hV0, hT0⟩ := hE.1.1 i hi
  refine va_gets (ref := RJ4) hx hb hE.2.2.1 sr_S hown (hts _ q753) (fun x h => h) dJ4_coder_0 ?_
  refine lv_if_eq (tgt := 13) hx hb dJ4_coder_3 (by decide) (fun q => absurd q (by decide)) (fun _ => ?_)
  refine lv_aload_n hx hb dJ4_coder_6 rfl (lv_at hl 0 rfl) ?_
  refine vk_getf (ref := RJ4) hx hb hC0 sr_S hown (hts _ q1876) (fun x h => h) dJ4_coder_7 ?_
  refine lv_goto (tgt := 14) hx hb dJ4_coder_10 (by decide) ?_
  exact hret rfl dJ4_coder_14
theorem ndJ4_isLatin1 : yJ4_isLatin1.cls = RJ4 ∧ yJ4_isLatin1.cls ≠ "java/lang/invoke/MethodHandle" ∧ yJ4_isLatin1.cls ≠ "java/lang/invoke/VarHandle" ∧ (parseMethodDescriptor yJ4_isLatin1.desc).map (fun d => d.parameters.length) = some 0 := by decide +kernel
set_option maxHeartbeats 400000 in
theorem st_latin {b0 : Nat} {ad adV : Nat → Nat} (i : Nat) (hi : i < 9) : Rg (srE b0 ad adV) yJ4_isLatin1 cJ4_isLatin1 1 (some .boolean) 0 0 [.ref (ad i)] (some (.int (nI 1))) := by
  refine Rg.ofT (by decide) (own := RJ4) rfl (Nat.le_of_ble_eq_true rfl) (rfl) ?_
  intro p l e R s m args below meth c Q ls hx hb hml hRf hRl hts hown hE hl hret
  have hl : lv_has ls 1 [(0, .ref (ad i))] := hl
  obtain ⟨hO, hC0, hV0, hT0⟩ := hE.1.1 i hi
  refine va_gets (ref := RJ4) hx hb hE.2.2.1 sr_S hown (hts _ q753) (fun x h => h) dJ4_isLatin1_0 ?_
  refine lv_if_eq (tgt := 17) hx hb dJ4_isLatin1_3 (by decide) (fun q => absurd q (by decide)) (fun _ => ?_)
  refine lv_aload_n hx hb dJ4_isLatin1_6 rfl (lv_at hl 0 rfl) ?_
  refine vk_getf (ref := RJ4) hx hb hC0 sr_S hown (hts _ q1876) (fun x h => h) dJ4_isLatin1_7 ?_
  refine lv_if_ne (tgt := 17) hx hb dJ4_isLatin1_10 (by decide) (fun q => absurd rfl q) (fun _ => ?_)
  refine lv_iconst (v := nI 1) hx hb dJ4_isLatin1_13 (by decide) ?_
  refine lv_goto (tgt := 18) hx hb dJ4_isLatin1_14 (by decide) ?_
  exact hret rfl dJ4_isLatin1_18
theorem ndJ4_length : yJ4_length.cls = RJ4 ∧ yJ4_length.cls ≠ "java/lang/invoke/MethodHandle" ∧ yJ4_length.cls ≠ "java/lang/invoke/VarHandle" ∧ (parseMethodDescriptor yJ4_length.desc).map (fun d => d.parameters.length) = some 0 := by decide +kernel
set_option maxHeartbeats 400000 in
theorem st_length {b0 : Nat} {ad adV : Nat → Nat} (i : Nat) (hi : i < 9) : Rg (srE b0 ad adV) yJ4_length cJ4_length 1 (some .int) 1 20 [.ref (ad i)] (some (.int (nI (srL.getD i 0)))) := by
  refine Rg.ofT (by decide) (own := RJ4) rfl (Nat.le_of_ble_eq_true rfl) (rfl) ?_
  intro p l e R s m args below meth c Q ls hx hb hml hRf hRl hts hown hE hl hret
  have hl : lv_has ls 1 [(0, .ref (ad i))] := hl
  obtain ⟨hO, hC0, hV0, hT0⟩ := hE.1.1 i hi
  refine lv_aload_n hx hb dJ4_length_0 rfl (lv_at hl 0 rfl) ?_
  refine vk_getf (ref := RJ4) hx hb hV0 sr_S hown (hts _ q1877) (fun x h => h) dJ4_length_1 ?_
  refine va_tlen hx hb hT0 sr_S (v := nI (srL.getD i 0)) rfl dJ4_length_4 ?_
  refine lv_aload_n hx hb dJ4_length_5 rfl (lv_at hl 0 rfl) ?_
  refine rg_callV (y := yJ4_coder) (b := ad i) (C := RJ4) (As := []) hx hb hml hown hts (st_coder (b0 := b0) (ad := ad) (adV := adV) i hi) sr_blind (fun U hU hW => hE.go hW (fun q _ _ => by rw [hU])) (vk_recv hE.1 hi sr_S) q759 q760 q761 q82 q762 ndJ4_coder rfl (by rw [hRf]; decide) (by rw [hRl]; decide) (Nat.zero_le _) (Nat.zero_le _) hl.1 rfl (Nat.le_of_ble_eq_true rfl) dJ4_length_6 ?_
  refine lv_ishr hx hb dJ4_length_9 ?_
  exact hret (sr_sh i hi) dJ4_length_10
theorem ndJ5_canEncode : yJ5_canEncode.cls ≠ "java/lang/invoke/MethodHandle" ∧ yJ5_canEncode.cls ≠ "java/lang/invoke/VarHandle" ∧ (parseMethodDescriptor yJ5_canEncode.desc).map (fun d => d.parameters.length) = some 1 := by decide +kernel
set_option maxHeartbeats 400000 in
theorem st_can {E : State → Prop} (n : Nat) (hn : n < 256) : Rg E yJ5_canEncode cJ5_canEncode 1 (some .boolean) 0 0 [.int (nI n)] (some (.int (nI 1))) := by
  refine Rg.ofT (by decide) (own := RJ5) rfl (Nat.le_of_ble_eq_true rfl) (rfl) ?_
  intro p l e R s m args below meth c Q ls hx hb hml hRf hRl hts hown hE hl hret
  have hl : lv_has ls 1 [(0, .int (nI n))] := hl
  refine lv_iload_n hx hb dJ5_canEncode_0 rfl (lv_at hl 0 rfl) ?_
  refine w_if_ltN (tgt := 15) hx hb (by omega) dJ5_canEncode_1 (by decide) ?_
  refine lv_iload_n hx hb dJ5_canEncode_4 rfl (lv_at hl 0 rfl) ?_
  refine lv_sipush (v := nI 255) hx hb dJ5_canEncode_5 (by decide) ?_
  refine w_icmp_gtN (tgt := 15) hx hb (by omega) (by omega) dJ5_canEncode_8 (by decide) (fun c_1 => absurd c_1 (by omega)) (fun c_1 => ?_)
  refine lv_iconst (v := nI 1) hx hb dJ5_canEncode_11 (by decide) ?_
  refine lv_goto (tgt := 16) hx hb dJ5_canEncode_12 (by decide) ?_
  exact hret rfl dJ5_canEncode_16
theorem ndJ5_indexOfChar : yJ5_indexOfChar.cls ≠ "java/lang/invoke/MethodHandle" ∧ yJ5_indexOfChar.cls ≠ "java/lang/invoke/VarHandle" ∧ (parseMethodDescriptor yJ5_indexOfChar.desc).map (fun d => d.parameters.length) = some 4 := by decide +kernel
set_option maxHeartbeats 400000 in
theorem st_ixc {b0 : Nat} {ad adV : Nat → Nat} (i : Nat) (hi : i < 9) (n : Nat) : Rg (srE b0 ad adV) yJ5_indexOfChar cJ5_indexOfChar 6 (some .int) 0 0 [.ref (adV i), .int (nI n), .int (nI 0), .int (nI (srL.getD i 0))] (some (.int (ixN (nI n).toInt8.toInt32 (srB.getD i []) 0))) := by
  refine Rg.ofT (by decide) (own := RJ5) rfl (Nat.le_of_ble_eq_true rfl) (rfl) ?_
  intro p l e R s m args below meth c Q ls hx hb hml hRf hRl hts hown hE hl hret
  have hl : lv_has ls 6 [(0, .ref (adV i)), (1, .int (nI n)), (2, .int (nI 0)), (3, .int (nI (srL.getD i 0)))] := hl
  obtain ⟨hO, hC0, hV0, hT0⟩ := hE.1.1 i hi
  obtain ⟨hL1, hL2, hL3⟩ := sr_len i hi
  refine lv_iload_n hx hb dJ5_indexOfChar_0 rfl (lv_at hl 1 rfl) ?_
  refine lv_i2b (v := (nI n).toInt8.toInt32) hx hb dJ5_indexOfChar_1 rfl ?_
  refine lv_istore (lv' := [(4, .int (nI n).toInt8.toInt32), (0, .ref (adV i)), (1, .int (nI n)), (2, .int (nI 0)), (3, .int (nI (srL.getD i 0)))]) hx hb dJ5_indexOfChar_2 hl (by decide) rfl (fun ls hl => ?_)
  refine lv_iload_n hx hb dJ5_indexOfChar_4 rfl (lv_at hl 3 rfl) ?_
  refine lv_istore (lv' := [(5, .int (nI 0)), (4, .int (nI n).toInt8.toInt32), (0, .ref (adV i)), (1, .int (nI n)), (2, .int (nI 0)), (3, .int (nI (srL.getD i 0)))]) hx hb dJ5_indexOfChar_5 hl (by decide) rfl (fun ls hl => ?_)
  have loop7 : ∀ (fu k : Nat), k ≤ srL.getD i 0 → srL.getD i 0 < k + fu → ixN (nI n).toInt8.toInt32 ((srB.getD i []).drop k) k = ixN (nI n).toInt8.toInt32 (srB.getD i []) 0 → ∀ (ls : Array Slot), lv_has ls 6 [(5, .int (nI k)), (4, .int (nI n).toInt8.toInt32), (0, .ref (adV i)), (1, .int (nI n)), (2, .int (nI 0)), (3, .int (nI (srL.getD i 0)))] → W p l e R s m args below meth c s.heap [] 0 0 Q (F0 m 7 ls []) := by
    intro fu
    induction fu with
    | zero =>
      intro k hk hf
      omega
    | succ fu ih =>
      intro k hk hf he ls hl
      refine lv_iload hx hb dJ5_indexOfChar_7 (lv_at hl 0 rfl) ?_
      refine lv_iload_n hx hb dJ5_indexOfChar_9 rfl (lv_at hl 5 rfl) ?_
      refine w_icmp_geN (tgt := 31) hx hb (by omega) (by omega) dJ5_indexOfChar_10 (by decide) (fun c_1 => ?_) (fun c_1 => ?_)
      · refine lv_iconst (v := (-1 : Int32)) hx hb dJ5_indexOfChar_31 (by decide) ?_
        refine hret ?_ dJ5_indexOfChar_32
        rw [← he, List.drop_eq_nil_of_le (by omega)]; rfl
      · have hd := List.drop_eq_getElem_cons (l := srB.getD i []) (i := k) (by omega)
        have hg : (srB.getD i []).getD k 0 = (srB.getD i [])[k]'(by omega) := by rw [List.getD_eq_getElem?_getD, List.getElem?_eq_getElem (by omega)]; rfl
        refine lv_aload_n hx hb dJ5_indexOfChar_13 rfl (lv_at hl 2 rfl) ?_
        refine lv_iload hx hb dJ5_indexOfChar_14 (lv_at hl 0 rfl) ?_
        refine va_tb hx hb hT0 sr_S (v := .int ((srB.getD i []).getD k 0)) (vp_in_nI (by omega) (by omega)) (by rw [nI_clamp (by omega)]) dJ5_indexOfChar_16 ?_
        refine lv_iload hx hb dJ5_indexOfChar_17 (lv_at hl 1 rfl) ?_
        refine lv_icmp_ne (tgt := 25) hx hb dJ5_indexOfChar_19 (by decide) (fun c_2 => ?_) (fun c_2 => ?_)
        · refine lv_iinc (v := nI (k + 1)) (lv' := [(5, .int (nI (k + 1))), (4, .int (nI n).toInt8.toInt32), (0, .ref (adV i)), (1, .int (nI n)), (2, .int (nI 0)), (3, .int (nI (srL.getD i 0)))]) hx hb dJ5_indexOfChar_25 hl (k := 0) rfl (by rw [show Int32.ofInt 1 = nI 1 from by decide]; exact nI_add _ _) (by decide) rfl (fun ls hl => ?_)
          refine lv_goto (tgt := 7) hx hb dJ5_indexOfChar_28 (by decide) ?_
          refine ih (k + 1) (by omega) (by omega) ?_ ls hl
          rw [hd, ixN, if_neg (by rw [← hg]; exact c_2)] at he
          exact he
        · refine lv_iload hx hb dJ5_indexOfChar_22 (lv_at hl 0 rfl) ?_
          refine hret ?_ dJ5_indexOfChar_24
          rw [hd, ixN, if_pos (by rw [← hg]; exact c_2)] at he
          exact he
  exact loop7 (srL.getD i 0 + 1) 0 (by omega) (by omega) rfl ls hl
theorem ndJ5_indexOf : yJ5_indexOf.cls ≠ "java/lang/invoke/MethodHandle" ∧ yJ5_indexOf.cls ≠ "java/lang/invoke/VarHandle" ∧ (parseMethodDescriptor yJ5_indexOf.desc).map (fun d => d.parameters.length) = some 4 := by decide +kernel
set_option maxHeartbeats 400000 in
theorem st_ixL {b0 : Nat} {ad adV : Nat → Nat} (i : Nat) (hi : i < 9) (n : Nat) (hn : n < 256) : Rg (srE b0 ad adV) yJ5_indexOf cJ5_indexOf 4 (some .int) 1 25 [.ref (adV i), .int (nI n), .int (nI 0), .int (nI (srL.getD i 0))] (some (.int (ixN (nI n).toInt8.toInt32 (srB.getD i []) 0))) := by
  refine Rg.ofT (by decide) (own := RJ5) rfl (Nat.le_of_ble_eq_true rfl) (rfl) ?_
  intro p l e R s m args below meth c Q ls hx hb hml hRf hRl hts hown hE hl hret
  have hl : lv_has ls 4 [(0, .ref (adV i)), (1, .int (nI n)), (2, .int (nI 0)), (3, .int (nI (srL.getD i 0)))] := hl
  obtain ⟨hO, hC0, hV0, hT0⟩ := hE.1.1 i hi
  obtain ⟨hL1, hL2, hL3⟩ := sr_len i hi
  refine lv_iload_n hx hb dJ5_indexOf_0 rfl (lv_at hl 1 rfl) ?_
  refine rg_callS (y := yJ5_canEncode) (As := [.int (nI n)]) hx hb hml hown hts (st_can (E := srE b0 ad adV) n hn) sr_blind (fun U hU hW => hE.go hW (fun q _ _ => by rw [hU])) q766 q767 q83 q768 ndJ5_canEncode rfl (by rw [hRf]; decide) (by rw [hRl]; decide) (Nat.zero_le _) (Nat.zero_le _) hl.1 rfl (Nat.le_of_ble_eq_true rfl) dJ5_indexOf_1 ?_
  refine lv_if_ne (tgt := 9) hx hb dJ5_indexOf_4 (by decide) (fun _ => ?_) (fun q => absurd q (by decide))
  refine lv_iload_n hx hb dJ5_indexOf_9 rfl (lv_at hl 2 rfl) ?_
  refine lv_iconst (v := nI 0) hx hb dJ5_indexOf_10 (by decide) ?_
  refine va_mmax hx hb (hml.trans hl.1.symm) hown (hts _ q769) (hts _ q389) (hts _ q73) (hts _ q390) (by rw [hRf]; decide) (by rw [hRl]; exact Nat.le_of_ble_eq_true rfl) (Nat.zero_le _) (Nat.zero_le _) dJ5_indexOf_11 ?_
  refine w_top (nI 0) (by decide) ?_
  refine lv_istore_n (lv' := [(2, .int (nI 0)), (0, .ref (adV i)), (1, .int (nI n)), (3, .int (nI (srL.getD i 0)))]) hx hb dJ5_indexOf_14 rfl hl (by decide) rfl (fun ls hl => ?_)
  refine lv_iload_n hx hb dJ5_indexOf_15 rfl (lv_at hl 3 rfl) ?_
  refine lv_aload_n hx hb dJ5_indexOf_16 rfl (lv_at hl 1 rfl) ?_
  refine va_tlen hx hb hT0 sr_S (v := nI (srL.getD i 0)) rfl dJ5_indexOf_17 ?_
  refine va_mmin hx hb (hml.trans hl.1.symm) hown (hts _ q770) (hts _ q386) (hts _ q73) (hts _ q387) (by rw [hRf]; decide) (by rw [hRl]; exact Nat.le_of_ble_eq_true rfl) (Nat.zero_le _) (Nat.zero_le _) dJ5_indexOf_18 ?_
  refine w_top (nI (srL.getD i 0)) (by rw [ite_self]) ?_
  refine lv_istore_n (lv' := [(3, .int (nI (srL.getD i 0))), (2, .int (nI 0)), (0, .ref (adV i)), (1, .int (nI n))]) hx hb dJ5_indexOf_21 rfl hl (by decide) rfl (fun ls hl => ?_)
  refine lv_iload_n hx hb dJ5_indexOf_22 rfl (lv_at hl 1 rfl) ?_
  refine lv_iload_n hx hb dJ5_indexOf_23 rfl (lv_at hl 0 rfl) ?_
  refine w_icmp_ltN (tgt := 29) hx hb (by omega) (by omega) dJ5_indexOf_24 (by decide) (fun _ => ?_) (fun q => absurd q (by omega))
  refine lv_aload_n hx hb dJ5_indexOf_29 rfl (lv_at hl 2 rfl) ?_
  refine lv_iload_n hx hb dJ5_indexOf_30 rfl (lv_at hl 3 rfl) ?_
  refine lv_iload_n hx hb dJ5_indexOf_31 rfl (lv_at hl 1 rfl) ?_
  refine lv_iload_n hx hb dJ5_indexOf_32 rfl (lv_at hl 0 rfl) ?_
  refine rg_callS (y := yJ5_indexOfChar) (As := [.ref (adV i), .int (nI n), .int (nI 0), .int (nI (srL.getD i 0))]) hx hb hml hown hts (st_ixc (b0 := b0) (ad := ad) (adV := adV) i hi n) sr_blind (fun U hU hW => hE.go hW (fun q _ _ => by rw [hU])) q771 q772 q83 q773 ndJ5_indexOfChar rfl (by rw [hRf]; decide) (by rw [hRl]; decide) (Nat.zero_le _) (Nat.zero_le _) hl.1 rfl (Nat.le_of_ble_eq_true rfl) dJ5_indexOf_33 ?_
  exact hret rfl dJ5_indexOf_36
theorem ndJ4_indexOf_2 : yJ4_indexOf_2.cls = RJ4 ∧ yJ4_indexOf_2.cls ≠ "java/lang/invoke/MethodHandle" ∧ yJ4_indexOf_2.cls ≠ "java/lang/invoke/VarHandle" ∧ (parseMethodDescriptor yJ4_indexOf_2.desc).map (fun d => d.parameters.length) = some 2 := by decide +kernel
set_option maxHeartbeats 400000 in
theorem st_ix2 {b0 : Nat} {ad adV : Nat → Nat} (i : Nat) (hi : i < 9) (n : Nat) (hn : n < 256) : Rg (srE b0 ad adV) yJ4_indexOf_2 cJ4_indexOf_2 3 (some .int) 2 48 [.ref (ad i), .int (nI n), .int (nI 0)] (some (.int (ixN (nI n).toInt8.toInt32 (srB.getD i []) 0))) := by
  refine Rg.ofT (by decide) (own := RJ4) rfl (Nat.le_of_ble_eq_true rfl) (rfl) ?_
  intro p l e R s m args below meth c Q ls hx hb hml hRf hRl hts hown hE hl hret
  have hl : lv_has ls 3 [(0, .ref (ad i)), (1, .int (nI n)), (2, .int (nI 0))] := hl
  obtain ⟨hO, hC0, hV0, hT0⟩ := hE.1.1 i hi
  refine lv_aload_n hx hb dJ4_indexOf_2_0 rfl (lv_at hl 0 rfl) ?_
  refine rg_callV (y := yJ4_isLatin1) (b := ad i) (C := RJ4) (As := []) hx hb hml hown hts (st_latin (b0 := b0) (ad := ad) (adV := adV) i hi) sr_blind (fun U hU hW => hE.go hW (fun q _ _ => by rw [hU])) (vk_recv hE.1 hi sr_S) q749 q750 q751 q82 q752 ndJ4_isLatin1 rfl (by rw [hRf]; decide) (by rw [hRl]; decide) (Nat.zero_le _) (Nat.zero_le _) hl.1 rfl (Nat.le_of_ble_eq_true rfl) dJ4_indexOf_2_1 ?_
  refine lv_if_eq (tgt := 23) hx hb dJ4_indexOf_2_4 (by decide) (fun q => absurd q (by decide)) (fun _ => ?_)
  refine lv_aload_n hx hb dJ4_indexOf_2_7 rfl (lv_at hl 0 rfl) ?_
  refine vk_getf (ref := RJ4) hx hb hV0 sr_S hown (hts _ q1877) (fun x h => h) dJ4_indexOf_2_8 ?_
  refine lv_iload_n hx hb dJ4_indexOf_2_11 rfl (lv_at hl 1 rfl) ?_
  refine lv_iload_n hx hb dJ4_indexOf_2_12 rfl (lv_at hl 2 rfl) ?_
  refine lv_aload_n hx hb dJ4_indexOf_2_13 rfl (lv_at hl 0 rfl) ?_
  refine rg_callV (y := yJ4_length) (b := ad i) (C := RJ4) (As := []) hx hb hml hown hts (st_length (b0 := b0) (ad := ad) (adV := adV) i hi) sr_blind (fun U hU hW => hE.go hW (fun q _ _ => by rw [hU])) (vk_recv hE.1 hi sr_S) q755 q756 q757 q82 q758 ndJ4_length rfl (by rw [hRf]; decide) (by rw [hRl]; decide) (Nat.zero_le _) (Nat.zero_le _) hl.1 rfl (Nat.le_of_ble_eq_true rfl) dJ4_indexOf_2_14 ?_
  refine rg_callS (y := yJ5_indexOf) (As := [.ref (adV i), .int (nI n), .int (nI 0), .int (nI (srL.getD i 0))]) hx hb hml hown hts (st_ixL (b0 := b0) (ad := ad) (adV := adV) i hi n hn) sr_blind (fun U hU hW => hE.go hW (fun q _ _ => by rw [hU])) q763 q764 q83 q765 ndJ5_indexOf rfl (by rw [hRf]; decide) (by rw [hRl]; decide) (Nat.zero_le _) (Nat.zero_le _) hl.1 rfl (Nat.le_of_ble_eq_true rfl) dJ4_indexOf_2_17 ?_
  refine lv_goto (tgt := 36) hx hb dJ4_indexOf_2_20 (by decide) ?_
  exact hret rfl dJ4_indexOf_2_36
theorem ndJ4_indexOf : yJ4_indexOf.cls = RJ4 ∧ yJ4_indexOf.cls ≠ "java/lang/invoke/MethodHandle" ∧ yJ4_indexOf.cls ≠ "java/lang/invoke/VarHandle" ∧ (parseMethodDescriptor yJ4_indexOf.desc).map (fun d => d.parameters.length) = some 1 := by decide +kernel
set_option maxHeartbeats 400000 in
theorem st_ix {b0 : Nat} {ad adV : Nat → Nat} (i : Nat) (hi : i < 9) (n : Nat) (hn : n < 256) : Rg (srE b0 ad adV) yJ4_indexOf cJ4_indexOf 2 (some .int) 3 70 [.ref (ad i), .int (nI n)] (some (.int (ixN (nI n).toInt8.toInt32 (srB.getD i []) 0))) := by
  refine Rg.ofT (by decide) (own := RJ4) rfl (Nat.le_of_ble_eq_true rfl) (rfl) ?_
  intro p l e R s m args below meth c Q ls hx hb hml hRf hRl hts hown hE hl hret
  have hl : lv_has ls 2 [(0, .ref (ad i)), (1, .int (nI n))] := hl
  obtain ⟨hO, hC0, hV0, hT0⟩ := hE.1.1 i hi
  refine lv_aload_n hx hb dJ4_indexOf_0 rfl (lv_at hl 0 rfl) ?_
  refine lv_iload_n hx hb dJ4_indexOf_1 rfl (lv_at hl 1 rfl) ?_
  refine lv_iconst (v := nI 0) hx hb dJ4_indexOf_2 (by decide) ?_
  refine rg_callV (y := yJ4_indexOf_2) (b := ad i) (C := RJ4) (As := [.int (nI n), .int (nI 0)]) hx hb hml hown hts (st_ix2 (b0 := b0) (ad := ad) (adV := adV) i hi n hn) sr_blind (fun U hU hW => hE.go hW (fun q _ _ => by rw [hU])) (vk_recv hE.1 hi sr_S) q745 q746 q747 q82 q748 ndJ4_indexOf_2 rfl (by rw [hRf]; decide) (by rw [hRl]; decide) (Nat.zero_le _) (Nat.zero_le _) hl.1 rfl (Nat.le_of_ble_eq_true rfl) dJ4_indexOf_3 ?_
  exact hret rfl dJ4_indexOf_6
