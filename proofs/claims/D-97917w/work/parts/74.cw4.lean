/-! acts, 2 (printed by comp10.py) -/
set_option maxRecDepth 100000
/-- an act without handlers: from f, a to f', a', answers v -/
def CmG (y : MethodName) (cc : ByteArray) (maxL : Nat) (fr lo : Nat) (As : List Value) (f : Nat → Int32) (a : Nat → Nat → Int32) (v : Int32) (f' : Nat → Int32) (a' : Nat → Nat → Int32) : Prop :=
  ∀ (D : va_G) (dA : Nat → ClassId) (h : Nat → Nat) (fc : Int32) (wk : Nat → Nat → Int32) (hd : Nat → Option Nat) (ri rt : Nat → Int32) (cw tx : Nat → Nat → Option Nat) (nm : Nat → Nat → Int32) (A0 : Nat → Prop) (b2 : Nat), cmI h → (∀ q, cmA h q → A0 q) → (∀ q, b2 ≤ q → A0 q) →
    Cg D dA A0 y cc maxL (some .int) fr lo 0 0 (.ref (h 0) :: As) (fun H => b2 ≤ H.size ∧ va_P D cmCl (cmWs h dA f a fc wk hd ri rt cw tx nm) H ∧ cmQ D dA h hd A0 f a ri rt cw tx H)
      (fun v' H => v' = some (.int v) ∧ ∃ fc' wk' hd' ri' rt' cw' tx' nm', va_P D cmCl (cmWs h dA f' a' fc' wk' hd' ri' rt' cw' tx' nm') H ∧ cmQ D dA h hd' A0 f' a' ri' rt' cw' tx' H)
theorem CmG.ofI {y : MethodName} {cc : ByteArray} {maxL fr lo : Nat} {As : List Value} {f f' : Nat → Int32} {a a' : Nat → Nat → Int32} {v : Int32} (hy : plainName y.cls = true) (hcl : y.cls = RX0) (hlen : (lg_sl (.ref 0 :: As)).length ≤ maxL)
    (body : ∀ (p : Program) (l : Launch) (e : Env) (R : Room) (s : State) (m : MethodId) (args : Array Value) (below : List Frame) (meth : Method) (c : Code) (Q : State → Prop) (D : va_G) (dA : Nat → ClassId) (h : Nat → Nat) (fc : Int32) (wk : Nat → Nat → Int32) (hd : Nat → Option Nat) (ri rt : Nat → Int32) (cw tx : Nat → Nat → Option Nat) (nm : Nat → Nat → Int32) (B S : Nat → Prop) (ls : Array Slot), p.tables.exec = Jvm.exec → c.code = cc → c.maxLocals = maxL → R.frames = fr → R.locals = lo → R.cells = 0 → R.slots = 0 → (∀ w ∈ lw_all, w.before args s = true) → s.vm.findClass RX0 = some m.cls → cmK D dA s → cmI h → (∀ q, B q → ¬ cmA h q) → (∀ q, S q → ¬ cmA h q) → cmPl D h B (a 1) ri rt cw tx s.heap → (cl (a 1 3) ≤ 5 ∧ cl (ri 3) ≤ 5 ∧ cl (rt 3) ≤ 5) → (¬ f 4 = 0 → ri = a 2) → cmZ (a 1) ri cw → shOK D h dA hd S a s.heap → cmH D h dA s.heap s.heap [] f a fc wk hd ri rt cw tx nm → lv_has ls maxL (lv_args 0 (.ref (h 0) :: As)) →
      (∀ {H : Heap} {locs : List Loc} {pc : Nat} {ls : Array Slot} {x : Int32} {fc' : Int32} {wk' : Nat → Nat → Int32} {ri' rt' : Nat → Int32} {cw' tx' : Nat → Nat → Option Nat} {nm' : Nat → Nat → Int32}, cmH D h dA s.heap H locs f' a' fc' wk' hd ri' rt' cw' tx' nm' → cmPl D h B (a' 1) ri' rt' cw' tx' H → (cl (a' 1 3) ≤ 5 ∧ cl (ri' 3) ≤ 5 ∧ cl (rt' 3) ≤ 5) → (¬ f' 4 = 0 → ri' = a' 2) → cmZ (a' 1) ri' cw' → shOK D h dA hd S a' H → x = v → decode cc pc = .ok (.ireturn, 1) → W p l e R s m args below meth c H locs 0 0 Q (F0 m pc ls [.int x])) →
      (∀ {H : Heap} {locs : List Loc} {pc : Nat} {ls : Array Slot} {x : Int32} {fc' : Int32} {wk' : Nat → Nat → Int32} {nm' : Nat → Nat → Int32}, cmH D h dA s.heap H locs f' a' fc' wk' hd ri rt cw tx nm' → mwEq (a 1) (a' 1) → f' 4 = f 4 → a' 2 = a 2 → (a' 6 = a 6 ∧ a' 7 = a 7 ∧ a' 8 = a 8) → x = v → decode cc pc = .ok (.ireturn, 1) → W p l e R s m args below meth c H locs 0 0 Q (F0 m pc ls [.int x])) →
      W p l e R s m args below meth c s.heap [] 0 0 Q (F0 m 0 ls [])) : CmG y cc maxL fr lo As f a v f' a' := by
  intro D dA h fc wk hd ri rt cw tx nm A0 b2 hI hA hf
  refine Cg.ofI hy hcl hlen ?_
  intro p l e R s m args below meth c Q ls hx hb hml hRf hRl hRc hRs hin hts hown hK hP hl hret
  obtain ⟨-, hP, B, S, ⟨hB, hS0, hBS, hR⟩, hQ, hN, hIm, hZ, hSh⟩ := hP
  refine body p l e R s m args below meth c Q D dA h fc wk hd ri rt cw tx nm B S ls hx hb hml hRf hRl hRc hRs hts hown hK hI hB hS0 hQ hN hIm hZ hSh (cmH.of hI hP va_S.rf) hl ?_ ?_
  · intro H locs pc ls x fc' wk' ri' rt' cw' tx' nm' hM h1 h2 h3 h4 h5 hv hdg
    exact hret ⟨by rw [hv], _, _, _, _, _, _, _, _, hM.1, B, S, ⟨hB, hS0, hBS, fun q hq => ⟨(hR q hq).1, Nat.lt_of_lt_of_le (hR q hq).2 hM.2.2.1⟩⟩, h1, h2, h3, h4, h5⟩ (hM.2.2.wd hA) hdg
  · intro H locs pc ls x fc' wk' nm' hM h1 h2 h3 h6 hv hdg
    exact hret ⟨by rw [hv], _, _, _, _, _, _, _, _, hM.1, B, S, ⟨hB, hS0, hBS, fun q hq => ⟨(hR q hq).1, Nat.lt_of_lt_of_le (hR q hq).2 hM.2.2.1⟩⟩, hQ.at hB hN h1 mwEq.rf mwEq.rf hM.2.2, ⟨by rw [h1.1]; exact hN.1, hN.2⟩, by rw [h2, h3]; exact hIm, by unfold cmZ; rw [h1.1]; exact hZ, hSh.to hS0 h6 hM.2.2⟩ (hM.2.2.wd hA) hdg
theorem cmH.cg {D : va_G} {h : Nat → Nat} {dA : Nat → ClassId} {H0 H : Heap} {locs : List Loc} {f f' : Nat → Int32} {a a' : Nat → Nat → Int32} {fc : Int32} {wk : Nat → Nat → Int32} {hd : Nat → Option Nat} {ri rt : Nat → Int32} {cw tx : Nat → Nat → Option Nat} {nm : Nat → Nat → Int32} (hM : cmH D h dA H0 H locs f a fc wk hd ri rt cw tx nm) (h1 : a' 1 = a 1) (h5 : a' 5 = a 5) (h14 : a' 14 = a 14) (g5 : f' 5 = f 5) (g24 : f' 24 = f 24) : cmH D h dA H0 H locs f' a' fc wk hd ri rt cw tx nm := by
  have e : cmWs h dA f' a' fc wk hd ri rt cw tx nm = cmWs h dA f a fc wk hd ri rt cw tx nm := by
    unfold cmWs cmBs cmOf
    rw [h1, h5, h14, g5, g24]
  unfold cmH
  rw [e]
  exact hM
set_option maxHeartbeats 400000 in
theorem ca_ofCell_ok0 (f : Nat → Int32) (a : Nat → Nat → Int32) (c0 : Nat) (hc : c0 < 25) (hN0 : okN (a 1 3) 5) : CmF yX0_ofCell cX0_ofCell 5 [(0, 121, 122, 8)] 2 60 [.int (nI c0), .int (nI 0)] f a (a 1 (8 + c0)) f a := by
  refine CmF.ofI (by decide) rfl (Nat.le_of_ble_eq_true rfl) ?_
  intro p l e R s m args below meth c Q D dA h fc wk hd ri rt cw tx nm B S ls hx hb hml hRf hRl hRc hRs htab hts hown hK hI hB hS0 hQ hN hIm hZ hSh hM hl hret hret0
  have hl : lv_has ls 5 [(0, .ref (h 0)), (1, .int (nI c0)), (2, .int (nI 0))] := hl
  have hN2 := hN0.2
  refine lv_aload_n hx hb dX0_ofCell_0 rfl (lv_at hl 0 rfl) ?_
  refine lv_iload_n hx hb dX0_ofCell_1 rfl (lv_at hl 1 rfl) ?_
  refine st_callS (y := yX0_isCell) hx hb hml hown hts (cmX0_isCell (nI c0)) q327 q328 q61 q329 ndX0_isCell rfl (by rw [hRf]; decide) (by rw [hRl]; decide) (Nat.zero_le _) (Nat.zero_le _) hl.1 rfl (Nat.le_of_ble_eq_true rfl) dX0_ofCell_2 ?_
  refine w_if_eqT (tgt := 21) hx hb dX0_ofCell_5 (by decide) (fun c_1 => ?_) (fun c_1 => ?_)
  · exact absurd (by first | exact (in_nat (by decide)).mpr ⟨_, by omega, rfl⟩ | exact (in_nat1 _ (by decide) (by decide)).mpr ⟨_, by omega, by omega, rfl⟩ | exact cow_in hN0 (by omega) | assumption) c_1
  · refine lv_iload_n hx hb dX0_ofCell_8 rfl (lv_at hl 2 rfl) ?_
    refine lv_iconst (v := nI 0) hx hb dX0_ofCell_9 (by decide) ?_
    refine lv_iconst (v := nI 3) hx hb dX0_ofCell_10 (by decide) ?_
    refine st_callS (y := yX0_in) hx hb hml hown hts (cmX0_in (nI 0) (nI 0) (nI 3)) q330 q331 q61 q332 ndX0_in rfl (by rw [hRf]; decide) (by rw [hRl]; decide) (Nat.zero_le _) (Nat.zero_le _) hl.1 rfl (Nat.le_of_ble_eq_true rfl) dX0_ofCell_11 ?_
    refine w_if_eqT (tgt := 21) hx hb dX0_ofCell_14 (by decide) (fun c_2 => ?_) (fun c_2 => ?_)
    · exact absurd (by first | exact (in_nat (by decide)).mpr ⟨_, by omega, rfl⟩ | exact (in_nat1 _ (by decide) (by decide)).mpr ⟨_, by omega, by omega, rfl⟩ | exact cow_in hN0 (by omega) | assumption) c_2
    · refine lv_iconst (v := nI 1) hx hb dX0_ofCell_17 (by decide) ?_
      refine lv_goto (tgt := 22) hx hb dX0_ofCell_18 (by decide) ?_
      refine lv_iconst (v := nI 1) hx hb dX0_ofCell_22 (by decide) ?_
      refine cm_n1 hx hb hml hown hts hK hI hM htab (hpc := 122) rfl q333 (by rw [hRf]; decide) (by rw [hRl]; decide) (Nat.zero_le _) (Nat.zero_le _) hl.1 (Nat.le_of_ble_eq_true rfl) dX0_ofCell_23 (fun locs hM => ?_)
      refine lv_iconst (v := nI 0) hx hb dX0_ofCell_26 (by decide) ?_
      refine lv_istore_n (lv' := [(3, .int (nI 0)), (0, .ref (h 0)), (1, .int (nI c0)), (2, .int (nI 0))]) hx hb dX0_ofCell_27 rfl hl (by decide) rfl (fun ls hl => ?_)
      refine lv_iconst (v := nI 0) hx hb dX0_ofCell_28 (by decide) ?_
      refine lv_istore (lv' := [(4, .int (nI 0)), (3, .int (nI 0)), (0, .ref (h 0)), (1, .int (nI c0)), (2, .int (nI 0))]) hx hb dX0_ofCell_29 hl (by decide) rfl (fun ls hl => ?_)
      have loop31 : ∀ (fu : Nat) (k : Nat), (k ≤ cl (a 1 3)) → (cl (a 1 3) < k + fu) → ∀ (fc : Int32) (wk nm : Nat → Nat → Int32) (H : Heap) (locs : List Loc), cmH D h dA s.heap H locs f a fc wk hd ri rt cw tx nm → ∀ (ls : Array Slot), lv_has ls 5 [(4, .int (nI k)), (3, .int (atS (a 1) c0 k)), (0, .ref (h 0)), (1, .int (nI c0)), (2, .int (nI 0))] → W p l e R s m args below meth c H locs 0 0 Q (F0 m 31 ls []) := by
        intro fu
        induction fu with
        | zero =>
          intro k hk hf
          omega
        | succ fu ih31 =>
          intro k hk hf fc wk nm H locs hM ls hl
          refine lv_iload hx hb dX0_ofCell_31 (lv_at hl 0 rfl) ?_
          refine lv_aload_n hx hb dX0_ofCell_33 rfl (lv_at hl 2 rfl) ?_
          refine c_get (v := .ref (hm0 h 0)) hx hb hts in_X0 hown hK (hM.1 0 _ rfl) rfl 1 (by decide) q287 rfl rfl dX0_ofCell_34 ?_
          have nq := hK.F 1 rfl
          refine c_getN (v := .int (a 1 3)) hx hb hts in_X2 hown hK ((cm_parts hM.1).2.1 0 _ rfl) rfl 3 (by decide) nq rfl rfl dX0_ofCell_37 ?_
          refine w_top (nI (cl (a 1 3))) (hN0.1) ?_
          refine w_icmp_geN (tgt := 71) hx hb (by omega) (by omega) dX0_ofCell_40 (by decide) (fun c_3 => ?_) (fun c_3 => ?_)
          · refine lv_iload_n hx hb dX0_ofCell_71 rfl (lv_at hl 4 rfl) ?_
            refine lv_if_ne (tgt := 87) hx hb dX0_ofCell_72 (by decide) (fun q => absurd q (by decide)) (fun _ => ?_)
            refine lv_aload_n hx hb dX0_ofCell_75 rfl (lv_at hl 2 rfl) ?_
            refine c_get (v := .ref (hm0 h 0)) hx hb hts in_X0 hown hK (hM.1 0 _ rfl) rfl 1 (by decide) q287 rfl rfl dX0_ofCell_76 ?_
            have nq := hK.F 3 rfl
            refine c_getN (v := .ref (hm0 h 1)) hx hb hts in_X2 hown hK ((cm_parts hM.1).2.1 0 _ rfl) rfl 0 (by decide) nq rfl rfl dX0_ofCell_79 ?_
            refine lv_iload_n hx hb dX0_ofCell_82 rfl (lv_at hl 3 rfl) ?_
            refine c_iald hx hb hK ((cm_parts hM.1).2.1 1 _ rfl) c0 ⟨by omega, by decide, rfl⟩ dX0_ofCell_83 ?_
            refine w_top (a 1 (8 + c0)) (rfl) ?_
            refine lv_goto (tgt := 121) hx hb dX0_ofCell_84 (by decide) ?_
            exact hret0 hM (mwEq.rf) rfl rfl ⟨rfl, rfl, rfl⟩ (rfl) dX0_ofCell_121
          · refine lv_iload_n hx hb dX0_ofCell_43 rfl (lv_at hl 1 rfl) ?_
            refine lv_aload_n hx hb dX0_ofCell_44 rfl (lv_at hl 2 rfl) ?_
            refine c_get (v := .ref (hm0 h 0)) hx hb hts in_X0 hown hK (hM.1 0 _ rfl) rfl 1 (by decide) q287 rfl rfl dX0_ofCell_45 ?_
            have nq := hK.F 5 rfl
            refine c_getN (v := .ref (hm0 h 4)) hx hb hts in_X2 hown hK ((cm_parts hM.1).2.1 0 _ rfl) rfl 5 (by decide) nq rfl rfl dX0_ofCell_48 ?_
            refine lv_iload hx hb dX0_ofCell_51 (lv_at hl 0 rfl) ?_
            refine c_iald hx hb hK ((cm_parts hM.1).2.1 4 _ rfl) k ⟨by omega, by decide, rfl⟩ dX0_ofCell_53 ?_
            refine w_top (a 1 (58 + 14 * k + 2)) (rfl) ?_
            refine lv_iload_n hx hb dX0_ofCell_54 rfl (lv_at hl 3 rfl) ?_
            have j63 : ∀ (fc : Int32) (wk nm : Nat → Nat → Int32) (H : Heap) (locs : List Loc), cmH D h dA s.heap H locs f a fc wk hd ri rt cw tx nm → ∀ (ls : Array Slot), lv_has ls 5 [(4, .int (nI k)), (3, .int (atS (a 1) c0 k)), (0, .ref (h 0)), (1, .int (nI c0)), (2, .int (nI 0))] → W p l e R s m args below meth c H locs 0 0 Q (F0 m 63 ls [.int (if a 1 (58 + 14 * k + 2) = nI c0 then nI 1 else nI 0), .int (atS (a 1) c0 k)]) := by
              intro   fc wk nm H locs hM ls hl
              refine lv_iadd hx hb dX0_ofCell_63 ?_
              refine lv_istore_n (lv' := [(3, .int ((atS (a 1) c0 k) + (if a 1 (58 + 14 * k + 2) = nI c0 then nI 1 else nI 0))), (4, .int (nI k)), (0, .ref (h 0)), (1, .int (nI c0)), (2, .int (nI 0))]) hx hb dX0_ofCell_64 rfl hl (by decide) rfl (fun ls hl => ?_)
              refine lv_iinc (v := nI (k + 1)) (lv' := [(4, .int (nI (k + 1))), (3, .int ((atS (a 1) c0 k) + (if a 1 (58 + 14 * k + 2) = nI c0 then nI 1 else nI 0))), (0, .ref (h 0)), (1, .int (nI c0)), (2, .int (nI 0))]) hx hb dX0_ofCell_65 hl (k := 1) rfl (by rw [show Int32.ofInt 1 = nI 1 from by decide]; exact nI_add _ _) (by decide) rfl (fun ls hl => ?_)
              refine lv_goto (tgt := 31) hx hb dX0_ofCell_68 (by decide) ?_
              exact ih31 (k + 1) (by omega) (by omega) _ _ _ _ _ hM ls (lv_sub hl [0, 1, 2, 3, 4] rfl)
            refine lv_icmp_ne (tgt := 62) hx hb dX0_ofCell_55 (by decide) (fun c_5 => ?_) (fun c_5 => ?_)
            · refine lv_iconst (v := nI 0) hx hb dX0_ofCell_62 (by decide) ?_
              refine w_top (if a 1 (58 + 14 * k + 2) = nI c0 then nI 1 else nI 0) ((if_neg c_5).symm) ?_
              exact j63   _ _ _ _ _ hM ls (lv_sub hl [0, 1, 2, 3, 4] rfl)
            · refine lv_iconst (v := nI 1) hx hb dX0_ofCell_58 (by decide) ?_
              refine lv_goto (tgt := 63) hx hb dX0_ofCell_59 (by decide) ?_
              refine w_top (if a 1 (58 + 14 * k + 2) = nI c0 then nI 1 else nI 0) ((if_pos c_5).symm) ?_
              exact j63   _ _ _ _ _ hM ls (lv_sub hl [0, 1, 2, 3, 4] rfl)
      exact loop31 (cl (a 1 3) + 1) 0 (by omega) (by omega) _ _ _ _ _ hM ls (lv_sub hl [0, 1, 2, 3, 4] rfl)
set_option maxHeartbeats 400000 in
theorem ca_ofCell_ok1 (f : Nat → Int32) (a : Nat → Nat → Int32) (c0 : Nat) (hc : c0 < 25) (hN0 : okN (a 1 3) 5) : CmF yX0_ofCell cX0_ofCell 5 [(0, 121, 122, 8)] 2 60 [.int (nI c0), .int (nI 1)] f a (a 1 (33 + c0)) f a := by
  refine CmF.ofI (by decide) rfl (Nat.le_of_ble_eq_true rfl) ?_
  intro p l e R s m args below meth c Q D dA h fc wk hd ri rt cw tx nm B S ls hx hb hml hRf hRl hRc hRs htab hts hown hK hI hB hS0 hQ hN hIm hZ hSh hM hl hret hret0
  have hl : lv_has ls 5 [(0, .ref (h 0)), (1, .int (nI c0)), (2, .int (nI 1))] := hl
  have hN2 := hN0.2
  refine lv_aload_n hx hb dX0_ofCell_0 rfl (lv_at hl 0 rfl) ?_
  refine lv_iload_n hx hb dX0_ofCell_1 rfl (lv_at hl 1 rfl) ?_
  refine st_callS (y := yX0_isCell) hx hb hml hown hts (cmX0_isCell (nI c0)) q327 q328 q61 q329 ndX0_isCell rfl (by rw [hRf]; decide) (by rw [hRl]; decide) (Nat.zero_le _) (Nat.zero_le _) hl.1 rfl (Nat.le_of_ble_eq_true rfl) dX0_ofCell_2 ?_
  refine w_if_eqT (tgt := 21) hx hb dX0_ofCell_5 (by decide) (fun c_1 => ?_) (fun c_1 => ?_)
  · exact absurd (by first | exact (in_nat (by decide)).mpr ⟨_, by omega, rfl⟩ | exact (in_nat1 _ (by decide) (by decide)).mpr ⟨_, by omega, by omega, rfl⟩ | exact cow_in hN0 (by omega) | assumption) c_1
  · refine lv_iload_n hx hb dX0_ofCell_8 rfl (lv_at hl 2 rfl) ?_
    refine lv_iconst (v := nI 0) hx hb dX0_ofCell_9 (by decide) ?_
    refine lv_iconst (v := nI 3) hx hb dX0_ofCell_10 (by decide) ?_
    refine st_callS (y := yX0_in) hx hb hml hown hts (cmX0_in (nI 1) (nI 0) (nI 3)) q330 q331 q61 q332 ndX0_in rfl (by rw [hRf]; decide) (by rw [hRl]; decide) (Nat.zero_le _) (Nat.zero_le _) hl.1 rfl (Nat.le_of_ble_eq_true rfl) dX0_ofCell_11 ?_
    refine w_if_eqT (tgt := 21) hx hb dX0_ofCell_14 (by decide) (fun c_2 => ?_) (fun c_2 => ?_)
    · exact absurd (by first | exact (in_nat (by decide)).mpr ⟨_, by omega, rfl⟩ | exact (in_nat1 _ (by decide) (by decide)).mpr ⟨_, by omega, by omega, rfl⟩ | exact cow_in hN0 (by omega) | assumption) c_2
    · refine lv_iconst (v := nI 1) hx hb dX0_ofCell_17 (by decide) ?_
      refine lv_goto (tgt := 22) hx hb dX0_ofCell_18 (by decide) ?_
      refine lv_iconst (v := nI 1) hx hb dX0_ofCell_22 (by decide) ?_
      refine cm_n1 hx hb hml hown hts hK hI hM htab (hpc := 122) rfl q333 (by rw [hRf]; decide) (by rw [hRl]; decide) (Nat.zero_le _) (Nat.zero_le _) hl.1 (Nat.le_of_ble_eq_true rfl) dX0_ofCell_23 (fun locs hM => ?_)
      refine lv_iconst (v := nI 0) hx hb dX0_ofCell_26 (by decide) ?_
      refine lv_istore_n (lv' := [(3, .int (nI 0)), (0, .ref (h 0)), (1, .int (nI c0)), (2, .int (nI 1))]) hx hb dX0_ofCell_27 rfl hl (by decide) rfl (fun ls hl => ?_)
      refine lv_iconst (v := nI 0) hx hb dX0_ofCell_28 (by decide) ?_
      refine lv_istore (lv' := [(4, .int (nI 0)), (3, .int (nI 0)), (0, .ref (h 0)), (1, .int (nI c0)), (2, .int (nI 1))]) hx hb dX0_ofCell_29 hl (by decide) rfl (fun ls hl => ?_)
      have loop31 : ∀ (fu : Nat) (k : Nat), (k ≤ cl (a 1 3)) → (cl (a 1 3) < k + fu) → ∀ (fc : Int32) (wk nm : Nat → Nat → Int32) (H : Heap) (locs : List Loc), cmH D h dA s.heap H locs f a fc wk hd ri rt cw tx nm → ∀ (ls : Array Slot), lv_has ls 5 [(4, .int (nI k)), (3, .int (atS (a 1) c0 k)), (0, .ref (h 0)), (1, .int (nI c0)), (2, .int (nI 1))] → W p l e R s m args below meth c H locs 0 0 Q (F0 m 31 ls []) := by
        intro fu
        induction fu with
        | zero =>
          intro k hk hf
          omega
        | succ fu ih31 =>
          intro k hk hf fc wk nm H locs hM ls hl
          refine lv_iload hx hb dX0_ofCell_31 (lv_at hl 0 rfl) ?_
          refine lv_aload_n hx hb dX0_ofCell_33 rfl (lv_at hl 2 rfl) ?_
          refine c_get (v := .ref (hm0 h 0)) hx hb hts in_X0 hown hK (hM.1 0 _ rfl) rfl 1 (by decide) q287 rfl rfl dX0_ofCell_34 ?_
          have nq := hK.F 1 rfl
          refine c_getN (v := .int (a 1 3)) hx hb hts in_X2 hown hK ((cm_parts hM.1).2.1 0 _ rfl) rfl 3 (by decide) nq rfl rfl dX0_ofCell_37 ?_
          refine w_top (nI (cl (a 1 3))) (hN0.1) ?_
          refine w_icmp_geN (tgt := 71) hx hb (by omega) (by omega) dX0_ofCell_40 (by decide) (fun c_3 => ?_) (fun c_3 => ?_)
          · refine lv_iload_n hx hb dX0_ofCell_71 rfl (lv_at hl 4 rfl) ?_
            refine lv_if_ne (tgt := 87) hx hb dX0_ofCell_72 (by decide) (fun _ => ?_) (fun q => absurd q (by decide))
            refine lv_iload_n hx hb dX0_ofCell_87 rfl (lv_at hl 4 rfl) ?_
            refine lv_iconst (v := nI 1) hx hb dX0_ofCell_88 (by decide) ?_
            refine lv_icmp_ne (tgt := 104) hx hb dX0_ofCell_89 (by decide) (fun q => absurd q (by decide)) (fun _ => ?_)
            refine lv_aload_n hx hb dX0_ofCell_92 rfl (lv_at hl 2 rfl) ?_
            refine c_get (v := .ref (hm0 h 0)) hx hb hts in_X0 hown hK (hM.1 0 _ rfl) rfl 1 (by decide) q287 rfl rfl dX0_ofCell_93 ?_
            have nq := hK.F 4 rfl
            refine c_getN (v := .ref (hm0 h 2)) hx hb hts in_X2 hown hK ((cm_parts hM.1).2.1 0 _ rfl) rfl 1 (by decide) nq rfl rfl dX0_ofCell_96 ?_
            refine lv_iload_n hx hb dX0_ofCell_99 rfl (lv_at hl 3 rfl) ?_
            refine c_iald hx hb hK ((cm_parts hM.1).2.1 2 _ rfl) c0 ⟨by omega, by decide, rfl⟩ dX0_ofCell_100 ?_
            refine w_top (a 1 (33 + c0)) (rfl) ?_
            refine lv_goto (tgt := 121) hx hb dX0_ofCell_101 (by decide) ?_
            exact hret0 hM (mwEq.rf) rfl rfl ⟨rfl, rfl, rfl⟩ (rfl) dX0_ofCell_121
          · refine lv_iload_n hx hb dX0_ofCell_43 rfl (lv_at hl 1 rfl) ?_
            refine lv_aload_n hx hb dX0_ofCell_44 rfl (lv_at hl 2 rfl) ?_
            refine c_get (v := .ref (hm0 h 0)) hx hb hts in_X0 hown hK (hM.1 0 _ rfl) rfl 1 (by decide) q287 rfl rfl dX0_ofCell_45 ?_
            have nq := hK.F 5 rfl
            refine c_getN (v := .ref (hm0 h 4)) hx hb hts in_X2 hown hK ((cm_parts hM.1).2.1 0 _ rfl) rfl 5 (by decide) nq rfl rfl dX0_ofCell_48 ?_
            refine lv_iload hx hb dX0_ofCell_51 (lv_at hl 0 rfl) ?_
            refine c_iald hx hb hK ((cm_parts hM.1).2.1 4 _ rfl) k ⟨by omega, by decide, rfl⟩ dX0_ofCell_53 ?_
            refine w_top (a 1 (58 + 14 * k + 2)) (rfl) ?_
            refine lv_iload_n hx hb dX0_ofCell_54 rfl (lv_at hl 3 rfl) ?_
            have j63 : ∀ (fc : Int32) (wk nm : Nat → Nat → Int32) (H : Heap) (locs : List Loc), cmH D h dA s.heap H locs f a fc wk hd ri rt cw tx nm → ∀ (ls : Array Slot), lv_has ls 5 [(4, .int (nI k)), (3, .int (atS (a 1) c0 k)), (0, .ref (h 0)), (1, .int (nI c0)), (2, .int (nI 1))] → W p l e R s m args below meth c H locs 0 0 Q (F0 m 63 ls [.int (if a 1 (58 + 14 * k + 2) = nI c0 then nI 1 else nI 0), .int (atS (a 1) c0 k)]) := by
              intro   fc wk nm H locs hM ls hl
              refine lv_iadd hx hb dX0_ofCell_63 ?_
              refine lv_istore_n (lv' := [(3, .int ((atS (a 1) c0 k) + (if a 1 (58 + 14 * k + 2) = nI c0 then nI 1 else nI 0))), (4, .int (nI k)), (0, .ref (h 0)), (1, .int (nI c0)), (2, .int (nI 1))]) hx hb dX0_ofCell_64 rfl hl (by decide) rfl (fun ls hl => ?_)
              refine lv_iinc (v := nI (k + 1)) (lv' := [(4, .int (nI (k + 1))), (3, .int ((atS (a 1) c0 k) + (if a 1 (58 + 14 * k + 2) = nI c0 then nI 1 else nI 0))), (0, .ref (h 0)), (1, .int (nI c0)), (2, .int (nI 1))]) hx hb dX0_ofCell_65 hl (k := 1) rfl (by rw [show Int32.ofInt 1 = nI 1 from by decide]; exact nI_add _ _) (by decide) rfl (fun ls hl => ?_)
              refine lv_goto (tgt := 31) hx hb dX0_ofCell_68 (by decide) ?_
              exact ih31 (k + 1) (by omega) (by omega) _ _ _ _ _ hM ls (lv_sub hl [0, 1, 2, 3, 4] rfl)
            refine lv_icmp_ne (tgt := 62) hx hb dX0_ofCell_55 (by decide) (fun c_6 => ?_) (fun c_6 => ?_)
            · refine lv_iconst (v := nI 0) hx hb dX0_ofCell_62 (by decide) ?_
              refine w_top (if a 1 (58 + 14 * k + 2) = nI c0 then nI 1 else nI 0) ((if_neg c_6).symm) ?_
              exact j63   _ _ _ _ _ hM ls (lv_sub hl [0, 1, 2, 3, 4] rfl)
            · refine lv_iconst (v := nI 1) hx hb dX0_ofCell_58 (by decide) ?_
              refine lv_goto (tgt := 63) hx hb dX0_ofCell_59 (by decide) ?_
              refine w_top (if a 1 (58 + 14 * k + 2) = nI c0 then nI 1 else nI 0) ((if_pos c_6).symm) ?_
              exact j63   _ _ _ _ _ hM ls (lv_sub hl [0, 1, 2, 3, 4] rfl)
      exact loop31 (cl (a 1 3) + 1) 0 (by omega) (by omega) _ _ _ _ _ hM ls (lv_sub hl [0, 1, 2, 3, 4] rfl)
set_option maxHeartbeats 400000 in
theorem ca_ofCell_ok2 (f : Nat → Int32) (a : Nat → Nat → Int32) (c0 : Nat) (hc : c0 < 25) (hN0 : okN (a 1 3) 5) : CmF yX0_ofCell cX0_ofCell 5 [(0, 121, 122, 8)] 2 60 [.int (nI c0), .int (nI 2)] f a (atS (a 1) c0 (cl (a 1 3))) f a := by
  refine CmF.ofI (by decide) rfl (Nat.le_of_ble_eq_true rfl) ?_
  intro p l e R s m args below meth c Q D dA h fc wk hd ri rt cw tx nm B S ls hx hb hml hRf hRl hRc hRs htab hts hown hK hI hB hS0 hQ hN hIm hZ hSh hM hl hret hret0
  have hl : lv_has ls 5 [(0, .ref (h 0)), (1, .int (nI c0)), (2, .int (nI 2))] := hl
  have hN2 := hN0.2
  refine lv_aload_n hx hb dX0_ofCell_0 rfl (lv_at hl 0 rfl) ?_
  refine lv_iload_n hx hb dX0_ofCell_1 rfl (lv_at hl 1 rfl) ?_
  refine st_callS (y := yX0_isCell) hx hb hml hown hts (cmX0_isCell (nI c0)) q327 q328 q61 q329 ndX0_isCell rfl (by rw [hRf]; decide) (by rw [hRl]; decide) (Nat.zero_le _) (Nat.zero_le _) hl.1 rfl (Nat.le_of_ble_eq_true rfl) dX0_ofCell_2 ?_
  refine w_if_eqT (tgt := 21) hx hb dX0_ofCell_5 (by decide) (fun c_1 => ?_) (fun c_1 => ?_)
  · exact absurd (by first | exact (in_nat (by decide)).mpr ⟨_, by omega, rfl⟩ | exact (in_nat1 _ (by decide) (by decide)).mpr ⟨_, by omega, by omega, rfl⟩ | exact cow_in hN0 (by omega) | assumption) c_1
  · refine lv_iload_n hx hb dX0_ofCell_8 rfl (lv_at hl 2 rfl) ?_
    refine lv_iconst (v := nI 0) hx hb dX0_ofCell_9 (by decide) ?_
    refine lv_iconst (v := nI 3) hx hb dX0_ofCell_10 (by decide) ?_
    refine st_callS (y := yX0_in) hx hb hml hown hts (cmX0_in (nI 2) (nI 0) (nI 3)) q330 q331 q61 q332 ndX0_in rfl (by rw [hRf]; decide) (by rw [hRl]; decide) (Nat.zero_le _) (Nat.zero_le _) hl.1 rfl (Nat.le_of_ble_eq_true rfl) dX0_ofCell_11 ?_
    refine w_if_eqT (tgt := 21) hx hb dX0_ofCell_14 (by decide) (fun c_2 => ?_) (fun c_2 => ?_)
    · exact absurd (by first | exact (in_nat (by decide)).mpr ⟨_, by omega, rfl⟩ | exact (in_nat1 _ (by decide) (by decide)).mpr ⟨_, by omega, by omega, rfl⟩ | exact cow_in hN0 (by omega) | assumption) c_2
    · refine lv_iconst (v := nI 1) hx hb dX0_ofCell_17 (by decide) ?_
      refine lv_goto (tgt := 22) hx hb dX0_ofCell_18 (by decide) ?_
      refine lv_iconst (v := nI 1) hx hb dX0_ofCell_22 (by decide) ?_
      refine cm_n1 hx hb hml hown hts hK hI hM htab (hpc := 122) rfl q333 (by rw [hRf]; decide) (by rw [hRl]; decide) (Nat.zero_le _) (Nat.zero_le _) hl.1 (Nat.le_of_ble_eq_true rfl) dX0_ofCell_23 (fun locs hM => ?_)
      refine lv_iconst (v := nI 0) hx hb dX0_ofCell_26 (by decide) ?_
      refine lv_istore_n (lv' := [(3, .int (nI 0)), (0, .ref (h 0)), (1, .int (nI c0)), (2, .int (nI 2))]) hx hb dX0_ofCell_27 rfl hl (by decide) rfl (fun ls hl => ?_)
      refine lv_iconst (v := nI 0) hx hb dX0_ofCell_28 (by decide) ?_
      refine lv_istore (lv' := [(4, .int (nI 0)), (3, .int (nI 0)), (0, .ref (h 0)), (1, .int (nI c0)), (2, .int (nI 2))]) hx hb dX0_ofCell_29 hl (by decide) rfl (fun ls hl => ?_)
      have loop31 : ∀ (fu : Nat) (k : Nat), (k ≤ cl (a 1 3)) → (cl (a 1 3) < k + fu) → ∀ (fc : Int32) (wk nm : Nat → Nat → Int32) (H : Heap) (locs : List Loc), cmH D h dA s.heap H locs f a fc wk hd ri rt cw tx nm → ∀ (ls : Array Slot), lv_has ls 5 [(4, .int (nI k)), (3, .int (atS (a 1) c0 k)), (0, .ref (h 0)), (1, .int (nI c0)), (2, .int (nI 2))] → W p l e R s m args below meth c H locs 0 0 Q (F0 m 31 ls []) := by
        intro fu
        induction fu with
        | zero =>
          intro k hk hf
          omega
        | succ fu ih31 =>
          intro k hk hf fc wk nm H locs hM ls hl
          refine lv_iload hx hb dX0_ofCell_31 (lv_at hl 0 rfl) ?_
          refine lv_aload_n hx hb dX0_ofCell_33 rfl (lv_at hl 2 rfl) ?_
          refine c_get (v := .ref (hm0 h 0)) hx hb hts in_X0 hown hK (hM.1 0 _ rfl) rfl 1 (by decide) q287 rfl rfl dX0_ofCell_34 ?_
          have nq := hK.F 1 rfl
          refine c_getN (v := .int (a 1 3)) hx hb hts in_X2 hown hK ((cm_parts hM.1).2.1 0 _ rfl) rfl 3 (by decide) nq rfl rfl dX0_ofCell_37 ?_
          refine w_top (nI (cl (a 1 3))) (hN0.1) ?_
          refine w_icmp_geN (tgt := 71) hx hb (by omega) (by omega) dX0_ofCell_40 (by decide) (fun c_3 => ?_) (fun c_3 => ?_)
          · refine lv_iload_n hx hb dX0_ofCell_71 rfl (lv_at hl 4 rfl) ?_
            refine lv_if_ne (tgt := 87) hx hb dX0_ofCell_72 (by decide) (fun _ => ?_) (fun q => absurd q (by decide))
            refine lv_iload_n hx hb dX0_ofCell_87 rfl (lv_at hl 4 rfl) ?_
            refine lv_iconst (v := nI 1) hx hb dX0_ofCell_88 (by decide) ?_
            refine lv_icmp_ne (tgt := 104) hx hb dX0_ofCell_89 (by decide) (fun _ => ?_) (fun q => absurd q (by decide))
            refine lv_iload_n hx hb dX0_ofCell_104 rfl (lv_at hl 4 rfl) ?_
            refine lv_iconst (v := nI 2) hx hb dX0_ofCell_105 (by decide) ?_
            refine lv_icmp_ne (tgt := 113) hx hb dX0_ofCell_106 (by decide) (fun q => absurd q (by decide)) (fun _ => ?_)
            refine lv_iload_n hx hb dX0_ofCell_109 rfl (lv_at hl 1 rfl) ?_
            refine lv_goto (tgt := 121) hx hb dX0_ofCell_110 (by decide) ?_
            exact hret0 hM (mwEq.rf) rfl rfl ⟨rfl, rfl, rfl⟩ (by rw [show k = cl (a 1 3) by omega]) dX0_ofCell_121
          · refine lv_iload_n hx hb dX0_ofCell_43 rfl (lv_at hl 1 rfl) ?_
            refine lv_aload_n hx hb dX0_ofCell_44 rfl (lv_at hl 2 rfl) ?_
            refine c_get (v := .ref (hm0 h 0)) hx hb hts in_X0 hown hK (hM.1 0 _ rfl) rfl 1 (by decide) q287 rfl rfl dX0_ofCell_45 ?_
            have nq := hK.F 5 rfl
            refine c_getN (v := .ref (hm0 h 4)) hx hb hts in_X2 hown hK ((cm_parts hM.1).2.1 0 _ rfl) rfl 5 (by decide) nq rfl rfl dX0_ofCell_48 ?_
            refine lv_iload hx hb dX0_ofCell_51 (lv_at hl 0 rfl) ?_
            refine c_iald hx hb hK ((cm_parts hM.1).2.1 4 _ rfl) k ⟨by omega, by decide, rfl⟩ dX0_ofCell_53 ?_
            refine w_top (a 1 (58 + 14 * k + 2)) (rfl) ?_
            refine lv_iload_n hx hb dX0_ofCell_54 rfl (lv_at hl 3 rfl) ?_
            have j63 : ∀ (fc : Int32) (wk nm : Nat → Nat → Int32) (H : Heap) (locs : List Loc), cmH D h dA s.heap H locs f a fc wk hd ri rt cw tx nm → ∀ (ls : Array Slot), lv_has ls 5 [(4, .int (nI k)), (3, .int (atS (a 1) c0 k)), (0, .ref (h 0)), (1, .int (nI c0)), (2, .int (nI 2))] → W p l e R s m args below meth c H locs 0 0 Q (F0 m 63 ls [.int (if a 1 (58 + 14 * k + 2) = nI c0 then nI 1 else nI 0), .int (atS (a 1) c0 k)]) := by
              intro   fc wk nm H locs hM ls hl
              refine lv_iadd hx hb dX0_ofCell_63 ?_
              refine lv_istore_n (lv' := [(3, .int ((atS (a 1) c0 k) + (if a 1 (58 + 14 * k + 2) = nI c0 then nI 1 else nI 0))), (4, .int (nI k)), (0, .ref (h 0)), (1, .int (nI c0)), (2, .int (nI 2))]) hx hb dX0_ofCell_64 rfl hl (by decide) rfl (fun ls hl => ?_)
              refine lv_iinc (v := nI (k + 1)) (lv' := [(4, .int (nI (k + 1))), (3, .int ((atS (a 1) c0 k) + (if a 1 (58 + 14 * k + 2) = nI c0 then nI 1 else nI 0))), (0, .ref (h 0)), (1, .int (nI c0)), (2, .int (nI 2))]) hx hb dX0_ofCell_65 hl (k := 1) rfl (by rw [show Int32.ofInt 1 = nI 1 from by decide]; exact nI_add _ _) (by decide) rfl (fun ls hl => ?_)
              refine lv_goto (tgt := 31) hx hb dX0_ofCell_68 (by decide) ?_
              exact ih31 (k + 1) (by omega) (by omega) _ _ _ _ _ hM ls (lv_sub hl [0, 1, 2, 3, 4] rfl)
            refine lv_icmp_ne (tgt := 62) hx hb dX0_ofCell_55 (by decide) (fun c_7 => ?_) (fun c_7 => ?_)
            · refine lv_iconst (v := nI 0) hx hb dX0_ofCell_62 (by decide) ?_
              refine w_top (if a 1 (58 + 14 * k + 2) = nI c0 then nI 1 else nI 0) ((if_neg c_7).symm) ?_
              exact j63   _ _ _ _ _ hM ls (lv_sub hl [0, 1, 2, 3, 4] rfl)
            · refine lv_iconst (v := nI 1) hx hb dX0_ofCell_58 (by decide) ?_
              refine lv_goto (tgt := 63) hx hb dX0_ofCell_59 (by decide) ?_
              refine w_top (if a 1 (58 + 14 * k + 2) = nI c0 then nI 1 else nI 0) ((if_pos c_7).symm) ?_
              exact j63   _ _ _ _ _ hM ls (lv_sub hl [0, 1, 2, 3, 4] rfl)
      exact loop31 (cl (a 1 3) + 1) 0 (by omega) (by omega) _ _ _ _ _ hM ls (lv_sub hl [0, 1, 2, 3, 4] rfl)
set_option maxHeartbeats 400000 in
theorem ca_ofCell_ok3 (f : Nat → Int32) (a : Nat → Nat → Int32) (c0 : Nat) (hc : c0 < 25) (hN0 : okN (a 1 3) 5) : CmF yX0_ofCell cX0_ofCell 5 [(0, 121, 122, 8)] 64 1465 [.int (nI c0), .int (nI 3)] f a (drwV a c0) f a := by
  refine CmF.ofI (by decide) rfl (Nat.le_of_ble_eq_true rfl) ?_
  intro p l e R s m args below meth c Q D dA h fc wk hd ri rt cw tx nm B S ls hx hb hml hRf hRl hRc hRs htab hts hown hK hI hB hS0 hQ hN hIm hZ hSh hM hl hret hret0
  have hl : lv_has ls 5 [(0, .ref (h 0)), (1, .int (nI c0)), (2, .int (nI 3))] := hl
  have hN2 := hN0.2
  refine lv_aload_n hx hb dX0_ofCell_0 rfl (lv_at hl 0 rfl) ?_
  refine lv_iload_n hx hb dX0_ofCell_1 rfl (lv_at hl 1 rfl) ?_
  refine st_callS (y := yX0_isCell) hx hb hml hown hts (cmX0_isCell (nI c0)) q327 q328 q61 q329 ndX0_isCell rfl (by rw [hRf]; decide) (by rw [hRl]; decide) (Nat.zero_le _) (Nat.zero_le _) hl.1 rfl (Nat.le_of_ble_eq_true rfl) dX0_ofCell_2 ?_
  refine w_if_eqT (tgt := 21) hx hb dX0_ofCell_5 (by decide) (fun c_1 => ?_) (fun c_1 => ?_)
  · exact absurd (by first | exact (in_nat (by decide)).mpr ⟨_, by omega, rfl⟩ | exact (in_nat1 _ (by decide) (by decide)).mpr ⟨_, by omega, by omega, rfl⟩ | exact cow_in hN0 (by omega) | assumption) c_1
  · refine lv_iload_n hx hb dX0_ofCell_8 rfl (lv_at hl 2 rfl) ?_
    refine lv_iconst (v := nI 0) hx hb dX0_ofCell_9 (by decide) ?_
    refine lv_iconst (v := nI 3) hx hb dX0_ofCell_10 (by decide) ?_
    refine st_callS (y := yX0_in) hx hb hml hown hts (cmX0_in (nI 3) (nI 0) (nI 3)) q330 q331 q61 q332 ndX0_in rfl (by rw [hRf]; decide) (by rw [hRl]; decide) (Nat.zero_le _) (Nat.zero_le _) hl.1 rfl (Nat.le_of_ble_eq_true rfl) dX0_ofCell_11 ?_
    refine w_if_eqT (tgt := 21) hx hb dX0_ofCell_14 (by decide) (fun c_2 => ?_) (fun c_2 => ?_)
    · exact absurd (by first | exact (in_nat (by decide)).mpr ⟨_, by omega, rfl⟩ | exact (in_nat1 _ (by decide) (by decide)).mpr ⟨_, by omega, by omega, rfl⟩ | exact cow_in hN0 (by omega) | assumption) c_2
    · refine lv_iconst (v := nI 1) hx hb dX0_ofCell_17 (by decide) ?_
      refine lv_goto (tgt := 22) hx hb dX0_ofCell_18 (by decide) ?_
      refine lv_iconst (v := nI 1) hx hb dX0_ofCell_22 (by decide) ?_
      refine cm_n1 hx hb hml hown hts hK hI hM htab (hpc := 122) rfl q333 (by rw [hRf]; decide) (by rw [hRl]; decide) (Nat.zero_le _) (Nat.zero_le _) hl.1 (Nat.le_of_ble_eq_true rfl) dX0_ofCell_23 (fun locs hM => ?_)
      refine lv_iconst (v := nI 0) hx hb dX0_ofCell_26 (by decide) ?_
      refine lv_istore_n (lv' := [(3, .int (nI 0)), (0, .ref (h 0)), (1, .int (nI c0)), (2, .int (nI 3))]) hx hb dX0_ofCell_27 rfl hl (by decide) rfl (fun ls hl => ?_)
      refine lv_iconst (v := nI 0) hx hb dX0_ofCell_28 (by decide) ?_
      refine lv_istore (lv' := [(4, .int (nI 0)), (3, .int (nI 0)), (0, .ref (h 0)), (1, .int (nI c0)), (2, .int (nI 3))]) hx hb dX0_ofCell_29 hl (by decide) rfl (fun ls hl => ?_)
      have loop31 : ∀ (fu : Nat) (k : Nat), (k ≤ cl (a 1 3)) → (cl (a 1 3) < k + fu) → ∀ (fc : Int32) (wk nm : Nat → Nat → Int32) (H : Heap) (locs : List Loc), cmH D h dA s.heap H locs f a fc wk hd ri rt cw tx nm → ∀ (ls : Array Slot), lv_has ls 5 [(4, .int (nI k)), (3, .int (atS (a 1) c0 k)), (0, .ref (h 0)), (1, .int (nI c0)), (2, .int (nI 3))] → W p l e R s m args below meth c H locs 0 0 Q (F0 m 31 ls []) := by
        intro fu
        induction fu with
        | zero =>
          intro k hk hf
          omega
        | succ fu ih31 =>
          intro k hk hf fc wk nm H locs hM ls hl
          refine lv_iload hx hb dX0_ofCell_31 (lv_at hl 0 rfl) ?_
          refine lv_aload_n hx hb dX0_ofCell_33 rfl (lv_at hl 2 rfl) ?_
          refine c_get (v := .ref (hm0 h 0)) hx hb hts in_X0 hown hK (hM.1 0 _ rfl) rfl 1 (by decide) q287 rfl rfl dX0_ofCell_34 ?_
          have nq := hK.F 1 rfl
          refine c_getN (v := .int (a 1 3)) hx hb hts in_X2 hown hK ((cm_parts hM.1).2.1 0 _ rfl) rfl 3 (by decide) nq rfl rfl dX0_ofCell_37 ?_
          refine w_top (nI (cl (a 1 3))) (hN0.1) ?_
          refine w_icmp_geN (tgt := 71) hx hb (by omega) (by omega) dX0_ofCell_40 (by decide) (fun c_3 => ?_) (fun c_3 => ?_)
          · refine lv_iload_n hx hb dX0_ofCell_71 rfl (lv_at hl 4 rfl) ?_
            refine lv_if_ne (tgt := 87) hx hb dX0_ofCell_72 (by decide) (fun _ => ?_) (fun q => absurd q (by decide))
            refine lv_iload_n hx hb dX0_ofCell_87 rfl (lv_at hl 4 rfl) ?_
            refine lv_iconst (v := nI 1) hx hb dX0_ofCell_88 (by decide) ?_
            refine lv_icmp_ne (tgt := 104) hx hb dX0_ofCell_89 (by decide) (fun _ => ?_) (fun q => absurd q (by decide))
            refine lv_iload_n hx hb dX0_ofCell_104 rfl (lv_at hl 4 rfl) ?_
            refine lv_iconst (v := nI 2) hx hb dX0_ofCell_105 (by decide) ?_
            refine lv_icmp_ne (tgt := 113) hx hb dX0_ofCell_106 (by decide) (fun _ => ?_) (fun q => absurd q (by decide))
            refine lv_aload_n hx hb dX0_ofCell_113 rfl (lv_at hl 2 rfl) ?_
            refine c_get (v := .ref (hm0 h 0)) hx hb hts in_X0 hown hK (hM.1 0 _ rfl) rfl 1 (by decide) q287 rfl rfl dX0_ofCell_114 ?_
            refine lv_iload_n hx hb dX0_ofCell_117 rfl (lv_at hl 3 rfl) ?_
            refine cm_mcall0 (y := yX2_draws) hx hb hml hown hts hK hI hB hM (hQ.at hB hN mwEq.rf mwEq.rf mwEq.rf hM.2.2) (hN.1) (mw_draws (a 1) c0 (by omega) hN2) q350 q351 q352 q353 ndX2_draws rfl (by rw [hRf]; decide) (by rw [hRl]; decide) (Nat.zero_le _) (Nat.zero_le _) hl.1 rfl (Nat.le_of_ble_eq_true rfl) dX0_ofCell_118 (fun H locs nm hM => ?_)
            rw [va_uself] at hM
            exact hret0 hM (mwEq.rf) rfl rfl ⟨rfl, rfl, rfl⟩ (rfl) dX0_ofCell_121
          · refine lv_iload_n hx hb dX0_ofCell_43 rfl (lv_at hl 1 rfl) ?_
            refine lv_aload_n hx hb dX0_ofCell_44 rfl (lv_at hl 2 rfl) ?_
            refine c_get (v := .ref (hm0 h 0)) hx hb hts in_X0 hown hK (hM.1 0 _ rfl) rfl 1 (by decide) q287 rfl rfl dX0_ofCell_45 ?_
            have nq := hK.F 5 rfl
            refine c_getN (v := .ref (hm0 h 4)) hx hb hts in_X2 hown hK ((cm_parts hM.1).2.1 0 _ rfl) rfl 5 (by decide) nq rfl rfl dX0_ofCell_48 ?_
            refine lv_iload hx hb dX0_ofCell_51 (lv_at hl 0 rfl) ?_
            refine c_iald hx hb hK ((cm_parts hM.1).2.1 4 _ rfl) k ⟨by omega, by decide, rfl⟩ dX0_ofCell_53 ?_
            refine w_top (a 1 (58 + 14 * k + 2)) (rfl) ?_
            refine lv_iload_n hx hb dX0_ofCell_54 rfl (lv_at hl 3 rfl) ?_
            have j63 : ∀ (fc : Int32) (wk nm : Nat → Nat → Int32) (H : Heap) (locs : List Loc), cmH D h dA s.heap H locs f a fc wk hd ri rt cw tx nm → ∀ (ls : Array Slot), lv_has ls 5 [(4, .int (nI k)), (3, .int (atS (a 1) c0 k)), (0, .ref (h 0)), (1, .int (nI c0)), (2, .int (nI 3))] → W p l e R s m args below meth c H locs 0 0 Q (F0 m 63 ls [.int (if a 1 (58 + 14 * k + 2) = nI c0 then nI 1 else nI 0), .int (atS (a 1) c0 k)]) := by
              intro   fc wk nm H locs hM ls hl
              refine lv_iadd hx hb dX0_ofCell_63 ?_
              refine lv_istore_n (lv' := [(3, .int ((atS (a 1) c0 k) + (if a 1 (58 + 14 * k + 2) = nI c0 then nI 1 else nI 0))), (4, .int (nI k)), (0, .ref (h 0)), (1, .int (nI c0)), (2, .int (nI 3))]) hx hb dX0_ofCell_64 rfl hl (by decide) rfl (fun ls hl => ?_)
              refine lv_iinc (v := nI (k + 1)) (lv' := [(4, .int (nI (k + 1))), (3, .int ((atS (a 1) c0 k) + (if a 1 (58 + 14 * k + 2) = nI c0 then nI 1 else nI 0))), (0, .ref (h 0)), (1, .int (nI c0)), (2, .int (nI 3))]) hx hb dX0_ofCell_65 hl (k := 1) rfl (by rw [show Int32.ofInt 1 = nI 1 from by decide]; exact nI_add _ _) (by decide) rfl (fun ls hl => ?_)
              refine lv_goto (tgt := 31) hx hb dX0_ofCell_68 (by decide) ?_
              exact ih31 (k + 1) (by omega) (by omega) _ _ _ _ _ hM ls (lv_sub hl [0, 1, 2, 3, 4] rfl)
            refine lv_icmp_ne (tgt := 62) hx hb dX0_ofCell_55 (by decide) (fun c_7 => ?_) (fun c_7 => ?_)
            · refine lv_iconst (v := nI 0) hx hb dX0_ofCell_62 (by decide) ?_
              refine w_top (if a 1 (58 + 14 * k + 2) = nI c0 then nI 1 else nI 0) ((if_neg c_7).symm) ?_
              exact j63   _ _ _ _ _ hM ls (lv_sub hl [0, 1, 2, 3, 4] rfl)
            · refine lv_iconst (v := nI 1) hx hb dX0_ofCell_58 (by decide) ?_
              refine lv_goto (tgt := 63) hx hb dX0_ofCell_59 (by decide) ?_
              refine w_top (if a 1 (58 + 14 * k + 2) = nI c0 then nI 1 else nI 0) ((if_pos c_7).symm) ?_
              exact j63   _ _ _ _ _ hM ls (lv_sub hl [0, 1, 2, 3, 4] rfl)
      exact loop31 (cl (a 1 3) + 1) 0 (by omega) (by omega) _ _ _ _ _ hM ls (lv_sub hl [0, 1, 2, 3, 4] rfl)
set_option maxHeartbeats 400000 in
theorem ca_ofCell_e (f : Nat → Int32) (a : Nat → Nat → Int32) (c0 w : Int32) (he : ¬ ((nI 0 ≤ c0 ∧ c0 ≤ nI 24) ∧ (nI 0 ≤ w ∧ w ≤ nI 3))) : CmF yX0_ofCell cX0_ofCell 5 [(0, 121, 122, 8)] 2 60 [.int c0, .int w] f a (-1000000001 : Int32) f (mErr a 1) := by
  refine CmF.ofI (by decide) rfl (Nat.le_of_ble_eq_true rfl) ?_
  intro p l e R s m args below meth c Q D dA h fc wk hd ri rt cw tx nm B S ls hx hb hml hRf hRl hRc hRs htab hts hown hK hI hB hS0 hQ hN hIm hZ hSh hM hl hret hret0
  have hl : lv_has ls 5 [(0, .ref (h 0)), (1, .int c0), (2, .int w)] := hl
  refine lv_aload_n hx hb dX0_ofCell_0 rfl (lv_at hl 0 rfl) ?_
  refine lv_iload_n hx hb dX0_ofCell_1 rfl (lv_at hl 1 rfl) ?_
  refine st_callS (y := yX0_isCell) hx hb hml hown hts (cmX0_isCell c0) q327 q328 q61 q329 ndX0_isCell rfl (by rw [hRf]; decide) (by rw [hRl]; decide) (Nat.zero_le _) (Nat.zero_le _) hl.1 rfl (Nat.le_of_ble_eq_true rfl) dX0_ofCell_2 ?_
  refine w_if_eqT (tgt := 21) hx hb dX0_ofCell_5 (by decide) (fun c_1 => ?_) (fun c_1 => ?_)
  · refine lv_iconst (v := nI 0) hx hb dX0_ofCell_21 (by decide) ?_
    refine lv_iconst (v := nI 1) hx hb dX0_ofCell_22 (by decide) ?_
    refine cm_n0 hx hb hml hown hts hK hI hM htab (hpc := 122) rfl q333 (by rw [hRf]; decide) (by rw [hRl]; decide) (Nat.zero_le _) (Nat.zero_le _) hl.1 (Nat.le_of_ble_eq_true rfl) dX0_ofCell_23 (fun H locs hM => ?_)
    refine lv_astore_n (lv' := [(3, .ref (h 1)), (0, .ref (h 0)), (1, .int c0), (2, .int w)]) hx hb dX0_ofCell_122 rfl hl (by decide) rfl (fun ls hl => ?_)
    refine lv_aload_n hx hb dX0_ofCell_123 rfl (lv_at hl 1 rfl) ?_
    refine lv_aload_n hx hb dX0_ofCell_124 rfl (lv_at hl 0 rfl) ?_
    refine cm_fin hx hb hml hown hts hK hI 1 (by decide) hM q341 (by rw [hRf]; decide) (by rw [hRl]; decide) (Nat.zero_le _) (Nat.zero_le _) hl.1 (Nat.le_of_ble_eq_true rfl) dX0_ofCell_125 (fun H locs hM => ?_)
    exact hret0 hM (mwEq.rf) rfl rfl ⟨rfl, rfl, rfl⟩ (by decide) dX0_ofCell_128
  · refine lv_iload_n hx hb dX0_ofCell_8 rfl (lv_at hl 2 rfl) ?_
    refine lv_iconst (v := nI 0) hx hb dX0_ofCell_9 (by decide) ?_
    refine lv_iconst (v := nI 3) hx hb dX0_ofCell_10 (by decide) ?_
    refine st_callS (y := yX0_in) hx hb hml hown hts (cmX0_in w (nI 0) (nI 3)) q330 q331 q61 q332 ndX0_in rfl (by rw [hRf]; decide) (by rw [hRl]; decide) (Nat.zero_le _) (Nat.zero_le _) hl.1 rfl (Nat.le_of_ble_eq_true rfl) dX0_ofCell_11 ?_
    refine w_if_eqT (tgt := 21) hx hb dX0_ofCell_14 (by decide) (fun c_2 => ?_) (fun c_2 => ?_)
    · refine lv_iconst (v := nI 0) hx hb dX0_ofCell_21 (by decide) ?_
      refine lv_iconst (v := nI 1) hx hb dX0_ofCell_22 (by decide) ?_
      refine cm_n0 hx hb hml hown hts hK hI hM htab (hpc := 122) rfl q333 (by rw [hRf]; decide) (by rw [hRl]; decide) (Nat.zero_le _) (Nat.zero_le _) hl.1 (Nat.le_of_ble_eq_true rfl) dX0_ofCell_23 (fun H locs hM => ?_)
      refine lv_astore_n (lv' := [(3, .ref (h 1)), (0, .ref (h 0)), (1, .int c0), (2, .int w)]) hx hb dX0_ofCell_122 rfl hl (by decide) rfl (fun ls hl => ?_)
      refine lv_aload_n hx hb dX0_ofCell_123 rfl (lv_at hl 1 rfl) ?_
      refine lv_aload_n hx hb dX0_ofCell_124 rfl (lv_at hl 0 rfl) ?_
      refine cm_fin hx hb hml hown hts hK hI 1 (by decide) hM q341 (by rw [hRf]; decide) (by rw [hRl]; decide) (Nat.zero_le _) (Nat.zero_le _) hl.1 (Nat.le_of_ble_eq_true rfl) dX0_ofCell_125 (fun H locs hM => ?_)
      exact hret0 hM (mwEq.rf) rfl rfl ⟨rfl, rfl, rfl⟩ (by decide) dX0_ofCell_128
    · refine lv_iconst (v := nI 1) hx hb dX0_ofCell_17 (by decide) ?_
      refine lv_goto (tgt := 22) hx hb dX0_ofCell_18 (by decide) ?_
      refine lv_iconst (v := nI 1) hx hb dX0_ofCell_22 (by decide) ?_
      exact absurd ⟨c_1, c_2⟩ he
set_option maxHeartbeats 400000 in
theorem ca_count_ok0 (f : Nat → Int32) (a : Nat → Nat → Int32)  : CmF yX0_count cX0_count 3 [(0, 63, 120, 8), (64, 71, 120, 8), (72, 79, 120, 8), (80, 87, 120, 8), (88, 95, 120, 8), (96, 103, 120, 8), (104, 111, 120, 8), (112, 119, 120, 8)] 2 60 [.int (nI 0)] f a (a 1 3) f a := by
  refine CmF.ofI (by decide) rfl (Nat.le_of_ble_eq_true rfl) ?_
  intro p l e R s m args below meth c Q D dA h fc wk hd ri rt cw tx nm B S ls hx hb hml hRf hRl hRc hRs htab hts hown hK hI hB hS0 hQ hN hIm hZ hSh hM hl hret hret0
  have hl : lv_has ls 3 [(0, .ref (h 0)), (1, .int (nI 0))] := hl
  refine lv_aload_n hx hb dX0_count_0 rfl (lv_at hl 0 rfl) ?_
  refine lv_iload_n hx hb dX0_count_1 rfl (lv_at hl 1 rfl) ?_
  refine lv_iconst (v := nI 0) hx hb dX0_count_2 (by decide) ?_
  refine lv_bipush (v := nI 7) hx hb dX0_count_3 (by decide) ?_
  refine st_callS (y := yX0_in) hx hb hml hown hts (cmX0_in (nI 0) (nI 0) (nI 7)) q330 q331 q61 q332 ndX0_in rfl (by rw [hRf]; decide) (by rw [hRl]; decide) (Nat.zero_le _) (Nat.zero_le _) hl.1 rfl (Nat.le_of_ble_eq_true rfl) dX0_count_5 ?_
  refine lv_iconst (v := nI 1) hx hb dX0_count_8 (by decide) ?_
  refine cm_need hx hb hml hown hts hK hI hM htab (hpc := 120) rfl q333 (by rw [hRf]; decide) (by rw [hRl]; decide) (Nat.zero_le _) (Nat.zero_le _) hl.1 (Nat.le_of_ble_eq_true rfl) dX0_count_9 (fun c_1 locs hM => ?_) (fun c_1 H locs hM => ?_)
  · refine lv_iload_n hx hb dX0_count_12 rfl (lv_at hl 1 rfl) ?_
    refine lv_tableIn (off := 43) (tgt := 56) hx hb dX0_count_13 (by decide) (by decide) (by rfl) (by decide) ?_
    refine lv_aload_n hx hb dX0_count_56 rfl (lv_at hl 0 rfl) ?_
    refine c_get (v := .ref (hm0 h 0)) hx hb hts in_X0 hown hK (hM.1 0 _ rfl) rfl 1 (by decide) q287 rfl rfl dX0_count_57 ?_
    have nq := hK.F 1 rfl
    refine c_getN (v := .int (a 1 3)) hx hb hts in_X2 hown hK ((cm_parts hM.1).2.1 0 _ rfl) rfl 3 (by decide) nq rfl rfl dX0_count_60 ?_
    exact hret0 hM (mwEq.rf) rfl rfl ⟨rfl, rfl, rfl⟩ (rfl) dX0_count_63
  · exact absurd (by first | exact (in_nat (by decide)).mpr ⟨_, by omega, rfl⟩ | exact (in_nat1 _ (by decide) (by decide)).mpr ⟨_, by omega, by omega, rfl⟩ | exact cow_in hN0 (by omega) | assumption) c_1
set_option maxHeartbeats 400000 in
theorem ca_count_ok1 (f : Nat → Int32) (a : Nat → Nat → Int32)  : CmF yX0_count cX0_count 3 [(0, 63, 120, 8), (64, 71, 120, 8), (72, 79, 120, 8), (80, 87, 120, 8), (88, 95, 120, 8), (96, 103, 120, 8), (104, 111, 120, 8), (112, 119, 120, 8)] 2 60 [.int (nI 1)] f a (a 1 0) f a := by
  refine CmF.ofI (by decide) rfl (Nat.le_of_ble_eq_true rfl) ?_
  intro p l e R s m args below meth c Q D dA h fc wk hd ri rt cw tx nm B S ls hx hb hml hRf hRl hRc hRs htab hts hown hK hI hB hS0 hQ hN hIm hZ hSh hM hl hret hret0
  have hl : lv_has ls 3 [(0, .ref (h 0)), (1, .int (nI 1))] := hl
  refine lv_aload_n hx hb dX0_count_0 rfl (lv_at hl 0 rfl) ?_
  refine lv_iload_n hx hb dX0_count_1 rfl (lv_at hl 1 rfl) ?_
  refine lv_iconst (v := nI 0) hx hb dX0_count_2 (by decide) ?_
  refine lv_bipush (v := nI 7) hx hb dX0_count_3 (by decide) ?_
  refine st_callS (y := yX0_in) hx hb hml hown hts (cmX0_in (nI 1) (nI 0) (nI 7)) q330 q331 q61 q332 ndX0_in rfl (by rw [hRf]; decide) (by rw [hRl]; decide) (Nat.zero_le _) (Nat.zero_le _) hl.1 rfl (Nat.le_of_ble_eq_true rfl) dX0_count_5 ?_
  refine lv_iconst (v := nI 1) hx hb dX0_count_8 (by decide) ?_
  refine cm_need hx hb hml hown hts hK hI hM htab (hpc := 120) rfl q333 (by rw [hRf]; decide) (by rw [hRl]; decide) (Nat.zero_le _) (Nat.zero_le _) hl.1 (Nat.le_of_ble_eq_true rfl) dX0_count_9 (fun c_1 locs hM => ?_) (fun c_1 H locs hM => ?_)
  · refine lv_iload_n hx hb dX0_count_12 rfl (lv_at hl 1 rfl) ?_
    refine lv_tableIn (off := 51) (tgt := 64) hx hb dX0_count_13 (by decide) (by decide) (by rfl) (by decide) ?_
    refine lv_aload_n hx hb dX0_count_64 rfl (lv_at hl 0 rfl) ?_
    refine c_get (v := .ref (hm0 h 0)) hx hb hts in_X0 hown hK (hM.1 0 _ rfl) rfl 1 (by decide) q287 rfl rfl dX0_count_65 ?_
    have nq := hK.F 13 rfl
    refine c_getN (v := .int (a 1 0)) hx hb hts in_X2 hown hK ((cm_parts hM.1).2.1 0 _ rfl) rfl 8 (by decide) nq rfl rfl dX0_count_68 ?_
    exact hret0 hM (mwEq.rf) rfl rfl ⟨rfl, rfl, rfl⟩ (rfl) dX0_count_71
  · exact absurd (by first | exact (in_nat (by decide)).mpr ⟨_, by omega, rfl⟩ | exact (in_nat1 _ (by decide) (by decide)).mpr ⟨_, by omega, by omega, rfl⟩ | exact cow_in hN0 (by omega) | assumption) c_1
theorem ndX2_allGrass : yX2_allGrass.cls = RX2 ∧ yX2_allGrass.cls ≠ "java/lang/invoke/MethodHandle" ∧ yX2_allGrass.cls ≠ "java/lang/invoke/VarHandle" ∧ (parseMethodDescriptor yX2_allGrass.desc).map (fun d => d.parameters.length) = some 0 := by decide +kernel

set_option maxHeartbeats 400000 in
theorem ca_count_ok2 (f : Nat → Int32) (a : Nat → Nat → Int32)  : CmF yX0_count cX0_count 3 [(0, 63, 120, 8), (64, 71, 120, 8), (72, 79, 120, 8), (80, 87, 120, 8), (88, 95, 120, 8), (96, 103, 120, 8), (104, 111, 120, 8), (112, 119, 120, 8)] 2 60 [.int (nI 2)] f a (sumG (a 1) 25) f a := by
  refine CmF.ofI (by decide) rfl (Nat.le_of_ble_eq_true rfl) ?_
  intro p l e R s m args below meth c Q D dA h fc wk hd ri rt cw tx nm B S ls hx hb hml hRf hRl hRc hRs htab hts hown hK hI hB hS0 hQ hN hIm hZ hSh hM hl hret hret0
  have hl : lv_has ls 3 [(0, .ref (h 0)), (1, .int (nI 2))] := hl
  refine lv_aload_n hx hb dX0_count_0 rfl (lv_at hl 0 rfl) ?_
  refine lv_iload_n hx hb dX0_count_1 rfl (lv_at hl 1 rfl) ?_
  refine lv_iconst (v := nI 0) hx hb dX0_count_2 (by decide) ?_
  refine lv_bipush (v := nI 7) hx hb dX0_count_3 (by decide) ?_
  refine st_callS (y := yX0_in) hx hb hml hown hts (cmX0_in (nI 2) (nI 0) (nI 7)) q330 q331 q61 q332 ndX0_in rfl (by rw [hRf]; decide) (by rw [hRl]; decide) (Nat.zero_le _) (Nat.zero_le _) hl.1 rfl (Nat.le_of_ble_eq_true rfl) dX0_count_5 ?_
  refine lv_iconst (v := nI 1) hx hb dX0_count_8 (by decide) ?_
  refine cm_need hx hb hml hown hts hK hI hM htab (hpc := 120) rfl q333 (by rw [hRf]; decide) (by rw [hRl]; decide) (Nat.zero_le _) (Nat.zero_le _) hl.1 (Nat.le_of_ble_eq_true rfl) dX0_count_9 (fun c_1 locs hM => ?_) (fun c_1 H locs hM => ?_)
  · refine lv_iload_n hx hb dX0_count_12 rfl (lv_at hl 1 rfl) ?_
    refine lv_tableIn (off := 59) (tgt := 72) hx hb dX0_count_13 (by decide) (by decide) (by rfl) (by decide) ?_
    refine lv_aload_n hx hb dX0_count_72 rfl (lv_at hl 0 rfl) ?_
    refine c_get (v := .ref (hm0 h 0)) hx hb hts in_X0 hown hK (hM.1 0 _ rfl) rfl 1 (by decide) q287 rfl rfl dX0_count_73 ?_
    refine rd_callV (y := yX2_allGrass) hx hb hml hown hts hK ((mw_allGrass (a 1)) D dA (hm0 h) _ _ _) (cm_parts hM.1).2.1 (cAt.recv hK ((cm_parts hM.1).2.1 0 _ rfl) rfl) q935 q936 q937 q66 q938 ndX2_allGrass rfl (by rw [hRf]; decide) (by rw [hRl]; decide) (Nat.zero_le _) (Nat.zero_le _) hl.1 rfl (Nat.le_of_ble_eq_true rfl) dX0_count_76 ?_
    exact hret0 hM (mwEq.rf) rfl rfl ⟨rfl, rfl, rfl⟩ (rfl) dX0_count_79
  · exact absurd (by first | exact (in_nat (by decide)).mpr ⟨_, by omega, rfl⟩ | exact (in_nat1 _ (by decide) (by decide)).mpr ⟨_, by omega, by omega, rfl⟩ | exact cow_in hN0 (by omega) | assumption) c_1
set_option maxHeartbeats 400000 in
theorem ca_count_ok3 (f : Nat → Int32) (a : Nat → Nat → Int32)  : CmF yX0_count cX0_count 3 [(0, 63, 120, 8), (64, 71, 120, 8), (72, 79, 120, 8), (80, 87, 120, 8), (88, 95, 120, 8), (96, 103, 120, 8), (104, 111, 120, 8), (112, 119, 120, 8)] 2 60 [.int (nI 3)] f a (a 1 1) f a := by
  refine CmF.ofI (by decide) rfl (Nat.le_of_ble_eq_true rfl) ?_
  intro p l e R s m args below meth c Q D dA h fc wk hd ri rt cw tx nm B S ls hx hb hml hRf hRl hRc hRs htab hts hown hK hI hB hS0 hQ hN hIm hZ hSh hM hl hret hret0
  have hl : lv_has ls 3 [(0, .ref (h 0)), (1, .int (nI 3))] := hl
  refine lv_aload_n hx hb dX0_count_0 rfl (lv_at hl 0 rfl) ?_
  refine lv_iload_n hx hb dX0_count_1 rfl (lv_at hl 1 rfl) ?_
  refine lv_iconst (v := nI 0) hx hb dX0_count_2 (by decide) ?_
  refine lv_bipush (v := nI 7) hx hb dX0_count_3 (by decide) ?_
  refine st_callS (y := yX0_in) hx hb hml hown hts (cmX0_in (nI 3) (nI 0) (nI 7)) q330 q331 q61 q332 ndX0_in rfl (by rw [hRf]; decide) (by rw [hRl]; decide) (Nat.zero_le _) (Nat.zero_le _) hl.1 rfl (Nat.le_of_ble_eq_true rfl) dX0_count_5 ?_
  refine lv_iconst (v := nI 1) hx hb dX0_count_8 (by decide) ?_
  refine cm_need hx hb hml hown hts hK hI hM htab (hpc := 120) rfl q333 (by rw [hRf]; decide) (by rw [hRl]; decide) (Nat.zero_le _) (Nat.zero_le _) hl.1 (Nat.le_of_ble_eq_true rfl) dX0_count_9 (fun c_1 locs hM => ?_) (fun c_1 H locs hM => ?_)
  · refine lv_iload_n hx hb dX0_count_12 rfl (lv_at hl 1 rfl) ?_
    refine lv_tableIn (off := 67) (tgt := 80) hx hb dX0_count_13 (by decide) (by decide) (by rfl) (by decide) ?_
    refine lv_aload_n hx hb dX0_count_80 rfl (lv_at hl 0 rfl) ?_
    refine c_get (v := .ref (hm0 h 0)) hx hb hts in_X0 hown hK (hM.1 0 _ rfl) rfl 1 (by decide) q287 rfl rfl dX0_count_81 ?_
    have nq := hK.F 6 rfl
    refine c_getN (v := .int (a 1 1)) hx hb hts in_X2 hown hK ((cm_parts hM.1).2.1 0 _ rfl) rfl 2 (by decide) nq rfl rfl dX0_count_84 ?_
    exact hret0 hM (mwEq.rf) rfl rfl ⟨rfl, rfl, rfl⟩ (rfl) dX0_count_87
  · exact absurd (by first | exact (in_nat (by decide)).mpr ⟨_, by omega, rfl⟩ | exact (in_nat1 _ (by decide) (by decide)).mpr ⟨_, by omega, by omega, rfl⟩ | exact cow_in hN0 (by omega) | assumption) c_1
set_option maxHeartbeats 400000 in
theorem ca_count_ok4 (f : Nat → Int32) (a : Nat → Nat → Int32)  : CmF yX0_count cX0_count 3 [(0, 63, 120, 8), (64, 71, 120, 8), (72, 79, 120, 8), (80, 87, 120, 8), (88, 95, 120, 8), (96, 103, 120, 8), (104, 111, 120, 8), (112, 119, 120, 8)] 2 60 [.int (nI 4)] f a (a 1 4) f a := by
  refine CmF.ofI (by decide) rfl (Nat.le_of_ble_eq_true rfl) ?_
  intro p l e R s m args below meth c Q D dA h fc wk hd ri rt cw tx nm B S ls hx hb hml hRf hRl hRc hRs htab hts hown hK hI hB hS0 hQ hN hIm hZ hSh hM hl hret hret0
  have hl : lv_has ls 3 [(0, .ref (h 0)), (1, .int (nI 4))] := hl
  refine lv_aload_n hx hb dX0_count_0 rfl (lv_at hl 0 rfl) ?_
  refine lv_iload_n hx hb dX0_count_1 rfl (lv_at hl 1 rfl) ?_
  refine lv_iconst (v := nI 0) hx hb dX0_count_2 (by decide) ?_
  refine lv_bipush (v := nI 7) hx hb dX0_count_3 (by decide) ?_
  refine st_callS (y := yX0_in) hx hb hml hown hts (cmX0_in (nI 4) (nI 0) (nI 7)) q330 q331 q61 q332 ndX0_in rfl (by rw [hRf]; decide) (by rw [hRl]; decide) (Nat.zero_le _) (Nat.zero_le _) hl.1 rfl (Nat.le_of_ble_eq_true rfl) dX0_count_5 ?_
  refine lv_iconst (v := nI 1) hx hb dX0_count_8 (by decide) ?_
  refine cm_need hx hb hml hown hts hK hI hM htab (hpc := 120) rfl q333 (by rw [hRf]; decide) (by rw [hRl]; decide) (Nat.zero_le _) (Nat.zero_le _) hl.1 (Nat.le_of_ble_eq_true rfl) dX0_count_9 (fun c_1 locs hM => ?_) (fun c_1 H locs hM => ?_)
  · refine lv_iload_n hx hb dX0_count_12 rfl (lv_at hl 1 rfl) ?_
    refine lv_tableIn (off := 75) (tgt := 88) hx hb dX0_count_13 (by decide) (by decide) (by rfl) (by decide) ?_
    refine lv_aload_n hx hb dX0_count_88 rfl (lv_at hl 0 rfl) ?_
    refine c_get (v := .ref (hm0 h 0)) hx hb hts in_X0 hown hK (hM.1 0 _ rfl) rfl 1 (by decide) q287 rfl rfl dX0_count_89 ?_
    have nq := hK.F 9 rfl
    refine c_getN (v := .int (a 1 4)) hx hb hts in_X2 hown hK ((cm_parts hM.1).2.1 0 _ rfl) rfl 12 (by decide) nq rfl rfl dX0_count_92 ?_
    exact hret0 hM (mwEq.rf) rfl rfl ⟨rfl, rfl, rfl⟩ (rfl) dX0_count_95
  · exact absurd (by first | exact (in_nat (by decide)).mpr ⟨_, by omega, rfl⟩ | exact (in_nat1 _ (by decide) (by decide)).mpr ⟨_, by omega, by omega, rfl⟩ | exact cow_in hN0 (by omega) | assumption) c_1
set_option maxHeartbeats 400000 in
theorem ca_count_ok5 (f : Nat → Int32) (a : Nat → Nat → Int32)  : CmF yX0_count cX0_count 3 [(0, 63, 120, 8), (64, 71, 120, 8), (72, 79, 120, 8), (80, 87, 120, 8), (88, 95, 120, 8), (96, 103, 120, 8), (104, 111, 120, 8), (112, 119, 120, 8)] 2 60 [.int (nI 5)] f a (a 1 5) f a := by
  refine CmF.ofI (by decide) rfl (Nat.le_of_ble_eq_true rfl) ?_
  intro p l e R s m args below meth c Q D dA h fc wk hd ri rt cw tx nm B S ls hx hb hml hRf hRl hRc hRs htab hts hown hK hI hB hS0 hQ hN hIm hZ hSh hM hl hret hret0
  have hl : lv_has ls 3 [(0, .ref (h 0)), (1, .int (nI 5))] := hl
  refine lv_aload_n hx hb dX0_count_0 rfl (lv_at hl 0 rfl) ?_
  refine lv_iload_n hx hb dX0_count_1 rfl (lv_at hl 1 rfl) ?_
  refine lv_iconst (v := nI 0) hx hb dX0_count_2 (by decide) ?_
  refine lv_bipush (v := nI 7) hx hb dX0_count_3 (by decide) ?_
  refine st_callS (y := yX0_in) hx hb hml hown hts (cmX0_in (nI 5) (nI 0) (nI 7)) q330 q331 q61 q332 ndX0_in rfl (by rw [hRf]; decide) (by rw [hRl]; decide) (Nat.zero_le _) (Nat.zero_le _) hl.1 rfl (Nat.le_of_ble_eq_true rfl) dX0_count_5 ?_
  refine lv_iconst (v := nI 1) hx hb dX0_count_8 (by decide) ?_
  refine cm_need hx hb hml hown hts hK hI hM htab (hpc := 120) rfl q333 (by rw [hRf]; decide) (by rw [hRl]; decide) (Nat.zero_le _) (Nat.zero_le _) hl.1 (Nat.le_of_ble_eq_true rfl) dX0_count_9 (fun c_1 locs hM => ?_) (fun c_1 H locs hM => ?_)
  · refine lv_iload_n hx hb dX0_count_12 rfl (lv_at hl 1 rfl) ?_
    refine lv_tableIn (off := 83) (tgt := 96) hx hb dX0_count_13 (by decide) (by decide) (by rfl) (by decide) ?_
    refine lv_aload_n hx hb dX0_count_96 rfl (lv_at hl 0 rfl) ?_
    refine c_get (v := .ref (hm0 h 0)) hx hb hts in_X0 hown hK (hM.1 0 _ rfl) rfl 1 (by decide) q287 rfl rfl dX0_count_97 ?_
    have nq := hK.F 17 rfl
    refine c_getN (v := .int (a 1 5)) hx hb hts in_X2 hown hK ((cm_parts hM.1).2.1 0 _ rfl) rfl 14 (by decide) nq rfl rfl dX0_count_100 ?_
    exact hret0 hM (mwEq.rf) rfl rfl ⟨rfl, rfl, rfl⟩ (rfl) dX0_count_103
  · exact absurd (by first | exact (in_nat (by decide)).mpr ⟨_, by omega, rfl⟩ | exact (in_nat1 _ (by decide) (by decide)).mpr ⟨_, by omega, by omega, rfl⟩ | exact cow_in hN0 (by omega) | assumption) c_1
set_option maxHeartbeats 400000 in
theorem ca_count_ok6 (f : Nat → Int32) (a : Nat → Nat → Int32)  : CmF yX0_count cX0_count 3 [(0, 63, 120, 8), (64, 71, 120, 8), (72, 79, 120, 8), (80, 87, 120, 8), (88, 95, 120, 8), (96, 103, 120, 8), (104, 111, 120, 8), (112, 119, 120, 8)] 2 60 [.int (nI 6)] f a (f 24) f a := by
  refine CmF.ofI (by decide) rfl (Nat.le_of_ble_eq_true rfl) ?_
  intro p l e R s m args below meth c Q D dA h fc wk hd ri rt cw tx nm B S ls hx hb hml hRf hRl hRc hRs htab hts hown hK hI hB hS0 hQ hN hIm hZ hSh hM hl hret hret0
  have hl : lv_has ls 3 [(0, .ref (h 0)), (1, .int (nI 6))] := hl
  refine lv_aload_n hx hb dX0_count_0 rfl (lv_at hl 0 rfl) ?_
  refine lv_iload_n hx hb dX0_count_1 rfl (lv_at hl 1 rfl) ?_
  refine lv_iconst (v := nI 0) hx hb dX0_count_2 (by decide) ?_
  refine lv_bipush (v := nI 7) hx hb dX0_count_3 (by decide) ?_
  refine st_callS (y := yX0_in) hx hb hml hown hts (cmX0_in (nI 6) (nI 0) (nI 7)) q330 q331 q61 q332 ndX0_in rfl (by rw [hRf]; decide) (by rw [hRl]; decide) (Nat.zero_le _) (Nat.zero_le _) hl.1 rfl (Nat.le_of_ble_eq_true rfl) dX0_count_5 ?_
  refine lv_iconst (v := nI 1) hx hb dX0_count_8 (by decide) ?_
  refine cm_need hx hb hml hown hts hK hI hM htab (hpc := 120) rfl q333 (by rw [hRf]; decide) (by rw [hRl]; decide) (Nat.zero_le _) (Nat.zero_le _) hl.1 (Nat.le_of_ble_eq_true rfl) dX0_count_9 (fun c_1 locs hM => ?_) (fun c_1 H locs hM => ?_)
  · refine lv_iload_n hx hb dX0_count_12 rfl (lv_at hl 1 rfl) ?_
    refine lv_tableIn (off := 91) (tgt := 104) hx hb dX0_count_13 (by decide) (by decide) (by rfl) (by decide) ?_
    refine lv_aload_n hx hb dX0_count_104 rfl (lv_at hl 0 rfl) ?_
    refine c_get (v := .ref (h 2)) hx hb hts in_X0 hown hK (hM.1 0 _ rfl) rfl 5 (by decide) q291 rfl rfl dX0_count_105 ?_
    have nq := hK.F 15 rfl
    refine c_getN (v := .int (f 24)) hx hb hts in_X4 hown hK (hM.1 2 _ rfl) rfl 1 (by decide) nq rfl rfl dX0_count_108 ?_
    exact hret0 hM (mwEq.rf) rfl rfl ⟨rfl, rfl, rfl⟩ (rfl) dX0_count_111
  · exact absurd (by first | exact (in_nat (by decide)).mpr ⟨_, by omega, rfl⟩ | exact (in_nat1 _ (by decide) (by decide)).mpr ⟨_, by omega, by omega, rfl⟩ | exact cow_in hN0 (by omega) | assumption) c_1
set_option maxHeartbeats 400000 in
theorem ca_count_ok7 (f : Nat → Int32) (a : Nat → Nat → Int32)  : CmF yX0_count cX0_count 3 [(0, 63, 120, 8), (64, 71, 120, 8), (72, 79, 120, 8), (80, 87, 120, 8), (88, 95, 120, 8), (96, 103, 120, 8), (104, 111, 120, 8), (112, 119, 120, 8)] 2 60 [.int (nI 7)] f a (a 1 2) f a := by
  refine CmF.ofI (by decide) rfl (Nat.le_of_ble_eq_true rfl) ?_
  intro p l e R s m args below meth c Q D dA h fc wk hd ri rt cw tx nm B S ls hx hb hml hRf hRl hRc hRs htab hts hown hK hI hB hS0 hQ hN hIm hZ hSh hM hl hret hret0
  have hl : lv_has ls 3 [(0, .ref (h 0)), (1, .int (nI 7))] := hl
  refine lv_aload_n hx hb dX0_count_0 rfl (lv_at hl 0 rfl) ?_
  refine lv_iload_n hx hb dX0_count_1 rfl (lv_at hl 1 rfl) ?_
  refine lv_iconst (v := nI 0) hx hb dX0_count_2 (by decide) ?_
  refine lv_bipush (v := nI 7) hx hb dX0_count_3 (by decide) ?_
  refine st_callS (y := yX0_in) hx hb hml hown hts (cmX0_in (nI 7) (nI 0) (nI 7)) q330 q331 q61 q332 ndX0_in rfl (by rw [hRf]; decide) (by rw [hRl]; decide) (Nat.zero_le _) (Nat.zero_le _) hl.1 rfl (Nat.le_of_ble_eq_true rfl) dX0_count_5 ?_
  refine lv_iconst (v := nI 1) hx hb dX0_count_8 (by decide) ?_
  refine cm_need hx hb hml hown hts hK hI hM htab (hpc := 120) rfl q333 (by rw [hRf]; decide) (by rw [hRl]; decide) (Nat.zero_le _) (Nat.zero_le _) hl.1 (Nat.le_of_ble_eq_true rfl) dX0_count_9 (fun c_1 locs hM => ?_) (fun c_1 H locs hM => ?_)
  · refine lv_iload_n hx hb dX0_count_12 rfl (lv_at hl 1 rfl) ?_
    refine lv_tableOut (tgt := 112) hx hb dX0_count_13 (by decide) (by decide) ?_
    refine lv_aload_n hx hb dX0_count_112 rfl (lv_at hl 0 rfl) ?_
    refine c_get (v := .ref (hm0 h 0)) hx hb hts in_X0 hown hK (hM.1 0 _ rfl) rfl 1 (by decide) q287 rfl rfl dX0_count_113 ?_
    have nq := hK.F 14 rfl
    refine c_getN (v := .int (a 1 2)) hx hb hts in_X2 hown hK ((cm_parts hM.1).2.1 0 _ rfl) rfl 10 (by decide) nq rfl rfl dX0_count_116 ?_
    exact hret0 hM (mwEq.rf) rfl rfl ⟨rfl, rfl, rfl⟩ (rfl) dX0_count_119
  · exact absurd (by first | exact (in_nat (by decide)).mpr ⟨_, by omega, rfl⟩ | exact (in_nat1 _ (by decide) (by decide)).mpr ⟨_, by omega, by omega, rfl⟩ | exact cow_in hN0 (by omega) | assumption) c_1
set_option maxHeartbeats 400000 in
theorem ca_count_e (f : Nat → Int32) (a : Nat → Nat → Int32) (k : Int32) (hk : ∀ j, j < 8 → ¬ k = nI j) : CmF yX0_count cX0_count 3 [(0, 63, 120, 8), (64, 71, 120, 8), (72, 79, 120, 8), (80, 87, 120, 8), (88, 95, 120, 8), (96, 103, 120, 8), (104, 111, 120, 8), (112, 119, 120, 8)] 2 60 [.int k] f a (-1000000001 : Int32) f (mErr a 1) := by
  refine CmF.ofI (by decide) rfl (Nat.le_of_ble_eq_true rfl) ?_
  intro p l e R s m args below meth c Q D dA h fc wk hd ri rt cw tx nm B S ls hx hb hml hRf hRl hRc hRs htab hts hown hK hI hB hS0 hQ hN hIm hZ hSh hM hl hret hret0
  have hl : lv_has ls 3 [(0, .ref (h 0)), (1, .int k)] := hl
  refine lv_aload_n hx hb dX0_count_0 rfl (lv_at hl 0 rfl) ?_
  refine lv_iload_n hx hb dX0_count_1 rfl (lv_at hl 1 rfl) ?_
  refine lv_iconst (v := nI 0) hx hb dX0_count_2 (by decide) ?_
  refine lv_bipush (v := nI 7) hx hb dX0_count_3 (by decide) ?_
  refine st_callS (y := yX0_in) hx hb hml hown hts (cmX0_in k (nI 0) (nI 7)) q330 q331 q61 q332 ndX0_in rfl (by rw [hRf]; decide) (by rw [hRl]; decide) (Nat.zero_le _) (Nat.zero_le _) hl.1 rfl (Nat.le_of_ble_eq_true rfl) dX0_count_5 ?_
  refine lv_iconst (v := nI 1) hx hb dX0_count_8 (by decide) ?_
  refine cm_need hx hb hml hown hts hK hI hM htab (hpc := 120) rfl q333 (by rw [hRf]; decide) (by rw [hRl]; decide) (Nat.zero_le _) (Nat.zero_le _) hl.1 (Nat.le_of_ble_eq_true rfl) dX0_count_9 (fun c_1 locs hM => ?_) (fun c_1 H locs hM => ?_)
  · obtain ⟨j, hj, e1⟩ := (in_nat (by decide)).mp c_1; exact absurd e1 (hk j (by omega))
  · refine lv_astore_n (lv' := [(2, .ref (h 1)), (0, .ref (h 0)), (1, .int k)]) hx hb dX0_count_120 rfl hl (by decide) rfl (fun ls hl => ?_)
    refine lv_aload_n hx hb dX0_count_121 rfl (lv_at hl 1 rfl) ?_
    refine lv_aload_n hx hb dX0_count_122 rfl (lv_at hl 0 rfl) ?_
    refine cm_fin hx hb hml hown hts hK hI 1 (by decide) hM q341 (by rw [hRf]; decide) (by rw [hRl]; decide) (Nat.zero_le _) (Nat.zero_le _) hl.1 (Nat.le_of_ble_eq_true rfl) dX0_count_123 (fun H locs hM => ?_)
    exact hret0 hM (mwEq.rf) rfl rfl ⟨rfl, rfl, rfl⟩ (by decide) dX0_count_126
set_option maxHeartbeats 400000 in
theorem ca_told_ok (f : Nat → Int32) (a : Nat → Nat → Int32) (k : Nat) (h1 : 1 ≤ k) (h2 : k ≤ 5) : CmF yX0_told cX0_told 3 [(0, 17, 18, 8)] 2 60 [.int (nI k)] f a (a 5 k) f a := by
  refine CmF.ofI (by decide) rfl (Nat.le_of_ble_eq_true rfl) ?_
  intro p l e R s m args below meth c Q D dA h fc wk hd ri rt cw tx nm B S ls hx hb hml hRf hRl hRc hRs htab hts hown hK hI hB hS0 hQ hN hIm hZ hSh hM hl hret hret0
  have hl : lv_has ls 3 [(0, .ref (h 0)), (1, .int (nI k))] := hl
  refine lv_aload_n hx hb dX0_told_0 rfl (lv_at hl 0 rfl) ?_
  refine lv_iload_n hx hb dX0_told_1 rfl (lv_at hl 1 rfl) ?_
  refine lv_iconst (v := nI 1) hx hb dX0_told_2 (by decide) ?_
  refine lv_iconst (v := nI 5) hx hb dX0_told_3 (by decide) ?_
  refine st_callS (y := yX0_in) hx hb hml hown hts (cmX0_in (nI k) (nI 1) (nI 5)) q330 q331 q61 q332 ndX0_in rfl (by rw [hRf]; decide) (by rw [hRl]; decide) (Nat.zero_le _) (Nat.zero_le _) hl.1 rfl (Nat.le_of_ble_eq_true rfl) dX0_told_4 ?_
  refine lv_iconst (v := nI 1) hx hb dX0_told_7 (by decide) ?_
  refine cm_need hx hb hml hown hts hK hI hM htab (hpc := 18) rfl q333 (by rw [hRf]; decide) (by rw [hRl]; decide) (Nat.zero_le _) (Nat.zero_le _) hl.1 (Nat.le_of_ble_eq_true rfl) dX0_told_8 (fun c_1 locs hM => ?_) (fun c_1 H locs hM => ?_)
  · refine lv_aload_n hx hb dX0_told_11 rfl (lv_at hl 0 rfl) ?_
    refine c_get (v := .ref (h 4)) hx hb hts in_X0 hown hK (hM.1 0 _ rfl) rfl 6 (by decide) q292 rfl rfl dX0_told_12 ?_
    refine lv_iload_n hx hb dX0_told_15 rfl (lv_at hl 1 rfl) ?_
    refine c_iald hx hb hK (hM.1 4 _ rfl) k ⟨by omega, by decide, rfl⟩ dX0_told_16 ?_
    exact hret0 hM (mwEq.rf) rfl rfl ⟨rfl, rfl, rfl⟩ (rfl) dX0_told_17
  · exact absurd (by first | exact (in_nat (by decide)).mpr ⟨_, by omega, rfl⟩ | exact (in_nat1 _ (by decide) (by decide)).mpr ⟨_, by omega, by omega, rfl⟩ | exact cow_in hN0 (by omega) | assumption) c_1
set_option maxHeartbeats 400000 in
theorem ca_told_e (f : Nat → Int32) (a : Nat → Nat → Int32) (k : Int32) (he : ¬ (nI 1 ≤ k ∧ k ≤ nI 5)) : CmF yX0_told cX0_told 3 [(0, 17, 18, 8)] 2 60 [.int k] f a (-1000000001 : Int32) f (mErr a 1) := by
  refine CmF.ofI (by decide) rfl (Nat.le_of_ble_eq_true rfl) ?_
  intro p l e R s m args below meth c Q D dA h fc wk hd ri rt cw tx nm B S ls hx hb hml hRf hRl hRc hRs htab hts hown hK hI hB hS0 hQ hN hIm hZ hSh hM hl hret hret0
  have hl : lv_has ls 3 [(0, .ref (h 0)), (1, .int k)] := hl
  refine lv_aload_n hx hb dX0_told_0 rfl (lv_at hl 0 rfl) ?_
  refine lv_iload_n hx hb dX0_told_1 rfl (lv_at hl 1 rfl) ?_
  refine lv_iconst (v := nI 1) hx hb dX0_told_2 (by decide) ?_
  refine lv_iconst (v := nI 5) hx hb dX0_told_3 (by decide) ?_
  refine st_callS (y := yX0_in) hx hb hml hown hts (cmX0_in k (nI 1) (nI 5)) q330 q331 q61 q332 ndX0_in rfl (by rw [hRf]; decide) (by rw [hRl]; decide) (Nat.zero_le _) (Nat.zero_le _) hl.1 rfl (Nat.le_of_ble_eq_true rfl) dX0_told_4 ?_
  refine lv_iconst (v := nI 1) hx hb dX0_told_7 (by decide) ?_
  refine cm_need hx hb hml hown hts hK hI hM htab (hpc := 18) rfl q333 (by rw [hRf]; decide) (by rw [hRl]; decide) (Nat.zero_le _) (Nat.zero_le _) hl.1 (Nat.le_of_ble_eq_true rfl) dX0_told_8 (fun c_1 locs hM => ?_) (fun c_1 H locs hM => ?_)
  · exact absurd c_1 he
  · refine lv_astore_n (lv' := [(2, .ref (h 1)), (0, .ref (h 0)), (1, .int k)]) hx hb dX0_told_18 rfl hl (by decide) rfl (fun ls hl => ?_)
    refine lv_aload_n hx hb dX0_told_19 rfl (lv_at hl 1 rfl) ?_
    refine lv_aload_n hx hb dX0_told_20 rfl (lv_at hl 0 rfl) ?_
    refine cm_fin hx hb hml hown hts hK hI 1 (by decide) hM q341 (by rw [hRf]; decide) (by rw [hRl]; decide) (Nat.zero_le _) (Nat.zero_le _) hl.1 (Nat.le_of_ble_eq_true rfl) dX0_told_21 (fun H locs hM => ?_)
    exact hret0 hM (mwEq.rf) rfl rfl ⟨rfl, rfl, rfl⟩ (by decide) dX0_told_24
set_option maxHeartbeats 400000 in
theorem ca_trace_ok (f : Nat → Int32) (a : Nat → Nat → Int32) (k : Nat) (hq : okN (f 24) 40) (hk : k < cl (f 24)) : CmF yX0_trace cX0_trace 3 [(0, 28, 29, 8)] 2 60 [.int (nI k)] f a (a 14 k) f a := by
  refine CmF.ofI (by decide) rfl (Nat.le_of_ble_eq_true rfl) ?_
  intro p l e R s m args below meth c Q D dA h fc wk hd ri rt cw tx nm B S ls hx hb hml hRf hRl hRc hRs htab hts hown hK hI hB hS0 hQ hN hIm hZ hSh hM hl hret hret0
  have hl : lv_has ls 3 [(0, .ref (h 0)), (1, .int (nI k))] := hl
  have hq2 := hq.2
  have hin : nI 0 ≤ nI k ∧ nI k ≤ f 24 - nI 1 := by rw [hq.1, pk_sub (by omega)]; exact ⟨nI_le (Nat.zero_le _) (by omega), nI_le (by omega) (by omega)⟩
  refine lv_aload_n hx hb dX0_trace_0 rfl (lv_at hl 0 rfl) ?_
  refine lv_iload_n hx hb dX0_trace_1 rfl (lv_at hl 1 rfl) ?_
  refine lv_iconst (v := nI 0) hx hb dX0_trace_2 (by decide) ?_
  refine lv_aload_n hx hb dX0_trace_3 rfl (lv_at hl 0 rfl) ?_
  refine c_get (v := .ref (h 2)) hx hb hts in_X0 hown hK (hM.1 0 _ rfl) rfl 5 (by decide) q291 rfl rfl dX0_trace_4 ?_
  have nq := hK.F 15 rfl
  refine c_getN (v := .int (f 24)) hx hb hts in_X4 hown hK (hM.1 2 _ rfl) rfl 1 (by decide) nq rfl rfl dX0_trace_7 ?_
  refine lv_iconst (v := nI 1) hx hb dX0_trace_10 (by decide) ?_
  refine lv_isub hx hb dX0_trace_11 ?_
  refine st_callS (y := yX0_in) hx hb hml hown hts (cmX0_in (nI k) (nI 0) ((f 24) - (nI 1))) q330 q331 q61 q332 ndX0_in rfl (by rw [hRf]; decide) (by rw [hRl]; decide) (Nat.zero_le _) (Nat.zero_le _) hl.1 rfl (Nat.le_of_ble_eq_true rfl) dX0_trace_12 ?_
  refine lv_iconst (v := nI 2) hx hb dX0_trace_15 (by decide) ?_
  refine cm_need hx hb hml hown hts hK hI hM htab (hpc := 29) rfl q333 (by rw [hRf]; decide) (by rw [hRl]; decide) (Nat.zero_le _) (Nat.zero_le _) hl.1 (Nat.le_of_ble_eq_true rfl) dX0_trace_16 (fun c_1 locs hM => ?_) (fun c_1 H locs hM => ?_)
  · refine lv_aload_n hx hb dX0_trace_19 rfl (lv_at hl 0 rfl) ?_
    refine c_get (v := .ref (h 2)) hx hb hts in_X0 hown hK (hM.1 0 _ rfl) rfl 5 (by decide) q291 rfl rfl dX0_trace_20 ?_
    have nq := hK.F 16 rfl
    refine c_getN (v := .ref (h 3)) hx hb hts in_X4 hown hK (hM.1 2 _ rfl) rfl 0 (by decide) nq rfl rfl dX0_trace_23 ?_
    refine lv_iload_n hx hb dX0_trace_26 rfl (lv_at hl 1 rfl) ?_
    refine c_iald hx hb hK (hM.1 3 _ rfl) k ⟨by omega, by decide, rfl⟩ dX0_trace_27 ?_
    exact hret0 hM (mwEq.rf) rfl rfl ⟨rfl, rfl, rfl⟩ (rfl) dX0_trace_28
  · exact absurd hin c_1
set_option maxHeartbeats 400000 in
theorem ca_trace_e (f : Nat → Int32) (a : Nat → Nat → Int32) (k : Int32) (he : ¬ (nI 0 ≤ k ∧ k ≤ f 24 - nI 1)) : CmF yX0_trace cX0_trace 3 [(0, 28, 29, 8)] 2 60 [.int k] f a (-1000000002 : Int32) f (mErr a 2) := by
  refine CmF.ofI (by decide) rfl (Nat.le_of_ble_eq_true rfl) ?_
  intro p l e R s m args below meth c Q D dA h fc wk hd ri rt cw tx nm B S ls hx hb hml hRf hRl hRc hRs htab hts hown hK hI hB hS0 hQ hN hIm hZ hSh hM hl hret hret0
  have hl : lv_has ls 3 [(0, .ref (h 0)), (1, .int k)] := hl
  refine lv_aload_n hx hb dX0_trace_0 rfl (lv_at hl 0 rfl) ?_
  refine lv_iload_n hx hb dX0_trace_1 rfl (lv_at hl 1 rfl) ?_
  refine lv_iconst (v := nI 0) hx hb dX0_trace_2 (by decide) ?_
  refine lv_aload_n hx hb dX0_trace_3 rfl (lv_at hl 0 rfl) ?_
  refine c_get (v := .ref (h 2)) hx hb hts in_X0 hown hK (hM.1 0 _ rfl) rfl 5 (by decide) q291 rfl rfl dX0_trace_4 ?_
  have nq := hK.F 15 rfl
  refine c_getN (v := .int (f 24)) hx hb hts in_X4 hown hK (hM.1 2 _ rfl) rfl 1 (by decide) nq rfl rfl dX0_trace_7 ?_
  refine lv_iconst (v := nI 1) hx hb dX0_trace_10 (by decide) ?_
  refine lv_isub hx hb dX0_trace_11 ?_
  refine st_callS (y := yX0_in) hx hb hml hown hts (cmX0_in k (nI 0) ((f 24) - (nI 1))) q330 q331 q61 q332 ndX0_in rfl (by rw [hRf]; decide) (by rw [hRl]; decide) (Nat.zero_le _) (Nat.zero_le _) hl.1 rfl (Nat.le_of_ble_eq_true rfl) dX0_trace_12 ?_
  refine lv_iconst (v := nI 2) hx hb dX0_trace_15 (by decide) ?_
  refine cm_need hx hb hml hown hts hK hI hM htab (hpc := 29) rfl q333 (by rw [hRf]; decide) (by rw [hRl]; decide) (Nat.zero_le _) (Nat.zero_le _) hl.1 (Nat.le_of_ble_eq_true rfl) dX0_trace_16 (fun c_1 locs hM => ?_) (fun c_1 H locs hM => ?_)
  · exact absurd c_1 he
  · refine lv_astore_n (lv' := [(2, .ref (h 1)), (0, .ref (h 0)), (1, .int k)]) hx hb dX0_trace_29 rfl hl (by decide) rfl (fun ls hl => ?_)
    refine lv_aload_n hx hb dX0_trace_30 rfl (lv_at hl 1 rfl) ?_
    refine lv_aload_n hx hb dX0_trace_31 rfl (lv_at hl 0 rfl) ?_
    refine cm_fin hx hb hml hown hts hK hI 2 (by decide) hM q341 (by rw [hRf]; decide) (by rw [hRl]; decide) (Nat.zero_le _) (Nat.zero_le _) hl.1 (Nat.le_of_ble_eq_true rfl) dX0_trace_32 (fun H locs hM => ?_)
    exact hret0 hM (mwEq.rf) rfl rfl ⟨rfl, rfl, rfl⟩ (by decide) dX0_trace_35
set_option maxHeartbeats 400000 in
theorem ca_tell_ok (f : Nat → Int32) (a : Nat → Nat → Int32) (v : Int32) (hq : okN (a 1 5) 20) (hk : cl (a 1 5) < 20) : CmF yX0_tell cX0_tell 3 [(0, 58, 59, 8)] 2 60 [.int v] f a (nI (cl (a 1 5) + 1)) f (va_up a 1 (upd (upd (a 1) (178 + cl (a 1 5)) v) 5 (nI (cl (a 1 5) + 1)))) := by
  refine CmF.ofI (by decide) rfl (Nat.le_of_ble_eq_true rfl) ?_
  intro p l e R s m args below meth c Q D dA h fc wk hd ri rt cw tx nm B S ls hx hb hml hRf hRl hRc hRs htab hts hown hK hI hB hS0 hQ hN hIm hZ hSh hM hl hret hret0
  have hl : lv_has ls 3 [(0, .ref (h 0)), (1, .int v)] := hl
  refine lv_aload_n hx hb dX0_tell_0 rfl (lv_at hl 0 rfl) ?_
  refine lv_aload_n hx hb dX0_tell_1 rfl (lv_at hl 0 rfl) ?_
  refine c_get (v := .ref (hm0 h 0)) hx hb hts in_X0 hown hK (hM.1 0 _ rfl) rfl 1 (by decide) q287 rfl rfl dX0_tell_2 ?_
  have nq := hK.F 17 rfl
  refine c_getN (v := .int (a 1 5)) hx hb hts in_X2 hown hK ((cm_parts hM.1).2.1 0 _ rfl) rfl 14 (by decide) nq rfl rfl dX0_tell_5 ?_
  refine w_top (nI (cl (a 1 5))) (hq.1) ?_
  refine lv_bipush (v := nI 20) hx hb dX0_tell_8 (by decide) ?_
  refine w_icmp_geN (tgt := 17) hx hb (by omega) (by omega) dX0_tell_10 (by decide) (fun c_1 => ?_) (fun c_1 => ?_)
  · exact absurd c_1 (by omega)
  · refine lv_iconst (v := nI 1) hx hb dX0_tell_13 (by decide) ?_
    refine lv_goto (tgt := 18) hx hb dX0_tell_14 (by decide) ?_
    refine lv_iconst (v := nI 4) hx hb dX0_tell_18 (by decide) ?_
    refine cm_n1 hx hb hml hown hts hK hI hM htab (hpc := 59) rfl q333 (by rw [hRf]; decide) (by rw [hRl]; decide) (Nat.zero_le _) (Nat.zero_le _) hl.1 (Nat.le_of_ble_eq_true rfl) dX0_tell_19 (fun locs hM => ?_)
    refine lv_aload_n hx hb dX0_tell_22 rfl (lv_at hl 0 rfl) ?_
    refine c_get (v := .ref (hm0 h 0)) hx hb hts in_X0 hown hK (hM.1 0 _ rfl) rfl 1 (by decide) q287 rfl rfl dX0_tell_23 ?_
    have nq := hK.F 18 rfl
    refine c_getN (v := .ref (hm0 h 9)) hx hb hts in_X2 hown hK ((cm_parts hM.1).2.1 0 _ rfl) rfl 13 (by decide) nq rfl rfl dX0_tell_26 ?_
    refine lv_aload_n hx hb dX0_tell_29 rfl (lv_at hl 0 rfl) ?_
    refine c_get (v := .ref (hm0 h 0)) hx hb hts in_X0 hown hK (hM.1 0 _ rfl) rfl 1 (by decide) q287 rfl rfl dX0_tell_30 ?_
    have nq := hK.F 17 rfl
    refine c_getN (v := .int (a 1 5)) hx hb hts in_X2 hown hK ((cm_parts hM.1).2.1 0 _ rfl) rfl 14 (by decide) nq rfl rfl dX0_tell_33 ?_
    refine w_top (nI (cl (a 1 5))) (hq.1) ?_
    refine lv_iload_n hx hb dX0_tell_36 rfl (lv_at hl 1 rfl) ?_
    refine cm_ast_waiting hx hb hK hI hM (cl (a 1 5)) ⟨by omega, rfl⟩ dX0_tell_37 (fun H locs hM => ?_)
    refine lv_aload_n hx hb dX0_tell_38 rfl (lv_at hl 0 rfl) ?_
    refine c_get (v := .ref (hm0 h 0)) hx hb hts in_X0 hown hK (hM.1 0 _ rfl) rfl 1 (by decide) q287 rfl rfl dX0_tell_39 ?_
    refine lv_dup hx hb dX0_tell_42 rfl ?_
    have nq := hK.F 17 rfl
    refine c_getN (v := .int ((va_up a 1 (upd (a 1) (178 + (cl (a 1 5))) v)) 1 5)) hx hb hts in_X2 hown hK ((cm_parts hM.1).2.1 0 _ rfl) rfl 14 (by decide) nq rfl rfl dX0_tell_43 ?_
    refine w_top (nI (cl (a 1 5))) (by first | exact (pk_un (by omega)).trans hq.1 | exact hq.1) ?_
    refine lv_iconst (v := nI 1) hx hb dX0_tell_46 (by decide) ?_
    refine w_iaddN hx hb dX0_tell_47 ?_
    have nq := hK.F 17 rfl
    refine cm_put_waits hx hb hts hown hK hI hM nq dX0_tell_48 (fun H locs hM => ?_)
    refine lv_aload_n hx hb dX0_tell_51 rfl (lv_at hl 0 rfl) ?_
    refine c_get (v := .ref (hm0 h 0)) hx hb hts in_X0 hown hK (hM.1 0 _ rfl) rfl 1 (by decide) q287 rfl rfl dX0_tell_52 ?_
    have nq := hK.F 17 rfl
    refine c_getN (v := .int ((va_up (va_up a 1 (upd (a 1) (178 + (cl (a 1 5))) v)) 1 (upd ((va_up a 1 (upd (a 1) (178 + (cl (a 1 5))) v)) 1) 5 (nI ((cl (a 1 5)) + 1)))) 1 5)) hx hb hts in_X2 hown hK ((cm_parts hM.1).2.1 0 _ rfl) rfl 14 (by decide) nq rfl rfl dX0_tell_55 ?_
    refine w_top (nI (cl (a 1 5) + 1)) (by rw [va_us]; exact pk_us) ?_
    exact hret0 (hM.to rfl (by rw [va_uu]; rfl)) ((mwEq_u ⟨by omega, by omega, by omega, by omega, fun w hw => ⟨by omega, by omega⟩⟩).tr (mwEq_u ⟨by omega, by omega, by omega, by omega, fun w hw => ⟨by omega, by omega⟩⟩)) rfl rfl ⟨rfl, rfl, rfl⟩ (rfl) dX0_tell_58
set_option maxHeartbeats 400000 in
theorem ca_tell_f (f : Nat → Int32) (a : Nat → Nat → Int32) (v : Int32) (hq : okN (a 1 5) 20) (hk : cl (a 1 5) = 20) : CmF yX0_tell cX0_tell 3 [(0, 58, 59, 8)] 2 60 [.int v] f a (-1000000004 : Int32) f (mErr a 4) := by
  refine CmF.ofI (by decide) rfl (Nat.le_of_ble_eq_true rfl) ?_
  intro p l e R s m args below meth c Q D dA h fc wk hd ri rt cw tx nm B S ls hx hb hml hRf hRl hRc hRs htab hts hown hK hI hB hS0 hQ hN hIm hZ hSh hM hl hret hret0
  have hl : lv_has ls 3 [(0, .ref (h 0)), (1, .int v)] := hl
  refine lv_aload_n hx hb dX0_tell_0 rfl (lv_at hl 0 rfl) ?_
  refine lv_aload_n hx hb dX0_tell_1 rfl (lv_at hl 0 rfl) ?_
  refine c_get (v := .ref (hm0 h 0)) hx hb hts in_X0 hown hK (hM.1 0 _ rfl) rfl 1 (by decide) q287 rfl rfl dX0_tell_2 ?_
  have nq := hK.F 17 rfl
  refine c_getN (v := .int (a 1 5)) hx hb hts in_X2 hown hK ((cm_parts hM.1).2.1 0 _ rfl) rfl 14 (by decide) nq rfl rfl dX0_tell_5 ?_
  refine w_top (nI (cl (a 1 5))) (hq.1) ?_
  refine lv_bipush (v := nI 20) hx hb dX0_tell_8 (by decide) ?_
  refine w_icmp_geN (tgt := 17) hx hb (by omega) (by omega) dX0_tell_10 (by decide) (fun c_1 => ?_) (fun c_1 => ?_)
  · refine lv_iconst (v := nI 0) hx hb dX0_tell_17 (by decide) ?_
    refine lv_iconst (v := nI 4) hx hb dX0_tell_18 (by decide) ?_
    refine cm_n0 hx hb hml hown hts hK hI hM htab (hpc := 59) rfl q333 (by rw [hRf]; decide) (by rw [hRl]; decide) (Nat.zero_le _) (Nat.zero_le _) hl.1 (Nat.le_of_ble_eq_true rfl) dX0_tell_19 (fun H locs hM => ?_)
    refine lv_astore_n (lv' := [(2, .ref (h 1)), (0, .ref (h 0)), (1, .int v)]) hx hb dX0_tell_59 rfl hl (by decide) rfl (fun ls hl => ?_)
    refine lv_aload_n hx hb dX0_tell_60 rfl (lv_at hl 1 rfl) ?_
    refine lv_aload_n hx hb dX0_tell_61 rfl (lv_at hl 0 rfl) ?_
    refine cm_fin hx hb hml hown hts hK hI 4 (by decide) hM q341 (by rw [hRf]; decide) (by rw [hRl]; decide) (Nat.zero_le _) (Nat.zero_le _) hl.1 (Nat.le_of_ble_eq_true rfl) dX0_tell_62 (fun H locs hM => ?_)
    exact hret0 hM (mwEq.rf) rfl rfl ⟨rfl, rfl, rfl⟩ (by decide) dX0_tell_65
  · exact absurd c_1 (by omega)
set_option maxHeartbeats 400000 in
theorem ca_seed_ok (f : Nat → Int32) (a : Nat → Nat → Int32) (v : Int32) : CmG yX0_seed cX0_seed 3  0 0 [.int v] f a (a 1 2) f (va_up a 1 (upd (a 1) 2 v)) := by
  refine CmG.ofI (by decide) rfl (Nat.le_of_ble_eq_true rfl) ?_
  intro p l e R s m args below meth c Q D dA h fc wk hd ri rt cw tx nm B S ls hx hb hml hRf hRl hRc hRs hts hown hK hI hB hS0 hQ hN hIm hZ hSh hM hl hret hret0
  have hl : lv_has ls 3 [(0, .ref (h 0)), (1, .int v)] := hl
  refine lv_aload_n hx hb dX0_seed_0 rfl (lv_at hl 0 rfl) ?_
  refine c_get (v := .ref (hm0 h 0)) hx hb hts in_X0 hown hK (hM.1 0 _ rfl) rfl 1 (by decide) q287 rfl rfl dX0_seed_1 ?_
  have nq := hK.F 14 rfl
  refine c_getN (v := .int (a 1 2)) hx hb hts in_X2 hown hK ((cm_parts hM.1).2.1 0 _ rfl) rfl 10 (by decide) nq rfl rfl dX0_seed_4 ?_
  refine lv_istore_n (lv' := [(2, .int (a 1 2)), (0, .ref (h 0)), (1, .int v)]) hx hb dX0_seed_7 rfl hl (by decide) rfl (fun ls hl => ?_)
  refine lv_aload_n hx hb dX0_seed_8 rfl (lv_at hl 1 rfl) ?_
  refine c_get (v := .ref (hm0 h 0)) hx hb hts in_X0 hown hK (hM.1 0 _ rfl) rfl 1 (by decide) q287 rfl rfl dX0_seed_9 ?_
  refine lv_iload_n hx hb dX0_seed_12 rfl (lv_at hl 2 rfl) ?_
  have nq := hK.F 14 rfl
  refine cm_put_z hx hb hts hown hK hI hM nq dX0_seed_13 (fun H locs hM => ?_)
  refine lv_iload_n hx hb dX0_seed_16 rfl (lv_at hl 0 rfl) ?_
  exact hret0 hM (mwEq_u ⟨by omega, by omega, by omega, by omega, fun w hw => ⟨by omega, by omega⟩⟩) rfl rfl ⟨rfl, rfl, rfl⟩ (rfl) dX0_seed_17
set_option maxHeartbeats 400000 in
theorem ca_law_ok0 (f : Nat → Int32) (a : Nat → Nat → Int32) (x y z : Int32) : CmF yX0_law cX0_law 6 [(0, 40, 41, 8)] 63 1444 [.int (nI 0), .int x, .int y, .int z] f a (lawV a 0 x y z) f a := by
  refine CmF.ofI (by decide) rfl (Nat.le_of_ble_eq_true rfl) ?_
  intro p l e R s m args below meth c Q D dA h fc wk hd ri rt cw tx nm B S ls hx hb hml hRf hRl hRc hRs htab hts hown hK hI hB hS0 hQ hN hIm hZ hSh hM hl hret hret0
  have hl : lv_has ls 6 [(0, .ref (h 0)), (1, .int (nI 0)), (2, .int x), (3, .int y), (4, .int z)] := hl
  refine lv_aload_n hx hb dX0_law_0 rfl (lv_at hl 0 rfl) ?_
  refine lv_iload_n hx hb dX0_law_1 rfl (lv_at hl 1 rfl) ?_
  refine lv_iconst (v := nI 0) hx hb dX0_law_2 (by decide) ?_
  refine lv_iconst (v := nI 1) hx hb dX0_law_3 (by decide) ?_
  refine st_callS (y := yX0_in) hx hb hml hown hts (cmX0_in (nI 0) (nI 0) (nI 1)) q330 q331 q61 q332 ndX0_in rfl (by rw [hRf]; decide) (by rw [hRl]; decide) (Nat.zero_le _) (Nat.zero_le _) hl.1 rfl (Nat.le_of_ble_eq_true rfl) dX0_law_4 ?_
  refine lv_iconst (v := nI 1) hx hb dX0_law_7 (by decide) ?_
  refine cm_need hx hb hml hown hts hK hI hM htab (hpc := 41) rfl q333 (by rw [hRf]; decide) (by rw [hRl]; decide) (Nat.zero_le _) (Nat.zero_le _) hl.1 (Nat.le_of_ble_eq_true rfl) dX0_law_8 (fun c_1 locs hM => ?_) (fun c_1 H locs hM => ?_)
  · refine lv_iload_n hx hb dX0_law_11 rfl (lv_at hl 1 rfl) ?_
    refine lv_if_ne (tgt := 29) hx hb dX0_law_12 (by decide) (fun q => absurd q (by decide)) (fun _ => ?_)
    refine lv_aload_n hx hb dX0_law_15 rfl (lv_at hl 0 rfl) ?_
    refine c_get (v := .ref (hm0 h 0)) hx hb hts in_X0 hown hK (hM.1 0 _ rfl) rfl 1 (by decide) q287 rfl rfl dX0_law_16 ?_
    refine lv_iload_n hx hb dX0_law_19 rfl (lv_at hl 2 rfl) ?_
    refine lv_iload_n hx hb dX0_law_20 rfl (lv_at hl 3 rfl) ?_
    refine lv_iload hx hb dX0_law_21 (lv_at hl 4 rfl) ?_
    refine cm_mcall0 (y := yX2_drawnBy) hx hb hml hown hts hK hI hB hM (hQ.at hB hN mwEq.rf mwEq.rf mwEq.rf hM.2.2) (hN.1) (mw_drawnBy (a 1) x y z) q911 q355 q356 q357 ndX2_drawnBy rfl (by rw [hRf]; decide) (by rw [hRl]; decide) (Nat.zero_le _) (Nat.zero_le _) hl.1 rfl (Nat.le_of_ble_eq_true rfl) dX0_law_23 (fun H locs nm hM => ?_)
    rw [va_uself] at hM
    refine lv_goto (tgt := 40) hx hb dX0_law_26 (by decide) ?_
    exact hret0 hM (mwEq.rf) rfl rfl ⟨rfl, rfl, rfl⟩ (rfl) dX0_law_40
  · exact absurd (by first | exact (in_nat (by decide)).mpr ⟨_, by omega, rfl⟩ | exact (in_nat1 _ (by decide) (by decide)).mpr ⟨_, by omega, by omega, rfl⟩ | exact cow_in hN0 (by omega) | assumption) c_1
set_option maxHeartbeats 400000 in
theorem ca_law_ok1 (f : Nat → Int32) (a : Nat → Nat → Int32) (x y z : Int32) : CmF yX0_law cX0_law 6 [(0, 40, 41, 8)] 63 1444 [.int (nI 1), .int x, .int y, .int z] f a (lawV a 1 x y z) f a := by
  refine CmF.ofI (by decide) rfl (Nat.le_of_ble_eq_true rfl) ?_
  intro p l e R s m args below meth c Q D dA h fc wk hd ri rt cw tx nm B S ls hx hb hml hRf hRl hRc hRs htab hts hown hK hI hB hS0 hQ hN hIm hZ hSh hM hl hret hret0
  have hl : lv_has ls 6 [(0, .ref (h 0)), (1, .int (nI 1)), (2, .int x), (3, .int y), (4, .int z)] := hl
  refine lv_aload_n hx hb dX0_law_0 rfl (lv_at hl 0 rfl) ?_
  refine lv_iload_n hx hb dX0_law_1 rfl (lv_at hl 1 rfl) ?_
  refine lv_iconst (v := nI 0) hx hb dX0_law_2 (by decide) ?_
  refine lv_iconst (v := nI 1) hx hb dX0_law_3 (by decide) ?_
  refine st_callS (y := yX0_in) hx hb hml hown hts (cmX0_in (nI 1) (nI 0) (nI 1)) q330 q331 q61 q332 ndX0_in rfl (by rw [hRf]; decide) (by rw [hRl]; decide) (Nat.zero_le _) (Nat.zero_le _) hl.1 rfl (Nat.le_of_ble_eq_true rfl) dX0_law_4 ?_
  refine lv_iconst (v := nI 1) hx hb dX0_law_7 (by decide) ?_
  refine cm_need hx hb hml hown hts hK hI hM htab (hpc := 41) rfl q333 (by rw [hRf]; decide) (by rw [hRl]; decide) (Nat.zero_le _) (Nat.zero_le _) hl.1 (Nat.le_of_ble_eq_true rfl) dX0_law_8 (fun c_1 locs hM => ?_) (fun c_1 H locs hM => ?_)
  · refine lv_iload_n hx hb dX0_law_11 rfl (lv_at hl 1 rfl) ?_
    refine lv_if_ne (tgt := 29) hx hb dX0_law_12 (by decide) (fun _ => ?_) (fun q => absurd q (by decide))
    refine lv_aload_n hx hb dX0_law_29 rfl (lv_at hl 0 rfl) ?_
    refine c_get (v := .ref (hm0 h 0)) hx hb hts in_X0 hown hK (hM.1 0 _ rfl) rfl 1 (by decide) q287 rfl rfl dX0_law_30 ?_
    refine lv_iload_n hx hb dX0_law_33 rfl (lv_at hl 2 rfl) ?_
    refine lv_iload_n hx hb dX0_law_34 rfl (lv_at hl 3 rfl) ?_
    refine lv_iload hx hb dX0_law_35 (lv_at hl 4 rfl) ?_
    refine cm_mcall0 (y := yX2_tasteBy) hx hb hml hown hts hK hI hB hM (hQ.at hB hN mwEq.rf mwEq.rf mwEq.rf hM.2.2) (hN.1) (mw_tasteBy (a 1) x y z) q912 q913 q914 q915 ndX2_tasteBy rfl (by rw [hRf]; decide) (by rw [hRl]; decide) (Nat.zero_le _) (Nat.zero_le _) hl.1 rfl (Nat.le_of_ble_eq_true rfl) dX0_law_37 (fun H locs nm hM => ?_)
    rw [va_uself] at hM
    exact hret0 hM (mwEq.rf) rfl rfl ⟨rfl, rfl, rfl⟩ (rfl) dX0_law_40
  · exact absurd (by first | exact (in_nat (by decide)).mpr ⟨_, by omega, rfl⟩ | exact (in_nat1 _ (by decide) (by decide)).mpr ⟨_, by omega, by omega, rfl⟩ | exact cow_in hN0 (by omega) | assumption) c_1
set_option maxHeartbeats 400000 in
theorem ca_law_e (f : Nat → Int32) (a : Nat → Nat → Int32) (u x y z : Int32) (he : ¬ (nI 0 ≤ u ∧ u ≤ nI 1)) : CmF yX0_law cX0_law 6 [(0, 40, 41, 8)] 2 60 [.int u, .int x, .int y, .int z] f a (-1000000001 : Int32) f (mErr a 1) := by
  refine CmF.ofI (by decide) rfl (Nat.le_of_ble_eq_true rfl) ?_
  intro p l e R s m args below meth c Q D dA h fc wk hd ri rt cw tx nm B S ls hx hb hml hRf hRl hRc hRs htab hts hown hK hI hB hS0 hQ hN hIm hZ hSh hM hl hret hret0
  have hl : lv_has ls 6 [(0, .ref (h 0)), (1, .int u), (2, .int x), (3, .int y), (4, .int z)] := hl
  refine lv_aload_n hx hb dX0_law_0 rfl (lv_at hl 0 rfl) ?_
  refine lv_iload_n hx hb dX0_law_1 rfl (lv_at hl 1 rfl) ?_
  refine lv_iconst (v := nI 0) hx hb dX0_law_2 (by decide) ?_
  refine lv_iconst (v := nI 1) hx hb dX0_law_3 (by decide) ?_
  refine st_callS (y := yX0_in) hx hb hml hown hts (cmX0_in u (nI 0) (nI 1)) q330 q331 q61 q332 ndX0_in rfl (by rw [hRf]; decide) (by rw [hRl]; decide) (Nat.zero_le _) (Nat.zero_le _) hl.1 rfl (Nat.le_of_ble_eq_true rfl) dX0_law_4 ?_
  refine lv_iconst (v := nI 1) hx hb dX0_law_7 (by decide) ?_
  refine cm_need hx hb hml hown hts hK hI hM htab (hpc := 41) rfl q333 (by rw [hRf]; decide) (by rw [hRl]; decide) (Nat.zero_le _) (Nat.zero_le _) hl.1 (Nat.le_of_ble_eq_true rfl) dX0_law_8 (fun c_1 locs hM => ?_) (fun c_1 H locs hM => ?_)
  · exact absurd c_1 he
  · refine lv_astore (lv' := [(5, .ref (h 1)), (0, .ref (h 0)), (1, .int u), (2, .int x), (3, .int y), (4, .int z)]) hx hb dX0_law_41 hl (by decide) rfl (fun ls hl => ?_)
    refine lv_aload_n hx hb dX0_law_43 rfl (lv_at hl 1 rfl) ?_
    refine lv_aload hx hb dX0_law_44 (lv_at hl 0 rfl) ?_
    refine cm_fin hx hb hml hown hts hK hI 1 (by decide) hM q341 (by rw [hRf]; decide) (by rw [hRl]; decide) (Nat.zero_le _) (Nat.zero_le _) hl.1 (Nat.le_of_ble_eq_true rfl) dX0_law_46 (fun H locs hM => ?_)
    exact hret0 hM (mwEq.rf) rfl rfl ⟨rfl, rfl, rfl⟩ (by decide) dX0_law_49
theorem ndX2_goes : yX2_goes.cls = RX2 ∧ yX2_goes.cls ≠ "java/lang/invoke/MethodHandle" ∧ yX2_goes.cls ≠ "java/lang/invoke/VarHandle" ∧ (parseMethodDescriptor yX2_goes.desc).map (fun d => d.parameters.length) = some 1 := by decide +kernel

set_option maxHeartbeats 400000 in
theorem ca_days_ok (f : Nat → Int32) (a : Nat → Nat → Int32) (n : Nat) (h1 : 1 ≤ n) (h2 : n ≤ 100) (hdy : a 1 0 + nI n ≤ nI 9999) (hR : okR (a 1)) : CmF yX0_days cX0_days 3 [(0, 52, 53, 8)] 67 1536 [.int (nI n)] f a (sumG (dayI (a 1) n) 25) f (va_up a 1 (dayI (a 1) n)) := by
  refine CmF.ofI (by decide) rfl (Nat.le_of_ble_eq_true rfl) ?_
  intro p l e R s m args below meth c Q D dA h fc wk hd ri rt cw tx nm B S ls hx hb hml hRf hRl hRc hRs htab hts hown hK hI hB hS0 hQ hN hIm hZ hSh hM hl hret hret0
  have hl : lv_has ls 3 [(0, .ref (h 0)), (1, .int (nI n))] := hl
  refine lv_aload_n hx hb dX0_days_0 rfl (lv_at hl 0 rfl) ?_
  refine lv_iload_n hx hb dX0_days_1 rfl (lv_at hl 1 rfl) ?_
  refine lv_iconst (v := nI 1) hx hb dX0_days_2 (by decide) ?_
  refine lv_bipush (v := nI 100) hx hb dX0_days_3 (by decide) ?_
  refine st_callS (y := yX0_in) hx hb hml hown hts (cmX0_in (nI n) (nI 1) (nI 100)) q330 q331 q61 q332 ndX0_in rfl (by rw [hRf]; decide) (by rw [hRl]; decide) (Nat.zero_le _) (Nat.zero_le _) hl.1 rfl (Nat.le_of_ble_eq_true rfl) dX0_days_5 ?_
  refine lv_iconst (v := nI 1) hx hb dX0_days_8 (by decide) ?_
  refine cm_need hx hb hml hown hts hK hI hM htab (hpc := 53) rfl q333 (by rw [hRf]; decide) (by rw [hRl]; decide) (Nat.zero_le _) (Nat.zero_le _) hl.1 (Nat.le_of_ble_eq_true rfl) dX0_days_9 (fun c_1 locs hM => ?_) (fun c_1 H locs hM => ?_)
  · refine lv_aload_n hx hb dX0_days_12 rfl (lv_at hl 0 rfl) ?_
    refine lv_aload_n hx hb dX0_days_13 rfl (lv_at hl 0 rfl) ?_
    refine c_get (v := .ref (hm0 h 0)) hx hb hts in_X0 hown hK (hM.1 0 _ rfl) rfl 1 (by decide) q287 rfl rfl dX0_days_14 ?_
    have nq := hK.F 13 rfl
    refine c_getN (v := .int (a 1 0)) hx hb hts in_X2 hown hK ((cm_parts hM.1).2.1 0 _ rfl) rfl 8 (by decide) nq rfl rfl dX0_days_17 ?_
    refine lv_iload_n hx hb dX0_days_20 rfl (lv_at hl 1 rfl) ?_
    refine lv_iadd hx hb dX0_days_21 ?_
    refine lv_sipush (v := nI 9999) hx hb dX0_days_22 (by decide) ?_
    refine lv_icmp_gt (tgt := 32) hx hb dX0_days_25 (by decide) (fun c_2 => ?_) (fun c_2 => ?_)
    · exact absurd hdy (by first | exact c_2 | exact Int32.not_le.mpr c_2)
    · refine lv_iconst (v := nI 1) hx hb dX0_days_28 (by decide) ?_
      refine lv_goto (tgt := 33) hx hb dX0_days_29 (by decide) ?_
      refine lv_iconst (v := nI 3) hx hb dX0_days_33 (by decide) ?_
      refine cm_n1 hx hb hml hown hts hK hI hM htab (hpc := 53) rfl q333 (by rw [hRf]; decide) (by rw [hRl]; decide) (Nat.zero_le _) (Nat.zero_le _) hl.1 (Nat.le_of_ble_eq_true rfl) dX0_days_34 (fun locs hM => ?_)
      refine lv_aload_n hx hb dX0_days_37 rfl (lv_at hl 0 rfl) ?_
      refine c_get (v := .ref (hm0 h 0)) hx hb hts in_X0 hown hK (hM.1 0 _ rfl) rfl 1 (by decide) q287 rfl rfl dX0_days_38 ?_
      refine lv_iload_n hx hb dX0_days_41 rfl (lv_at hl 1 rfl) ?_
      refine cm_mcall0 (y := yX2_goes) hx hb hml hown hts hK hI hB hM (hQ.at hB hN mwEq.rf mwEq.rf mwEq.rf hM.2.2) (hN.1) (mw_goes (a 1) hR n (by omega)) q920 q921 q922 q923 ndX2_goes rfl (by rw [hRf]; decide) (by rw [hRl]; decide) (Nat.zero_le _) (Nat.zero_le _) hl.1 rfl (Nat.le_of_ble_eq_true rfl) dX0_days_42 (fun H locs nm hM => ?_)
      refine lv_aload_n hx hb dX0_days_45 rfl (lv_at hl 0 rfl) ?_
      refine c_get (v := .ref (hm0 h 0)) hx hb hts in_X0 hown hK (hM.1 0 _ rfl) rfl 1 (by decide) q287 rfl rfl dX0_days_46 ?_
      refine rd_callV (y := yX2_allGrass) hx hb hml hown hts hK ((mw_allGrass ((va_up a 1 (dayI (a 1) n)) 1)) D dA (hm0 h) _ _ _) (cm_parts hM.1).2.1 (cAt.recv hK ((cm_parts hM.1).2.1 0 _ rfl) rfl) q935 q936 q937 q66 q938 ndX2_allGrass rfl (by rw [hRf]; decide) (by rw [hRl]; decide) (Nat.zero_le _) (Nat.zero_le _) hl.1 rfl (Nat.le_of_ble_eq_true rfl) dX0_days_49 ?_
      exact hret0 hM (mwEq_dayI hR n) rfl rfl ⟨rfl, rfl, rfl⟩ (rfl) dX0_days_52
  · exact absurd (by first | exact (in_nat (by decide)).mpr ⟨_, by omega, rfl⟩ | exact (in_nat1 _ (by decide) (by decide)).mpr ⟨_, by omega, by omega, rfl⟩ | exact cow_in hN0 (by omega) | assumption) c_1
set_option maxHeartbeats 400000 in
theorem ca_days_s (f : Nat → Int32) (a : Nat → Nat → Int32) (n : Nat) (h1 : 1 ≤ n) (h2 : n ≤ 100) (hdy : ¬ a 1 0 + nI n ≤ nI 9999) : CmF yX0_days cX0_days 3 [(0, 52, 53, 8)] 2 60 [.int (nI n)] f a (-1000000003 : Int32) f (mErr a 3) := by
  refine CmF.ofI (by decide) rfl (Nat.le_of_ble_eq_true rfl) ?_
  intro p l e R s m args below meth c Q D dA h fc wk hd ri rt cw tx nm B S ls hx hb hml hRf hRl hRc hRs htab hts hown hK hI hB hS0 hQ hN hIm hZ hSh hM hl hret hret0
  have hl : lv_has ls 3 [(0, .ref (h 0)), (1, .int (nI n))] := hl
  refine lv_aload_n hx hb dX0_days_0 rfl (lv_at hl 0 rfl) ?_
  refine lv_iload_n hx hb dX0_days_1 rfl (lv_at hl 1 rfl) ?_
  refine lv_iconst (v := nI 1) hx hb dX0_days_2 (by decide) ?_
  refine lv_bipush (v := nI 100) hx hb dX0_days_3 (by decide) ?_
  refine st_callS (y := yX0_in) hx hb hml hown hts (cmX0_in (nI n) (nI 1) (nI 100)) q330 q331 q61 q332 ndX0_in rfl (by rw [hRf]; decide) (by rw [hRl]; decide) (Nat.zero_le _) (Nat.zero_le _) hl.1 rfl (Nat.le_of_ble_eq_true rfl) dX0_days_5 ?_
  refine lv_iconst (v := nI 1) hx hb dX0_days_8 (by decide) ?_
  refine cm_need hx hb hml hown hts hK hI hM htab (hpc := 53) rfl q333 (by rw [hRf]; decide) (by rw [hRl]; decide) (Nat.zero_le _) (Nat.zero_le _) hl.1 (Nat.le_of_ble_eq_true rfl) dX0_days_9 (fun c_1 locs hM => ?_) (fun c_1 H locs hM => ?_)
  · refine lv_aload_n hx hb dX0_days_12 rfl (lv_at hl 0 rfl) ?_
    refine lv_aload_n hx hb dX0_days_13 rfl (lv_at hl 0 rfl) ?_
    refine c_get (v := .ref (hm0 h 0)) hx hb hts in_X0 hown hK (hM.1 0 _ rfl) rfl 1 (by decide) q287 rfl rfl dX0_days_14 ?_
    have nq := hK.F 13 rfl
    refine c_getN (v := .int (a 1 0)) hx hb hts in_X2 hown hK ((cm_parts hM.1).2.1 0 _ rfl) rfl 8 (by decide) nq rfl rfl dX0_days_17 ?_
    refine lv_iload_n hx hb dX0_days_20 rfl (lv_at hl 1 rfl) ?_
    refine lv_iadd hx hb dX0_days_21 ?_
    refine lv_sipush (v := nI 9999) hx hb dX0_days_22 (by decide) ?_
    refine lv_icmp_gt (tgt := 32) hx hb dX0_days_25 (by decide) (fun c_2 => ?_) (fun c_2 => ?_)
    · refine lv_iconst (v := nI 0) hx hb dX0_days_32 (by decide) ?_
      refine lv_iconst (v := nI 3) hx hb dX0_days_33 (by decide) ?_
      refine cm_n0 hx hb hml hown hts hK hI hM htab (hpc := 53) rfl q333 (by rw [hRf]; decide) (by rw [hRl]; decide) (Nat.zero_le _) (Nat.zero_le _) hl.1 (Nat.le_of_ble_eq_true rfl) dX0_days_34 (fun H locs hM => ?_)
      refine lv_astore_n (lv' := [(2, .ref (h 1)), (0, .ref (h 0)), (1, .int (nI n))]) hx hb dX0_days_53 rfl hl (by decide) rfl (fun ls hl => ?_)
      refine lv_aload_n hx hb dX0_days_54 rfl (lv_at hl 1 rfl) ?_
      refine lv_aload_n hx hb dX0_days_55 rfl (lv_at hl 0 rfl) ?_
      refine cm_fin hx hb hml hown hts hK hI 3 (by decide) hM q341 (by rw [hRf]; decide) (by rw [hRl]; decide) (Nat.zero_le _) (Nat.zero_le _) hl.1 (Nat.le_of_ble_eq_true rfl) dX0_days_56 (fun H locs hM => ?_)
      exact hret0 hM (mwEq.rf) rfl rfl ⟨rfl, rfl, rfl⟩ (by decide) dX0_days_59
    · exact absurd (by first | exact c_2 | exact Int32.not_lt.mp c_2) hdy
  · exact absurd (by first | exact (in_nat (by decide)).mpr ⟨_, by omega, rfl⟩ | exact (in_nat1 _ (by decide) (by decide)).mpr ⟨_, by omega, by omega, rfl⟩ | exact cow_in hN0 (by omega) | assumption) c_1
set_option maxHeartbeats 400000 in
theorem ca_days_e (f : Nat → Int32) (a : Nat → Nat → Int32) (n : Int32) (he : ¬ (nI 1 ≤ n ∧ n ≤ nI 100)) : CmF yX0_days cX0_days 3 [(0, 52, 53, 8)] 2 60 [.int n] f a (-1000000001 : Int32) f (mErr a 1) := by
  refine CmF.ofI (by decide) rfl (Nat.le_of_ble_eq_true rfl) ?_
  intro p l e R s m args below meth c Q D dA h fc wk hd ri rt cw tx nm B S ls hx hb hml hRf hRl hRc hRs htab hts hown hK hI hB hS0 hQ hN hIm hZ hSh hM hl hret hret0
  have hl : lv_has ls 3 [(0, .ref (h 0)), (1, .int n)] := hl
  refine lv_aload_n hx hb dX0_days_0 rfl (lv_at hl 0 rfl) ?_
  refine lv_iload_n hx hb dX0_days_1 rfl (lv_at hl 1 rfl) ?_
  refine lv_iconst (v := nI 1) hx hb dX0_days_2 (by decide) ?_
  refine lv_bipush (v := nI 100) hx hb dX0_days_3 (by decide) ?_
  refine st_callS (y := yX0_in) hx hb hml hown hts (cmX0_in n (nI 1) (nI 100)) q330 q331 q61 q332 ndX0_in rfl (by rw [hRf]; decide) (by rw [hRl]; decide) (Nat.zero_le _) (Nat.zero_le _) hl.1 rfl (Nat.le_of_ble_eq_true rfl) dX0_days_5 ?_
  refine lv_iconst (v := nI 1) hx hb dX0_days_8 (by decide) ?_
  refine cm_need hx hb hml hown hts hK hI hM htab (hpc := 53) rfl q333 (by rw [hRf]; decide) (by rw [hRl]; decide) (Nat.zero_le _) (Nat.zero_le _) hl.1 (Nat.le_of_ble_eq_true rfl) dX0_days_9 (fun c_1 locs hM => ?_) (fun c_1 H locs hM => ?_)
  · exact absurd c_1 he
  · refine lv_astore_n (lv' := [(2, .ref (h 1)), (0, .ref (h 0)), (1, .int n)]) hx hb dX0_days_53 rfl hl (by decide) rfl (fun ls hl => ?_)
    refine lv_aload_n hx hb dX0_days_54 rfl (lv_at hl 1 rfl) ?_
    refine lv_aload_n hx hb dX0_days_55 rfl (lv_at hl 0 rfl) ?_
    refine cm_fin hx hb hml hown hts hK hI 1 (by decide) hM q341 (by rw [hRf]; decide) (by rw [hRl]; decide) (Nat.zero_le _) (Nat.zero_le _) hl.1 (Nat.le_of_ble_eq_true rfl) dX0_days_56 (fun H locs hM => ?_)
    exact hret0 hM (mwEq.rf) rfl rfl ⟨rfl, rfl, rfl⟩ (by decide) dX0_days_59
theorem ndX0_isJug : yX0_isJug.cls = RX0 ∧ yX0_isJug.cls ≠ "java/lang/invoke/MethodHandle" ∧ yX0_isJug.cls ≠ "java/lang/invoke/VarHandle" ∧ (parseMethodDescriptor yX0_isJug.desc).map (fun d => d.parameters.length) = some 1 := by decide +kernel

set_option maxHeartbeats 400000 in
theorem ca_taste_ok (f : Nat → Int32) (a : Nat → Nat → Int32) (g : Nat) (hg0 : g < 32) (hg : jugP (a 1) (nI g)) (c0 : Nat) (hc : c0 < 25) (hR : okR (a 1)) : CmF yX0_taste cX0_taste 4 [(0, 34, 35, 8)] 64 1470 [.int (nI g), .int (nI c0)] f a (tasR (a 1) (nI g) c0) f a := by
  refine CmF.ofI (by decide) rfl (Nat.le_of_ble_eq_true rfl) ?_
  intro p l e R s m args below meth c Q D dA h fc wk hd ri rt cw tx nm B S ls hx hb hml hRf hRl hRc hRs htab hts hown hK hI hB hS0 hQ hN hIm hZ hSh hM hl hret hret0
  have hl : lv_has ls 4 [(0, .ref (h 0)), (1, .int (nI g)), (2, .int (nI c0))] := hl
  refine lv_aload_n hx hb dX0_taste_0 rfl (lv_at hl 0 rfl) ?_
  refine lv_aload_n hx hb dX0_taste_1 rfl (lv_at hl 0 rfl) ?_
  refine lv_iload_n hx hb dX0_taste_2 rfl (lv_at hl 1 rfl) ?_
  refine rd_callV (y := yX0_isJug) hx hb hml hown hts hK (ca_isJug D dA h _ _ _ _ _ _ _ _ _ _ (nI g)) hM.1 (cAt.recv hK (hM.1 0 _ rfl) rfl) q956 q958 qs16 q61 q959 ndX0_isJug rfl (by rw [hRf]; decide) (by rw [hRl]; decide) (Nat.zero_le _) (Nat.zero_le _) hl.1 rfl (Nat.le_of_ble_eq_true rfl) dX0_taste_3 ?_
  refine w_if_eqT (tgt := 20) hx hb dX0_taste_6 (by decide) (fun c_1 => ?_) (fun c_1 => ?_)
  · exact absurd (by first | exact (in_nat (by decide)).mpr ⟨_, by omega, rfl⟩ | exact (in_nat1 _ (by decide) (by decide)).mpr ⟨_, by omega, by omega, rfl⟩ | exact cow_in hN0 (by omega) | assumption) c_1
  · refine lv_iload_n hx hb dX0_taste_9 rfl (lv_at hl 2 rfl) ?_
    refine st_callS (y := yX0_isCell) hx hb hml hown hts (cmX0_isCell (nI c0)) q327 q328 q61 q329 ndX0_isCell rfl (by rw [hRf]; decide) (by rw [hRl]; decide) (Nat.zero_le _) (Nat.zero_le _) hl.1 rfl (Nat.le_of_ble_eq_true rfl) dX0_taste_10 ?_
    refine w_if_eqT (tgt := 20) hx hb dX0_taste_13 (by decide) (fun c_2 => ?_) (fun c_2 => ?_)
    · exact absurd (by first | exact (in_nat (by decide)).mpr ⟨_, by omega, rfl⟩ | exact (in_nat1 _ (by decide) (by decide)).mpr ⟨_, by omega, by omega, rfl⟩ | exact cow_in hN0 (by omega) | assumption) c_2
    · refine lv_iconst (v := nI 1) hx hb dX0_taste_16 (by decide) ?_
      refine lv_goto (tgt := 21) hx hb dX0_taste_17 (by decide) ?_
      refine lv_iconst (v := nI 1) hx hb dX0_taste_21 (by decide) ?_
      refine cm_n1 hx hb hml hown hts hK hI hM htab (hpc := 35) rfl q333 (by rw [hRf]; decide) (by rw [hRl]; decide) (Nat.zero_le _) (Nat.zero_le _) hl.1 (Nat.le_of_ble_eq_true rfl) dX0_taste_22 (fun locs hM => ?_)
      refine lv_aload_n hx hb dX0_taste_25 rfl (lv_at hl 0 rfl) ?_
      refine c_get (v := .ref (hm0 h 0)) hx hb hts in_X0 hown hK (hM.1 0 _ rfl) rfl 1 (by decide) q287 rfl rfl dX0_taste_26 ?_
      refine lv_iload_n hx hb dX0_taste_29 rfl (lv_at hl 1 rfl) ?_
      refine lv_iload_n hx hb dX0_taste_30 rfl (lv_at hl 2 rfl) ?_
      refine cm_mcall0 (y := yX2_taste) hx hb hml hown hts hK hI hB hM (hQ.at hB hN mwEq.rf mwEq.rf mwEq.rf hM.2.2) (hN.1) (mw_taste (a 1) hR g (by omega) c0 (by omega)) q960 q961 q962 q963 ndX2_taste rfl (by rw [hRf]; decide) (by rw [hRl]; decide) (Nat.zero_le _) (Nat.zero_le _) hl.1 rfl (Nat.le_of_ble_eq_true rfl) dX0_taste_31 (fun H locs nm hM => ?_)
      rw [va_uself] at hM
      exact hret0 hM (mwEq.rf) rfl rfl ⟨rfl, rfl, rfl⟩ (rfl) dX0_taste_34
set_option maxHeartbeats 400000 in
theorem ca_taste_e (f : Nat → Int32) (a : Nat → Nat → Int32) (g c0 : Int32) (he : ¬ (jugP (a 1) g ∧ (nI 0 ≤ c0 ∧ c0 ≤ nI 24))) : CmF yX0_taste cX0_taste 4 [(0, 34, 35, 8)] 2 60 [.int g, .int c0] f a (-1000000001 : Int32) f (mErr a 1) := by
  refine CmF.ofI (by decide) rfl (Nat.le_of_ble_eq_true rfl) ?_
  intro p l e R s m args below meth c Q D dA h fc wk hd ri rt cw tx nm B S ls hx hb hml hRf hRl hRc hRs htab hts hown hK hI hB hS0 hQ hN hIm hZ hSh hM hl hret hret0
  have hl : lv_has ls 4 [(0, .ref (h 0)), (1, .int g), (2, .int c0)] := hl
  refine lv_aload_n hx hb dX0_taste_0 rfl (lv_at hl 0 rfl) ?_
  refine lv_aload_n hx hb dX0_taste_1 rfl (lv_at hl 0 rfl) ?_
  refine lv_iload_n hx hb dX0_taste_2 rfl (lv_at hl 1 rfl) ?_
  refine rd_callV (y := yX0_isJug) hx hb hml hown hts hK (ca_isJug D dA h _ _ _ _ _ _ _ _ _ _ g) hM.1 (cAt.recv hK (hM.1 0 _ rfl) rfl) q956 q958 qs16 q61 q959 ndX0_isJug rfl (by rw [hRf]; decide) (by rw [hRl]; decide) (Nat.zero_le _) (Nat.zero_le _) hl.1 rfl (Nat.le_of_ble_eq_true rfl) dX0_taste_3 ?_
  refine w_if_eqT (tgt := 20) hx hb dX0_taste_6 (by decide) (fun c_1 => ?_) (fun c_1 => ?_)
  · refine lv_iconst (v := nI 0) hx hb dX0_taste_20 (by decide) ?_
    refine lv_iconst (v := nI 1) hx hb dX0_taste_21 (by decide) ?_
    refine cm_n0 hx hb hml hown hts hK hI hM htab (hpc := 35) rfl q333 (by rw [hRf]; decide) (by rw [hRl]; decide) (Nat.zero_le _) (Nat.zero_le _) hl.1 (Nat.le_of_ble_eq_true rfl) dX0_taste_22 (fun H locs hM => ?_)
    refine lv_astore_n (lv' := [(3, .ref (h 1)), (0, .ref (h 0)), (1, .int g), (2, .int c0)]) hx hb dX0_taste_35 rfl hl (by decide) rfl (fun ls hl => ?_)
    refine lv_aload_n hx hb dX0_taste_36 rfl (lv_at hl 1 rfl) ?_
    refine lv_aload_n hx hb dX0_taste_37 rfl (lv_at hl 0 rfl) ?_
    refine cm_fin hx hb hml hown hts hK hI 1 (by decide) hM q341 (by rw [hRf]; decide) (by rw [hRl]; decide) (Nat.zero_le _) (Nat.zero_le _) hl.1 (Nat.le_of_ble_eq_true rfl) dX0_taste_38 (fun H locs hM => ?_)
    exact hret0 hM (mwEq.rf) rfl rfl ⟨rfl, rfl, rfl⟩ (by decide) dX0_taste_41
  · refine lv_iload_n hx hb dX0_taste_9 rfl (lv_at hl 2 rfl) ?_
    refine st_callS (y := yX0_isCell) hx hb hml hown hts (cmX0_isCell c0) q327 q328 q61 q329 ndX0_isCell rfl (by rw [hRf]; decide) (by rw [hRl]; decide) (Nat.zero_le _) (Nat.zero_le _) hl.1 rfl (Nat.le_of_ble_eq_true rfl) dX0_taste_10 ?_
    refine w_if_eqT (tgt := 20) hx hb dX0_taste_13 (by decide) (fun c_2 => ?_) (fun c_2 => ?_)
    · refine lv_iconst (v := nI 0) hx hb dX0_taste_20 (by decide) ?_
      refine lv_iconst (v := nI 1) hx hb dX0_taste_21 (by decide) ?_
      refine cm_n0 hx hb hml hown hts hK hI hM htab (hpc := 35) rfl q333 (by rw [hRf]; decide) (by rw [hRl]; decide) (Nat.zero_le _) (Nat.zero_le _) hl.1 (Nat.le_of_ble_eq_true rfl) dX0_taste_22 (fun H locs hM => ?_)
      refine lv_astore_n (lv' := [(3, .ref (h 1)), (0, .ref (h 0)), (1, .int g), (2, .int c0)]) hx hb dX0_taste_35 rfl hl (by decide) rfl (fun ls hl => ?_)
      refine lv_aload_n hx hb dX0_taste_36 rfl (lv_at hl 1 rfl) ?_
      refine lv_aload_n hx hb dX0_taste_37 rfl (lv_at hl 0 rfl) ?_
      refine cm_fin hx hb hml hown hts hK hI 1 (by decide) hM q341 (by rw [hRf]; decide) (by rw [hRl]; decide) (Nat.zero_le _) (Nat.zero_le _) hl.1 (Nat.le_of_ble_eq_true rfl) dX0_taste_38 (fun H locs hM => ?_)
      exact hret0 hM (mwEq.rf) rfl rfl ⟨rfl, rfl, rfl⟩ (by decide) dX0_taste_41
    · refine lv_iconst (v := nI 1) hx hb dX0_taste_16 (by decide) ?_
      refine lv_goto (tgt := 21) hx hb dX0_taste_17 (by decide) ?_
      refine lv_iconst (v := nI 1) hx hb dX0_taste_21 (by decide) ?_
      exact absurd ⟨c_1, c_2⟩ he
