/-! acts, 3 (printed by comp11.py) -/
set_option maxRecDepth 100000
section CVB
variable {p : Program} {l : Launch} {e : Env} {R : Room} {s : State} {m : MethodId} {args : Array Value} {below : List Frame} {meth : Method} {c : Code} {H : Heap} {locs : List Loc} {cells slots : Nat} {Q : State → Prop}
variable {cc : ByteArray} {pc : Nat} {ls : Array Slot} {rest : List Value} {D : va_G} {dA : Nat → ClassId} {nL idx : Nat} {own : String}
theorem cv_m (hx : p.tables.exec = Jvm.exec) (hb : c.code = cc) (hown : s.vm.findClass RX0 = some m.cls) (hts : ∀ w ∈ lw_all, w.before args s = true) (hK : cmK D dA s) (k : Nat) (hk : k ≤ 6) (x tr w : Nat) (mm : Int32) (ho : cAt D x (.inr (10 + k, [.ref tr, .int (nI w), .int mm])) H) (hdg : decode cc pc = .ok (.getfield 157, 3))
    (kk : W p l e R s m args below meth c H locs cells slots Q (F0 m (pc + 3) ls (.int mm :: rest))) : W p l e R s m args below meth c H locs cells slots Q (F0 m pc ls (.ref x :: rest)) := by
  rcases (show k = 0 ∨ k = 1 ∨ k = 2 ∨ k = 3 ∨ k = 4 ∨ k = 5 ∨ k = 6 by omega) with rfl | rfl | rfl | rfl | rfl | rfl | rfl
  · exact c_get (v := .int mm) hx hb hts in_X9 hown hK ho rfl 2 (by decide) q439 rfl rfl hdg kk
  · exact c_get (v := .int mm) hx hb hts in_X10 hown hK ho rfl 2 (by decide) q439 rfl rfl hdg kk
  · exact c_get (v := .int mm) hx hb hts in_X11 hown hK ho rfl 2 (by decide) q439 rfl rfl hdg kk
  · exact c_get (v := .int mm) hx hb hts in_X12 hown hK ho rfl 2 (by decide) q439 rfl rfl hdg kk
  · exact c_get (v := .int mm) hx hb hts in_X13 hown hK ho rfl 2 (by decide) q439 rfl rfl hdg kk
  · exact c_get (v := .int mm) hx hb hts in_X14 hown hK ho rfl 2 (by decide) q439 rfl rfl hdg kk
  · exact c_get (v := .int mm) hx hb hts in_X15 hown hK ho rfl 2 (by decide) q439 rfl rfl hdg kk

theorem iso_as : ∀ (kd : Nat), kd ≤ 6 → (iI (nI kd = nI 0) = iI (0 ≤ asI (nI kd) 4 (nI 0))) ∧ (iI (nI kd = nI 1 ∨ nI kd = nI 0) = iI (0 ≤ asI (nI kd) 4 (nI 1))) ∧ (iI (nI kd = nI 2 ∨ nI kd = nI 0) = iI (0 ≤ asI (nI kd) 4 (nI 2))) ∧ (iI (nI kd = nI 3 ∨ nI kd = nI 0) = iI (0 ≤ asI (nI kd) 4 (nI 3))) ∧ (iI (nI kd = nI 4 ∨ nI kd = nI 1 ∨ nI kd = nI 0) = iI (0 ≤ asI (nI kd) 4 (nI 4))) ∧ (iI (nI kd = nI 5 ∨ nI kd = nI 2 ∨ nI kd = nI 0) = iI (0 ≤ asI (nI kd) 4 (nI 5))) ∧ (iI (nI kd = nI 6 ∨ nI kd = nI 3 ∨ nI kd = nI 0) = iI (0 ≤ asI (nI kd) 4 (nI 6))) := by
  intro kd hk
  rcases (show kd = 0 ∨ kd = 1 ∨ kd = 2 ∨ kd = 3 ∨ kd = 4 ∨ kd = 5 ∨ kd = 6 by omega) with rfl | rfl | rfl | rfl | rfl | rfl | rfl <;> decide
theorem cv_isOf (hx : p.tables.exec = Jvm.exec) (hb : c.code = cc) (hml : c.maxLocals = nL) (hown : s.vm.findClass own = some m.cls) (hts : ∀ w ∈ lw_all, w.before args s = true) (hK : cmK D dA s) (h1 : Cond.methodLink own idx yX9_isOf ∈ lw_all) (k : Nat) (hk : k ≤ 6) (x tr w : Nat) (mm : Int32) (kd : Nat) (hkd : kd ≤ 6) (ho : cAt D x (.inr (10 + k, [.ref tr, .int (nI w), .int mm])) H) (hRf : 3 ≤ R.frames) (hRl : 63 ≤ R.locals) (hRc : cells ≤ R.cells) (hRs : slots ≤ R.slots) (hsize : ls.size = nL) (hW : (rest.map fun v => v.category).sum ≤ 8) (hdg : decode cc pc = .ok (.invokevirtual idx, 3))
    (kk : W p l e R s m args below meth c H locs cells slots Q (F0 m (pc + 3) ls (.int (iI (0 ≤ asI (nI kd) 4 (nI k))) :: rest))) : W p l e R s m args below meth c H locs cells slots Q (F0 m pc ls (.int (nI kd) :: .ref x :: rest)) := by
  obtain ⟨e0, e1, e2, e3, e4, e5, e6⟩ := iso_as kd hkd
  rcases (show k = 0 ∨ k = 1 ∨ k = 2 ∨ k = 3 ∨ k = 4 ∨ k = 5 ∨ k = 6 by omega) with rfl | rfl | rfl | rfl | rfl | rfl | rfl
  · exact cv_isOf_0 hx hb hml hown hts hK h1 x tr w mm (nI kd) ho hRf hRl hRc hRs hsize hW hdg (w_top _ e0 kk)
  · exact cv_isOf_1 hx hb hml hown hts hK h1 x tr w mm (nI kd) ho hRf hRl hRc hRs hsize hW hdg (w_top _ e1 kk)
  · exact cv_isOf_2 hx hb hml hown hts hK h1 x tr w mm (nI kd) ho hRf hRl hRc hRs hsize hW hdg (w_top _ e2 kk)
  · exact cv_isOf_3 hx hb hml hown hts hK h1 x tr w mm (nI kd) ho hRf hRl hRc hRs hsize hW hdg (w_top _ e3 kk)
  · exact cv_isOf_4 hx hb hml hown hts hK h1 x tr w mm (nI kd) ho hRf hRl hRc hRs hsize hW hdg (w_top _ e4 kk)
  · exact cv_isOf_5 hx hb hml hown hts hK h1 x tr w mm (nI kd) ho hRf hRl hRc hRs hsize hW hdg (w_top _ e5 kk)
  · exact cv_isOf_6 hx hb hml hown hts hK h1 x tr w mm (nI kd) ho hRf hRl hRc hRs hsize hW hdg (w_top _ e6 kk)
end CVB
theorem mwEq_lsD {dz : Int32 → Int32} {dwN : Int32 → Nat} {r : Nat → Int32} : mwEq r (lsD dz dwN r) := ((mwEq_u ⟨by omega, by omega, by omega, by omega, fun w hw => ⟨by omega, by omega⟩⟩).tr (mwEq_u ⟨by omega, by omega, by omega, by omega, fun w hw => ⟨by omega, by omega⟩⟩)).tr (mwEq_g (by omega))
theorem mwEq_lsI {dz : Int32 → Int32} {dwN : Int32 → Nat} {r : Nat → Int32} (hR : okR r) : ∀ k, mwEq r (lsI dz dwN r k)
  | 0 => mwEq.rf
  | k + 1 => ((mwEq_lsI hR k).tr mwEq_lsD).tr (mwEq_day (okR_lsD (okR_lsI hR k)))
theorem ndX2_goesLoose : yX2_goesLoose.cls = RX2 ∧ yX2_goesLoose.cls ≠ "java/lang/invoke/MethodHandle" ∧ yX2_goesLoose.cls ≠ "java/lang/invoke/VarHandle" ∧ (parseMethodDescriptor yX2_goesLoose.desc).map (fun d => d.parameters.length) = some 0 := by decide +kernel

set_option maxHeartbeats 400000 in
theorem ca_loose_ok (f : Nat → Int32) (a : Nat → Nat → Int32) (dz : Int32 → Int32) (dwN : Int32 → Nat) (hdr : DrH dz dwN) (hdl : ∀ z, dwN z < 2 ^ 24) (n : Nat) (h1 : 1 ≤ n) (h2 : n ≤ 40) (hdy : a 1 0 + nI n ≤ nI 9999) (hR : okR (a 1)) : CmF yX0_loose cX0_loose 3 [(0, 64, 65, 8)] 67 1535 [.int (nI n)] f a (sumG (lsI dz dwN (a 1) n) 25) f (va_up a 1 (lsI dz dwN (a 1) n)) := by
  refine CmF.ofI (by decide) rfl (Nat.le_of_ble_eq_true rfl) ?_
  intro p l e R s m args below meth c Q D dA h fc wk hd ri rt cw tx nm B S ls hx hb hml hRf hRl hRc hRs htab hts hown hK hI hB hS0 hQ hN hIm hZ hSh hM hl hret hret0
  have hl : lv_has ls 3 [(0, .ref (h 0)), (1, .int (nI n))] := hl
  refine lv_aload_n hx hb dX0_loose_0 rfl (lv_at hl 0 rfl) ?_
  refine lv_iload_n hx hb dX0_loose_1 rfl (lv_at hl 1 rfl) ?_
  refine lv_iconst (v := nI 1) hx hb dX0_loose_2 (by decide) ?_
  refine lv_bipush (v := nI 40) hx hb dX0_loose_3 (by decide) ?_
  refine st_callS (y := yX0_in) hx hb hml hown hts (cmX0_in (nI n) (nI 1) (nI 40)) q330 q331 q61 q332 ndX0_in rfl (by rw [hRf]; decide) (by rw [hRl]; decide) (Nat.zero_le _) (Nat.zero_le _) hl.1 rfl (Nat.le_of_ble_eq_true rfl) dX0_loose_5 ?_
  refine lv_iconst (v := nI 1) hx hb dX0_loose_8 (by decide) ?_
  refine cm_need hx hb hml hown hts hK hI hM htab (hpc := 65) rfl q333 (by rw [hRf]; decide) (by rw [hRl]; decide) (Nat.zero_le _) (Nat.zero_le _) hl.1 (Nat.le_of_ble_eq_true rfl) dX0_loose_9 (fun c_1 locs hM => ?_) (fun c_1 H locs hM => ?_)
  · refine lv_aload_n hx hb dX0_loose_12 rfl (lv_at hl 0 rfl) ?_
    refine lv_aload_n hx hb dX0_loose_13 rfl (lv_at hl 0 rfl) ?_
    refine c_get (v := .ref (hm0 h 0)) hx hb hts in_X0 hown hK (hM.1 0 _ rfl) rfl 1 (by decide) q287 rfl rfl dX0_loose_14 ?_
    have nq := hK.F 13 rfl
    refine c_getN (v := .int (a 1 0)) hx hb hts in_X2 hown hK ((cm_parts hM.1).2.1 0 _ rfl) rfl 8 (by decide) nq rfl rfl dX0_loose_17 ?_
    refine lv_iload_n hx hb dX0_loose_20 rfl (lv_at hl 1 rfl) ?_
    refine lv_iadd hx hb dX0_loose_21 ?_
    refine lv_sipush (v := nI 9999) hx hb dX0_loose_22 (by decide) ?_
    refine lv_icmp_gt (tgt := 32) hx hb dX0_loose_25 (by decide) (fun c_2 => ?_) (fun c_2 => ?_)
    · exact absurd hdy (by first | exact c_2 | exact Int32.not_le.mpr c_2)
    · refine lv_iconst (v := nI 1) hx hb dX0_loose_28 (by decide) ?_
      refine lv_goto (tgt := 33) hx hb dX0_loose_29 (by decide) ?_
      refine lv_iconst (v := nI 3) hx hb dX0_loose_33 (by decide) ?_
      refine cm_n1 hx hb hml hown hts hK hI hM htab (hpc := 65) rfl q333 (by rw [hRf]; decide) (by rw [hRl]; decide) (Nat.zero_le _) (Nat.zero_le _) hl.1 (Nat.le_of_ble_eq_true rfl) dX0_loose_34 (fun locs hM => ?_)
      refine lv_iconst (v := nI 0) hx hb dX0_loose_37 (by decide) ?_
      refine lv_istore_n (lv' := [(2, .int (nI 0)), (0, .ref (h 0)), (1, .int (nI n))]) hx hb dX0_loose_38 rfl hl (by decide) rfl (fun ls hl => ?_)
      have loop39 : ∀ (fu : Nat) (k : Nat), (k ≤ n) → (n < k + fu) → ∀ (fc : Int32) (wk nm : Nat → Nat → Int32) (H : Heap) (locs : List Loc), cmH D h dA s.heap H locs f (va_up a 1 (lsI dz dwN (a 1) k)) fc wk hd ri rt cw tx nm → ∀ (ls : Array Slot), lv_has ls 3 [(2, .int (nI k)), (0, .ref (h 0)), (1, .int (nI n))] → W p l e R s m args below meth c H locs 0 0 Q (F0 m 39 ls []) := by
        intro fu
        induction fu with
        | zero =>
          intro k hk hf
          omega
        | succ fu ih39 =>
          intro k hk hf fc wk nm H locs hM ls hl
          refine lv_iload_n hx hb dX0_loose_39 rfl (lv_at hl 0 rfl) ?_
          refine lv_iload_n hx hb dX0_loose_40 rfl (lv_at hl 2 rfl) ?_
          refine w_icmp_geN (tgt := 57) hx hb (by omega) (by omega) dX0_loose_41 (by decide) (fun c_3 => ?_) (fun c_3 => ?_)
          · refine lv_aload_n hx hb dX0_loose_57 rfl (lv_at hl 1 rfl) ?_
            refine c_get (v := .ref (hm0 h 0)) hx hb hts in_X0 hown hK (hM.1 0 _ rfl) rfl 1 (by decide) q287 rfl rfl dX0_loose_58 ?_
            refine rd_callV (y := yX2_allGrass) hx hb hml hown hts hK ((mw_allGrass ((va_up a 1 (lsI dz dwN (a 1) k)) 1)) D dA (hm0 h) _ _ _) (cm_parts hM.1).2.1 (cAt.recv hK ((cm_parts hM.1).2.1 0 _ rfl) rfl) q935 q936 q937 q66 q938 ndX2_allGrass rfl (by rw [hRf]; decide) (by rw [hRl]; decide) (Nat.zero_le _) (Nat.zero_le _) hl.1 rfl (Nat.le_of_ble_eq_true rfl) dX0_loose_61 ?_
            refine w_top (sumG (lsI dz dwN (a 1) n) 25) (by rw [va_us, show k = n by omega]) ?_
            exact hret0 (hM.to rfl (by rw [show k = n by omega])) (mwEq_lsI hR n) rfl rfl ⟨rfl, rfl, rfl⟩ (rfl) dX0_loose_64
          · refine lv_aload_n hx hb dX0_loose_44 rfl (lv_at hl 1 rfl) ?_
            refine c_get (v := .ref (hm0 h 0)) hx hb hts in_X0 hown hK (hM.1 0 _ rfl) rfl 1 (by decide) q287 rfl rfl dX0_loose_45 ?_
            have hE : mwEq (a 1) ((va_up a 1 (lsI dz dwN (a 1) k)) 1) := by rw [va_us]; exact mwEq_lsI hR k
            refine cm_mcall0 (y := yX2_goesLoose) hx hb hml hown hts hK hI hB hM (hQ.at hB hN hE mwEq.rf mwEq.rf hM.2.2) (by rw [hE.1]; exact hN.1) (mw_goesLoose ((va_up a 1 (lsI dz dwN (a 1) k)) 1) dz dwN hdr hdl (by rw [va_us]; exact okR_lsI hR k)) q943 q944 q945 q946 ndX2_goesLoose rfl (by rw [hRf]; decide) (by rw [hRl]; decide) (Nat.zero_le _) (Nat.zero_le _) hl.1 rfl (Nat.le_of_ble_eq_true rfl) dX0_loose_48 (fun H locs nm hM => ?_)
            refine lv_iinc (v := nI (k + 1)) (lv' := [(2, .int (nI (k + 1))), (0, .ref (h 0)), (1, .int (nI n))]) hx hb dX0_loose_51 hl (k := 0) rfl (by rw [show Int32.ofInt 1 = nI 1 from by decide]; exact nI_add _ _) (by decide) rfl (fun ls hl => ?_)
            refine lv_goto (tgt := 39) hx hb dX0_loose_54 (by decide) ?_
            exact ih39 (k + 1) (by omega) (by omega) _ _ _ _ _ (hM.to rfl (by rw [va_uu, va_us]; rfl)) ls (lv_sub hl [0, 1, 2] rfl)
      exact loop39 (n + 1) 0 (by omega) (by omega) _ _ _ _ _ (hM.to rfl (va_self a 1)) ls (lv_sub hl [0, 1, 2] rfl)
  · exact absurd (by first | exact (in_nat (by decide)).mpr ⟨_, by omega, rfl⟩ | exact (in_nat1 _ (by decide) (by decide)).mpr ⟨_, by omega, by omega, rfl⟩ | exact cow_in hN0 (by omega) | assumption) c_1
set_option maxHeartbeats 400000 in
theorem ca_loose_s (f : Nat → Int32) (a : Nat → Nat → Int32) (n : Nat) (h1 : 1 ≤ n) (h2 : n ≤ 40) (hdy : ¬ a 1 0 + nI n ≤ nI 9999) : CmF yX0_loose cX0_loose 3 [(0, 64, 65, 8)] 2 60 [.int (nI n)] f a (-1000000003 : Int32) f (mErr a 3) := by
  refine CmF.ofI (by decide) rfl (Nat.le_of_ble_eq_true rfl) ?_
  intro p l e R s m args below meth c Q D dA h fc wk hd ri rt cw tx nm B S ls hx hb hml hRf hRl hRc hRs htab hts hown hK hI hB hS0 hQ hN hIm hZ hSh hM hl hret hret0
  have hl : lv_has ls 3 [(0, .ref (h 0)), (1, .int (nI n))] := hl
  refine lv_aload_n hx hb dX0_loose_0 rfl (lv_at hl 0 rfl) ?_
  refine lv_iload_n hx hb dX0_loose_1 rfl (lv_at hl 1 rfl) ?_
  refine lv_iconst (v := nI 1) hx hb dX0_loose_2 (by decide) ?_
  refine lv_bipush (v := nI 40) hx hb dX0_loose_3 (by decide) ?_
  refine st_callS (y := yX0_in) hx hb hml hown hts (cmX0_in (nI n) (nI 1) (nI 40)) q330 q331 q61 q332 ndX0_in rfl (by rw [hRf]; decide) (by rw [hRl]; decide) (Nat.zero_le _) (Nat.zero_le _) hl.1 rfl (Nat.le_of_ble_eq_true rfl) dX0_loose_5 ?_
  refine lv_iconst (v := nI 1) hx hb dX0_loose_8 (by decide) ?_
  refine cm_need hx hb hml hown hts hK hI hM htab (hpc := 65) rfl q333 (by rw [hRf]; decide) (by rw [hRl]; decide) (Nat.zero_le _) (Nat.zero_le _) hl.1 (Nat.le_of_ble_eq_true rfl) dX0_loose_9 (fun c_1 locs hM => ?_) (fun c_1 H locs hM => ?_)
  · refine lv_aload_n hx hb dX0_loose_12 rfl (lv_at hl 0 rfl) ?_
    refine lv_aload_n hx hb dX0_loose_13 rfl (lv_at hl 0 rfl) ?_
    refine c_get (v := .ref (hm0 h 0)) hx hb hts in_X0 hown hK (hM.1 0 _ rfl) rfl 1 (by decide) q287 rfl rfl dX0_loose_14 ?_
    have nq := hK.F 13 rfl
    refine c_getN (v := .int (a 1 0)) hx hb hts in_X2 hown hK ((cm_parts hM.1).2.1 0 _ rfl) rfl 8 (by decide) nq rfl rfl dX0_loose_17 ?_
    refine lv_iload_n hx hb dX0_loose_20 rfl (lv_at hl 1 rfl) ?_
    refine lv_iadd hx hb dX0_loose_21 ?_
    refine lv_sipush (v := nI 9999) hx hb dX0_loose_22 (by decide) ?_
    refine lv_icmp_gt (tgt := 32) hx hb dX0_loose_25 (by decide) (fun c_2 => ?_) (fun c_2 => ?_)
    · refine lv_iconst (v := nI 0) hx hb dX0_loose_32 (by decide) ?_
      refine lv_iconst (v := nI 3) hx hb dX0_loose_33 (by decide) ?_
      refine cm_n0 hx hb hml hown hts hK hI hM htab (hpc := 65) rfl q333 (by rw [hRf]; decide) (by rw [hRl]; decide) (Nat.zero_le _) (Nat.zero_le _) hl.1 (Nat.le_of_ble_eq_true rfl) dX0_loose_34 (fun H locs hM => ?_)
      refine lv_astore_n (lv' := [(2, .ref (h 1)), (0, .ref (h 0)), (1, .int (nI n))]) hx hb dX0_loose_65 rfl hl (by decide) rfl (fun ls hl => ?_)
      refine lv_aload_n hx hb dX0_loose_66 rfl (lv_at hl 1 rfl) ?_
      refine lv_aload_n hx hb dX0_loose_67 rfl (lv_at hl 0 rfl) ?_
      refine cm_fin hx hb hml hown hts hK hI 3 (by decide) hM q341 (by rw [hRf]; decide) (by rw [hRl]; decide) (Nat.zero_le _) (Nat.zero_le _) hl.1 (Nat.le_of_ble_eq_true rfl) dX0_loose_68 (fun H locs hM => ?_)
      exact hret0 hM (mwEq.rf) rfl rfl ⟨rfl, rfl, rfl⟩ (by decide) dX0_loose_71
    · exact absurd (by first | exact c_2 | exact Int32.not_lt.mp c_2) hdy
  · exact absurd (by first | exact (in_nat (by decide)).mpr ⟨_, by omega, rfl⟩ | exact (in_nat1 _ (by decide) (by decide)).mpr ⟨_, by omega, by omega, rfl⟩ | exact cow_in hN0 (by omega) | assumption) c_1
set_option maxHeartbeats 400000 in
theorem ca_loose_e (f : Nat → Int32) (a : Nat → Nat → Int32) (n : Int32) (he : ¬ (nI 1 ≤ n ∧ n ≤ nI 40)) : CmF yX0_loose cX0_loose 3 [(0, 64, 65, 8)] 2 60 [.int n] f a (-1000000001 : Int32) f (mErr a 1) := by
  refine CmF.ofI (by decide) rfl (Nat.le_of_ble_eq_true rfl) ?_
  intro p l e R s m args below meth c Q D dA h fc wk hd ri rt cw tx nm B S ls hx hb hml hRf hRl hRc hRs htab hts hown hK hI hB hS0 hQ hN hIm hZ hSh hM hl hret hret0
  have hl : lv_has ls 3 [(0, .ref (h 0)), (1, .int n)] := hl
  refine lv_aload_n hx hb dX0_loose_0 rfl (lv_at hl 0 rfl) ?_
  refine lv_iload_n hx hb dX0_loose_1 rfl (lv_at hl 1 rfl) ?_
  refine lv_iconst (v := nI 1) hx hb dX0_loose_2 (by decide) ?_
  refine lv_bipush (v := nI 40) hx hb dX0_loose_3 (by decide) ?_
  refine st_callS (y := yX0_in) hx hb hml hown hts (cmX0_in n (nI 1) (nI 40)) q330 q331 q61 q332 ndX0_in rfl (by rw [hRf]; decide) (by rw [hRl]; decide) (Nat.zero_le _) (Nat.zero_le _) hl.1 rfl (Nat.le_of_ble_eq_true rfl) dX0_loose_5 ?_
  refine lv_iconst (v := nI 1) hx hb dX0_loose_8 (by decide) ?_
  refine cm_need hx hb hml hown hts hK hI hM htab (hpc := 65) rfl q333 (by rw [hRf]; decide) (by rw [hRl]; decide) (Nat.zero_le _) (Nat.zero_le _) hl.1 (Nat.le_of_ble_eq_true rfl) dX0_loose_9 (fun c_1 locs hM => ?_) (fun c_1 H locs hM => ?_)
  · exact absurd c_1 he
  · refine lv_astore_n (lv' := [(2, .ref (h 1)), (0, .ref (h 0)), (1, .int n)]) hx hb dX0_loose_65 rfl hl (by decide) rfl (fun ls hl => ?_)
    refine lv_aload_n hx hb dX0_loose_66 rfl (lv_at hl 1 rfl) ?_
    refine lv_aload_n hx hb dX0_loose_67 rfl (lv_at hl 0 rfl) ?_
    refine cm_fin hx hb hml hown hts hK hI 1 (by decide) hM q341 (by rw [hRf]; decide) (by rw [hRl]; decide) (Nat.zero_le _) (Nat.zero_le _) hl.1 (Nat.le_of_ble_eq_true rfl) dX0_loose_68 (fun H locs hM => ?_)
    exact hret0 hM (mwEq.rf) rfl rfl ⟨rfl, rfl, rfl⟩ (by decide) dX0_loose_71
set_option maxHeartbeats 400000 in
theorem ca_ofCow_ok0 (f : Nat → Int32) (a : Nat → Nat → Int32) (i : Nat) (hi : i < cl (a 1 3)) (hN0 : okN (a 1 3) 5) (hkd : okN (a 1 (58 + 14 * i + 0)) 6)  : CmF yX0_ofCow cX0_ofCow 4 [(0, 56, 110, 8), (57, 61, 110, 8), (62, 71, 110, 8), (72, 81, 110, 8), (82, 86, 110, 8), (87, 91, 110, 8), (92, 109, 110, 8)] 3 82 [.int (nI i), .int (nI 0)] f a (a 1 (58 + 14 * i + 0)) f a := by
  refine CmF.ofI (by decide) rfl (Nat.le_of_ble_eq_true rfl) ?_
  intro p l e R s m args below meth c Q D dA h fc wk hd ri rt cw tx nm B S ls hx hb hml hRf hRl hRc hRs htab hts hown hK hI hB hS0 hQ hN hIm hZ hSh hM hl hret hret0
  have hl : lv_has ls 4 [(0, .ref (h 0)), (1, .int (nI i)), (2, .int (nI 0))] := hl
  have hN2 := hN0.2
  refine lv_aload_n hx hb dX0_ofCow_0 rfl (lv_at hl 0 rfl) ?_
  refine lv_iload_n hx hb dX0_ofCow_1 rfl (lv_at hl 1 rfl) ?_
  refine lv_iload_n hx hb dX0_ofCow_2 rfl (lv_at hl 2 rfl) ?_
  refine lv_iconst (v := nI 0) hx hb dX0_ofCow_3 (by decide) ?_
  refine lv_bipush (v := nI 6) hx hb dX0_ofCow_4 (by decide) ?_
  refine st_callS (y := yX0_in) hx hb hml hown hts (cmX0_in (nI 0) (nI 0) (nI 6)) q330 q331 q61 q332 ndX0_in rfl (by rw [hRf]; decide) (by rw [hRl]; decide) (Nat.zero_le _) (Nat.zero_le _) hl.1 rfl (Nat.le_of_ble_eq_true rfl) dX0_ofCow_6 ?_
  obtain ⟨x, hx1, hx2, hx3⟩ := hQ.1.1 i hi
  refine cg_callV (y := yX0_cowAt) (b := h 0) (C := RX0) (As := [.int (nI i), .int (iI (nI 0 ≤ nI 0 ∧ nI 0 ≤ nI 6))]) hx hb hml hown hts hK hM.2.2 (ca_cowAt_ok D dA h _ _ _ _ _ _ _ _ _ _ hI i x (nI 0 ≤ nI 0 ∧ nI 0 ≤ nI 6) hN0 hi ((in_nat (by decide)).mpr ⟨_, by omega, rfl⟩) hx1) hM.1 (fun q hq => hq) (cAt.recv hK (hM.1 0 _ rfl) rfl) q508 q510 qs3 q61 q511 ndX0_cowAt rfl (by rw [hRf]; decide) (by rw [hRl]; decide) (Nat.zero_le _) (Nat.zero_le _) hl.1 rfl (Nat.le_of_ble_eq_true rfl) dX0_ofCow_9 ?_
  rintro _ H locs ⟨rfl, hP1⟩ hz1 hk1 hS1
  have hM := cmH.of hI hP1 hS1
  refine lv_astore_n (lv' := [(3, .ref x), (0, .ref (h 0)), (1, .int (nI i)), (2, .int (nI 0))]) hx hb dX0_ofCow_12 rfl hl (by decide) rfl (fun ls hl => ?_)
  refine lv_iload_n hx hb dX0_ofCow_13 rfl (lv_at hl 3 rfl) ?_
  refine lv_tableIn (off := 38) (tgt := 52) hx hb dX0_ofCow_14 (by decide) (by decide) (by rfl) (by decide) ?_
  refine lv_aload_n hx hb dX0_ofCow_52 rfl (lv_at hl 0 rfl) ?_
  refine cv_kind hx hb hml hown hts hK q516 (cl (a 1 (58 + 14 * i + 0))) hkd.2 x (h 2) i (a 1 (58 + 14 * i + 1)) (hx3.kept (hM.2.2.2.1 x hx3.lt (hB _ hx2))) (by rw [hRf]; decide) (by rw [hRl]; decide) (Nat.zero_le _) (Nat.zero_le _) hl.1 (Nat.le_of_ble_eq_true rfl) dX0_ofCow_53 ?_
  exact hret0 hM (mwEq.rf) rfl rfl ⟨rfl, rfl, rfl⟩ (hkd.1.symm) dX0_ofCow_56
set_option maxHeartbeats 400000 in
theorem ca_ofCow_ok1 (f : Nat → Int32) (a : Nat → Nat → Int32) (i : Nat) (hi : i < cl (a 1 3)) (hN0 : okN (a 1 3) 5) (hkd : okN (a 1 (58 + 14 * i + 0)) 6)  : CmF yX0_ofCow cX0_ofCow 4 [(0, 56, 110, 8), (57, 61, 110, 8), (62, 71, 110, 8), (72, 81, 110, 8), (82, 86, 110, 8), (87, 91, 110, 8), (92, 109, 110, 8)] 3 82 [.int (nI i), .int (nI 1)] f a (a 1 (58 + 14 * i + 1)) f a := by
  refine CmF.ofI (by decide) rfl (Nat.le_of_ble_eq_true rfl) ?_
  intro p l e R s m args below meth c Q D dA h fc wk hd ri rt cw tx nm B S ls hx hb hml hRf hRl hRc hRs htab hts hown hK hI hB hS0 hQ hN hIm hZ hSh hM hl hret hret0
  have hl : lv_has ls 4 [(0, .ref (h 0)), (1, .int (nI i)), (2, .int (nI 1))] := hl
  have hN2 := hN0.2
  refine lv_aload_n hx hb dX0_ofCow_0 rfl (lv_at hl 0 rfl) ?_
  refine lv_iload_n hx hb dX0_ofCow_1 rfl (lv_at hl 1 rfl) ?_
  refine lv_iload_n hx hb dX0_ofCow_2 rfl (lv_at hl 2 rfl) ?_
  refine lv_iconst (v := nI 0) hx hb dX0_ofCow_3 (by decide) ?_
  refine lv_bipush (v := nI 6) hx hb dX0_ofCow_4 (by decide) ?_
  refine st_callS (y := yX0_in) hx hb hml hown hts (cmX0_in (nI 1) (nI 0) (nI 6)) q330 q331 q61 q332 ndX0_in rfl (by rw [hRf]; decide) (by rw [hRl]; decide) (Nat.zero_le _) (Nat.zero_le _) hl.1 rfl (Nat.le_of_ble_eq_true rfl) dX0_ofCow_6 ?_
  obtain ⟨x, hx1, hx2, hx3⟩ := hQ.1.1 i hi
  refine cg_callV (y := yX0_cowAt) (b := h 0) (C := RX0) (As := [.int (nI i), .int (iI (nI 0 ≤ nI 1 ∧ nI 1 ≤ nI 6))]) hx hb hml hown hts hK hM.2.2 (ca_cowAt_ok D dA h _ _ _ _ _ _ _ _ _ _ hI i x (nI 0 ≤ nI 1 ∧ nI 1 ≤ nI 6) hN0 hi ((in_nat (by decide)).mpr ⟨_, by omega, rfl⟩) hx1) hM.1 (fun q hq => hq) (cAt.recv hK (hM.1 0 _ rfl) rfl) q508 q510 qs3 q61 q511 ndX0_cowAt rfl (by rw [hRf]; decide) (by rw [hRl]; decide) (Nat.zero_le _) (Nat.zero_le _) hl.1 rfl (Nat.le_of_ble_eq_true rfl) dX0_ofCow_9 ?_
  rintro _ H locs ⟨rfl, hP1⟩ hz1 hk1 hS1
  have hM := cmH.of hI hP1 hS1
  refine lv_astore_n (lv' := [(3, .ref x), (0, .ref (h 0)), (1, .int (nI i)), (2, .int (nI 1))]) hx hb dX0_ofCow_12 rfl hl (by decide) rfl (fun ls hl => ?_)
  refine lv_iload_n hx hb dX0_ofCow_13 rfl (lv_at hl 3 rfl) ?_
  refine lv_tableIn (off := 43) (tgt := 57) hx hb dX0_ofCow_14 (by decide) (by decide) (by rfl) (by decide) ?_
  refine lv_aload_n hx hb dX0_ofCow_57 rfl (lv_at hl 0 rfl) ?_
  refine cv_m hx hb hown hts hK (cl (a 1 (58 + 14 * i + 0))) hkd.2 x (h 2) i (a 1 (58 + 14 * i + 1)) (hx3.kept (hM.2.2.2.1 x hx3.lt (hB _ hx2))) dX0_ofCow_58 ?_
  exact hret0 hM (mwEq.rf) rfl rfl ⟨rfl, rfl, rfl⟩ (rfl) dX0_ofCow_61
set_option maxHeartbeats 400000 in
theorem ca_ofCow_ok2 (f : Nat → Int32) (a : Nat → Nat → Int32) (i : Nat) (hi : i < cl (a 1 3)) (hN0 : okN (a 1 3) 5) (hkd : okN (a 1 (58 + 14 * i + 0)) 6)  : CmF yX0_ofCow cX0_ofCow 4 [(0, 56, 110, 8), (57, 61, 110, 8), (62, 71, 110, 8), (72, 81, 110, 8), (82, 86, 110, 8), (87, 91, 110, 8), (92, 109, 110, 8)] 3 82 [.int (nI i), .int (nI 2)] f a (a 1 (58 + 14 * i + 2)) f a := by
  refine CmF.ofI (by decide) rfl (Nat.le_of_ble_eq_true rfl) ?_
  intro p l e R s m args below meth c Q D dA h fc wk hd ri rt cw tx nm B S ls hx hb hml hRf hRl hRc hRs htab hts hown hK hI hB hS0 hQ hN hIm hZ hSh hM hl hret hret0
  have hl : lv_has ls 4 [(0, .ref (h 0)), (1, .int (nI i)), (2, .int (nI 2))] := hl
  have hN2 := hN0.2
  refine lv_aload_n hx hb dX0_ofCow_0 rfl (lv_at hl 0 rfl) ?_
  refine lv_iload_n hx hb dX0_ofCow_1 rfl (lv_at hl 1 rfl) ?_
  refine lv_iload_n hx hb dX0_ofCow_2 rfl (lv_at hl 2 rfl) ?_
  refine lv_iconst (v := nI 0) hx hb dX0_ofCow_3 (by decide) ?_
  refine lv_bipush (v := nI 6) hx hb dX0_ofCow_4 (by decide) ?_
  refine st_callS (y := yX0_in) hx hb hml hown hts (cmX0_in (nI 2) (nI 0) (nI 6)) q330 q331 q61 q332 ndX0_in rfl (by rw [hRf]; decide) (by rw [hRl]; decide) (Nat.zero_le _) (Nat.zero_le _) hl.1 rfl (Nat.le_of_ble_eq_true rfl) dX0_ofCow_6 ?_
  obtain ⟨x, hx1, hx2, hx3⟩ := hQ.1.1 i hi
  refine cg_callV (y := yX0_cowAt) (b := h 0) (C := RX0) (As := [.int (nI i), .int (iI (nI 0 ≤ nI 2 ∧ nI 2 ≤ nI 6))]) hx hb hml hown hts hK hM.2.2 (ca_cowAt_ok D dA h _ _ _ _ _ _ _ _ _ _ hI i x (nI 0 ≤ nI 2 ∧ nI 2 ≤ nI 6) hN0 hi ((in_nat (by decide)).mpr ⟨_, by omega, rfl⟩) hx1) hM.1 (fun q hq => hq) (cAt.recv hK (hM.1 0 _ rfl) rfl) q508 q510 qs3 q61 q511 ndX0_cowAt rfl (by rw [hRf]; decide) (by rw [hRl]; decide) (Nat.zero_le _) (Nat.zero_le _) hl.1 rfl (Nat.le_of_ble_eq_true rfl) dX0_ofCow_9 ?_
  rintro _ H locs ⟨rfl, hP1⟩ hz1 hk1 hS1
  have hM := cmH.of hI hP1 hS1
  refine lv_astore_n (lv' := [(3, .ref x), (0, .ref (h 0)), (1, .int (nI i)), (2, .int (nI 2))]) hx hb dX0_ofCow_12 rfl hl (by decide) rfl (fun ls hl => ?_)
  refine lv_iload_n hx hb dX0_ofCow_13 rfl (lv_at hl 3 rfl) ?_
  refine lv_tableIn (off := 48) (tgt := 62) hx hb dX0_ofCow_14 (by decide) (by decide) (by rfl) (by decide) ?_
  refine lv_aload_n hx hb dX0_ofCow_62 rfl (lv_at hl 1 rfl) ?_
  refine c_get (v := .ref (hm0 h 0)) hx hb hts in_X0 hown hK (hM.1 0 _ rfl) rfl 1 (by decide) q287 rfl rfl dX0_ofCow_63 ?_
  have nq := hK.F 5 rfl
  refine c_getN (v := .ref (hm0 h 4)) hx hb hts in_X2 hown hK ((cm_parts hM.1).2.1 0 _ rfl) rfl 5 (by decide) nq rfl rfl dX0_ofCow_66 ?_
  refine lv_iload_n hx hb dX0_ofCow_69 rfl (lv_at hl 2 rfl) ?_
  refine c_iald hx hb hK ((cm_parts hM.1).2.1 4 _ rfl) i ⟨by omega, by decide, rfl⟩ dX0_ofCow_70 ?_
  refine w_top (a 1 (58 + 14 * i + 2)) (rfl) ?_
  exact hret0 hM (mwEq.rf) rfl rfl ⟨rfl, rfl, rfl⟩ (rfl) dX0_ofCow_71
set_option maxHeartbeats 400000 in
theorem ca_ofCow_ok3 (f : Nat → Int32) (a : Nat → Nat → Int32) (i : Nat) (hi : i < cl (a 1 3)) (hN0 : okN (a 1 3) 5) (hkd : okN (a 1 (58 + 14 * i + 0)) 6)  : CmF yX0_ofCow cX0_ofCow 4 [(0, 56, 110, 8), (57, 61, 110, 8), (62, 71, 110, 8), (72, 81, 110, 8), (82, 86, 110, 8), (87, 91, 110, 8), (92, 109, 110, 8)] 3 82 [.int (nI i), .int (nI 3)] f a (a 1 (58 + 14 * i + 3)) f a := by
  refine CmF.ofI (by decide) rfl (Nat.le_of_ble_eq_true rfl) ?_
  intro p l e R s m args below meth c Q D dA h fc wk hd ri rt cw tx nm B S ls hx hb hml hRf hRl hRc hRs htab hts hown hK hI hB hS0 hQ hN hIm hZ hSh hM hl hret hret0
  have hl : lv_has ls 4 [(0, .ref (h 0)), (1, .int (nI i)), (2, .int (nI 3))] := hl
  have hN2 := hN0.2
  refine lv_aload_n hx hb dX0_ofCow_0 rfl (lv_at hl 0 rfl) ?_
  refine lv_iload_n hx hb dX0_ofCow_1 rfl (lv_at hl 1 rfl) ?_
  refine lv_iload_n hx hb dX0_ofCow_2 rfl (lv_at hl 2 rfl) ?_
  refine lv_iconst (v := nI 0) hx hb dX0_ofCow_3 (by decide) ?_
  refine lv_bipush (v := nI 6) hx hb dX0_ofCow_4 (by decide) ?_
  refine st_callS (y := yX0_in) hx hb hml hown hts (cmX0_in (nI 3) (nI 0) (nI 6)) q330 q331 q61 q332 ndX0_in rfl (by rw [hRf]; decide) (by rw [hRl]; decide) (Nat.zero_le _) (Nat.zero_le _) hl.1 rfl (Nat.le_of_ble_eq_true rfl) dX0_ofCow_6 ?_
  obtain ⟨x, hx1, hx2, hx3⟩ := hQ.1.1 i hi
  refine cg_callV (y := yX0_cowAt) (b := h 0) (C := RX0) (As := [.int (nI i), .int (iI (nI 0 ≤ nI 3 ∧ nI 3 ≤ nI 6))]) hx hb hml hown hts hK hM.2.2 (ca_cowAt_ok D dA h _ _ _ _ _ _ _ _ _ _ hI i x (nI 0 ≤ nI 3 ∧ nI 3 ≤ nI 6) hN0 hi ((in_nat (by decide)).mpr ⟨_, by omega, rfl⟩) hx1) hM.1 (fun q hq => hq) (cAt.recv hK (hM.1 0 _ rfl) rfl) q508 q510 qs3 q61 q511 ndX0_cowAt rfl (by rw [hRf]; decide) (by rw [hRl]; decide) (Nat.zero_le _) (Nat.zero_le _) hl.1 rfl (Nat.le_of_ble_eq_true rfl) dX0_ofCow_9 ?_
  rintro _ H locs ⟨rfl, hP1⟩ hz1 hk1 hS1
  have hM := cmH.of hI hP1 hS1
  refine lv_astore_n (lv' := [(3, .ref x), (0, .ref (h 0)), (1, .int (nI i)), (2, .int (nI 3))]) hx hb dX0_ofCow_12 rfl hl (by decide) rfl (fun ls hl => ?_)
  refine lv_iload_n hx hb dX0_ofCow_13 rfl (lv_at hl 3 rfl) ?_
  refine lv_tableIn (off := 58) (tgt := 72) hx hb dX0_ofCow_14 (by decide) (by decide) (by rfl) (by decide) ?_
  refine lv_aload_n hx hb dX0_ofCow_72 rfl (lv_at hl 1 rfl) ?_
  refine c_get (v := .ref (hm0 h 0)) hx hb hts in_X0 hown hK (hM.1 0 _ rfl) rfl 1 (by decide) q287 rfl rfl dX0_ofCow_73 ?_
  have nq := hK.F 8 rfl
  refine c_getN (v := .ref (hm0 h 6)) hx hb hts in_X2 hown hK ((cm_parts hM.1).2.1 0 _ rfl) rfl 7 (by decide) nq rfl rfl dX0_ofCow_76 ?_
  refine lv_iload_n hx hb dX0_ofCow_79 rfl (lv_at hl 2 rfl) ?_
  refine c_iald hx hb hK ((cm_parts hM.1).2.1 6 _ rfl) i ⟨by omega, by decide, rfl⟩ dX0_ofCow_80 ?_
  refine w_top (a 1 (58 + 14 * i + 3)) (rfl) ?_
  exact hret0 hM (mwEq.rf) rfl rfl ⟨rfl, rfl, rfl⟩ (rfl) dX0_ofCow_81
set_option maxHeartbeats 400000 in
theorem ca_ofCow_ok4 (f : Nat → Int32) (a : Nat → Nat → Int32) (i : Nat) (hi : i < cl (a 1 3)) (hN0 : okN (a 1 3) 5) (hkd : okN (a 1 (58 + 14 * i + 0)) 6)  : CmF yX0_ofCow cX0_ofCow 4 [(0, 56, 110, 8), (57, 61, 110, 8), (62, 71, 110, 8), (72, 81, 110, 8), (82, 86, 110, 8), (87, 91, 110, 8), (92, 109, 110, 8)] 3 82 [.int (nI i), .int (nI 4)] f a (eatF (a 1 (58 + 14 * i + 0)) (a 1 (58 + 14 * i + 1))) f a := by
  refine CmF.ofI (by decide) rfl (Nat.le_of_ble_eq_true rfl) ?_
  intro p l e R s m args below meth c Q D dA h fc wk hd ri rt cw tx nm B S ls hx hb hml hRf hRl hRc hRs htab hts hown hK hI hB hS0 hQ hN hIm hZ hSh hM hl hret hret0
  have hl : lv_has ls 4 [(0, .ref (h 0)), (1, .int (nI i)), (2, .int (nI 4))] := hl
  have hN2 := hN0.2
  refine lv_aload_n hx hb dX0_ofCow_0 rfl (lv_at hl 0 rfl) ?_
  refine lv_iload_n hx hb dX0_ofCow_1 rfl (lv_at hl 1 rfl) ?_
  refine lv_iload_n hx hb dX0_ofCow_2 rfl (lv_at hl 2 rfl) ?_
  refine lv_iconst (v := nI 0) hx hb dX0_ofCow_3 (by decide) ?_
  refine lv_bipush (v := nI 6) hx hb dX0_ofCow_4 (by decide) ?_
  refine st_callS (y := yX0_in) hx hb hml hown hts (cmX0_in (nI 4) (nI 0) (nI 6)) q330 q331 q61 q332 ndX0_in rfl (by rw [hRf]; decide) (by rw [hRl]; decide) (Nat.zero_le _) (Nat.zero_le _) hl.1 rfl (Nat.le_of_ble_eq_true rfl) dX0_ofCow_6 ?_
  obtain ⟨x, hx1, hx2, hx3⟩ := hQ.1.1 i hi
  refine cg_callV (y := yX0_cowAt) (b := h 0) (C := RX0) (As := [.int (nI i), .int (iI (nI 0 ≤ nI 4 ∧ nI 4 ≤ nI 6))]) hx hb hml hown hts hK hM.2.2 (ca_cowAt_ok D dA h _ _ _ _ _ _ _ _ _ _ hI i x (nI 0 ≤ nI 4 ∧ nI 4 ≤ nI 6) hN0 hi ((in_nat (by decide)).mpr ⟨_, by omega, rfl⟩) hx1) hM.1 (fun q hq => hq) (cAt.recv hK (hM.1 0 _ rfl) rfl) q508 q510 qs3 q61 q511 ndX0_cowAt rfl (by rw [hRf]; decide) (by rw [hRl]; decide) (Nat.zero_le _) (Nat.zero_le _) hl.1 rfl (Nat.le_of_ble_eq_true rfl) dX0_ofCow_9 ?_
  rintro _ H locs ⟨rfl, hP1⟩ hz1 hk1 hS1
  have hM := cmH.of hI hP1 hS1
  refine lv_astore_n (lv' := [(3, .ref x), (0, .ref (h 0)), (1, .int (nI i)), (2, .int (nI 4))]) hx hb dX0_ofCow_12 rfl hl (by decide) rfl (fun ls hl => ?_)
  refine lv_iload_n hx hb dX0_ofCow_13 rfl (lv_at hl 3 rfl) ?_
  refine lv_tableIn (off := 68) (tgt := 82) hx hb dX0_ofCow_14 (by decide) (by decide) (by rfl) (by decide) ?_
  refine lv_aload_n hx hb dX0_ofCow_82 rfl (lv_at hl 0 rfl) ?_
  refine cv_eaten hx hb hml hown hts hK q539 (cl (a 1 (58 + 14 * i + 0))) hkd.2 x (h 2) i (a 1 (58 + 14 * i + 1)) (hx3.kept (hM.2.2.2.1 x hx3.lt (hB _ hx2))) (by rw [hRf]; decide) (by rw [hRl]; decide) (Nat.zero_le _) (Nat.zero_le _) hl.1 (Nat.le_of_ble_eq_true rfl) dX0_ofCow_83 ?_
  exact hret0 hM (mwEq.rf) rfl rfl ⟨rfl, rfl, rfl⟩ (by rw [← hkd.1]) dX0_ofCow_86
set_option maxHeartbeats 400000 in
theorem ca_ofCow_ok5 (f : Nat → Int32) (a : Nat → Nat → Int32) (i : Nat) (hi : i < cl (a 1 3)) (hN0 : okN (a 1 3) 5) (hkd : okN (a 1 (58 + 14 * i + 0)) 6)  : CmF yX0_ofCow cX0_ofCow 4 [(0, 56, 110, 8), (57, 61, 110, 8), (62, 71, 110, 8), (72, 81, 110, 8), (82, 86, 110, 8), (87, 91, 110, 8), (92, 109, 110, 8)] 3 82 [.int (nI i), .int (nI 5)] f a (spanF (a 1 (58 + 14 * i + 0)) (a 1 (58 + 14 * i + 1))) f a := by
  refine CmF.ofI (by decide) rfl (Nat.le_of_ble_eq_true rfl) ?_
  intro p l e R s m args below meth c Q D dA h fc wk hd ri rt cw tx nm B S ls hx hb hml hRf hRl hRc hRs htab hts hown hK hI hB hS0 hQ hN hIm hZ hSh hM hl hret hret0
  have hl : lv_has ls 4 [(0, .ref (h 0)), (1, .int (nI i)), (2, .int (nI 5))] := hl
  have hN2 := hN0.2
  refine lv_aload_n hx hb dX0_ofCow_0 rfl (lv_at hl 0 rfl) ?_
  refine lv_iload_n hx hb dX0_ofCow_1 rfl (lv_at hl 1 rfl) ?_
  refine lv_iload_n hx hb dX0_ofCow_2 rfl (lv_at hl 2 rfl) ?_
  refine lv_iconst (v := nI 0) hx hb dX0_ofCow_3 (by decide) ?_
  refine lv_bipush (v := nI 6) hx hb dX0_ofCow_4 (by decide) ?_
  refine st_callS (y := yX0_in) hx hb hml hown hts (cmX0_in (nI 5) (nI 0) (nI 6)) q330 q331 q61 q332 ndX0_in rfl (by rw [hRf]; decide) (by rw [hRl]; decide) (Nat.zero_le _) (Nat.zero_le _) hl.1 rfl (Nat.le_of_ble_eq_true rfl) dX0_ofCow_6 ?_
  obtain ⟨x, hx1, hx2, hx3⟩ := hQ.1.1 i hi
  refine cg_callV (y := yX0_cowAt) (b := h 0) (C := RX0) (As := [.int (nI i), .int (iI (nI 0 ≤ nI 5 ∧ nI 5 ≤ nI 6))]) hx hb hml hown hts hK hM.2.2 (ca_cowAt_ok D dA h _ _ _ _ _ _ _ _ _ _ hI i x (nI 0 ≤ nI 5 ∧ nI 5 ≤ nI 6) hN0 hi ((in_nat (by decide)).mpr ⟨_, by omega, rfl⟩) hx1) hM.1 (fun q hq => hq) (cAt.recv hK (hM.1 0 _ rfl) rfl) q508 q510 qs3 q61 q511 ndX0_cowAt rfl (by rw [hRf]; decide) (by rw [hRl]; decide) (Nat.zero_le _) (Nat.zero_le _) hl.1 rfl (Nat.le_of_ble_eq_true rfl) dX0_ofCow_9 ?_
  rintro _ H locs ⟨rfl, hP1⟩ hz1 hk1 hS1
  have hM := cmH.of hI hP1 hS1
  refine lv_astore_n (lv' := [(3, .ref x), (0, .ref (h 0)), (1, .int (nI i)), (2, .int (nI 5))]) hx hb dX0_ofCow_12 rfl hl (by decide) rfl (fun ls hl => ?_)
  refine lv_iload_n hx hb dX0_ofCow_13 rfl (lv_at hl 3 rfl) ?_
  refine lv_tableIn (off := 73) (tgt := 87) hx hb dX0_ofCow_14 (by decide) (by decide) (by rfl) (by decide) ?_
  refine lv_aload_n hx hb dX0_ofCow_87 rfl (lv_at hl 0 rfl) ?_
  refine cv_span hx hb hml hown hts hK q557 (cl (a 1 (58 + 14 * i + 0))) hkd.2 x (h 2) i (a 1 (58 + 14 * i + 1)) (hx3.kept (hM.2.2.2.1 x hx3.lt (hB _ hx2))) (by rw [hRf]; decide) (by rw [hRl]; decide) (Nat.zero_le _) (Nat.zero_le _) hl.1 (Nat.le_of_ble_eq_true rfl) dX0_ofCow_88 ?_
  exact hret0 hM (mwEq.rf) rfl rfl ⟨rfl, rfl, rfl⟩ (by rw [← hkd.1]) dX0_ofCow_91
set_option maxHeartbeats 400000 in
theorem ca_ofCow_ok6 (f : Nat → Int32) (a : Nat → Nat → Int32) (i : Nat) (hi : i < cl (a 1 3)) (hN0 : okN (a 1 3) 5) (hkd : okN (a 1 (58 + 14 * i + 0)) 6) (hR : okR (a 1)) : CmF yX0_ofCow cX0_ofCow 4 [(0, 56, 110, 8), (57, 61, 110, 8), (62, 71, 110, 8), (72, 81, 110, 8), (82, 86, 110, 8), (87, 91, 110, 8), (92, 109, 110, 8)] 65 1493 [.int (nI i), .int (nI 6)] f a (nI (wayS (a 1) i (cl (a 1 (58 + 14 * i + 2))) 4).1) f a := by
  refine CmF.ofI (by decide) rfl (Nat.le_of_ble_eq_true rfl) ?_
  intro p l e R s m args below meth c Q D dA h fc wk hd ri rt cw tx nm B S ls hx hb hml hRf hRl hRc hRs htab hts hown hK hI hB hS0 hQ hN hIm hZ hSh hM hl hret hret0
  have hl : lv_has ls 4 [(0, .ref (h 0)), (1, .int (nI i)), (2, .int (nI 6))] := hl
  have hN2 := hN0.2
  obtain ⟨hc0, hc1, hat, hc3, hc4⟩ := hR.2.2.2.2.2.1 i (by omega)
  have hat2 := hat.2
  refine lv_aload_n hx hb dX0_ofCow_0 rfl (lv_at hl 0 rfl) ?_
  refine lv_iload_n hx hb dX0_ofCow_1 rfl (lv_at hl 1 rfl) ?_
  refine lv_iload_n hx hb dX0_ofCow_2 rfl (lv_at hl 2 rfl) ?_
  refine lv_iconst (v := nI 0) hx hb dX0_ofCow_3 (by decide) ?_
  refine lv_bipush (v := nI 6) hx hb dX0_ofCow_4 (by decide) ?_
  refine st_callS (y := yX0_in) hx hb hml hown hts (cmX0_in (nI 6) (nI 0) (nI 6)) q330 q331 q61 q332 ndX0_in rfl (by rw [hRf]; decide) (by rw [hRl]; decide) (Nat.zero_le _) (Nat.zero_le _) hl.1 rfl (Nat.le_of_ble_eq_true rfl) dX0_ofCow_6 ?_
  obtain ⟨x, hx1, hx2, hx3⟩ := hQ.1.1 i hi
  refine cg_callV (y := yX0_cowAt) (b := h 0) (C := RX0) (As := [.int (nI i), .int (iI (nI 0 ≤ nI 6 ∧ nI 6 ≤ nI 6))]) hx hb hml hown hts hK hM.2.2 (ca_cowAt_ok D dA h _ _ _ _ _ _ _ _ _ _ hI i x (nI 0 ≤ nI 6 ∧ nI 6 ≤ nI 6) hN0 hi ((in_nat (by decide)).mpr ⟨_, by omega, rfl⟩) hx1) hM.1 (fun q hq => hq) (cAt.recv hK (hM.1 0 _ rfl) rfl) q508 q510 qs3 q61 q511 ndX0_cowAt rfl (by rw [hRf]; decide) (by rw [hRl]; decide) (Nat.zero_le _) (Nat.zero_le _) hl.1 rfl (Nat.le_of_ble_eq_true rfl) dX0_ofCow_9 ?_
  rintro _ H locs ⟨rfl, hP1⟩ hz1 hk1 hS1
  have hM := cmH.of hI hP1 hS1
  refine lv_astore_n (lv' := [(3, .ref x), (0, .ref (h 0)), (1, .int (nI i)), (2, .int (nI 6))]) hx hb dX0_ofCow_12 rfl hl (by decide) rfl (fun ls hl => ?_)
  refine lv_iload_n hx hb dX0_ofCow_13 rfl (lv_at hl 3 rfl) ?_
  refine lv_tableOut (tgt := 92) hx hb dX0_ofCow_14 (by decide) (by decide) ?_
  refine lv_aload_n hx hb dX0_ofCow_92 rfl (lv_at hl 1 rfl) ?_
  refine c_get (v := .ref (hm0 h 0)) hx hb hts in_X0 hown hK (hM.1 0 _ rfl) rfl 1 (by decide) q287 rfl rfl dX0_ofCow_93 ?_
  refine lv_iload_n hx hb dX0_ofCow_96 rfl (lv_at hl 2 rfl) ?_
  refine lv_aload_n hx hb dX0_ofCow_97 rfl (lv_at hl 1 rfl) ?_
  refine c_get (v := .ref (hm0 h 0)) hx hb hts in_X0 hown hK (hM.1 0 _ rfl) rfl 1 (by decide) q287 rfl rfl dX0_ofCow_98 ?_
  have nq := hK.F 5 rfl
  refine c_getN (v := .ref (hm0 h 4)) hx hb hts in_X2 hown hK ((cm_parts hM.1).2.1 0 _ rfl) rfl 5 (by decide) nq rfl rfl dX0_ofCow_101 ?_
  refine lv_iload_n hx hb dX0_ofCow_104 rfl (lv_at hl 2 rfl) ?_
  refine c_iald hx hb hK ((cm_parts hM.1).2.1 4 _ rfl) i ⟨by omega, by decide, rfl⟩ dX0_ofCow_105 ?_
  refine w_top (a 1 (58 + 14 * i + 2)) (rfl) ?_
  refine w_top (nI (cl (a 1 (58 + 14 * i + 2)))) (hat.1) ?_
  refine cm_mcall0 (y := yX2_wayOf) hx hb hml hown hts hK hI hB hM (hQ.at hB hN mwEq.rf mwEq.rf mwEq.rf hM.2.2) (hN.1) (mw_wayOf (a 1) hR i (cl (a 1 (58 + 14 * i + 2))) (by omega) (by omega)) q574 q575 q576 q577 ndX2_wayOf rfl (by rw [hRf]; decide) (by rw [hRl]; decide) (Nat.zero_le _) (Nat.zero_le _) hl.1 rfl (Nat.le_of_ble_eq_true rfl) dX0_ofCow_106 (fun H locs nm hM => ?_)
  rw [va_uself] at hM
  exact hret0 hM (mwEq.rf) rfl rfl ⟨rfl, rfl, rfl⟩ (rfl) dX0_ofCow_109
set_option maxHeartbeats 400000 in
theorem ca_ofCow_e (f : Nat → Int32) (a : Nat → Nat → Int32) (v w : Int32) (he : ¬ (cowP (a 1) v ∧ (nI 0 ≤ w ∧ w ≤ nI 6))) : CmF yX0_ofCow cX0_ofCow 4 [(0, 56, 110, 8), (57, 61, 110, 8), (62, 71, 110, 8), (72, 81, 110, 8), (82, 86, 110, 8), (87, 91, 110, 8), (92, 109, 110, 8)] 3 82 [.int v, .int w] f a (-1000000001 : Int32) f (mErr a 1) := by
  refine CmF.ofI (by decide) rfl (Nat.le_of_ble_eq_true rfl) ?_
  intro p l e R s m args below meth c Q D dA h fc wk hd ri rt cw tx nm B S ls hx hb hml hRf hRl hRc hRs htab hts hown hK hI hB hS0 hQ hN hIm hZ hSh hM hl hret hret0
  have hl : lv_has ls 4 [(0, .ref (h 0)), (1, .int v), (2, .int w)] := hl
  refine lv_aload_n hx hb dX0_ofCow_0 rfl (lv_at hl 0 rfl) ?_
  refine lv_iload_n hx hb dX0_ofCow_1 rfl (lv_at hl 1 rfl) ?_
  refine lv_iload_n hx hb dX0_ofCow_2 rfl (lv_at hl 2 rfl) ?_
  refine lv_iconst (v := nI 0) hx hb dX0_ofCow_3 (by decide) ?_
  refine lv_bipush (v := nI 6) hx hb dX0_ofCow_4 (by decide) ?_
  refine st_callS (y := yX0_in) hx hb hml hown hts (cmX0_in w (nI 0) (nI 6)) q330 q331 q61 q332 ndX0_in rfl (by rw [hRf]; decide) (by rw [hRl]; decide) (Nat.zero_le _) (Nat.zero_le _) hl.1 rfl (Nat.le_of_ble_eq_true rfl) dX0_ofCow_6 ?_
  refine cm_thr (y := yX0_cowAt) (As := [.int v, .int (iI (nI 0 ≤ w ∧ w ≤ nI 6))]) hx hb hml hown hts hK hM.2.2 (ca_cowAt_e D dA h _ _ _ _ _ _ _ _ _ _ hI v (nI 0 ≤ w ∧ w ≤ nI 6) he) hM.1 (cAt.recv hK (hM.1 0 _ rfl) rfl) (fun H1 hq => ⟨_, hq 1 _ rfl⟩) htab (hpc := 110) rfl q508 q510 qs3 q511 ndX0_cowAt rfl (by rw [hRf]; decide) (by rw [hRl]; decide) (Nat.zero_le _) (Nat.zero_le _) hl.1 rfl (Nat.le_of_ble_eq_true rfl) dX0_ofCow_9 (fun H locs hP1 hS1 => ?_)
  have hM := cmH.of hI hP1 hS1
  refine lv_astore_n (lv' := [(3, .ref (h 1)), (0, .ref (h 0)), (1, .int v), (2, .int w)]) hx hb dX0_ofCow_110 rfl hl (by decide) rfl (fun ls hl => ?_)
  refine lv_aload_n hx hb dX0_ofCow_111 rfl (lv_at hl 1 rfl) ?_
  refine lv_aload_n hx hb dX0_ofCow_112 rfl (lv_at hl 0 rfl) ?_
  refine cm_fin hx hb hml hown hts hK hI 1 (by decide) hM q341 (by rw [hRf]; decide) (by rw [hRl]; decide) (Nat.zero_le _) (Nat.zero_le _) hl.1 (Nat.le_of_ble_eq_true rfl) dX0_ofCow_113 (fun H locs hM => ?_)
  exact hret0 hM (mwEq.rf) rfl rfl ⟨rfl, rfl, rfl⟩ (by decide) dX0_ofCow_116
set_option maxHeartbeats 400000 in
theorem ca_as_ok (f : Nat → Int32) (a : Nat → Nat → Int32) (i : Nat) (hi : i < cl (a 1 3)) (hN0 : okN (a 1 3) 5) (hkd : okN (a 1 (58 + 14 * i + 0)) 6) (kd : Nat) (hk : kd ≤ 6) (hres : 0 ≤ asI (nI kd) 4 (a 1 (58 + 14 * i + 0))) : CmF yX0_as cX0_as 4 [(0, 27, 28, 8)] 3 82 [.int (nI i), .int (nI kd)] f a (a 1 (58 + 14 * i + 1)) f a := by
  refine CmF.ofI (by decide) rfl (Nat.le_of_ble_eq_true rfl) ?_
  intro p l e R s m args below meth c Q D dA h fc wk hd ri rt cw tx nm B S ls hx hb hml hRf hRl hRc hRs htab hts hown hK hI hB hS0 hQ hN hIm hZ hSh hM hl hret hret0
  have hl : lv_has ls 4 [(0, .ref (h 0)), (1, .int (nI i)), (2, .int (nI kd))] := hl
  have hN2 := hN0.2
  refine lv_aload_n hx hb dX0_as_0 rfl (lv_at hl 0 rfl) ?_
  refine lv_iload_n hx hb dX0_as_1 rfl (lv_at hl 1 rfl) ?_
  refine lv_iload_n hx hb dX0_as_2 rfl (lv_at hl 2 rfl) ?_
  refine lv_iconst (v := nI 0) hx hb dX0_as_3 (by decide) ?_
  refine lv_bipush (v := nI 6) hx hb dX0_as_4 (by decide) ?_
  refine st_callS (y := yX0_in) hx hb hml hown hts (cmX0_in (nI kd) (nI 0) (nI 6)) q330 q331 q61 q332 ndX0_in rfl (by rw [hRf]; decide) (by rw [hRl]; decide) (Nat.zero_le _) (Nat.zero_le _) hl.1 rfl (Nat.le_of_ble_eq_true rfl) dX0_as_6 ?_
  obtain ⟨x, hx1, hx2, hx3⟩ := hQ.1.1 i hi
  refine cg_callV (y := yX0_cowAt) (b := h 0) (C := RX0) (As := [.int (nI i), .int (iI (nI 0 ≤ nI kd ∧ nI kd ≤ nI 6))]) hx hb hml hown hts hK hM.2.2 (ca_cowAt_ok D dA h _ _ _ _ _ _ _ _ _ _ hI i x (nI 0 ≤ nI kd ∧ nI kd ≤ nI 6) hN0 hi ((in_nat (by decide)).mpr ⟨_, by omega, rfl⟩) hx1) hM.1 (fun q hq => hq) (cAt.recv hK (hM.1 0 _ rfl) rfl) q508 q510 qs3 q61 q511 ndX0_cowAt rfl (by rw [hRf]; decide) (by rw [hRl]; decide) (Nat.zero_le _) (Nat.zero_le _) hl.1 rfl (Nat.le_of_ble_eq_true rfl) dX0_as_9 ?_
  rintro _ H locs ⟨rfl, hP1⟩ hz1 hk1 hS1
  have hM := cmH.of hI hP1 hS1
  refine lv_astore_n (lv' := [(3, .ref x), (0, .ref (h 0)), (1, .int (nI i)), (2, .int (nI kd))]) hx hb dX0_as_12 rfl hl (by decide) rfl (fun ls hl => ?_)
  refine lv_aload_n hx hb dX0_as_13 rfl (lv_at hl 1 rfl) ?_
  refine lv_aload_n hx hb dX0_as_14 rfl (lv_at hl 0 rfl) ?_
  refine lv_iload_n hx hb dX0_as_15 rfl (lv_at hl 3 rfl) ?_
  refine cv_isOf hx hb hml hown hts hK q635 (cl (a 1 (58 + 14 * i + 0))) hkd.2 x (h 2) i (a 1 (58 + 14 * i + 1)) kd (by omega) (hx3.kept (hM.2.2.2.1 x hx3.lt (hB _ hx2))) (by rw [hRf]; decide) (by rw [hRl]; decide) (Nat.zero_le _) (Nat.zero_le _) hl.1 (Nat.le_of_ble_eq_true rfl) dX0_as_16 ?_
  refine lv_iconst (v := nI 5) hx hb dX0_as_19 (by decide) ?_
  refine cm_need hx hb hml hown hts hK hI hM htab (hpc := 28) rfl q333 (by rw [hRf]; decide) (by rw [hRl]; decide) (Nat.zero_le _) (Nat.zero_le _) hl.1 (Nat.le_of_ble_eq_true rfl) dX0_as_20 (fun c_1 locs hM => ?_) (fun c_1 H locs hM => ?_)
  · refine lv_aload_n hx hb dX0_as_23 rfl (lv_at hl 0 rfl) ?_
    refine cv_m hx hb hown hts hK (cl (a 1 (58 + 14 * i + 0))) hkd.2 x (h 2) i (a 1 (58 + 14 * i + 1)) (hx3.kept (hM.2.2.2.1 x hx3.lt (hB _ hx2))) dX0_as_24 ?_
    exact hret0 hM (mwEq.rf) rfl rfl ⟨rfl, rfl, rfl⟩ (rfl) dX0_as_27
  · exact absurd (by rw [← hkd.1]; exact hres) c_1
set_option maxHeartbeats 400000 in
theorem ca_as_k (f : Nat → Int32) (a : Nat → Nat → Int32) (i : Nat) (hi : i < cl (a 1 3)) (hN0 : okN (a 1 3) 5) (hkd : okN (a 1 (58 + 14 * i + 0)) 6) (kd : Nat) (hk : kd ≤ 6) (hres : ¬ 0 ≤ asI (nI kd) 4 (a 1 (58 + 14 * i + 0))) : CmF yX0_as cX0_as 4 [(0, 27, 28, 8)] 3 82 [.int (nI i), .int (nI kd)] f a (-1000000005 : Int32) f (mErr a 5) := by
  refine CmF.ofI (by decide) rfl (Nat.le_of_ble_eq_true rfl) ?_
  intro p l e R s m args below meth c Q D dA h fc wk hd ri rt cw tx nm B S ls hx hb hml hRf hRl hRc hRs htab hts hown hK hI hB hS0 hQ hN hIm hZ hSh hM hl hret hret0
  have hl : lv_has ls 4 [(0, .ref (h 0)), (1, .int (nI i)), (2, .int (nI kd))] := hl
  have hN2 := hN0.2
  refine lv_aload_n hx hb dX0_as_0 rfl (lv_at hl 0 rfl) ?_
  refine lv_iload_n hx hb dX0_as_1 rfl (lv_at hl 1 rfl) ?_
  refine lv_iload_n hx hb dX0_as_2 rfl (lv_at hl 2 rfl) ?_
  refine lv_iconst (v := nI 0) hx hb dX0_as_3 (by decide) ?_
  refine lv_bipush (v := nI 6) hx hb dX0_as_4 (by decide) ?_
  refine st_callS (y := yX0_in) hx hb hml hown hts (cmX0_in (nI kd) (nI 0) (nI 6)) q330 q331 q61 q332 ndX0_in rfl (by rw [hRf]; decide) (by rw [hRl]; decide) (Nat.zero_le _) (Nat.zero_le _) hl.1 rfl (Nat.le_of_ble_eq_true rfl) dX0_as_6 ?_
  obtain ⟨x, hx1, hx2, hx3⟩ := hQ.1.1 i hi
  refine cg_callV (y := yX0_cowAt) (b := h 0) (C := RX0) (As := [.int (nI i), .int (iI (nI 0 ≤ nI kd ∧ nI kd ≤ nI 6))]) hx hb hml hown hts hK hM.2.2 (ca_cowAt_ok D dA h _ _ _ _ _ _ _ _ _ _ hI i x (nI 0 ≤ nI kd ∧ nI kd ≤ nI 6) hN0 hi ((in_nat (by decide)).mpr ⟨_, by omega, rfl⟩) hx1) hM.1 (fun q hq => hq) (cAt.recv hK (hM.1 0 _ rfl) rfl) q508 q510 qs3 q61 q511 ndX0_cowAt rfl (by rw [hRf]; decide) (by rw [hRl]; decide) (Nat.zero_le _) (Nat.zero_le _) hl.1 rfl (Nat.le_of_ble_eq_true rfl) dX0_as_9 ?_
  rintro _ H locs ⟨rfl, hP1⟩ hz1 hk1 hS1
  have hM := cmH.of hI hP1 hS1
  refine lv_astore_n (lv' := [(3, .ref x), (0, .ref (h 0)), (1, .int (nI i)), (2, .int (nI kd))]) hx hb dX0_as_12 rfl hl (by decide) rfl (fun ls hl => ?_)
  refine lv_aload_n hx hb dX0_as_13 rfl (lv_at hl 1 rfl) ?_
  refine lv_aload_n hx hb dX0_as_14 rfl (lv_at hl 0 rfl) ?_
  refine lv_iload_n hx hb dX0_as_15 rfl (lv_at hl 3 rfl) ?_
  refine cv_isOf hx hb hml hown hts hK q635 (cl (a 1 (58 + 14 * i + 0))) hkd.2 x (h 2) i (a 1 (58 + 14 * i + 1)) kd (by omega) (hx3.kept (hM.2.2.2.1 x hx3.lt (hB _ hx2))) (by rw [hRf]; decide) (by rw [hRl]; decide) (Nat.zero_le _) (Nat.zero_le _) hl.1 (Nat.le_of_ble_eq_true rfl) dX0_as_16 ?_
  refine lv_iconst (v := nI 5) hx hb dX0_as_19 (by decide) ?_
  refine cm_need hx hb hml hown hts hK hI hM htab (hpc := 28) rfl q333 (by rw [hRf]; decide) (by rw [hRl]; decide) (Nat.zero_le _) (Nat.zero_le _) hl.1 (Nat.le_of_ble_eq_true rfl) dX0_as_20 (fun c_1 locs hM => ?_) (fun c_1 H locs hM => ?_)
  · exact absurd (by rw [hkd.1]; exact c_1) hres
  · refine lv_astore_n (lv' := [(3, .ref (h 1)), (0, .ref (h 0)), (1, .int (nI i)), (2, .int (nI kd))]) hx hb dX0_as_28 rfl hl (by decide) rfl (fun ls hl => ?_)
    refine lv_aload_n hx hb dX0_as_29 rfl (lv_at hl 1 rfl) ?_
    refine lv_aload_n hx hb dX0_as_30 rfl (lv_at hl 0 rfl) ?_
    refine cm_fin hx hb hml hown hts hK hI 5 (by decide) hM q341 (by rw [hRf]; decide) (by rw [hRl]; decide) (Nat.zero_le _) (Nat.zero_le _) hl.1 (Nat.le_of_ble_eq_true rfl) dX0_as_31 (fun H locs hM => ?_)
    exact hret0 hM (mwEq.rf) rfl rfl ⟨rfl, rfl, rfl⟩ (by decide) dX0_as_34
set_option maxHeartbeats 400000 in
theorem ca_as_e (f : Nat → Int32) (a : Nat → Nat → Int32) (v kd : Int32) (he : ¬ (cowP (a 1) v ∧ (nI 0 ≤ kd ∧ kd ≤ nI 6))) : CmF yX0_as cX0_as 4 [(0, 27, 28, 8)] 3 82 [.int v, .int kd] f a (-1000000001 : Int32) f (mErr a 1) := by
  refine CmF.ofI (by decide) rfl (Nat.le_of_ble_eq_true rfl) ?_
  intro p l e R s m args below meth c Q D dA h fc wk hd ri rt cw tx nm B S ls hx hb hml hRf hRl hRc hRs htab hts hown hK hI hB hS0 hQ hN hIm hZ hSh hM hl hret hret0
  have hl : lv_has ls 4 [(0, .ref (h 0)), (1, .int v), (2, .int kd)] := hl
  refine lv_aload_n hx hb dX0_as_0 rfl (lv_at hl 0 rfl) ?_
  refine lv_iload_n hx hb dX0_as_1 rfl (lv_at hl 1 rfl) ?_
  refine lv_iload_n hx hb dX0_as_2 rfl (lv_at hl 2 rfl) ?_
  refine lv_iconst (v := nI 0) hx hb dX0_as_3 (by decide) ?_
  refine lv_bipush (v := nI 6) hx hb dX0_as_4 (by decide) ?_
  refine st_callS (y := yX0_in) hx hb hml hown hts (cmX0_in kd (nI 0) (nI 6)) q330 q331 q61 q332 ndX0_in rfl (by rw [hRf]; decide) (by rw [hRl]; decide) (Nat.zero_le _) (Nat.zero_le _) hl.1 rfl (Nat.le_of_ble_eq_true rfl) dX0_as_6 ?_
  refine cm_thr (y := yX0_cowAt) (As := [.int v, .int (iI (nI 0 ≤ kd ∧ kd ≤ nI 6))]) hx hb hml hown hts hK hM.2.2 (ca_cowAt_e D dA h _ _ _ _ _ _ _ _ _ _ hI v (nI 0 ≤ kd ∧ kd ≤ nI 6) he) hM.1 (cAt.recv hK (hM.1 0 _ rfl) rfl) (fun H1 hq => ⟨_, hq 1 _ rfl⟩) htab (hpc := 28) rfl q508 q510 qs3 q511 ndX0_cowAt rfl (by rw [hRf]; decide) (by rw [hRl]; decide) (Nat.zero_le _) (Nat.zero_le _) hl.1 rfl (Nat.le_of_ble_eq_true rfl) dX0_as_9 (fun H locs hP1 hS1 => ?_)
  have hM := cmH.of hI hP1 hS1
  refine lv_astore_n (lv' := [(3, .ref (h 1)), (0, .ref (h 0)), (1, .int v), (2, .int kd)]) hx hb dX0_as_28 rfl hl (by decide) rfl (fun ls hl => ?_)
  refine lv_aload_n hx hb dX0_as_29 rfl (lv_at hl 1 rfl) ?_
  refine lv_aload_n hx hb dX0_as_30 rfl (lv_at hl 0 rfl) ?_
  refine cm_fin hx hb hml hown hts hK hI 1 (by decide) hM q341 (by rw [hRf]; decide) (by rw [hRl]; decide) (Nat.zero_le _) (Nat.zero_le _) hl.1 (Nat.le_of_ble_eq_true rfl) dX0_as_31 (fun H locs hM => ?_)
  exact hret0 hM (mwEq.rf) rfl rfl ⟨rfl, rfl, rfl⟩ (by decide) dX0_as_34
