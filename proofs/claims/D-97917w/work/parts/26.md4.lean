/-! the model: what texts give (printed by model4.py) -/
set_option maxRecDepth 100000
theorem ndX6_walks : yX6_walks.cls = RX6 ∧ yX6_walks.cls ≠ "java/lang/invoke/MethodHandle" ∧ yX6_walks.cls ≠ "java/lang/invoke/VarHandle" ∧ (parseMethodDescriptor yX6_walks.desc).map (fun d => d.parameters.length) = some 4 := by decide +kernel
set_option maxHeartbeats 400000 in
theorem met_walks (f : Nat → Int32) (a : Nat → Nat → Int32) (u n : Nat) (x y z : Int32) (hu : u < 2) (hn : n ≤ 50) (hz : a 1 (6 + u) = nI n) : MdF yX6_walks cX6_walks 6 (some .int) 39 992 [.int (nI u), .int x, .int y, .int z] f a (some (.int ((whI a u n x y z 5 0).1))) (fT (wB f u n x y z) (whI a u n x y z 5 0).2.1 ((whI a u n x y z 5 0).2.2 && decide ((whI a u n x y z 5 0).2.1 = n))) a := by
  refine MdF.ofI (by decide) rfl (Nat.le_of_ble_eq_true rfl) ?_
  intro p l e R s m args below meth c Q D h dA ls hx hb hml hRf hRl hts hown hK hI hM hl hret
  have hl : lv_has ls 6 [(0, .ref (h 0)), (1, .int (nI u)), (2, .int x), (3, .int y), (4, .int z)] := hl
  refine lv_aload_n hx hb dX6_walks_0 rfl (lv_at hl 0 rfl) ?_
  refine lv_iload_n hx hb dX6_walks_1 rfl (lv_at hl 1 rfl) ?_
  refine md_put hx hb hts hown hK hI hM 7 (by decide) q1397 rfl rfl rfl rfl rfl dX6_walks_2 (fun H locs hM => ?_)
  refine lv_aload_n hx hb dX6_walks_5 rfl (lv_at hl 0 rfl) ?_
  refine lv_iconst (v := nI 0) hx hb dX6_walks_6 (by decide) ?_
  refine md_put hx hb hts hown hK hI hM 8 (by decide) q1398 rfl rfl rfl rfl rfl dX6_walks_7 (fun H locs hM => ?_)
  refine lv_aload_n hx hb dX6_walks_10 rfl (lv_at hl 0 rfl) ?_
  refine lv_aload_n hx hb dX6_walks_11 rfl (lv_at hl 0 rfl) ?_
  refine md_get (v := .ref (h 1)) hx hb hts hown hK hM 0 (by decide) q1390 rfl rfl dX6_walks_12 ?_
  refine lv_bipush (v := nI 6) hx hb dX6_walks_15 (by decide) ?_
  refine lv_iload_n hx hb dX6_walks_17 rfl (lv_at hl 1 rfl) ?_
  refine w_iaddN hx hb dX6_walks_18 ?_
  refine md_iald hx hb hK hM 1 rfl (6 + u) ⟨by omega, by decide, rfl⟩ dX6_walks_19 ?_
  refine w_top (nI n) (hz) ?_
  refine md_put hx hb hts hown hK hI hM 9 (by decide) q1399 rfl rfl rfl rfl rfl dX6_walks_20 (fun H locs hM => ?_)
  refine lv_aload_n hx hb dX6_walks_23 rfl (lv_at hl 0 rfl) ?_
  refine lv_iconst (v := nI 0) hx hb dX6_walks_24 (by decide) ?_
  refine md_put hx hb hts hown hK hI hM 10 (by decide) q1400 rfl rfl rfl rfl rfl dX6_walks_25 (fun H locs hM => ?_)
  refine lv_aload_n hx hb dX6_walks_28 rfl (lv_at hl 0 rfl) ?_
  refine lv_iconst (v := nI 1) hx hb dX6_walks_29 (by decide) ?_
  refine md_put hx hb hts hown hK hI hM 14 (by decide) q1404 rfl rfl rfl rfl rfl dX6_walks_30 (fun H locs hM => ?_)
  refine lv_aload_n hx hb dX6_walks_33 rfl (lv_at hl 0 rfl) ?_
  refine lv_iload_n hx hb dX6_walks_34 rfl (lv_at hl 2 rfl) ?_
  refine md_put hx hb hts hown hK hI hM 11 (by decide) q1401 rfl rfl rfl rfl rfl dX6_walks_35 (fun H locs hM => ?_)
  refine lv_aload_n hx hb dX6_walks_38 rfl (lv_at hl 0 rfl) ?_
  refine lv_iload_n hx hb dX6_walks_39 rfl (lv_at hl 3 rfl) ?_
  refine md_put hx hb hts hown hK hI hM 12 (by decide) q1402 rfl rfl rfl rfl rfl dX6_walks_40 (fun H locs hM => ?_)
  refine lv_aload_n hx hb dX6_walks_43 rfl (lv_at hl 0 rfl) ?_
  refine lv_iload hx hb dX6_walks_44 (lv_at hl 4 rfl) ?_
  refine md_put hx hb hts hown hK hI hM 13 (by decide) q1403 rfl rfl rfl rfl rfl dX6_walks_46 (fun H locs hM => ?_)
  have hM := hM.to (f' := fT (wB f u n x y z) 0 true) (wB_0 f u n x y z) rfl
  refine lv_aload_n hx hb dX6_walks_49 rfl (lv_at hl 0 rfl) ?_
  refine md_callI (y := yX6_whole) hx hb hml hown hts hK hI hM (met_wholeD (wB f u n x y z) a u n x y z (wB_S hu hn) rfl 0 (Nat.zero_le _)) q1514 q1516 qs25 q1517 ndX6_whole rfl (by rw [hRf]; decide) (by rw [hRl]; decide) hl.1 rfl (Nat.le_of_ble_eq_true rfl) dX6_walks_50 (fun H locs hM => ?_)
  have hmw : (whI a u n x y z 5 0).2.1 ≤ n := (whoF_mono (facD_mono 5) 0 (Nat.zero_le _)).2
  refine lv_istore (lv' := [(5, .int ((whI a u n x y z 5 0).1)), (0, .ref (h 0)), (1, .int (nI u)), (2, .int x), (3, .int y), (4, .int z)]) hx hb dX6_walks_53 hl (by decide) rfl (fun ls hl => ?_)
  refine lv_aload_n hx hb dX6_walks_55 rfl (lv_at hl 1 rfl) ?_
  refine lv_aload_n hx hb dX6_walks_56 rfl (lv_at hl 1 rfl) ?_
  refine md_get (v := .int (iI ((whI a u n x y z 5 0).2.2 = true))) hx hb hts hown hK hM 14 (by decide) q1404 rfl rfl dX6_walks_57 ?_
  have j79 : ∀ (H : Heap) (locs : List Loc), mdH D h dA s.heap H locs (fT (wB f u n x y z) ((whI a u n x y z 5 0).2.1) ((whI a u n x y z 5 0).2.2)) a → ∀ (ls : Array Slot), lv_has ls 6 [(5, .int ((whI a u n x y z 5 0).1)), (0, .ref (h 0)), (1, .int (nI u)), (2, .int x), (3, .int y), (4, .int z)] → W p l e R s m args below meth c H locs 0 0 Q (F0 m 79 ls [.int (iI (((whI a u n x y z 5 0).2.2 && decide ((whI a u n x y z 5 0).2.1 = n)) = true)), .ref (h 0)]) := by
    intro   H locs hM ls hl
    refine md_put hx hb hts hown hK hI hM 14 (by decide) q1404 rfl rfl iI_n iI_fit rfl dX6_walks_79 (fun H locs hM => ?_)
    have hM := hM.to (f' := fT (wB f u n x y z) ((whI a u n x y z 5 0).2.1) ((whI a u n x y z 5 0).2.2 && decide ((whI a u n x y z 5 0).2.1 = n))) (fT_14 _ _ _ ((whI a u n x y z 5 0).2.2 && decide ((whI a u n x y z 5 0).2.1 = n))) rfl
    refine lv_iload hx hb dX6_walks_82 (lv_at hl 0 rfl) ?_
    exact hret hM (by first | rfl | (simp only [iI, nI_0, nI_one]; grind)) dX6_walks_84
  refine w_if_eqT (tgt := 78) hx hb dX6_walks_60 (by decide) (fun c_1 => ?_) (fun c_1 => ?_)
  · refine lv_iconst (v := nI 0) hx hb dX6_walks_78 (by decide) ?_
    refine w_top (iI (((whI a u n x y z 5 0).2.2 && decide ((whI a u n x y z 5 0).2.1 = n)) = true)) (iI_0 (by simp [c_1])) ?_
    exact j79   _ _ hM ls (lv_sub hl [0, 1, 2, 3, 4, 5] rfl)
  · refine lv_aload_n hx hb dX6_walks_63 rfl (lv_at hl 1 rfl) ?_
    refine md_get (v := .int (nI ((whI a u n x y z 5 0).2.1))) hx hb hts hown hK hM 8 (by decide) q1398 rfl rfl dX6_walks_64 ?_
    refine lv_aload_n hx hb dX6_walks_67 rfl (lv_at hl 1 rfl) ?_
    refine md_get (v := .int (nI n)) hx hb hts hown hK hM 9 (by decide) q1399 rfl rfl dX6_walks_68 ?_
    refine w_icmp_neN (tgt := 78) hx hb (by omega) (by omega) dX6_walks_71 (by decide) (fun c_2 => ?_) (fun c_2 => ?_)
    · refine lv_iconst (v := nI 0) hx hb dX6_walks_78 (by decide) ?_
      refine w_top (iI (((whI a u n x y z 5 0).2.2 && decide ((whI a u n x y z 5 0).2.1 = n)) = true)) (iI_0 (by simp [c_2])) ?_
      exact j79   _ _ hM ls (lv_sub hl [0, 1, 2, 3, 4, 5] rfl)
    · refine lv_iconst (v := nI 1) hx hb dX6_walks_74 (by decide) ?_
      refine lv_goto (tgt := 79) hx hb dX6_walks_75 (by decide) ?_
      refine w_top (iI (((whI a u n x y z 5 0).2.2 && decide ((whI a u n x y z 5 0).2.1 = n)) = true)) (iI_1 (by simp [c_1, c_2])) ?_
      exact j79   _ _ hM ls (lv_sub hl [0, 1, 2, 3, 4, 5] rfl)
theorem fE_w (f : Nat → Int32) (u n : Nat) (x y z : Int32) (t : Nat) (g : Bool) : fE f (fT (wB f u n x y z) t g) := by
  intro k hk
  simp only [fT, wB, upd]
  grind
/-- the texts of the row are none, or of at most 50 bytes -/
def okT (r : Nat → Int32) : Prop := ∀ u, u < 2 → r (6 + u) < 0 ∨ okN (r (6 + u)) 50
/-- what a text, or none, gives of three numbers -/
def lawV (a : Nat → Nat → Int32) (u : Nat) (x y z : Int32) : Int32 := if a 1 (6 + u) < 0 then (if u = 0 then hel x (-999) (nI 999) else hel (nI 10 - y * nI 2) (nI 0) (nI 99)) else hel (whI a u (cl (a 1 (6 + u))) x y z 5 0).1 (if u = 0 then (-999) else nI 0) (if u = 0 then nI 999 else nI 99)
theorem ndX6_lawOf : yX6_lawOf.cls = RX6 ∧ yX6_lawOf.cls ≠ "java/lang/invoke/MethodHandle" ∧ yX6_lawOf.cls ≠ "java/lang/invoke/VarHandle" ∧ (parseMethodDescriptor yX6_lawOf.desc).map (fun d => d.parameters.length) = some 4 := by decide +kernel
set_option maxHeartbeats 400000 in
theorem met_lawOf0 (f : Nat → Int32) (a : Nat → Nat → Int32) (x y z : Int32) (hT : okT (a 1)) : MdX yX6_lawOf cX6_lawOf 7 (some .int) 40 1017 [.int (nI 0), .int x, .int y, .int z] f a (some (.int (lawV a 0 x y z))) a := by
  refine MdX.ofI (by decide) rfl (Nat.le_of_ble_eq_true rfl) ?_
  intro p l e R s m args below meth c Q D h dA ls hx hb hml hRf hRl hts hown hK hI hM hl hret
  have hl : lv_has ls 7 [(0, .ref (h 0)), (1, .int (nI 0)), (2, .int x), (3, .int y), (4, .int z)] := hl
  refine lv_iload_n hx hb dX6_lawOf_0 rfl (lv_at hl 1 rfl) ?_
  refine lv_if_ne (tgt := 10) hx hb dX6_lawOf_1 (by decide) (fun q => absurd q (by decide)) (fun _ => ?_)
  refine lv_sipush (v := (-999 : Int32)) hx hb dX6_lawOf_4 (by decide) ?_
  refine lv_goto (tgt := 11) hx hb dX6_lawOf_7 (by decide) ?_
  refine lv_istore (lv' := [(5, .int (-999 : Int32)), (0, .ref (h 0)), (1, .int (nI 0)), (2, .int x), (3, .int y), (4, .int z)]) hx hb dX6_lawOf_11 hl (by decide) rfl (fun ls hl => ?_)
  refine lv_iload_n hx hb dX6_lawOf_13 rfl (lv_at hl 2 rfl) ?_
  refine lv_if_ne (tgt := 23) hx hb dX6_lawOf_14 (by decide) (fun q => absurd q (by decide)) (fun _ => ?_)
  refine lv_sipush (v := nI 999) hx hb dX6_lawOf_17 (by decide) ?_
  refine lv_goto (tgt := 25) hx hb dX6_lawOf_20 (by decide) ?_
  refine lv_istore (lv' := [(6, .int (nI 999)), (5, .int (-999 : Int32)), (0, .ref (h 0)), (1, .int (nI 0)), (2, .int x), (3, .int y), (4, .int z)]) hx hb dX6_lawOf_25 hl (by decide) rfl (fun ls hl => ?_)
  refine lv_aload_n hx hb dX6_lawOf_27 rfl (lv_at hl 2 rfl) ?_
  refine md_get (v := .ref (h 1)) hx hb hts hown hK hM 0 (by decide) q1390 rfl rfl dX6_lawOf_28 ?_
  refine lv_bipush (v := nI 6) hx hb dX6_lawOf_31 (by decide) ?_
  refine lv_iload_n hx hb dX6_lawOf_33 rfl (lv_at hl 3 rfl) ?_
  refine w_iaddN hx hb dX6_lawOf_34 ?_
  refine md_iald hx hb hK hM 1 rfl (6 + 0) ⟨by omega, by decide, rfl⟩ dX6_lawOf_35 ?_
  refine lv_if_ge (tgt := 61) hx hb dX6_lawOf_36 (by decide) (fun c_3 => ?_) (fun c_3 => ?_)
  · have hq : okN (a 1 (6 + 0)) 50 := (hT 0 (by omega)).resolve_left (Int32.not_lt.mpr c_3)
    refine lv_aload_n hx hb dX6_lawOf_61 rfl (lv_at hl 2 rfl) ?_
    refine lv_iload_n hx hb dX6_lawOf_62 rfl (lv_at hl 3 rfl) ?_
    refine lv_iload_n hx hb dX6_lawOf_63 rfl (lv_at hl 4 rfl) ?_
    refine lv_iload_n hx hb dX6_lawOf_64 rfl (lv_at hl 5 rfl) ?_
    refine lv_iload hx hb dX6_lawOf_65 (lv_at hl 6 rfl) ?_
    refine md_callXI (y := yX6_walks) hx hb hml hown hts hK hI hM (MdX.ofF (met_walks f a 0 (cl (a 1 (6 + 0))) x y z (by omega) hq.2 hq.1) (fE_w _ _ _ _ _ _ _ _)) q1510 q1512 qs24 q1513 ndX6_walks rfl (by rw [hRf]; decide) (by rw [hRl]; decide) hl.1 rfl (Nat.le_of_ble_eq_true rfl) dX6_lawOf_67 (fun H locs f_4 hf_4 hM => ?_)
    have ef_4 : fE f f_4 := fE.rf.tr hf_4
    refine lv_iload hx hb dX6_lawOf_70 (lv_at hl 1 rfl) ?_
    refine lv_iload hx hb dX6_lawOf_72 (lv_at hl 0 rfl) ?_
    refine st_callI (y := yX6_held) hx hb hml hown hts (met_held ((whI a 0 (cl (a 1 (6 + 0))) x y z 5 0).1) (-999 : Int32) (nI 999)) q1507 q1508 q70 q1509 ndX6_held rfl (by rw [hRf]; decide) (by rw [hRl]; decide) ⟨Nat.zero_le _, Nat.zero_le _⟩ hl.1 rfl (Nat.le_of_ble_eq_true rfl) dX6_lawOf_74 ?_
    exact hret ef_4 hM (by unfold lawV; rw [if_neg (Int32.not_lt.mpr c_3)]; rfl) dX6_lawOf_77
  · refine lv_iload_n hx hb dX6_lawOf_39 rfl (lv_at hl 3 rfl) ?_
    refine lv_if_ne (tgt := 47) hx hb dX6_lawOf_40 (by decide) (fun q => absurd q (by decide)) (fun _ => ?_)
    refine lv_iload_n hx hb dX6_lawOf_43 rfl (lv_at hl 4 rfl) ?_
    refine lv_goto (tgt := 53) hx hb dX6_lawOf_44 (by decide) ?_
    refine lv_iload hx hb dX6_lawOf_53 (lv_at hl 1 rfl) ?_
    refine lv_iload hx hb dX6_lawOf_55 (lv_at hl 0 rfl) ?_
    refine st_callI (y := yX6_held) hx hb hml hown hts (met_held x (-999 : Int32) (nI 999)) q1507 q1508 q70 q1509 ndX6_held rfl (by rw [hRf]; decide) (by rw [hRl]; decide) ⟨Nat.zero_le _, Nat.zero_le _⟩ hl.1 rfl (Nat.le_of_ble_eq_true rfl) dX6_lawOf_57 ?_
    exact hret fE.rf hM (by unfold lawV; rw [if_pos (Int32.not_le.mp c_3)]; rfl) dX6_lawOf_60
set_option maxHeartbeats 400000 in
theorem met_lawOf1 (f : Nat → Int32) (a : Nat → Nat → Int32) (x y z : Int32) (hT : okT (a 1)) : MdX yX6_lawOf cX6_lawOf 7 (some .int) 40 1017 [.int (nI 1), .int x, .int y, .int z] f a (some (.int (lawV a 1 x y z))) a := by
  refine MdX.ofI (by decide) rfl (Nat.le_of_ble_eq_true rfl) ?_
  intro p l e R s m args below meth c Q D h dA ls hx hb hml hRf hRl hts hown hK hI hM hl hret
  have hl : lv_has ls 7 [(0, .ref (h 0)), (1, .int (nI 1)), (2, .int x), (3, .int y), (4, .int z)] := hl
  refine lv_iload_n hx hb dX6_lawOf_0 rfl (lv_at hl 1 rfl) ?_
  refine lv_if_ne (tgt := 10) hx hb dX6_lawOf_1 (by decide) (fun _ => ?_) (fun q => absurd q (by decide))
  refine lv_iconst (v := nI 0) hx hb dX6_lawOf_10 (by decide) ?_
  refine lv_istore (lv' := [(5, .int (nI 0)), (0, .ref (h 0)), (1, .int (nI 1)), (2, .int x), (3, .int y), (4, .int z)]) hx hb dX6_lawOf_11 hl (by decide) rfl (fun ls hl => ?_)
  refine lv_iload_n hx hb dX6_lawOf_13 rfl (lv_at hl 2 rfl) ?_
  refine lv_if_ne (tgt := 23) hx hb dX6_lawOf_14 (by decide) (fun _ => ?_) (fun q => absurd q (by decide))
  refine lv_bipush (v := nI 99) hx hb dX6_lawOf_23 (by decide) ?_
  refine lv_istore (lv' := [(6, .int (nI 99)), (5, .int (nI 0)), (0, .ref (h 0)), (1, .int (nI 1)), (2, .int x), (3, .int y), (4, .int z)]) hx hb dX6_lawOf_25 hl (by decide) rfl (fun ls hl => ?_)
  refine lv_aload_n hx hb dX6_lawOf_27 rfl (lv_at hl 2 rfl) ?_
  refine md_get (v := .ref (h 1)) hx hb hts hown hK hM 0 (by decide) q1390 rfl rfl dX6_lawOf_28 ?_
  refine lv_bipush (v := nI 6) hx hb dX6_lawOf_31 (by decide) ?_
  refine lv_iload_n hx hb dX6_lawOf_33 rfl (lv_at hl 3 rfl) ?_
  refine w_iaddN hx hb dX6_lawOf_34 ?_
  refine md_iald hx hb hK hM 1 rfl (6 + 1) ⟨by omega, by decide, rfl⟩ dX6_lawOf_35 ?_
  refine lv_if_ge (tgt := 61) hx hb dX6_lawOf_36 (by decide) (fun c_3 => ?_) (fun c_3 => ?_)
  · have hq : okN (a 1 (6 + 1)) 50 := (hT 1 (by omega)).resolve_left (Int32.not_lt.mpr c_3)
    refine lv_aload_n hx hb dX6_lawOf_61 rfl (lv_at hl 2 rfl) ?_
    refine lv_iload_n hx hb dX6_lawOf_62 rfl (lv_at hl 3 rfl) ?_
    refine lv_iload_n hx hb dX6_lawOf_63 rfl (lv_at hl 4 rfl) ?_
    refine lv_iload_n hx hb dX6_lawOf_64 rfl (lv_at hl 5 rfl) ?_
    refine lv_iload hx hb dX6_lawOf_65 (lv_at hl 6 rfl) ?_
    refine md_callXI (y := yX6_walks) hx hb hml hown hts hK hI hM (MdX.ofF (met_walks f a 1 (cl (a 1 (6 + 1))) x y z (by omega) hq.2 hq.1) (fE_w _ _ _ _ _ _ _ _)) q1510 q1512 qs24 q1513 ndX6_walks rfl (by rw [hRf]; decide) (by rw [hRl]; decide) hl.1 rfl (Nat.le_of_ble_eq_true rfl) dX6_lawOf_67 (fun H locs f_4 hf_4 hM => ?_)
    have ef_4 : fE f f_4 := fE.rf.tr hf_4
    refine lv_iload hx hb dX6_lawOf_70 (lv_at hl 1 rfl) ?_
    refine lv_iload hx hb dX6_lawOf_72 (lv_at hl 0 rfl) ?_
    refine st_callI (y := yX6_held) hx hb hml hown hts (met_held ((whI a 1 (cl (a 1 (6 + 1))) x y z 5 0).1) (nI 0) (nI 99)) q1507 q1508 q70 q1509 ndX6_held rfl (by rw [hRf]; decide) (by rw [hRl]; decide) ⟨Nat.zero_le _, Nat.zero_le _⟩ hl.1 rfl (Nat.le_of_ble_eq_true rfl) dX6_lawOf_74 ?_
    exact hret ef_4 hM (by unfold lawV; rw [if_neg (Int32.not_lt.mpr c_3)]; rfl) dX6_lawOf_77
  · refine lv_iload_n hx hb dX6_lawOf_39 rfl (lv_at hl 3 rfl) ?_
    refine lv_if_ne (tgt := 47) hx hb dX6_lawOf_40 (by decide) (fun _ => ?_) (fun q => absurd q (by decide))
    refine lv_bipush (v := nI 10) hx hb dX6_lawOf_47 (by decide) ?_
    refine lv_iload_n hx hb dX6_lawOf_49 rfl (lv_at hl 5 rfl) ?_
    refine lv_iconst (v := nI 2) hx hb dX6_lawOf_50 (by decide) ?_
    refine lv_imul hx hb dX6_lawOf_51 ?_
    refine lv_isub hx hb dX6_lawOf_52 ?_
    refine lv_iload hx hb dX6_lawOf_53 (lv_at hl 1 rfl) ?_
    refine lv_iload hx hb dX6_lawOf_55 (lv_at hl 0 rfl) ?_
    refine st_callI (y := yX6_held) hx hb hml hown hts (met_held ((nI 10) - (y * (nI 2))) (nI 0) (nI 99)) q1507 q1508 q70 q1509 ndX6_held rfl (by rw [hRf]; decide) (by rw [hRl]; decide) ⟨Nat.zero_le _, Nat.zero_le _⟩ hl.1 rfl (Nat.le_of_ble_eq_true rfl) dX6_lawOf_57 ?_
    exact hret fE.rf hM (by unfold lawV; rw [if_pos (Int32.not_le.mp c_3)]; rfl) dX6_lawOf_60
theorem met_lawOf (f : Nat → Int32) (a : Nat → Nat → Int32) (u : Nat) (hu : u < 2) (x y z : Int32) (hT : okT (a 1)) : MdX yX6_lawOf cX6_lawOf 7 (some .int) 40 1017 [.int (nI u), .int x, .int y, .int z] f a (some (.int (lawV a u x y z))) a := by
  have h2 : u = 0 ∨ u = 1 := by omega
  rcases h2 with rfl | rfl
  · exact met_lawOf0 f a x y z hT
  · exact met_lawOf1 f a x y z hT
/-- what a cell draws -/
def drwV (a : Nat → Nat → Int32) (c : Nat) : Int32 := lawV a 0 (a 1 (33 + c)) (a 1 (8 + c)) (a 1 0)
theorem ndX6_drawnBy : yX6_drawnBy.cls = RX6 ∧ yX6_drawnBy.cls ≠ "java/lang/invoke/MethodHandle" ∧ yX6_drawnBy.cls ≠ "java/lang/invoke/VarHandle" ∧ (parseMethodDescriptor yX6_drawnBy.desc).map (fun d => d.parameters.length) = some 1 := by decide +kernel
set_option maxHeartbeats 400000 in
theorem met_drawnBy (f : Nat → Int32) (a : Nat → Nat → Int32) (c0 : Nat) (hc : c0 < 25) (hT : okT (a 1)) : MdX yX6_drawnBy cX6_drawnBy 2 (some .int) 41 1043 [.int (nI c0)] f a (some (.int (drwV a c0))) a := by
  refine MdX.ofI (by decide) rfl (Nat.le_of_ble_eq_true rfl) ?_
  intro p l e R s m args below meth c Q D h dA ls hx hb hml hRf hRl hts hown hK hI hM hl hret
  have hl : lv_has ls 2 [(0, .ref (h 0)), (1, .int (nI c0))] := hl
  refine lv_aload_n hx hb dX6_drawnBy_0 rfl (lv_at hl 0 rfl) ?_
  refine lv_iconst (v := nI 0) hx hb dX6_drawnBy_1 (by decide) ?_
  refine lv_aload_n hx hb dX6_drawnBy_2 rfl (lv_at hl 0 rfl) ?_
  refine md_get (v := .ref (h 1)) hx hb hts hown hK hM 0 (by decide) q1390 rfl rfl dX6_drawnBy_3 ?_
  refine lv_bipush (v := nI 33) hx hb dX6_drawnBy_6 (by decide) ?_
  refine lv_iload_n hx hb dX6_drawnBy_8 rfl (lv_at hl 1 rfl) ?_
  refine w_iaddN hx hb dX6_drawnBy_9 ?_
  refine md_iald hx hb hK hM 1 rfl (33 + c0) ⟨by omega, by decide, rfl⟩ dX6_drawnBy_10 ?_
  refine lv_aload_n hx hb dX6_drawnBy_11 rfl (lv_at hl 0 rfl) ?_
  refine md_get (v := .ref (h 1)) hx hb hts hown hK hM 0 (by decide) q1390 rfl rfl dX6_drawnBy_12 ?_
  refine lv_bipush (v := nI 8) hx hb dX6_drawnBy_15 (by decide) ?_
  refine lv_iload_n hx hb dX6_drawnBy_17 rfl (lv_at hl 1 rfl) ?_
  refine w_iaddN hx hb dX6_drawnBy_18 ?_
  refine md_iald hx hb hK hM 1 rfl (8 + c0) ⟨by omega, by decide, rfl⟩ dX6_drawnBy_19 ?_
  refine lv_aload_n hx hb dX6_drawnBy_20 rfl (lv_at hl 0 rfl) ?_
  refine md_get (v := .ref (h 1)) hx hb hts hown hK hM 0 (by decide) q1390 rfl rfl dX6_drawnBy_21 ?_
  refine lv_iconst (v := nI 0) hx hb dX6_drawnBy_24 (by decide) ?_
  refine md_iald hx hb hK hM 1 rfl 0 ⟨by omega, by decide, rfl⟩ dX6_drawnBy_25 ?_
  refine md_callXI (y := yX6_lawOf) hx hb hml hown hts hK hI hM (met_lawOf f a 0 (by omega) (a 1 (33 + c0)) (a 1 (8 + c0)) (a 1 0) (hT)) q1503 q1505 qs23 q1506 ndX6_lawOf rfl (by rw [hRf]; decide) (by rw [hRl]; decide) hl.1 rfl (Nat.le_of_ble_eq_true rfl) dX6_drawnBy_26 (fun H locs f_1 hf_1 hM => ?_)
  have ef_1 : fE f f_1 := fE.rf.tr hf_1
  exact hret ef_1 hM (by first | rfl | (simp only [iI, nI_0, nI_one]; grind)) dX6_drawnBy_29
