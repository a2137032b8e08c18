/-! cow, become (printed by comp31.py) -/
set_option maxRecDepth 100000
section NWB
variable {p : Program} {l : Launch} {e : Env} {R : Room} {s : State} {m : MethodId} {args : Array Value} {below : List Frame} {meth : Method} {c : Code} {H H0 : Heap} {locs : List Loc} {cells slots : Nat} {Q : State → Prop}
variable {cc : ByteArray} {pc : Nat} {ls : Array Slot} {rest : List Value} {D : va_G} {dA : Nat → ClassId} {h : Nat → Nat} {f : Nat → Int32} {a : Nat → Nat → Int32} {fc : Int32} {wk : Nat → Nat → Int32} {hd : Nat → Option Nat} {ri rt : Nat → Int32} {cw tx : Nat → Nat → Option Nat} {nm : Nat → Nat → Int32}
theorem cmH.new {H1 : Heap} (hI : cmI h) (hM : cmH D h dA H0 H locs f a fc wk hd ri rt cw tx nm) (hz : H.size ≤ H1.size) (hk : ∀ q, q < H.size → H1[q]? = H[q]?) : cmH D h dA H0 H1 locs f a fc wk hd ri rt cw tx nm :=
  cmH.of hI (cm_P_keep hM.1 (fun j q hj => hk q.1 (cAt.lt (a := q.1) (e := q.2) (hM.1 j q hj)))) (hM.2.2.new hz hk)
theorem cmH.here (hI : cmI h) (hM : cmH D h dA H0 H locs f a fc wk hd ri rt cw tx nm) : cmH D h dA H H locs f a fc wk hd ri rt cw tx nm := cmH.of hI hM.1 hM.2.2.here
theorem cm_lt (hP : va_P D cmCl (cmWs h dA f a fc wk hd ri rt cw tx nm) H) : ∀ q, cmA h q → q < H.size := by
  rintro q ⟨k, hk, rfl⟩
  have hl : k < (cmWs h dA f a fc wk hd ri rt cw tx nm).length := hk
  have h1 := List.getElem?_eq_getElem hl
  have h2 := (cm_at h dA f a fc wk hd (a 1) ri rt (mwAr (a 1)) (mwAr ri) (mwAr rt) cw tx nm k _ h1).2
  rw [← h2]
  exact cAt.lt (a := _) (e := _) (hP k _ h1)
theorem cm_ast_cow (hx : p.tables.exec = Jvm.exec) (hb : c.code = cc) (hK : cmK D dA s) (hI : cmI h) (hM : cmH D h dA H0 H locs f a fc wk hd ri rt cw tx nm) {x : Nat} (hr : va_Any "MeadowMilk$Cow" s H x) {i : Int32} (w : Nat) (hi : w < 5 ∧ i = nI w) (hdg : decode cc pc = .ok (.aastore, 1))
    (kk : ∀ (H1 : Heap) (locs1 : List Loc), cmH D h dA H0 H1 locs1 f a fc wk hd ri rt (va_up cw 0 (va_up (cw 0) w (some x))) tx nm → W p l e R s m args below meth c H1 locs1 cells slots Q (F0 m (pc + 1) ls rest)) : W p l e R s m args below meth c H locs cells slots Q (F0 m pc ls (.ref x :: .int i :: .ref (hm0 h 3) :: rest)) := by
  obtain ⟨h1, rfl⟩ := hi
  refine va_astqM hx hb hK.1 hM.1 hM.2.1 hM.2.2 17 3 rfl rfl hr (vp_in_nI h1 (by decide)) hdg (fun H1 locs1 hP hD hS => ?_)
  rw [nI_clamp (by omega)] at hP
  exact kk H1 locs1 (cmH.of hI hP hS)
/-- the row's kinds and m are no cells of the meadow -/
theorem mwAr_cow (r : Nat → Int32) {w : Nat} (hw : w < 5) (x y : Int32) : ∀ j k, mwJ j → k < mwLn j → mwAr r j k = mwAr (upd (upd r (58 + 14 * w + 0) x) (58 + 14 * w + 1) y) j k := by
  intro j k hj hk
  have hu : ∀ q, q ≠ 58 + 14 * w + 0 → q ≠ 58 + 14 * w + 1 → r q = upd (upd r (58 + 14 * w + 0) x) (58 + 14 * w + 1) y q := fun q h1 h2 => by rw [pk_un h2, pk_un h1]
  rcases hj with rfl | rfl | rfl | rfl | rfl | rfl | rfl
  · have hk : k < 25 := hk
    exact hu _ (by omega) (by omega)
  · have hk : k < 25 := hk
    exact hu _ (by omega) (by omega)
  · have hk : k < 5 := hk
    exact hu _ (by omega) (by omega)
  · have hk : k < 60 := hk
    show mwMk r k = mwMk _ k
    unfold mwMk
    by_cases e : k % 12 < 10
    · rw [if_pos e, if_pos e]; exact hu _ (by omega) (by omega)
    · rw [if_neg e, if_neg e]
  · have hk : k < 5 := hk
    exact hu _ (by omega) (by omega)
  · have hk : k < 50 := hk
    show (r (128 + k)).toInt8.toInt32 = _
    rw [hu (128 + k) (by omega) (by omega)]
    rfl
  · have hk : k < 20 := hk
    exact hu _ (by omega) (by omega)
theorem cmH.kind (hI : cmI h) {r : Nat → Int32} (hM : cmH D h dA H0 H locs f (va_up a 1 r) fc wk hd ri rt cw tx nm) {w : Nat} (hw : w < 5) (x y : Int32) : cmH D h dA H0 H locs f (va_up a 1 (upd (upd r (58 + 14 * w + 0) x) (58 + 14 * w + 1) y)) fc wk hd ri rt cw tx nm := by
  have h1 := cm_raw0 (r' := upd (upd r (58 + 14 * w + 0) x) (58 + 14 * w + 1) y) (g := r) (a0 := mwAr r) hI hM (fun k hk => by rw [pk_un (by omega), pk_un (by omega)]) (mwAr_cow r hw x y)
  rw [va_uu] at h1
  exact h1
end NWB
theorem txV_c {r r' : Nat → Int32} (h6 : ∀ u, u < 2 → r' (6 + u) = r (6 + u)) (h9 : ∀ j, r' (198 + j) = r (198 + j)) (u : Nat) (nm : Nat → Int32) : txV r' u nm = txV r u nm := by
  have hb : ∀ u, bT (rA r') u = bT (rA r) u := fun u => by
    funext j
    show r' (198 + 50 * u + j) = r (198 + 50 * u + j)
    rw [Nat.add_assoc]
    exact h9 _
  unfold txV
  rw [h6 0 (by omega), h6 1 (by omega), whI_eq (hb 0), whI_eq (hb 1)]
theorem mwTxt.c {D : va_G} {B B' : Nat → Prop} {r r' : Nat → Int32} {tx : Nat → Option Nat} {H : Heap} (hQ : mwTxt D B r tx H) (hB : ∀ q, B q → B' q) (h6 : ∀ u, u < 2 → r' (6 + u) = r (6 + u)) (h9 : ∀ j, r' (198 + j) = r (198 + j)) : mwTxt D B' r' tx H := by
  intro u hu
  rw [h6 u hu]
  rcases hQ u hu with q | ⟨h1, x, F, h2, h3, h4⟩
  · exact Or.inl q
  · exact Or.inr ⟨h1, x, F, h2, h3.to (fun q _ hq => ⟨hB q hq, rfl⟩) 60 x F, fun nm => by rw [h4, txV_c h6 h9]⟩
/-- one more cow -/
theorem mwPl.cow {D : va_G} {tr : Nat} {B B' : Nat → Prop} {r : Nat → Int32} {cw tx : Nat → Option Nat} {H : Heap} {km c0 x : Nat} (hQ : mwPl D tr B r cw tx H) (hi : cl (r 3) < 5) (hkm : km ≤ 69) (hB : ∀ q, B q → B' q) (hx : B' x) (hX : cAt D x (.inr (10 + km / 10, [.ref tr, .int (nI (cl (r 3))), .int (nI (km % 10))])) H) : mwPl D tr B' (cowA r km c0) (va_up cw (cl (r 3)) (some x)) tx H := by
  refine ⟨fun w hw => ?_, hQ.2.c hB (fun u hu => ?_) (fun j => ?_)⟩
  · have e3 : cl (cowA r km c0 3) = cl (r 3) + 1 := by
      rw [show cowA r km c0 3 = nI (cl (r 3) + 1) from pk_us]
      exact nI_clamp (by omega)
    rw [e3] at hw
    have k0 : cowA r km c0 (58 + 14 * cl (r 3) + 0) = nI (km / 10) := by unfold cowA; rw [pk_un (by omega), pk_un (by omega), pk_un (by omega), pk_un (by omega), pk_us]
    have k1 : cowA r km c0 (58 + 14 * cl (r 3) + 1) = nI (km % 10) := by unfold cowA; rw [pk_un (by omega), pk_un (by omega), pk_un (by omega), pk_us]
    by_cases e : w = cl (r 3)
    · subst e
      refine ⟨x, va_us _ _ _, hx, ?_⟩
      rw [k0, k1, show cl (nI (km / 10)) = km / 10 from nI_clamp (by omega)]
      exact hX
    · obtain ⟨y, y1, y2, y3⟩ := hQ.1 w (by omega)
      refine ⟨y, by rw [va_un e]; exact y1, hB _ y2, ?_⟩
      have g : ∀ q, q < 2 → cowA r km c0 (58 + 14 * w + q) = r (58 + 14 * w + q) := fun q hq => by unfold cowA; rw [pk_un (by omega), pk_un (by omega), pk_un (by omega), pk_un (by omega), pk_un (by omega)]
      rw [g 0 (by omega), g 1 (by omega)]
      exact y3
  · unfold cowA; rw [pk_un (by omega), pk_un (by omega), pk_un (by omega), pk_un (by omega), pk_un (by omega)]
  · unfold cowA; rw [pk_un (by omega), pk_un (by omega), pk_un (by omega), pk_un (by omega), pk_un (by omega)]
/-- a cow becomes another -/
theorem mwPl.bec {D : va_G} {tr : Nat} {B B' : Nat → Prop} {r : Nat → Int32} {cw tx : Nat → Option Nat} {H : Heap} {km i x : Nat} (hQ : mwPl D tr B r cw tx H) (hN : cl (r 3) ≤ 5) (hi : i < cl (r 3)) (hkm : km ≤ 69) (hB : ∀ q, B q → B' q) (hx : B' x) (hX : cAt D x (.inr (10 + km / 10, [.ref tr, .int (nI i), .int (nI (km % 10))])) H) : mwPl D tr B' (upd (upd r (58 + 14 * i + 0) (nI (km / 10))) (58 + 14 * i + 1) (nI (km % 10))) (va_up cw i (some x)) tx H := by
  refine ⟨fun w hw => ?_, hQ.2.c hB (fun u hu => ?_) (fun j => ?_)⟩
  · rw [pk_un (by omega), pk_un (by omega)] at hw
    by_cases e : w = i
    · subst e
      refine ⟨x, va_us _ _ _, hx, ?_⟩
      rw [pk_us, pk_un (by omega), pk_us, show cl (nI (km / 10)) = km / 10 from nI_clamp (by omega)]
      exact hX
    · obtain ⟨y, y1, y2, y3⟩ := hQ.1 w hw
      refine ⟨y, by rw [va_un e]; exact y1, hB _ y2, ?_⟩
      rw [pk_un (by omega), pk_un (by omega), pk_un (by omega), pk_un (by omega)]
      exact y3
  · rw [pk_un (by omega), pk_un (by omega)]
  · rw [pk_un (by omega), pk_un (by omega)]
theorem cowA_eq (r : Nat → Int32) (km c0 : Nat) (hn : cl (r 3) < 5) : upd (upd (upd (upd (upd r (58 + 14 * cl (r 3) + 2) (nI c0)) (58 + 14 * cl (r 3) + 3) (nI 0)) 3 (nI (cl (r 3) + 1))) (58 + 14 * cl (r 3) + 0) (nI (km / 10))) (58 + 14 * cl (r 3) + 1) (nI (km % 10)) = cowA r km c0 := by
  funext k
  unfold cowA upd
  generalize cl (r 3) = n at hn ⊢
  repeat' split
  all_goals first | rfl | omega
theorem ndX0_cowOf : yX0_cowOf.cls ≠ "java/lang/invoke/MethodHandle" ∧ yX0_cowOf.cls ≠ "java/lang/invoke/VarHandle" ∧ (parseMethodDescriptor yX0_cowOf.desc).map (fun d => d.parameters.length) = some 4 := by decide +kernel

set_option maxHeartbeats 400000 in
theorem ca_cow_ok (f : Nat → Int32) (a : Nat → Nat → Int32) (km c0 : Nat) (hk0 : km ≤ 69) (hc : c0 < 25) (hN0 : okN (a 1 3) 5) (hi : cl (a 1 3) < 5) : CmN yX0_cow cX0_cow 4 [(0, 112, 113, 8)] 5 113 1 3 [.int (nI km), .int (nI c0)] f a (nI (cl (a 1 3))) f (va_up a 1 (cowA (a 1) km c0)) := by
  refine CmN.ofM (by decide) rfl (Nat.le_of_ble_eq_true rfl) ?_
  intro p l e R s m args below meth c Q D dA h fc wk hd ri rt cw tx nm B S A0 b2 ls hx hb hml hRf hRl hRc hRs htab hts hown hK hI hB hS0 hQ hN hIm hZ hSh hM hl hA hf hsz hBS hR hretM
  have hl : lv_has ls 4 [(0, .ref (h 0)), (1, .int (nI km)), (2, .int (nI c0))] := hl
  have hN2 := hN0.2
  refine lv_aload_n hx hb dX0_cow_0 rfl (lv_at hl 0 rfl) ?_
  refine lv_iload_n hx hb dX0_cow_1 rfl (lv_at hl 1 rfl) ?_
  refine st_callS (y := yX0_isKind) hx hb hml hown hts (cmX0_isKind (nI km)) q399 q400 q61 q401 ndX0_isKind rfl (by rw [hRf]; decide) (by rw [hRl]; decide) (Nat.zero_le _) (Nat.zero_le _) hl.1 rfl (Nat.le_of_ble_eq_true rfl) dX0_cow_2 ?_
  refine w_if_eqT (tgt := 19) hx hb dX0_cow_5 (by decide) (fun c_1 => ?_) (fun c_1 => ?_)
  · exact absurd (by first | exact (in_nat (by decide)).mpr ⟨_, by omega, rfl⟩ | exact (in_nat1 _ (by decide) (by decide)).mpr ⟨_, by omega, by omega, rfl⟩ | exact cow_in hN0 (by omega) | assumption) c_1
  · refine lv_iload_n hx hb dX0_cow_8 rfl (lv_at hl 2 rfl) ?_
    refine st_callS (y := yX0_isCell) hx hb hml hown hts (cmX0_isCell (nI c0)) q327 q328 q61 q329 ndX0_isCell rfl (by rw [hRf]; decide) (by rw [hRl]; decide) (Nat.zero_le _) (Nat.zero_le _) hl.1 rfl (Nat.le_of_ble_eq_true rfl) dX0_cow_9 ?_
    refine w_if_eqT (tgt := 19) hx hb dX0_cow_12 (by decide) (fun c_2 => ?_) (fun c_2 => ?_)
    · exact absurd (by first | exact (in_nat (by decide)).mpr ⟨_, by omega, rfl⟩ | exact (in_nat1 _ (by decide) (by decide)).mpr ⟨_, by omega, by omega, rfl⟩ | exact cow_in hN0 (by omega) | assumption) c_2
    · refine lv_iconst (v := nI 1) hx hb dX0_cow_15 (by decide) ?_
      refine lv_goto (tgt := 20) hx hb dX0_cow_16 (by decide) ?_
      refine lv_iconst (v := nI 1) hx hb dX0_cow_20 (by decide) ?_
      refine cm_n1 hx hb hml hown hts hK hI hM htab (hpc := 113) rfl q333 (by rw [hRf]; decide) (by rw [hRl]; decide) (Nat.zero_le _) (Nat.zero_le _) hl.1 (Nat.le_of_ble_eq_true rfl) dX0_cow_21 (fun locs hM => ?_)
      refine lv_aload_n hx hb dX0_cow_24 rfl (lv_at hl 0 rfl) ?_
      refine lv_aload_n hx hb dX0_cow_25 rfl (lv_at hl 0 rfl) ?_
      refine c_get (v := .ref (hm0 h 0)) hx hb hts in_X0 hown hK (hM.1 0 _ rfl) rfl 1 (by decide) q287 rfl rfl dX0_cow_26 ?_
      have nq := hK.F 1 rfl
      refine c_getN (v := .int (a 1 3)) hx hb hts in_X2 hown hK ((cm_parts hM.1).2.1 0 _ rfl) rfl 3 (by decide) nq rfl rfl dX0_cow_29 ?_
      refine w_top (nI (cl (a 1 3))) (hN0.1) ?_
      refine lv_iconst (v := nI 5) hx hb dX0_cow_32 (by decide) ?_
      refine w_icmp_geN (tgt := 40) hx hb (by omega) (by omega) dX0_cow_33 (by decide) (fun c_3 => ?_) (fun c_3 => ?_)
      · exact absurd c_3 (by omega)
      · refine lv_iconst (v := nI 1) hx hb dX0_cow_36 (by decide) ?_
        refine lv_goto (tgt := 41) hx hb dX0_cow_37 (by decide) ?_
        refine lv_iconst (v := nI 4) hx hb dX0_cow_41 (by decide) ?_
        refine cm_n1 hx hb hml hown hts hK hI hM htab (hpc := 113) rfl q333 (by rw [hRf]; decide) (by rw [hRl]; decide) (Nat.zero_le _) (Nat.zero_le _) hl.1 (Nat.le_of_ble_eq_true rfl) dX0_cow_42 (fun locs hM => ?_)
        refine lv_aload_n hx hb dX0_cow_45 rfl (lv_at hl 0 rfl) ?_
        refine c_get (v := .ref (hm0 h 0)) hx hb hts in_X0 hown hK (hM.1 0 _ rfl) rfl 1 (by decide) q287 rfl rfl dX0_cow_46 ?_
        have nq := hK.F 1 rfl
        refine c_getN (v := .int (a 1 3)) hx hb hts in_X2 hown hK ((cm_parts hM.1).2.1 0 _ rfl) rfl 3 (by decide) nq rfl rfl dX0_cow_49 ?_
        refine w_top (nI (cl (a 1 3))) (hN0.1) ?_
        refine lv_istore_n (lv' := [(3, .int (nI (cl (a 1 3)))), (0, .ref (h 0)), (1, .int (nI km)), (2, .int (nI c0))]) hx hb dX0_cow_52 rfl hl (by decide) rfl (fun ls hl => ?_)
        refine lv_aload_n hx hb dX0_cow_53 rfl (lv_at hl 1 rfl) ?_
        refine c_get (v := .ref (hm0 h 0)) hx hb hts in_X0 hown hK (hM.1 0 _ rfl) rfl 1 (by decide) q287 rfl rfl dX0_cow_54 ?_
        have nq := hK.F 7 rfl
        refine c_getN (v := .ref (hm0 h 3)) hx hb hts in_X2 hown hK ((cm_parts hM.1).2.1 0 _ rfl) rfl 4 (by decide) nq rfl rfl dX0_cow_57 ?_
        refine lv_iload_n hx hb dX0_cow_60 rfl (lv_at hl 0 rfl) ?_
        refine lv_iload_n hx hb dX0_cow_61 rfl (lv_at hl 2 rfl) ?_
        refine lv_bipush (v := nI 10) hx hb dX0_cow_62 (by decide) ?_
        refine w_idivN hx hb (by omega) (by omega) (by omega) dX0_cow_64 ?_
        refine lv_aload_n hx hb dX0_cow_65 rfl (lv_at hl 1 rfl) ?_
        refine c_get (v := .ref (h 2)) hx hb hts in_X0 hown hK (hM.1 0 _ rfl) rfl 5 (by decide) q291 rfl rfl dX0_cow_66 ?_
        refine lv_iload_n hx hb dX0_cow_69 rfl (lv_at hl 0 rfl) ?_
        refine lv_iload_n hx hb dX0_cow_70 rfl (lv_at hl 2 rfl) ?_
        refine lv_bipush (v := nI 10) hx hb dX0_cow_71 (by decide) ?_
        refine w_iremN hx hb (by omega) (by omega) (by omega) dX0_cow_73 ?_
        refine cg_callSN2 (y := yX0_cowOf) (As := [.int (nI (km / 10)), .ref (h 2), .int (nI (cl (a 1 3))), .int (nI (km % 10))]) hx hb hml hown hts hK hM.2.2.1 (ca_cowOf _ (km / 10) (h 2) (cl (a 1 3)) (by omega) (nI (km % 10))) rfl q402 q403 q61 q404 ndX0_cowOf rfl (by rw [hRf]; decide) (by rw [hRl]; decide) (by rw [hRc]; decide) (by rw [hRs]; decide) hl.1 rfl (Nat.le_of_ble_eq_true rfl) dX0_cow_74 ?_
        rintro _ H1 ⟨x9, rfl, hxb, hX⟩ hz hk
        have hM1 := hM.new hI hz hk
        have hS8 : va_S A0 s.heap H1 locs := hM1.2.2.wd hA
        have hQ1 : cmPl D h B (a 1) ri rt cw tx H1 := hQ.at hB hN mwEq.rf mwEq.rf mwEq.rf hM1.2.2
        have hSh1 : shOK D h dA hd S a H1 := hSh.to hS0 ⟨rfl, rfl, rfl⟩ hM1.2.2
        have hM9 := hM
        have hM := hM1.here hI
        refine cm_ast_cow hx hb hK hI hM (any_cow hK (by omega) hX) (cl (a 1 3)) ⟨by omega, rfl⟩ dX0_cow_77 (fun H locs hM => ?_)
        refine lv_aload_n hx hb dX0_cow_78 rfl (lv_at hl 1 rfl) ?_
        refine c_get (v := .ref (hm0 h 0)) hx hb hts in_X0 hown hK (hM.1 0 _ rfl) rfl 1 (by decide) q287 rfl rfl dX0_cow_79 ?_
        have nq := hK.F 5 rfl
        refine c_getN (v := .ref (hm0 h 4)) hx hb hts in_X2 hown hK ((cm_parts hM.1).2.1 0 _ rfl) rfl 5 (by decide) nq rfl rfl dX0_cow_82 ?_
        refine lv_iload_n hx hb dX0_cow_85 rfl (lv_at hl 0 rfl) ?_
        refine lv_iload_n hx hb dX0_cow_86 rfl (lv_at hl 3 rfl) ?_
        refine cm_ast_at hx hb hK hI hM (cl (a 1 3)) ⟨by omega, rfl⟩ dX0_cow_87 (fun H locs hM => ?_)
        refine lv_aload_n hx hb dX0_cow_88 rfl (lv_at hl 1 rfl) ?_
        refine c_get (v := .ref (hm0 h 0)) hx hb hts in_X0 hown hK (hM.1 0 _ rfl) rfl 1 (by decide) q287 rfl rfl dX0_cow_89 ?_
        have nq := hK.F 8 rfl
        refine c_getN (v := .ref (hm0 h 6)) hx hb hts in_X2 hown hK ((cm_parts hM.1).2.1 0 _ rfl) rfl 7 (by decide) nq rfl rfl dX0_cow_92 ?_
        refine lv_iload_n hx hb dX0_cow_95 rfl (lv_at hl 0 rfl) ?_
        refine lv_iconst (v := nI 0) hx hb dX0_cow_96 (by decide) ?_
        refine cm_ast_many hx hb hK hI hM (cl (a 1 3)) ⟨by omega, rfl⟩ dX0_cow_97 (fun H locs hM => ?_)
        refine lv_aload_n hx hb dX0_cow_98 rfl (lv_at hl 1 rfl) ?_
        refine c_get (v := .ref (hm0 h 0)) hx hb hts in_X0 hown hK (hM.1 0 _ rfl) rfl 1 (by decide) q287 rfl rfl dX0_cow_99 ?_
        refine lv_dup hx hb dX0_cow_102 rfl ?_
        have nq := hK.F 1 rfl
        refine c_getN (v := .int ((va_up (va_up a 1 (upd (a 1) (58 + 14 * (cl (a 1 3)) + 2) (nI c0))) 1 (upd ((va_up a 1 (upd (a 1) (58 + 14 * (cl (a 1 3)) + 2) (nI c0))) 1) (58 + 14 * (cl (a 1 3)) + 3) (nI 0))) 1 3)) hx hb hts in_X2 hown hK ((cm_parts hM.1).2.1 0 _ rfl) rfl 3 (by decide) nq rfl rfl dX0_cow_103 ?_
        refine w_top (nI (cl (a 1 3))) (by simp only [va_us]; rw [pk_un (by omega), pk_un (by omega)]; exact hN0.1) ?_
        refine lv_iconst (v := nI 1) hx hb dX0_cow_106 (by decide) ?_
        refine w_iaddN hx hb dX0_cow_107 ?_
        have nq := hK.F 1 rfl
        refine cm_put_cows hx hb hts hown hK hI hM nq dX0_cow_108 (fun H locs hM => ?_)
        refine lv_iload_n hx hb dX0_cow_111 rfl (lv_at hl 0 rfl) ?_
        have hM := (hM.kind hI (w := cl (a 1 3)) (by omega) (nI (km / 10)) (nI (km % 10))).to rfl (show _ = va_up a 1 (cowA (a 1) km c0) by simp only [va_uu, va_us]; rw [← cowA_eq (a 1) km c0 (by omega)])
        have hP2 := hM.1
        have hS1 := hS8.tr (hM.2.2.wd hA)
        have hX2 := hX.kept (hM.2.2.2.1 x9 hX.lt (fun q => by have := cm_lt hM9.1 x9 q; omega))
        have hQ2 : cmQ D dA h hd A0 f (va_up a 1 (cowA (a 1) km c0)) ri rt (va_up cw 0 (va_up (cw 0) (cl (a 1 3)) (some x9))) tx H := by
          have hQ3 := hQ1.at hB hN mwEq.rf mwEq.rf mwEq.rf hM.2.2
          refine ⟨(fun q => B q ∨ q = x9), S, ⟨fun q hq => hq.elim (hB q) (fun z w => by have := cm_lt hM9.1 q w; omega), hS0, fun q h1 h2 => h2.elim (hBS q h1) (fun z => by have := (hR q (Or.inr h1)).2; have := hM9.2.2.1; omega), fun q hq => hq.elim (fun z => z.elim (fun z => ⟨(hR q (Or.inl z)).1, Nat.lt_of_lt_of_le (hR q (Or.inl z)).2 hS1.1⟩) (fun z => by rw [z]; exact ⟨hf _ (by have := hM9.2.2.1; omega), hX2.lt⟩)) (fun z => ⟨(hR q (Or.inr z)).1, Nat.lt_of_lt_of_le (hR q (Or.inr z)).2 hS1.1⟩)⟩, ⟨hQ3.1.cow (by omega) hk0 (fun q => Or.inl) (Or.inr rfl) hX2, hQ3.2.1.in hN.2.1 (fun q => Or.inl), hQ3.2.2.in hN.2.2 (fun q => Or.inl)⟩, ⟨?_, hN.2⟩, hIm, ⟨fun w h1 h2 => ?_, hZ.2⟩, hSh1.to hS0 ⟨rfl, rfl, rfl⟩ hM.2.2⟩
          · show cl (cowA (a 1) km c0 3) ≤ 5
            rw [show cowA (a 1) km c0 3 = nI (cl (a 1 3) + 1) from pk_us, show cl (nI (cl (a 1 3) + 1)) = cl (a 1 3) + 1 from nI_clamp (by omega)]; omega
          · have h1 : cl (cowA (a 1) km c0 3) ≤ w := h1
            rw [show cowA (a 1) km c0 3 = nI (cl (a 1 3) + 1) from pk_us, show cl (nI (cl (a 1 3) + 1)) = cl (a 1 3) + 1 from nI_clamp (by omega)] at h1
            show va_up (cw 0) (cl (a 1 3)) (some x9) w = none
            rw [va_un (by omega)]; exact hZ.1 w (by omega) h2
        exact hretM hP2 hQ2 hS1 (rfl) dX0_cow_112
set_option maxHeartbeats 400000 in
theorem ca_become_ok (f : Nat → Int32) (a : Nat → Nat → Int32) (i : Nat) (hi : i < cl (a 1 3)) (hN0 : okN (a 1 3) 5) (km : Nat) (hk0 : km ≤ 69) (hkd : okN (a 1 (58 + 14 * i + 0)) 6) : CmN yX0_become cX0_become 4 [(0, 39, 40, 8)] 5 113 1 3 [.int (nI i), .int (nI km)] f a (a 1 (58 + 14 * i + 0)) f (va_up a 1 (upd (upd (a 1) (58 + 14 * i + 0) (nI (km / 10))) (58 + 14 * i + 1) (nI (km % 10)))) := by
  refine CmN.ofM (by decide) rfl (Nat.le_of_ble_eq_true rfl) ?_
  intro p l e R s m args below meth c Q D dA h fc wk hd ri rt cw tx nm B S A0 b2 ls hx hb hml hRf hRl hRc hRs htab hts hown hK hI hB hS0 hQ hN hIm hZ hSh hM hl hA hf hsz hBS hR hretM
  have hl : lv_has ls 4 [(0, .ref (h 0)), (1, .int (nI i)), (2, .int (nI km))] := hl
  have hN2 := hN0.2
  refine lv_aload_n hx hb dX0_become_0 rfl (lv_at hl 0 rfl) ?_
  refine lv_iload_n hx hb dX0_become_1 rfl (lv_at hl 1 rfl) ?_
  refine lv_iload_n hx hb dX0_become_2 rfl (lv_at hl 2 rfl) ?_
  refine st_callS (y := yX0_isKind) hx hb hml hown hts (cmX0_isKind (nI km)) q399 q400 q61 q401 ndX0_isKind rfl (by rw [hRf]; decide) (by rw [hRl]; decide) (Nat.zero_le _) (Nat.zero_le _) hl.1 rfl (Nat.le_of_ble_eq_true rfl) dX0_become_3 ?_
  obtain ⟨x, hx1, hx2, hx3⟩ := hQ.1.1 i hi
  refine cg_callV (y := yX0_cowAt) (b := h 0) (C := RX0) (As := [.int (nI i), .int (iI (nI 0 ≤ nI km ∧ nI km ≤ nI 69))]) hx hb hml hown hts hK hM.2.2 (ca_cowAt_ok D dA h _ _ _ _ _ _ _ _ _ _ hI i x (nI 0 ≤ nI km ∧ nI km ≤ nI 69) hN0 hi ((in_nat (by decide)).mpr ⟨_, by omega, rfl⟩) hx1) hM.1 (fun q hq => hq) (cAt.recv hK (hM.1 0 _ rfl) rfl) q508 q510 qs3 q61 q511 ndX0_cowAt rfl (by rw [hRf]; decide) (by rw [hRl]; decide) (Nat.zero_le _) (Nat.zero_le _) hl.1 rfl (Nat.le_of_ble_eq_true rfl) dX0_become_6 ?_
  rintro _ H locs ⟨rfl, hP1⟩ hz1 hk1 hS1
  have hM := cmH.of hI hP1 hS1
  refine lv_astore_n (lv' := [(3, .ref x), (0, .ref (h 0)), (1, .int (nI i)), (2, .int (nI km))]) hx hb dX0_become_9 rfl hl (by decide) rfl (fun ls hl => ?_)
  refine lv_aload_n hx hb dX0_become_10 rfl (lv_at hl 1 rfl) ?_
  refine c_get (v := .ref (hm0 h 0)) hx hb hts in_X0 hown hK (hM.1 0 _ rfl) rfl 1 (by decide) q287 rfl rfl dX0_become_11 ?_
  have nq := hK.F 7 rfl
  refine c_getN (v := .ref (hm0 h 3)) hx hb hts in_X2 hown hK ((cm_parts hM.1).2.1 0 _ rfl) rfl 4 (by decide) nq rfl rfl dX0_become_14 ?_
  refine lv_iload_n hx hb dX0_become_17 rfl (lv_at hl 2 rfl) ?_
  refine lv_iload_n hx hb dX0_become_18 rfl (lv_at hl 3 rfl) ?_
  refine lv_bipush (v := nI 10) hx hb dX0_become_19 (by decide) ?_
  refine w_idivN hx hb (by omega) (by omega) (by omega) dX0_become_21 ?_
  refine lv_aload_n hx hb dX0_become_22 rfl (lv_at hl 1 rfl) ?_
  refine c_get (v := .ref (h 2)) hx hb hts in_X0 hown hK (hM.1 0 _ rfl) rfl 5 (by decide) q291 rfl rfl dX0_become_23 ?_
  refine lv_iload_n hx hb dX0_become_26 rfl (lv_at hl 2 rfl) ?_
  refine lv_iload_n hx hb dX0_become_27 rfl (lv_at hl 3 rfl) ?_
  refine lv_bipush (v := nI 10) hx hb dX0_become_28 (by decide) ?_
  refine w_iremN hx hb (by omega) (by omega) (by omega) dX0_become_30 ?_
  refine cg_callSN2 (y := yX0_cowOf) (As := [.int (nI (km / 10)), .ref (h 2), .int (nI i), .int (nI (km % 10))]) hx hb hml hown hts hK hM.2.2.1 (ca_cowOf _ (km / 10) (h 2) i (by omega) (nI (km % 10))) rfl q402 q403 q61 q404 ndX0_cowOf rfl (by rw [hRf]; decide) (by rw [hRl]; decide) (by rw [hRc]; decide) (by rw [hRs]; decide) hl.1 rfl (Nat.le_of_ble_eq_true rfl) dX0_become_31 ?_
  rintro _ H1 ⟨x9, rfl, hxb, hX⟩ hz hk
  have hM1 := hM.new hI hz hk
  have hS8 : va_S A0 s.heap H1 locs := hM1.2.2.wd hA
  have hQ1 : cmPl D h B (a 1) ri rt cw tx H1 := hQ.at hB hN mwEq.rf mwEq.rf mwEq.rf hM1.2.2
  have hSh1 : shOK D h dA hd S a H1 := hSh.to hS0 ⟨rfl, rfl, rfl⟩ hM1.2.2
  have hx3 := hx3.kept (hM1.2.2.2.1 x hx3.lt (hB _ hx2))
  have hM9 := hM
  have hM := hM1.here hI
  refine cm_ast_cow hx hb hK hI hM (any_cow hK (by omega) hX) i ⟨by omega, rfl⟩ dX0_become_34 (fun H locs hM => ?_)
  refine lv_aload_n hx hb dX0_become_35 rfl (lv_at hl 0 rfl) ?_
  refine cv_kind hx hb hml hown hts hK q516 (cl (a 1 (58 + 14 * i + 0))) hkd.2 x (h 2) i (a 1 (58 + 14 * i + 1)) (hx3.kept (hM.2.2.2.1 x hx3.lt (hB _ hx2))) (by rw [hRf]; decide) (by rw [hRl]; decide) (by rw [hRc]; decide) (by rw [hRs]; decide) hl.1 (Nat.le_of_ble_eq_true rfl) dX0_become_36 ?_
  have hM := (hM.to (a' := va_up a 1 (a 1)) rfl (va_self a 1)).kind hI (w := i) (by omega) (nI (km / 10)) (nI (km % 10))
  have hP2 := hM.1
  have hS1 := hS8.tr (hM.2.2.wd hA)
  have hX2 := hX.kept (hM.2.2.2.1 x9 hX.lt (fun q => by have := cm_lt hM9.1 x9 q; omega))
  have hQ2 : cmQ D dA h hd A0 f (va_up a 1 (upd (upd (a 1) (58 + 14 * i + 0) (nI (km / 10))) (58 + 14 * i + 1) (nI (km % 10)))) ri rt (va_up cw 0 (va_up (cw 0) i (some x9))) tx H := by
    have hQ3 := hQ1.at hB hN mwEq.rf mwEq.rf mwEq.rf hM.2.2
    refine ⟨(fun q => B q ∨ q = x9), S, ⟨fun q hq => hq.elim (hB q) (fun z w => by have := cm_lt hM9.1 q w; omega), hS0, fun q h1 h2 => h2.elim (hBS q h1) (fun z => by have := (hR q (Or.inr h1)).2; have := hM9.2.2.1; omega), fun q hq => hq.elim (fun z => z.elim (fun z => ⟨(hR q (Or.inl z)).1, Nat.lt_of_lt_of_le (hR q (Or.inl z)).2 hS1.1⟩) (fun z => by rw [z]; exact ⟨hf _ (by have := hM9.2.2.1; omega), hX2.lt⟩)) (fun z => ⟨(hR q (Or.inr z)).1, Nat.lt_of_lt_of_le (hR q (Or.inr z)).2 hS1.1⟩)⟩, ⟨hQ3.1.bec hN.1 hi hk0 (fun q => Or.inl) (Or.inr rfl) hX2, hQ3.2.1.in hN.2.1 (fun q => Or.inl), hQ3.2.2.in hN.2.2 (fun q => Or.inl)⟩, ⟨?_, hN.2⟩, hIm, ⟨fun w h1 h2 => ?_, hZ.2⟩, hSh1.to hS0 ⟨rfl, rfl, rfl⟩ hM.2.2⟩
    · show cl ((upd (upd (a 1) (58 + 14 * i + 0) (nI (km / 10))) (58 + 14 * i + 1) (nI (km % 10))) 3) ≤ 5
      rw [pk_un (by omega), pk_un (by omega)]; exact hN.1
    · have h1 : cl ((upd (upd (a 1) (58 + 14 * i + 0) (nI (km / 10))) (58 + 14 * i + 1) (nI (km % 10))) 3) ≤ w := h1
      rw [pk_un (by omega), pk_un (by omega)] at h1
      show va_up (cw 0) i (some x9) w = none
      rw [va_un (by omega)]; exact hZ.1 w h1 h2
  exact hretM hP2 hQ2 hS1 (hkd.1.symm) dX0_become_39
