/-! sheet: taken away (printed by comp26.py) -/
set_option maxRecDepth 100000
theorem shOK.drop {D : va_G} {h : Nat → Nat} {dA : Nat → ClassId} {hd : Nat → Option Nat} {S : Nat → Prop} {a : Nat → Nat → Int32} {H : Heap} (hs : shOK D h dA hd S a H) {sh : Nat} (hsh : sh < 4) : shOK D h dA (va_up hd sh none) S (va_up (va_up (va_up a 6 (upd (a 6) sh (nI 0))) 7 (upd (a 7) sh (nI 0))) 8 (zrK (a 8) sh 40)) H := by
  obtain ⟨ya, hinj, hall⟩ := hs
  have e6 : ∀ u, ¬ upd (a 6) sh (nI 0) u = 0 → ¬ u = sh := fun u q e => q (by rw [e]; exact pk_us)
  refine ⟨ya, fun u v hu hv q1 q2 => ?_, fun u hu => ?_⟩
  · have n1 := e6 u q1
    have n2 := e6 v q2
    have q1' : ¬ a 6 u = 0 := fun z => q1 ((pk_un n1).trans z)
    have q2' : ¬ a 6 v = 0 := fun z => q2 ((pk_un n2).trans z)
    rw [va_un n1]
    exact hinj u v hu hv q1' q2'
  · by_cases e : u = sh
    · subst e
      exact Or.inl ⟨pk_us, va_us _ _ _⟩
    · rcases hall u hu with ⟨q1, q2⟩ | ⟨x, wi, q1, q2, q3, q4, q5, q6, q7, q8⟩
      · exact Or.inl ⟨(pk_un e).trans q1, (va_un e).trans q2⟩
      · have e7 : upd (a 7) sh (nI 0) u = a 7 u := pk_un e
        refine Or.inr ⟨x, wi, q1, (va_un e).trans q2, q3, q4, (pk_un e).trans q5, ?_, q7, ?_⟩
        · show okN (upd (a 7) sh (nI 0) u) 40
          rw [e7]; exact q6
        · show cAt D (ya u) (.inl (dA (shT wi), cl (upd (a 7) sh (nI 0) u), .inl (fun k => zrK (a 8) sh 40 (40 * u + k)))) H
          rw [e7]
          exact c_cong q8 (fun k hk => by unfold zrK; rw [if_neg (by have := q6.2; omega)])
set_option maxHeartbeats 400000 in
theorem ca_sheet_ok0 (f : Nat → Int32) (a : Nat → Nat → Int32) (sh : Nat) (hs : sh < 4) (n : Int32) : CmF yX0_sheet cX0_sheet 5 [(0, 43, 127, 8), (44, 126, 127, 8)] 2 60 [.int (nI sh), .int (nI 0), .int n] f a (nI 1) f (va_up (va_up (va_up a 6 (upd (a 6) sh (nI 0))) 7 (upd (a 7) sh (nI 0))) 8 (zrK (a 8) sh 40)) := by
  refine CmF.ofM (by decide) rfl (Nat.le_of_ble_eq_true rfl) ?_
  intro p l e R s m args below meth c Q D dA h fc wk hd ri rt cw tx nm B S A0 b2 ls hx hb hml hRf hRl hRc hRs htab hts hown hK hI hB hS0 hQ hN hIm hZ hSh hM hl hA hf hsz hBS hR hretM
  have hl : lv_has ls 5 [(0, .ref (h 0)), (1, .int (nI sh)), (2, .int (nI 0)), (3, .int n)] := hl
  refine lv_aload_n hx hb dX0_sheet_0 rfl (lv_at hl 0 rfl) ?_
  refine lv_iload_n hx hb dX0_sheet_1 rfl (lv_at hl 1 rfl) ?_
  refine st_callS (y := yX0_isSheet) hx hb hml hown hts (cmX0_isSheet (nI sh)) q1020 q1021 q61 q1022 ndX0_isSheet rfl (by rw [hRf]; decide) (by rw [hRl]; decide) (Nat.zero_le _) (Nat.zero_le _) hl.1 rfl (Nat.le_of_ble_eq_true rfl) dX0_sheet_2 ?_
  refine w_if_eqT (tgt := 23) hx hb dX0_sheet_5 (by decide) (fun c_1 => ?_) (fun c_1 => ?_)
  · exact absurd (by first | exact (in_nat (by decide)).mpr ⟨_, by omega, rfl⟩ | exact (in_nat1 _ (by decide) (by decide)).mpr ⟨_, by omega, by omega, rfl⟩ | exact cow_in hN0 (by omega) | assumption) c_1
  · refine lv_iload_n hx hb dX0_sheet_8 rfl (lv_at hl 2 rfl) ?_
    refine lv_if_eq (tgt := 19) hx hb dX0_sheet_9 (by decide) (fun _ => ?_) (fun q => absurd q (by decide))
    refine lv_iconst (v := nI 1) hx hb dX0_sheet_19 (by decide) ?_
    refine lv_goto (tgt := 24) hx hb dX0_sheet_20 (by decide) ?_
    refine lv_iconst (v := nI 1) hx hb dX0_sheet_24 (by decide) ?_
    refine cm_n1 hx hb hml hown hts hK hI hM htab (hpc := 127) rfl q333 (by rw [hRf]; decide) (by rw [hRl]; decide) (Nat.zero_le _) (Nat.zero_le _) hl.1 (Nat.le_of_ble_eq_true rfl) dX0_sheet_25 (fun locs hM => ?_)
    refine lv_iload_n hx hb dX0_sheet_28 rfl (lv_at hl 2 rfl) ?_
    refine lv_if_ne (tgt := 44) hx hb dX0_sheet_29 (by decide) (fun q => absurd q (by decide)) (fun _ => ?_)
    refine lv_aload_n hx hb dX0_sheet_32 rfl (lv_at hl 0 rfl) ?_
    refine c_get (v := .ref (h 5)) hx hb hts in_X0 hown hK (hM.1 0 _ rfl) rfl 7 (by decide) q293 rfl rfl dX0_sheet_33 ?_
    refine lv_iload_n hx hb dX0_sheet_36 rfl (lv_at hl 1 rfl) ?_
    refine c_aldq hx hb hK 5 rfl (hM.1 5 _ rfl) sh ⟨by omega, by decide, rfl⟩ dX0_sheet_37 ?_
    refine lv_null hx hb dX0_sheet_38 ?_
    refine cm_put_held hx hb hts hown hK hI hM sh hs none dX0_sheet_39 (fun H locs hM => ?_)
    refine lv_iconst (v := nI 1) hx hb dX0_sheet_42 (by decide) ?_
    have hP2 := (hM.cg (a' := va_up (va_up (va_up a 6 (upd (a 6) sh (nI 0))) 7 (upd (a 7) sh (nI 0))) 8 (zrK (a 8) sh 40)) (f' := f) rfl rfl rfl rfl rfl).1
    have hS1 := hM.2.2.wd hA
    have hQ2 : cmQ D dA h (va_up hd sh none) A0 f (va_up (va_up (va_up a 6 (upd (a 6) sh (nI 0))) 7 (upd (a 7) sh (nI 0))) 8 (zrK (a 8) sh 40)) ri rt cw tx H := ⟨B, S, ⟨hB, hS0, hBS, fun q hq => ⟨(hR q hq).1, Nat.lt_of_lt_of_le (hR q hq).2 hS1.1⟩⟩, hQ.at hB hN mwEq.rf mwEq.rf mwEq.rf hM.2.2, hN, hIm, hZ, (hSh.to hS0 ⟨rfl, rfl, rfl⟩ hM.2.2).drop hs⟩
    exact hretM hP2 hQ2 hS1 rfl dX0_sheet_43
