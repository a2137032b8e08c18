/-! well (printed by comp18.py) -/
set_option maxRecDepth 100000
theorem btI_not {A : Int32} {k : Nat} (hk : k < 32) : btI (A ^^^ (-1)) k = nI 1 ↔ ¬ btI A k = nI 1 := by
  rw [btI_iff hk, btI_iff hk]
  have e : (-1 : Int32).toBitVec.getLsbD k = true := by
    have : ∀ k, k < 32 → (-1 : Int32).toBitVec.getLsbD k = true := by decide +kernel
    exact this k hk
  rw [Int32.toBitVec_xor, BitVec.getLsbD_xor, e]
  simp
theorem btI_full : ∀ k, k < 32 → (btI (nI 33554431) k = nI 1 ↔ k < 25) := by decide +kernel
/-- what the component keeps, after i cows -/
def wlM (r : Nat → Int32) (g : Int32) : Nat → Int32
  | 0 => nI 33554431
  | i + 1 => wlM r g i &&& (if btI g i = nI 1 then wkd r i (cl (r (58 + 14 * i + 3))) else (wkd r i (cl (r (58 + 14 * i + 3))) ^^^ (-1)))
theorem wlM_bit {r : Nat → Int32} {g : Int32} (hR : okR r) {c : Nat} (hc : c < 32) : ∀ i, i ≤ 5 → (btI (wlM r g i) c = nI 1 ↔ c < 25 ∧ wlB r g c i = true)
  | 0, _ => by rw [wlM, btI_full c hc]; simp [wlB]
  | i + 1, h => by
    obtain ⟨-, -, -, hq, hm⟩ := okR_cow hR (show i < 5 by omega)
    rw [wlM, btI_and hc, wlM_bit hR hc i (by omega), wlB_s]
    have hf := wkd_fin (c := c) hc hq hm
    by_cases hg : btI g i = nI 1
    · rw [if_pos hg, hf]
      constructor
      · rintro ⟨⟨h1, h2⟩, h3⟩; exact ⟨h1, h2, ⟨fun _ => hg, fun _ => h3⟩⟩
      · rintro ⟨h1, h2, h3⟩; exact ⟨⟨h1, h2⟩, h3.mpr hg⟩
    · rw [if_neg hg, btI_not hc, hf]
      constructor
      · rintro ⟨⟨h1, h2⟩, h3⟩; exact ⟨h1, h2, ⟨fun q => absurd q h3, fun q => absurd q hg⟩⟩
      · rintro ⟨h1, h2, h3⟩; exact ⟨⟨h1, h2⟩, fun q => hg (h3.mp q)⟩
theorem wlS_bit {r : Nat → Int32} {g : Int32} {k : Nat} (hk : k < 32) : ∀ n, n ≤ 25 → (btI (wlS r g n) k = nI 1 ↔ k < n ∧ wlB r g k (cl (r 3)) = true)
  | 0, _ => by rw [wlS]; exact ⟨fun q => absurd q (btI_0 hk), fun q => absurd q.1 (by omega)⟩
  | n + 1, h => by
    rw [wlS, btI_or hk, wlS_bit hk n (by omega)]
    by_cases hw : wlB r g n (cl (r 3)) = true
    · rw [if_pos hw, btI_sh (by omega) hk]
      constructor
      · rintro (⟨h1, h2⟩ | h1)
        · exact ⟨by omega, h2⟩
        · exact ⟨by omega, by rw [h1]; exact hw⟩
      · rintro ⟨h1, h2⟩
        by_cases e : k = n
        · exact Or.inr e
        · exact Or.inl ⟨by omega, h2⟩
    · rw [if_neg hw]
      constructor
      · rintro (⟨h1, h2⟩ | h1)
        · exact ⟨by omega, h2⟩
        · exact absurd h1 (btI_0 hk)
      · rintro ⟨h1, h2⟩
        refine Or.inl ⟨?_, h2⟩
        by_cases e : k = n
        · rw [e] at h2; exact absurd h2 hw
        · omega
theorem wl_eq {r : Nat → Int32} {g : Int32} (hR : okR r) : wlM r g (cl (r 3)) = wlS r g 25 := btI_ext (fun k hk => (wlM_bit hR hk _ hR.2.1.2).trans (wlS_bit hk 25 (Nat.le_refl _)).symm)
set_option maxHeartbeats 400000 in
theorem ca_well_ok (f : Nat → Int32) (a : Nat → Nat → Int32) (g : Int32) (hg : jugP (a 1) g) (hR : okR (a 1)) : CmF yX0_well cX0_well 4 [(0, 65, 66, 8)] 2 60 [.int g] f a (wlS (a 1) g 25) f a := by
  refine CmF.ofI (by decide) rfl (Nat.le_of_ble_eq_true rfl) ?_
  intro p l e R s m args below meth c Q D dA h fc wk hd ri rt cw tx nm B S ls hx hb hml hRf hRl hRc hRs htab hts hown hK hI hB hS0 hQ hN hIm hZ hSh hM hl hret hret0
  have hl : lv_has ls 4 [(0, .ref (h 0)), (1, .int g)] := hl
  have hN0 := hR.2.1
  have hN2 := hN0.2
  refine lv_aload_n hx hb dX0_well_0 rfl (lv_at hl 0 rfl) ?_
  refine lv_aload_n hx hb dX0_well_1 rfl (lv_at hl 0 rfl) ?_
  refine lv_iload_n hx hb dX0_well_2 rfl (lv_at hl 1 rfl) ?_
  refine rd_callV (y := yX0_isJug) hx hb hml hown hts hK (ca_isJug D dA h _ _ _ _ _ _ _ _ _ _ g) hM.1 (cAt.recv hK (hM.1 0 _ rfl) rfl) q956 q958 qs16 q61 q959 ndX0_isJug rfl (by rw [hRf]; decide) (by rw [hRl]; decide) (Nat.zero_le _) (Nat.zero_le _) hl.1 rfl (Nat.le_of_ble_eq_true rfl) dX0_well_3 ?_
  refine lv_iconst (v := nI 1) hx hb dX0_well_6 (by decide) ?_
  refine cm_need hx hb hml hown hts hK hI hM htab (hpc := 66) rfl q333 (by rw [hRf]; decide) (by rw [hRl]; decide) (Nat.zero_le _) (Nat.zero_le _) hl.1 (Nat.le_of_ble_eq_true rfl) dX0_well_7 (fun c_1 locs hM => ?_) (fun c_1 H locs hM => ?_)
  · refine lv_ldc hx hb hown (hts _ q1004) dX0_well_10 ?_
    refine w_top (nI 33554431) (by decide) ?_
    refine lv_istore_n (lv' := [(2, .int (nI 33554431)), (0, .ref (h 0)), (1, .int g)]) hx hb dX0_well_12 rfl hl (by decide) rfl (fun ls hl => ?_)
    refine lv_iconst (v := nI 0) hx hb dX0_well_13 (by decide) ?_
    refine lv_istore_n (lv' := [(3, .int (nI 0)), (2, .int (nI 33554431)), (0, .ref (h 0)), (1, .int g)]) hx hb dX0_well_14 rfl hl (by decide) rfl (fun ls hl => ?_)
    have loop15 : ∀ (fu : Nat) (k : Nat), (k ≤ cl (a 1 3)) → (cl (a 1 3) < k + fu) → ∀ (fc : Int32) (wk nm : Nat → Nat → Int32) (H : Heap) (locs : List Loc), cmH D h dA s.heap H locs f a fc wk hd ri rt cw tx nm → ∀ (ls : Array Slot), lv_has ls 4 [(3, .int (nI k)), (2, .int (wlM (a 1) g k)), (0, .ref (h 0)), (1, .int g)] → W p l e R s m args below meth c H locs 0 0 Q (F0 m 15 ls []) := by
      intro fu
      induction fu with
      | zero =>
        intro k hk hf
        omega
      | succ fu ih15 =>
        intro k hk hf fc wk nm H locs hM ls hl
        refine lv_iload_n hx hb dX0_well_15 rfl (lv_at hl 0 rfl) ?_
        refine lv_aload_n hx hb dX0_well_16 rfl (lv_at hl 2 rfl) ?_
        refine c_get (v := .ref (hm0 h 0)) hx hb hts in_X0 hown hK (hM.1 0 _ rfl) rfl 1 (by decide) q287 rfl rfl dX0_well_17 ?_
        have nq := hK.F 1 rfl
        refine c_getN (v := .int (a 1 3)) hx hb hts in_X2 hown hK ((cm_parts hM.1).2.1 0 _ rfl) rfl 3 (by decide) nq rfl rfl dX0_well_20 ?_
        refine w_top (nI (cl (a 1 3))) (hN0.1) ?_
        refine w_icmp_geN (tgt := 64) hx hb (by omega) (by omega) dX0_well_23 (by decide) (fun c_2 => ?_) (fun c_2 => ?_)
        · refine lv_iload_n hx hb dX0_well_64 rfl (lv_at hl 1 rfl) ?_
          exact hret0 hM (mwEq.rf) rfl rfl ⟨rfl, rfl, rfl⟩ (by rw [show k = cl (a 1 3) by omega]; exact wl_eq hR) dX0_well_65
        · obtain ⟨-, -, -, hq, -⟩ := okR_cow hR (show k < 5 by omega)
          refine lv_iload_n hx hb dX0_well_26 rfl (lv_at hl 1 rfl) ?_
          refine lv_iload_n hx hb dX0_well_27 rfl (lv_at hl 3 rfl) ?_
          refine lv_iload_n hx hb dX0_well_28 rfl (lv_at hl 0 rfl) ?_
          refine st_callS (y := yX0_hasBit) hx hb hml hown hts (cmX0_hasBit g k) q1010 q591 q61 q592 ndX0_hasBit rfl (by rw [hRf]; decide) (by rw [hRl]; decide) (Nat.zero_le _) (Nat.zero_le _) hl.1 rfl (Nat.le_of_ble_eq_true rfl) dX0_well_29 ?_
          have j56 : ∀ (fc : Int32) (wk nm : Nat → Nat → Int32) (H : Heap) (locs : List Loc), cmH D h dA s.heap H locs f a fc wk hd ri rt cw tx nm → ∀ (ls : Array Slot), lv_has ls 4 [(3, .int (nI k)), (2, .int (wlM (a 1) g k)), (0, .ref (h 0)), (1, .int g)] → W p l e R s m args below meth c H locs 0 0 Q (F0 m 56 ls [.int (if btI g k = nI 1 then wkd (a 1) k (cl (a 1 (58 + 14 * k + 3))) else (wkd (a 1) k (cl (a 1 (58 + 14 * k + 3))) ^^^ (-1))), .int (wlM (a 1) g k)]) := by
            intro   fc wk nm H locs hM ls hl
            refine lv_iand hx hb dX0_well_56 ?_
            refine w_top (wlM (a 1) g (k + 1)) (rfl) ?_
            refine lv_istore_n (lv' := [(2, .int (wlM (a 1) g (k + 1))), (3, .int (nI k)), (0, .ref (h 0)), (1, .int g)]) hx hb dX0_well_57 rfl hl (by decide) rfl (fun ls hl => ?_)
            refine lv_iinc (v := nI (k + 1)) (lv' := [(3, .int (nI (k + 1))), (2, .int (wlM (a 1) g (k + 1))), (0, .ref (h 0)), (1, .int g)]) hx hb dX0_well_58 hl (k := 1) rfl (by rw [show Int32.ofInt 1 = nI 1 from by decide]; exact nI_add _ _) (by decide) rfl (fun ls hl => ?_)
            refine lv_goto (tgt := 15) hx hb dX0_well_61 (by decide) ?_
            exact ih15 (k + 1) (by omega) (by omega) _ _ _ _ _ hM ls (lv_sub hl [0, 1, 2, 3] rfl)
          refine w_if_eqT (tgt := 46) hx hb dX0_well_32 (by decide) (fun c_3 => ?_) (fun c_3 => ?_)
          · refine lv_aload_n hx hb dX0_well_46 rfl (lv_at hl 2 rfl) ?_
            refine c_get (v := .ref (hm0 h 0)) hx hb hts in_X0 hown hK (hM.1 0 _ rfl) rfl 1 (by decide) q287 rfl rfl dX0_well_47 ?_
            refine lv_iload_n hx hb dX0_well_50 rfl (lv_at hl 0 rfl) ?_
            refine rd_callV (y := yX2_walked) hx hb hml hown hts hK ((mw_walked (a 1) k (by omega) hq) D dA (hm0 h) _ _ _) (cm_parts hM.1).2.1 (cAt.recv hK ((cm_parts hM.1).2.1 0 _ rfl) rfl) q1067 q579 q580 q66 q581 ndX2_walked rfl (by rw [hRf]; decide) (by rw [hRl]; decide) (Nat.zero_le _) (Nat.zero_le _) hl.1 rfl (Nat.le_of_ble_eq_true rfl) dX0_well_51 ?_
            refine lv_iconst (v := (-1 : Int32)) hx hb dX0_well_54 (by decide) ?_
            refine lv_ixor hx hb dX0_well_55 ?_
            refine w_top (if btI g k = nI 1 then wkd (a 1) k (cl (a 1 (58 + 14 * k + 3))) else (wkd (a 1) k (cl (a 1 (58 + 14 * k + 3))) ^^^ (-1))) ((if_neg c_3).symm) ?_
            exact j56   _ _ _ _ _ hM ls (lv_sub hl [0, 1, 2, 3] rfl)
          · refine lv_aload_n hx hb dX0_well_35 rfl (lv_at hl 2 rfl) ?_
            refine c_get (v := .ref (hm0 h 0)) hx hb hts in_X0 hown hK (hM.1 0 _ rfl) rfl 1 (by decide) q287 rfl rfl dX0_well_36 ?_
            refine lv_iload_n hx hb dX0_well_39 rfl (lv_at hl 0 rfl) ?_
            refine rd_callV (y := yX2_walked) hx hb hml hown hts hK ((mw_walked (a 1) k (by omega) hq) D dA (hm0 h) _ _ _) (cm_parts hM.1).2.1 (cAt.recv hK ((cm_parts hM.1).2.1 0 _ rfl) rfl) q1067 q579 q580 q66 q581 ndX2_walked rfl (by rw [hRf]; decide) (by rw [hRl]; decide) (Nat.zero_le _) (Nat.zero_le _) hl.1 rfl (Nat.le_of_ble_eq_true rfl) dX0_well_40 ?_
            refine lv_goto (tgt := 56) hx hb dX0_well_43 (by decide) ?_
            refine w_top (if btI g k = nI 1 then wkd (a 1) k (cl (a 1 (58 + 14 * k + 3))) else (wkd (a 1) k (cl (a 1 (58 + 14 * k + 3))) ^^^ (-1))) ((if_pos c_3).symm) ?_
            exact j56   _ _ _ _ _ hM ls (lv_sub hl [0, 1, 2, 3] rfl)
    exact loop15 (cl (a 1 3) + 1) 0 (by omega) (by omega) _ _ _ _ _ hM ls (lv_sub hl [0, 1, 2, 3] rfl)
  · exact absurd (by first | exact (in_nat (by decide)).mpr ⟨_, by omega, rfl⟩ | exact (in_nat1 _ (by decide) (by decide)).mpr ⟨_, by omega, by omega, rfl⟩ | exact cow_in hN0 (by omega) | assumption) c_1
set_option maxHeartbeats 400000 in
theorem ca_well_e (f : Nat → Int32) (a : Nat → Nat → Int32) (g : Int32) (he : ¬ jugP (a 1) g) : CmF yX0_well cX0_well 4 [(0, 65, 66, 8)] 2 60 [.int g] f a (-1000000001 : Int32) f (mErr a 1) := by
  refine CmF.ofI (by decide) rfl (Nat.le_of_ble_eq_true rfl) ?_
  intro p l e R s m args below meth c Q D dA h fc wk hd ri rt cw tx nm B S ls hx hb hml hRf hRl hRc hRs htab hts hown hK hI hB hS0 hQ hN hIm hZ hSh hM hl hret hret0
  have hl : lv_has ls 4 [(0, .ref (h 0)), (1, .int g)] := hl
  refine lv_aload_n hx hb dX0_well_0 rfl (lv_at hl 0 rfl) ?_
  refine lv_aload_n hx hb dX0_well_1 rfl (lv_at hl 0 rfl) ?_
  refine lv_iload_n hx hb dX0_well_2 rfl (lv_at hl 1 rfl) ?_
  refine rd_callV (y := yX0_isJug) hx hb hml hown hts hK (ca_isJug D dA h _ _ _ _ _ _ _ _ _ _ g) hM.1 (cAt.recv hK (hM.1 0 _ rfl) rfl) q956 q958 qs16 q61 q959 ndX0_isJug rfl (by rw [hRf]; decide) (by rw [hRl]; decide) (Nat.zero_le _) (Nat.zero_le _) hl.1 rfl (Nat.le_of_ble_eq_true rfl) dX0_well_3 ?_
  refine lv_iconst (v := nI 1) hx hb dX0_well_6 (by decide) ?_
  refine cm_need hx hb hml hown hts hK hI hM htab (hpc := 66) rfl q333 (by rw [hRf]; decide) (by rw [hRl]; decide) (Nat.zero_le _) (Nat.zero_le _) hl.1 (Nat.le_of_ble_eq_true rfl) dX0_well_7 (fun c_1 locs hM => ?_) (fun c_1 H locs hM => ?_)
  · exact absurd c_1 he
  · refine lv_astore_n (lv' := [(2, .ref (h 1)), (0, .ref (h 0)), (1, .int g)]) hx hb dX0_well_66 rfl hl (by decide) rfl (fun ls hl => ?_)
    refine lv_aload_n hx hb dX0_well_67 rfl (lv_at hl 1 rfl) ?_
    refine lv_aload_n hx hb dX0_well_68 rfl (lv_at hl 0 rfl) ?_
    refine cm_fin hx hb hml hown hts hK hI 1 (by decide) hM q341 (by rw [hRf]; decide) (by rw [hRl]; decide) (Nat.zero_le _) (Nat.zero_le _) hl.1 (Nat.le_of_ble_eq_true rfl) dX0_well_69 (fun H locs hM => ?_)
    exact hret0 hM (mwEq.rf) rfl rfl ⟨rfl, rfl, rfl⟩ (by decide) dX0_well_72
