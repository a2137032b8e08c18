/-! a shelf's sheet is put -/
set_option maxRecDepth 100000
section CWI
variable {p : Program} {l : Launch} {e : Env} {R : Room} {s : State} {m : MethodId} {args : Array Value} {below : List Frame} {meth : Method} {c : Code} {H H0 : Heap} {locs : List Loc} {cells slots : Nat} {Q : State → Prop}
variable {cc : ByteArray} {pc : Nat} {ls : Array Slot} {rest : List Value} {D : va_G} {dA : Nat → ClassId} {h : Nat → Nat} {f : Nat → Int32} {a : Nat → Nat → Int32} {fc : Int32} {wk : Nat → Nat → Int32} {hd : Nat → Option Nat} {ri rt : Nat → Int32} {cw tx : Nat → Nat → Option Nat} {nm : Nat → Nat → Int32}
theorem cm_put_held (hx : p.tables.exec = Jvm.exec) (hb : c.code = cc) (hts : ∀ w ∈ lw_all, w.before args s = true) (hown : s.vm.findClass RX0 = some m.cls) (hK : cmK D dA s) (hI : cmI h) (hM : cmH D h dA H0 H locs f a fc wk hd ri rt cw tx nm) (u : Nat) (hu : u < 4) (y : Option Nat) (hdg : decode cc pc = .ok (.putfield 98, 3))
    (kk : ∀ (H1 : Heap) (locs1 : List Loc), cmH D h dA H0 H1 locs1 f a fc wk (va_up hd u y) ri rt cw tx nm → W p l e R s m args below meth c H1 locs1 cells slots Q (F0 m (pc + 3) ls rest)) : W p l e R s m args below meth c H locs cells slots Q (F0 m pc ls (va_rf y :: .ref (h (6 + u)) :: rest)) := by
  have nq := hK.F 2 rfl
  have hn : narrow (tyX5 0) (va_rf y) = va_rf y := by cases y <;> rfl
  have hfit : fits (tyX5 0) (va_rf y) = true := by cases y <;> rfl
  rcases (show u = 0 ∨ u = 1 ∨ u = 2 ∨ u = 3 by omega) with rfl | rfl | rfl | rfl
  · exact g_putN hx hb hts in_X5 tyX5 tyX5_ok nmX5 hown hK hM 6 rfl rfl 0 (by decide) nq rfl rfl hn hfit (Nat.le_of_ble_eq_true rfl) hdg (fun H1 locs1 hM1 => kk H1 locs1 (cmH.of hI hM1.1 hM1.2.2))
  · exact g_putN hx hb hts in_X5 tyX5 tyX5_ok nmX5 hown hK hM 7 rfl rfl 0 (by decide) nq rfl rfl hn hfit (Nat.le_of_ble_eq_true rfl) hdg (fun H1 locs1 hM1 => kk H1 locs1 (cmH.of hI hM1.1 hM1.2.2))
  · exact g_putN hx hb hts in_X5 tyX5 tyX5_ok nmX5 hown hK hM 8 rfl rfl 0 (by decide) nq rfl rfl hn hfit (Nat.le_of_ble_eq_true rfl) hdg (fun H1 locs1 hM1 => kk H1 locs1 (cmH.of hI hM1.1 hM1.2.2))
  · exact g_putN hx hb hts in_X5 tyX5 tyX5_ok nmX5 hown hK hM 9 rfl rfl 0 (by decide) nq rfl rfl hn hfit (Nat.le_of_ble_eq_true rfl) hdg (fun H1 locs1 hM1 => kk H1 locs1 (cmH.of hI hM1.1 hM1.2.2))
end CWI
