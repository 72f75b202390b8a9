/-! WHICH CALL IT IS: printed by wip/D-96246w/gen/gen_x9.py -/
set_option maxRecDepth 100000
theorem pe (u : OT) : u = (u.1, u.2) := rfl
set_option maxHeartbeats 800000 in
theorem cd_ofOffice_letter (l : Launch) (htr : l.stackTraces = false) (D : va_G) (t : Nat → ClassId) (Z : Nat × Cell) (cb : Nat) (B : BT) (x y : Int32) (hB : OkB B) : MetX l yX0_ofOffice (ws_ yX0_ofOffice cX0_ofOffice 4 (some .int)) ({ frames := 10, cells := 3, slots := 21, locals := 188 }) (zPc [.ref cb, .int 0, .int x, .int y] (CW D t Z cb B) (KX D t Z)) (QX D t Z cb (leN B x) (uLet B x) B) 3 21 (cA cb) := by
  refine zOfX (cc := cX0_ofOffice) (maxL := 4) (ret := (some .int)) (by decide) (Nat.le_of_ble_eq_true rfl) (fun pg ev s m below meth cd ls F hnh hW hK hl => ?_)
  obtain ⟨hx, hb, hml, hown, hts, hr, hlk⟩ := F
  have S : CallFix pg m cd cX0_ofOffice 4 s _ lw_all RX0 := ⟨hx, hb, hml, hown, hts⟩
  have hl : lv_has ls 4 [(0, .ref cb), (1, .int 0), (2, .int x), (3, .int y)] := hl
  have hKK := hK.1
  obtain ⟨hC, hD⟩ := hW
  have hS : va_S (fA (cA cb) s) s.heap s.heap [] := va_S.rf
  have hOk := hB.1
  have hd0 := hOk.hr0
  have hd8 := hOk.d8
  have hh3 := hOk.hr3
  have hh6 := hOk.h6
  have hs2 := hOk.hr2
  have hs5 := hOk.s5
  have hX := hOk.X
  refine lv_iload_n hx hb dX0_ofOffice_0 rfl (lv_at hl 1 rfl) ?_
  refine lv_tableIn (off := 47) (tgt := 48) hx hb dX0_ofOffice_1 (by decide +kernel) (by decide +kernel) rfl (by decide) ?_
  refine lv_aload_n hx hb dX0_ofOffice_48 rfl (lv_at hl 0 rfl) ?_
  refine lv_iload_n hx hb dX0_ofOffice_49 rfl (lv_at hl 2 rfl) ?_
  refine xx_X (xx_runV (As := [.int x]) (rest := []) S hK ⟨hC, hD⟩ (hC.recv hKK) (cx_letterIt l htr D t Z cb B x hB) (cwV 1 hts (lw_V q331 q333 qs2 q95 q334) rfl rfl rfl (by decide +kernel) ⟨Nat.le_of_ble_eq_true rfl, Nat.le_of_ble_eq_true rfl⟩) rfl hl.1 rfl (Nat.le_of_ble_eq_true rfl) dX0_ofOffice_50 ⟨Nat.le_of_ble_eq_true rfl, Nat.le_of_ble_eq_true rfl⟩) hS hnh hlk (Nat.le_of_ble_eq_true rfl) (Nat.le_of_ble_eq_true rfl) (fun h => ⟨rfl, rfl⟩) (fun n50 H locs hW hS => ?_)
  obtain ⟨hC, hD⟩ := hW
  exact x_iretX hx hb hr n50 (pe _) ⟨hC, hD⟩ hS (Nat.le_of_ble_eq_true rfl) (Nat.le_of_ble_eq_true rfl) dX0_ofOffice_53 hlk
set_option maxHeartbeats 800000 in
theorem cd_ofOffice_song (l : Launch) (htr : l.stackTraces = false) (D : va_G) (t : Nat → ClassId) (Z : Nat × Cell) (cb : Nat) (B : BT) (x y : Int32) (hB : OkB B) : MetX l yX0_ofOffice (ws_ yX0_ofOffice cX0_ofOffice 4 (some .int)) ({ frames := 11, cells := 2, slots := 14, locals := 207 }) (zPc [.ref cb, .int 2, .int x, .int y] (CW D t Z cb B) (KX D t Z)) (QX D t Z cb (nSong (B 2) x y) (songV (B 2) x y, B) B) 2 14 (cA cb) := by
  refine zOfX (cc := cX0_ofOffice) (maxL := 4) (ret := (some .int)) (by decide) (Nat.le_of_ble_eq_true rfl) (fun pg ev s m below meth cd ls F hnh hW hK hl => ?_)
  obtain ⟨hx, hb, hml, hown, hts, hr, hlk⟩ := F
  have S : CallFix pg m cd cX0_ofOffice 4 s _ lw_all RX0 := ⟨hx, hb, hml, hown, hts⟩
  have hl : lv_has ls 4 [(0, .ref cb), (1, .int 2), (2, .int x), (3, .int y)] := hl
  have hKK := hK.1
  obtain ⟨hC, hD⟩ := hW
  have hS : va_S (fA (cA cb) s) s.heap s.heap [] := va_S.rf
  have hOk := hB.1
  have hd0 := hOk.hr0
  have hd8 := hOk.d8
  have hh3 := hOk.hr3
  have hh6 := hOk.h6
  have hs2 := hOk.hr2
  have hs5 := hOk.s5
  have hX := hOk.X
  refine lv_iload_n hx hb dX0_ofOffice_0 rfl (lv_at hl 1 rfl) ?_
  refine lv_tableIn (off := 58) (tgt := 59) hx hb dX0_ofOffice_1 (by decide +kernel) (by decide +kernel) rfl (by decide) ?_
  refine lv_aload_n hx hb dX0_ofOffice_59 rfl (lv_at hl 0 rfl) ?_
  refine lv_iload_n hx hb dX0_ofOffice_60 rfl (lv_at hl 2 rfl) ?_
  refine lv_iload_n hx hb dX0_ofOffice_61 rfl (lv_at hl 3 rfl) ?_
  refine xx_X (xx_runV (As := [.int x, .int y]) (rest := []) S hK ⟨hC, hD⟩ (hC.recv hKK) (cx_songTold l htr D t Z cb B x y hB) (cwV 2 hts (lw_V q738 q740 qs15 q95 q741) rfl rfl rfl (by decide +kernel) ⟨Nat.le_of_ble_eq_true rfl, Nat.le_of_ble_eq_true rfl⟩) rfl hl.1 rfl (Nat.le_of_ble_eq_true rfl) dX0_ofOffice_62 ⟨Nat.le_of_ble_eq_true rfl, Nat.le_of_ble_eq_true rfl⟩) hS hnh hlk (Nat.le_of_ble_eq_true rfl) (Nat.le_of_ble_eq_true rfl) (fun h => ⟨rfl, rfl⟩) (fun n62 H locs hW hS => ?_)
  obtain ⟨hC, hD⟩ := hW
  exact x_iretX hx hb hr n62 (pe _) ⟨hC, hD⟩ hS (Nat.le_of_ble_eq_true rfl) (Nat.le_of_ble_eq_true rfl) dX0_ofOffice_65 hlk
set_option maxHeartbeats 800000 in
theorem cd_ofOffice_head (l : Launch) (htr : l.stackTraces = false) (D : va_G) (t : Nat → ClassId) (Z : Nat × Cell) (cb : Nat) (B : BT) (x y : Int32) (hB : OkB B) : MetX l yX0_ofOffice (ws_ yX0_ofOffice cX0_ofOffice 4 (some .int)) ({ frames := 11, cells := 2, slots := 14, locals := 206 }) (zPc [.ref cb, .int 3, .int x, .int y] (CW D t Z cb B) (KX D t Z)) (QX D t Z cb (nHead (B 2) x y) (headV (B 2) x y, B) B) 2 14 (cA cb) := by
  refine zOfX (cc := cX0_ofOffice) (maxL := 4) (ret := (some .int)) (by decide) (Nat.le_of_ble_eq_true rfl) (fun pg ev s m below meth cd ls F hnh hW hK hl => ?_)
  obtain ⟨hx, hb, hml, hown, hts, hr, hlk⟩ := F
  have S : CallFix pg m cd cX0_ofOffice 4 s _ lw_all RX0 := ⟨hx, hb, hml, hown, hts⟩
  have hl : lv_has ls 4 [(0, .ref cb), (1, .int 3), (2, .int x), (3, .int y)] := hl
  have hKK := hK.1
  obtain ⟨hC, hD⟩ := hW
  have hS : va_S (fA (cA cb) s) s.heap s.heap [] := va_S.rf
  have hOk := hB.1
  have hd0 := hOk.hr0
  have hd8 := hOk.d8
  have hh3 := hOk.hr3
  have hh6 := hOk.h6
  have hs2 := hOk.hr2
  have hs5 := hOk.s5
  have hX := hOk.X
  refine lv_iload_n hx hb dX0_ofOffice_0 rfl (lv_at hl 1 rfl) ?_
  refine lv_tableIn (off := 65) (tgt := 66) hx hb dX0_ofOffice_1 (by decide +kernel) (by decide +kernel) rfl (by decide) ?_
  refine lv_aload_n hx hb dX0_ofOffice_66 rfl (lv_at hl 0 rfl) ?_
  refine lv_iload_n hx hb dX0_ofOffice_67 rfl (lv_at hl 2 rfl) ?_
  refine lv_iload_n hx hb dX0_ofOffice_68 rfl (lv_at hl 3 rfl) ?_
  refine xx_X (xx_runV (As := [.int x, .int y]) (rest := []) S hK ⟨hC, hD⟩ (hC.recv hKK) (cx_headTold l htr D t Z cb B x y hB) (cwV 2 hts (lw_V q777 q779 qs17 q95 q780) rfl rfl rfl (by decide +kernel) ⟨Nat.le_of_ble_eq_true rfl, Nat.le_of_ble_eq_true rfl⟩) rfl hl.1 rfl (Nat.le_of_ble_eq_true rfl) dX0_ofOffice_69 ⟨Nat.le_of_ble_eq_true rfl, Nat.le_of_ble_eq_true rfl⟩) hS hnh hlk (Nat.le_of_ble_eq_true rfl) (Nat.le_of_ble_eq_true rfl) (fun h => ⟨rfl, rfl⟩) (fun n69 H locs hW hS => ?_)
  obtain ⟨hC, hD⟩ := hW
  exact x_iretX hx hb hr n69 (pe _) ⟨hC, hD⟩ hS (Nat.le_of_ble_eq_true rfl) (Nat.le_of_ble_eq_true rfl) dX0_ofOffice_72 hlk
set_option maxHeartbeats 800000 in
theorem cd_ofOffice_near (l : Launch) (htr : l.stackTraces = false) (D : va_G) (t : Nat → ClassId) (Z : Nat × Cell) (cb : Nat) (B : BT) (x y : Int32) (hB : OkB B) : MetX l yX0_ofOffice (ws_ yX0_ofOffice cX0_ofOffice 4 (some .int)) ({ frames := 11, cells := 1, slots := 7, locals := 207 }) (zPc [.ref cb, .int 4, .int x, .int y] (CW D t Z cb B) (KX D t Z)) (QX D t Z cb (nNear (B 2) x) (neB (B 2) (ix x) (nH (B 2)), B) B) 1 7 (cA cb) := by
  refine zOfX (cc := cX0_ofOffice) (maxL := 4) (ret := (some .int)) (by decide) (Nat.le_of_ble_eq_true rfl) (fun pg ev s m below meth cd ls F hnh hW hK hl => ?_)
  obtain ⟨hx, hb, hml, hown, hts, hr, hlk⟩ := F
  have S : CallFix pg m cd cX0_ofOffice 4 s _ lw_all RX0 := ⟨hx, hb, hml, hown, hts⟩
  have hl : lv_has ls 4 [(0, .ref cb), (1, .int 4), (2, .int x), (3, .int y)] := hl
  have hKK := hK.1
  obtain ⟨hC, hD⟩ := hW
  have hS : va_S (fA (cA cb) s) s.heap s.heap [] := va_S.rf
  have hOk := hB.1
  have hd0 := hOk.hr0
  have hd8 := hOk.d8
  have hh3 := hOk.hr3
  have hh6 := hOk.h6
  have hs2 := hOk.hr2
  have hs5 := hOk.s5
  have hX := hOk.X
  refine lv_iload_n hx hb dX0_ofOffice_0 rfl (lv_at hl 1 rfl) ?_
  refine lv_tableIn (off := 72) (tgt := 73) hx hb dX0_ofOffice_1 (by decide +kernel) (by decide +kernel) rfl (by decide) ?_
  refine lv_aload_n hx hb dX0_ofOffice_73 rfl (lv_at hl 0 rfl) ?_
  refine lv_iload_n hx hb dX0_ofOffice_74 rfl (lv_at hl 2 rfl) ?_
  refine xx_X (xx_runV (As := [.int x]) (rest := []) S hK ⟨hC, hD⟩ (hC.recv hKK) (cx_nearTold l htr D t Z cb B x hB) (cwV 1 hts (lw_V q855 q857 qs19 q95 q858) rfl rfl rfl (by decide +kernel) ⟨Nat.le_of_ble_eq_true rfl, Nat.le_of_ble_eq_true rfl⟩) rfl hl.1 rfl (Nat.le_of_ble_eq_true rfl) dX0_ofOffice_75 ⟨Nat.le_of_ble_eq_true rfl, Nat.le_of_ble_eq_true rfl⟩) hS hnh hlk (Nat.le_of_ble_eq_true rfl) (Nat.le_of_ble_eq_true rfl) (fun h => ⟨rfl, rfl⟩) (fun n75 H locs hW hS => ?_)
  obtain ⟨hC, hD⟩ := hW
  exact x_iretX hx hb hr n75 (pe _) ⟨hC, hD⟩ hS (Nat.le_of_ble_eq_true rfl) (Nat.le_of_ble_eq_true rfl) dX0_ofOffice_78 hlk
set_option maxHeartbeats 800000 in
theorem cd_ofOffice_go (l : Launch) (htr : l.stackTraces = false) (D : va_G) (t : Nat → ClassId) (Z : Nat × Cell) (cb : Nat) (B : BT) (x y : Int32) (hB : OkB B) : MetX l yX0_ofOffice (ws_ yX0_ofOffice cX0_ofOffice 4 (some .int)) ({ frames := 11, cells := 2, slots := 14, locals := 207 }) (zPc [.ref cb, .int 6, .int x, .int y] (CW D t Z cb B) (KX D t Z)) (QX D t Z cb (nGo (B 2) x y) (uGo B x y) B) 2 14 (cA cb) := by
  refine zOfX (cc := cX0_ofOffice) (maxL := 4) (ret := (some .int)) (by decide) (Nat.le_of_ble_eq_true rfl) (fun pg ev s m below meth cd ls F hnh hW hK hl => ?_)
  obtain ⟨hx, hb, hml, hown, hts, hr, hlk⟩ := F
  have S : CallFix pg m cd cX0_ofOffice 4 s _ lw_all RX0 := ⟨hx, hb, hml, hown, hts⟩
  have hl : lv_has ls 4 [(0, .ref cb), (1, .int 6), (2, .int x), (3, .int y)] := hl
  have hKK := hK.1
  obtain ⟨hC, hD⟩ := hW
  have hS : va_S (fA (cA cb) s) s.heap s.heap [] := va_S.rf
  have hOk := hB.1
  have hd0 := hOk.hr0
  have hd8 := hOk.d8
  have hh3 := hOk.hr3
  have hh6 := hOk.h6
  have hs2 := hOk.hr2
  have hs5 := hOk.s5
  have hX := hOk.X
  refine lv_iload_n hx hb dX0_ofOffice_0 rfl (lv_at hl 1 rfl) ?_
  refine lv_tableIn (off := 124) (tgt := 125) hx hb dX0_ofOffice_1 (by decide +kernel) (by decide +kernel) rfl (by decide) ?_
  refine lv_aload_n hx hb dX0_ofOffice_125 rfl (lv_at hl 0 rfl) ?_
  refine lv_iload_n hx hb dX0_ofOffice_126 rfl (lv_at hl 2 rfl) ?_
  refine lv_iload_n hx hb dX0_ofOffice_127 rfl (lv_at hl 3 rfl) ?_
  refine xx_X (xx_runV (As := [.int x, .int y]) (rest := []) S hK ⟨hC, hD⟩ (hC.recv hKK) (cx_goIt l htr D t Z cb B x y hB) (cwV 2 hts (lw_V q871 q873 qs20 q95 q874) rfl rfl rfl (by decide +kernel) ⟨Nat.le_of_ble_eq_true rfl, Nat.le_of_ble_eq_true rfl⟩) rfl hl.1 rfl (Nat.le_of_ble_eq_true rfl) dX0_ofOffice_128 ⟨Nat.le_of_ble_eq_true rfl, Nat.le_of_ble_eq_true rfl⟩) hS hnh hlk (Nat.le_of_ble_eq_true rfl) (Nat.le_of_ble_eq_true rfl) (fun h => ⟨rfl, rfl⟩) (fun n128 H locs hW hS => ?_)
  obtain ⟨hC, hD⟩ := hW
  exact x_iretX hx hb hr n128 (pe _) ⟨hC, hD⟩ hS (Nat.le_of_ble_eq_true rfl) (Nat.le_of_ble_eq_true rfl) dX0_ofOffice_131 hlk
set_option maxHeartbeats 800000 in
theorem cd_ofOffice_get (l : Launch) (htr : l.stackTraces = false) (D : va_G) (t : Nat → ClassId) (Z : Nat × Cell) (cb : Nat) (B : BT) (x y : Int32) (hB : OkB B) : MetX l yX0_ofOffice (ws_ yX0_ofOffice cX0_ofOffice 4 (some .int)) ({ frames := 11, cells := 2, slots := 14, locals := 207 }) (zPc [.ref cb, .int 7, .int x, .int y] (CW D t Z cb B) (KX D t Z)) (QX D t Z cb (nGet (B 2) x y) (uGet B x y) B) 2 14 (cA cb) := by
  refine zOfX (cc := cX0_ofOffice) (maxL := 4) (ret := (some .int)) (by decide) (Nat.le_of_ble_eq_true rfl) (fun pg ev s m below meth cd ls F hnh hW hK hl => ?_)
  obtain ⟨hx, hb, hml, hown, hts, hr, hlk⟩ := F
  have S : CallFix pg m cd cX0_ofOffice 4 s _ lw_all RX0 := ⟨hx, hb, hml, hown, hts⟩
  have hl : lv_has ls 4 [(0, .ref cb), (1, .int 7), (2, .int x), (3, .int y)] := hl
  have hKK := hK.1
  obtain ⟨hC, hD⟩ := hW
  have hS : va_S (fA (cA cb) s) s.heap s.heap [] := va_S.rf
  have hOk := hB.1
  have hd0 := hOk.hr0
  have hd8 := hOk.d8
  have hh3 := hOk.hr3
  have hh6 := hOk.h6
  have hs2 := hOk.hr2
  have hs5 := hOk.s5
  have hX := hOk.X
  refine lv_iload_n hx hb dX0_ofOffice_0 rfl (lv_at hl 1 rfl) ?_
  refine lv_tableIn (off := 131) (tgt := 132) hx hb dX0_ofOffice_1 (by decide +kernel) (by decide +kernel) rfl (by decide) ?_
  refine lv_aload_n hx hb dX0_ofOffice_132 rfl (lv_at hl 0 rfl) ?_
  refine lv_iload_n hx hb dX0_ofOffice_133 rfl (lv_at hl 2 rfl) ?_
  refine lv_iload_n hx hb dX0_ofOffice_134 rfl (lv_at hl 3 rfl) ?_
  refine xx_X (xx_runV (As := [.int x, .int y]) (rest := []) S hK ⟨hC, hD⟩ (hC.recv hKK) (cx_getIt l htr D t Z cb B x y hB) (cwV 2 hts (lw_V q875 q877 qs21 q95 q878) rfl rfl rfl (by decide +kernel) ⟨Nat.le_of_ble_eq_true rfl, Nat.le_of_ble_eq_true rfl⟩) rfl hl.1 rfl (Nat.le_of_ble_eq_true rfl) dX0_ofOffice_135 ⟨Nat.le_of_ble_eq_true rfl, Nat.le_of_ble_eq_true rfl⟩) hS hnh hlk (Nat.le_of_ble_eq_true rfl) (Nat.le_of_ble_eq_true rfl) (fun h => ⟨rfl, rfl⟩) (fun n135 H locs hW hS => ?_)
  obtain ⟨hC, hD⟩ := hW
  exact x_iretX hx hb hr n135 (pe _) ⟨hC, hD⟩ hS (Nat.le_of_ble_eq_true rfl) (Nat.le_of_ble_eq_true rfl) dX0_ofOffice_138 hlk
theorem isDo_ix {r : RT} {N : Nat} (h : Ok r N) {x : Int32} (c : isI x (r 0) = true) : x = nI (ix x) ∧ ix x < nD r := by
  have c := of_decide_eq_true c
  rw [h.hr0] at c
  exact ix_of c.1 c.2 (by have := h.d8; omega)
theorem door_v2 {r : RT} {x : Int32} (h8 : nD r ≤ 8) (hx : x = nI (ix x) ∧ ix x < nD r) : (if decide ((shS (upd r 1 (doorX r x)) >>> (x &&& 31)) &&& 1 = 1) = true then (0 : Int32) else 1) = (doorX r x >>> (x &&& 31)) &&& 1 := by
  rw [hx.1]; exact door_v h8 hx.2
set_option maxHeartbeats 800000 in
theorem cd_ofOffice_door (l : Launch) (htr : l.stackTraces = false) (D : va_G) (t : Nat → ClassId) (Z : Nat × Cell) (cb : Nat) (B : BT) (x y : Int32) (hB : OkB B) : MetX l yX0_ofOffice (ws_ yX0_ofOffice cX0_ofOffice 4 (some .int)) ({ frames := 9, cells := 1, slots := 7, locals := 163 }) (zPc [.ref cb, .int 5, .int x, .int y] (CW D t Z cb B) (KX D t Z)) (QX D t Z cb (nDoor (B 2) x) (uDoor B x) B) 1 7 (cA cb) := by
  refine zOfX (cc := cX0_ofOffice) (maxL := 4) (ret := (some .int)) (by decide) (Nat.le_of_ble_eq_true rfl) (fun pg ev s m below meth cd ls F hnh hW hK hl => ?_)
  obtain ⟨hx, hb, hml, hown, hts, hr, hlk⟩ := F
  have S : CallFix pg m cd cX0_ofOffice 4 s _ lw_all RX0 := ⟨hx, hb, hml, hown, hts⟩
  have hl : lv_has ls 4 [(0, .ref cb), (1, .int 5), (2, .int x), (3, .int y)] := hl
  have hKK := hK.1
  obtain ⟨hC, hD⟩ := hW
  have hS : va_S (fA (cA cb) s) s.heap s.heap [] := va_S.rf
  have hOk := hB.1
  have hd0 := hOk.hr0
  have hd8 := hOk.d8
  have hh3 := hOk.hr3
  have hh6 := hOk.h6
  have hs2 := hOk.hr2
  have hs5 := hOk.s5
  have hX := hOk.X
  refine lv_iload_n hx hb dX0_ofOffice_0 rfl (lv_at hl 1 rfl) ?_
  refine lv_tableIn (off := 78) (tgt := 79) hx hb dX0_ofOffice_1 (by decide +kernel) (by decide +kernel) rfl (by decide) ?_
  refine lv_iload_n hx hb dX0_ofOffice_79 rfl (lv_at hl 2 rfl) ?_
  refine lv_aload_n hx hb dX0_ofOffice_80 rfl (lv_at hl 0 rfl) ?_
  refine c_xget (v := .ref (cb + 8)) hx hb hts hown hKK hC 1 (by decide) (Or.inl q284) rfl rfl dX0_ofOffice_81 ?_
  refine c_oget (v := .int ((B 2) 0)) hx hb hts hown hKK hC 0 (by decide) (Or.inr ⟨_, q193⟩) rfl (fun _ => rfl) dX0_ofOffice_84 ?_
  refine xm_X (xx_runS (As := [.int x, .int ((B 2) 0)]) (rest := []) S hK hC.1.2.1 (cx_mustBe l htr D t Z x (B 2 0) (nD (B 2)) hd0 (by omega)) (va_cwS 2 hts (lw_S q746 q747 q95 q748) rfl rfl rfl (by decide +kernel) ⟨Nat.le_of_ble_eq_true rfl, Nat.le_of_ble_eq_true rfl⟩) rfl hl.1 rfl (Nat.le_of_ble_eq_true rfl) dX0_ofOffice_87 ⟨Nat.le_of_ble_eq_true rfl, Nat.le_of_ble_eq_true rfl⟩) hS hnh hlk (Nat.le_of_ble_eq_true rfl) (Nat.le_of_ble_eq_true rfl) ⟨hC, hD⟩ (fun h => rfl) (fun n87 locs hS => ?_)
  have hhx := isDo_ix hOk (if0 (by decide) n87)
  refine lv_aload_n hx hb dX0_ofOffice_90 rfl (lv_at hl 0 rfl) ?_
  refine c_xget (v := .ref (cb + 8)) hx hb hts hown hKK hC 1 (by decide) (Or.inl q284) rfl rfl dX0_ofOffice_91 ?_
  refine lv_dup hx hb dX0_ofOffice_94 rfl ?_
  refine c_oget (v := .int (shS (B 2))) hx hb hts hown hKK hC 3 (by decide) (Or.inr ⟨_, q200⟩) rfl (fun _ => rfl) dX0_ofOffice_95 ?_
  refine lv_iconst (v := 1) hx hb dX0_ofOffice_98 (by decide) ?_
  refine lv_iload_n hx hb dX0_ofOffice_99 rfl (lv_at hl 2 rfl) ?_
  refine lv_ishl hx hb dX0_ofOffice_100 ?_
  refine lv_ixor hx hb dX0_ofOffice_101 ?_
  refine z_top (y := shS (B 2) ^^^ (1 <<< (x &&& 31))) rfl ?_
  obtain ⟨sgO, kdO, AO, hV⟩ := hC.2.2.1
  refine o_putr hx hb hts hown hKK hV.1 (fun q h => fO h) hS 3 1 (by decide) (Or.inr ⟨_, q200⟩) rfl rfl (by decide +kernel) rfl dX0_ofOffice_102 (fun H locs hP1 _ hq hS => ?_)
  have hV := hV.put (by omega) (by omega) (OR_congr (oC_one (shS_dx (r := B 2) (x := x))) hP1) (fun q _ h => hq q h) SK_1
  have hW := CW.off (⟨hC, hD⟩ : CW D t Z cb B _) hV (fun q _ h => hq q h)
  obtain ⟨hC, hD⟩ := hW
  refine lv_aload_n hx hb dX0_ofOffice_105 rfl (lv_at hl 0 rfl) ?_
  refine c_xget (v := .ref (cb + 8)) hx hb hts hown hKK hC 1 (by decide) (Or.inl q284) rfl rfl dX0_ofOffice_106 ?_
  refine c_oget (v := .int (shS ((upc B 2 (upd (B 2) 1 (doorX (B 2) x))) 2))) hx hb hts hown hKK hC 3 (by decide) (Or.inr ⟨_, q200⟩) rfl (fun _ => rfl) dX0_ofOffice_109 ?_
  refine lv_iload_n hx hb dX0_ofOffice_112 rfl (lv_at hl 2 rfl) ?_
  refine g_r (g_runS (As := [.int (shS ((upc B 2 (upd (B 2) 1 (doorX (B 2) x))) 2)), .int x]) (rest := []) S hKK trivial (co_X0_has l D t (shS ((upc B 2 (upd (B 2) 1 (doorX (B 2) x))) 2)) x) (va_cwS 2 hts (lw_S q870 q868 q95 q869) rfl rfl rfl (by decide +kernel) ⟨Nat.le_of_ble_eq_true rfl, Nat.le_of_ble_eq_true rfl⟩) rfl hl.1 rfl (Nat.le_of_ble_eq_true rfl) dX0_ofOffice_113 ⟨Nat.le_of_ble_eq_true rfl, Nat.le_of_ble_eq_true rfl⟩) ?_
  refine z_ifeq (tgt := 123) hx hb dX0_ofOffice_116 (by decide) (fun c116 => ?_) (fun c116 => ?_)
  · refine lv_iconst (v := 1) hx hb dX0_ofOffice_123 (by decide) ?_
    exact x_iretX hx hb hr n87 (by unfold uDoor; rw [← door_v2 hd8 hhx, if_neg (by rw [show decide ((shS (upd (B 2) 1 (doorX (B 2) x)) >>> (x &&& 31)) &&& 1 = 1) = false from c116]; decide)]; rfl) ⟨hC, hD⟩ hS (Nat.le_of_ble_eq_true rfl) (Nat.le_of_ble_eq_true rfl) dX0_ofOffice_124 hlk
  · refine lv_iconst (v := 0) hx hb dX0_ofOffice_119 (by decide) ?_
    refine lv_goto (tgt := 124) hx hb dX0_ofOffice_120 (by decide) ?_
    exact x_iretX hx hb hr n87 (by unfold uDoor; rw [← door_v2 hd8 hhx, if_pos (show decide ((shS (upd (B 2) 1 (doorX (B 2) x)) >>> (x &&& 31)) &&& 1 = 1) = true from c116)]; rfl) ⟨hC, hD⟩ hS (Nat.le_of_ble_eq_true rfl) (Nat.le_of_ble_eq_true rfl) dX0_ofOffice_124 hlk
theorem ge999 {r : RT} (h : Ok r 999) (c : ¬ r 4 < 999) : r 4 = 999 := by
  have h4 := h.2.2.2.1
  rw [h4.1] at c ⊢
  rcases Nat.lt_or_ge (nT r) 999 with q | q
  · exact absurd (nI_lt q (by decide)) c
  · rw [show nT r = 999 by omega]; rfl
set_option maxHeartbeats 800000 in
theorem cd_ofOfficeToo_remedy (l : Launch) (htr : l.stackTraces = false) (D : va_G) (t : Nat → ClassId) (Z : Nat × Cell) (cb : Nat) (B : BT) (x y : Int32) (hB : OkB B) : MetX l yX0_ofOfficeToo (ws_ yX0_ofOfficeToo cX0_ofOfficeToo 4 (some .int)) ({ frames := 11, cells := 3, slots := 21, locals := 206 }) (zPc [.ref cb, .int 8, .int x, .int y] (CW D t Z cb B) (KX D t Z)) (QX D t Z cb (reN (B 2) x y) (uRem B x y) B) 3 21 (cA cb) := by
  refine zOfX (cc := cX0_ofOfficeToo) (maxL := 4) (ret := (some .int)) (by decide) (Nat.le_of_ble_eq_true rfl) (fun pg ev s m below meth cd ls F hnh hW hK hl => ?_)
  obtain ⟨hx, hb, hml, hown, hts, hr, hlk⟩ := F
  have S : CallFix pg m cd cX0_ofOfficeToo 4 s _ lw_all RX0 := ⟨hx, hb, hml, hown, hts⟩
  have hl : lv_has ls 4 [(0, .ref cb), (1, .int 8), (2, .int x), (3, .int y)] := hl
  have hKK := hK.1
  obtain ⟨hC, hD⟩ := hW
  have hS : va_S (fA (cA cb) s) s.heap s.heap [] := va_S.rf
  have hOk := hB.1
  have hd0 := hOk.hr0
  have hd8 := hOk.d8
  have hh3 := hOk.hr3
  have hh6 := hOk.h6
  have hs2 := hOk.hr2
  have hs5 := hOk.s5
  have hX := hOk.X
  refine lv_iload_n hx hb dX0_ofOfficeToo_0 rfl (lv_at hl 1 rfl) ?_
  refine lv_lookup (off := 27) (tgt := 28) hx hb dX0_ofOfficeToo_1 (by decide) (by decide +kernel) (by decide) ?_
  refine lv_aload_n hx hb dX0_ofOfficeToo_28 rfl (lv_at hl 0 rfl) ?_
  refine lv_iload_n hx hb dX0_ofOfficeToo_29 rfl (lv_at hl 2 rfl) ?_
  refine lv_iload_n hx hb dX0_ofOfficeToo_30 rfl (lv_at hl 3 rfl) ?_
  refine xx_X (xx_runV (As := [.int x, .int y]) (rest := []) S hK ⟨hC, hD⟩ (hC.recv hKK) (cx_remedyIt l htr D t Z cb B x y hB) (cwV 2 hts (lw_V q889 q891 qs24 q95 q892) rfl rfl rfl (by decide +kernel) ⟨Nat.le_of_ble_eq_true rfl, Nat.le_of_ble_eq_true rfl⟩) rfl hl.1 rfl (Nat.le_of_ble_eq_true rfl) dX0_ofOfficeToo_31 ⟨Nat.le_of_ble_eq_true rfl, Nat.le_of_ble_eq_true rfl⟩) hS hnh hlk (Nat.le_of_ble_eq_true rfl) (Nat.le_of_ble_eq_true rfl) (fun h => ⟨rfl, rfl⟩) (fun n31 H locs hW hS => ?_)
  obtain ⟨hC, hD⟩ := hW
  exact x_iretX hx hb hr n31 (pe _) ⟨hC, hD⟩ hS (Nat.le_of_ble_eq_true rfl) (Nat.le_of_ble_eq_true rfl) dX0_ofOfficeToo_34 hlk
set_option maxHeartbeats 800000 in
theorem cd_ofOffice_remedy (l : Launch) (htr : l.stackTraces = false) (D : va_G) (t : Nat → ClassId) (Z : Nat × Cell) (cb : Nat) (B : BT) (x y : Int32) (hB : OkB B) : MetX l yX0_ofOffice (ws_ yX0_ofOffice cX0_ofOffice 4 (some .int)) ({ frames := 12, cells := 3, slots := 21, locals := 229 }) (zPc [.ref cb, .int 8, .int x, .int y] (CW D t Z cb B) (KX D t Z)) (QX D t Z cb (reN (B 2) x y) (uRem B x y) B) 3 21 (cA cb) := by
  refine zOfX (cc := cX0_ofOffice) (maxL := 4) (ret := (some .int)) (by decide) (Nat.le_of_ble_eq_true rfl) (fun pg ev s m below meth cd ls F hnh hW hK hl => ?_)
  obtain ⟨hx, hb, hml, hown, hts, hr, hlk⟩ := F
  have S : CallFix pg m cd cX0_ofOffice 4 s _ lw_all RX0 := ⟨hx, hb, hml, hown, hts⟩
  have hl : lv_has ls 4 [(0, .ref cb), (1, .int 8), (2, .int x), (3, .int y)] := hl
  have hKK := hK.1
  obtain ⟨hC, hD⟩ := hW
  have hS : va_S (fA (cA cb) s) s.heap s.heap [] := va_S.rf
  have hOk := hB.1
  have hd0 := hOk.hr0
  have hd8 := hOk.d8
  have hh3 := hOk.hr3
  have hh6 := hOk.h6
  have hs2 := hOk.hr2
  have hs5 := hOk.s5
  have hX := hOk.X
  refine lv_iload_n hx hb dX0_ofOffice_0 rfl (lv_at hl 1 rfl) ?_
  refine lv_tableOut (tgt := 139) hx hb dX0_ofOffice_1 (Or.inr (by decide +kernel)) (by decide) ?_
  refine lv_aload_n hx hb dX0_ofOffice_139 rfl (lv_at hl 0 rfl) ?_
  refine lv_iload_n hx hb dX0_ofOffice_140 rfl (lv_at hl 1 rfl) ?_
  refine lv_iload_n hx hb dX0_ofOffice_141 rfl (lv_at hl 2 rfl) ?_
  refine lv_iload_n hx hb dX0_ofOffice_142 rfl (lv_at hl 3 rfl) ?_
  refine xx_X (xx_runV (As := [.int 8, .int x, .int y]) (rest := []) S hK ⟨hC, hD⟩ (hC.recv hKK) (cd_ofOfficeToo_remedy l htr D t Z cb B x y hB) (cwV 3 hts (lw_V q885 q887 qs23 q95 q888) rfl rfl rfl (by decide +kernel) ⟨Nat.le_of_ble_eq_true rfl, Nat.le_of_ble_eq_true rfl⟩) rfl hl.1 rfl (Nat.le_of_ble_eq_true rfl) dX0_ofOffice_143 ⟨Nat.le_of_ble_eq_true rfl, Nat.le_of_ble_eq_true rfl⟩) hS hnh hlk (Nat.le_of_ble_eq_true rfl) (Nat.le_of_ble_eq_true rfl) (fun h => ⟨rfl, rfl⟩) (fun n143 H locs hW hS => ?_)
  obtain ⟨hC, hD⟩ := hW
  exact x_iretX hx hb hr n143 (pe _) ⟨hC, hD⟩ hS (Nat.le_of_ble_eq_true rfl) (Nat.le_of_ble_eq_true rfl) dX0_ofOffice_146 hlk
set_option maxHeartbeats 800000 in
theorem cd_ofOfficeToo_loud (l : Launch) (htr : l.stackTraces = false) (D : va_G) (t : Nat → ClassId) (Z : Nat × Cell) (cb : Nat) (B : BT) (x y : Int32) (hB : OkB B) : MetX l yX0_ofOfficeToo (ws_ yX0_ofOfficeToo cX0_ofOfficeToo 4 (some .int)) ({ frames := 10, cells := 2, slots := 14, locals := 189 }) (zPc [.ref cb, .int 9, .int x, .int y] (CW D t Z cb B) (KX D t Z)) (QX D t Z cb (wiS x 1 20) (uLoud B x) B) 2 14 (cA cb) := by
  refine zOfX (cc := cX0_ofOfficeToo) (maxL := 4) (ret := (some .int)) (by decide) (Nat.le_of_ble_eq_true rfl) (fun pg ev s m below meth cd ls F hnh hW hK hl => ?_)
  obtain ⟨hx, hb, hml, hown, hts, hr, hlk⟩ := F
  have S : CallFix pg m cd cX0_ofOfficeToo 4 s _ lw_all RX0 := ⟨hx, hb, hml, hown, hts⟩
  have hl : lv_has ls 4 [(0, .ref cb), (1, .int 9), (2, .int x), (3, .int y)] := hl
  have hKK := hK.1
  obtain ⟨hC, hD⟩ := hW
  have hS : va_S (fA (cA cb) s) s.heap s.heap [] := va_S.rf
  have hOk := hB.1
  have hd0 := hOk.hr0
  have hd8 := hOk.d8
  have hh3 := hOk.hr3
  have hh6 := hOk.h6
  have hs2 := hOk.hr2
  have hs5 := hOk.s5
  have hX := hOk.X
  refine lv_iload_n hx hb dX0_ofOfficeToo_0 rfl (lv_at hl 1 rfl) ?_
  refine lv_lookup (off := 34) (tgt := 35) hx hb dX0_ofOfficeToo_1 (by decide) (by decide +kernel) (by decide) ?_
  refine lv_aload_n hx hb dX0_ofOfficeToo_35 rfl (lv_at hl 0 rfl) ?_
  refine lv_iload_n hx hb dX0_ofOfficeToo_36 rfl (lv_at hl 2 rfl) ?_
  refine xx_X (xx_runV (As := [.int x]) (rest := []) S hK ⟨hC, hD⟩ (hC.recv hKK) (cx_loudTold l htr D t Z cb B x hB) (cwV 1 hts (lw_V q905 q907 qs25 q95 q908) rfl rfl rfl (by decide +kernel) ⟨Nat.le_of_ble_eq_true rfl, Nat.le_of_ble_eq_true rfl⟩) rfl hl.1 rfl (Nat.le_of_ble_eq_true rfl) dX0_ofOfficeToo_37 ⟨Nat.le_of_ble_eq_true rfl, Nat.le_of_ble_eq_true rfl⟩) hS hnh hlk (Nat.le_of_ble_eq_true rfl) (Nat.le_of_ble_eq_true rfl) (fun h => ⟨rfl, rfl⟩) (fun n37 H locs hW hS => ?_)
  obtain ⟨hC, hD⟩ := hW
  exact x_iretX hx hb hr n37 (pe _) ⟨hC, hD⟩ hS (Nat.le_of_ble_eq_true rfl) (Nat.le_of_ble_eq_true rfl) dX0_ofOfficeToo_40 hlk
set_option maxHeartbeats 800000 in
theorem cd_ofOffice_loud (l : Launch) (htr : l.stackTraces = false) (D : va_G) (t : Nat → ClassId) (Z : Nat × Cell) (cb : Nat) (B : BT) (x y : Int32) (hB : OkB B) : MetX l yX0_ofOffice (ws_ yX0_ofOffice cX0_ofOffice 4 (some .int)) ({ frames := 11, cells := 2, slots := 14, locals := 212 }) (zPc [.ref cb, .int 9, .int x, .int y] (CW D t Z cb B) (KX D t Z)) (QX D t Z cb (wiS x 1 20) (uLoud B x) B) 2 14 (cA cb) := by
  refine zOfX (cc := cX0_ofOffice) (maxL := 4) (ret := (some .int)) (by decide) (Nat.le_of_ble_eq_true rfl) (fun pg ev s m below meth cd ls F hnh hW hK hl => ?_)
  obtain ⟨hx, hb, hml, hown, hts, hr, hlk⟩ := F
  have S : CallFix pg m cd cX0_ofOffice 4 s _ lw_all RX0 := ⟨hx, hb, hml, hown, hts⟩
  have hl : lv_has ls 4 [(0, .ref cb), (1, .int 9), (2, .int x), (3, .int y)] := hl
  have hKK := hK.1
  obtain ⟨hC, hD⟩ := hW
  have hS : va_S (fA (cA cb) s) s.heap s.heap [] := va_S.rf
  have hOk := hB.1
  have hd0 := hOk.hr0
  have hd8 := hOk.d8
  have hh3 := hOk.hr3
  have hh6 := hOk.h6
  have hs2 := hOk.hr2
  have hs5 := hOk.s5
  have hX := hOk.X
  refine lv_iload_n hx hb dX0_ofOffice_0 rfl (lv_at hl 1 rfl) ?_
  refine lv_tableOut (tgt := 139) hx hb dX0_ofOffice_1 (Or.inr (by decide +kernel)) (by decide) ?_
  refine lv_aload_n hx hb dX0_ofOffice_139 rfl (lv_at hl 0 rfl) ?_
  refine lv_iload_n hx hb dX0_ofOffice_140 rfl (lv_at hl 1 rfl) ?_
  refine lv_iload_n hx hb dX0_ofOffice_141 rfl (lv_at hl 2 rfl) ?_
  refine lv_iload_n hx hb dX0_ofOffice_142 rfl (lv_at hl 3 rfl) ?_
  refine xx_X (xx_runV (As := [.int 9, .int x, .int y]) (rest := []) S hK ⟨hC, hD⟩ (hC.recv hKK) (cd_ofOfficeToo_loud l htr D t Z cb B x y hB) (cwV 3 hts (lw_V q885 q887 qs23 q95 q888) rfl rfl rfl (by decide +kernel) ⟨Nat.le_of_ble_eq_true rfl, Nat.le_of_ble_eq_true rfl⟩) rfl hl.1 rfl (Nat.le_of_ble_eq_true rfl) dX0_ofOffice_143 ⟨Nat.le_of_ble_eq_true rfl, Nat.le_of_ble_eq_true rfl⟩) hS hnh hlk (Nat.le_of_ble_eq_true rfl) (Nat.le_of_ble_eq_true rfl) (fun h => ⟨rfl, rfl⟩) (fun n143 H locs hW hS => ?_)
  obtain ⟨hC, hD⟩ := hW
  exact x_iretX hx hb hr n143 (pe _) ⟨hC, hD⟩ hS (Nat.le_of_ble_eq_true rfl) (Nat.le_of_ble_eq_true rfl) dX0_ofOffice_146 hlk
set_option maxHeartbeats 800000 in
theorem cd_ofOfficeToo_hour (l : Launch) (htr : l.stackTraces = false) (D : va_G) (t : Nat → ClassId) (Z : Nat × Cell) (cb : Nat) (B : BT) (x y : Int32) (hB : OkB B) : MetX l yX0_ofOfficeToo (ws_ yX0_ofOfficeToo cX0_ofOfficeToo 4 (some .int)) ({ frames := 8, cells := 1, slots := 7, locals := 142 }) (zPc [.ref cb, .int 10, .int x, .int y] (CW D t Z cb B) (KX D t Z)) (QX D t Z cb (nHour (B 2)) (uHour B) B) 1 7 (cA cb) := by
  refine zOfX (cc := cX0_ofOfficeToo) (maxL := 4) (ret := (some .int)) (by decide) (Nat.le_of_ble_eq_true rfl) (fun pg ev s m below meth cd ls F hnh hW hK hl => ?_)
  obtain ⟨hx, hb, hml, hown, hts, hr, hlk⟩ := F
  have S : CallFix pg m cd cX0_ofOfficeToo 4 s _ lw_all RX0 := ⟨hx, hb, hml, hown, hts⟩
  have hl : lv_has ls 4 [(0, .ref cb), (1, .int 10), (2, .int x), (3, .int y)] := hl
  have hKK := hK.1
  obtain ⟨hC, hD⟩ := hW
  have hS : va_S (fA (cA cb) s) s.heap s.heap [] := va_S.rf
  have hOk := hB.1
  have hd0 := hOk.hr0
  have hd8 := hOk.d8
  have hh3 := hOk.hr3
  have hh6 := hOk.h6
  have hs2 := hOk.hr2
  have hs5 := hOk.s5
  have hX := hOk.X
  refine lv_iload_n hx hb dX0_ofOfficeToo_0 rfl (lv_at hl 1 rfl) ?_
  refine lv_lookup (off := 40) (tgt := 41) hx hb dX0_ofOfficeToo_1 (by decide) (by decide +kernel) (by decide) ?_
  refine W.join (fun vJ => F0 m 59 ls (.int vJ :: [])) (fun vJ => vJ = bI (decide (B 2 4 < 999))) (fun vJ hJ => ?_) (fun J => ?_)
  · subst hJ
    refine lv_bipush (v := (-6)) hx hb dX0_ofOfficeToo_59 (by decide) ?_
    refine xm_X (xx_runS (As := [.int (bI (decide (B 2 4 < 999))), .int (-6)]) (rest := []) S hK hC.1.2.1 (cx_must l htr D t Z (decide (B 2 4 < 999)) (-6) (by decide)) (va_cwS 2 hts (lw_S q339 q340 q95 q341) rfl rfl rfl (by decide +kernel) ⟨Nat.le_of_ble_eq_true rfl, Nat.le_of_ble_eq_true rfl⟩) rfl hl.1 rfl (Nat.le_of_ble_eq_true rfl) dX0_ofOfficeToo_61 ⟨Nat.le_of_ble_eq_true rfl, Nat.le_of_ble_eq_true rfl⟩) hS hnh hlk (Nat.le_of_ble_eq_true rfl) (Nat.le_of_ble_eq_true rfl) ⟨hC, hD⟩ (fun h => by have hc : ¬ B 2 4 < 999 := (fun q => h (by rw [decide_eq_true q]; rfl)); rw [decide_eq_false hc]; unfold nHour; rw [if_pos (ge999 hOk hc)]; rfl) (fun n61 locs hS => ?_)
    have hlt := of_decide_eq_true (if0 (by decide) n61)
    refine lv_aload_n hx hb dX0_ofOfficeToo_64 rfl (lv_at hl 0 rfl) ?_
    refine c_xget (v := .ref (cb + 8)) hx hb hts hown hKK hC 1 (by decide) (Or.inl q284) rfl rfl dX0_ofOfficeToo_65 ?_
    obtain ⟨sgO, kdO, AO, hV⟩ := hC.2.2.1
    refine va_calli (g_runV (As := []) (rest := []) S hKK hV (hV.recv hKK) (co_X8_hourOn l D t (cb + 8) (cb + 2) (cb + 70) sgO kdO (B 2) AO 999 hOk (by decide) (by omega) (by omega)) (cwV 0 hts (lw_V q910 q911 q912 q103 q913) rfl rfl rfl (by decide +kernel) ⟨Nat.le_of_ble_eq_true rfl, Nat.le_of_ble_eq_true rfl⟩) rfl hl.1 rfl (Nat.le_of_ble_eq_true rfl) dX0_ofOfficeToo_68 ⟨Nat.le_of_ble_eq_true rfl, Nat.le_of_ble_eq_true rfl⟩) hS (fun q _ h => fO h) (fun q h => fO h) (fun r68 u68 tt H locs ht _ h68 hV _ hq hS => ?_)
    obtain ⟨R68, A68⟩ := u68
    rw [ht] at hV
    have hV : OV D t (cb + 8) (cb + 2) (cb + 70) sgO kdO R68 A68 H := hV
    obtain ⟨e1, e2, -, -⟩ := h68
    have e2 : R68 = hoS (B 2) := e2
    rw [e2] at hV
    refine z_top (y := gnS (B 2)) e1 ?_
    have hW := CW.off (⟨hC, hD⟩ : CW D t Z cb B _) hV hq
    obtain ⟨hC, hD⟩ := hW
    exact x_iretX hx hb hr (by unfold nHour; rw [if_neg (fun q => by rw [q] at hlt; exact absurd hlt (by decide))]) rfl ⟨hC, hD⟩ hS (Nat.le_of_ble_eq_true rfl) (Nat.le_of_ble_eq_true rfl) dX0_ofOfficeToo_71 hlk
  · refine lv_aload_n hx hb dX0_ofOfficeToo_41 rfl (lv_at hl 0 rfl) ?_
    refine c_xget (v := .ref (cb + 8)) hx hb hts hown hKK hC 1 (by decide) (Or.inl q284) rfl rfl dX0_ofOfficeToo_42 ?_
    refine c_oget (v := .int ((B 2) 4)) hx hb hts hown hKK hC 13 (by decide) (Or.inr ⟨_, q229⟩) rfl (fun _ => rfl) dX0_ofOfficeToo_45 ?_
    refine lv_sipush (v := 999) hx hb dX0_ofOfficeToo_48 (by decide) ?_
    refine lv_icmp_ge (tgt := 58) hx hb dX0_ofOfficeToo_51 (by decide) (fun c51 => ?_) (fun c51 => ?_)
    · refine lv_iconst (v := 0) hx hb dX0_ofOfficeToo_58 (by decide) ?_
      exact J _ (by rw [decide_eq_false (Int32.not_lt.mpr c51)]; rfl)
    · refine lv_iconst (v := 1) hx hb dX0_ofOfficeToo_54 (by decide) ?_
      refine lv_goto (tgt := 59) hx hb dX0_ofOfficeToo_55 (by decide) ?_
      exact J _ (by rw [decide_eq_true (Int32.not_le.mp c51)]; rfl)
set_option maxHeartbeats 800000 in
theorem cd_ofOffice_hour (l : Launch) (htr : l.stackTraces = false) (D : va_G) (t : Nat → ClassId) (Z : Nat × Cell) (cb : Nat) (B : BT) (x y : Int32) (hB : OkB B) : MetX l yX0_ofOffice (ws_ yX0_ofOffice cX0_ofOffice 4 (some .int)) ({ frames := 9, cells := 1, slots := 7, locals := 165 }) (zPc [.ref cb, .int 10, .int x, .int y] (CW D t Z cb B) (KX D t Z)) (QX D t Z cb (nHour (B 2)) (uHour B) B) 1 7 (cA cb) := by
  refine zOfX (cc := cX0_ofOffice) (maxL := 4) (ret := (some .int)) (by decide) (Nat.le_of_ble_eq_true rfl) (fun pg ev s m below meth cd ls F hnh hW hK hl => ?_)
  obtain ⟨hx, hb, hml, hown, hts, hr, hlk⟩ := F
  have S : CallFix pg m cd cX0_ofOffice 4 s _ lw_all RX0 := ⟨hx, hb, hml, hown, hts⟩
  have hl : lv_has ls 4 [(0, .ref cb), (1, .int 10), (2, .int x), (3, .int y)] := hl
  have hKK := hK.1
  obtain ⟨hC, hD⟩ := hW
  have hS : va_S (fA (cA cb) s) s.heap s.heap [] := va_S.rf
  have hOk := hB.1
  have hd0 := hOk.hr0
  have hd8 := hOk.d8
  have hh3 := hOk.hr3
  have hh6 := hOk.h6
  have hs2 := hOk.hr2
  have hs5 := hOk.s5
  have hX := hOk.X
  refine lv_iload_n hx hb dX0_ofOffice_0 rfl (lv_at hl 1 rfl) ?_
  refine lv_tableOut (tgt := 139) hx hb dX0_ofOffice_1 (Or.inr (by decide +kernel)) (by decide) ?_
  refine lv_aload_n hx hb dX0_ofOffice_139 rfl (lv_at hl 0 rfl) ?_
  refine lv_iload_n hx hb dX0_ofOffice_140 rfl (lv_at hl 1 rfl) ?_
  refine lv_iload_n hx hb dX0_ofOffice_141 rfl (lv_at hl 2 rfl) ?_
  refine lv_iload_n hx hb dX0_ofOffice_142 rfl (lv_at hl 3 rfl) ?_
  refine xx_X (xx_runV (As := [.int 10, .int x, .int y]) (rest := []) S hK ⟨hC, hD⟩ (hC.recv hKK) (cd_ofOfficeToo_hour l htr D t Z cb B x y hB) (cwV 3 hts (lw_V q885 q887 qs23 q95 q888) rfl rfl rfl (by decide +kernel) ⟨Nat.le_of_ble_eq_true rfl, Nat.le_of_ble_eq_true rfl⟩) rfl hl.1 rfl (Nat.le_of_ble_eq_true rfl) dX0_ofOffice_143 ⟨Nat.le_of_ble_eq_true rfl, Nat.le_of_ble_eq_true rfl⟩) hS hnh hlk (Nat.le_of_ble_eq_true rfl) (Nat.le_of_ble_eq_true rfl) (fun h => ⟨rfl, rfl⟩) (fun n143 H locs hW hS => ?_)
  obtain ⟨hC, hD⟩ := hW
  exact x_iretX hx hb hr n143 (pe _) ⟨hC, hD⟩ hS (Nat.le_of_ble_eq_true rfl) (Nat.le_of_ble_eq_true rfl) dX0_ofOffice_146 hlk
set_option maxHeartbeats 800000 in
theorem cd_ofHours_hold (l : Launch) (htr : l.stackTraces = false) (D : va_G) (t : Nat → ClassId) (Z : Nat × Cell) (cb : Nat) (B : BT) (x y z : Int32) (hB : OkB B) : MetX l yX0_ofHours (ws_ yX0_ofHours cX0_ofHours 5 (some .int)) ({ frames := 11, cells := 4, slots := 28, locals := 211 }) (zPc [.ref cb, .int 11, .int x, .int y, .int z] (CW D t Z cb B) (KX D t Z)) (QX D t Z cb (hoN (isH (B 2) x) y z) (hd (hrS (B 2) (ix y)) (ix x) (3 + ix z), B) B) 4 28 (cA cb) := by
  refine zOfX (cc := cX0_ofHours) (maxL := 5) (ret := (some .int)) (by decide) (Nat.le_of_ble_eq_true rfl) (fun pg ev s m below meth cd ls F hnh hW hK hl => ?_)
  obtain ⟨hx, hb, hml, hown, hts, hr, hlk⟩ := F
  have S : CallFix pg m cd cX0_ofHours 5 s _ lw_all RX0 := ⟨hx, hb, hml, hown, hts⟩
  have hl : lv_has ls 5 [(0, .ref cb), (1, .int 11), (2, .int x), (3, .int y), (4, .int z)] := hl
  have hKK := hK.1
  obtain ⟨hC, hD⟩ := hW
  have hS : va_S (fA (cA cb) s) s.heap s.heap [] := va_S.rf
  have hOk := hB.1
  have hd0 := hOk.hr0
  have hd8 := hOk.d8
  have hh3 := hOk.hr3
  have hh6 := hOk.h6
  have hs2 := hOk.hr2
  have hs5 := hOk.s5
  have hX := hOk.X
  refine lv_iload_n hx hb dX0_ofHours_0 rfl (lv_at hl 1 rfl) ?_
  refine lv_tableIn (off := 51) (tgt := 52) hx hb dX0_ofHours_1 (by decide +kernel) (by decide +kernel) rfl (by decide) ?_
  refine lv_aload_n hx hb dX0_ofHours_52 rfl (lv_at hl 0 rfl) ?_
  refine lv_iload_n hx hb dX0_ofHours_53 rfl (lv_at hl 2 rfl) ?_
  refine lv_iload_n hx hb dX0_ofHours_54 rfl (lv_at hl 3 rfl) ?_
  refine lv_iload hx hb dX0_ofHours_55 (lv_at hl 4 rfl) ?_
  refine xx_X (xx_runV (As := [.int x, .int y, .int z]) (rest := []) S hK ⟨hC, hD⟩ (hC.recv hKK) (cx_holdTold l htr D t Z cb B x y z hB) (cwV 3 hts (lw_V q960 q962 qs30 q95 q963) rfl rfl rfl (by decide +kernel) ⟨Nat.le_of_ble_eq_true rfl, Nat.le_of_ble_eq_true rfl⟩) rfl hl.1 rfl (Nat.le_of_ble_eq_true rfl) dX0_ofHours_57 ⟨Nat.le_of_ble_eq_true rfl, Nat.le_of_ble_eq_true rfl⟩) hS hnh hlk (Nat.le_of_ble_eq_true rfl) (Nat.le_of_ble_eq_true rfl) (fun h => ⟨rfl, rfl⟩) (fun n57 H locs hW hS => ?_)
  obtain ⟨hC, hD⟩ := hW
  exact x_iretX hx hb hr n57 (pe _) ⟨hC, hD⟩ hS (Nat.le_of_ble_eq_true rfl) (Nat.le_of_ble_eq_true rfl) dX0_ofHours_60 hlk
set_option maxHeartbeats 800000 in
theorem cd_ofHours_have (l : Launch) (htr : l.stackTraces = false) (D : va_G) (t : Nat → ClassId) (Z : Nat × Cell) (cb : Nat) (B : BT) (x y z : Int32) (hB : OkB B) : MetX l yX0_ofHours (ws_ yX0_ofHours cX0_ofHours 5 (some .int)) ({ frames := 11, cells := 3, slots := 21, locals := 209 }) (zPc [.ref cb, .int 12, .int x, .int y, .int z] (CW D t Z cb B) (KX D t Z)) (QX D t Z cb (wrS (isN (B 2) x) y) (haS (hrS (B 2) (ix y)) x, B) B) 3 21 (cA cb) := by
  refine zOfX (cc := cX0_ofHours) (maxL := 5) (ret := (some .int)) (by decide) (Nat.le_of_ble_eq_true rfl) (fun pg ev s m below meth cd ls F hnh hW hK hl => ?_)
  obtain ⟨hx, hb, hml, hown, hts, hr, hlk⟩ := F
  have S : CallFix pg m cd cX0_ofHours 5 s _ lw_all RX0 := ⟨hx, hb, hml, hown, hts⟩
  have hl : lv_has ls 5 [(0, .ref cb), (1, .int 12), (2, .int x), (3, .int y), (4, .int z)] := hl
  have hKK := hK.1
  obtain ⟨hC, hD⟩ := hW
  have hS : va_S (fA (cA cb) s) s.heap s.heap [] := va_S.rf
  have hOk := hB.1
  have hd0 := hOk.hr0
  have hd8 := hOk.d8
  have hh3 := hOk.hr3
  have hh6 := hOk.h6
  have hs2 := hOk.hr2
  have hs5 := hOk.s5
  have hX := hOk.X
  refine lv_iload_n hx hb dX0_ofHours_0 rfl (lv_at hl 1 rfl) ?_
  refine lv_tableIn (off := 60) (tgt := 61) hx hb dX0_ofHours_1 (by decide +kernel) (by decide +kernel) rfl (by decide) ?_
  refine lv_aload_n hx hb dX0_ofHours_61 rfl (lv_at hl 0 rfl) ?_
  refine lv_iload_n hx hb dX0_ofHours_62 rfl (lv_at hl 2 rfl) ?_
  refine lv_iload_n hx hb dX0_ofHours_63 rfl (lv_at hl 3 rfl) ?_
  refine xx_X (xx_runV (As := [.int x, .int y]) (rest := []) S hK ⟨hC, hD⟩ (hC.recv hKK) (cx_haveTold l htr D t Z cb B x y hB) (cwV 2 hts (lw_V q980 q982 qs32 q95 q983) rfl rfl rfl (by decide +kernel) ⟨Nat.le_of_ble_eq_true rfl, Nat.le_of_ble_eq_true rfl⟩) rfl hl.1 rfl (Nat.le_of_ble_eq_true rfl) dX0_ofHours_64 ⟨Nat.le_of_ble_eq_true rfl, Nat.le_of_ble_eq_true rfl⟩) hS hnh hlk (Nat.le_of_ble_eq_true rfl) (Nat.le_of_ble_eq_true rfl) (fun h => ⟨rfl, rfl⟩) (fun n64 H locs hW hS => ?_)
  obtain ⟨hC, hD⟩ := hW
  exact x_iretX hx hb hr n64 (pe _) ⟨hC, hD⟩ hS (Nat.le_of_ble_eq_true rfl) (Nat.le_of_ble_eq_true rfl) dX0_ofHours_67 hlk
set_option maxHeartbeats 800000 in
theorem cd_ofHours_takes (l : Launch) (htr : l.stackTraces = false) (D : va_G) (t : Nat → ClassId) (Z : Nat × Cell) (cb : Nat) (B : BT) (x y z : Int32) (hB : OkB B) : MetX l yX0_ofHours (ws_ yX0_ofHours cX0_ofHours 5 (some .int)) ({ frames := 11, cells := 2, slots := 14, locals := 206 }) (zPc [.ref cb, .int 13, .int x, .int y, .int z] (CW D t Z cb B) (KX D t Z)) (QX D t Z cb (nTake (B 2) x y) (uTake B x y) B) 2 14 (cA cb) := by
  refine zOfX (cc := cX0_ofHours) (maxL := 5) (ret := (some .int)) (by decide) (Nat.le_of_ble_eq_true rfl) (fun pg ev s m below meth cd ls F hnh hW hK hl => ?_)
  obtain ⟨hx, hb, hml, hown, hts, hr, hlk⟩ := F
  have S : CallFix pg m cd cX0_ofHours 5 s _ lw_all RX0 := ⟨hx, hb, hml, hown, hts⟩
  have hl : lv_has ls 5 [(0, .ref cb), (1, .int 13), (2, .int x), (3, .int y), (4, .int z)] := hl
  have hKK := hK.1
  obtain ⟨hC, hD⟩ := hW
  have hS : va_S (fA (cA cb) s) s.heap s.heap [] := va_S.rf
  have hOk := hB.1
  have hd0 := hOk.hr0
  have hd8 := hOk.d8
  have hh3 := hOk.hr3
  have hh6 := hOk.h6
  have hs2 := hOk.hr2
  have hs5 := hOk.s5
  have hX := hOk.X
  refine lv_iload_n hx hb dX0_ofHours_0 rfl (lv_at hl 1 rfl) ?_
  refine lv_tableIn (off := 67) (tgt := 68) hx hb dX0_ofHours_1 (by decide +kernel) (by decide +kernel) rfl (by decide) ?_
  refine lv_aload_n hx hb dX0_ofHours_68 rfl (lv_at hl 0 rfl) ?_
  refine lv_iload_n hx hb dX0_ofHours_69 rfl (lv_at hl 2 rfl) ?_
  refine lv_iload_n hx hb dX0_ofHours_70 rfl (lv_at hl 3 rfl) ?_
  refine xx_X (xx_runV (As := [.int x, .int y]) (rest := []) S hK ⟨hC, hD⟩ (hC.recv hKK) (cx_takesTold l htr D t Z cb B x y hB) (cwV 2 hts (lw_V q984 q986 qs33 q95 q987) rfl rfl rfl (by decide +kernel) ⟨Nat.le_of_ble_eq_true rfl, Nat.le_of_ble_eq_true rfl⟩) rfl hl.1 rfl (Nat.le_of_ble_eq_true rfl) dX0_ofHours_71 ⟨Nat.le_of_ble_eq_true rfl, Nat.le_of_ble_eq_true rfl⟩) hS hnh hlk (Nat.le_of_ble_eq_true rfl) (Nat.le_of_ble_eq_true rfl) (fun h => ⟨rfl, rfl⟩) (fun n71 H locs hW hS => ?_)
  obtain ⟨hC, hD⟩ := hW
  exact x_iretX hx hb hr n71 (pe _) ⟨hC, hD⟩ hS (Nat.le_of_ble_eq_true rfl) (Nat.le_of_ble_eq_true rfl) dX0_ofHours_74 hlk
set_option maxHeartbeats 800000 in
theorem cd_ofHours_most (l : Launch) (htr : l.stackTraces = false) (D : va_G) (t : Nat → ClassId) (Z : Nat × Cell) (cb : Nat) (B : BT) (x y z : Int32) (hB : OkB B) : MetX l yX0_ofHours (ws_ yX0_ofHours cX0_ofHours 5 (some .int)) ({ frames := 11, cells := 4, slots := 28, locals := 210 }) (zPc [.ref cb, .int 15, .int x, .int y, .int z] (CW D t Z cb B) (KX D t Z)) (QX D t Z cb (hoN (isN (B 2) x) y z) ((if z = 0 then (mxL (fun k => haS (hrS (B 2) k) x) (-9, -9) (ix y + 1)).1 else (mxL (fun k => haS (hrS (B 2) k) x) (-9, -9) (ix y + 1)).2), B) B) 4 28 (cA cb) := by
  refine zOfX (cc := cX0_ofHours) (maxL := 5) (ret := (some .int)) (by decide) (Nat.le_of_ble_eq_true rfl) (fun pg ev s m below meth cd ls F hnh hW hK hl => ?_)
  obtain ⟨hx, hb, hml, hown, hts, hr, hlk⟩ := F
  have S : CallFix pg m cd cX0_ofHours 5 s _ lw_all RX0 := ⟨hx, hb, hml, hown, hts⟩
  have hl : lv_has ls 5 [(0, .ref cb), (1, .int 15), (2, .int x), (3, .int y), (4, .int z)] := hl
  have hKK := hK.1
  obtain ⟨hC, hD⟩ := hW
  have hS : va_S (fA (cA cb) s) s.heap s.heap [] := va_S.rf
  have hOk := hB.1
  have hd0 := hOk.hr0
  have hd8 := hOk.d8
  have hh3 := hOk.hr3
  have hh6 := hOk.h6
  have hs2 := hOk.hr2
  have hs5 := hOk.s5
  have hX := hOk.X
  refine lv_iload_n hx hb dX0_ofHours_0 rfl (lv_at hl 1 rfl) ?_
  refine lv_tableIn (off := 79) (tgt := 80) hx hb dX0_ofHours_1 (by decide +kernel) (by decide +kernel) rfl (by decide) ?_
  refine lv_aload_n hx hb dX0_ofHours_80 rfl (lv_at hl 0 rfl) ?_
  refine lv_iload_n hx hb dX0_ofHours_81 rfl (lv_at hl 2 rfl) ?_
  refine lv_iload_n hx hb dX0_ofHours_82 rfl (lv_at hl 3 rfl) ?_
  refine lv_iload hx hb dX0_ofHours_83 (lv_at hl 4 rfl) ?_
  refine xx_X (xx_runV (As := [.int x, .int y, .int z]) (rest := []) S hK ⟨hC, hD⟩ (hC.recv hKK) (cx_mostAsked l htr D t Z cb B x y z hB) (cwV 3 hts (lw_V q996 q998 qs36 q95 q999) rfl rfl rfl (by decide +kernel) ⟨Nat.le_of_ble_eq_true rfl, Nat.le_of_ble_eq_true rfl⟩) rfl hl.1 rfl (Nat.le_of_ble_eq_true rfl) dX0_ofHours_85 ⟨Nat.le_of_ble_eq_true rfl, Nat.le_of_ble_eq_true rfl⟩) hS hnh hlk (Nat.le_of_ble_eq_true rfl) (Nat.le_of_ble_eq_true rfl) (fun h => ⟨rfl, rfl⟩) (fun n85 H locs hW hS => ?_)
  obtain ⟨hC, hD⟩ := hW
  exact x_iretX hx hb hr n85 (pe _) ⟨hC, hD⟩ hS (Nat.le_of_ble_eq_true rfl) (Nat.le_of_ble_eq_true rfl) dX0_ofHours_88 hlk
set_option maxHeartbeats 800000 in
theorem cd_ofHours_rid (l : Launch) (htr : l.stackTraces = false) (D : va_G) (t : Nat → ClassId) (Z : Nat × Cell) (cb : Nat) (B : BT) (x y z : Int32) (hB : OkB B) : MetX l yX0_ofHours (ws_ yX0_ofHours cX0_ofHours 5 (some .int)) ({ frames := 11, cells := 4, slots := 28, locals := 225 }) (zPc [.ref cb, .int 19, .int x, .int y, .int z] (CW D t Z cb B) (KX D t Z)) (QX D t Z cb (riN (B 2) x y) ((if y = 0 then (riP (B 2) (ix x)).1 else (riP (B 2) (ix x)).2), B) B) 4 28 (cA cb) := by
  refine zOfX (cc := cX0_ofHours) (maxL := 5) (ret := (some .int)) (by decide) (Nat.le_of_ble_eq_true rfl) (fun pg ev s m below meth cd ls F hnh hW hK hl => ?_)
  obtain ⟨hx, hb, hml, hown, hts, hr, hlk⟩ := F
  have S : CallFix pg m cd cX0_ofHours 5 s _ lw_all RX0 := ⟨hx, hb, hml, hown, hts⟩
  have hl : lv_has ls 5 [(0, .ref cb), (1, .int 19), (2, .int x), (3, .int y), (4, .int z)] := hl
  have hKK := hK.1
  obtain ⟨hC, hD⟩ := hW
  have hS : va_S (fA (cA cb) s) s.heap s.heap [] := va_S.rf
  have hOk := hB.1
  have hd0 := hOk.hr0
  have hd8 := hOk.d8
  have hh3 := hOk.hr3
  have hh6 := hOk.h6
  have hs2 := hOk.hr2
  have hs5 := hOk.s5
  have hX := hOk.X
  refine lv_iload_n hx hb dX0_ofHours_0 rfl (lv_at hl 1 rfl) ?_
  refine lv_tableIn (off := 116) (tgt := 117) hx hb dX0_ofHours_1 (by decide +kernel) (by decide +kernel) rfl (by decide) ?_
  refine lv_aload_n hx hb dX0_ofHours_117 rfl (lv_at hl 0 rfl) ?_
  refine lv_iload_n hx hb dX0_ofHours_118 rfl (lv_at hl 2 rfl) ?_
  refine lv_iload_n hx hb dX0_ofHours_119 rfl (lv_at hl 3 rfl) ?_
  refine xx_X (xx_runV (As := [.int x, .int y]) (rest := []) S hK ⟨hC, hD⟩ (hC.recv hKK) (cx_ridAsked l htr D t Z cb B x y hB) (cwV 2 hts (lw_V q1021 q1023 qs41 q95 q1024) rfl rfl rfl (by decide +kernel) ⟨Nat.le_of_ble_eq_true rfl, Nat.le_of_ble_eq_true rfl⟩) rfl hl.1 rfl (Nat.le_of_ble_eq_true rfl) dX0_ofHours_120 ⟨Nat.le_of_ble_eq_true rfl, Nat.le_of_ble_eq_true rfl⟩) hS hnh hlk (Nat.le_of_ble_eq_true rfl) (Nat.le_of_ble_eq_true rfl) (fun h => ⟨rfl, rfl⟩) (fun n120 H locs hW hS => ?_)
  obtain ⟨hC, hD⟩ := hW
  exact x_iretX hx hb hr n120 (pe _) ⟨hC, hD⟩ hS (Nat.le_of_ble_eq_true rfl) (Nat.le_of_ble_eq_true rfl) dX0_ofHours_123 hlk
set_option maxHeartbeats 800000 in
theorem cd_ofHours_instead (l : Launch) (htr : l.stackTraces = false) (D : va_G) (t : Nat → ClassId) (Z : Nat × Cell) (cb : Nat) (B : BT) (x y z : Int32) (hB : OkB B) : MetX l yX0_ofHours (ws_ yX0_ofHours cX0_ofHours 5 (some .int)) ({ frames := 11, cells := 3, slots := 21, locals := 225 }) (zPc [.ref cb, .int 20, .int x, .int y, .int z] (CW D t Z cb B) (KX D t Z)) (QX D t Z cb (inN (B 2) x) ((inP (B 2) (ix x)).1, B) B) 3 21 (cA cb) := by
  refine zOfX (cc := cX0_ofHours) (maxL := 5) (ret := (some .int)) (by decide) (Nat.le_of_ble_eq_true rfl) (fun pg ev s m below meth cd ls F hnh hW hK hl => ?_)
  obtain ⟨hx, hb, hml, hown, hts, hr, hlk⟩ := F
  have S : CallFix pg m cd cX0_ofHours 5 s _ lw_all RX0 := ⟨hx, hb, hml, hown, hts⟩
  have hl : lv_has ls 5 [(0, .ref cb), (1, .int 20), (2, .int x), (3, .int y), (4, .int z)] := hl
  have hKK := hK.1
  obtain ⟨hC, hD⟩ := hW
  have hS : va_S (fA (cA cb) s) s.heap s.heap [] := va_S.rf
  have hOk := hB.1
  have hd0 := hOk.hr0
  have hd8 := hOk.d8
  have hh3 := hOk.hr3
  have hh6 := hOk.h6
  have hs2 := hOk.hr2
  have hs5 := hOk.s5
  have hX := hOk.X
  refine lv_iload_n hx hb dX0_ofHours_0 rfl (lv_at hl 1 rfl) ?_
  refine lv_tableOut (tgt := 124) hx hb dX0_ofHours_1 (Or.inr (by decide +kernel)) (by decide) ?_
  refine lv_aload_n hx hb dX0_ofHours_124 rfl (lv_at hl 0 rfl) ?_
  refine lv_iload_n hx hb dX0_ofHours_125 rfl (lv_at hl 2 rfl) ?_
  refine xx_X (xx_runV (As := [.int x]) (rest := []) S hK ⟨hC, hD⟩ (hC.recv hKK) (cx_insteadTold l htr D t Z cb B x hB) (cwV 1 hts (lw_V q1041 q1043 qs45 q95 q1044) rfl rfl rfl (by decide +kernel) ⟨Nat.le_of_ble_eq_true rfl, Nat.le_of_ble_eq_true rfl⟩) rfl hl.1 rfl (Nat.le_of_ble_eq_true rfl) dX0_ofHours_126 ⟨Nat.le_of_ble_eq_true rfl, Nat.le_of_ble_eq_true rfl⟩) hS hnh hlk (Nat.le_of_ble_eq_true rfl) (Nat.le_of_ble_eq_true rfl) (fun h => ⟨rfl, rfl⟩) (fun n126 H locs hW hS => ?_)
  obtain ⟨hC, hD⟩ := hW
  exact x_iretX hx hb hr n126 (pe _) ⟨hC, hD⟩ hS (Nat.le_of_ble_eq_true rfl) (Nat.le_of_ble_eq_true rfl) dX0_ofHours_129 hlk
set_option maxHeartbeats 800000 in
theorem cd_ofHours_still (l : Launch) (htr : l.stackTraces = false) (D : va_G) (t : Nat → ClassId) (Z : Nat × Cell) (cb : Nat) (B : BT) (x y z : Int32) (hB : OkB B) : MetX l yX0_ofHours (ws_ yX0_ofHours cX0_ofHours 5 (some .int)) ({ frames := 7, cells := 0, slots := 0, locals := 154 }) (zPc [.ref cb, .int 14, .int x, .int y, .int z] (CW D t Z cb B) (KX D t Z)) (QX D t Z cb 0 (stilS B) B) 0 0 (cA cb) := by
  refine zOfX (cc := cX0_ofHours) (maxL := 5) (ret := (some .int)) (by decide) (Nat.le_of_ble_eq_true rfl) (fun pg ev s m below meth cd ls F hnh hW hK hl => ?_)
  obtain ⟨hx, hb, hml, hown, hts, hr, hlk⟩ := F
  have S : CallFix pg m cd cX0_ofHours 5 s _ lw_all RX0 := ⟨hx, hb, hml, hown, hts⟩
  have hl : lv_has ls 5 [(0, .ref cb), (1, .int 14), (2, .int x), (3, .int y), (4, .int z)] := hl
  have hKK := hK.1
  obtain ⟨hC, hD⟩ := hW
  have hS : va_S (fA (cA cb) s) s.heap s.heap [] := va_S.rf
  have hOk := hB.1
  have hd0 := hOk.hr0
  have hd8 := hOk.d8
  have hh3 := hOk.hr3
  have hh6 := hOk.h6
  have hs2 := hOk.hr2
  have hs5 := hOk.s5
  have hX := hOk.X
  refine lv_iload_n hx hb dX0_ofHours_0 rfl (lv_at hl 1 rfl) ?_
  refine lv_tableIn (off := 74) (tgt := 75) hx hb dX0_ofHours_1 (by decide +kernel) (by decide +kernel) rfl (by decide) ?_
  refine lv_aload_n hx hb dX0_ofHours_75 rfl (lv_at hl 0 rfl) ?_
  refine va_calli (gx_runV (As := []) (rest := []) S hK ⟨hC, hD⟩ (hC.recv hKK) (cx_stillBehind l htr D t Z cb B hOk) (cwV 0 hts (lw_V q992 q994 qs35 q95 q995) rfl rfl rfl (by decide +kernel) ⟨Nat.le_of_ble_eq_true rfl, Nat.le_of_ble_eq_true rfl⟩) rfl hl.1 rfl (Nat.le_of_ble_eq_true rfl) dX0_ofHours_76 ⟨Nat.le_of_ble_eq_true rfl, Nat.le_of_ble_eq_true rfl⟩) hS (fun q _ h => Or.inl h) (fun q h => Or.inl h) (fun r76 u76 tt H locs ht _ h76 hW _ _ hS => ?_)
  rw [ht] at hW
  obtain ⟨e1, e2⟩ := h76
  have hW : CW D t Z cb u76 H := hW
  rw [e2] at hW
  obtain ⟨hC, hD⟩ := hW
  refine z_top (y := fdS (fun n => decide (haS (hrS (B 2) n) (-1) = 0)) 61) e1 ?_
  exact x_iretX hx hb hr rfl rfl ⟨hC, hD⟩ hS (Nat.le_of_ble_eq_true rfl) (Nat.le_of_ble_eq_true rfl) dX0_ofHours_79 hlk
set_option maxHeartbeats 800000 in
theorem cd_ofHours_lasts (l : Launch) (htr : l.stackTraces = false) (D : va_G) (t : Nat → ClassId) (Z : Nat × Cell) (cb : Nat) (B : BT) (x y z : Int32) (hB : OkB B) : MetX l yX0_ofHours (ws_ yX0_ofHours cX0_ofHours 5 (some .int)) ({ frames := 10, cells := 2, slots := 14, locals := 187 }) (zPc [.ref cb, .int 16, .int x, .int y, .int z] (CW D t Z cb B) (KX D t Z)) (QX D t Z cb (wiS x 0 60) ((mxL (fun i => haS (hrS (B 2) (ix x)) (nI i)) (-9, 0) (nS (B 2))).1, B) B) 2 14 (cA cb) := by
  refine zOfX (cc := cX0_ofHours) (maxL := 5) (ret := (some .int)) (by decide) (Nat.le_of_ble_eq_true rfl) (fun pg ev s m below meth cd ls F hnh hW hK hl => ?_)
  obtain ⟨hx, hb, hml, hown, hts, hr, hlk⟩ := F
  have S : CallFix pg m cd cX0_ofHours 5 s _ lw_all RX0 := ⟨hx, hb, hml, hown, hts⟩
  have hl : lv_has ls 5 [(0, .ref cb), (1, .int 16), (2, .int x), (3, .int y), (4, .int z)] := hl
  have hKK := hK.1
  obtain ⟨hC, hD⟩ := hW
  have hS : va_S (fA (cA cb) s) s.heap s.heap [] := va_S.rf
  have hOk := hB.1
  have hd0 := hOk.hr0
  have hd8 := hOk.d8
  have hh3 := hOk.hr3
  have hh6 := hOk.h6
  have hs2 := hOk.hr2
  have hs5 := hOk.s5
  have hX := hOk.X
  refine lv_iload_n hx hb dX0_ofHours_0 rfl (lv_at hl 1 rfl) ?_
  refine lv_tableIn (off := 88) (tgt := 89) hx hb dX0_ofHours_1 (by decide +kernel) (by decide +kernel) rfl (by decide) ?_
  refine lv_iload_n hx hb dX0_ofHours_89 rfl (lv_at hl 2 rfl) ?_
  refine xm_X (xx_runS (As := [.int x]) (rest := []) S hK hC.1.2.1 (cx_mustBeHours l htr D t Z x) (va_cwS 1 hts (lw_S q964 q965 q95 q966) rfl rfl rfl (by decide +kernel) ⟨Nat.le_of_ble_eq_true rfl, Nat.le_of_ble_eq_true rfl⟩) rfl hl.1 rfl (Nat.le_of_ble_eq_true rfl) dX0_ofHours_90 ⟨Nat.le_of_ble_eq_true rfl, Nat.le_of_ble_eq_true rfl⟩) hS hnh hlk (Nat.le_of_ble_eq_true rfl) (Nat.le_of_ble_eq_true rfl) ⟨hC, hD⟩ (fun h => rfl) (fun n90 locs hS => ?_)
  have hy6 := wi_ix n90
  refine lv_aload_n hx hb dX0_ofHours_93 rfl (lv_at hl 0 rfl) ?_
  refine lv_iload_n hx hb dX0_ofHours_94 rfl (lv_at hl 2 rfl) ?_
  refine z_stk (st' := [.int (nI (ix x)), .ref cb]) (by rw [← show x = nI (ix x) from hy6.1]) ?_
  refine va_calli (gx_runV (As := [.int (nI (ix x))]) (rest := []) S hK ⟨hC, hD⟩ (hC.recv hKK) (cx_lastsBehind l htr D t Z cb B (ix x) hOk hy6.2) (cwV 1 hts (lw_V q1005 q1007 qs38 q95 q1008) rfl rfl rfl (by decide +kernel) ⟨Nat.le_of_ble_eq_true rfl, Nat.le_of_ble_eq_true rfl⟩) rfl hl.1 rfl (Nat.le_of_ble_eq_true rfl) dX0_ofHours_95 ⟨Nat.le_of_ble_eq_true rfl, Nat.le_of_ble_eq_true rfl⟩) hS (fun q _ h => Or.inl h) (fun q h => Or.inl h) (fun r95 u95 tt H locs ht _ h95 hW _ _ hS => ?_)
  rw [ht] at hW
  obtain ⟨e1, e2⟩ := h95
  have hW : CW D t Z cb u95 H := hW
  rw [e2] at hW
  obtain ⟨hC, hD⟩ := hW
  refine z_top (y := (mxL (fun i => haS (hrS (B 2) (ix x)) (nI i)) (-9, 0) (nS (B 2))).1) e1 ?_
  exact x_iretX hx hb hr n90 rfl ⟨hC, hD⟩ hS (Nat.le_of_ble_eq_true rfl) (Nat.le_of_ble_eq_true rfl) dX0_ofHours_98 hlk
set_option maxHeartbeats 800000 in
theorem cd_ofHours_from (l : Launch) (htr : l.stackTraces = false) (D : va_G) (t : Nat → ClassId) (Z : Nat × Cell) (cb : Nat) (B : BT) (x y z : Int32) (hB : OkB B) : MetX l yX0_ofHours (ws_ yX0_ofHours cX0_ofHours 5 (some .int)) ({ frames := 11, cells := 3, slots := 21, locals := 210 }) (zPc [.ref cb, .int 17, .int x, .int y, .int z] (CW D t Z cb B) (KX D t Z)) (QX D t Z cb (wrS (isH (B 2) x) y) (fromV (B 2) x y false, B) B) 3 21 (cA cb) := by
  refine zOfX (cc := cX0_ofHours) (maxL := 5) (ret := (some .int)) (by decide) (Nat.le_of_ble_eq_true rfl) (fun pg ev s m below meth cd ls F hnh hW hK hl => ?_)
  obtain ⟨hx, hb, hml, hown, hts, hr, hlk⟩ := F
  have S : CallFix pg m cd cX0_ofHours 5 s _ lw_all RX0 := ⟨hx, hb, hml, hown, hts⟩
  have hl : lv_has ls 5 [(0, .ref cb), (1, .int 17), (2, .int x), (3, .int y), (4, .int z)] := hl
  have hKK := hK.1
  obtain ⟨hC, hD⟩ := hW
  have hS : va_S (fA (cA cb) s) s.heap s.heap [] := va_S.rf
  have hOk := hB.1
  have hd0 := hOk.hr0
  have hd8 := hOk.d8
  have hh3 := hOk.hr3
  have hh6 := hOk.h6
  have hs2 := hOk.hr2
  have hs5 := hOk.s5
  have hX := hOk.X
  refine lv_iload_n hx hb dX0_ofHours_0 rfl (lv_at hl 1 rfl) ?_
  refine lv_tableIn (off := 98) (tgt := 99) hx hb dX0_ofHours_1 (by decide +kernel) (by decide +kernel) rfl (by decide) ?_
  refine lv_aload_n hx hb dX0_ofHours_99 rfl (lv_at hl 0 rfl) ?_
  refine lv_iload_n hx hb dX0_ofHours_100 rfl (lv_at hl 2 rfl) ?_
  refine lv_iload_n hx hb dX0_ofHours_101 rfl (lv_at hl 3 rfl) ?_
  refine lv_iload_n hx hb dX0_ofHours_102 rfl (lv_at hl 1 rfl) ?_
  refine lv_bipush (v := 18) hx hb dX0_ofHours_103 (by decide) ?_
  refine lv_icmp_ne (tgt := 112) hx hb dX0_ofHours_105 (by decide) (fun c105 => ?_) (fun c105 => ?_)
  · refine lv_iconst (v := 0) hx hb dX0_ofHours_112 (by decide) ?_
    refine z_top (y := bI false) rfl ?_
    refine xx_X (xx_runV (As := [.int x, .int y, .int (bI false)]) (rest := []) S hK ⟨hC, hD⟩ (hC.recv hKK) (cx_fromAsked l htr D t Z cb B x y false hB) (cwV 3 hts (lw_V q1009 q1011 qs39 q95 q1012) rfl rfl rfl (by decide +kernel) ⟨Nat.le_of_ble_eq_true rfl, Nat.le_of_ble_eq_true rfl⟩) rfl hl.1 rfl (Nat.le_of_ble_eq_true rfl) dX0_ofHours_113 ⟨Nat.le_of_ble_eq_true rfl, Nat.le_of_ble_eq_true rfl⟩) hS hnh hlk (Nat.le_of_ble_eq_true rfl) (Nat.le_of_ble_eq_true rfl) (fun h => ⟨rfl, rfl⟩) (fun n113 H locs hW hS => ?_)
    obtain ⟨hC, hD⟩ := hW
    exact x_iretX hx hb hr n113 (pe _) ⟨hC, hD⟩ hS (Nat.le_of_ble_eq_true rfl) (Nat.le_of_ble_eq_true rfl) dX0_ofHours_116 hlk
  · exact absurd c105 (by decide)
set_option maxHeartbeats 800000 in
theorem cd_ofHours_first (l : Launch) (htr : l.stackTraces = false) (D : va_G) (t : Nat → ClassId) (Z : Nat × Cell) (cb : Nat) (B : BT) (x y z : Int32) (hB : OkB B) : MetX l yX0_ofHours (ws_ yX0_ofHours cX0_ofHours 5 (some .int)) ({ frames := 11, cells := 3, slots := 21, locals := 210 }) (zPc [.ref cb, .int 18, .int x, .int y, .int z] (CW D t Z cb B) (KX D t Z)) (QX D t Z cb (wrS (isH (B 2) x) y) (fromV (B 2) x y true, B) B) 3 21 (cA cb) := by
  refine zOfX (cc := cX0_ofHours) (maxL := 5) (ret := (some .int)) (by decide) (Nat.le_of_ble_eq_true rfl) (fun pg ev s m below meth cd ls F hnh hW hK hl => ?_)
  obtain ⟨hx, hb, hml, hown, hts, hr, hlk⟩ := F
  have S : CallFix pg m cd cX0_ofHours 5 s _ lw_all RX0 := ⟨hx, hb, hml, hown, hts⟩
  have hl : lv_has ls 5 [(0, .ref cb), (1, .int 18), (2, .int x), (3, .int y), (4, .int z)] := hl
  have hKK := hK.1
  obtain ⟨hC, hD⟩ := hW
  have hS : va_S (fA (cA cb) s) s.heap s.heap [] := va_S.rf
  have hOk := hB.1
  have hd0 := hOk.hr0
  have hd8 := hOk.d8
  have hh3 := hOk.hr3
  have hh6 := hOk.h6
  have hs2 := hOk.hr2
  have hs5 := hOk.s5
  have hX := hOk.X
  refine lv_iload_n hx hb dX0_ofHours_0 rfl (lv_at hl 1 rfl) ?_
  refine lv_tableIn (off := 98) (tgt := 99) hx hb dX0_ofHours_1 (by decide +kernel) (by decide +kernel) rfl (by decide) ?_
  refine lv_aload_n hx hb dX0_ofHours_99 rfl (lv_at hl 0 rfl) ?_
  refine lv_iload_n hx hb dX0_ofHours_100 rfl (lv_at hl 2 rfl) ?_
  refine lv_iload_n hx hb dX0_ofHours_101 rfl (lv_at hl 3 rfl) ?_
  refine lv_iload_n hx hb dX0_ofHours_102 rfl (lv_at hl 1 rfl) ?_
  refine lv_bipush (v := 18) hx hb dX0_ofHours_103 (by decide) ?_
  refine lv_icmp_ne (tgt := 112) hx hb dX0_ofHours_105 (by decide) (fun c105 => ?_) (fun c105 => ?_)
  · exact absurd c105 (by decide)
  · refine lv_iconst (v := 1) hx hb dX0_ofHours_108 (by decide) ?_
    refine lv_goto (tgt := 113) hx hb dX0_ofHours_109 (by decide) ?_
    refine z_top (y := bI true) rfl ?_
    refine xx_X (xx_runV (As := [.int x, .int y, .int (bI true)]) (rest := []) S hK ⟨hC, hD⟩ (hC.recv hKK) (cx_fromAsked l htr D t Z cb B x y true hB) (cwV 3 hts (lw_V q1009 q1011 qs39 q95 q1012) rfl rfl rfl (by decide +kernel) ⟨Nat.le_of_ble_eq_true rfl, Nat.le_of_ble_eq_true rfl⟩) rfl hl.1 rfl (Nat.le_of_ble_eq_true rfl) dX0_ofHours_113 ⟨Nat.le_of_ble_eq_true rfl, Nat.le_of_ble_eq_true rfl⟩) hS hnh hlk (Nat.le_of_ble_eq_true rfl) (Nat.le_of_ble_eq_true rfl) (fun h => ⟨rfl, rfl⟩) (fun n113 H locs hW hS => ?_)
    obtain ⟨hC, hD⟩ := hW
    exact x_iretX hx hb hr n113 (pe _) ⟨hC, hD⟩ hS (Nat.le_of_ble_eq_true rfl) (Nat.le_of_ble_eq_true rfl) dX0_ofHours_116 hlk
set_option maxHeartbeats 800000 in
theorem cd_ofRest_shut (l : Launch) (htr : l.stackTraces = false) (D : va_G) (t : Nat → ClassId) (Z : Nat × Cell) (cb : Nat) (B : BT) (x y z : Int32) (hB : OkB B) : MetX l yX0_ofRest (ws_ yX0_ofRest cX0_ofRest 5 (some .int)) ({ frames := 10, cells := 2, slots := 14, locals := 187 }) (zPc [.ref cb, .int 21, .int x, .int y, .int z] (CW D t Z cb B) (KX D t Z)) (QX D t Z cb (wiS x 0 60) ((shP (B 2) (ix x)).1, B) B) 2 14 (cA cb) := by
  refine zOfX (cc := cX0_ofRest) (maxL := 5) (ret := (some .int)) (by decide) (Nat.le_of_ble_eq_true rfl) (fun pg ev s m below meth cd ls F hnh hW hK hl => ?_)
  obtain ⟨hx, hb, hml, hown, hts, hr, hlk⟩ := F
  have S : CallFix pg m cd cX0_ofRest 5 s _ lw_all RX0 := ⟨hx, hb, hml, hown, hts⟩
  have hl : lv_has ls 5 [(0, .ref cb), (1, .int 21), (2, .int x), (3, .int y), (4, .int z)] := hl
  have hKK := hK.1
  obtain ⟨hC, hD⟩ := hW
  have hS : va_S (fA (cA cb) s) s.heap s.heap [] := va_S.rf
  have hOk := hB.1
  have hd0 := hOk.hr0
  have hd8 := hOk.d8
  have hh3 := hOk.hr3
  have hh6 := hOk.h6
  have hs2 := hOk.hr2
  have hs5 := hOk.s5
  have hX := hOk.X
  refine lv_iload_n hx hb dX0_ofRest_0 rfl (lv_at hl 1 rfl) ?_
  refine lv_tableIn (off := 39) (tgt := 40) hx hb dX0_ofRest_1 (by decide +kernel) (by decide +kernel) rfl (by decide) ?_
  refine lv_iload_n hx hb dX0_ofRest_40 rfl (lv_at hl 2 rfl) ?_
  refine xm_X (xx_runS (As := [.int x]) (rest := []) S hK hC.1.2.1 (cx_mustBeHours l htr D t Z x) (va_cwS 1 hts (lw_S q964 q965 q95 q966) rfl rfl rfl (by decide +kernel) ⟨Nat.le_of_ble_eq_true rfl, Nat.le_of_ble_eq_true rfl⟩) rfl hl.1 rfl (Nat.le_of_ble_eq_true rfl) dX0_ofRest_41 ⟨Nat.le_of_ble_eq_true rfl, Nat.le_of_ble_eq_true rfl⟩) hS hnh hlk (Nat.le_of_ble_eq_true rfl) (Nat.le_of_ble_eq_true rfl) ⟨hC, hD⟩ (fun h => rfl) (fun n41 locs hS => ?_)
  have hy6 := wi_ix n41
  refine lv_aload_n hx hb dX0_ofRest_44 rfl (lv_at hl 0 rfl) ?_
  refine lv_iload_n hx hb dX0_ofRest_45 rfl (lv_at hl 2 rfl) ?_
  refine z_stk (st' := [.int (nI (ix x)), .ref cb]) (by rw [← show x = nI (ix x) from hy6.1]) ?_
  refine va_calli (gx_runV (As := [.int (nI (ix x))]) (rest := []) S hK ⟨hC, hD⟩ (hC.recv hKK) (cx_bestShut l htr D t Z cb B (ix x) hOk hy6.2) (cwV 1 hts (lw_V q1053 q1055 qs48 q95 q1056) rfl rfl rfl (by decide +kernel) ⟨Nat.le_of_ble_eq_true rfl, Nat.le_of_ble_eq_true rfl⟩) rfl hl.1 rfl (Nat.le_of_ble_eq_true rfl) dX0_ofRest_46 ⟨Nat.le_of_ble_eq_true rfl, Nat.le_of_ble_eq_true rfl⟩) hS (fun q _ h => Or.inl h) (fun q h => Or.inl h) (fun r46 u46 tt H locs ht _ h46 hW _ _ hS => ?_)
  rw [ht] at hW
  obtain ⟨e1, e2⟩ := h46
  have hW : CW D t Z cb u46 H := hW
  rw [e2] at hW
  obtain ⟨hC, hD⟩ := hW
  refine z_top (y := (shP (B 2) (ix x)).1) e1 ?_
  exact x_iretX hx hb hr n41 rfl ⟨hC, hD⟩ hS (Nat.le_of_ble_eq_true rfl) (Nat.le_of_ble_eq_true rfl) dX0_ofRest_49 hlk
set_option maxHeartbeats 800000 in
theorem cd_ofRest_seats (l : Launch) (htr : l.stackTraces = false) (D : va_G) (t : Nat → ClassId) (Z : Nat × Cell) (cb : Nat) (B : BT) (x y z : Int32) (hB : OkB B) : MetX l yX0_ofRest (ws_ yX0_ofRest cX0_ofRest 5 (some .int)) ({ frames := 10, cells := 2, slots := 14, locals := 187 }) (zPc [.ref cb, .int 22, .int x, .int y, .int z] (CW D t Z cb B) (KX D t Z)) (QX D t Z cb (wiS x 0 60) ((seP (B 2) (ix x)).1, B) B) 2 14 (cA cb) := by
  refine zOfX (cc := cX0_ofRest) (maxL := 5) (ret := (some .int)) (by decide) (Nat.le_of_ble_eq_true rfl) (fun pg ev s m below meth cd ls F hnh hW hK hl => ?_)
  obtain ⟨hx, hb, hml, hown, hts, hr, hlk⟩ := F
  have S : CallFix pg m cd cX0_ofRest 5 s _ lw_all RX0 := ⟨hx, hb, hml, hown, hts⟩
  have hl : lv_has ls 5 [(0, .ref cb), (1, .int 22), (2, .int x), (3, .int y), (4, .int z)] := hl
  have hKK := hK.1
  obtain ⟨hC, hD⟩ := hW
  have hS : va_S (fA (cA cb) s) s.heap s.heap [] := va_S.rf
  have hOk := hB.1
  have hd0 := hOk.hr0
  have hd8 := hOk.d8
  have hh3 := hOk.hr3
  have hh6 := hOk.h6
  have hs2 := hOk.hr2
  have hs5 := hOk.s5
  have hX := hOk.X
  refine lv_iload_n hx hb dX0_ofRest_0 rfl (lv_at hl 1 rfl) ?_
  refine lv_tableIn (off := 49) (tgt := 50) hx hb dX0_ofRest_1 (by decide +kernel) (by decide +kernel) rfl (by decide) ?_
  refine lv_iload_n hx hb dX0_ofRest_50 rfl (lv_at hl 2 rfl) ?_
  refine xm_X (xx_runS (As := [.int x]) (rest := []) S hK hC.1.2.1 (cx_mustBeHours l htr D t Z x) (va_cwS 1 hts (lw_S q964 q965 q95 q966) rfl rfl rfl (by decide +kernel) ⟨Nat.le_of_ble_eq_true rfl, Nat.le_of_ble_eq_true rfl⟩) rfl hl.1 rfl (Nat.le_of_ble_eq_true rfl) dX0_ofRest_51 ⟨Nat.le_of_ble_eq_true rfl, Nat.le_of_ble_eq_true rfl⟩) hS hnh hlk (Nat.le_of_ble_eq_true rfl) (Nat.le_of_ble_eq_true rfl) ⟨hC, hD⟩ (fun h => rfl) (fun n51 locs hS => ?_)
  have hy6 := wi_ix n51
  refine lv_aload_n hx hb dX0_ofRest_54 rfl (lv_at hl 0 rfl) ?_
  refine lv_iload_n hx hb dX0_ofRest_55 rfl (lv_at hl 2 rfl) ?_
  refine z_stk (st' := [.int (nI (ix x)), .ref cb]) (by rw [← show x = nI (ix x) from hy6.1]) ?_
  refine va_calli (gx_runV (As := [.int (nI (ix x))]) (rest := []) S hK ⟨hC, hD⟩ (hC.recv hKK) (cx_bestSeats l htr D t Z cb B (ix x) hOk hy6.2) (cwV 1 hts (lw_V q1057 q1059 qs49 q95 q1060) rfl rfl rfl (by decide +kernel) ⟨Nat.le_of_ble_eq_true rfl, Nat.le_of_ble_eq_true rfl⟩) rfl hl.1 rfl (Nat.le_of_ble_eq_true rfl) dX0_ofRest_56 ⟨Nat.le_of_ble_eq_true rfl, Nat.le_of_ble_eq_true rfl⟩) hS (fun q _ h => Or.inl h) (fun q h => Or.inl h) (fun r56 u56 tt H locs ht _ h56 hW _ _ hS => ?_)
  rw [ht] at hW
  obtain ⟨e1, e2⟩ := h56
  have hW : CW D t Z cb u56 H := hW
  rw [e2] at hW
  obtain ⟨hC, hD⟩ := hW
  refine z_top (y := (seP (B 2) (ix x)).1) e1 ?_
  exact x_iretX hx hb hr n51 rfl ⟨hC, hD⟩ hS (Nat.le_of_ble_eq_true rfl) (Nat.le_of_ble_eq_true rfl) dX0_ofRest_59 hlk
set_option maxHeartbeats 800000 in
theorem cd_ofRest_write (l : Launch) (htr : l.stackTraces = false) (D : va_G) (t : Nat → ClassId) (Z : Nat × Cell) (cb : Nat) (B : BT) (x y z : Int32) (hB : OkB B) : MetX l yX0_ofRest (ws_ yX0_ofRest cX0_ofRest 5 (some .int)) ({ frames := 10, cells := 64, slots := 148, locals := 207 }) (zPc [.ref cb, .int 23, .int x, .int y, .int z] (CW D t Z cb B) (KX D t Z)) (QX D t Z cb (wtN (B 2) x y z) ((if z = 0 then (wtP (B 2) x (ix y)).1 else (wtP (B 2) x (ix y)).2), B) B) 64 148 (cA cb) := by
  refine zOfX (cc := cX0_ofRest) (maxL := 5) (ret := (some .int)) (by decide) (Nat.le_of_ble_eq_true rfl) (fun pg ev s m below meth cd ls F hnh hW hK hl => ?_)
  obtain ⟨hx, hb, hml, hown, hts, hr, hlk⟩ := F
  have S : CallFix pg m cd cX0_ofRest 5 s _ lw_all RX0 := ⟨hx, hb, hml, hown, hts⟩
  have hl : lv_has ls 5 [(0, .ref cb), (1, .int 23), (2, .int x), (3, .int y), (4, .int z)] := hl
  have hKK := hK.1
  obtain ⟨hC, hD⟩ := hW
  have hS : va_S (fA (cA cb) s) s.heap s.heap [] := va_S.rf
  have hOk := hB.1
  have hd0 := hOk.hr0
  have hd8 := hOk.d8
  have hh3 := hOk.hr3
  have hh6 := hOk.h6
  have hs2 := hOk.hr2
  have hs5 := hOk.s5
  have hX := hOk.X
  refine lv_iload_n hx hb dX0_ofRest_0 rfl (lv_at hl 1 rfl) ?_
  refine lv_tableIn (off := 59) (tgt := 60) hx hb dX0_ofRest_1 (by decide +kernel) (by decide +kernel) rfl (by decide) ?_
  refine lv_aload_n hx hb dX0_ofRest_60 rfl (lv_at hl 0 rfl) ?_
  refine lv_iload_n hx hb dX0_ofRest_61 rfl (lv_at hl 2 rfl) ?_
  refine lv_iload_n hx hb dX0_ofRest_62 rfl (lv_at hl 3 rfl) ?_
  refine lv_iload hx hb dX0_ofRest_63 (lv_at hl 4 rfl) ?_
  refine xx_X (xx_runV (As := [.int x, .int y, .int z]) (rest := []) S hK ⟨hC, hD⟩ (hC.recv hKK) (cx_writeAsked l htr D t Z cb B x y z hB) (cwV 3 hts (lw_V q1061 q1063 qs50 q95 q1064) rfl rfl rfl (by decide +kernel) ⟨Nat.le_of_ble_eq_true rfl, Nat.le_of_ble_eq_true rfl⟩) rfl hl.1 rfl (Nat.le_of_ble_eq_true rfl) dX0_ofRest_65 ⟨Nat.le_of_ble_eq_true rfl, Nat.le_of_ble_eq_true rfl⟩) hS hnh hlk (Nat.le_of_ble_eq_true rfl) (Nat.le_of_ble_eq_true rfl) (fun h => ⟨rfl, rfl⟩) (fun n65 H locs hW hS => ?_)
  obtain ⟨hC, hD⟩ := hW
  exact x_iretX hx hb hr n65 (pe _) ⟨hC, hD⟩ hS (Nat.le_of_ble_eq_true rfl) (Nat.le_of_ble_eq_true rfl) dX0_ofRest_68 hlk
set_option maxHeartbeats 800000 in
theorem cd_ofRest_otherwise (l : Launch) (htr : l.stackTraces = false) (D : va_G) (t : Nat → ClassId) (Z : Nat × Cell) (cb : Nat) (B : BT) (x y z : Int32) (hB : OkB B) : MetX l yX0_ofRest (ws_ yX0_ofRest cX0_ofRest 5 (some .int)) ({ frames := 11, cells := 4, slots := 28, locals := 209 }) (zPc [.ref cb, .int 25, .int x, .int y, .int z] (CW D t Z cb B) (KX D t Z)) (QX D t Z cb (otN B x y) ((if y = 0 then nI (otL (otF (B 13) (B 2) (ix x)) (10 * nH (B 2))).1 else (otL (otF (B 13) (B 2) (ix x)) (10 * nH (B 2))).2), B) B) 4 28 (cA cb) := by
  refine zOfX (cc := cX0_ofRest) (maxL := 5) (ret := (some .int)) (by decide) (Nat.le_of_ble_eq_true rfl) (fun pg ev s m below meth cd ls F hnh hW hK hl => ?_)
  obtain ⟨hx, hb, hml, hown, hts, hr, hlk⟩ := F
  have S : CallFix pg m cd cX0_ofRest 5 s _ lw_all RX0 := ⟨hx, hb, hml, hown, hts⟩
  have hl : lv_has ls 5 [(0, .ref cb), (1, .int 25), (2, .int x), (3, .int y), (4, .int z)] := hl
  have hKK := hK.1
  obtain ⟨hC, hD⟩ := hW
  have hS : va_S (fA (cA cb) s) s.heap s.heap [] := va_S.rf
  have hOk := hB.1
  have hd0 := hOk.hr0
  have hd8 := hOk.d8
  have hh3 := hOk.hr3
  have hh6 := hOk.h6
  have hs2 := hOk.hr2
  have hs5 := hOk.s5
  have hX := hOk.X
  refine lv_iload_n hx hb dX0_ofRest_0 rfl (lv_at hl 1 rfl) ?_
  refine lv_tableIn (off := 122) (tgt := 123) hx hb dX0_ofRest_1 (by decide +kernel) (by decide +kernel) rfl (by decide) ?_
  refine lv_aload_n hx hb dX0_ofRest_123 rfl (lv_at hl 0 rfl) ?_
  refine lv_iload_n hx hb dX0_ofRest_124 rfl (lv_at hl 2 rfl) ?_
  refine lv_iload_n hx hb dX0_ofRest_125 rfl (lv_at hl 3 rfl) ?_
  refine xx_X (xx_runV (As := [.int x, .int y]) (rest := []) S hK ⟨hC, hD⟩ (hC.recv hKK) (cx_otherwiseAsked l htr D t Z cb B x y hB) (cwV 2 hts (lw_V q1071 q1073 qs52 q95 q1074) rfl rfl rfl (by decide +kernel) ⟨Nat.le_of_ble_eq_true rfl, Nat.le_of_ble_eq_true rfl⟩) rfl hl.1 rfl (Nat.le_of_ble_eq_true rfl) dX0_ofRest_126 ⟨Nat.le_of_ble_eq_true rfl, Nat.le_of_ble_eq_true rfl⟩) hS hnh hlk (Nat.le_of_ble_eq_true rfl) (Nat.le_of_ble_eq_true rfl) (fun h => ⟨rfl, rfl⟩) (fun n126 H locs hW hS => ?_)
  obtain ⟨hC, hD⟩ := hW
  exact x_iretX hx hb hr n126 (pe _) ⟨hC, hD⟩ hS (Nat.le_of_ble_eq_true rfl) (Nat.le_of_ble_eq_true rfl) dX0_ofRest_129 hlk
set_option maxHeartbeats 800000 in
theorem cd_ofRest_row (l : Launch) (htr : l.stackTraces = false) (D : va_G) (t : Nat → ClassId) (Z : Nat × Cell) (cb : Nat) (B : BT) (x y z : Int32) (hB : OkB B) : MetX l yX0_ofRest (ws_ yX0_ofRest cX0_ofRest 5 (some .int)) ({ frames := 9, cells := 3, slots := 21, locals := 167 }) (zPc [.ref cb, .int 24, .int x, .int y, .int z] (CW D t Z cb B) (KX D t Z)) (QX D t Z cb (rwN B x) (uRow B x) B) 3 21 (cA cb) := by
  refine zOfX (cc := cX0_ofRest) (maxL := 5) (ret := (some .int)) (by decide) (Nat.le_of_ble_eq_true rfl) (fun pg ev s m below meth cd ls F hnh hW hK hl => ?_)
  obtain ⟨hx, hb, hml, hown, hts, hr, hlk⟩ := F
  have S : CallFix pg m cd cX0_ofRest 5 s _ lw_all RX0 := ⟨hx, hb, hml, hown, hts⟩
  have hl : lv_has ls 5 [(0, .ref cb), (1, .int 24), (2, .int x), (3, .int y), (4, .int z)] := hl
  have hKK := hK.1
  obtain ⟨hC, hD⟩ := hW
  have hS : va_S (fA (cA cb) s) s.heap s.heap [] := va_S.rf
  have hOk := hB.1
  have hd0 := hOk.hr0
  have hd8 := hOk.d8
  have hh3 := hOk.hr3
  have hh6 := hOk.h6
  have hs2 := hOk.hr2
  have hs5 := hOk.s5
  have hX := hOk.X
  refine lv_iload_n hx hb dX0_ofRest_0 rfl (lv_at hl 1 rfl) ?_
  refine lv_tableIn (off := 68) (tgt := 69) hx hb dX0_ofRest_1 (by decide +kernel) (by decide +kernel) rfl (by decide) ?_
  refine lv_iload_n hx hb dX0_ofRest_69 rfl (lv_at hl 2 rfl) ?_
  refine lv_i2l hx hb dX0_ofRest_70 rfl ?_
  refine lv_lconst (v := 0) hx hb dX0_ofRest_71 (by decide) ?_
  refine lv_ldc2 (v := 9) hx hb hown (hts _ q1070) dX0_ofRest_72 ?_
  refine xm_X (xx_runS (As := [.long ((x).toInt64), .long 0, .long 9]) (rest := []) S hK hC.1.2.1 (cx_within l htr D t Z ((x).toInt64) 0 9) (va_cwS 3 hts (lw_S q336 q337 q95 q338) rfl rfl rfl (by decide +kernel) ⟨Nat.le_of_ble_eq_true rfl, Nat.le_of_ble_eq_true rfl⟩) rfl hl.1 rfl (Nat.le_of_ble_eq_true rfl) dX0_ofRest_75 ⟨Nat.le_of_ble_eq_true rfl, Nat.le_of_ble_eq_true rfl⟩) hS hnh hlk (Nat.le_of_ble_eq_true rfl) (Nat.le_of_ble_eq_true rfl) ⟨hC, hD⟩ (fun h => by have e : wiL x.toInt64 0 9 = wiS x 0 9 := wiL_eq (x := x) (a := 0) (b := 9); rw [e] at h ⊢; unfold rwN; rw [if_neg (fun q => h q.1)]) (fun n75 locs hS => ?_)
  have hwi : wiS x 0 9 = 0 := (wiL_eq (x := x) (a := 0) (b := 9)).symm.trans n75
  have hx2 := wi_ok hwi
  have hB1 := hB.2.2.2.1
  refine W.join (fun vJ => F0 m 92 ls (.int vJ :: [])) (fun vJ => vJ = bI (decide (B 0 3 < 6))) (fun vJ hJ => ?_) (fun J => ?_)
  · subst hJ
    refine lv_bipush (v := (-6)) hx hb dX0_ofRest_92 (by decide) ?_
    refine xm_X (xx_runS (As := [.int (bI (decide (B 0 3 < 6))), .int (-6)]) (rest := []) S hK hC.1.2.1 (cx_must l htr D t Z (decide (B 0 3 < 6)) (-6) (by decide)) (va_cwS 2 hts (lw_S q339 q340 q95 q341) rfl rfl rfl (by decide +kernel) ⟨Nat.le_of_ble_eq_true rfl, Nat.le_of_ble_eq_true rfl⟩) rfl hl.1 rfl (Nat.le_of_ble_eq_true rfl) dX0_ofRest_94 ⟨Nat.le_of_ble_eq_true rfl, Nat.le_of_ble_eq_true rfl⟩) hS hnh hlk (Nat.le_of_ble_eq_true rfl) (Nat.le_of_ble_eq_true rfl) ⟨hC, hD⟩ (fun h => by unfold rwN; rw [if_pos ⟨hwi, lt6 hB1.1 hB1.2 (fun q => h (by rw [decide_eq_true q]; rfl))⟩, decide_eq_false (fun q => h (by rw [decide_eq_true q]; rfl))]; rfl) (fun n94 locs hS => ?_)
    have h96 : B 0 3 < 6 := of_decide_eq_true (if0 (by decide) n94)
    have hi96 : ix (B 0 3) < 6 := by rw [hB1.1] at h96; exact (nI_ltI (by omega) (by decide)).mp h96
    refine lv_aload_n hx hb dX0_ofRest_97 rfl (lv_at hl 0 rfl) ?_
    refine c_xget (v := .ref (cb + 53)) hx hb hts hown hKK hC 5 (by decide) (Or.inl q288) rfl rfl dX0_ofRest_98 ?_
    refine lv_aload_n hx hb dX0_ofRest_101 rfl (lv_at hl 0 rfl) ?_
    refine c_xget (v := .int (B 0 3)) hx hb hts hown hKK hC 6 (by decide) (Or.inl q289) rfl rfl dX0_ofRest_102 ?_
    refine lv_iload_n hx hb dX0_ofRest_105 rfl (lv_at hl 2 rfl) ?_
    refine lv_i2b hx hb dX0_ofRest_106 rfl ?_
    refine z_top (y := x) (nb_byte hx2.1 hx2.2).1 ?_
    refine z_bastq hx hb hKK.1 hC.2.1 (cL_D (fun q h => fC h)) hS 2 1 rfl rfl (k := ix (B 0 3)) hB1.1 (by omega) (by decide) (nb_byte hx2.1 hx2.2).2 dX0_ofRest_107 (fun H locs hP1 _ hq hS => ?_)
    have hW := CW.own (B' := up2 B 13 (ix (B 0 3)) x) (⟨hC, hD⟩ : CW D t Z cb B _) (up2_ne _ _ _ (by decide)) (up2_ne _ _ _ (by decide)) rfl (hP1 : MR D t cb (up2 B 13 (ix (B 0 3)) x) H) (fun q _ h => hq q (fun z => h (by unfold cO; omega)))
    obtain ⟨hC, hD⟩ := hW
    refine lv_aload_n hx hb dX0_ofRest_108 rfl (lv_at hl 0 rfl) ?_
    refine lv_dup hx hb dX0_ofRest_109 rfl ?_
    refine c_xget (v := .int ((up2 B 13 (ix (B 0 3)) x) 0 3)) hx hb hts hown hKK hC 6 (by decide) (Or.inl q289) rfl rfl dX0_ofRest_110 ?_
    refine lv_iconst (v := 1) hx hb dX0_ofRest_113 (by decide) ?_
    refine lv_iadd hx hb dX0_ofRest_114 ?_
    refine c_xput hx hb hts hown hKK ⟨hC, hD⟩ (fun q h => fC h) hS 6 3 (by decide) (by decide) (Or.inl q289) rfl rfl (by decide +kernel) rfl dX0_ofRest_115 (fun H locs hW _ hq hS => ?_)
    obtain ⟨hC, hD⟩ := hW
    refine lv_aload_n hx hb dX0_ofRest_118 rfl (lv_at hl 0 rfl) ?_
    refine c_xget (v := .int ((up2 (up2 B 13 (ix (B 0 3)) x) 0 3 (((up2 B 13 (ix (B 0 3)) x) 0 3) + 1)) 0 3)) hx hb hts hown hKK hC 6 (by decide) (Or.inl q289) rfl rfl dX0_ofRest_119 ?_
    exact x_iretX hx hb hr (by unfold rwN; rw [if_neg (fun q => by rw [q.2] at h96; exact absurd h96 (by decide)), hwi]) rfl ⟨hC, hD⟩ hS (Nat.le_of_ble_eq_true rfl) (Nat.le_of_ble_eq_true rfl) dX0_ofRest_122 hlk
  · refine lv_aload_n hx hb dX0_ofRest_78 rfl (lv_at hl 0 rfl) ?_
    refine c_xget (v := .int (B 0 3)) hx hb hts hown hKK hC 6 (by decide) (Or.inl q289) rfl rfl dX0_ofRest_79 ?_
    refine lv_bipush (v := 6) hx hb dX0_ofRest_82 (by decide) ?_
    refine lv_icmp_ge (tgt := 91) hx hb dX0_ofRest_84 (by decide) (fun c84 => ?_) (fun c84 => ?_)
    · refine lv_iconst (v := 0) hx hb dX0_ofRest_91 (by decide) ?_
      exact J _ (by rw [decide_eq_false (Int32.not_lt.mpr c84)]; rfl)
    · refine lv_iconst (v := 1) hx hb dX0_ofRest_87 (by decide) ?_
      refine lv_goto (tgt := 92) hx hb dX0_ofRest_88 (by decide) ?_
      exact J _ (by rw [decide_eq_true (Int32.not_le.mp c84)]; rfl)
set_option maxHeartbeats 800000 in
theorem cd_ofRest_judge (l : Launch) (htr : l.stackTraces = false) (D : va_G) (t : Nat → ClassId) (Z : Nat × Cell) (cb : Nat) (B : BT) (x y z : Int32) (hB : OkB B) : MetX l yX0_ofRest (ws_ yX0_ofRest cX0_ofRest 5 (some .int)) ({ frames := 1, cells := 0, slots := 0, locals := 23 }) (zPc [.ref cb, .int 26, .int x, .int y, .int z] (CW D t Z cb B) (KX D t Z)) (QX D t Z cb 0 (judS B) B) 0 0 (cA cb) := by
  refine zOfX (cc := cX0_ofRest) (maxL := 5) (ret := (some .int)) (by decide) (Nat.le_of_ble_eq_true rfl) (fun pg ev s m below meth cd ls F hnh hW hK hl => ?_)
  obtain ⟨hx, hb, hml, hown, hts, hr, hlk⟩ := F
  have S : CallFix pg m cd cX0_ofRest 5 s _ lw_all RX0 := ⟨hx, hb, hml, hown, hts⟩
  have hl : lv_has ls 5 [(0, .ref cb), (1, .int 26), (2, .int x), (3, .int y), (4, .int z)] := hl
  have hKK := hK.1
  obtain ⟨hC, hD⟩ := hW
  have hS : va_S (fA (cA cb) s) s.heap s.heap [] := va_S.rf
  have hOk := hB.1
  have hd0 := hOk.hr0
  have hd8 := hOk.d8
  have hh3 := hOk.hr3
  have hh6 := hOk.h6
  have hs2 := hOk.hr2
  have hs5 := hOk.s5
  have hX := hOk.X
  refine lv_iload_n hx hb dX0_ofRest_0 rfl (lv_at hl 1 rfl) ?_
  refine lv_tableIn (off := 129) (tgt := 130) hx hb dX0_ofRest_1 (by decide +kernel) (by decide +kernel) rfl (by decide) ?_
  refine lv_aload_n hx hb dX0_ofRest_130 rfl (lv_at hl 0 rfl) ?_
  refine va_calli (gx_runV (As := []) (rest := []) S hK ⟨hC, hD⟩ (hC.recv hKK) (cx_judgeRow l htr D t Z cb B hOk hB.2.2.2.1) (cwV 0 hts (lw_V q1083 q1085 qs55 q95 q1086) rfl rfl rfl (by decide +kernel) ⟨Nat.le_of_ble_eq_true rfl, Nat.le_of_ble_eq_true rfl⟩) rfl hl.1 rfl (Nat.le_of_ble_eq_true rfl) dX0_ofRest_131 ⟨Nat.le_of_ble_eq_true rfl, Nat.le_of_ble_eq_true rfl⟩) hS (fun q _ h => Or.inl h) (fun q h => Or.inl h) (fun r131 u131 tt H locs ht _ h131 hW _ _ hS => ?_)
  rw [ht] at hW
  obtain ⟨e1, e2⟩ := h131
  have hW : CW D t Z cb u131 H := hW
  rw [e2] at hW
  obtain ⟨hC, hD⟩ := hW
  refine z_top (y := judV B) e1 ?_
  exact x_iretX hx hb hr rfl rfl ⟨hC, hD⟩ hS (Nat.le_of_ble_eq_true rfl) (Nat.le_of_ble_eq_true rfl) dX0_ofRest_134 hlk
set_option maxHeartbeats 800000 in
theorem cd_ofLast_seeds (l : Launch) (htr : l.stackTraces = false) (D : va_G) (t : Nat → ClassId) (Z : Nat × Cell) (cb : Nat) (B : BT) (x y : Int32) (hB : OkB B) : MetX l yX0_ofLast (ws_ yX0_ofLast cX0_ofLast 4 (some .int)) ({ frames := 9, cells := 2, slots := 14, locals := 167 }) (zPc [.ref cb, .int 27, .int x, .int y] (CW D t Z cb B) (KX D t Z)) (QX D t Z cb (wiS x 1 40) (haS (sdL (B 2) y (ix x)).1 (-1), B) B) 2 14 (cA cb) := by
  refine zOfX (cc := cX0_ofLast) (maxL := 4) (ret := (some .int)) (by decide) (Nat.le_of_ble_eq_true rfl) (fun pg ev s m below meth cd ls F hnh hW hK hl => ?_)
  obtain ⟨hx, hb, hml, hown, hts, hr, hlk⟩ := F
  have S : CallFix pg m cd cX0_ofLast 4 s _ lw_all RX0 := ⟨hx, hb, hml, hown, hts⟩
  have hl : lv_has ls 4 [(0, .ref cb), (1, .int 27), (2, .int x), (3, .int y)] := hl
  have hKK := hK.1
  obtain ⟨hC, hD⟩ := hW
  have hS : va_S (fA (cA cb) s) s.heap s.heap [] := va_S.rf
  have hOk := hB.1
  have hd0 := hOk.hr0
  have hd8 := hOk.d8
  have hh3 := hOk.hr3
  have hh6 := hOk.h6
  have hs2 := hOk.hr2
  have hs5 := hOk.s5
  have hX := hOk.X
  refine lv_iload_n hx hb dX0_ofLast_0 rfl (lv_at hl 1 rfl) ?_
  refine lv_lookup (off := 27) (tgt := 28) hx hb dX0_ofLast_1 (by decide) (by decide +kernel) (by decide) ?_
  refine lv_iload_n hx hb dX0_ofLast_28 rfl (lv_at hl 2 rfl) ?_
  refine lv_i2l hx hb dX0_ofLast_29 rfl ?_
  refine lv_lconst (v := 1) hx hb dX0_ofLast_30 (by decide) ?_
  refine lv_ldc2 (v := 40) hx hb hown (hts _ q1091) dX0_ofLast_31 ?_
  refine xm_X (xx_runS (As := [.long ((x).toInt64), .long 1, .long 40]) (rest := []) S hK hC.1.2.1 (cx_within l htr D t Z ((x).toInt64) 1 40) (va_cwS 3 hts (lw_S q336 q337 q95 q338) rfl rfl rfl (by decide +kernel) ⟨Nat.le_of_ble_eq_true rfl, Nat.le_of_ble_eq_true rfl⟩) rfl hl.1 rfl (Nat.le_of_ble_eq_true rfl) dX0_ofLast_34 ⟨Nat.le_of_ble_eq_true rfl, Nat.le_of_ble_eq_true rfl⟩) hS hnh hlk (Nat.le_of_ble_eq_true rfl) (Nat.le_of_ble_eq_true rfl) ⟨hC, hD⟩ (fun h => (wiL_eq (x := x) (a := 1) (b := 40)).symm) (fun n34 locs hS => ?_)
  have hwi : wiS x 1 40 = 0 := (wiL_eq (x := x) (a := 1) (b := 40)).symm.trans n34
  have hy6 := le_ixN (x := x) (n := 40) (by decide) (Int32.le_trans (by decide) (wi_ok hwi).1) (wi_ok hwi).2
  refine lv_aload_n hx hb dX0_ofLast_37 rfl (lv_at hl 0 rfl) ?_
  refine lv_iload_n hx hb dX0_ofLast_38 rfl (lv_at hl 2 rfl) ?_
  refine lv_iload_n hx hb dX0_ofLast_39 rfl (lv_at hl 3 rfl) ?_
  refine z_stk (st' := [.int y, .int (nI (ix x)), .ref cb]) (by rw [← show x = nI (ix x) from hy6.1]) ?_
  refine va_calli (gx_runV (As := [.int (nI (ix x)), .int y]) (rest := []) S hK ⟨hC, hD⟩ (hC.recv hKK) (cx_bySeeds l htr D t Z cb B (ix x) y hOk (by omega)) (cwV 2 hts (lw_V q1092 q1094 qs57 q95 q1095) rfl rfl rfl (by decide +kernel) ⟨Nat.le_of_ble_eq_true rfl, Nat.le_of_ble_eq_true rfl⟩) rfl hl.1 rfl (Nat.le_of_ble_eq_true rfl) dX0_ofLast_40 ⟨Nat.le_of_ble_eq_true rfl, Nat.le_of_ble_eq_true rfl⟩) hS (fun q _ h => Or.inl h) (fun q h => Or.inl h) (fun r40 u40 tt H locs ht _ h40 hW _ _ hS => ?_)
  rw [ht] at hW
  obtain ⟨e1, e2⟩ := h40
  have hW : CW D t Z cb u40 H := hW
  rw [e2] at hW
  obtain ⟨hC, hD⟩ := hW
  refine z_top (y := haS (sdL (B 2) y (ix x)).1 (-1)) e1 ?_
  exact x_iretX hx hb hr hwi rfl ⟨hC, hD⟩ hS (Nat.le_of_ble_eq_true rfl) (Nat.le_of_ble_eq_true rfl) dX0_ofLast_43 hlk
set_option maxHeartbeats 800000 in
theorem cd_ofRest_seeds (l : Launch) (htr : l.stackTraces = false) (D : va_G) (t : Nat → ClassId) (Z : Nat × Cell) (cb : Nat) (B : BT) (x y z : Int32) (hB : OkB B) : MetX l yX0_ofRest (ws_ yX0_ofRest cX0_ofRest 5 (some .int)) ({ frames := 10, cells := 2, slots := 14, locals := 190 }) (zPc [.ref cb, .int 27, .int x, .int y, .int z] (CW D t Z cb B) (KX D t Z)) (QX D t Z cb (wiS x 1 40) (haS (sdL (B 2) y (ix x)).1 (-1), B) B) 2 14 (cA cb) := by
  refine zOfX (cc := cX0_ofRest) (maxL := 5) (ret := (some .int)) (by decide) (Nat.le_of_ble_eq_true rfl) (fun pg ev s m below meth cd ls F hnh hW hK hl => ?_)
  obtain ⟨hx, hb, hml, hown, hts, hr, hlk⟩ := F
  have S : CallFix pg m cd cX0_ofRest 5 s _ lw_all RX0 := ⟨hx, hb, hml, hown, hts⟩
  have hl : lv_has ls 5 [(0, .ref cb), (1, .int 27), (2, .int x), (3, .int y), (4, .int z)] := hl
  have hKK := hK.1
  obtain ⟨hC, hD⟩ := hW
  have hS : va_S (fA (cA cb) s) s.heap s.heap [] := va_S.rf
  have hOk := hB.1
  have hd0 := hOk.hr0
  have hd8 := hOk.d8
  have hh3 := hOk.hr3
  have hh6 := hOk.h6
  have hs2 := hOk.hr2
  have hs5 := hOk.s5
  have hX := hOk.X
  refine lv_iload_n hx hb dX0_ofRest_0 rfl (lv_at hl 1 rfl) ?_
  refine lv_tableOut (tgt := 135) hx hb dX0_ofRest_1 (Or.inr (by decide +kernel)) (by decide) ?_
  refine lv_aload_n hx hb dX0_ofRest_135 rfl (lv_at hl 0 rfl) ?_
  refine lv_iload_n hx hb dX0_ofRest_136 rfl (lv_at hl 1 rfl) ?_
  refine lv_iload_n hx hb dX0_ofRest_137 rfl (lv_at hl 2 rfl) ?_
  refine lv_iload_n hx hb dX0_ofRest_138 rfl (lv_at hl 3 rfl) ?_
  refine xx_X (xx_runV (As := [.int 27, .int x, .int y]) (rest := []) S hK ⟨hC, hD⟩ (hC.recv hKK) (cd_ofLast_seeds l htr D t Z cb B x y hB) (cwV 3 hts (lw_V q1087 q1089 qs56 q95 q1090) rfl rfl rfl (by decide +kernel) ⟨Nat.le_of_ble_eq_true rfl, Nat.le_of_ble_eq_true rfl⟩) rfl hl.1 rfl (Nat.le_of_ble_eq_true rfl) dX0_ofRest_139 ⟨Nat.le_of_ble_eq_true rfl, Nat.le_of_ble_eq_true rfl⟩) hS hnh hlk (Nat.le_of_ble_eq_true rfl) (Nat.le_of_ble_eq_true rfl) (fun h => ⟨rfl, rfl⟩) (fun n139 H locs hW hS => ?_)
  obtain ⟨hC, hD⟩ := hW
  exact x_iretX hx hb hr n139 (pe _) ⟨hC, hD⟩ hS (Nat.le_of_ble_eq_true rfl) (Nat.le_of_ble_eq_true rfl) dX0_ofRest_142 hlk
theorem sIO {cb q : Nat} {s : State} (h : sA (cb + 38) (cb + 8) q) : fA (cA cb) s q := by
  rcases h with h | h <;> exact Or.inl ⟨by have := h.1; omega, by have := h.2; omega⟩
theorem sOI {cb q : Nat} {s : State} (h : sA (cb + 8) (cb + 38) q) : fA (cA cb) s q := by
  rcases h with h | h <;> exact Or.inl ⟨by have := h.1; omega, by have := h.2; omega⟩
/-- that there is an image is noted; the image itself isn't there yet -/
theorem c_imput {p : Program} {l : Launch} {e : Env} {R : Room} {s : State} {m : MethodId} {args : Array Value} {below : List Frame} {meth : Method} {c : Code} {H : Heap} {locs : List Loc} {cells slots : Nat} {Q : State → Prop} {cc : ByteArray} {pc : Nat} {ls : Array Slot} {rest : List Value} {D : va_G} {t : Nat → ClassId} {Z : Nat × Cell} {cb : Nat} {B : BT} {own : String} {index : Nat}
    (hexec : p.tables.exec = Jvm.exec) (hb : c.code = cc) (hts : ∀ w ∈ lw_all, w.before args s = true) (hown : s.vm.findClass own = some m.cls) (hKK : KK D t s) (hC : CM D t Z cb B H) (hS : va_S (fA (cA cb) s) s.heap H locs) (hlink : (Cond.fieldLink own index "SongThatStays" (TX0 4).2.1 (TX0 4).2.2.1) ∈ lw_all ∨ ∃ host, (Cond.fieldLinkNest own index "SongThatStays" (TX0 4).2.1 (TX0 4).2.2.1 host) ∈ lw_tbl) (hdg : decode cc pc = .ok (.putfield index, 3))
    (kk : ∀ (H1 : Heap) (locs1 : List Loc), MR D t cb (up2 B 0 0 1) H1 → (Z.1 < cb ∧ H1[Z.1]? = some Z.2 ∧ ∃ x, H1[cb + 69]? = some x) → MO D t cb (B 2) H1 → (∃ O sg kd, OR D t (cb + 38) O sg kd H1) → ND D t cb H1 → (∀ q : Nat, ¬ cO cb q → H1[q]? = H[q]?) → va_S (fA (cA cb) s) s.heap H1 locs1 → W p l e R s m args below meth c H1 locs1 cells slots Q (F0 m (pc + 3) ls rest)) (hD : ND D t cb H) : W p l e R s m args below meth c H locs cells slots Q (F0 m pc ls (.int 1 :: .ref cb :: rest)) := by
  refine z_putq (D := D) (ci := 0) (C := RX0) (T := TX0) (N := 10) hexec hb hts in_X0 tyX0 tyX0_ok nmX0 hown hKK.1 hC.2.1 (cL_D (fun q h => fC h)) hS 0 rfl rfl 4 (by decide) (hlink.imp (fun h => hts _ h) (fun ⟨host, h⟩ => ⟨host, va_Nw.use rfl (hKK.2.1 _ h rfl)⟩)) (fun _ h9 => h9) rfl (ty := .boolean) (by decide +kernel) rfl rfl (Nat.le_of_ble_eq_true rfl) hdg (fun H1 locs1 hP1 hz hq hS1 => ?_)
  have hq1 : ∀ q : Nat, ¬ cO cb q → H1[q]? = H[q]? := fun q hn => hq q (fun e => hn (Or.inl e))
  exact kk H1 locs1 (hP1 : MR D t cb (up2 B 0 0 1) H1) (ct_Z hC.1 (fun q h1 h2 => hq1 q (fun z => by unfold cO at z; omega))) (hC.2.2.1.kept (fun q h1 h2 => hq1 q (fun z => by unfold oA at h2; unfold cO at z; omega))) (hC.2.2.2.kept (fun q h1 h2 => hq1 q (fun z => by unfold oA at h2; unfold cO at z; omega))).1 (hD.kept (fun q h1 h2 => hq1 q (fun z => by unfold oA at h2; unfold cO at z; omega))) hq1 hS1
set_option maxHeartbeats 800000 in
theorem cd_ofLast_image (l : Launch) (htr : l.stackTraces = false) (D : va_G) (t : Nat → ClassId) (Z : Nat × Cell) (cb : Nat) (B : BT) (x y : Int32) (hB : OkB B) : MetX l yX0_ofLast (ws_ yX0_ofLast cX0_ofLast 4 (some .int)) ({ frames := 2, cells := 0, slots := 0, locals := 85 }) (zPc [.ref cb, .int 28, .int x, .int y] (CW D t Z cb B) (KX D t Z)) (QX D t Z cb 0 (imS B) B) 0 0 (cA cb) := by
  refine zOfX (cc := cX0_ofLast) (maxL := 4) (ret := (some .int)) (by decide) (Nat.le_of_ble_eq_true rfl) (fun pg ev s m below meth cd ls F hnh hW hK hl => ?_)
  obtain ⟨hx, hb, hml, hown, hts, hr, hlk⟩ := F
  have S : CallFix pg m cd cX0_ofLast 4 s _ lw_all RX0 := ⟨hx, hb, hml, hown, hts⟩
  have hl : lv_has ls 4 [(0, .ref cb), (1, .int 28), (2, .int x), (3, .int y)] := hl
  have hKK := hK.1
  obtain ⟨hC, hD⟩ := hW
  have hS : va_S (fA (cA cb) s) s.heap s.heap [] := va_S.rf
  have hOk := hB.1
  have hd0 := hOk.hr0
  have hd8 := hOk.d8
  have hh3 := hOk.hr3
  have hh6 := hOk.h6
  have hs2 := hOk.hr2
  have hs5 := hOk.s5
  have hX := hOk.X
  refine lv_iload_n hx hb dX0_ofLast_0 rfl (lv_at hl 1 rfl) ?_
  refine lv_lookup (off := 43) (tgt := 44) hx hb dX0_ofLast_1 (by decide) (by decide +kernel) (by decide) ?_
  refine lv_aload_n hx hb dX0_ofLast_44 rfl (lv_at hl 0 rfl) ?_
  refine lv_iconst (v := 1) hx hb dX0_ofLast_45 (by decide) ?_
  refine c_imput hx hb hts hown hKK hC hS (Or.inl q287) dX0_ofLast_46 (fun H locs hM hZ hO hI hD hq hS => ?_) hD
  refine lv_aload_n hx hb dX0_ofLast_49 rfl (lv_at hl 0 rfl) ?_
  refine va_get (D := D) (ci := 0) (C := RX0) (T := TX0) (N := 10) hx hb hts in_X0 hown hKK.1 hM 0 rfl rfl 3 (by decide) (hts _ q286) (fun _ h9 => h9) rfl dX0_ofLast_50 ?_
  refine lv_aload_n hx hb dX0_ofLast_53 rfl (lv_at hl 0 rfl) ?_
  refine va_get (D := D) (ci := 0) (C := RX0) (T := TX0) (N := 10) hx hb hts in_X0 hown hKK.1 hM 0 rfl rfl 1 (by decide) (hts _ q284) (fun _ h9 => h9) rfl dX0_ofLast_54 ?_
  obtain ⟨sgO, kdO, AO, hV⟩ := hO
  obtain ⟨O, sgI, kdI, hR⟩ := hI
  refine va_callv (g_runV (As := [.ref (cb + 8)]) (rest := []) S hKK (P := fun H => OR D t (cb + 38) O sgI kdI H ∧ OV D t (cb + 8) (cb + 2) (cb + 70) sgO kdO (B 2) AO H) ⟨hR, hV⟩ (va_recv hKK.1 hR (ci := 2) (q0 := 0) rfl rfl) (co_X8_set l D t (cb + 38) (cb + 2) (cb + 70) sgI kdI O (cb + 8) sgO kdO (B 2) AO (by omega) (by omega) (by omega) (by omega) (by omega)) (cwV 1 hts (lw_V q586 q587 q588 q103 q589) rfl rfl rfl (by decide +kernel) ⟨Nat.le_of_ble_eq_true rfl, Nat.le_of_ble_eq_true rfl⟩) rfl hl.1 rfl (Nat.le_of_ble_eq_true rfl) dX0_ofLast_57 ⟨Nat.le_of_ble_eq_true rfl, Nat.le_of_ble_eq_true rfl⟩) hS (fun q _ h => sIO h) (fun q h => sIO h) (fun u tt H locs ht _ _ hP _ hq hS => ?_)
  rw [ht] at hP
  have hC : CM D t Z cb (up2 (upc B 3 (B 2)) 0 0 1) H := ⟨ct_Z hZ (fun q h1 h2 => hq q h1 (fun z => by unfold sA oA at z; omega)), (show MR D t cb (up2 B 0 0 1) H from hM.kept (fun q h1 h2 => hq q h1 (fun z => by unfold cO at h2; unfold sA oA at z; omega))), ⟨sgO, kdO, AO, hP.2⟩, ⟨⟨_, _, _, hP.1.1⟩, fun _ => ⟨sgO, kdO, O, hP.1⟩⟩⟩
  have hD := hD.kept (fun q h1 h2 => hq q h1 (fun z => by unfold oA at h2; unfold sA oA at z; omega))
  refine lv_aload_n hx hb dX0_ofLast_60 rfl (lv_at hl 0 rfl) ?_
  refine c_xget (v := .ref (cb + 8)) hx hb hts hown hKK hC 1 (by decide) (Or.inl q284) rfl rfl dX0_ofLast_61 ?_
  refine c_oget (v := .int (((up2 (upc B 3 (B 2)) 0 0 1) 2) 4)) hx hb hts hown hKK hC 13 (by decide) (Or.inr ⟨_, q229⟩) rfl (fun _ => rfl) dX0_ofLast_64 ?_
  refine z_top (y := B 2 4) rfl ?_
  exact x_iretX hx hb hr rfl rfl ⟨hC, hD⟩ hS (Nat.le_of_ble_eq_true rfl) (Nat.le_of_ble_eq_true rfl) dX0_ofLast_67 hlk
set_option maxHeartbeats 800000 in
theorem cd_ofRest_image (l : Launch) (htr : l.stackTraces = false) (D : va_G) (t : Nat → ClassId) (Z : Nat × Cell) (cb : Nat) (B : BT) (x y z : Int32) (hB : OkB B) : MetX l yX0_ofRest (ws_ yX0_ofRest cX0_ofRest 5 (some .int)) ({ frames := 3, cells := 0, slots := 0, locals := 108 }) (zPc [.ref cb, .int 28, .int x, .int y, .int z] (CW D t Z cb B) (KX D t Z)) (QX D t Z cb 0 (imS B) B) 0 0 (cA cb) := by
  refine zOfX (cc := cX0_ofRest) (maxL := 5) (ret := (some .int)) (by decide) (Nat.le_of_ble_eq_true rfl) (fun pg ev s m below meth cd ls F hnh hW hK hl => ?_)
  obtain ⟨hx, hb, hml, hown, hts, hr, hlk⟩ := F
  have S : CallFix pg m cd cX0_ofRest 5 s _ lw_all RX0 := ⟨hx, hb, hml, hown, hts⟩
  have hl : lv_has ls 5 [(0, .ref cb), (1, .int 28), (2, .int x), (3, .int y), (4, .int z)] := hl
  have hKK := hK.1
  obtain ⟨hC, hD⟩ := hW
  have hS : va_S (fA (cA cb) s) s.heap s.heap [] := va_S.rf
  have hOk := hB.1
  have hd0 := hOk.hr0
  have hd8 := hOk.d8
  have hh3 := hOk.hr3
  have hh6 := hOk.h6
  have hs2 := hOk.hr2
  have hs5 := hOk.s5
  have hX := hOk.X
  refine lv_iload_n hx hb dX0_ofRest_0 rfl (lv_at hl 1 rfl) ?_
  refine lv_tableOut (tgt := 135) hx hb dX0_ofRest_1 (Or.inr (by decide +kernel)) (by decide) ?_
  refine lv_aload_n hx hb dX0_ofRest_135 rfl (lv_at hl 0 rfl) ?_
  refine lv_iload_n hx hb dX0_ofRest_136 rfl (lv_at hl 1 rfl) ?_
  refine lv_iload_n hx hb dX0_ofRest_137 rfl (lv_at hl 2 rfl) ?_
  refine lv_iload_n hx hb dX0_ofRest_138 rfl (lv_at hl 3 rfl) ?_
  refine xx_X (xx_runV (As := [.int 28, .int x, .int y]) (rest := []) S hK ⟨hC, hD⟩ (hC.recv hKK) (cd_ofLast_image l htr D t Z cb B x y hB) (cwV 3 hts (lw_V q1087 q1089 qs56 q95 q1090) rfl rfl rfl (by decide +kernel) ⟨Nat.le_of_ble_eq_true rfl, Nat.le_of_ble_eq_true rfl⟩) rfl hl.1 rfl (Nat.le_of_ble_eq_true rfl) dX0_ofRest_139 ⟨Nat.le_of_ble_eq_true rfl, Nat.le_of_ble_eq_true rfl⟩) hS hnh hlk (Nat.le_of_ble_eq_true rfl) (Nat.le_of_ble_eq_true rfl) (fun h => ⟨rfl, rfl⟩) (fun n139 H locs hW hS => ?_)
  obtain ⟨hC, hD⟩ := hW
  exact x_iretX hx hb hr n139 (pe _) ⟨hC, hD⟩ hS (Nat.le_of_ble_eq_true rfl) (Nat.le_of_ble_eq_true rfl) dX0_ofRest_142 hlk
set_option maxHeartbeats 800000 in
theorem cd_ofLast_on (l : Launch) (htr : l.stackTraces = false) (D : va_G) (t : Nat → ClassId) (Z : Nat × Cell) (cb : Nat) (B : BT) (x y : Int32) (hB : OkB B) : MetX l yX0_ofLast (ws_ yX0_ofLast cX0_ofLast 4 (some .int)) ({ frames := 8, cells := 1, slots := 7, locals := 142 }) (zPc [.ref cb, .int 29, .int x, .int y] (CW D t Z cb B) (KX D t Z)) (QX D t Z cb (nOn B) (B 3 4, upc B 2 (B 3)) B) 1 7 (cA cb) := by
  refine zOfX (cc := cX0_ofLast) (maxL := 4) (ret := (some .int)) (by decide) (Nat.le_of_ble_eq_true rfl) (fun pg ev s m below meth cd ls F hnh hW hK hl => ?_)
  obtain ⟨hx, hb, hml, hown, hts, hr, hlk⟩ := F
  have S : CallFix pg m cd cX0_ofLast 4 s _ lw_all RX0 := ⟨hx, hb, hml, hown, hts⟩
  have hl : lv_has ls 4 [(0, .ref cb), (1, .int 29), (2, .int x), (3, .int y)] := hl
  have hKK := hK.1
  obtain ⟨hC, hD⟩ := hW
  have hS : va_S (fA (cA cb) s) s.heap s.heap [] := va_S.rf
  have hOk := hB.1
  have hd0 := hOk.hr0
  have hd8 := hOk.d8
  have hh3 := hOk.hr3
  have hh6 := hOk.h6
  have hs2 := hOk.hr2
  have hs5 := hOk.s5
  have hX := hOk.X
  refine lv_iload_n hx hb dX0_ofLast_0 rfl (lv_at hl 1 rfl) ?_
  refine lv_lookup (off := 67) (tgt := 68) hx hb dX0_ofLast_1 (by decide) (by decide +kernel) (by decide) ?_
  refine lv_aload_n hx hb dX0_ofLast_68 rfl (lv_at hl 0 rfl) ?_
  refine c_xget (v := .int (B 0 0)) hx hb hts hown hKK hC 4 (by decide) (Or.inl q287) rfl rfl dX0_ofLast_69 ?_
  refine z_top (y := bI (decide (¬ B 0 0 = 0))) (by rcases hB.2.1.1 with e | e; (rw [e]; rfl); (rw [e]; rfl)) ?_
  refine lv_bipush (v := (-3)) hx hb dX0_ofLast_72 (by decide) ?_
  refine xm_X (xx_runS (As := [.int (bI (decide (¬ B 0 0 = 0))), .int (-3)]) (rest := []) S hK hC.1.2.1 (cx_must l htr D t Z (decide (¬ B 0 0 = 0)) (-3) (by decide)) (va_cwS 2 hts (lw_S q339 q340 q95 q341) rfl rfl rfl (by decide +kernel) ⟨Nat.le_of_ble_eq_true rfl, Nat.le_of_ble_eq_true rfl⟩) rfl hl.1 rfl (Nat.le_of_ble_eq_true rfl) dX0_ofLast_74 ⟨Nat.le_of_ble_eq_true rfl, Nat.le_of_ble_eq_true rfl⟩) hS hnh hlk (Nat.le_of_ble_eq_true rfl) (Nat.le_of_ble_eq_true rfl) ⟨hC, hD⟩ (fun h => by have hc : B 0 0 = 0 := Decidable.of_not_not (fun q => h (by rw [decide_eq_true (show ¬ B 0 0 = 0 from q)]; rfl)); unfold nOn; rw [if_pos hc, decide_eq_false (fun q => q hc)]; rfl) (fun n74 locs hS => ?_)
  have him := of_decide_eq_true (if0 (by decide) n74)
  refine lv_aload_n hx hb dX0_ofLast_77 rfl (lv_at hl 0 rfl) ?_
  refine c_xget (v := .ref (cb + 8)) hx hb hts hown hKK hC 1 (by decide) (Or.inl q284) rfl rfl dX0_ofLast_78 ?_
  refine lv_aload_n hx hb dX0_ofLast_81 rfl (lv_at hl 0 rfl) ?_
  refine c_xget (v := .ref (cb + 38)) hx hb hts hown hKK hC 3 (by decide) (Or.inl q286) rfl rfl dX0_ofLast_82 ?_
  obtain ⟨sgO, kdO, AO, hV⟩ := hC.2.2.1
  obtain ⟨sgI, kdI, AI, hI⟩ := hC.2.2.2.2 him
  refine va_callv (g_runV (As := [.ref (cb + 38)]) (rest := []) S hKK (P := fun H => OR D t (cb + 8) (oC (B 2) AO) sgO kdO H ∧ OV D t (cb + 38) (cb + 2) (cb + 70) sgI kdI (B 3) AI H) ⟨hV.1, hI⟩ (hV.recv hKK) (co_X8_set l D t (cb + 8) (cb + 2) (cb + 70) sgO kdO (oC (B 2) AO) (cb + 38) sgI kdI (B 3) AI (by omega) (by omega) (by omega) (by omega) (by omega)) (cwV 1 hts (lw_V q586 q587 q588 q103 q589) rfl rfl rfl (by decide +kernel) ⟨Nat.le_of_ble_eq_true rfl, Nat.le_of_ble_eq_true rfl⟩) rfl hl.1 rfl (Nat.le_of_ble_eq_true rfl) dX0_ofLast_85 ⟨Nat.le_of_ble_eq_true rfl, Nat.le_of_ble_eq_true rfl⟩) hS (fun q _ h => sOI h) (fun q h => sOI h) (fun u tt H locs ht _ _ hP _ hq hS => ?_)
  rw [ht] at hP
  have hC : CM D t Z cb (upc B 2 (B 3)) H := ⟨ct_Z hC.1 (fun q h1 h2 => hq q h1 (fun z => by unfold sA oA at z; omega)), (show MR D t cb B H from hC.2.1.kept (fun q h1 h2 => hq q h1 (fun z => by unfold cO at h2; unfold sA oA at z; omega))), ⟨sgI, kdI, _, hP.1⟩, ⟨⟨_, _, _, hP.2.1⟩, fun _ => ⟨sgI, kdI, AI, hP.2⟩⟩⟩
  have hD := hD.kept (fun q h1 h2 => hq q h1 (fun z => by unfold oA at h2; unfold sA oA at z; omega))
  refine lv_aload_n hx hb dX0_ofLast_88 rfl (lv_at hl 0 rfl) ?_
  refine c_xget (v := .ref (cb + 8)) hx hb hts hown hKK hC 1 (by decide) (Or.inl q284) rfl rfl dX0_ofLast_89 ?_
  refine c_oget (v := .int (((upc B 2 (B 3)) 2) 4)) hx hb hts hown hKK hC 13 (by decide) (Or.inr ⟨_, q229⟩) rfl (fun _ => rfl) dX0_ofLast_92 ?_
  refine z_top (y := B 3 4) rfl ?_
  exact x_iretX hx hb hr (by unfold nOn; rw [if_neg him]) rfl ⟨hC, hD⟩ hS (Nat.le_of_ble_eq_true rfl) (Nat.le_of_ble_eq_true rfl) dX0_ofLast_95 hlk
set_option maxHeartbeats 800000 in
theorem cd_ofRest_on (l : Launch) (htr : l.stackTraces = false) (D : va_G) (t : Nat → ClassId) (Z : Nat × Cell) (cb : Nat) (B : BT) (x y z : Int32) (hB : OkB B) : MetX l yX0_ofRest (ws_ yX0_ofRest cX0_ofRest 5 (some .int)) ({ frames := 9, cells := 1, slots := 7, locals := 165 }) (zPc [.ref cb, .int 29, .int x, .int y, .int z] (CW D t Z cb B) (KX D t Z)) (QX D t Z cb (nOn B) (B 3 4, upc B 2 (B 3)) B) 1 7 (cA cb) := by
  refine zOfX (cc := cX0_ofRest) (maxL := 5) (ret := (some .int)) (by decide) (Nat.le_of_ble_eq_true rfl) (fun pg ev s m below meth cd ls F hnh hW hK hl => ?_)
  obtain ⟨hx, hb, hml, hown, hts, hr, hlk⟩ := F
  have S : CallFix pg m cd cX0_ofRest 5 s _ lw_all RX0 := ⟨hx, hb, hml, hown, hts⟩
  have hl : lv_has ls 5 [(0, .ref cb), (1, .int 29), (2, .int x), (3, .int y), (4, .int z)] := hl
  have hKK := hK.1
  obtain ⟨hC, hD⟩ := hW
  have hS : va_S (fA (cA cb) s) s.heap s.heap [] := va_S.rf
  have hOk := hB.1
  have hd0 := hOk.hr0
  have hd8 := hOk.d8
  have hh3 := hOk.hr3
  have hh6 := hOk.h6
  have hs2 := hOk.hr2
  have hs5 := hOk.s5
  have hX := hOk.X
  refine lv_iload_n hx hb dX0_ofRest_0 rfl (lv_at hl 1 rfl) ?_
  refine lv_tableOut (tgt := 135) hx hb dX0_ofRest_1 (Or.inr (by decide +kernel)) (by decide) ?_
  refine lv_aload_n hx hb dX0_ofRest_135 rfl (lv_at hl 0 rfl) ?_
  refine lv_iload_n hx hb dX0_ofRest_136 rfl (lv_at hl 1 rfl) ?_
  refine lv_iload_n hx hb dX0_ofRest_137 rfl (lv_at hl 2 rfl) ?_
  refine lv_iload_n hx hb dX0_ofRest_138 rfl (lv_at hl 3 rfl) ?_
  refine xx_X (xx_runV (As := [.int 29, .int x, .int y]) (rest := []) S hK ⟨hC, hD⟩ (hC.recv hKK) (cd_ofLast_on l htr D t Z cb B x y hB) (cwV 3 hts (lw_V q1087 q1089 qs56 q95 q1090) rfl rfl rfl (by decide +kernel) ⟨Nat.le_of_ble_eq_true rfl, Nat.le_of_ble_eq_true rfl⟩) rfl hl.1 rfl (Nat.le_of_ble_eq_true rfl) dX0_ofRest_139 ⟨Nat.le_of_ble_eq_true rfl, Nat.le_of_ble_eq_true rfl⟩) hS hnh hlk (Nat.le_of_ble_eq_true rfl) (Nat.le_of_ble_eq_true rfl) (fun h => ⟨rfl, rfl⟩) (fun n139 H locs hW hS => ?_)
  obtain ⟨hC, hD⟩ := hW
  exact x_iretX hx hb hr n139 (pe _) ⟨hC, hD⟩ hS (Nat.le_of_ble_eq_true rfl) (Nat.le_of_ble_eq_true rfl) dX0_ofRest_142 hlk
