/-! THE CLASS's METHODS (2): hours in mind; printed by wip/D-96246w/gen/gen_x2.py -/
set_option maxRecDepth 100000
set_option maxHeartbeats 800000 in
theorem cx_firstTaken (l : Launch) (htr : l.stackTraces = false) (D : va_G) (t : Nat → ClassId) (Z : Nat × Cell) (cb : Nat) (B : BT) (j : Nat) (v : Int32) (hOk : Ok (B 2) 999) (hj : j < nH (B 2)) : Met l yX0_firstTaken (ws_ yX0_firstTaken cX0_firstTaken 5 (some .int)) ({ frames := 6, cells := 0, slots := 0, locals := 132 }) (zPc [.ref cb, .int (nI j), .int v] (CW D t Z cb B) (KX D t Z)) (va_Qi (fun r u => r = fdS (fun n => decide (hd (hrS (B 2) n) j 3 = v)) 61 ∧ u = B) (fun B' U => CW D t Z cb B' U.heap) (cA cb)) 0 0 (cA cb) := by
  refine zOf (cc := cX0_firstTaken) (maxL := 5) (ret := (some .int)) (by decide) (Nat.le_of_ble_eq_true rfl) (fun pg ev s m below meth cd ls F hW hK hl hnm => ?_)
  obtain ⟨hx, hb, hml, hown, hts, hr, hlk⟩ := F
  have S : CallFix pg m cd cX0_firstTaken 5 s _ lw_all RX0 := ⟨hx, hb, hml, hown, hts⟩
  have hl : lv_has ls 5 [(0, .ref cb), (1, .int (nI j)), (2, .int v)] := hl
  have hKK := hK.1
  obtain ⟨hC, hD⟩ := hW
  have hS : va_S (fA (cA cb) s) s.heap s.heap [] := va_S.rf
  have hd0 := hOk.hr0
  have hd8 := hOk.d8
  have hh3 := hOk.hr3
  have hh6 := hOk.h6
  have hs2 := hOk.hr2
  have hs5 := hOk.s5
  have hX := hOk.X
  refine lv_aload_n hx hb dX0_firstTaken_0 rfl (lv_at hl 0 rfl) ?_
  refine va_callr (gx_runV (As := []) (rest := []) S hK ⟨hC, hD⟩ (hC.recv hKK) (cx_openMind l htr D t Z cb B ) (cwV 0 hts (lw_V q971 q973 qs31 q95 q974) rfl rfl rfl (by decide +kernel) ⟨Nat.le_of_ble_eq_true rfl, Nat.le_of_ble_eq_true rfl⟩) rfl hl.1 rfl (Nat.le_of_ble_eq_true rfl) dX0_firstTaken_1 ⟨Nat.le_of_ble_eq_true rfl, Nat.le_of_ble_eq_true rfl⟩) hS (fun q _ h => Or.inl h) (fun q h => Or.inl h) (fun u1 a1 tt H locs ht _ _ hW _ _ hS => ?_)
  obtain ⟨sgN, kdN, AN⟩ := u1
  obtain ⟨rfl, hC, hN⟩ := hW
  rw [ht] at hC hN
  have hN : OV D t (cb + 23) (cb + 2) (cb + 70) sgN kdN (B 2) AN H := hN
  refine lv_astore_n (lv' := [(3, .ref (cb + 23)), (0, .ref cb), (1, .int (nI j)), (2, .int v)]) hx hb dX0_firstTaken_4 rfl hl (by decide) rfl (fun ls hl => ?_)
  refine lv_iconst (v := 0) hx hb dX0_firstTaken_5 (by decide) ?_
  refine lv_istore (lv' := [(4, .int 0), (3, .ref (cb + 23)), (0, .ref cb), (1, .int (nI j)), (2, .int v)]) hx hb dX0_firstTaken_6 hl (by decide) rfl (fun ls hl => ?_)
  refine W.loop (σ := Nat) (fun k H locs ls => k ≤ 61 ∧ (fdS (fun n => decide (hd (hrS (B 2) n) j 3 = v)) k = -9) ∧ CM D t Z cb B H ∧ (∃ sg kd A, OV D t (cb + 23) (cb + 2) (cb + 70) sg kd (hrS (B 2) k) A H) ∧ va_S (fA (cA cb) s) s.heap H locs ∧ lv_has ls 5 [(4, .int (nI k)), (3, .ref (cb + 23)), (0, .ref cb), (1, .int (nI j)), (2, .int v)]) (fun k => 61 - k) (fun k H locs ls hIk ihk => ?_) 0 ⟨by omega, rfl, hC, ⟨_, _, _, (by rw [show hrS (B 2) 0 = B 2 from rfl]; exact hN)⟩, hS, lv_sub hl [0, 1, 2, 3, 4] rfl⟩
  obtain ⟨hk, hEk, hC, ⟨sgN, kdN, AN, hN⟩, hS, hl⟩ := hIk
  refine lv_iload hx hb dX0_firstTaken_8 (lv_at hl 0 rfl) ?_
  refine lv_bipush (v := 60) hx hb dX0_firstTaken_10 (by decide) ?_
  refine lv_icmp_gt (tgt := 39) hx hb dX0_firstTaken_12 (by decide) (fun c12 => ?_) (fun c12 => ?_)
  · obtain rfl : k = 61 := Nat.le_antisymm hk (lp_gt (n := 60) rfl (by omega) (by omega) c12)
    refine lv_bipush (v := (-9)) hx hb dX0_firstTaken_39 (by decide) ?_
    exact x_iretC hx hb hr ⟨hEk.symm, rfl⟩ ⟨hC, ⟨_, _, _, hN.1⟩⟩ hS (Nat.le_of_ble_eq_true rfl) (Nat.le_of_ble_eq_true rfl) dX0_firstTaken_41 hlk
  · have hk2 : k ≤ 60 := lp_ng (n := 60) rfl (by omega) (by omega) c12
    refine lv_aload_n hx hb dX0_firstTaken_15 rfl (lv_at hl 1 rfl) ?_
    refine n_get (v := .ref (cb + 23 + 7)) hx hb hts hown hKK hN.1 10 (by decide) (Or.inr ⟨_, q222⟩) rfl rfl dX0_firstTaken_16 ?_
    refine lv_iload_n hx hb dX0_firstTaken_19 rfl (lv_at hl 3 rfl) ?_
    refine o_ald hx hb hKK hN.1 7 rfl (k := j) (v := hd (hrS (B 2) k) j 3) rfl (by omega) (by decide) rfl dX0_firstTaken_20 ?_
    refine lv_iload_n hx hb dX0_firstTaken_21 rfl (lv_at hl 4 rfl) ?_
    refine lv_icmp_ne (tgt := 28) hx hb dX0_firstTaken_22 (by decide) (fun c22 => ?_) (fun c22 => ?_)
    · refine lv_aload_n hx hb dX0_firstTaken_28 rfl (lv_at hl 1 rfl) ?_
      refine va_calli (g_runV (As := []) (rest := []) S hKK hN (hN.recv hKK) (co_X8_hourOn l D t (cb + 23) (cb + 2) (cb + 70) sgN kdN (hrS (B 2) k) AN (999 + k) (Ok_hrS hOk (by omega)) (by omega) (by omega) (by omega)) (cwV 0 hts (lw_V q910 q911 q912 q103 q913) rfl rfl rfl (by decide +kernel) ⟨Nat.le_of_ble_eq_true rfl, Nat.le_of_ble_eq_true rfl⟩) rfl hl.1 rfl (Nat.le_of_ble_eq_true rfl) dX0_firstTaken_29 ⟨Nat.le_of_ble_eq_true rfl, Nat.le_of_ble_eq_true rfl⟩) hS (fun q _ h => fM h) (fun q h => fM h) (fun r29 u29 tt H locs ht _ h29 hN _ hq hS => ?_)
      obtain ⟨R29, A29⟩ := u29
      rw [ht] at hN
      have hN : OV D t (cb + 23) (cb + 2) (cb + 70) sgN kdN R29 A29 H := hN
      obtain ⟨e1, e2, -, -⟩ := h29
      have e2 : R29 = hoS (hrS (B 2) k) := e2
      rw [e2] at hN
      rw [show hoS (hrS (B 2) k) = hrS (B 2) (k + 1) from rfl] at hN
      refine z_top (y := gnS (hrS (B 2) k)) e1 ?_
      have hC := hC.kept hq
      refine lv_pop hx hb dX0_firstTaken_32 rfl ?_
      refine lv_iinc (v := nI (k + 1)) (lv' := [(4, .int (nI (k + 1))), (3, .ref (cb + 23)), (0, .ref cb), (1, .int (nI j)), (2, .int v)]) hx hb dX0_firstTaken_33 hl (k := 0) rfl (nI_1 k) (by decide) rfl (fun ls hl => ?_)
      refine lv_goto (tgt := 8) hx hb dX0_firstTaken_36 (by decide) ?_
      exact ihk (k + 1) H locs ls (by omega) ⟨by omega, (fd_miss hEk (decide_eq_false c22)), hC, ⟨_, _, _, (by rw [show hrS (B 2) (k + 1) = hrS (B 2) (k + 1) from rfl]; exact hN)⟩, hS, lv_sub hl [0, 1, 2, 3, 4] rfl⟩
    · refine lv_iload hx hb dX0_firstTaken_25 (lv_at hl 0 rfl) ?_
      exact x_iretC hx hb hr ⟨(fd_hit hEk (decide_eq_true c22) (show k < 61 by omega) (by decide)).symm, rfl⟩ ⟨hC, ⟨_, _, _, hN.1⟩⟩ hS (Nat.le_of_ble_eq_true rfl) (Nat.le_of_ble_eq_true rfl) dX0_firstTaken_27 hlk
set_option maxHeartbeats 800000 in
theorem cx_stillBehind (l : Launch) (htr : l.stackTraces = false) (D : va_G) (t : Nat → ClassId) (Z : Nat × Cell) (cb : Nat) (B : BT) (hOk : Ok (B 2) 999) : Met l yX0_stillBehind (ws_ yX0_stillBehind cX0_stillBehind 3 (some .int)) ({ frames := 6, cells := 0, slots := 0, locals := 132 }) (zPc [.ref cb] (CW D t Z cb B) (KX D t Z)) (va_Qi (fun r u => r = fdS (fun n => decide (haS (hrS (B 2) n) (-1) = 0)) 61 ∧ u = B) (fun B' U => CW D t Z cb B' U.heap) (cA cb)) 0 0 (cA cb) := by
  refine zOf (cc := cX0_stillBehind) (maxL := 3) (ret := (some .int)) (by decide) (Nat.le_of_ble_eq_true rfl) (fun pg ev s m below meth cd ls F hW hK hl hnm => ?_)
  obtain ⟨hx, hb, hml, hown, hts, hr, hlk⟩ := F
  have S : CallFix pg m cd cX0_stillBehind 3 s _ lw_all RX0 := ⟨hx, hb, hml, hown, hts⟩
  have hl : lv_has ls 3 [(0, .ref cb)] := hl
  have hKK := hK.1
  obtain ⟨hC, hD⟩ := hW
  have hS : va_S (fA (cA cb) s) s.heap s.heap [] := va_S.rf
  have hd0 := hOk.hr0
  have hd8 := hOk.d8
  have hh3 := hOk.hr3
  have hh6 := hOk.h6
  have hs2 := hOk.hr2
  have hs5 := hOk.s5
  have hX := hOk.X
  refine lv_aload_n hx hb dX0_stillBehind_0 rfl (lv_at hl 0 rfl) ?_
  refine va_callr (gx_runV (As := []) (rest := []) S hK ⟨hC, hD⟩ (hC.recv hKK) (cx_openMind l htr D t Z cb B ) (cwV 0 hts (lw_V q971 q973 qs31 q95 q974) rfl rfl rfl (by decide +kernel) ⟨Nat.le_of_ble_eq_true rfl, Nat.le_of_ble_eq_true rfl⟩) rfl hl.1 rfl (Nat.le_of_ble_eq_true rfl) dX0_stillBehind_1 ⟨Nat.le_of_ble_eq_true rfl, Nat.le_of_ble_eq_true rfl⟩) hS (fun q _ h => Or.inl h) (fun q h => Or.inl h) (fun u1 a1 tt H locs ht _ _ hW _ _ hS => ?_)
  obtain ⟨sgN, kdN, AN⟩ := u1
  obtain ⟨rfl, hC, hN⟩ := hW
  rw [ht] at hC hN
  have hN : OV D t (cb + 23) (cb + 2) (cb + 70) sgN kdN (B 2) AN H := hN
  refine lv_astore_n (lv' := [(1, .ref (cb + 23)), (0, .ref cb)]) hx hb dX0_stillBehind_4 rfl hl (by decide) rfl (fun ls hl => ?_)
  refine lv_iconst (v := 0) hx hb dX0_stillBehind_5 (by decide) ?_
  refine lv_istore_n (lv' := [(2, .int 0), (1, .ref (cb + 23)), (0, .ref cb)]) hx hb dX0_stillBehind_6 rfl hl (by decide) rfl (fun ls hl => ?_)
  refine W.loop (σ := Nat) (fun k H locs ls => k ≤ 61 ∧ (fdS (fun n => decide (haS (hrS (B 2) n) (-1) = 0)) k = -9) ∧ CM D t Z cb B H ∧ (∃ sg kd A, OV D t (cb + 23) (cb + 2) (cb + 70) sg kd (hrS (B 2) k) A H) ∧ va_S (fA (cA cb) s) s.heap H locs ∧ lv_has ls 3 [(2, .int (nI k)), (1, .ref (cb + 23)), (0, .ref cb)]) (fun k => 61 - k) (fun k H locs ls hIk ihk => ?_) 0 ⟨by omega, rfl, hC, ⟨_, _, _, (by rw [show hrS (B 2) 0 = B 2 from rfl]; exact hN)⟩, hS, lv_sub hl [0, 1, 2] rfl⟩
  obtain ⟨hk, hEk, hC, ⟨sgN, kdN, AN, hN⟩, hS, hl⟩ := hIk
  refine lv_iload_n hx hb dX0_stillBehind_7 rfl (lv_at hl 0 rfl) ?_
  refine lv_bipush (v := 60) hx hb dX0_stillBehind_8 (by decide) ?_
  refine lv_icmp_gt (tgt := 34) hx hb dX0_stillBehind_10 (by decide) (fun c10 => ?_) (fun c10 => ?_)
  · obtain rfl : k = 61 := Nat.le_antisymm hk (lp_gt (n := 60) rfl (by omega) (by omega) c10)
    refine lv_bipush (v := (-9)) hx hb dX0_stillBehind_34 (by decide) ?_
    exact x_iretC hx hb hr ⟨hEk.symm, rfl⟩ ⟨hC, ⟨_, _, _, hN.1⟩⟩ hS (Nat.le_of_ble_eq_true rfl) (Nat.le_of_ble_eq_true rfl) dX0_stillBehind_36 hlk
  · have hk2 : k ≤ 60 := lp_ng (n := 60) rfl (by omega) (by omega) c10
    refine lv_aload_n hx hb dX0_stillBehind_13 rfl (lv_at hl 1 rfl) ?_
    refine lv_iconst (v := (-1)) hx hb dX0_stillBehind_14 (by decide) ?_
    refine g_r (g_runV (As := [.int (-1)]) (rest := []) S hKK hN (hN.recv hKK) (co_X8_have l D t (cb + 23) (cb + 2) (cb + 70) sgN kdN (hrS (B 2) k) AN (-1) (999 + k) (Ok_hrS hOk (by omega))) (cwV 1 hts (lw_V q773 q774 q775 q103 q776) rfl rfl rfl (by decide +kernel) ⟨Nat.le_of_ble_eq_true rfl, Nat.le_of_ble_eq_true rfl⟩) rfl hl.1 rfl (Nat.le_of_ble_eq_true rfl) dX0_stillBehind_15 ⟨Nat.le_of_ble_eq_true rfl, Nat.le_of_ble_eq_true rfl⟩) ?_
    refine lv_if_ne (tgt := 23) hx hb dX0_stillBehind_18 (by decide) (fun c18 => ?_) (fun c18 => ?_)
    · refine lv_aload_n hx hb dX0_stillBehind_23 rfl (lv_at hl 1 rfl) ?_
      refine va_calli (g_runV (As := []) (rest := []) S hKK hN (hN.recv hKK) (co_X8_hourOn l D t (cb + 23) (cb + 2) (cb + 70) sgN kdN (hrS (B 2) k) AN (999 + k) (Ok_hrS hOk (by omega)) (by omega) (by omega) (by omega)) (cwV 0 hts (lw_V q910 q911 q912 q103 q913) rfl rfl rfl (by decide +kernel) ⟨Nat.le_of_ble_eq_true rfl, Nat.le_of_ble_eq_true rfl⟩) rfl hl.1 rfl (Nat.le_of_ble_eq_true rfl) dX0_stillBehind_24 ⟨Nat.le_of_ble_eq_true rfl, Nat.le_of_ble_eq_true rfl⟩) hS (fun q _ h => fM h) (fun q h => fM h) (fun r24 u24 tt H locs ht _ h24 hN _ hq hS => ?_)
      obtain ⟨R24, A24⟩ := u24
      rw [ht] at hN
      have hN : OV D t (cb + 23) (cb + 2) (cb + 70) sgN kdN R24 A24 H := hN
      obtain ⟨e1, e2, -, -⟩ := h24
      have e2 : R24 = hoS (hrS (B 2) k) := e2
      rw [e2] at hN
      rw [show hoS (hrS (B 2) k) = hrS (B 2) (k + 1) from rfl] at hN
      refine z_top (y := gnS (hrS (B 2) k)) e1 ?_
      have hC := hC.kept hq
      refine lv_pop hx hb dX0_stillBehind_27 rfl ?_
      refine lv_iinc (v := nI (k + 1)) (lv' := [(2, .int (nI (k + 1))), (1, .ref (cb + 23)), (0, .ref cb)]) hx hb dX0_stillBehind_28 hl (k := 0) rfl (nI_1 k) (by decide) rfl (fun ls hl => ?_)
      refine lv_goto (tgt := 7) hx hb dX0_stillBehind_31 (by decide) ?_
      exact ihk (k + 1) H locs ls (by omega) ⟨by omega, (fd_miss hEk (decide_eq_false c18)), hC, ⟨_, _, _, (by rw [show hrS (B 2) (k + 1) = hrS (B 2) (k + 1) from rfl]; exact hN)⟩, hS, lv_sub hl [0, 1, 2] rfl⟩
    · refine lv_iload_n hx hb dX0_stillBehind_21 rfl (lv_at hl 0 rfl) ?_
      exact x_iretC hx hb hr ⟨(fd_hit hEk (decide_eq_true c18) (show k < 61 by omega) (by decide)).symm, rfl⟩ ⟨hC, ⟨_, _, _, hN.1⟩⟩ hS (Nat.le_of_ble_eq_true rfl) (Nat.le_of_ble_eq_true rfl) dX0_stillBehind_22 hlk
set_option maxHeartbeats 800000 in
theorem cx_mostTold (l : Launch) (htr : l.stackTraces = false) (D : va_G) (t : Nat → ClassId) (Z : Nat × Cell) (cb : Nat) (B : BT) (v : Int32) (n : Nat) (w : Int32) (hOk : Ok (B 2) 999) (hn : n ≤ 60) : Met l yX0_mostTold (ws_ yX0_mostTold cX0_mostTold 8 (some .int)) ({ frames := 6, cells := 0, slots := 0, locals := 132 }) (zPc [.ref cb, .int v, .int (nI n), .int w] (CW D t Z cb B) (KX D t Z)) (va_Qi (fun r u => r = (if w = 0 then (mxL (fun k => haS (hrS (B 2) k) v) (-9, -9) (n + 1)).1 else (mxL (fun k => haS (hrS (B 2) k) v) (-9, -9) (n + 1)).2) ∧ u = B) (fun B' U => CW D t Z cb B' U.heap) (cA cb)) 0 0 (cA cb) := by
  refine zOf (cc := cX0_mostTold) (maxL := 8) (ret := (some .int)) (by decide) (Nat.le_of_ble_eq_true rfl) (fun pg ev s m below meth cd ls F hW hK hl hnm => ?_)
  obtain ⟨hx, hb, hml, hown, hts, hr, hlk⟩ := F
  have S : CallFix pg m cd cX0_mostTold 8 s _ lw_all RX0 := ⟨hx, hb, hml, hown, hts⟩
  have hl : lv_has ls 8 [(0, .ref cb), (1, .int v), (2, .int (nI n)), (3, .int w)] := hl
  have hKK := hK.1
  obtain ⟨hC, hD⟩ := hW
  have hS : va_S (fA (cA cb) s) s.heap s.heap [] := va_S.rf
  have hd0 := hOk.hr0
  have hd8 := hOk.d8
  have hh3 := hOk.hr3
  have hh6 := hOk.h6
  have hs2 := hOk.hr2
  have hs5 := hOk.s5
  have hX := hOk.X
  refine lv_aload_n hx hb dX0_mostTold_0 rfl (lv_at hl 0 rfl) ?_
  refine va_callr (gx_runV (As := []) (rest := []) S hK ⟨hC, hD⟩ (hC.recv hKK) (cx_openMind l htr D t Z cb B ) (cwV 0 hts (lw_V q971 q973 qs31 q95 q974) rfl rfl rfl (by decide +kernel) ⟨Nat.le_of_ble_eq_true rfl, Nat.le_of_ble_eq_true rfl⟩) rfl hl.1 rfl (Nat.le_of_ble_eq_true rfl) dX0_mostTold_1 ⟨Nat.le_of_ble_eq_true rfl, Nat.le_of_ble_eq_true rfl⟩) hS (fun q _ h => Or.inl h) (fun q h => Or.inl h) (fun u1 a1 tt H locs ht _ _ hW _ _ hS => ?_)
  obtain ⟨sgN, kdN, AN⟩ := u1
  obtain ⟨rfl, hC, hN⟩ := hW
  rw [ht] at hC hN
  have hN : OV D t (cb + 23) (cb + 2) (cb + 70) sgN kdN (B 2) AN H := hN
  refine lv_astore (lv' := [(4, .ref (cb + 23)), (0, .ref cb), (1, .int v), (2, .int (nI n)), (3, .int w)]) hx hb dX0_mostTold_4 hl (by decide) rfl (fun ls hl => ?_)
  refine lv_iconst (v := 0) hx hb dX0_mostTold_6 (by decide) ?_
  refine lv_istore (lv' := [(5, .int 0), (4, .ref (cb + 23)), (0, .ref cb), (1, .int v), (2, .int (nI n)), (3, .int w)]) hx hb dX0_mostTold_7 hl (by decide) rfl (fun ls hl => ?_)
  refine lv_aload hx hb dX0_mostTold_9 (lv_at hl 1 rfl) ?_
  refine lv_iload_n hx hb dX0_mostTold_11 rfl (lv_at hl 3 rfl) ?_
  refine g_r (g_runV (As := [.int v]) (rest := []) S hKK hN (hN.recv hKK) (co_X8_have l D t (cb + 23) (cb + 2) (cb + 70) sgN kdN (B 2) AN v 999 hOk) (cwV 1 hts (lw_V q773 q774 q775 q103 q776) rfl rfl rfl (by decide +kernel) ⟨Nat.le_of_ble_eq_true rfl, Nat.le_of_ble_eq_true rfl⟩) rfl hl.1 rfl (Nat.le_of_ble_eq_true rfl) dX0_mostTold_12 ⟨Nat.le_of_ble_eq_true rfl, Nat.le_of_ble_eq_true rfl⟩) ?_
  refine lv_istore (lv' := [(6, .int (haS (B 2) v)), (5, .int 0), (4, .ref (cb + 23)), (0, .ref cb), (1, .int v), (2, .int (nI n)), (3, .int w)]) hx hb dX0_mostTold_15 hl (by decide) rfl (fun ls hl => ?_)
  have hl : lv_has ls 8 [(6, .int ((mxL (fun k => haS (hrS (B 2) k) v) (-9, -9) (0 + 1)).2)), (5, .int ((mxL (fun k => haS (hrS (B 2) k) v) (-9, -9) (0 + 1)).1)), (4, .ref (cb + 23)), (0, .ref cb), (1, .int v), (2, .int (nI n)), (3, .int w)] := by rw [show mxL (fun k => haS (hrS (B 2) k) v) (-9, -9) (0 + 1) = (0, haS (B 2) v) from mx_one (f := fun k => haS (hrS (B 2) k) v) (haS_nn hh6)]; exact hl
  refine lv_iconst (v := 1) hx hb dX0_mostTold_17 (by decide) ?_
  refine lv_istore (lv' := [(7, .int 1), (6, .int ((mxL (fun k => haS (hrS (B 2) k) v) (-9, -9) (0 + 1)).2)), (5, .int ((mxL (fun k => haS (hrS (B 2) k) v) (-9, -9) (0 + 1)).1)), (4, .ref (cb + 23)), (0, .ref cb), (1, .int v), (2, .int (nI n)), (3, .int w)]) hx hb dX0_mostTold_18 hl (by decide) rfl (fun ls hl => ?_)
  refine W.loop (σ := Nat) (fun k H locs ls => k ≤ n ∧ (True) ∧ CM D t Z cb B H ∧ (∃ sg kd A, OV D t (cb + 23) (cb + 2) (cb + 70) sg kd (hrS (B 2) k) A H) ∧ va_S (fA (cA cb) s) s.heap H locs ∧ lv_has ls 8 [(7, .int (nI (k + 1))), (6, .int ((mxL (fun k => haS (hrS (B 2) k) v) (-9, -9) (k + 1)).2)), (5, .int ((mxL (fun k => haS (hrS (B 2) k) v) (-9, -9) (k + 1)).1)), (4, .ref (cb + 23)), (0, .ref cb), (1, .int v), (2, .int (nI n)), (3, .int w)]) (fun k => n - k) (fun k H locs ls hIk ihk => ?_) 0 ⟨by omega, trivial, hC, ⟨_, _, _, (by rw [show hrS (B 2) 0 = B 2 from rfl]; exact hN)⟩, hS, lv_sub hl [0, 1, 2, 3, 4, 5, 6, 7] rfl⟩
  obtain ⟨hk, hEk, hC, ⟨sgN, kdN, AN, hN⟩, hS, hl⟩ := hIk
  refine lv_iload hx hb dX0_mostTold_20 (lv_at hl 0 rfl) ?_
  refine lv_iload_n hx hb dX0_mostTold_22 rfl (lv_at hl 6 rfl) ?_
  refine lv_icmp_gt (tgt := 71) hx hb dX0_mostTold_23 (by decide) (fun c23 => ?_) (fun c23 => ?_)
  · obtain rfl : n = k := by have := lp_gt (n := n) rfl (by omega) (by omega) c23; omega
    refine W.join (fun vJ => F0 m 82 ls (.int vJ :: [])) (fun vJ => vJ = (if w = 0 then (mxL (fun k => haS (hrS (B 2) k) v) (-9, -9) (n + 1)).1 else (mxL (fun k => haS (hrS (B 2) k) v) (-9, -9) (n + 1)).2)) (fun vJ hJ => ?_) (fun J3 => ?_)
    · subst hJ
      exact x_iretC hx hb hr ⟨rfl, rfl⟩ ⟨hC, ⟨_, _, _, hN.1⟩⟩ hS (Nat.le_of_ble_eq_true rfl) (Nat.le_of_ble_eq_true rfl) dX0_mostTold_82 hlk
    · refine lv_iload_n hx hb dX0_mostTold_71 rfl (lv_at hl 7 rfl) ?_
      refine lv_if_ne (tgt := 80) hx hb dX0_mostTold_72 (by decide) (fun c72 => ?_) (fun c72 => ?_)
      · refine lv_iload hx hb dX0_mostTold_80 (lv_at hl 1 rfl) ?_
        exact J3 _ (by grind)
      · refine lv_iload hx hb dX0_mostTold_75 (lv_at hl 2 rfl) ?_
        refine lv_goto (tgt := 82) hx hb dX0_mostTold_77 (by decide) ?_
        exact J3 _ (by grind)
  · have hk2 : k < n := by have := lp_ng (n := n) rfl (by omega) (by omega) c23; omega
    refine lv_aload hx hb dX0_mostTold_26 (lv_at hl 3 rfl) ?_
    refine va_calli (g_runV (As := []) (rest := []) S hKK hN (hN.recv hKK) (co_X8_hourOn l D t (cb + 23) (cb + 2) (cb + 70) sgN kdN (hrS (B 2) k) AN (999 + k) (Ok_hrS hOk (by omega)) (by omega) (by omega) (by omega)) (cwV 0 hts (lw_V q910 q911 q912 q103 q913) rfl rfl rfl (by decide +kernel) ⟨Nat.le_of_ble_eq_true rfl, Nat.le_of_ble_eq_true rfl⟩) rfl hl.1 rfl (Nat.le_of_ble_eq_true rfl) dX0_mostTold_28 ⟨Nat.le_of_ble_eq_true rfl, Nat.le_of_ble_eq_true rfl⟩) hS (fun q _ h => fM h) (fun q h => fM h) (fun r28 u28 tt H locs ht _ h28 hN _ hq hS => ?_)
    obtain ⟨R28, A28⟩ := u28
    rw [ht] at hN
    have hN : OV D t (cb + 23) (cb + 2) (cb + 70) sgN kdN R28 A28 H := hN
    obtain ⟨e1, e2, -, -⟩ := h28
    have e2 : R28 = hoS (hrS (B 2) k) := e2
    rw [e2] at hN
    rw [show hoS (hrS (B 2) k) = hrS (B 2) (k + 1) from rfl] at hN
    refine z_top (y := gnS (hrS (B 2) k)) e1 ?_
    have hC := hC.kept hq
    refine lv_pop hx hb dX0_mostTold_31 rfl ?_
    refine W.join (fun vJ => F0 m 50 ls (.int vJ :: [])) (fun vJ => vJ = (mxL (fun k => haS (hrS (B 2) k) v) (-9, -9) (k + 1 + 1)).1) (fun vJ hJ => ?_) (fun J => ?_)
    · subst hJ
      refine lv_istore (lv' := [(5, .int ((mxL (fun k => haS (hrS (B 2) k) v) (-9, -9) (k + 1 + 1)).1)), (7, .int (nI (k + 1))), (6, .int ((mxL (fun k => haS (hrS (B 2) k) v) (-9, -9) (k + 1)).2)), (4, .ref (cb + 23)), (0, .ref cb), (1, .int v), (2, .int (nI n)), (3, .int w)]) hx hb dX0_mostTold_50 hl (by decide) rfl (fun ls hl => ?_)
      refine lv_iload hx hb dX0_mostTold_52 (lv_at hl 2 rfl) ?_
      refine lv_aload hx hb dX0_mostTold_54 (lv_at hl 3 rfl) ?_
      refine lv_iload_n hx hb dX0_mostTold_56 rfl (lv_at hl 5 rfl) ?_
      refine g_r (g_runV (As := [.int v]) (rest := [.int ((mxL (fun k => haS (hrS (B 2) k) v) (-9, -9) (k + 1)).2)]) S hKK hN (hN.recv hKK) (co_X8_have l D t (cb + 23) (cb + 2) (cb + 70) sgN kdN (hrS (B 2) (k + 1)) A28 v (999 + (k + 1)) (Ok_hrS hOk (by omega))) (cwV 1 hts (lw_V q773 q774 q775 q103 q776) rfl rfl rfl (by decide +kernel) ⟨Nat.le_of_ble_eq_true rfl, Nat.le_of_ble_eq_true rfl⟩) rfl hl.1 rfl (Nat.le_of_ble_eq_true rfl) dX0_mostTold_57 ⟨Nat.le_of_ble_eq_true rfl, Nat.le_of_ble_eq_true rfl⟩) ?_
      refine va_mmax hx hb (hml.trans hl.1.symm) hown (hts _ q1004) (hts _ q903) (hts _ q119) (hts _ q904) (Nat.le_of_ble_eq_true rfl) (Nat.le_of_ble_eq_true rfl) (Nat.le_of_ble_eq_true rfl) (Nat.le_of_ble_eq_true rfl) dX0_mostTold_60 ?_
      refine z_top (y := (mxL (fun k => haS (hrS (B 2) k) v) (-9, -9) (k + 1 + 1)).2) (mx_2 (k := k + 1)).symm ?_
      refine lv_istore (lv' := [(6, .int ((mxL (fun k => haS (hrS (B 2) k) v) (-9, -9) (k + 1 + 1)).2)), (5, .int ((mxL (fun k => haS (hrS (B 2) k) v) (-9, -9) (k + 1 + 1)).1)), (7, .int (nI (k + 1))), (4, .ref (cb + 23)), (0, .ref cb), (1, .int v), (2, .int (nI n)), (3, .int w)]) hx hb dX0_mostTold_63 hl (by decide) rfl (fun ls hl => ?_)
      refine lv_iinc (v := nI ((k + 1) + 1)) (lv' := [(7, .int (nI ((k + 1) + 1))), (6, .int ((mxL (fun k => haS (hrS (B 2) k) v) (-9, -9) (k + 1 + 1)).2)), (5, .int ((mxL (fun k => haS (hrS (B 2) k) v) (-9, -9) (k + 1 + 1)).1)), (4, .ref (cb + 23)), (0, .ref cb), (1, .int v), (2, .int (nI n)), (3, .int w)]) hx hb dX0_mostTold_65 hl (k := 2) rfl (nI_1 (k + 1)) (by decide) rfl (fun ls hl => ?_)
      refine lv_goto (tgt := 20) hx hb dX0_mostTold_68 (by decide) ?_
      exact ihk (k + 1) H locs ls (by omega) ⟨by omega, trivial, hC, ⟨_, _, _, (by rw [show hrS (B 2) (k + 1) = hrS (B 2) (k + 1) from rfl]; exact hN)⟩, hS, lv_sub hl [0, 1, 2, 3, 4, 5, 6, 7] rfl⟩
    · refine lv_aload hx hb dX0_mostTold_32 (lv_at hl 3 rfl) ?_
      refine lv_iload_n hx hb dX0_mostTold_34 rfl (lv_at hl 5 rfl) ?_
      refine g_r (g_runV (As := [.int v]) (rest := []) S hKK hN (hN.recv hKK) (co_X8_have l D t (cb + 23) (cb + 2) (cb + 70) sgN kdN (hrS (B 2) (k + 1)) A28 v (999 + (k + 1)) (Ok_hrS hOk (by omega))) (cwV 1 hts (lw_V q773 q774 q775 q103 q776) rfl rfl rfl (by decide +kernel) ⟨Nat.le_of_ble_eq_true rfl, Nat.le_of_ble_eq_true rfl⟩) rfl hl.1 rfl (Nat.le_of_ble_eq_true rfl) dX0_mostTold_35 ⟨Nat.le_of_ble_eq_true rfl, Nat.le_of_ble_eq_true rfl⟩) ?_
      refine lv_iload hx hb dX0_mostTold_38 (lv_at hl 1 rfl) ?_
      refine lv_icmp_le (tgt := 48) hx hb dX0_mostTold_40 (by decide) (fun c40 => ?_) (fun c40 => ?_)
      · refine lv_iload hx hb dX0_mostTold_48 (lv_at hl 2 rfl) ?_
        exact J _ (by rw [mx_1 (k := k + 1)]; first | rw [if_pos (Int32.not_le.mp c40)] | rw [if_neg (Int32.not_lt.mpr c40)])
      · refine lv_iload hx hb dX0_mostTold_43 (lv_at hl 0 rfl) ?_
        refine lv_goto (tgt := 50) hx hb dX0_mostTold_45 (by decide) ?_
        exact J _ (by rw [mx_1 (k := k + 1)]; first | rw [if_pos (Int32.not_le.mp c40)] | rw [if_neg (Int32.not_lt.mpr c40)])
set_option maxHeartbeats 800000 in
theorem cx_lastsBehind (l : Launch) (htr : l.stackTraces = false) (D : va_G) (t : Nat → ClassId) (Z : Nat × Cell) (cb : Nat) (B : BT) (n : Nat) (hOk : Ok (B 2) 999) (hn : n ≤ 60) : Met l yX0_lastsBehind (ws_ yX0_lastsBehind cX0_lastsBehind 5 (some .int)) ({ frames := 7, cells := 0, slots := 0, locals := 154 }) (zPc [.ref cb, .int (nI n)] (CW D t Z cb B) (KX D t Z)) (va_Qi (fun r u => r = (mxL (fun i => haS (hrS (B 2) n) (nI i)) (-9, 0) (nS (B 2))).1 ∧ u = B) (fun B' U => CW D t Z cb B' U.heap) (cA cb)) 0 0 (cA cb) := by
  refine zOf (cc := cX0_lastsBehind) (maxL := 5) (ret := (some .int)) (by decide) (Nat.le_of_ble_eq_true rfl) (fun pg ev s m below meth cd ls F hW hK hl hnm => ?_)
  obtain ⟨hx, hb, hml, hown, hts, hr, hlk⟩ := F
  have S : CallFix pg m cd cX0_lastsBehind 5 s _ lw_all RX0 := ⟨hx, hb, hml, hown, hts⟩
  have hl : lv_has ls 5 [(0, .ref cb), (1, .int (nI n))] := hl
  have hKK := hK.1
  obtain ⟨hC, hD⟩ := hW
  have hS : va_S (fA (cA cb) s) s.heap s.heap [] := va_S.rf
  have hd0 := hOk.hr0
  have hd8 := hOk.d8
  have hh3 := hOk.hr3
  have hh6 := hOk.h6
  have hs2 := hOk.hr2
  have hs5 := hOk.s5
  have hX := hOk.X
  refine lv_aload_n hx hb dX0_lastsBehind_0 rfl (lv_at hl 0 rfl) ?_
  refine va_callr (gx_runV (As := []) (rest := []) S hK ⟨hC, hD⟩ (hC.recv hKK) (cx_openMind l htr D t Z cb B ) (cwV 0 hts (lw_V q971 q973 qs31 q95 q974) rfl rfl rfl (by decide +kernel) ⟨Nat.le_of_ble_eq_true rfl, Nat.le_of_ble_eq_true rfl⟩) rfl hl.1 rfl (Nat.le_of_ble_eq_true rfl) dX0_lastsBehind_1 ⟨Nat.le_of_ble_eq_true rfl, Nat.le_of_ble_eq_true rfl⟩) hS (fun q _ h => Or.inl h) (fun q h => Or.inl h) (fun u1 a1 tt H locs ht _ _ hW _ _ hS => ?_)
  obtain ⟨sgN, kdN, AN⟩ := u1
  obtain ⟨rfl, hC, hN⟩ := hW
  rw [ht] at hC hN
  have hN : OV D t (cb + 23) (cb + 2) (cb + 70) sgN kdN (B 2) AN H := hN
  refine lv_iload_n hx hb dX0_lastsBehind_4 rfl (lv_at hl 1 rfl) ?_
  refine va_callr (g_runV (As := [.int (nI n)]) (rest := []) S hKK hN (hN.recv hKK) (co_X8_hoursOn l D t (cb + 23) (cb + 2) (cb + 70) sgN kdN (B 2) AN n 999 hOk (by omega) (by omega) (by omega)) (cwV 1 hts (lw_V q975 q976 q977 q103 q978) rfl rfl rfl (by decide +kernel) ⟨Nat.le_of_ble_eq_true rfl, Nat.le_of_ble_eq_true rfl⟩) rfl hl.1 rfl (Nat.le_of_ble_eq_true rfl) dX0_lastsBehind_5 ⟨Nat.le_of_ble_eq_true rfl, Nat.le_of_ble_eq_true rfl⟩) hS (fun q _ h => fM h) (fun q h => fM h) (fun u5 a5 tt H locs ht _ h5 hN _ hq hS => ?_)
  obtain ⟨R5, A5⟩ := u5
  obtain ⟨rfl, hN⟩ := hN
  rw [ht] at hN
  have hN : OV D t (cb + 23) (cb + 2) (cb + 70) sgN kdN R5 A5 H := hN
  obtain ⟨e2, hf12, hf13⟩ := h5
  have e2 : R5 = hrS (B 2) n := e2
  rw [e2] at hN
  have hC := hC.kept hq
  refine lv_astore_n (lv' := [(2, .ref (cb + 23)), (0, .ref cb), (1, .int (nI n))]) hx hb dX0_lastsBehind_8 rfl hl (by decide) rfl (fun ls hl => ?_)
  refine lv_bipush (v := (-9)) hx hb dX0_lastsBehind_9 (by decide) ?_
  refine lv_istore_n (lv' := [(3, .int (-9)), (2, .ref (cb + 23)), (0, .ref cb), (1, .int (nI n))]) hx hb dX0_lastsBehind_11 rfl hl (by decide) rfl (fun ls hl => ?_)
  refine lv_iconst (v := 0) hx hb dX0_lastsBehind_12 (by decide) ?_
  refine lv_istore (lv' := [(4, .int 0), (3, .int (-9)), (2, .ref (cb + 23)), (0, .ref cb), (1, .int (nI n))]) hx hb dX0_lastsBehind_13 hl (by decide) rfl (fun ls hl => ?_)
  refine W.loop (σ := Nat) (fun k H locs ls => k ≤ nS (B 2) ∧ (True) ∧ CM D t Z cb B H ∧ (∃ sg kd A, OV D t (cb + 23) (cb + 2) (cb + 70) sg kd (hrS (B 2) n) A H) ∧ va_S (fA (cA cb) s) s.heap H locs ∧ lv_has ls 5 [(4, .int (nI k)), (3, .int ((mxL (fun i => haS (hrS (B 2) n) (nI i)) (-9, 0) k).1)), (2, .ref (cb + 23)), (0, .ref cb), (1, .int (nI n))]) (fun k => nS (B 2) - k) (fun k H locs ls hIk ihk => ?_) 0 ⟨by omega, trivial, hC, ⟨_, _, _, (by rw [show hrS (B 2) n = hrS (B 2) n from rfl]; exact hN)⟩, hS, lv_sub hl [0, 1, 2, 3, 4] rfl⟩
  obtain ⟨hk, hEk, hC, ⟨sgN, kdN, AN, hN⟩, hS, hl⟩ := hIk
  refine lv_iload hx hb dX0_lastsBehind_15 (lv_at hl 0 rfl) ?_
  refine lv_aload_n hx hb dX0_lastsBehind_17 rfl (lv_at hl 2 rfl) ?_
  refine n_get (v := .int ((hrS (B 2) n) 2)) hx hb hts hown hKK hN.1 4 (by decide) (Or.inr ⟨_, q204⟩) rfl rfl dX0_lastsBehind_18 ?_
  refine z_top (y := B 2 2) (hrS_lo (by decide) (by decide)) ?_
  refine lv_icmp_ge (tgt := 61) hx hb dX0_lastsBehind_21 (by decide) (fun c21 => ?_) (fun c21 => ?_)
  · obtain rfl : k = nS (B 2) := Nat.le_antisymm hk (lp_end hs2 (by omega) (by omega) c21)
    refine lv_iload_n hx hb dX0_lastsBehind_61 rfl (lv_at hl 1 rfl) ?_
    exact x_iretC hx hb hr ⟨rfl, rfl⟩ ⟨hC, ⟨_, _, _, hN.1⟩⟩ hS (Nat.le_of_ble_eq_true rfl) (Nat.le_of_ble_eq_true rfl) dX0_lastsBehind_62 hlk
  · have hk2 : k < nS (B 2) := lp_go hs2 (by omega) (by omega) c21
    refine W.join (fun vJ => F0 m 54 ls (.int vJ :: [])) (fun vJ => vJ = (mxL (fun i => haS (hrS (B 2) n) (nI i)) (-9, 0) (k + 1)).1) (fun vJ hJ => ?_) (fun J2 => ?_)
    · subst hJ
      refine lv_istore_n (lv' := [(3, .int ((mxL (fun i => haS (hrS (B 2) n) (nI i)) (-9, 0) (k + 1)).1)), (4, .int (nI k)), (2, .ref (cb + 23)), (0, .ref cb), (1, .int (nI n))]) hx hb dX0_lastsBehind_54 rfl hl (by decide) rfl (fun ls hl => ?_)
      refine lv_iinc (v := nI (k + 1)) (lv' := [(4, .int (nI (k + 1))), (3, .int ((mxL (fun i => haS (hrS (B 2) n) (nI i)) (-9, 0) (k + 1)).1)), (2, .ref (cb + 23)), (0, .ref cb), (1, .int (nI n))]) hx hb dX0_lastsBehind_55 hl (k := 1) rfl (nI_1 k) (by decide) rfl (fun ls hl => ?_)
      refine lv_goto (tgt := 15) hx hb dX0_lastsBehind_58 (by decide) ?_
      exact ihk (k + 1) H locs ls (by omega) ⟨by omega, trivial, hC, ⟨_, _, _, (by rw [show hrS (B 2) n = hrS (B 2) n from rfl]; exact hN)⟩, hS, lv_sub hl [0, 1, 2, 3, 4] rfl⟩
    · refine lv_aload_n hx hb dX0_lastsBehind_24 rfl (lv_at hl 2 rfl) ?_
      refine lv_iload hx hb dX0_lastsBehind_25 (lv_at hl 0 rfl) ?_
      refine g_r (g_runV (As := [.int (nI k)]) (rest := []) S hKK hN (hN.recv hKK) (co_X8_have l D t (cb + 23) (cb + 2) (cb + 70) sgN kdN (hrS (B 2) n) AN (nI k) (999 + n) (Ok_hrS hOk (by omega))) (cwV 1 hts (lw_V q773 q774 q775 q103 q776) rfl rfl rfl (by decide +kernel) ⟨Nat.le_of_ble_eq_true rfl, Nat.le_of_ble_eq_true rfl⟩) rfl hl.1 rfl (Nat.le_of_ble_eq_true rfl) dX0_lastsBehind_27 ⟨Nat.le_of_ble_eq_true rfl, Nat.le_of_ble_eq_true rfl⟩) ?_
      refine W.join (fun vJ => F0 m 45 ls (.int vJ :: [.int (haS (hrS (B 2) n) (nI k))])) (fun vJ => vJ = (mxL (fun i => haS (hrS (B 2) n) (nI i)) (-9, 0) k).2) (fun vJ hJ => ?_) (fun J1 => ?_)
      · subst hJ
        refine lv_icmp_le (tgt := 53) hx hb dX0_lastsBehind_45 (by decide) (fun c45 => ?_) (fun c45 => ?_)
        · refine lv_iload_n hx hb dX0_lastsBehind_53 rfl (lv_at hl 1 rfl) ?_
          exact J2 _ (by rw [mx_1]; first | rw [if_pos (Int32.not_le.mp c45)] | rw [if_neg (Int32.not_lt.mpr c45)])
        · refine lv_iload hx hb dX0_lastsBehind_48 (lv_at hl 0 rfl) ?_
          refine lv_goto (tgt := 54) hx hb dX0_lastsBehind_50 (by decide) ?_
          exact J2 _ (by rw [mx_1]; first | rw [if_pos (Int32.not_le.mp c45)] | rw [if_neg (Int32.not_lt.mpr c45)])
      · refine lv_iload_n hx hb dX0_lastsBehind_30 rfl (lv_at hl 1 rfl) ?_
        refine lv_bipush (v := (-9)) hx hb dX0_lastsBehind_31 (by decide) ?_
        refine lv_icmp_ne (tgt := 40) hx hb dX0_lastsBehind_33 (by decide) (fun c33 => ?_) (fun c33 => ?_)
        · refine lv_aload_n hx hb dX0_lastsBehind_40 rfl (lv_at hl 2 rfl) ?_
          refine lv_iload_n hx hb dX0_lastsBehind_41 rfl (lv_at hl 1 rfl) ?_
          refine g_r (g_runV (As := [.int ((mxL (fun i => haS (hrS (B 2) n) (nI i)) (-9, 0) k).1)]) (rest := [.int (haS (hrS (B 2) n) (nI k))]) S hKK hN (hN.recv hKK) (co_X8_have l D t (cb + 23) (cb + 2) (cb + 70) sgN kdN (hrS (B 2) n) AN (mxL (fun i => haS (hrS (B 2) n) (nI i)) (-9, 0) k).1 (999 + n) (Ok_hrS hOk (by omega))) (cwV 1 hts (lw_V q773 q774 q775 q103 q776) rfl rfl rfl (by decide +kernel) ⟨Nat.le_of_ble_eq_true rfl, Nat.le_of_ble_eq_true rfl⟩) rfl hl.1 rfl (Nat.le_of_ble_eq_true rfl) dX0_lastsBehind_42 ⟨Nat.le_of_ble_eq_true rfl, Nat.le_of_ble_eq_true rfl⟩) ?_
          exact J1 _ (by have := mx_two (g := haS (hrS (B 2) n)) k (by omega); grind)
        · refine lv_iconst (v := 0) hx hb dX0_lastsBehind_36 (by decide) ?_
          refine lv_goto (tgt := 45) hx hb dX0_lastsBehind_37 (by decide) ?_
          exact J1 _ (by have := mx_two (g := haS (hrS (B 2) n)) k (by omega); grind)
set_option maxHeartbeats 800000 in
theorem cx_fromTold (l : Launch) (htr : l.stackTraces = false) (D : va_G) (t : Nat → ClassId) (Z : Nat × Cell) (cb : Nat) (B : BT) (j n : Nat) (b : Bool) (hOk : Ok (B 2) 999) (hj : j < nH (B 2)) (hn : n ≤ 60) : Met l yX0_fromTold (ws_ yX0_fromTold cX0_fromTold 5 (some .int)) ({ frames := 7, cells := 0, slots := 0, locals := 154 }) (zPc [.ref cb, .int (nI j), .int (nI n), .int (bI b)] (CW D t Z cb B) (KX D t Z)) (va_Qi (fun r u => r = fromV (B 2) (nI j) (nI n) b ∧ u = B) (fun B' U => CW D t Z cb B' U.heap) (cA cb)) 0 0 (cA cb) := by
  refine zOf (cc := cX0_fromTold) (maxL := 5) (ret := (some .int)) (by decide) (Nat.le_of_ble_eq_true rfl) (fun pg ev s m below meth cd ls F hW hK hl hnm => ?_)
  obtain ⟨hx, hb, hml, hown, hts, hr, hlk⟩ := F
  have S : CallFix pg m cd cX0_fromTold 5 s _ lw_all RX0 := ⟨hx, hb, hml, hown, hts⟩
  have hl : lv_has ls 5 [(0, .ref cb), (1, .int (nI j)), (2, .int (nI n)), (3, .int (bI b))] := hl
  have hKK := hK.1
  obtain ⟨hC, hD⟩ := hW
  have hS : va_S (fA (cA cb) s) s.heap s.heap [] := va_S.rf
  have hd0 := hOk.hr0
  have hd8 := hOk.d8
  have hh3 := hOk.hr3
  have hh6 := hOk.h6
  have hs2 := hOk.hr2
  have hs5 := hOk.s5
  have hX := hOk.X
  refine lv_aload_n hx hb dX0_fromTold_0 rfl (lv_at hl 0 rfl) ?_
  refine va_callr (gx_runV (As := []) (rest := []) S hK ⟨hC, hD⟩ (hC.recv hKK) (cx_openMind l htr D t Z cb B ) (cwV 0 hts (lw_V q971 q973 qs31 q95 q974) rfl rfl rfl (by decide +kernel) ⟨Nat.le_of_ble_eq_true rfl, Nat.le_of_ble_eq_true rfl⟩) rfl hl.1 rfl (Nat.le_of_ble_eq_true rfl) dX0_fromTold_1 ⟨Nat.le_of_ble_eq_true rfl, Nat.le_of_ble_eq_true rfl⟩) hS (fun q _ h => Or.inl h) (fun q h => Or.inl h) (fun u1 a1 tt H locs ht _ _ hW _ _ hS => ?_)
  obtain ⟨sgN, kdN, AN⟩ := u1
  obtain ⟨rfl, hC, hN⟩ := hW
  rw [ht] at hC hN
  have hN : OV D t (cb + 23) (cb + 2) (cb + 70) sgN kdN (B 2) AN H := hN
  refine va_callr (g_runV (As := []) (rest := []) S hKK hN (hN.recv hKK) (co_X8_beginTrace l D t (cb + 23) (cb + 2) (cb + 70) sgN kdN (B 2) AN hX (by omega) (by omega)) (cwV 0 hts (lw_V q1017 q1018 q1019 q103 q1020) rfl rfl rfl (by decide +kernel) ⟨Nat.le_of_ble_eq_true rfl, Nat.le_of_ble_eq_true rfl⟩) rfl hl.1 rfl (Nat.le_of_ble_eq_true rfl) dX0_fromTold_4 ⟨Nat.le_of_ble_eq_true rfl, Nat.le_of_ble_eq_true rfl⟩) hS (fun q _ h => fM h) (fun q h => fM h) (fun u4 a4 tt H locs ht _ h4 hN _ hq hS => ?_)
  obtain ⟨R4, A4⟩ := u4
  obtain ⟨rfl, hN⟩ := hN
  rw [ht] at hN
  have hN : OV D t (cb + 23) (cb + 2) (cb + 70) sgN kdN R4 A4 H := hN
  obtain ⟨e2, hb12⟩ := h4
  have e2 : R4 = B 2 := e2
  rw [e2] at hN
  have hC := hC.kept hq
  refine lv_iload_n hx hb dX0_fromTold_7 rfl (lv_at hl 2 rfl) ?_
  refine va_callr (g_runV (As := [.int (nI n)]) (rest := []) S hKK hN (hN.recv hKK) (co_X8_hoursOn l D t (cb + 23) (cb + 2) (cb + 70) sgN kdN (B 2) A4 n 999 hOk (by omega) (by omega) (by omega)) (cwV 1 hts (lw_V q975 q976 q977 q103 q978) rfl rfl rfl (by decide +kernel) ⟨Nat.le_of_ble_eq_true rfl, Nat.le_of_ble_eq_true rfl⟩) rfl hl.1 rfl (Nat.le_of_ble_eq_true rfl) dX0_fromTold_8 ⟨Nat.le_of_ble_eq_true rfl, Nat.le_of_ble_eq_true rfl⟩) hS (fun q _ h => fM h) (fun q h => fM h) (fun u8 a8 tt H locs ht _ h8 hN _ hq hS => ?_)
  obtain ⟨R8, A8⟩ := u8
  obtain ⟨rfl, hN⟩ := hN
  rw [ht] at hN
  have hN : OV D t (cb + 23) (cb + 2) (cb + 70) sgN kdN R8 A8 H := hN
  obtain ⟨e2, hf12, hf13⟩ := h8
  have e2 : R8 = hrS (B 2) n := e2
  rw [e2] at hN
  have hC := hC.kept hq
  refine lv_astore (lv' := [(4, .ref (cb + 23)), (0, .ref cb), (1, .int (nI j)), (2, .int (nI n)), (3, .int (bI b))]) hx hb dX0_fromTold_11 hl (by decide) rfl (fun ls hl => ?_)
  have hokH := (Ok_hrS hOk (n := n) (by omega)).head (j := j) (by rw [nH_hrS]; exact hj)
  have hg := fgS_ltH (r := B 2) (n := n) hOk hb12 hj
  rw [← hf12 j (by omega), ← hf13 j (by omega)] at hg
  refine W.join (fun vJ => F0 m 51 ls (.int vJ :: [])) (fun vJ => vJ = fromV (B 2) (nI j) (nI n) b) (fun vJ hJ => ?_) (fun J => ?_)
  · subst hJ
    exact x_iretC hx hb hr ⟨rfl, rfl⟩ ⟨hC, ⟨_, _, _, hN.1⟩⟩ hS (Nat.le_of_ble_eq_true rfl) (Nat.le_of_ble_eq_true rfl) dX0_fromTold_51 hlk
  · refine lv_aload hx hb dX0_fromTold_13 (lv_at hl 0 rfl) ?_
    refine n_get (v := .ref (cb + 23 + 7)) hx hb hts hown hKK hN.1 10 (by decide) (Or.inr ⟨_, q222⟩) rfl rfl dX0_fromTold_15 ?_
    refine lv_iload_n hx hb dX0_fromTold_18 rfl (lv_at hl 2 rfl) ?_
    refine o_ald hx hb hKK hN.1 7 rfl (k := j) (v := hd (hrS (B 2) n) j 3) rfl (by omega) (by decide) rfl dX0_fromTold_19 ?_
    refine lv_bipush (v := (-9)) hx hb dX0_fromTold_20 (by decide) ?_
    refine lv_icmp_ne (tgt := 30) hx hb dX0_fromTold_22 (by decide) (fun c22 => ?_) (fun c22 => ?_)
    · refine lv_iload_n hx hb dX0_fromTold_30 rfl (lv_at hl 4 rfl) ?_
      refine z_ifeq (tgt := 44) hx hb dX0_fromTold_31 (by decide) (fun c31 => ?_) (fun c31 => ?_)
      · refine lv_aload hx hb dX0_fromTold_44 (lv_at hl 0 rfl) ?_
        refine n_get (v := .ref (cb + 23 + 12)) hx hb hts hown hKK hN.1 17 (by decide) (Or.inr ⟨_, q236⟩) rfl rfl dX0_fromTold_46 ?_
        refine lv_iload_n hx hb dX0_fromTold_49 rfl (lv_at hl 2 rfl) ?_
        refine o_ald hx hb hKK hN.1 12 rfl (k := j) (v := (fgS (B 2) nI nI n).1 j) rfl (by omega) (by decide) hg.1 dX0_fromTold_50 ?_
        exact J _ (by have h3 := hokH.2.2.2.2.2.2.1; unfold fromV; rw [ix_nI (by omega), ix_nI (by omega)]; grind)
      · refine lv_aload hx hb dX0_fromTold_34 (lv_at hl 0 rfl) ?_
        refine n_get (v := .ref (cb + 23 + 13)) hx hb hts hown hKK hN.1 18 (by decide) (Or.inr ⟨_, q238⟩) rfl rfl dX0_fromTold_36 ?_
        refine lv_iload_n hx hb dX0_fromTold_39 rfl (lv_at hl 2 rfl) ?_
        refine o_ald hx hb hKK hN.1 13 rfl (k := j) (v := (fgS (B 2) nI nI n).2 j) rfl (by omega) (by decide) hg.2 dX0_fromTold_40 ?_
        refine lv_goto (tgt := 51) hx hb dX0_fromTold_41 (by decide) ?_
        exact J _ (by have h3 := hokH.2.2.2.2.2.2.1; unfold fromV; rw [ix_nI (by omega), ix_nI (by omega)]; grind)
    · refine lv_bipush (v := (-9)) hx hb dX0_fromTold_25 (by decide) ?_
      refine lv_goto (tgt := 51) hx hb dX0_fromTold_27 (by decide) ?_
      exact J _ (by have h3 := hokH.2.2.2.2.2.2.1; unfold fromV; rw [ix_nI (by omega), ix_nI (by omega)]; grind)
