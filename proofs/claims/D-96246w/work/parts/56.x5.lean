/-! THE CLASS's METHODS (5): printed by wip/D-96246w/gen/gen_x5.py -/
set_option maxRecDepth 100000
set_option maxHeartbeats 800000 in
theorem cx_judgeRow (l : Launch) (htr : l.stackTraces = false) (D : va_G) (t : Nat → ClassId) (Z : Nat × Cell) (cb : Nat) (B : BT) (hOk : Ok (B 2) 999) (hR : B 0 3 = nI (ix (B 0 3)) ∧ ix (B 0 3) ≤ 6) : Met l yX0_judgeRow (ws_ yX0_judgeRow cX0_judgeRow 4 (some .int)) ({ frames := 0, cells := 0, slots := 0, locals := 0 }) (zPc [.ref cb] (CW D t Z cb B) (KX D t Z)) (va_Qi (fun r u => r = judV B ∧ u = up2 B 0 3 0) (fun B' U => CW D t Z cb B' U.heap) (cA cb)) 0 0 (cA cb) := by
  refine zOf (cc := cX0_judgeRow) (maxL := 4) (ret := (some .int)) (by decide) (Nat.le_of_ble_eq_true rfl) (fun pg ev s m below meth cd ls F hW hK hl hnm => ?_)
  obtain ⟨hx, hb, hml, hown, hts, hr, hlk⟩ := F
  have S : CallFix pg m cd cX0_judgeRow 4 s _ lw_all RX0 := ⟨hx, hb, hml, hown, hts⟩
  have hl : lv_has ls 4 [(0, .ref cb)] := hl
  have hKK := hK.1
  obtain ⟨hC, hD⟩ := hW
  have hS : va_S (fA (cA cb) s) s.heap s.heap [] := va_S.rf
  have hd0 := hOk.hr0
  have hd8 := hOk.d8
  have hh3 := hOk.hr3
  have hh6 := hOk.h6
  have hs2 := hOk.hr2
  have hs5 := hOk.s5
  have hX := hOk.X
  obtain ⟨M, hM⟩ : ∃ z, z = ix (B 0 3) := ⟨_, rfl⟩
  have hM3 : B 0 3 = nI M := by rw [hM]; exact hR.1
  have hM6 : M ≤ 6 := by rw [hM]; exact hR.2
  obtain ⟨F, hF⟩ : ∃ F : Nat → Bool, ∀ h, F h = (decide (h = nH (B 2)) || !toB (B 13) (B 2) h) := ⟨_, fun _ => rfl⟩
  refine lv_aload_n hx hb dX0_judgeRow_0 rfl (lv_at hl 0 rfl) ?_
  refine c_xget (v := .int (B 0 3)) hx hb hts hown hKK hC 6 (by decide) (Or.inl q289) rfl rfl dX0_judgeRow_1 ?_
  refine lv_istore_n (lv' := [(1, .int (B 0 3)), (0, .ref cb)]) hx hb dX0_judgeRow_4 rfl hl (by decide) rfl (fun ls hl => ?_)
  refine lv_aload_n hx hb dX0_judgeRow_5 rfl (lv_at hl 1 rfl) ?_
  refine lv_iconst (v := 0) hx hb dX0_judgeRow_6 (by decide) ?_
  refine c_xput hx hb hts hown hKK ⟨hC, hD⟩ (fun q h => fC h) hS 6 3 (by decide) (by decide) (Or.inl q289) rfl rfl (by decide +kernel) rfl dX0_judgeRow_7 (fun H locs hW _ hq hS => ?_)
  obtain ⟨hC, hD⟩ := hW
  refine lv_iconst (v := 0) hx hb dX0_judgeRow_10 (by decide) ?_
  refine lv_istore_n (lv' := [(2, .int 0), (1, .int (B 0 3)), (0, .ref cb)]) hx hb dX0_judgeRow_11 rfl hl (by decide) rfl (fun ls hl => ?_)
  refine W.loop (σ := Nat) (fun k H locs ls => k ≤ nH (B 2) ∧ (k ≤ M ∧ fdS F k = -9) ∧ CM D t Z cb (up2 B 0 3 0) H ∧ ND D t cb H ∧ va_S (fA (cA cb) s) s.heap H locs ∧ lv_has ls 4 [(2, .int (nI k)), (0, .ref cb), (1, .int (B 0 3))]) (fun k => nH (B 2) - k) (fun k H locs ls hIk ihk => ?_) 0 ⟨by omega, ⟨Nat.zero_le _, rfl⟩, hC, hD, hS, lv_sub hl [0, 2, 1] rfl⟩
  obtain ⟨hk, hEk, hC, hD, hS, hl⟩ := hIk
  refine lv_iload_n hx hb dX0_judgeRow_12 rfl (lv_at hl 0 rfl) ?_
  refine lv_aload_n hx hb dX0_judgeRow_13 rfl (lv_at hl 1 rfl) ?_
  refine c_xget (v := .ref (cb + 8)) hx hb hts hown hKK hC 1 (by decide) (Or.inl q284) rfl rfl dX0_judgeRow_14 ?_
  refine c_oget (v := .int (((up2 B 0 3 0) 2) 3)) hx hb hts hown hKK hC 6 (by decide) (Or.inr ⟨_, q211⟩) rfl (fun _ => rfl) dX0_judgeRow_17 ?_
  refine z_top (y := B 2 3) rfl ?_
  refine lv_icmp_ge (tgt := 75) hx hb dX0_judgeRow_20 (by decide) (fun c20 => ?_) (fun c20 => ?_)
  · obtain rfl : k = nH (B 2) := Nat.le_antisymm hk (lp_end hh3 (by omega) (by omega) c20)
    refine lv_iload_n hx hb dX0_judgeRow_75 rfl (lv_at hl 2 rfl) ?_
    refine lv_aload_n hx hb dX0_judgeRow_76 rfl (lv_at hl 1 rfl) ?_
    refine c_xget (v := .ref (cb + 8)) hx hb hts hown hKK hC 1 (by decide) (Or.inl q284) rfl rfl dX0_judgeRow_77 ?_
    refine c_oget (v := .int (((up2 B 0 3 0) 2) 3)) hx hb hts hown hKK hC 6 (by decide) (Or.inr ⟨_, q211⟩) rfl (fun _ => rfl) dX0_judgeRow_80 ?_
    refine z_top (y := B 2 3) rfl ?_
    refine lv_icmp_le (tgt := 96) hx hb dX0_judgeRow_83 (by decide) (fun c83 => ?_) (fun c83 => ?_)
    · have hle : M ≤ nH (B 2) := by rw [hM3, hh3] at c83; exact (nI_leI (by omega) (by omega)).mp c83
      refine lv_bipush (v := (-9)) hx hb dX0_judgeRow_96 (by decide) ?_
      exact x_iretC hx hb hr ⟨jud_3 hF hM3 hM6 hh3 hh6 hEk.2 (by omega), rfl⟩ ⟨hC, hD⟩ hS (Nat.le_of_ble_eq_true rfl) (Nat.le_of_ble_eq_true rfl) dX0_judgeRow_98 hlk
    · have hgt : nH (B 2) < M := by rw [hM3, hh3] at c83; exact Nat.lt_of_not_le (fun z => c83 ((nI_leI (by omega) (by omega)).mpr z))
      refine lv_aload_n hx hb dX0_judgeRow_86 rfl (lv_at hl 1 rfl) ?_
      refine c_xget (v := .ref (cb + 8)) hx hb hts hown hKK hC 1 (by decide) (Or.inl q284) rfl rfl dX0_judgeRow_87 ?_
      refine c_oget (v := .int (((up2 B 0 3 0) 2) 3)) hx hb hts hown hKK hC 6 (by decide) (Or.inr ⟨_, q211⟩) rfl (fun _ => rfl) dX0_judgeRow_90 ?_
      refine z_top (y := B 2 3) rfl ?_
      refine lv_goto (tgt := 98) hx hb dX0_judgeRow_93 (by decide) ?_
      exact x_iretC hx hb hr ⟨hh3.trans (jud_2 hF hM3 hM6 hh3 hh6 hEk.2 hgt), rfl⟩ ⟨hC, hD⟩ hS (Nat.le_of_ble_eq_true rfl) (Nat.le_of_ble_eq_true rfl) dX0_judgeRow_98 hlk
  · have hk2 : k < nH (B 2) := lp_go hh3 (by omega) (by omega) c20
    have h9k := (hOk.head hk2).2.2.2.2.2.2.1
    refine W.join (fun vJ => F0 m 51 ls (.int vJ :: [])) (fun vJ => vJ = (if hd (B 2) k 3 < 0 then 9 else hd (B 2) k 3)) (fun vJ hJ => ?_) (fun J1 => ?_)
    · subst hJ
      refine lv_istore_n (lv' := [(3, .int (if hd (B 2) k 3 < 0 then 9 else hd (B 2) k 3)), (2, .int (nI k)), (0, .ref cb), (1, .int (B 0 3))]) hx hb dX0_judgeRow_51 rfl hl (by decide) rfl (fun ls hl => ?_)
      refine lv_iload_n hx hb dX0_judgeRow_52 rfl (lv_at hl 1 rfl) ?_
      refine lv_iload_n hx hb dX0_judgeRow_53 rfl (lv_at hl 3 rfl) ?_
      refine lv_icmp_eq (tgt := 67) hx hb dX0_judgeRow_54 (by decide) (fun c54 => ?_) (fun c54 => ?_)
      · refine lv_iload_n hx hb dX0_judgeRow_67 rfl (lv_at hl 1 rfl) ?_
        exact x_iretC hx hb hr ⟨jud_1 hF hM3 hM6 hh3 hh6 hEk.2 hk2 hEk.1 (Or.inl ((nI_eq (by omega) (by omega)).mp (c54.trans hM3))), rfl⟩ ⟨hC, hD⟩ hS (Nat.le_of_ble_eq_true rfl) (Nat.le_of_ble_eq_true rfl) dX0_judgeRow_68 hlk
      · have hne : ¬ k = M := fun h => c54 (by rw [h]; exact hM3.symm)
        refine lv_aload_n hx hb dX0_judgeRow_57 rfl (lv_at hl 2 rfl) ?_
        refine c_xget (v := .ref (cb + 53)) hx hb hts hown hKK hC 5 (by decide) (Or.inl q288) rfl rfl dX0_judgeRow_58 ?_
        refine lv_iload_n hx hb dX0_judgeRow_61 rfl (lv_at hl 1 rfl) ?_
        refine z_bald hx hb hKK.1 hC.2.1 2 1 rfl rfl (k := k) rfl (by omega) (by decide) dX0_judgeRow_62 ?_
        refine z_top (y := B 13 k) rfl ?_
        refine lv_iload_n hx hb dX0_judgeRow_63 rfl (lv_at hl 0 rfl) ?_
        refine lv_icmp_eq (tgt := 69) hx hb dX0_judgeRow_64 (by decide) (fun c64 => ?_) (fun c64 => ?_)
        · refine lv_iinc (v := nI (k + 1)) (lv' := [(2, .int (nI (k + 1))), (3, .int (if hd (B 2) k 3 < 0 then 9 else hd (B 2) k 3)), (0, .ref cb), (1, .int (B 0 3))]) hx hb dX0_judgeRow_69 hl (k := 1) rfl (nI_1 k) (by decide) rfl (fun ls hl => ?_)
          refine lv_goto (tgt := 12) hx hb dX0_judgeRow_72 (by decide) ?_
          exact ihk (k + 1) H locs ls (by omega) ⟨by omega, ⟨by omega, fd_miss hEk.2 (by rw [hF, decide_eq_false (by omega), show toB (B 13) (B 2) k = true from decide_eq_true c64]; rfl)⟩, hC, hD, hS, lv_sub hl [0, 2, 3] rfl⟩
        · refine lv_iload_n hx hb dX0_judgeRow_67 rfl (lv_at hl 1 rfl) ?_
          exact x_iretC hx hb hr ⟨jud_1 hF hM3 hM6 hh3 hh6 hEk.2 hk2 hEk.1 (Or.inr (decide_eq_false c64)), rfl⟩ ⟨hC, hD⟩ hS (Nat.le_of_ble_eq_true rfl) (Nat.le_of_ble_eq_true rfl) dX0_judgeRow_68 hlk
    · refine lv_aload_n hx hb dX0_judgeRow_23 rfl (lv_at hl 1 rfl) ?_
      refine c_xget (v := .ref (cb + 8)) hx hb hts hown hKK hC 1 (by decide) (Or.inl q284) rfl rfl dX0_judgeRow_24 ?_
      refine c_oget (v := .ref (cb + 8 + 7)) hx hb hts hown hKK hC 10 (by decide) (Or.inr ⟨_, q222⟩) rfl (fun _ => rfl) dX0_judgeRow_27 ?_
      refine lv_iload_n hx hb dX0_judgeRow_30 rfl (lv_at hl 0 rfl) ?_
      refine c_oald hx hb hKK hC 7 (fun _ _ _ => rfl) (k := k) (v := hd (B 2) k 3) rfl (by omega) (by decide) (fun _ => rfl) dX0_judgeRow_31 ?_
      refine lv_bipush (v := (-9)) hx hb dX0_judgeRow_32 (by decide) ?_
      refine lv_icmp_ne (tgt := 42) hx hb dX0_judgeRow_34 (by decide) (fun c34 => ?_) (fun c34 => ?_)
      · refine lv_aload_n hx hb dX0_judgeRow_42 rfl (lv_at hl 1 rfl) ?_
        refine c_xget (v := .ref (cb + 8)) hx hb hts hown hKK hC 1 (by decide) (Or.inl q284) rfl rfl dX0_judgeRow_43 ?_
        refine c_oget (v := .ref (cb + 8 + 7)) hx hb hts hown hKK hC 10 (by decide) (Or.inr ⟨_, q222⟩) rfl (fun _ => rfl) dX0_judgeRow_46 ?_
        refine lv_iload_n hx hb dX0_judgeRow_49 rfl (lv_at hl 0 rfl) ?_
        refine c_oald hx hb hKK hC 7 (fun _ _ _ => rfl) (k := k) (v := hd (B 2) k 3) rfl (by omega) (by decide) (fun _ => rfl) dX0_judgeRow_50 ?_
        exact J1 _ (by grind)
      · refine lv_bipush (v := 9) hx hb dX0_judgeRow_37 (by decide) ?_
        refine lv_goto (tgt := 51) hx hb dX0_judgeRow_39 (by decide) ?_
        exact J1 _ (by grind)
set_option maxHeartbeats 800000 in
theorem cx_bySeeds (l : Launch) (htr : l.stackTraces = false) (D : va_G) (t : Nat → ClassId) (Z : Nat × Cell) (cb : Nat) (B : BT) (n : Nat) (z : Int32) (hOk : Ok (B 2) 999) (hn : n ≤ 60) : Met l yX0_bySeeds (ws_ yX0_bySeeds cX0_bySeeds 7 (some .int)) ({ frames := 6, cells := 0, slots := 0, locals := 132 }) (zPc [.ref cb, .int (nI n), .int z] (CW D t Z cb B) (KX D t Z)) (va_Qi (fun r u => r = haS (sdL (B 2) z n).1 (-1) ∧ u = B) (fun B' U => CW D t Z cb B' U.heap) (cA cb)) 0 0 (cA cb) := by
  refine zOf (cc := cX0_bySeeds) (maxL := 7) (ret := (some .int)) (by decide) (Nat.le_of_ble_eq_true rfl) (fun pg ev s m below meth cd ls F hW hK hl hnm => ?_)
  obtain ⟨hx, hb, hml, hown, hts, hr, hlk⟩ := F
  have S : CallFix pg m cd cX0_bySeeds 7 s _ lw_all RX0 := ⟨hx, hb, hml, hown, hts⟩
  have hl : lv_has ls 7 [(0, .ref cb), (1, .int (nI n)), (2, .int z)] := hl
  have hKK := hK.1
  obtain ⟨hC, hD⟩ := hW
  have hS : va_S (fA (cA cb) s) s.heap s.heap [] := va_S.rf
  have hd0 := hOk.hr0
  have hd8 := hOk.d8
  have hh3 := hOk.hr3
  have hh6 := hOk.h6
  have hs2 := hOk.hr2
  have hs5 := hOk.s5
  have hX := hOk.X
  refine lv_iload_n hx hb dX0_bySeeds_0 rfl (lv_at hl 2 rfl) ?_
  refine lv_istore_n (lv' := [(3, .int z), (0, .ref cb), (1, .int (nI n)), (2, .int z)]) hx hb dX0_bySeeds_1 rfl hl (by decide) rfl (fun ls hl => ?_)
  refine lv_aload_n hx hb dX0_bySeeds_2 rfl (lv_at hl 1 rfl) ?_
  refine va_callr (gx_runV (As := []) (rest := []) S hK ⟨hC, hD⟩ (hC.recv hKK) (cx_openMind l htr D t Z cb B ) (cwV 0 hts (lw_V q971 q973 qs31 q95 q974) rfl rfl rfl (by decide +kernel) ⟨Nat.le_of_ble_eq_true rfl, Nat.le_of_ble_eq_true rfl⟩) rfl hl.1 rfl (Nat.le_of_ble_eq_true rfl) dX0_bySeeds_3 ⟨Nat.le_of_ble_eq_true rfl, Nat.le_of_ble_eq_true rfl⟩) hS (fun q _ h => Or.inl h) (fun q h => Or.inl h) (fun u3 a3 tt H locs ht _ _ hW _ _ hS => ?_)
  obtain ⟨sgN, kdN, AN⟩ := u3
  obtain ⟨rfl, hC, hN⟩ := hW
  rw [ht] at hC hN
  have hN : OV D t (cb + 23) (cb + 2) (cb + 70) sgN kdN (B 2) AN H := hN
  refine lv_astore (lv' := [(4, .ref (cb + 23)), (3, .int z), (0, .ref cb), (1, .int (nI n)), (2, .int z)]) hx hb dX0_bySeeds_6 hl (by decide) rfl (fun ls hl => ?_)
  have hl : lv_has ls 7 [(4, .ref (cb + 23)), (3, .int ((sdL (B 2) z 0).2)), (0, .ref cb), (1, .int (nI n)), (2, .int z)] := hl
  refine lv_iconst (v := 0) hx hb dX0_bySeeds_8 (by decide) ?_
  refine lv_istore (lv' := [(5, .int 0), (4, .ref (cb + 23)), (3, .int ((sdL (B 2) z 0).2)), (0, .ref cb), (1, .int (nI n)), (2, .int z)]) hx hb dX0_bySeeds_9 hl (by decide) rfl (fun ls hl => ?_)
  refine W.loop (σ := Nat) (fun k H locs ls => k ≤ n ∧ (True) ∧ CM D t Z cb B H ∧ (∃ sg kd A, OV D t (cb + 23) (cb + 2) (cb + 70) sg kd ((sdL (B 2) z k).1) A H) ∧ va_S (fA (cA cb) s) s.heap H locs ∧ lv_has ls 7 [(5, .int (nI k)), (3, .int ((sdL (B 2) z k).2)), (4, .ref (cb + 23)), (0, .ref cb), (1, .int (nI n)), (2, .int z)]) (fun k => n - k) (fun k H locs ls hIk ihk => ?_) 0 ⟨by omega, trivial, hC, ⟨_, _, _, (by rw [show (sdL (B 2) z 0).1 = B 2 from rfl]; exact hN)⟩, hS, lv_sub hl [0, 2, 1, 3, 4, 5] rfl⟩
  obtain ⟨hk, hEk, hC, ⟨sgN, kdN, AN, hN⟩, hS, hl⟩ := hIk
  refine lv_iload hx hb dX0_bySeeds_11 (lv_at hl 0 rfl) ?_
  refine lv_iload_n hx hb dX0_bySeeds_13 rfl (lv_at hl 4 rfl) ?_
  refine lv_icmp_ge (tgt := 74) hx hb dX0_bySeeds_14 (by decide) (fun c14 => ?_) (fun c14 => ?_)
  · obtain rfl : n = k := Nat.le_antisymm (lp_end (n := n) rfl (by omega) (by omega) c14) hk
    refine lv_aload hx hb dX0_bySeeds_74 (lv_at hl 2 rfl) ?_
    refine lv_iconst (v := (-1)) hx hb dX0_bySeeds_76 (by decide) ?_
    refine g_r (g_runV (As := [.int (-1)]) (rest := []) S hKK hN (hN.recv hKK) (co_X8_have l D t (cb + 23) (cb + 2) (cb + 70) sgN kdN ((sdL (B 2) z n).1) AN (-1) (999 + n) (Ok_sdL (z := z) hOk (k := n) (by omega)).1) (cwV 1 hts (lw_V q773 q774 q775 q103 q776) rfl rfl rfl (by decide +kernel) ⟨Nat.le_of_ble_eq_true rfl, Nat.le_of_ble_eq_true rfl⟩) rfl hl.1 rfl (Nat.le_of_ble_eq_true rfl) dX0_bySeeds_77 ⟨Nat.le_of_ble_eq_true rfl, Nat.le_of_ble_eq_true rfl⟩) ?_
    exact x_iretC hx hb hr ⟨rfl, rfl⟩ ⟨hC, ⟨_, _, _, hN.1⟩⟩ hS (Nat.le_of_ble_eq_true rfl) (Nat.le_of_ble_eq_true rfl) dX0_bySeeds_80 hlk
  · have hk2 : k < n := lp_go (n := n) rfl (by omega) (by omega) c14
    have hokk := Ok_sdL (z := z) hOk (k := k) (by omega)
    refine lv_iconst (v := 0) hx hb dX0_bySeeds_17 (by decide) ?_
    refine lv_istore (lv' := [(6, .int 0), (5, .int (nI k)), (3, .int ((sdL (B 2) z k).2)), (4, .ref (cb + 23)), (0, .ref cb), (1, .int (nI n)), (2, .int z)]) hx hb dX0_bySeeds_18 hl (by decide) rfl (fun ls hl => ?_)
    have hl : lv_has ls 7 [(6, .int 0), (5, .int (nI k)), (3, .int ((sdI (sdL (B 2) z k) 0).2)), (4, .ref (cb + 23)), (0, .ref cb), (1, .int (nI n)), (2, .int z)] := hl
    refine W.loop (σ := Nat) (fun o H locs ls => o ≤ nH (B 2) ∧ (True) ∧ CM D t Z cb B H ∧ (∃ sg kd A, OV D t (cb + 23) (cb + 2) (cb + 70) sg kd ((sdI (sdL (B 2) z k) o).1) A H) ∧ va_S (fA (cA cb) s) s.heap H locs ∧ lv_has ls 7 [(6, .int (nI o)), (3, .int ((sdI (sdL (B 2) z k) o).2)), (5, .int (nI k)), (4, .ref (cb + 23)), (0, .ref cb), (1, .int (nI n)), (2, .int z)]) (fun o => nH (B 2) - o) (fun o H locs ls hIo iho => ?_) 0 ⟨by omega, trivial, hC, ⟨_, _, _, (by rw [show (sdI (sdL (B 2) z k) 0).1 = (sdL (B 2) z k).1 from rfl]; exact hN)⟩, hS, lv_sub hl [0, 2, 1, 3, 4, 5, 6] rfl⟩
    obtain ⟨ho, hEo, hC, ⟨sgN, kdN, AN, hN⟩, hS, hl⟩ := hIo
    have hoki := Ok_sdI (p := sdL (B 2) z k) hokk.1 (k := o) (by rw [hokk.2]; exact ho)
    have hnn : nH (sdI (sdL (B 2) z k) o).1 = nH (B 2) := hoki.2.trans hokk.2
    refine lv_iload hx hb dX0_bySeeds_20 (lv_at hl 0 rfl) ?_
    refine lv_aload hx hb dX0_bySeeds_22 (lv_at hl 3 rfl) ?_
    refine n_get (v := .int (((sdI (sdL (B 2) z k) o).1) 3)) hx hb hts hown hKK hN.1 6 (by decide) (Or.inr ⟨_, q211⟩) rfl rfl dX0_bySeeds_24 ?_
    refine z_top (y := nI (nH (B 2))) (by rw [← hnn]; exact hoki.1.hr3) ?_
    refine lv_icmp_ge (tgt := 62) hx hb dX0_bySeeds_27 (by decide) (fun c27 => ?_) (fun c27 => ?_)
    · obtain rfl : o = nH (B 2) := Nat.le_antisymm ho (lp_end (n := nH (B 2)) rfl (by omega) (by omega) c27)
      refine lv_aload hx hb dX0_bySeeds_62 (lv_at hl 3 rfl) ?_
      refine va_calli (g_runV (As := []) (rest := []) S hKK hN (hN.recv hKK) (co_X8_hourOn l D t (cb + 23) (cb + 2) (cb + 70) sgN kdN ((sdI (sdL (B 2) z k) (nH (B 2))).1) AN (999 + k) hoki.1 (by omega) (by omega) (by omega)) (cwV 0 hts (lw_V q910 q911 q912 q103 q913) rfl rfl rfl (by decide +kernel) ⟨Nat.le_of_ble_eq_true rfl, Nat.le_of_ble_eq_true rfl⟩) rfl hl.1 rfl (Nat.le_of_ble_eq_true rfl) dX0_bySeeds_64 ⟨Nat.le_of_ble_eq_true rfl, Nat.le_of_ble_eq_true rfl⟩) hS (fun q _ h => fM h) (fun q h => fM h) (fun r64 u64 tt H locs ht _ h64 hN _ hq hS => ?_)
      obtain ⟨R64, A64⟩ := u64
      rw [ht] at hN
      have hN : OV D t (cb + 23) (cb + 2) (cb + 70) sgN kdN R64 A64 H := hN
      obtain ⟨e1, e2, -, -⟩ := h64
      have e2 : R64 = hoS ((sdI (sdL (B 2) z k) (nH (B 2))).1) := e2
      rw [e2] at hN
      rw [show hoS ((sdI (sdL (B 2) z k) (nH (B 2))).1) = (sdL (B 2) z (k + 1)).1 from rfl] at hN
      refine z_top (y := gnS ((sdI (sdL (B 2) z k) (nH (B 2))).1)) e1 ?_
      have hC := hC.kept hq
      refine lv_pop hx hb dX0_bySeeds_67 rfl ?_
      refine lv_iinc (v := nI (k + 1)) (lv' := [(5, .int (nI (k + 1))), (6, .int (nI (nH (B 2)))), (3, .int ((sdI (sdL (B 2) z k) (nH (B 2))).2)), (4, .ref (cb + 23)), (0, .ref cb), (1, .int (nI n)), (2, .int z)]) hx hb dX0_bySeeds_68 hl (k := 2) rfl (nI_1 k) (by decide) rfl (fun ls hl => ?_)
      refine lv_goto (tgt := 11) hx hb dX0_bySeeds_71 (by decide) ?_
      exact ihk (k + 1) H locs ls (by omega) ⟨by omega, trivial, hC, ⟨_, _, _, (by rw [show (sdL (B 2) z (k + 1)).1 = (sdL (B 2) z (k + 1)).1 from rfl]; exact hN)⟩, hS, lv_sub hl [0, 2, 3, 4, 5, 6] rfl⟩
    · have ho2 : o < nH (B 2) := lp_go (n := nH (B 2)) rfl (by omega) (by omega) c27
      refine lv_iload_n hx hb dX0_bySeeds_30 rfl (lv_at hl 1 rfl) ?_
      refine lv_ldc (v := 1664525) hx hb hown (hts _ q1096) dX0_bySeeds_31 ?_
      refine lv_imul hx hb dX0_bySeeds_33 ?_
      refine lv_ldc (v := 1013904223) hx hb hown (hts _ q1097) dX0_bySeeds_34 ?_
      refine lv_iadd hx hb dX0_bySeeds_36 ?_
      refine z_top (y := sdZ (sdI (sdL (B 2) z k) o).2) rfl ?_
      refine lv_istore_n (lv' := [(3, .int (sdZ (sdI (sdL (B 2) z k) o).2)), (6, .int (nI o)), (5, .int (nI k)), (4, .ref (cb + 23)), (0, .ref cb), (1, .int (nI n)), (2, .int z)]) hx hb dX0_bySeeds_37 rfl hl (by decide) rfl (fun ls hl => ?_)
      refine lv_aload hx hb dX0_bySeeds_38 (lv_at hl 3 rfl) ?_
      refine n_get (v := .ref (cb + 23 + 5)) hx hb hts hown hKK hN.1 8 (by decide) (Or.inr ⟨_, q217⟩) rfl rfl dX0_bySeeds_40 ?_
      refine lv_iload hx hb dX0_bySeeds_43 (lv_at hl 1 rfl) ?_
      refine lv_iload_n hx hb dX0_bySeeds_45 rfl (lv_at hl 0 rfl) ?_
      refine lv_ldc (v := 2147483647) hx hb hown (hts _ q1098) dX0_bySeeds_46 ?_
      refine lv_iand hx hb dX0_bySeeds_48 ?_
      refine lv_sipush (v := 256) hx hb dX0_bySeeds_49 (by decide) ?_
      refine lv_idiv hx hb dX0_bySeeds_52 (by decide) ?_
      refine lv_iconst (v := 5) hx hb dX0_bySeeds_53 (by decide) ?_
      refine lv_irem hx hb dX0_bySeeds_54 (by decide) ?_
      refine z_top (y := sdR (sdI (sdL (B 2) z k) o).2) rfl ?_
      refine o_astH hx hb hKK hN (by omega) (by omega) (fun q h => fM h) hS 1 (by decide) rfl (k := o) rfl (by omega) rfl dX0_bySeeds_55 (fun H locs hN _ hq hS => ?_)
      have hC := hC.kept (fun q _ h => hq q h)
      refine lv_iinc (v := nI (o + 1)) (lv' := [(6, .int (nI (o + 1))), (3, .int (sdZ (sdI (sdL (B 2) z k) o).2)), (5, .int (nI k)), (4, .ref (cb + 23)), (0, .ref cb), (1, .int (nI n)), (2, .int z)]) hx hb dX0_bySeeds_56 hl (k := 1) rfl (nI_1 o) (by decide) rfl (fun ls hl => ?_)
      refine lv_goto (tgt := 20) hx hb dX0_bySeeds_59 (by decide) ?_
      exact iho (o + 1) H locs ls (by omega) ⟨by omega, trivial, hC, ⟨_, _, _, (by rw [show (sdI (sdL (B 2) z k) (o + 1)).1 = upd ((sdI (sdL (B 2) z k) o).1) (37 + 6 * o + 1) (sdR (sdI (sdL (B 2) z k) o).2) from rfl]; exact hN)⟩, hS, lv_sub hl [0, 1, 2, 3, 4, 5, 6] rfl⟩
set_option maxHeartbeats 800000 in
theorem cx_strengthOfAll (l : Launch) (htr : l.stackTraces = false) (D : va_G) (t : Nat → ClassId) (Z : Nat × Cell) (cb : Nat) (B : BT) (hOk : Ok (B 2) 999) : Met l yX0_strengthOfAll (ws_ yX0_strengthOfAll cX0_strengthOfAll 3 (some .int)) ({ frames := 0, cells := 0, slots := 0, locals := 0 }) (zPc [.ref cb] (CM D t Z cb B) (KX D t Z)) (QcRead (stL (B 2) (nH (B 2)))) 0 0 (fun _ => False) := by
  refine zOf (cc := cX0_strengthOfAll) (maxL := 3) (ret := (some .int)) (by decide) (Nat.le_of_ble_eq_true rfl) (fun pg ev s m below meth cd ls F hC hK hl hnm => ?_)
  obtain ⟨hx, hb, hml, hown, hts, hr, hlk⟩ := F
  have S : CallFix pg m cd cX0_strengthOfAll 3 s _ lw_all RX0 := ⟨hx, hb, hml, hown, hts⟩
  have hl : lv_has ls 3 [(0, .ref cb)] := hl
  have hKK := hK.1
  have hd0 := hOk.hr0
  have hd8 := hOk.d8
  have hh3 := hOk.hr3
  have hh6 := hOk.h6
  have hs2 := hOk.hr2
  have hs5 := hOk.s5
  have hX := hOk.X
  refine lv_iconst (v := 0) hx hb dX0_strengthOfAll_0 (by decide) ?_
  refine lv_istore_n (lv' := [(1, .int 0), (0, .ref cb)]) hx hb dX0_strengthOfAll_1 rfl hl (by decide) rfl (fun ls hl => ?_)
  have hl : lv_has ls 3 [(1, .int (stL (B 2) 0)), (0, .ref cb)] := hl
  refine lv_iconst (v := 0) hx hb dX0_strengthOfAll_2 (by decide) ?_
  refine lv_istore_n (lv' := [(2, .int 0), (1, .int (stL (B 2) 0)), (0, .ref cb)]) hx hb dX0_strengthOfAll_3 rfl hl (by decide) rfl (fun ls hl => ?_)
  refine W.loopR (fun (k : Nat) ls => k ≤ nH (B 2) ∧ (True) ∧ lv_has ls 3 [(2, .int (nI k)), (1, .int (stL (B 2) k)), (0, .ref cb)]) (fun k => nH (B 2) - k) (fun k ls hIk ihk => ?_) 0 ⟨by omega, trivial, lv_sub hl [0, 1, 2] rfl⟩
  obtain ⟨hk, hEk, hl⟩ := hIk
  refine lv_iload_n hx hb dX0_strengthOfAll_4 rfl (lv_at hl 0 rfl) ?_
  refine lv_aload_n hx hb dX0_strengthOfAll_5 rfl (lv_at hl 2 rfl) ?_
  refine c_xget (v := .ref (cb + 8)) hx hb hts hown hKK hC 1 (by decide) (Or.inl q284) rfl rfl dX0_strengthOfAll_6 ?_
  refine c_oget (v := .int ((B 2) 3)) hx hb hts hown hKK hC 6 (by decide) (Or.inr ⟨_, q211⟩) rfl (fun _ => rfl) dX0_strengthOfAll_9 ?_
  refine lv_icmp_ge (tgt := 33) hx hb dX0_strengthOfAll_12 (by decide) (fun c12 => ?_) (fun c12 => ?_)
  · obtain rfl : k = nH (B 2) := Nat.le_antisymm hk (lp_end hh3 (by omega) (by omega) c12)
    refine lv_iload_n hx hb dX0_strengthOfAll_33 rfl (lv_at hl 1 rfl) ?_
    exact z_iretR hx hb hr rfl (fun q h => by cases h) rfl dX0_strengthOfAll_34 hlk
  · have hk2 : k < nH (B 2) := lp_go hh3 (by omega) (by omega) c12
    refine lv_iload_n hx hb dX0_strengthOfAll_15 rfl (lv_at hl 1 rfl) ?_
    refine lv_aload_n hx hb dX0_strengthOfAll_16 rfl (lv_at hl 2 rfl) ?_
    refine c_xget (v := .ref (cb + 8)) hx hb hts hown hKK hC 1 (by decide) (Or.inl q284) rfl rfl dX0_strengthOfAll_17 ?_
    refine c_oget (v := .ref (cb + 8 + 8)) hx hb hts hown hKK hC 11 (by decide) (Or.inr ⟨_, q224⟩) rfl (fun _ => rfl) dX0_strengthOfAll_20 ?_
    refine lv_iload_n hx hb dX0_strengthOfAll_23 rfl (lv_at hl 0 rfl) ?_
    refine c_oald hx hb hKK hC 8 (fun _ _ _ => rfl) (k := k) (v := hd (B 2) k 4) rfl (by omega) (by decide) (fun _ => rfl) dX0_strengthOfAll_24 ?_
    refine lv_iadd hx hb dX0_strengthOfAll_25 ?_
    refine z_top (y := stL (B 2) (k + 1)) rfl ?_
    refine lv_istore_n (lv' := [(1, .int (stL (B 2) (k + 1))), (2, .int (nI k)), (0, .ref cb)]) hx hb dX0_strengthOfAll_26 rfl hl (by decide) rfl (fun ls hl => ?_)
    refine lv_iinc (v := nI (k + 1)) (lv' := [(2, .int (nI (k + 1))), (1, .int (stL (B 2) (k + 1))), (0, .ref cb)]) hx hb dX0_strengthOfAll_27 hl (k := 1) rfl (nI_1 k) (by decide) rfl (fun ls hl => ?_)
    refine lv_goto (tgt := 4) hx hb dX0_strengthOfAll_30 (by decide) ?_
    exact ihk (k + 1) ls (by omega) ⟨by omega, trivial, lv_sub hl [0, 1, 2] rfl⟩
set_option maxHeartbeats 800000 in
theorem cx_ones (l : Launch) (D : va_G) (t : Nat → ClassId) (b : Nat) (hb8 : b < 256) : Met l yX0_ones (ws_ yX0_ones cX0_ones 3 (some .int)) ({ frames := 0, cells := 0, slots := 0, locals := 0 }) (zPc [.int (nI b)] (fun _ => True) (KK D t)) (QcRead (nI (poS 8 b))) 0 0 (fun _ => False) := by
  refine zOf (cc := cX0_ones) (maxL := 3) (ret := (some .int)) (by decide) (Nat.le_of_ble_eq_true rfl) (fun pg ev s m below meth cd ls F hP hKK hl hnm => ?_)
  obtain ⟨hx, hb, hml, hown, hts, hr, hlk⟩ := F
  have S : CallFix pg m cd cX0_ones 3 s _ lw_all RX0 := ⟨hx, hb, hml, hown, hts⟩
  have hl : lv_has ls 3 [(0, .int (nI b))] := hl
  refine lv_iconst (v := 0) hx hb dX0_ones_0 (by decide) ?_
  refine lv_istore_n (lv' := [(1, .int 0), (0, .int (nI b))]) hx hb dX0_ones_1 rfl hl (by decide) rfl (fun ls hl => ?_)
  refine lv_iload_n hx hb dX0_ones_2 rfl (lv_at hl 1 rfl) ?_
  refine lv_istore_n (lv' := [(2, .int (nI b)), (1, .int 0), (0, .int (nI b))]) hx hb dX0_ones_3 rfl hl (by decide) rfl (fun ls hl => ?_)
  have hl : lv_has ls 3 [(2, .int (nI b)), (1, .int (nI (poS 8 b - poS 8 b))), (0, .int (nI b))] := by rw [Nat.sub_self]; exact hl
  refine W.loopR (fun (c : Nat) ls => c < 256 ∧ poS 8 c ≤ poS 8 b ∧ lv_has ls 3 [(2, .int (nI c)), (1, .int (nI (poS 8 b - poS 8 c))), (0, .int (nI b))]) (fun c => poS 8 c) (fun c ls hI ihc => ?_) b ⟨hb8, Nat.le_refl _, hl⟩
  obtain ⟨hc8, hle, hl⟩ := hI
  refine lv_iload_n hx hb dX0_ones_4 rfl (lv_at hl 0 rfl) ?_
  refine lv_if_eq (tgt := 20) hx hb dX0_ones_5 (by decide) (fun c5 => ?_) (fun c5 => ?_)
  · have hc0 : c = 0 := nI_lit0 (by omega) c5
    refine lv_iload_n hx hb dX0_ones_20 rfl (lv_at hl 1 rfl) ?_
    exact z_iretR hx hb hr (by rw [hc0, poS_0, Nat.sub_zero]) (fun q h => by cases h) rfl dX0_ones_21 hlk
  · have hc0 : 0 < c := Nat.pos_of_ne_zero (fun h => c5 (by rw [h]; rfl))
    refine lv_iinc (v := nI ((poS 8 b - poS 8 c) + 1)) (lv' := [(1, .int (nI ((poS 8 b - poS 8 c) + 1))), (2, .int (nI c)), (0, .int (nI b))]) hx hb dX0_ones_8 hl (k := 1) rfl (nI_1 (poS 8 b - poS 8 c)) (by decide) rfl (fun ls hl => ?_)
    refine lv_iload_n hx hb dX0_ones_11 rfl (lv_at hl 1 rfl) ?_
    refine lv_iload_n hx hb dX0_ones_12 rfl (lv_at hl 1 rfl) ?_
    refine lv_iconst (v := 1) hx hb dX0_ones_13 (by decide) ?_
    refine lv_isub hx hb dX0_ones_14 ?_
    refine lv_iand hx hb dX0_ones_15 ?_
    refine z_top (y := nI (c &&& (c - 1))) (po_nI c hc8 hc0) ?_
    refine lv_istore_n (lv' := [(2, .int (nI (c &&& (c - 1)))), (1, .int (nI ((poS 8 b - poS 8 c) + 1))), (0, .int (nI b))]) hx hb dX0_ones_16 rfl hl (by decide) rfl (fun ls hl => ?_)
    refine lv_goto (tgt := 4) hx hb dX0_ones_17 (by decide) ?_
    exact ihc (c &&& (c - 1)) ls (by have := (po_less c hc8 hc0).1; omega) ⟨(po_less c hc8 hc0).2, by have := (po_less c hc8 hc0).1; omega, by rw [show poS 8 b - poS 8 (c &&& (c - 1)) = poS 8 b - poS 8 c + 1 by have := (po_less c hc8 hc0).1; omega]; exact lv_sub hl [0, 1, 2] rfl⟩
