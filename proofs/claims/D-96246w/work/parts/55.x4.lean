/-! THE CLASS's METHODS (4): doors, seats, told rows, seeds; printed by wip/D-96246w/gen/gen_x4.py -/
set_option maxRecDepth 100000
set_option maxHeartbeats 800000 in
theorem cx_bestShut (l : Launch) (htr : l.stackTraces = false) (D : va_G) (t : Nat → ClassId) (Z : Nat × Cell) (cb : Nat) (B : BT) (n : Nat) (hOk : Ok (B 2) 999) (hn : n ≤ 60) : Met l yX0_bestShut (ws_ yX0_bestShut cX0_bestShut 7 (some .int)) ({ frames := 7, cells := 0, slots := 0, locals := 154 }) (zPc [.ref cb, .int (nI n)] (CW D t Z cb B) (KX D t Z)) (va_Qi (fun r u => r = (shP (B 2) n).1 ∧ u = B) (fun B' U => CW D t Z cb B' U.heap) (cA cb)) 0 0 (cA cb) := by
  refine zOf (cc := cX0_bestShut) (maxL := 7) (ret := (some .int)) (by decide) (Nat.le_of_ble_eq_true rfl) (fun pg ev s m below meth cd ls F hW hK hl hnm => ?_)
  obtain ⟨hx, hb, hml, hown, hts, hr, hlk⟩ := F
  have S : CallFix pg m cd cX0_bestShut 7 s _ lw_all RX0 := ⟨hx, hb, hml, hown, hts⟩
  have hl : lv_has ls 7 [(0, .ref cb), (1, .int (nI n))] := hl
  have hKK := hK.1
  obtain ⟨hC, hD⟩ := hW
  have hS : va_S (fA (cA cb) s) s.heap s.heap [] := va_S.rf
  have hd0 := hOk.hr0
  have hd8 := hOk.d8
  have hh3 := hOk.hr3
  have hh6 := hOk.h6
  have hs2 := hOk.hr2
  have hs5 := hOk.s5
  have hX := hOk.X
  obtain ⟨h0, hh0⟩ : ∃ z, z = haS (hrS (B 2) n) (-1) := ⟨_, rfl⟩
  obtain ⟨f, hf⟩ : ∃ f : Nat → Int32, ∀ d, f d = haS (hrS (shR (B 2) d) n) (-1) := ⟨_, fun _ => rfl⟩
  refine lv_bipush (v := (-9)) hx hb dX0_bestShut_0 (by decide) ?_
  refine lv_istore_n (lv' := [(2, .int (-9)), (0, .ref cb), (1, .int (nI n))]) hx hb dX0_bestShut_2 rfl hl (by decide) rfl (fun ls hl => ?_)
  refine lv_aload_n hx hb dX0_bestShut_3 rfl (lv_at hl 1 rfl) ?_
  refine va_callr (gx_runV (As := []) (rest := []) S hK ⟨hC, hD⟩ (hC.recv hKK) (cx_openMind l htr D t Z cb B ) (cwV 0 hts (lw_V q971 q973 qs31 q95 q974) rfl rfl rfl (by decide +kernel) ⟨Nat.le_of_ble_eq_true rfl, Nat.le_of_ble_eq_true rfl⟩) rfl hl.1 rfl (Nat.le_of_ble_eq_true rfl) dX0_bestShut_4 ⟨Nat.le_of_ble_eq_true rfl, Nat.le_of_ble_eq_true rfl⟩) hS (fun q _ h => Or.inl h) (fun q h => Or.inl h) (fun u4 a4 tt H locs ht _ _ hW _ _ hS => ?_)
  obtain ⟨sgN, kdN, AN⟩ := u4
  obtain ⟨rfl, hC, hN⟩ := hW
  rw [ht] at hC hN
  have hN : OV D t (cb + 23) (cb + 2) (cb + 70) sgN kdN (B 2) AN H := hN
  refine lv_iload_n hx hb dX0_bestShut_7 rfl (lv_at hl 2 rfl) ?_
  refine va_callr (g_runV (As := [.int (nI n)]) (rest := []) S hKK hN (hN.recv hKK) (co_X8_hoursOn l D t (cb + 23) (cb + 2) (cb + 70) sgN kdN (B 2) AN n 999 hOk (by omega) (by omega) (by omega)) (cwV 1 hts (lw_V q975 q976 q977 q103 q978) rfl rfl rfl (by decide +kernel) ⟨Nat.le_of_ble_eq_true rfl, Nat.le_of_ble_eq_true rfl⟩) rfl hl.1 rfl (Nat.le_of_ble_eq_true rfl) dX0_bestShut_8 ⟨Nat.le_of_ble_eq_true rfl, Nat.le_of_ble_eq_true rfl⟩) hS (fun q _ h => fM h) (fun q h => fM h) (fun u8 a8 tt H locs ht _ h8 hN _ hq hS => ?_)
  obtain ⟨R8, A8⟩ := u8
  obtain ⟨rfl, hN⟩ := hN
  rw [ht] at hN
  have hN : OV D t (cb + 23) (cb + 2) (cb + 70) sgN kdN R8 A8 H := hN
  obtain ⟨e2, hf12, hf13⟩ := h8
  have e2 : R8 = hrS (B 2) n := e2
  rw [e2] at hN
  have hC := hC.kept hq
  refine lv_iconst (v := (-1)) hx hb dX0_bestShut_11 (by decide) ?_
  refine g_r (g_runV (As := [.int (-1)]) (rest := []) S hKK hN (hN.recv hKK) (co_X8_have l D t (cb + 23) (cb + 2) (cb + 70) sgN kdN (hrS (B 2) n) A8 (-1) (999 + n) (Ok_hrS hOk (by omega))) (cwV 1 hts (lw_V q773 q774 q775 q103 q776) rfl rfl rfl (by decide +kernel) ⟨Nat.le_of_ble_eq_true rfl, Nat.le_of_ble_eq_true rfl⟩) rfl hl.1 rfl (Nat.le_of_ble_eq_true rfl) dX0_bestShut_12 ⟨Nat.le_of_ble_eq_true rfl, Nat.le_of_ble_eq_true rfl⟩) ?_
  refine z_top (y := h0) hh0.symm ?_
  refine lv_istore_n (lv' := [(3, .int h0), (2, .int (-9)), (0, .ref cb), (1, .int (nI n))]) hx hb dX0_bestShut_15 rfl hl (by decide) rfl (fun ls hl => ?_)
  have hl : lv_has ls 7 [(3, .int ((lsL (fun d => bt (B 2 1) d) f (-9, h0) 0).2)), (2, .int ((lsL (fun d => bt (B 2 1) d) f (-9, h0) 0).1)), (0, .ref cb), (1, .int (nI n))] := hl
  refine lv_iconst (v := 0) hx hb dX0_bestShut_16 (by decide) ?_
  refine lv_istore (lv' := [(4, .int 0), (3, .int ((lsL (fun d => bt (B 2 1) d) f (-9, h0) 0).2)), (2, .int ((lsL (fun d => bt (B 2 1) d) f (-9, h0) 0).1)), (0, .ref cb), (1, .int (nI n))]) hx hb dX0_bestShut_17 hl (by decide) rfl (fun ls hl => ?_)
  refine W.loop (σ := Nat) (fun k H locs ls => k ≤ nD (B 2) ∧ (True) ∧ CM D t Z cb B H ∧ ND D t cb H ∧ va_S (fA (cA cb) s) s.heap H locs ∧ lv_has ls 7 [(4, .int (nI k)), (3, .int ((lsL (fun d => bt (B 2 1) d) f (-9, h0) k).2)), (2, .int ((lsL (fun d => bt (B 2 1) d) f (-9, h0) k).1)), (0, .ref cb), (1, .int (nI n))]) (fun k => nD (B 2) - k) (fun k H locs ls hIk ihk => ?_) 0 ⟨by omega, trivial, hC, ⟨_, _, _, hN.1⟩, hS, lv_sub hl [0, 1, 2, 3, 4] rfl⟩
  obtain ⟨hk, hEk, hC, hD, hS, hl⟩ := hIk
  refine lv_iload hx hb dX0_bestShut_19 (lv_at hl 0 rfl) ?_
  refine lv_aload_n hx hb dX0_bestShut_21 rfl (lv_at hl 3 rfl) ?_
  refine c_xget (v := .ref (cb + 8)) hx hb hts hown hKK hC 1 (by decide) (Or.inl q284) rfl rfl dX0_bestShut_22 ?_
  refine c_oget (v := .int ((B 2) 0)) hx hb hts hown hKK hC 0 (by decide) (Or.inr ⟨_, q193⟩) rfl (fun _ => rfl) dX0_bestShut_25 ?_
  refine lv_icmp_ge (tgt := 104) hx hb dX0_bestShut_28 (by decide) (fun c28 => ?_) (fun c28 => ?_)
  · obtain rfl : k = nD (B 2) := Nat.le_antisymm hk (lp_end hd0 (by omega) (by omega) c28)
    refine lv_iload_n hx hb dX0_bestShut_104 rfl (lv_at hl 2 rfl) ?_
    exact x_iretC hx hb hr ⟨by rw [shP_eq hf hh0], rfl⟩ ⟨hC, hD⟩ hS (Nat.le_of_ble_eq_true rfl) (Nat.le_of_ble_eq_true rfl) dX0_bestShut_105 hlk
  · have hk2 : k < nD (B 2) := lp_go hd0 (by omega) (by omega) c28
    refine lv_aload_n hx hb dX0_bestShut_31 rfl (lv_at hl 3 rfl) ?_
    refine c_xget (v := .ref (cb + 8)) hx hb hts hown hKK hC 1 (by decide) (Or.inl q284) rfl rfl dX0_bestShut_32 ?_
    refine c_oget (v := .int (shS (B 2))) hx hb hts hown hKK hC 3 (by decide) (Or.inr ⟨_, q200⟩) rfl (fun _ => rfl) dX0_bestShut_35 ?_
    refine lv_iload hx hb dX0_bestShut_38 (lv_at hl 0 rfl) ?_
    refine g_r (g_runS (As := [.int (shS (B 2)), .int (nI k)]) (rest := []) S hKK trivial (co_X0_has l D t (shS (B 2)) (nI k)) (va_cwS 2 hts (lw_S q870 q868 q95 q869) rfl rfl rfl (by decide +kernel) ⟨Nat.le_of_ble_eq_true rfl, Nat.le_of_ble_eq_true rfl⟩) rfl hl.1 rfl (Nat.le_of_ble_eq_true rfl) dX0_bestShut_40 ⟨Nat.le_of_ble_eq_true rfl, Nat.le_of_ble_eq_true rfl⟩) ?_
    refine z_top (y := bI (!bt (B 2 1) k)) (shS_has hd8 hk2) ?_
    refine z_ifne (tgt := 98) hx hb dX0_bestShut_43 (by decide) (fun c43 => ?_) (fun c43 => ?_)
    · have e9 : lsL (fun d => bt (B 2 1) d) f (-9, h0) (k + 1) = lsL (fun d => bt (B 2 1) d) f (-9, h0) k := ls_no (by simpa using c43)
      have hl : lv_has ls 7 [(4, .int (nI k)), (3, .int ((lsL (fun d => bt (B 2 1) d) f (-9, h0) (k + 1)).2)), (2, .int ((lsL (fun d => bt (B 2 1) d) f (-9, h0) (k + 1)).1)), (0, .ref cb), (1, .int (nI n))] := by rw [e9]; exact lv_sub hl [0, 1, 2, 3, 4] rfl
      refine lv_iinc (v := nI (k + 1)) (lv' := [(4, .int (nI (k + 1))), (3, .int ((lsL (fun d => bt (B 2 1) d) f (-9, h0) (k + 1)).2)), (2, .int ((lsL (fun d => bt (B 2 1) d) f (-9, h0) (k + 1)).1)), (0, .ref cb), (1, .int (nI n))]) hx hb dX0_bestShut_98 hl (k := 0) rfl (nI_1 k) (by decide) rfl (fun ls hl => ?_)
      refine lv_goto (tgt := 19) hx hb dX0_bestShut_101 (by decide) ?_
      exact ihk (k + 1) H locs ls (by omega) ⟨by omega, trivial, hC, hD, hS, lv_sub hl [0, 1, 2, 3, 4] rfl⟩
    · have hg : bt (B 2 1) k = true := by simpa using c43
      refine lv_aload_n hx hb dX0_bestShut_46 rfl (lv_at hl 3 rfl) ?_
      refine va_callr (gx_runV (As := []) (rest := []) S hK ⟨hC, hD⟩ (hC.recv hKK) (cx_openMind l htr D t Z cb B ) (cwV 0 hts (lw_V q971 q973 qs31 q95 q974) rfl rfl rfl (by decide +kernel) ⟨Nat.le_of_ble_eq_true rfl, Nat.le_of_ble_eq_true rfl⟩) rfl hl.1 rfl (Nat.le_of_ble_eq_true rfl) dX0_bestShut_47 ⟨Nat.le_of_ble_eq_true rfl, Nat.le_of_ble_eq_true rfl⟩) hS (fun q _ h => Or.inl h) (fun q h => Or.inl h) (fun u47 a47 tt H locs ht _ _ hW _ _ hS => ?_)
      obtain ⟨sgN, kdN, AN⟩ := u47
      obtain ⟨rfl, hC, hN⟩ := hW
      rw [ht] at hC hN
      have hN : OV D t (cb + 23) (cb + 2) (cb + 70) sgN kdN (B 2) AN H := hN
      refine lv_astore (lv' := [(5, .ref (cb + 23)), (4, .int (nI k)), (3, .int ((lsL (fun d => bt (B 2 1) d) f (-9, h0) k).2)), (2, .int ((lsL (fun d => bt (B 2 1) d) f (-9, h0) k).1)), (0, .ref cb), (1, .int (nI n))]) hx hb dX0_bestShut_50 hl (by decide) rfl (fun ls hl => ?_)
      refine lv_aload hx hb dX0_bestShut_52 (lv_at hl 0 rfl) ?_
      refine lv_dup hx hb dX0_bestShut_54 rfl ?_
      refine n_get (v := .int (shS (B 2))) hx hb hts hown hKK hN.1 3 (by decide) (Or.inr ⟨_, q200⟩) rfl rfl dX0_bestShut_55 ?_
      refine lv_iconst (v := 1) hx hb dX0_bestShut_58 (by decide) ?_
      refine lv_iload hx hb dX0_bestShut_59 (lv_at hl 1 rfl) ?_
      refine lv_ishl hx hb dX0_bestShut_61 ?_
      refine lv_ior hx hb dX0_bestShut_62 ?_
      refine o_putr hx hb hts hown hKK hN.1 (fun q h => fM h) hS 3 1 (by decide) (Or.inr ⟨_, q200⟩) rfl rfl (by decide +kernel) rfl dX0_bestShut_63 (fun H locs hP1 _ hq hS => ?_)
      have hN := hN.put (by omega) (by omega) (OR_congr (oC_one (shS_sh hd8 hk2)) hP1) (fun q _ h => hq q h) SK_1
      have hC := hC.kept (fun q _ h => hq q h)
      refine lv_aload hx hb dX0_bestShut_66 (lv_at hl 0 rfl) ?_
      refine lv_iload_n hx hb dX0_bestShut_68 rfl (lv_at hl 5 rfl) ?_
      refine va_callr (g_runV (As := [.int (nI n)]) (rest := []) S hKK hN (hN.recv hKK) (co_X8_hoursOn l D t (cb + 23) (cb + 2) (cb + 70) sgN kdN (shR (B 2) k) AN n 999 (Ok_shR hOk) (by omega) (by omega) (by omega)) (cwV 1 hts (lw_V q975 q976 q977 q103 q978) rfl rfl rfl (by decide +kernel) ⟨Nat.le_of_ble_eq_true rfl, Nat.le_of_ble_eq_true rfl⟩) rfl hl.1 rfl (Nat.le_of_ble_eq_true rfl) dX0_bestShut_69 ⟨Nat.le_of_ble_eq_true rfl, Nat.le_of_ble_eq_true rfl⟩) hS (fun q _ h => fM h) (fun q h => fM h) (fun u69 a69 tt H locs ht _ h69 hN _ hq hS => ?_)
      obtain ⟨R69, A69⟩ := u69
      obtain ⟨rfl, hN⟩ := hN
      rw [ht] at hN
      have hN : OV D t (cb + 23) (cb + 2) (cb + 70) sgN kdN R69 A69 H := hN
      obtain ⟨e2, hf12, hf13⟩ := h69
      have e2 : R69 = hrS (shR (B 2) k) n := e2
      rw [e2] at hN
      have hC := hC.kept hq
      refine lv_iconst (v := (-1)) hx hb dX0_bestShut_72 (by decide) ?_
      refine g_r (g_runV (As := [.int (-1)]) (rest := []) S hKK hN (hN.recv hKK) (co_X8_have l D t (cb + 23) (cb + 2) (cb + 70) sgN kdN (hrS (shR (B 2) k) n) A69 (-1) (999 + n) (Ok_hrS (Ok_shR hOk) (by omega))) (cwV 1 hts (lw_V q773 q774 q775 q103 q776) rfl rfl rfl (by decide +kernel) ⟨Nat.le_of_ble_eq_true rfl, Nat.le_of_ble_eq_true rfl⟩) rfl hl.1 rfl (Nat.le_of_ble_eq_true rfl) dX0_bestShut_73 ⟨Nat.le_of_ble_eq_true rfl, Nat.le_of_ble_eq_true rfl⟩) ?_
      refine z_top (y := f k) (hf k).symm ?_
      refine lv_istore (lv' := [(6, .int (f k)), (5, .ref (cb + 23)), (4, .int (nI k)), (3, .int ((lsL (fun d => bt (B 2 1) d) f (-9, h0) k).2)), (2, .int ((lsL (fun d => bt (B 2 1) d) f (-9, h0) k).1)), (0, .ref cb), (1, .int (nI n))]) hx hb dX0_bestShut_76 hl (by decide) rfl (fun ls hl => ?_)
      refine W.join (fun vJ => F0 m 90 ls (.int vJ :: [])) (fun vJ => vJ = (lsL (fun d => bt (B 2 1) d) f (-9, h0) (k + 1)).1) (fun vJ hJ => ?_) (fun J2 => ?_)
      · subst hJ
        refine lv_istore_n (lv' := [(2, .int ((lsL (fun d => bt (B 2 1) d) f (-9, h0) (k + 1)).1)), (6, .int (f k)), (5, .ref (cb + 23)), (4, .int (nI k)), (3, .int ((lsL (fun d => bt (B 2 1) d) f (-9, h0) k).2)), (0, .ref cb), (1, .int (nI n))]) hx hb dX0_bestShut_90 rfl hl (by decide) rfl (fun ls hl => ?_)
        refine lv_iload_n hx hb dX0_bestShut_91 rfl (lv_at hl 4 rfl) ?_
        refine lv_iload hx hb dX0_bestShut_92 (lv_at hl 1 rfl) ?_
        refine va_mmin hx hb (hml.trans hl.1.symm) hown (hts _ q1040) (hts _ q655) (hts _ q119) (hts _ q656) (Nat.le_of_ble_eq_true rfl) (Nat.le_of_ble_eq_true rfl) (Nat.le_of_ble_eq_true rfl) (Nat.le_of_ble_eq_true rfl) dX0_bestShut_94 ?_
        refine z_top (y := (lsL (fun d => bt (B 2 1) d) f (-9, h0) (k + 1)).2) (ls_min (g := fun d => bt (B 2 1) d) hg) ?_
        refine lv_istore_n (lv' := [(3, .int ((lsL (fun d => bt (B 2 1) d) f (-9, h0) (k + 1)).2)), (2, .int ((lsL (fun d => bt (B 2 1) d) f (-9, h0) (k + 1)).1)), (6, .int (f k)), (5, .ref (cb + 23)), (4, .int (nI k)), (0, .ref cb), (1, .int (nI n))]) hx hb dX0_bestShut_97 rfl hl (by decide) rfl (fun ls hl => ?_)
        refine lv_iinc (v := nI (k + 1)) (lv' := [(4, .int (nI (k + 1))), (3, .int ((lsL (fun d => bt (B 2 1) d) f (-9, h0) (k + 1)).2)), (2, .int ((lsL (fun d => bt (B 2 1) d) f (-9, h0) (k + 1)).1)), (6, .int (f k)), (5, .ref (cb + 23)), (0, .ref cb), (1, .int (nI n))]) hx hb dX0_bestShut_98 hl (k := 4) rfl (nI_1 k) (by decide) rfl (fun ls hl => ?_)
        refine lv_goto (tgt := 19) hx hb dX0_bestShut_101 (by decide) ?_
        exact ihk (k + 1) H locs ls (by omega) ⟨by omega, trivial, hC, ⟨_, _, _, hN.1⟩, hS, lv_sub hl [0, 1, 2, 5, 6] rfl⟩
      · refine lv_iload hx hb dX0_bestShut_78 (lv_at hl 0 rfl) ?_
        refine lv_iload_n hx hb dX0_bestShut_80 rfl (lv_at hl 3 rfl) ?_
        refine lv_icmp_ge (tgt := 89) hx hb dX0_bestShut_81 (by decide) (fun c81 => ?_) (fun c81 => ?_)
        · refine lv_iload_n hx hb dX0_bestShut_89 rfl (lv_at hl 4 rfl) ?_
          exact J2 _ (ls_t1 (g := fun d => bt (B 2 1) d) hg c81)
        · refine lv_iload hx hb dX0_bestShut_84 (lv_at hl 2 rfl) ?_
          refine lv_goto (tgt := 90) hx hb dX0_bestShut_86 (by decide) ?_
          exact J2 _ (ls_f1 (g := fun d => bt (B 2 1) d) hg c81)
set_option maxHeartbeats 800000 in
theorem cx_bestSeats (l : Launch) (htr : l.stackTraces = false) (D : va_G) (t : Nat → ClassId) (Z : Nat × Cell) (cb : Nat) (B : BT) (n : Nat) (hOk : Ok (B 2) 999) (hn : n ≤ 60) : Met l yX0_bestSeats (ws_ yX0_bestSeats cX0_bestSeats 8 (some .int)) ({ frames := 7, cells := 0, slots := 0, locals := 154 }) (zPc [.ref cb, .int (nI n)] (CW D t Z cb B) (KX D t Z)) (va_Qi (fun r u => r = (seP (B 2) n).1 ∧ u = B) (fun B' U => CW D t Z cb B' U.heap) (cA cb)) 0 0 (cA cb) := by
  refine zOf (cc := cX0_bestSeats) (maxL := 8) (ret := (some .int)) (by decide) (Nat.le_of_ble_eq_true rfl) (fun pg ev s m below meth cd ls F hW hK hl hnm => ?_)
  obtain ⟨hx, hb, hml, hown, hts, hr, hlk⟩ := F
  have S : CallFix pg m cd cX0_bestSeats 8 s _ lw_all RX0 := ⟨hx, hb, hml, hown, hts⟩
  have hl : lv_has ls 8 [(0, .ref cb), (1, .int (nI n))] := hl
  have hKK := hK.1
  obtain ⟨hC, hD⟩ := hW
  have hS : va_S (fA (cA cb) s) s.heap s.heap [] := va_S.rf
  have hd0 := hOk.hr0
  have hd8 := hOk.d8
  have hh3 := hOk.hr3
  have hh6 := hOk.h6
  have hs2 := hOk.hr2
  have hs5 := hOk.s5
  have hX := hOk.X
  obtain ⟨h0, hh0⟩ : ∃ z, z = haS (hrS (B 2) n) (-1) := ⟨_, rfl⟩
  obtain ⟨f, hf⟩ : ∃ f : Nat → Nat → Int32, ∀ a b, f a b = haS (hrS (swR (B 2) a b) n) (-1) := ⟨_, fun _ _ => rfl⟩
  refine lv_bipush (v := (-9)) hx hb dX0_bestSeats_0 (by decide) ?_
  refine lv_istore_n (lv' := [(2, .int (-9)), (0, .ref cb), (1, .int (nI n))]) hx hb dX0_bestSeats_2 rfl hl (by decide) rfl (fun ls hl => ?_)
  refine lv_aload_n hx hb dX0_bestSeats_3 rfl (lv_at hl 1 rfl) ?_
  refine va_callr (gx_runV (As := []) (rest := []) S hK ⟨hC, hD⟩ (hC.recv hKK) (cx_openMind l htr D t Z cb B ) (cwV 0 hts (lw_V q971 q973 qs31 q95 q974) rfl rfl rfl (by decide +kernel) ⟨Nat.le_of_ble_eq_true rfl, Nat.le_of_ble_eq_true rfl⟩) rfl hl.1 rfl (Nat.le_of_ble_eq_true rfl) dX0_bestSeats_4 ⟨Nat.le_of_ble_eq_true rfl, Nat.le_of_ble_eq_true rfl⟩) hS (fun q _ h => Or.inl h) (fun q h => Or.inl h) (fun u4 a4 tt H locs ht _ _ hW _ _ hS => ?_)
  obtain ⟨sgN, kdN, AN⟩ := u4
  obtain ⟨rfl, hC, hN⟩ := hW
  rw [ht] at hC hN
  have hN : OV D t (cb + 23) (cb + 2) (cb + 70) sgN kdN (B 2) AN H := hN
  refine lv_iload_n hx hb dX0_bestSeats_7 rfl (lv_at hl 2 rfl) ?_
  refine va_callr (g_runV (As := [.int (nI n)]) (rest := []) S hKK hN (hN.recv hKK) (co_X8_hoursOn l D t (cb + 23) (cb + 2) (cb + 70) sgN kdN (B 2) AN n 999 hOk (by omega) (by omega) (by omega)) (cwV 1 hts (lw_V q975 q976 q977 q103 q978) rfl rfl rfl (by decide +kernel) ⟨Nat.le_of_ble_eq_true rfl, Nat.le_of_ble_eq_true rfl⟩) rfl hl.1 rfl (Nat.le_of_ble_eq_true rfl) dX0_bestSeats_8 ⟨Nat.le_of_ble_eq_true rfl, Nat.le_of_ble_eq_true rfl⟩) hS (fun q _ h => fM h) (fun q h => fM h) (fun u8 a8 tt H locs ht _ h8 hN _ hq hS => ?_)
  obtain ⟨R8, A8⟩ := u8
  obtain ⟨rfl, hN⟩ := hN
  rw [ht] at hN
  have hN : OV D t (cb + 23) (cb + 2) (cb + 70) sgN kdN R8 A8 H := hN
  obtain ⟨e2, hf12, hf13⟩ := h8
  have e2 : R8 = hrS (B 2) n := e2
  rw [e2] at hN
  have hC := hC.kept hq
  refine lv_iconst (v := (-1)) hx hb dX0_bestSeats_11 (by decide) ?_
  refine g_r (g_runV (As := [.int (-1)]) (rest := []) S hKK hN (hN.recv hKK) (co_X8_have l D t (cb + 23) (cb + 2) (cb + 70) sgN kdN (hrS (B 2) n) A8 (-1) (999 + n) (Ok_hrS hOk (by omega))) (cwV 1 hts (lw_V q773 q774 q775 q103 q776) rfl rfl rfl (by decide +kernel) ⟨Nat.le_of_ble_eq_true rfl, Nat.le_of_ble_eq_true rfl⟩) rfl hl.1 rfl (Nat.le_of_ble_eq_true rfl) dX0_bestSeats_12 ⟨Nat.le_of_ble_eq_true rfl, Nat.le_of_ble_eq_true rfl⟩) ?_
  refine z_top (y := h0) hh0.symm ?_
  refine lv_istore_n (lv' := [(3, .int h0), (2, .int (-9)), (0, .ref cb), (1, .int (nI n))]) hx hb dX0_bestSeats_15 rfl hl (by decide) rfl (fun ls hl => ?_)
  have hl : lv_has ls 8 [(3, .int ((seJ f (nH (B 2)) (-9, h0) 0).2)), (2, .int ((seJ f (nH (B 2)) (-9, h0) 0).1)), (0, .ref cb), (1, .int (nI n))] := hl
  refine lv_iconst (v := 0) hx hb dX0_bestSeats_16 (by decide) ?_
  refine lv_istore (lv' := [(4, .int 0), (3, .int ((seJ f (nH (B 2)) (-9, h0) 0).2)), (2, .int ((seJ f (nH (B 2)) (-9, h0) 0).1)), (0, .ref cb), (1, .int (nI n))]) hx hb dX0_bestSeats_17 hl (by decide) rfl (fun ls hl => ?_)
  refine W.loop (σ := Nat) (fun a H locs ls => a ≤ nH (B 2) ∧ (True) ∧ CM D t Z cb B H ∧ ND D t cb H ∧ va_S (fA (cA cb) s) s.heap H locs ∧ lv_has ls 8 [(4, .int (nI a)), (3, .int ((seJ f (nH (B 2)) (-9, h0) a).2)), (2, .int ((seJ f (nH (B 2)) (-9, h0) a).1)), (0, .ref cb), (1, .int (nI n))]) (fun a => nH (B 2) - a) (fun a H locs ls hIa iha => ?_) 0 ⟨by omega, trivial, hC, ⟨_, _, _, hN.1⟩, hS, lv_sub hl [0, 1, 2, 3, 4] rfl⟩
  obtain ⟨ha, hEa, hC, hD, hS, hl⟩ := hIa
  refine lv_iload hx hb dX0_bestSeats_19 (lv_at hl 0 rfl) ?_
  refine lv_aload_n hx hb dX0_bestSeats_21 rfl (lv_at hl 3 rfl) ?_
  refine c_xget (v := .ref (cb + 8)) hx hb hts hown hKK hC 1 (by decide) (Or.inl q284) rfl rfl dX0_bestSeats_22 ?_
  refine c_oget (v := .int ((B 2) 3)) hx hb hts hown hKK hC 6 (by decide) (Or.inr ⟨_, q211⟩) rfl (fun _ => rfl) dX0_bestSeats_25 ?_
  refine lv_icmp_ge (tgt := 141) hx hb dX0_bestSeats_28 (by decide) (fun c28 => ?_) (fun c28 => ?_)
  · obtain rfl : a = nH (B 2) := Nat.le_antisymm ha (lp_end hh3 (by omega) (by omega) c28)
    refine lv_iload_n hx hb dX0_bestSeats_141 rfl (lv_at hl 2 rfl) ?_
    exact x_iretC hx hb hr ⟨by rw [seP_eq hf hh0], rfl⟩ ⟨hC, hD⟩ hS (Nat.le_of_ble_eq_true rfl) (Nat.le_of_ble_eq_true rfl) dX0_bestSeats_142 hlk
  · have ha2 : a < nH (B 2) := lp_go hh3 (by omega) (by omega) c28
    refine lv_iload hx hb dX0_bestSeats_31 (lv_at hl 0 rfl) ?_
    refine lv_iconst (v := 1) hx hb dX0_bestSeats_33 (by decide) ?_
    refine lv_iadd hx hb dX0_bestSeats_34 ?_
    refine z_top (y := nI (a + 1 + 0)) (nI_1 a) ?_
    refine lv_istore (lv' := [(5, .int (nI (a + 1 + 0))), (4, .int (nI a)), (3, .int ((seJ f (nH (B 2)) (-9, h0) a).2)), (2, .int ((seJ f (nH (B 2)) (-9, h0) a).1)), (0, .ref cb), (1, .int (nI n))]) hx hb dX0_bestSeats_35 hl (by decide) rfl (fun ls hl => ?_)
    have hl : lv_has ls 8 [(5, .int (nI (a + 1 + 0))), (4, .int (nI a)), (3, .int ((seI f a (seJ f (nH (B 2)) (-9, h0) a) 0).2)), (2, .int ((seI f a (seJ f (nH (B 2)) (-9, h0) a) 0).1)), (0, .ref cb), (1, .int (nI n))] := hl
    refine W.loop (σ := Nat) (fun o H locs ls => o ≤ (nH (B 2) - (a + 1)) ∧ (True) ∧ CM D t Z cb B H ∧ ND D t cb H ∧ va_S (fA (cA cb) s) s.heap H locs ∧ lv_has ls 8 [(5, .int (nI (a + 1 + o))), (3, .int ((seI f a (seJ f (nH (B 2)) (-9, h0) a) o).2)), (2, .int ((seI f a (seJ f (nH (B 2)) (-9, h0) a) o).1)), (4, .int (nI a)), (0, .ref cb), (1, .int (nI n))]) (fun o => (nH (B 2) - (a + 1)) - o) (fun o H locs ls hIo iho => ?_) 0 ⟨by omega, trivial, hC, hD, hS, lv_sub hl [0, 2, 3, 1, 4, 5] rfl⟩
    obtain ⟨ho, hEo, hC, hD, hS, hl⟩ := hIo
    refine lv_iload hx hb dX0_bestSeats_37 (lv_at hl 0 rfl) ?_
    refine lv_aload_n hx hb dX0_bestSeats_39 rfl (lv_at hl 4 rfl) ?_
    refine c_xget (v := .ref (cb + 8)) hx hb hts hown hKK hC 1 (by decide) (Or.inl q284) rfl rfl dX0_bestSeats_40 ?_
    refine c_oget (v := .int ((B 2) 3)) hx hb hts hown hKK hC 6 (by decide) (Or.inr ⟨_, q211⟩) rfl (fun _ => rfl) dX0_bestSeats_43 ?_
    refine lv_icmp_ge (tgt := 135) hx hb dX0_bestSeats_46 (by decide) (fun c46 => ?_) (fun c46 => ?_)
    · obtain rfl : o = nH (B 2) - (a + 1) := by have := lp_end hh3 (by omega) (by omega) c46; omega
      have hl : lv_has ls 8 [(5, .int (nI (a + 1 + (nH (B 2) - (a + 1))))), (3, .int ((seJ f (nH (B 2)) (-9, h0) (a + 1)).2)), (2, .int ((seJ f (nH (B 2)) (-9, h0) (a + 1)).1)), (4, .int (nI a)), (0, .ref cb), (1, .int (nI n))] := hl
      refine lv_iinc (v := nI (a + 1)) (lv' := [(4, .int (nI (a + 1))), (5, .int (nI (a + 1 + (nH (B 2) - (a + 1))))), (3, .int ((seJ f (nH (B 2)) (-9, h0) (a + 1)).2)), (2, .int ((seJ f (nH (B 2)) (-9, h0) (a + 1)).1)), (0, .ref cb), (1, .int (nI n))]) hx hb dX0_bestSeats_135 hl (k := 3) rfl (nI_1 a) (by decide) rfl (fun ls hl => ?_)
      refine lv_goto (tgt := 19) hx hb dX0_bestSeats_138 (by decide) ?_
      exact iha (a + 1) H locs ls (by omega) ⟨by omega, trivial, hC, hD, hS, lv_sub hl [0, 2, 3, 4, 5] rfl⟩
    · have ho2 : a + 1 + o < nH (B 2) := lp_go hh3 (by omega) (by omega) c46
      refine lv_aload_n hx hb dX0_bestSeats_49 rfl (lv_at hl 4 rfl) ?_
      refine va_callr (gx_runV (As := []) (rest := []) S hK ⟨hC, hD⟩ (hC.recv hKK) (cx_openMind l htr D t Z cb B ) (cwV 0 hts (lw_V q971 q973 qs31 q95 q974) rfl rfl rfl (by decide +kernel) ⟨Nat.le_of_ble_eq_true rfl, Nat.le_of_ble_eq_true rfl⟩) rfl hl.1 rfl (Nat.le_of_ble_eq_true rfl) dX0_bestSeats_50 ⟨Nat.le_of_ble_eq_true rfl, Nat.le_of_ble_eq_true rfl⟩) hS (fun q _ h => Or.inl h) (fun q h => Or.inl h) (fun u50 a50 tt H locs ht _ _ hW _ _ hS => ?_)
      obtain ⟨sgN, kdN, AN⟩ := u50
      obtain ⟨rfl, hC, hN⟩ := hW
      rw [ht] at hC hN
      have hN : OV D t (cb + 23) (cb + 2) (cb + 70) sgN kdN (B 2) AN H := hN
      refine lv_astore (lv' := [(6, .ref (cb + 23)), (5, .int (nI (a + 1 + o))), (3, .int ((seI f a (seJ f (nH (B 2)) (-9, h0) a) o).2)), (2, .int ((seI f a (seJ f (nH (B 2)) (-9, h0) a) o).1)), (4, .int (nI a)), (0, .ref cb), (1, .int (nI n))]) hx hb dX0_bestSeats_53 hl (by decide) rfl (fun ls hl => ?_)
      refine lv_aload hx hb dX0_bestSeats_55 (lv_at hl 0 rfl) ?_
      refine n_get (v := .ref (cb + 23 + 5)) hx hb hts hown hKK hN.1 8 (by decide) (Or.inr ⟨_, q217⟩) rfl rfl dX0_bestSeats_57 ?_
      refine lv_iload hx hb dX0_bestSeats_60 (lv_at hl 4 rfl) ?_
      refine lv_aload_n hx hb dX0_bestSeats_62 rfl (lv_at hl 5 rfl) ?_
      refine c_xget (v := .ref (cb + 8)) hx hb hts hown hKK hC 1 (by decide) (Or.inl q284) rfl rfl dX0_bestSeats_63 ?_
      refine c_oget (v := .ref (cb + 8 + 5)) hx hb hts hown hKK hC 8 (by decide) (Or.inr ⟨_, q217⟩) rfl (fun _ => rfl) dX0_bestSeats_66 ?_
      refine lv_iload hx hb dX0_bestSeats_69 (lv_at hl 1 rfl) ?_
      refine c_oald hx hb hKK hC 5 (fun _ _ _ => rfl) (k := a + 1 + o) (v := hd (B 2) (a + 1 + o) 1) rfl (by omega) (by decide) (fun _ => rfl) dX0_bestSeats_71 ?_
      refine o_astH hx hb hKK hN (by omega) (by omega) (fun q h => fM h) hS 1 (by decide) rfl (k := a) rfl (by omega) rfl dX0_bestSeats_72 (fun H locs hN _ hq hS => ?_)
      have hC := hC.kept (fun q _ h => hq q h)
      refine lv_aload hx hb dX0_bestSeats_73 (lv_at hl 0 rfl) ?_
      refine n_get (v := .ref (cb + 23 + 5)) hx hb hts hown hKK hN.1 8 (by decide) (Or.inr ⟨_, q217⟩) rfl rfl dX0_bestSeats_75 ?_
      refine lv_iload hx hb dX0_bestSeats_78 (lv_at hl 1 rfl) ?_
      refine lv_aload_n hx hb dX0_bestSeats_80 rfl (lv_at hl 5 rfl) ?_
      refine c_xget (v := .ref (cb + 8)) hx hb hts hown hKK hC 1 (by decide) (Or.inl q284) rfl rfl dX0_bestSeats_81 ?_
      refine c_oget (v := .ref (cb + 8 + 5)) hx hb hts hown hKK hC 8 (by decide) (Or.inr ⟨_, q217⟩) rfl (fun _ => rfl) dX0_bestSeats_84 ?_
      refine lv_iload hx hb dX0_bestSeats_87 (lv_at hl 4 rfl) ?_
      refine c_oald hx hb hKK hC 5 (fun _ _ _ => rfl) (k := a) (v := hd (B 2) a 1) rfl (by omega) (by decide) (fun _ => rfl) dX0_bestSeats_89 ?_
      refine o_astH hx hb hKK hN (by omega) (by omega) (fun q h => fM h) hS 1 (by decide) rfl (k := a + 1 + o) rfl (by omega) rfl dX0_bestSeats_90 (fun H locs hN _ hq hS => ?_)
      have hC := hC.kept (fun q _ h => hq q h)
      have hN : OV D t (cb + 23) (cb + 2) (cb + 70) sgN kdN (swR (B 2) a (a + 1 + o)) AN H := hN
      refine lv_aload hx hb dX0_bestSeats_91 (lv_at hl 0 rfl) ?_
      refine lv_iload_n hx hb dX0_bestSeats_93 rfl (lv_at hl 6 rfl) ?_
      refine va_callr (g_runV (As := [.int (nI n)]) (rest := []) S hKK hN (hN.recv hKK) (co_X8_hoursOn l D t (cb + 23) (cb + 2) (cb + 70) sgN kdN (swR (B 2) a (a + 1 + o)) AN n 999 (Ok_swR hOk ha2 ho2) (by omega) (by omega) (by omega)) (cwV 1 hts (lw_V q975 q976 q977 q103 q978) rfl rfl rfl (by decide +kernel) ⟨Nat.le_of_ble_eq_true rfl, Nat.le_of_ble_eq_true rfl⟩) rfl hl.1 rfl (Nat.le_of_ble_eq_true rfl) dX0_bestSeats_94 ⟨Nat.le_of_ble_eq_true rfl, Nat.le_of_ble_eq_true rfl⟩) hS (fun q _ h => fM h) (fun q h => fM h) (fun u94 a94 tt H locs ht _ h94 hN _ hq hS => ?_)
      obtain ⟨R94, A94⟩ := u94
      obtain ⟨rfl, hN⟩ := hN
      rw [ht] at hN
      have hN : OV D t (cb + 23) (cb + 2) (cb + 70) sgN kdN R94 A94 H := hN
      obtain ⟨e2, hf12, hf13⟩ := h94
      have e2 : R94 = hrS (swR (B 2) a (a + 1 + o)) n := e2
      rw [e2] at hN
      have hC := hC.kept hq
      refine lv_iconst (v := (-1)) hx hb dX0_bestSeats_97 (by decide) ?_
      refine g_r (g_runV (As := [.int (-1)]) (rest := []) S hKK hN (hN.recv hKK) (co_X8_have l D t (cb + 23) (cb + 2) (cb + 70) sgN kdN (hrS (swR (B 2) a (a + 1 + o)) n) A94 (-1) (999 + n) (Ok_hrS (Ok_swR hOk ha2 ho2) (by omega))) (cwV 1 hts (lw_V q773 q774 q775 q103 q776) rfl rfl rfl (by decide +kernel) ⟨Nat.le_of_ble_eq_true rfl, Nat.le_of_ble_eq_true rfl⟩) rfl hl.1 rfl (Nat.le_of_ble_eq_true rfl) dX0_bestSeats_98 ⟨Nat.le_of_ble_eq_true rfl, Nat.le_of_ble_eq_true rfl⟩) ?_
      refine z_top (y := f a (a + 1 + o)) (hf a (a + 1 + o)).symm ?_
      refine lv_istore (lv' := [(7, .int (f a (a + 1 + o))), (6, .ref (cb + 23)), (5, .int (nI (a + 1 + o))), (3, .int ((seI f a (seJ f (nH (B 2)) (-9, h0) a) o).2)), (2, .int ((seI f a (seJ f (nH (B 2)) (-9, h0) a) o).1)), (4, .int (nI a)), (0, .ref cb), (1, .int (nI n))]) hx hb dX0_bestSeats_101 hl (by decide) rfl (fun ls hl => ?_)
      refine W.join (fun vJ => F0 m 121 ls (.int vJ :: [])) (fun vJ => vJ = (seI f a (seJ f (nH (B 2)) (-9, h0) a) (o + 1)).1) (fun vJ hJ => ?_) (fun J2 => ?_)
      · subst hJ
        refine lv_istore_n (lv' := [(2, .int ((seI f a (seJ f (nH (B 2)) (-9, h0) a) (o + 1)).1)), (7, .int (f a (a + 1 + o))), (6, .ref (cb + 23)), (5, .int (nI (a + 1 + o))), (3, .int ((seI f a (seJ f (nH (B 2)) (-9, h0) a) o).2)), (4, .int (nI a)), (0, .ref cb), (1, .int (nI n))]) hx hb dX0_bestSeats_121 rfl hl (by decide) rfl (fun ls hl => ?_)
        refine lv_iload_n hx hb dX0_bestSeats_122 rfl (lv_at hl 4 rfl) ?_
        refine lv_iload hx hb dX0_bestSeats_123 (lv_at hl 1 rfl) ?_
        refine va_mmin hx hb (hml.trans hl.1.symm) hown (hts _ q1040) (hts _ q655) (hts _ q119) (hts _ q656) (Nat.le_of_ble_eq_true rfl) (Nat.le_of_ble_eq_true rfl) (Nat.le_of_ble_eq_true rfl) (Nat.le_of_ble_eq_true rfl) dX0_bestSeats_125 ?_
        refine z_top (y := (seI f a (seJ f (nH (B 2)) (-9, h0) a) (o + 1)).2) se_min ?_
        refine lv_istore_n (lv' := [(3, .int ((seI f a (seJ f (nH (B 2)) (-9, h0) a) (o + 1)).2)), (2, .int ((seI f a (seJ f (nH (B 2)) (-9, h0) a) (o + 1)).1)), (7, .int (f a (a + 1 + o))), (6, .ref (cb + 23)), (5, .int (nI (a + 1 + o))), (4, .int (nI a)), (0, .ref cb), (1, .int (nI n))]) hx hb dX0_bestSeats_128 rfl hl (by decide) rfl (fun ls hl => ?_)
        refine lv_iinc (v := nI ((a + 1 + o) + 1)) (lv' := [(5, .int (nI ((a + 1 + o) + 1))), (3, .int ((seI f a (seJ f (nH (B 2)) (-9, h0) a) (o + 1)).2)), (2, .int ((seI f a (seJ f (nH (B 2)) (-9, h0) a) (o + 1)).1)), (7, .int (f a (a + 1 + o))), (6, .ref (cb + 23)), (4, .int (nI a)), (0, .ref cb), (1, .int (nI n))]) hx hb dX0_bestSeats_129 hl (k := 4) rfl (nI_1 (a + 1 + o)) (by decide) rfl (fun ls hl => ?_)
        refine lv_goto (tgt := 37) hx hb dX0_bestSeats_132 (by decide) ?_
        exact iho (o + 1) H locs ls (by omega) ⟨by omega, trivial, hC, ⟨_, _, _, hN.1⟩, hS, lv_sub hl [0, 1, 2, 5, 6, 7] rfl⟩
      · refine lv_iload hx hb dX0_bestSeats_103 (lv_at hl 0 rfl) ?_
        refine lv_iload_n hx hb dX0_bestSeats_105 rfl (lv_at hl 3 rfl) ?_
        refine lv_icmp_ge (tgt := 120) hx hb dX0_bestSeats_106 (by decide) (fun c106 => ?_) (fun c106 => ?_)
        · refine lv_iload_n hx hb dX0_bestSeats_120 rfl (lv_at hl 4 rfl) ?_
          exact J2 _ (se_t1 c106)
        · refine lv_bipush (v := 10) hx hb dX0_bestSeats_109 (by decide) ?_
          refine lv_iload hx hb dX0_bestSeats_111 (lv_at hl 5 rfl) ?_
          refine lv_imul hx hb dX0_bestSeats_113 ?_
          refine lv_iload hx hb dX0_bestSeats_114 (lv_at hl 2 rfl) ?_
          refine lv_iadd hx hb dX0_bestSeats_116 ?_
          refine lv_goto (tgt := 121) hx hb dX0_bestSeats_117 (by decide) ?_
          exact J2 _ (se_f1 c106)
set_option maxHeartbeats 800000 in
theorem cx_isAsTold (l : Launch) (htr : l.stackTraces = false) (D : va_G) (t : Nat → ClassId) (Z : Nat × Cell) (cb : Nat) (B : BT) (sgN kdN : GT) (r : RT) (AN : BT) (hX : OkX r) (h9 : ∀ j, j < nH r → (hd r j 3 = -9 ∨ 0 ≤ hd r j 3)) : Met l yX0_isAsTold (ws_ yX0_isAsTold cX0_isAsTold 4 (some .boolean)) ({ frames := 0, cells := 0, slots := 0, locals := 0 }) (zPc [.ref cb, .ref (cb + 23)] (fun H => CM D t Z cb B H ∧ OV D t (cb + 23) (cb + 2) (cb + 70) sgN kdN r AN H) (KX D t Z)) (QcRead (bI (atB (B 13) r (nH r)))) 0 0 (fun _ => False) := by
  refine zOf (cc := cX0_isAsTold) (maxL := 4) (ret := (some .boolean)) (by decide) (Nat.le_of_ble_eq_true rfl) (fun pg ev s m below meth cd ls F hCN hK hl hnm => ?_)
  obtain ⟨hx, hb, hml, hown, hts, hr, hlk⟩ := F
  have S : CallFix pg m cd cX0_isAsTold 4 s _ lw_all RX0 := ⟨hx, hb, hml, hown, hts⟩
  have hl : lv_has ls 4 [(0, .ref cb), (1, .ref (cb + 23))] := hl
  have hKK := hK.1
  obtain ⟨hC, hN⟩ := hCN
  have hh3 := hX.2.2.1.1
  have hh6 := hX.2.2.1.2
  refine lv_iconst (v := 1) hx hb dX0_isAsTold_0 (by decide) ?_
  refine lv_istore_n (lv' := [(2, .int 1), (0, .ref cb), (1, .ref (cb + 23))]) hx hb dX0_isAsTold_1 rfl hl (by decide) rfl (fun ls hl => ?_)
  refine lv_iconst (v := 0) hx hb dX0_isAsTold_2 (by decide) ?_
  refine lv_istore_n (lv' := [(3, .int 0), (2, .int 1), (0, .ref cb), (1, .ref (cb + 23))]) hx hb dX0_isAsTold_3 rfl hl (by decide) rfl (fun ls hl => ?_)
  refine W.loopR (fun (k : Nat) ls => k ≤ nH r ∧ (True) ∧ lv_has ls 4 [(3, .int (nI k)), (2, .int (bI (atB (B 13) r k))), (0, .ref cb), (1, .ref (cb + 23))]) (fun k => nH r - k) (fun k ls hIk ihk => ?_) 0 ⟨by omega, trivial, lv_sub hl [0, 1, 2, 3] rfl⟩
  obtain ⟨hk, hEk, hl⟩ := hIk
  refine lv_iload_n hx hb dX0_isAsTold_4 rfl (lv_at hl 0 rfl) ?_
  refine lv_aload_n hx hb dX0_isAsTold_5 rfl (lv_at hl 3 rfl) ?_
  refine n_get (v := .int (r 3)) hx hb hts hown hKK hN.1 6 (by decide) (Or.inr ⟨_, q211⟩) rfl rfl dX0_isAsTold_6 ?_
  refine lv_icmp_ge (tgt := 57) hx hb dX0_isAsTold_9 (by decide) (fun c9 => ?_) (fun c9 => ?_)
  · obtain rfl : k = nH r := Nat.le_antisymm hk (lp_end hh3 (by omega) (by omega) c9)
    refine lv_iload_n hx hb dX0_isAsTold_57 rfl (lv_at hl 1 rfl) ?_
    exact z_bretR hx hb hr (b := atB (B 13) r (nH r)) rfl (fun q h => by cases h) rfl dX0_isAsTold_58 hlk
  · have hk2 : k < nH r := lp_go hh3 (by omega) (by omega) c9
    have h9k := h9 k hk2
    refine lv_iload_n hx hb dX0_isAsTold_12 rfl (lv_at hl 1 rfl) ?_
    refine W.join (fun vJ => F0 m 49 ls (.int vJ :: [.int (bI (atB (B 13) r k))])) (fun vJ => vJ = bI (toB (B 13) r k)) (fun vJ hJ => ?_) (fun J2 => ?_)
    · subst hJ
      refine lv_iand hx hb dX0_isAsTold_49 ?_
      refine z_top (y := bI (atB (B 13) r (k + 1))) (bI_and _ _) ?_
      refine lv_istore_n (lv' := [(2, .int (bI (atB (B 13) r (k + 1)))), (3, .int (nI k)), (0, .ref cb), (1, .ref (cb + 23))]) hx hb dX0_isAsTold_50 rfl hl (by decide) rfl (fun ls hl => ?_)
      refine lv_iinc (v := nI (k + 1)) (lv' := [(3, .int (nI (k + 1))), (2, .int (bI (atB (B 13) r (k + 1)))), (0, .ref cb), (1, .ref (cb + 23))]) hx hb dX0_isAsTold_51 hl (k := 1) rfl (nI_1 k) (by decide) rfl (fun ls hl => ?_)
      refine lv_goto (tgt := 4) hx hb dX0_isAsTold_54 (by decide) ?_
      exact ihk (k + 1) ls (by omega) ⟨by omega, trivial, lv_sub hl [0, 1, 2, 3] rfl⟩
    · refine lv_aload_n hx hb dX0_isAsTold_13 rfl (lv_at hl 2 rfl) ?_
      refine c_xget (v := .ref (cb + 53)) hx hb hts hown hKK hC 5 (by decide) (Or.inl q288) rfl rfl dX0_isAsTold_14 ?_
      refine lv_iload_n hx hb dX0_isAsTold_17 rfl (lv_at hl 0 rfl) ?_
      refine z_bald hx hb hKK.1 hC.2.1 2 1 rfl rfl (k := k) rfl (by omega) (by decide) dX0_isAsTold_18 ?_
      refine W.join (fun vJ => F0 m 41 ls (.int vJ :: [.int (B 13 k), .int (bI (atB (B 13) r k))])) (fun vJ => vJ = (if hd r k 3 < 0 then 9 else hd r k 3)) (fun vJ hJ => ?_) (fun J1 => ?_)
      · subst hJ
        refine lv_icmp_ne (tgt := 48) hx hb dX0_isAsTold_41 (by decide) (fun c41 => ?_) (fun c41 => ?_)
        · refine lv_iconst (v := 0) hx hb dX0_isAsTold_48 (by decide) ?_
          exact J2 _ (by rw [show toB (B 13) r k = false from decide_eq_false c41]; rfl)
        · refine lv_iconst (v := 1) hx hb dX0_isAsTold_44 (by decide) ?_
          refine lv_goto (tgt := 49) hx hb dX0_isAsTold_45 (by decide) ?_
          exact J2 _ (by rw [show toB (B 13) r k = true from decide_eq_true c41]; rfl)
      · refine lv_aload_n hx hb dX0_isAsTold_19 rfl (lv_at hl 3 rfl) ?_
        refine n_get (v := .ref (cb + 23 + 7)) hx hb hts hown hKK hN.1 10 (by decide) (Or.inr ⟨_, q222⟩) rfl rfl dX0_isAsTold_20 ?_
        refine lv_iload_n hx hb dX0_isAsTold_23 rfl (lv_at hl 0 rfl) ?_
        refine o_ald hx hb hKK hN.1 7 rfl (k := k) (v := hd r k 3) rfl (by omega) (by decide) rfl dX0_isAsTold_24 ?_
        refine lv_bipush (v := (-9)) hx hb dX0_isAsTold_25 (by decide) ?_
        refine lv_icmp_ne (tgt := 35) hx hb dX0_isAsTold_27 (by decide) (fun c27 => ?_) (fun c27 => ?_)
        · refine lv_aload_n hx hb dX0_isAsTold_35 rfl (lv_at hl 3 rfl) ?_
          refine n_get (v := .ref (cb + 23 + 7)) hx hb hts hown hKK hN.1 10 (by decide) (Or.inr ⟨_, q222⟩) rfl rfl dX0_isAsTold_36 ?_
          refine lv_iload_n hx hb dX0_isAsTold_39 rfl (lv_at hl 0 rfl) ?_
          refine o_ald hx hb hKK hN.1 7 rfl (k := k) (v := hd r k 3) rfl (by omega) (by decide) rfl dX0_isAsTold_40 ?_
          exact J1 _ (by grind)
        · refine lv_bipush (v := 9) hx hb dX0_isAsTold_30 (by decide) ?_
          refine lv_goto (tgt := 41) hx hb dX0_isAsTold_32 (by decide) ?_
          exact J1 _ (by grind)
theorem nI_lit9 {k : Nat} (h : k < 2 ^ 31) (e : nI k = 9) : k = 9 := (nI_eq h (by decide)).mp e
theorem nI_lit0 {k : Nat} (h : k < 2 ^ 31) (e : nI k = 0) : k = 0 := (nI_eq h (by decide)).mp e
theorem otV_bd {k : Nat} : otV k = -9 ∨ 0 ≤ otV k := by
  unfold otV; split
  · exact Or.inl rfl
  · exact Or.inr (nI_pos' (by omega))
theorem nI_dm : ∀ {k : Nat}, k < 60 → nI k / 10 = nI (k / 10) ∧ nI k - nI k / 10 * 10 = nI (k % 10) := by
  have : ∀ k, k < 60 → nI k / 10 = nI (k / 10) ∧ nI k - nI k / 10 * 10 = nI (k % 10) := by decide +kernel
  exact fun {k} h => this k h
set_option maxHeartbeats 800000 in
theorem cx_otherwiseTold (l : Launch) (htr : l.stackTraces = false) (D : va_G) (t : Nat → ClassId) (Z : Nat × Cell) (cb : Nat) (B : BT) (n : Nat) (w : Int32) (hOk : Ok (B 2) 999) (hn : n ≤ 60) : Met l yX0_otherwiseTold (ws_ yX0_otherwiseTold cX0_otherwiseTold 11 (some .int)) ({ frames := 7, cells := 0, slots := 0, locals := 154 }) (zPc [.ref cb, .int (nI n), .int w] (CW D t Z cb B) (KX D t Z)) (va_Qi (fun r u => r = (if w = 0 then nI (otL (otF (B 13) (B 2) n) (10 * nH (B 2))).1 else (otL (otF (B 13) (B 2) n) (10 * nH (B 2))).2) ∧ u = B) (fun B' U => CW D t Z cb B' U.heap) (cA cb)) 0 0 (cA cb) := by
  refine zOf (cc := cX0_otherwiseTold) (maxL := 11) (ret := (some .int)) (by decide) (Nat.le_of_ble_eq_true rfl) (fun pg ev s m below meth cd ls F hW hK hl hnm => ?_)
  obtain ⟨hx, hb, hml, hown, hts, hr, hlk⟩ := F
  have S : CallFix pg m cd cX0_otherwiseTold 11 s _ lw_all RX0 := ⟨hx, hb, hml, hown, hts⟩
  have hl : lv_has ls 11 [(0, .ref cb), (1, .int (nI n)), (2, .int w)] := hl
  have hKK := hK.1
  obtain ⟨hC, hD⟩ := hW
  have hS : va_S (fA (cA cb) s) s.heap s.heap [] := va_S.rf
  have hd0 := hOk.hr0
  have hd8 := hOk.d8
  have hh3 := hOk.hr3
  have hh6 := hOk.h6
  have hs2 := hOk.hr2
  have hs5 := hOk.s5
  have hX := hOk.X
  obtain ⟨f, hf⟩ : ∃ f : Nat → Bool, ∀ k, f k = otF (B 13) (B 2) n k := ⟨_, fun _ => rfl⟩
  refine lv_iconst (v := 0) hx hb dX0_otherwiseTold_0 (by decide) ?_
  refine lv_istore_n (lv' := [(3, .int 0), (0, .ref cb), (1, .int (nI n)), (2, .int w)]) hx hb dX0_otherwiseTold_1 rfl hl (by decide) rfl (fun ls hl => ?_)
  refine lv_bipush (v := (-9)) hx hb dX0_otherwiseTold_2 (by decide) ?_
  refine lv_istore (lv' := [(4, .int (-9)), (3, .int 0), (0, .ref cb), (1, .int (nI n)), (2, .int w)]) hx hb dX0_otherwiseTold_4 hl (by decide) rfl (fun ls hl => ?_)
  have hl : lv_has ls 11 [(4, .int ((otL f 0).2)), (3, .int (nI (otL f 0).1)), (0, .ref cb), (1, .int (nI n)), (2, .int w)] := hl
  refine lv_iconst (v := 0) hx hb dX0_otherwiseTold_6 (by decide) ?_
  refine lv_istore (lv' := [(5, .int 0), (4, .int ((otL f 0).2)), (3, .int (nI (otL f 0).1)), (0, .ref cb), (1, .int (nI n)), (2, .int w)]) hx hb dX0_otherwiseTold_7 hl (by decide) rfl (fun ls hl => ?_)
  refine W.loop (σ := Nat) (fun k H locs ls => k ≤ (10 * nH (B 2)) ∧ (True) ∧ CM D t Z cb B H ∧ ND D t cb H ∧ va_S (fA (cA cb) s) s.heap H locs ∧ lv_has ls 11 [(5, .int (nI k)), (4, .int ((otL f k).2)), (3, .int (nI (otL f k).1)), (0, .ref cb), (1, .int (nI n)), (2, .int w)]) (fun k => (10 * nH (B 2)) - k) (fun k H locs ls hIk ihk => ?_) 0 ⟨by omega, trivial, hC, hD, hS, lv_sub hl [0, 1, 2, 3, 4, 5] rfl⟩
  obtain ⟨hk, hEk, hC, hD, hS, hl⟩ := hIk
  refine lv_iload hx hb dX0_otherwiseTold_9 (lv_at hl 0 rfl) ?_
  refine lv_bipush (v := 10) hx hb dX0_otherwiseTold_11 (by decide) ?_
  refine lv_aload_n hx hb dX0_otherwiseTold_13 rfl (lv_at hl 3 rfl) ?_
  refine c_xget (v := .ref (cb + 8)) hx hb hts hown hKK hC 1 (by decide) (Or.inl q284) rfl rfl dX0_otherwiseTold_14 ?_
  refine c_oget (v := .int ((B 2) 3)) hx hb hts hown hKK hC 6 (by decide) (Or.inr ⟨_, q211⟩) rfl (fun _ => rfl) dX0_otherwiseTold_17 ?_
  refine lv_imul hx hb dX0_otherwiseTold_20 ?_
  refine lv_icmp_ge (tgt := 156) hx hb dX0_otherwiseTold_21 (by decide) (fun c21 => ?_) (fun c21 => ?_)
  · obtain rfl : k = 10 * nH (B 2) := Nat.le_antisymm hk (lp_end (n := 10 * nH (B 2)) (by rw [hh3]; exact nI_mulO (m := 10) rfl rfl) (by omega) (by omega) c21)
    refine W.join (fun vJ => F0 m 166 ls (.int vJ :: [])) (fun vJ => vJ = (if w = 0 then nI (otL f (10 * nH (B 2))).1 else (otL f (10 * nH (B 2))).2)) (fun vJ hJ => ?_) (fun J5 => ?_)
    · subst hJ
      exact x_iretC hx hb hr ⟨by rw [ot_ext hf], rfl⟩ ⟨hC, hD⟩ hS (Nat.le_of_ble_eq_true rfl) (Nat.le_of_ble_eq_true rfl) dX0_otherwiseTold_166 hlk
    · refine lv_iload_n hx hb dX0_otherwiseTold_156 rfl (lv_at hl 5 rfl) ?_
      refine lv_if_ne (tgt := 164) hx hb dX0_otherwiseTold_157 (by decide) (fun c157 => ?_) (fun c157 => ?_)
      · refine lv_iload hx hb dX0_otherwiseTold_164 (lv_at hl 1 rfl) ?_
        exact J5 _ (by rw [if_neg c157])
      · refine lv_iload_n hx hb dX0_otherwiseTold_160 rfl (lv_at hl 2 rfl) ?_
        refine lv_goto (tgt := 166) hx hb dX0_otherwiseTold_161 (by decide) ?_
        exact J5 _ (by rw [if_pos c157])
  · have hk2 : k < 10 * nH (B 2) := lp_go (n := 10 * nH (B 2)) (by rw [hh3]; exact nI_mulO (m := 10) rfl rfl) (by omega) (by omega) c21
    have hq6 : k / 10 < nH (B 2) := by omega
    have hdm := nI_dm (k := k) (by omega)
    refine lv_iload hx hb dX0_otherwiseTold_24 (lv_at hl 0 rfl) ?_
    refine lv_bipush (v := 10) hx hb dX0_otherwiseTold_26 (by decide) ?_
    refine lv_idiv hx hb dX0_otherwiseTold_28 (by decide) ?_
    refine z_top (y := nI (k / 10)) hdm.1 ?_
    refine lv_istore (lv' := [(6, .int (nI (k / 10))), (5, .int (nI k)), (4, .int ((otL f k).2)), (3, .int (nI (otL f k).1)), (0, .ref cb), (1, .int (nI n)), (2, .int w)]) hx hb dX0_otherwiseTold_29 hl (by decide) rfl (fun ls hl => ?_)
    refine W.join (fun vJ => F0 m 51 ls (.int vJ :: [])) (fun vJ => vJ = otV k) (fun vJ hJ => ?_) (fun J0 => ?_)
    · subst hJ
      refine lv_istore (lv' := [(7, .int (otV k)), (6, .int (nI (k / 10))), (5, .int (nI k)), (4, .int ((otL f k).2)), (3, .int (nI (otL f k).1)), (0, .ref cb), (1, .int (nI n)), (2, .int w)]) hx hb dX0_otherwiseTold_51 hl (by decide) rfl (fun ls hl => ?_)
      have hov := otV_bd (k := k)
      have hq : otV k = -9 ∨ (0 ≤ otV k) := hov
      refine W.join (fun vJ => F0 m 85 ls (.int vJ :: [])) (fun vJ => vJ = bI (decide (otV k < B 2 2 ∧ ¬ otV k = hd (B 2) (k / 10) 3))) (fun vJ hJ => ?_) (fun J1 => ?_)
      · subst hJ
        refine lv_istore (lv' := [(8, .int (bI (decide (otV k < B 2 2 ∧ ¬ otV k = hd (B 2) (k / 10) 3)))), (7, .int (otV k)), (6, .int (nI (k / 10))), (5, .int (nI k)), (4, .int ((otL f k).2)), (3, .int (nI (otL f k).1)), (0, .ref cb), (1, .int (nI n)), (2, .int w)]) hx hb dX0_otherwiseTold_85 hl (by decide) rfl (fun ls hl => ?_)
        refine lv_iload hx hb dX0_otherwiseTold_87 (lv_at hl 0 rfl) ?_
        refine z_ifeq (tgt := 150) hx hb dX0_otherwiseTold_89 (by decide) (fun c89 => ?_) (fun c89 => ?_)
        · have e9 : otL f (k + 1) = otL f k := ot_no (by rw [hf]; unfold otF; rw [c89, Bool.false_and])
          have hl : lv_has ls 11 [(5, .int (nI k)), (4, .int ((otL f (k + 1)).2)), (3, .int (nI (otL f (k + 1)).1)), (0, .ref cb), (1, .int (nI n)), (2, .int w)] := by rw [e9]; exact lv_sub hl [3, 4, 5, 6, 7, 8] rfl
          refine lv_iinc (v := nI (k + 1)) (lv' := [(5, .int (nI (k + 1))), (4, .int ((otL f (k + 1)).2)), (3, .int (nI (otL f (k + 1)).1)), (0, .ref cb), (1, .int (nI n)), (2, .int w)]) hx hb dX0_otherwiseTold_150 hl (k := 0) rfl (nI_1 k) (by decide) rfl (fun ls hl => ?_)
          refine lv_goto (tgt := 9) hx hb dX0_otherwiseTold_153 (by decide) ?_
          exact ihk (k + 1) H locs ls (by omega) ⟨by omega, trivial, hC, hD, hS, lv_sub hl [0, 1, 2, 3, 4, 5] rfl⟩
        · have hcan := of_decide_eq_true c89
          have hvv : otV k = -9 ∨ (0 ≤ otV k ∧ otV k < B 2 2) := hov.imp id (fun h => ⟨h, hcan.1⟩)
          have hog : Ok (geS (B 2) (k / 10) (otV k)) 999 := Ok_geS hOk hq6 (hvv.imp (fun h => by rw [h]; decide) id)
          have hoh := Ok_hrS hog (n := n) (by omega)
          refine lv_aload_n hx hb dX0_otherwiseTold_92 rfl (lv_at hl 6 rfl) ?_
          refine va_callr (gx_runV (As := []) (rest := []) S hK ⟨hC, hD⟩ (hC.recv hKK) (cx_openMind l htr D t Z cb B ) (cwV 0 hts (lw_V q971 q973 qs31 q95 q974) rfl rfl rfl (by decide +kernel) ⟨Nat.le_of_ble_eq_true rfl, Nat.le_of_ble_eq_true rfl⟩) rfl hl.1 rfl (Nat.le_of_ble_eq_true rfl) dX0_otherwiseTold_93 ⟨Nat.le_of_ble_eq_true rfl, Nat.le_of_ble_eq_true rfl⟩) hS (fun q _ h => Or.inl h) (fun q h => Or.inl h) (fun u93 a93 tt H locs ht _ _ hW _ _ hS => ?_)
          obtain ⟨sgN, kdN, AN⟩ := u93
          obtain ⟨rfl, hC, hN⟩ := hW
          rw [ht] at hC hN
          have hN : OV D t (cb + 23) (cb + 2) (cb + 70) sgN kdN (B 2) AN H := hN
          refine lv_astore (lv' := [(9, .ref (cb + 23)), (8, .int (bI (decide (otV k < B 2 2 ∧ ¬ otV k = hd (B 2) (k / 10) 3)))), (7, .int (otV k)), (6, .int (nI (k / 10))), (5, .int (nI k)), (4, .int ((otL f k).2)), (3, .int (nI (otL f k).1)), (0, .ref cb), (1, .int (nI n)), (2, .int w)]) hx hb dX0_otherwiseTold_96 hl (by decide) rfl (fun ls hl => ?_)
          refine lv_aload hx hb dX0_otherwiseTold_98 (lv_at hl 0 rfl) ?_
          refine lv_iload hx hb dX0_otherwiseTold_100 (lv_at hl 3 rfl) ?_
          refine lv_iload hx hb dX0_otherwiseTold_102 (lv_at hl 2 rfl) ?_
          refine va_callv (g_runV (As := [.int (nI (k / 10)), .int (otV k)]) (rest := []) S hKK hN (hN.recv hKK) (co_X8_get l D t (cb + 23) (cb + 2) (cb + 70) sgN kdN (B 2) AN (k / 10) (otV k) hX (by omega) (by omega) (by omega) hvv) (cwV 2 hts (lw_V q884 q632 q633 q103 q634) rfl rfl rfl (by decide +kernel) ⟨Nat.le_of_ble_eq_true rfl, Nat.le_of_ble_eq_true rfl⟩) rfl hl.1 rfl (Nat.le_of_ble_eq_true rfl) dX0_otherwiseTold_104 ⟨Nat.le_of_ble_eq_true rfl, Nat.le_of_ble_eq_true rfl⟩) hS (fun q _ h => fM h) (fun q h => fM h) (fun u104 tt H locs ht _ h104 hN _ hq hS => ?_)
          obtain ⟨R104, A104⟩ := u104
          rw [ht] at hN
          have hN : OV D t (cb + 23) (cb + 2) (cb + 70) sgN kdN R104 A104 H := hN
          have h104 : (R104, A104) = (geS (B 2) (k / 10) (otV k), AN) := h104
          obtain ⟨e1, e2⟩ := Prod.mk.inj h104
          rw [e1, e2] at hN
          have hC := hC.kept hq
          refine lv_aload_n hx hb dX0_otherwiseTold_107 rfl (lv_at hl 7 rfl) ?_
          refine lv_aload hx hb dX0_otherwiseTold_108 (lv_at hl 0 rfl) ?_
          refine lv_iload_n hx hb dX0_otherwiseTold_110 rfl (lv_at hl 8 rfl) ?_
          refine va_callr (g_runV (As := [.int (nI n)]) (rest := [.ref cb]) S hKK hN (hN.recv hKK) (co_X8_hoursOn l D t (cb + 23) (cb + 2) (cb + 70) sgN kdN (geS (B 2) (k / 10) (otV k)) AN n 999 hog (by omega) (by omega) (by omega)) (cwV 1 hts (lw_V q975 q976 q977 q103 q978) rfl rfl rfl (by decide +kernel) ⟨Nat.le_of_ble_eq_true rfl, Nat.le_of_ble_eq_true rfl⟩) rfl hl.1 rfl (Nat.le_of_ble_eq_true rfl) dX0_otherwiseTold_111 ⟨Nat.le_of_ble_eq_true rfl, Nat.le_of_ble_eq_true rfl⟩) hS (fun q _ h => fM h) (fun q h => fM h) (fun u111 a111 tt H locs ht _ h111 hN _ hq hS => ?_)
          obtain ⟨R111, A111⟩ := u111
          obtain ⟨rfl, hN⟩ := hN
          rw [ht] at hN
          have hN : OV D t (cb + 23) (cb + 2) (cb + 70) sgN kdN R111 A111 H := hN
          obtain ⟨e2, hf12, hf13⟩ := h111
          have e2 : R111 = hrS (geS (B 2) (k / 10) (otV k)) n := e2
          rw [e2] at hN
          have hC := hC.kept hq
          refine g_r (gx_runV (As := [.ref (cb + 23)]) (rest := []) S hK (P := fun H => CM D t Z cb B H ∧ OV D t (cb + 23) (cb + 2) (cb + 70) sgN kdN (hrS (geS (B 2) (k / 10) (otV k)) n) A111 H) ⟨hC, hN⟩ (hC.recv hKK) (cx_isAsTold l htr D t Z cb B sgN kdN (hrS (geS (B 2) (k / 10) (otV k)) n) A111 hoh.X (fun j hj => (hoh.head hj).2.2.2.2.2.2.1.imp id And.left)) (cwV 1 hts (lw_V q1079 q1081 qs54 q95 q1082) rfl rfl rfl (by decide +kernel) ⟨Nat.le_of_ble_eq_true rfl, Nat.le_of_ble_eq_true rfl⟩) rfl hl.1 rfl (Nat.le_of_ble_eq_true rfl) dX0_otherwiseTold_114 ⟨Nat.le_of_ble_eq_true rfl, Nat.le_of_ble_eq_true rfl⟩) ?_
          refine z_top (y := bI (f k)) (by rw [hf]; unfold otF; rw [c89, Bool.true_and, nH_hrS, nH_eq (geS_off (by omega))]) ?_
          refine lv_istore (lv' := [(10, .int (bI (f k))), (9, .ref (cb + 23)), (8, .int (bI (decide (otV k < B 2 2 ∧ ¬ otV k = hd (B 2) (k / 10) 3)))), (7, .int (otV k)), (6, .int (nI (k / 10))), (5, .int (nI k)), (4, .int ((otL f k).2)), (3, .int (nI (otL f k).1)), (0, .ref cb), (1, .int (nI n)), (2, .int w)]) hx hb dX0_otherwiseTold_117 hl (by decide) rfl (fun ls hl => ?_)
          have hle := otL_le f k
          refine W.join (fun vJ => F0 m 135 ls (.int vJ :: [])) (fun vJ => vJ = (otL f (k + 1)).2) (fun vJ hJ => ?_) (fun J2 => ?_)
          · subst hJ
            refine lv_istore (lv' := [(4, .int ((otL f (k + 1)).2)), (10, .int (bI (f k))), (9, .ref (cb + 23)), (8, .int (bI (decide (otV k < B 2 2 ∧ ¬ otV k = hd (B 2) (k / 10) 3)))), (7, .int (otV k)), (6, .int (nI (k / 10))), (5, .int (nI k)), (3, .int (nI (otL f k).1)), (0, .ref cb), (1, .int (nI n)), (2, .int w)]) hx hb dX0_otherwiseTold_135 hl (by decide) rfl (fun ls hl => ?_)
            refine lv_iload_n hx hb dX0_otherwiseTold_137 rfl (lv_at hl 7 rfl) ?_
            refine W.join (fun vJ => F0 m 148 ls (.int vJ :: [.int (nI (otL f k).1)])) (fun vJ => vJ = bI (f k)) (fun vJ hJ => ?_) (fun J4 => ?_)
            · subst hJ
              refine lv_iadd hx hb dX0_otherwiseTold_148 ?_
              refine z_top (y := nI (otL f (k + 1)).1) (by cases hfk : f k with | true => rw [ot_1 hfk]; exact nI_1 _ | false => rw [ot_no hfk]; exact Int32.add_zero _) ?_
              refine lv_istore_n (lv' := [(3, .int (nI (otL f (k + 1)).1)), (4, .int ((otL f (k + 1)).2)), (10, .int (bI (f k))), (9, .ref (cb + 23)), (8, .int (bI (decide (otV k < B 2 2 ∧ ¬ otV k = hd (B 2) (k / 10) 3)))), (7, .int (otV k)), (6, .int (nI (k / 10))), (5, .int (nI k)), (0, .ref cb), (1, .int (nI n)), (2, .int w)]) hx hb dX0_otherwiseTold_149 rfl hl (by decide) rfl (fun ls hl => ?_)
              refine lv_iinc (v := nI (k + 1)) (lv' := [(5, .int (nI (k + 1))), (3, .int (nI (otL f (k + 1)).1)), (4, .int ((otL f (k + 1)).2)), (10, .int (bI (f k))), (9, .ref (cb + 23)), (8, .int (bI (decide (otV k < B 2 2 ∧ ¬ otV k = hd (B 2) (k / 10) 3)))), (7, .int (otV k)), (6, .int (nI (k / 10))), (0, .ref cb), (1, .int (nI n)), (2, .int w)]) hx hb dX0_otherwiseTold_150 hl (k := 7) rfl (nI_1 k) (by decide) rfl (fun ls hl => ?_)
              refine lv_goto (tgt := 9) hx hb dX0_otherwiseTold_153 (by decide) ?_
              exact ihk (k + 1) H locs ls (by omega) ⟨by omega, trivial, hC, ⟨_, _, _, hN.1⟩, hS, lv_sub hl [0, 2, 1, 8, 9, 10] rfl⟩
            · refine lv_iload hx hb dX0_otherwiseTold_138 (lv_at hl 1 rfl) ?_
              refine z_ifeq (tgt := 147) hx hb dX0_otherwiseTold_140 (by decide) (fun c140 => ?_) (fun c140 => ?_)
              · refine lv_iconst (v := 0) hx hb dX0_otherwiseTold_147 (by decide) ?_
                exact J4 _ (by rw [c140]; rfl)
              · refine lv_iconst (v := 1) hx hb dX0_otherwiseTold_143 (by decide) ?_
                refine lv_goto (tgt := 148) hx hb dX0_otherwiseTold_144 (by decide) ?_
                exact J4 _ (by rw [c140]; rfl)
          · refine lv_iload hx hb dX0_otherwiseTold_119 (lv_at hl 0 rfl) ?_
            refine z_ifeq (tgt := 133) hx hb dX0_otherwiseTold_121 (by decide) (fun c121 => ?_) (fun c121 => ?_)
            · refine lv_iload hx hb dX0_otherwiseTold_133 (lv_at hl 6 rfl) ?_
              exact J2 _ (by rw [ot_no c121])
            · refine lv_iload_n hx hb dX0_otherwiseTold_124 rfl (lv_at hl 7 rfl) ?_
              refine lv_if_ne (tgt := 133) hx hb dX0_otherwiseTold_125 (by decide) (fun c125 => ?_) (fun c125 => ?_)
              · refine lv_iload hx hb dX0_otherwiseTold_133 (lv_at hl 6 rfl) ?_
                exact J2 _ (by rw [ot_2 c121, if_neg (fun h => c125 (by rw [h]; rfl))])
              · refine lv_iload hx hb dX0_otherwiseTold_128 (lv_at hl 5 rfl) ?_
                refine lv_goto (tgt := 135) hx hb dX0_otherwiseTold_130 (by decide) ?_
                exact J2 _ (by rw [ot_2 c121, if_pos (nI_lit0 (by omega) c125)])
      · refine lv_iload hx hb dX0_otherwiseTold_53 (lv_at hl 0 rfl) ?_
        refine lv_aload_n hx hb dX0_otherwiseTold_55 rfl (lv_at hl 5 rfl) ?_
        refine c_xget (v := .ref (cb + 8)) hx hb hts hown hKK hC 1 (by decide) (Or.inl q284) rfl rfl dX0_otherwiseTold_56 ?_
        refine c_oget (v := .int ((B 2) 2)) hx hb hts hown hKK hC 4 (by decide) (Or.inr ⟨_, q204⟩) rfl (fun _ => rfl) dX0_otherwiseTold_59 ?_
        refine lv_icmp_ge (tgt := 84) hx hb dX0_otherwiseTold_62 (by decide) (fun c62 => ?_) (fun c62 => ?_)
        · refine lv_iconst (v := 0) hx hb dX0_otherwiseTold_84 (by decide) ?_
          exact J1 _ (by rw [decide_eq_false (fun h => Int32.not_lt.mpr c62 h.1)]; rfl)
        · refine lv_iload hx hb dX0_otherwiseTold_65 (lv_at hl 0 rfl) ?_
          refine lv_aload_n hx hb dX0_otherwiseTold_67 rfl (lv_at hl 5 rfl) ?_
          refine c_xget (v := .ref (cb + 8)) hx hb hts hown hKK hC 1 (by decide) (Or.inl q284) rfl rfl dX0_otherwiseTold_68 ?_
          refine c_oget (v := .ref (cb + 8 + 7)) hx hb hts hown hKK hC 10 (by decide) (Or.inr ⟨_, q222⟩) rfl (fun _ => rfl) dX0_otherwiseTold_71 ?_
          refine lv_iload hx hb dX0_otherwiseTold_74 (lv_at hl 1 rfl) ?_
          refine c_oald hx hb hKK hC 7 (fun _ _ _ => rfl) (k := k / 10) (v := hd (B 2) (k / 10) 3) rfl (by omega) (by decide) (fun _ => rfl) dX0_otherwiseTold_76 ?_
          refine lv_icmp_eq (tgt := 84) hx hb dX0_otherwiseTold_77 (by decide) (fun c77 => ?_) (fun c77 => ?_)
          · refine lv_iconst (v := 0) hx hb dX0_otherwiseTold_84 (by decide) ?_
            exact J1 _ (by rw [decide_eq_false (fun h => h.2 c77)]; rfl)
          · refine lv_iconst (v := 1) hx hb dX0_otherwiseTold_80 (by decide) ?_
            refine lv_goto (tgt := 85) hx hb dX0_otherwiseTold_81 (by decide) ?_
            exact J1 _ (by rw [decide_eq_true ⟨Int32.not_le.mp c62, c77⟩]; rfl)
    · refine lv_iload hx hb dX0_otherwiseTold_31 (lv_at hl 1 rfl) ?_
      refine lv_bipush (v := 10) hx hb dX0_otherwiseTold_33 (by decide) ?_
      refine lv_irem hx hb dX0_otherwiseTold_35 (by decide) ?_
      refine z_top (y := nI (k % 10)) hdm.2 ?_
      refine lv_bipush (v := 9) hx hb dX0_otherwiseTold_36 (by decide) ?_
      refine lv_icmp_ne (tgt := 46) hx hb dX0_otherwiseTold_38 (by decide) (fun c38 => ?_) (fun c38 => ?_)
      · refine lv_iload hx hb dX0_otherwiseTold_46 (lv_at hl 1 rfl) ?_
        refine lv_bipush (v := 10) hx hb dX0_otherwiseTold_48 (by decide) ?_
        refine lv_irem hx hb dX0_otherwiseTold_50 (by decide) ?_
        exact J0 _ (by unfold otV; rw [if_neg (fun h => c38 (by rw [h]; rfl))]; exact hdm.2)
      · refine lv_bipush (v := (-9)) hx hb dX0_otherwiseTold_41 (by decide) ?_
        refine lv_goto (tgt := 51) hx hb dX0_otherwiseTold_43 (by decide) ?_
        exact J0 _ (by unfold otV; rw [if_pos (nI_lit9 (by omega) c38)])
