/-! THE CLASS's METHODS (3): remedies, another song; printed by wip/D-96246w/gen/gen_x3.py -/
set_option maxRecDepth 100000
set_option maxHeartbeats 4000000 in
theorem co_X0_freeIn (l : Launch) (D : va_G) (t : Nat → ClassId) (ob kb lo : Nat) (sg kd : GT) (r : RT) (A : BT) (j N : Nat) (hOk : Ok r N) (hN : N < 2 ^ 20) (hkb : kb + 6 ≤ ob) (hlo : ob + 15 ≤ lo) (hj : j < nH r) : Met l yX0_freeIn (ws_ yX0_freeIn cX0_freeIn 3 (some .int)) ({ frames := 6, cells := 0, slots := 0, locals := 132 }) (zPc [.ref ob, .int (nI j)] (OV D t ob kb lo sg kd r A) (KK D t)) (va_Qi (fun v (_ : RT × BT) => v = frN r j) (fun u U => OV D t ob kb lo sg kd u.1 u.2 U.heap) (oA ob)) 0 0 (oA ob) := by
  refine zOf (cc := cX0_freeIn) (maxL := 3) (ret := (some .int)) (by decide) (Nat.le_of_ble_eq_true rfl) (fun pg ev s m below meth cd ls F hV hKK hl hnm => ?_)
  obtain ⟨hx, hb, hml, hown, hts, hr, hlk⟩ := F
  have S : CallFix pg m cd cX0_freeIn 3 s _ lw_all RX0 := ⟨hx, hb, hml, hown, hts⟩
  have hl : lv_has ls 3 [(0, .ref ob), (1, .int (nI j))] := hl
  have hS : va_S (oA ob) s.heap s.heap [] := va_S.rf
  have hh6 := hOk.h6
  refine lv_iconst (v := 0) hx hb dX0_freeIn_0 (by decide) ?_
  refine lv_istore_n (lv' := [(2, .int 0), (0, .ref ob), (1, .int (nI j))]) hx hb dX0_freeIn_1 rfl hl (by decide) rfl (fun ls hl => ?_)
  refine W.loop (σ := Nat) (fun k H locs ls => k ≤ 61 ∧ (fdS (fun n => decide (hd (hrS r n) j 3 < 0)) k = -9) ∧ (∃ A, OV D t ob kb lo sg kd (hrS r k) A H) ∧ va_S (oA ob) s.heap H locs ∧ lv_has ls 3 [(2, .int (nI k)), (0, .ref ob), (1, .int (nI j))]) (fun k => 61 - k) (fun k H locs ls hI ihk => ?_) 0 ⟨by omega, rfl, ⟨_, hV⟩, hS, lv_sub hl [0, 1, 2] rfl⟩
  obtain ⟨hk, hEk, ⟨A1, hV⟩, hS, hl⟩ := hI
  refine lv_iload_n hx hb dX0_freeIn_2 rfl (lv_at hl 0 rfl) ?_
  refine lv_bipush (v := 60) hx hb dX0_freeIn_3 (by decide) ?_
  refine lv_icmp_gt (tgt := 32) hx hb dX0_freeIn_5 (by decide) (fun c5 => ?_) (fun c5 => ?_)
  · obtain rfl : k = 61 := Nat.le_antisymm hk (lp_gt (n := 60) rfl (by omega) (by omega) c5)
    refine lv_bipush (v := 61) hx hb dX0_freeIn_32 (by decide) ?_
    exact o_iret hx hb hr (le_none hEk) hV hS dX0_freeIn_34 hlk
  · have hk2 : k ≤ 60 := lp_ng (n := 60) rfl (by omega) (by omega) c5
    have hokk := Ok_hrS hOk (n := k) (by omega)
    refine lv_aload_n hx hb dX0_freeIn_8 rfl (lv_at hl 1 rfl) ?_
    refine o_getN (v := .ref (ob + 7)) hx hb hts hown hKK hV.1 10 (by decide) q222 rfl rfl dX0_freeIn_9 ?_
    refine lv_iload_n hx hb dX0_freeIn_12 rfl (lv_at hl 2 rfl) ?_
    refine o_ald hx hb hKK hV.1 7 rfl (k := j) (v := hd (hrS r k) j 3) rfl (by omega) (by decide) rfl dX0_freeIn_13 ?_
    refine lv_bipush (v := (-9)) hx hb dX0_freeIn_14 (by decide) ?_
    refine lv_icmp_ne (tgt := 21) hx hb dX0_freeIn_16 (by decide) (fun c16 => ?_) (fun c16 => ?_)
    · refine lv_aload_n hx hb dX0_freeIn_21 rfl (lv_at hl 1 rfl) ?_
      refine va_calli (g_runV (As := []) (rest := []) S hKK hV (hV.recv hKK) (co_X8_hourOn l D t ob kb lo sg kd (hrS r k) A1 (N + k) hokk (by omega) hkb hlo) (cwV 0 hts (lw_V q910 q911 q912 q103 q913) rfl rfl rfl (by decide +kernel) ⟨Nat.le_of_ble_eq_true rfl, Nat.le_of_ble_eq_true rfl⟩) rfl hl.1 rfl (Nat.le_of_ble_eq_true rfl) dX0_freeIn_22 ⟨Nat.le_of_ble_eq_true rfl, Nat.le_of_ble_eq_true rfl⟩) hS (fun q _ h => h) (fun q h => h) (fun r22 u22 tt H locs ht _ h22 hV _ _ hS => ?_)
      obtain ⟨R22, A22⟩ := u22
      rw [ht] at hV
      have hV : OV D t ob kb lo sg kd R22 A22 H := hV
      obtain ⟨-, e2, -, -⟩ := h22
      have e2 : R22 = hrS r (k + 1) := e2
      rw [e2] at hV
      refine lv_pop hx hb dX0_freeIn_25 rfl ?_
      refine lv_iinc (v := nI (k + 1)) (lv' := [(2, .int (nI (k + 1))), (0, .ref ob), (1, .int (nI j))]) hx hb dX0_freeIn_26 hl (k := 0) rfl (nI_1 k) (by decide) rfl (fun ls hl => ?_)
      refine lv_goto (tgt := 2) hx hb dX0_freeIn_29 (by decide) ?_
      exact ihk (k + 1) H locs ls (by omega) ⟨by omega, (fd_miss hEk (decide_eq_false (fun q => c16 ((neg9 (hokk.head (j := j) (by rw [nH_hrS]; exact hj))).mp q)))), ⟨_, hV⟩, hS, lv_sub hl [0, 1, 2] rfl⟩
    · refine lv_iload_n hx hb dX0_freeIn_19 rfl (lv_at hl 0 rfl) ?_
      exact o_iret hx hb hr (le_hit (fd_hit hEk (decide_eq_true ((neg9 (hokk.head (j := j) (by rw [nH_hrS]; exact hj))).mpr c16)) (show k < 61 by omega) (by decide)) (by omega)) hV hS dX0_freeIn_20 hlk
set_option maxHeartbeats 800000 in
theorem cx_freeBy (l : Launch) (htr : l.stackTraces = false) (D : va_G) (t : Nat → ClassId) (Z : Nat × Cell) (cb : Nat) (B : BT) (j : Nat) (w : Int32) (hOk : Ok (B 2) 999) (hj : j < nH (B 2)) (hw : ((w = 0 ∨ w = 1) ∧ ¬ hd (B 2) j 3 = -9) ∨ w = 2 ∨ w = 3) : Met l yX0_freeBy (ws_ yX0_freeBy cX0_freeBy 4 (some .int)) ({ frames := 7, cells := 0, slots := 0, locals := 154 }) (zPc [.ref cb, .int (nI j), .int w] (CW D t Z cb B) (KX D t Z)) (va_Qi (fun r u => r = frN (meS (B 2) j w) j ∧ u = B) (fun B' U => CW D t Z cb B' U.heap) (cA cb)) 0 0 (cA cb) := by
  refine zOf (cc := cX0_freeBy) (maxL := 4) (ret := (some .int)) (by decide) (Nat.le_of_ble_eq_true rfl) (fun pg ev s m below meth cd ls F hW hK hl hnm => ?_)
  obtain ⟨hx, hb, hml, hown, hts, hr, hlk⟩ := F
  have S : CallFix pg m cd cX0_freeBy 4 s _ lw_all RX0 := ⟨hx, hb, hml, hown, hts⟩
  have hl : lv_has ls 4 [(0, .ref cb), (1, .int (nI j)), (2, .int w)] := hl
  have hKK := hK.1
  obtain ⟨hC, hD⟩ := hW
  have hS : va_S (fA (cA cb) s) s.heap s.heap [] := va_S.rf
  have hd0 := hOk.hr0
  have hd8 := hOk.d8
  have hh3 := hOk.hr3
  have hh6 := hOk.h6
  have hs2 := hOk.hr2
  have hs5 := hOk.s5
  have hX := hOk.X
  refine lv_aload_n hx hb dX0_freeBy_0 rfl (lv_at hl 0 rfl) ?_
  refine va_callr (gx_runV (As := []) (rest := []) S hK ⟨hC, hD⟩ (hC.recv hKK) (cx_openMind l htr D t Z cb B ) (cwV 0 hts (lw_V q971 q973 qs31 q95 q974) rfl rfl rfl (by decide +kernel) ⟨Nat.le_of_ble_eq_true rfl, Nat.le_of_ble_eq_true rfl⟩) rfl hl.1 rfl (Nat.le_of_ble_eq_true rfl) dX0_freeBy_1 ⟨Nat.le_of_ble_eq_true rfl, Nat.le_of_ble_eq_true rfl⟩) hS (fun q _ h => Or.inl h) (fun q h => Or.inl h) (fun u1 a1 tt H locs ht _ _ hW _ _ hS => ?_)
  obtain ⟨sgN, kdN, AN⟩ := u1
  obtain ⟨rfl, hC, hN⟩ := hW
  rw [ht] at hC hN
  have hN : OV D t (cb + 23) (cb + 2) (cb + 70) sgN kdN (B 2) AN H := hN
  refine lv_astore_n (lv' := [(3, .ref (cb + 23)), (0, .ref cb), (1, .int (nI j)), (2, .int w)]) hx hb dX0_freeBy_4 rfl hl (by decide) rfl (fun ls hl => ?_)
  refine lv_aload_n hx hb dX0_freeBy_5 rfl (lv_at hl 0 rfl) ?_
  refine lv_iload_n hx hb dX0_freeBy_6 rfl (lv_at hl 2 rfl) ?_
  refine lv_iload_n hx hb dX0_freeBy_7 rfl (lv_at hl 3 rfl) ?_
  refine va_callv (g_runV (As := [.int (nI j), .int w]) (rest := []) S hKK hN (hN.recv hKK) (co_X8_remedy l D t (cb + 23) (cb + 2) (cb + 70) sgN kdN (B 2) AN j w 999 hOk (by omega) (by omega) hj hw) (cwV 2 hts (lw_V q894 q895 q896 q103 q897) rfl rfl rfl (by decide +kernel) ⟨Nat.le_of_ble_eq_true rfl, Nat.le_of_ble_eq_true rfl⟩) rfl hl.1 rfl (Nat.le_of_ble_eq_true rfl) dX0_freeBy_8 ⟨Nat.le_of_ble_eq_true rfl, Nat.le_of_ble_eq_true rfl⟩) hS (fun q _ h => fM h) (fun q h => fM h) (fun u8 tt H locs ht _ h8 hN _ hq hS => ?_)
  obtain ⟨R8, A8⟩ := u8
  rw [ht] at hN
  have hN : OV D t (cb + 23) (cb + 2) (cb + 70) sgN kdN R8 A8 H := hN
  have h8 : (R8, A8) = (meS (B 2) j w, AN) := h8
  obtain ⟨e1, e2⟩ := Prod.mk.inj h8
  rw [e1, e2] at hN
  have hC := hC.kept hq
  refine lv_aload_n hx hb dX0_freeBy_11 rfl (lv_at hl 0 rfl) ?_
  refine lv_iload_n hx hb dX0_freeBy_12 rfl (lv_at hl 2 rfl) ?_
  refine va_calli (g_runS (As := [.ref (cb + 23), .int (nI j)]) (rest := []) S hKK hN (co_X0_freeIn l D t (cb + 23) (cb + 2) (cb + 70) sgN kdN (meS (B 2) j w) AN j 999 (Ok_meS hOk hj) (by omega) (by omega) (by omega) (by rw [nH_meS]; exact hj)) (va_cwS 2 hts (lw_S q1037 q1038 q95 q1039) rfl rfl rfl (by decide +kernel) ⟨Nat.le_of_ble_eq_true rfl, Nat.le_of_ble_eq_true rfl⟩) rfl hl.1 rfl (Nat.le_of_ble_eq_true rfl) dX0_freeBy_13 ⟨Nat.le_of_ble_eq_true rfl, Nat.le_of_ble_eq_true rfl⟩) hS (fun q _ h => fM h) (fun q h => fM h) (fun r13 u13 tt H locs ht _ h13 hN _ hq hS => ?_)
  obtain ⟨R13, A13⟩ := u13
  rw [ht] at hN
  have hN : OV D t (cb + 23) (cb + 2) (cb + 70) sgN kdN R13 A13 H := hN
  have hC := hC.kept hq
  refine z_top (y := frN (meS (B 2) j w) j) h13 ?_
  exact x_iretC hx hb hr ⟨rfl, rfl⟩ ⟨hC, ⟨_, _, _, hN.1⟩⟩ hS (Nat.le_of_ble_eq_true rfl) (Nat.le_of_ble_eq_true rfl) dX0_freeBy_16 hlk
set_option maxHeartbeats 800000 in
theorem cx_ridTold (l : Launch) (htr : l.stackTraces = false) (D : va_G) (t : Nat → ClassId) (Z : Nat × Cell) (cb : Nat) (B : BT) (j : Nat) (w : Int32) (hOk : Ok (B 2) 999) (hj : j < nH (B 2)) (h9 : ¬ hd (B 2) j 3 = -9) : Met l yX0_ridTold (ws_ yX0_ridTold cX0_ridTold 7 (some .int)) ({ frames := 8, cells := 0, slots := 0, locals := 177 }) (zPc [.ref cb, .int (nI j), .int w] (CW D t Z cb B) (KX D t Z)) (va_Qi (fun r u => r = (if w = 0 then (riP (B 2) j).1 else (riP (B 2) j).2) ∧ u = B) (fun B' U => CW D t Z cb B' U.heap) (cA cb)) 0 0 (cA cb) := by
  refine zOf (cc := cX0_ridTold) (maxL := 7) (ret := (some .int)) (by decide) (Nat.le_of_ble_eq_true rfl) (fun pg ev s m below meth cd ls F hW hK hl hnm => ?_)
  obtain ⟨hx, hb, hml, hown, hts, hr, hlk⟩ := F
  have S : CallFix pg m cd cX0_ridTold 7 s _ lw_all RX0 := ⟨hx, hb, hml, hown, hts⟩
  have hl : lv_has ls 7 [(0, .ref cb), (1, .int (nI j)), (2, .int w)] := hl
  have hKK := hK.1
  obtain ⟨hC, hD⟩ := hW
  have hS : va_S (fA (cA cb) s) s.heap s.heap [] := va_S.rf
  have hd0 := hOk.hr0
  have hd8 := hOk.d8
  have hh3 := hOk.hr3
  have hh6 := hOk.h6
  have hs2 := hOk.hr2
  have hs5 := hOk.s5
  have hX := hOk.X
  obtain ⟨f, hf⟩ : ∃ f : Nat → Int32, ∀ k, f k = rdS (meS (B 2) j (nI k)) j := ⟨_, fun _ => rfl⟩
  have hbf : ∀ k, BD (f k) := fun k => by rw [hf]; exact rdS_bd
  refine lv_bipush (v := (-9)) hx hb dX0_ridTold_0 (by decide) ?_
  refine lv_istore_n (lv' := [(3, .int (-9)), (0, .ref cb), (1, .int (nI j)), (2, .int w)]) hx hb dX0_ridTold_2 rfl hl (by decide) rfl (fun ls hl => ?_)
  refine lv_bipush (v := 61) hx hb dX0_ridTold_3 (by decide) ?_
  refine lv_istore (lv' := [(4, .int 61), (3, .int (-9)), (0, .ref cb), (1, .int (nI j)), (2, .int w)]) hx hb dX0_ridTold_5 hl (by decide) rfl (fun ls hl => ?_)
  have hl : lv_has ls 7 [(4, .int (leN61 (mnL f (-9, -9) 0).2)), (3, .int ((mnL f (-9, -9) 0).1)), (0, .ref cb), (1, .int (nI j)), (2, .int w)] := hl
  refine lv_iconst (v := 0) hx hb dX0_ridTold_7 (by decide) ?_
  refine lv_istore (lv' := [(5, .int 0), (4, .int (leN61 (mnL f (-9, -9) 0).2)), (3, .int ((mnL f (-9, -9) 0).1)), (0, .ref cb), (1, .int (nI j)), (2, .int w)]) hx hb dX0_ridTold_8 hl (by decide) rfl (fun ls hl => ?_)
  refine W.loop (σ := Nat) (fun k H locs ls => k ≤ 4 ∧ (True) ∧ CM D t Z cb B H ∧ ND D t cb H ∧ va_S (fA (cA cb) s) s.heap H locs ∧ lv_has ls 7 [(5, .int (nI k)), (4, .int (leN61 (mnL f (-9, -9) k).2)), (3, .int ((mnL f (-9, -9) k).1)), (0, .ref cb), (1, .int (nI j)), (2, .int w)]) (fun k => 4 - k) (fun k H locs ls hIk ihk => ?_) 0 ⟨by omega, trivial, hC, hD, hS, lv_sub hl [0, 1, 2, 3, 4, 5] rfl⟩
  obtain ⟨hk, hEk, hC, hD, hS, hl⟩ := hIk
  refine lv_iload hx hb dX0_ridTold_10 (lv_at hl 0 rfl) ?_
  refine lv_iconst (v := 3) hx hb dX0_ridTold_12 (by decide) ?_
  refine lv_icmp_gt (tgt := 54) hx hb dX0_ridTold_13 (by decide) (fun c13 => ?_) (fun c13 => ?_)
  · obtain rfl : k = 4 := Nat.le_antisymm hk (lp_gt (n := 3) rfl (by omega) (by omega) c13)
    refine W.join (fun vJ => F0 m 70 ls (.int vJ :: [])) (fun vJ => vJ = (if w = 0 then (mnL f (-9, -9) 4).1 else (mnL f (-9, -9) 4).2)) (fun vJ hJ => ?_) (fun J3 => ?_)
    · subst hJ
      exact x_iretC hx hb hr ⟨by rw [show riP (B 2) j = mnL f (-9, -9) 4 from (mn_ext hf 4).symm], rfl⟩ ⟨hC, hD⟩ hS (Nat.le_of_ble_eq_true rfl) (Nat.le_of_ble_eq_true rfl) dX0_ridTold_70 hlk
    · refine lv_iload_n hx hb dX0_ridTold_54 rfl (lv_at hl 5 rfl) ?_
      refine lv_if_eq (tgt := 64) hx hb dX0_ridTold_55 (by decide) (fun c55 => ?_) (fun c55 => ?_)
      · refine lv_iload_n hx hb dX0_ridTold_64 rfl (lv_at hl 2 rfl) ?_
        refine lv_goto (tgt := 70) hx hb dX0_ridTold_65 (by decide) ?_
        exact J3 _ (by rw [if_pos c55])
      · refine lv_iload_n hx hb dX0_ridTold_58 rfl (lv_at hl 2 rfl) ?_
        refine lv_bipush (v := (-9)) hx hb dX0_ridTold_59 (by decide) ?_
        refine lv_icmp_ne (tgt := 68) hx hb dX0_ridTold_61 (by decide) (fun c61 => ?_) (fun c61 => ?_)
        · refine lv_iload hx hb dX0_ridTold_68 (lv_at hl 1 rfl) ?_
          exact J3 _ (by rw [if_neg c55]; exact mn_out (w := w) hbf c61)
        · refine lv_iload_n hx hb dX0_ridTold_64 rfl (lv_at hl 2 rfl) ?_
          refine lv_goto (tgt := 70) hx hb dX0_ridTold_65 (by decide) ?_
          exact J3 _ (by rw [if_neg c55, (mn_z hbf 4 (by decide)).1 c61]; exact c61)
  · have hk2 : k ≤ 3 := lp_ng (n := 3) rfl (by omega) (by omega) c13
    have hb1 := mn_bd (f := f) (i := (-9, -9)) hbf (Or.inl rfl) k
    have hb2 := hbf k
    refine lv_aload_n hx hb dX0_ridTold_16 rfl (lv_at hl 3 rfl) ?_
    refine lv_iload_n hx hb dX0_ridTold_17 rfl (lv_at hl 4 rfl) ?_
    refine lv_iload hx hb dX0_ridTold_18 (lv_at hl 0 rfl) ?_
    refine va_calli (gx_runV (As := [.int (nI j), .int (nI k)]) (rest := []) S hK ⟨hC, hD⟩ (hC.recv hKK) (cx_freeBy l htr D t Z cb B j (nI k) hOk hj (by have : k = 0 ∨ k = 1 ∨ k = 2 ∨ k = 3 := by { omega }; rcases this with rfl | rfl | rfl | rfl; exact Or.inl ⟨Or.inl rfl, h9⟩; exact Or.inl ⟨Or.inr rfl, h9⟩; exact Or.inr (Or.inl rfl); exact Or.inr (Or.inr rfl))) (cwV 2 hts (lw_V q1033 q1035 qs44 q95 q1036) rfl rfl rfl (by decide +kernel) ⟨Nat.le_of_ble_eq_true rfl, Nat.le_of_ble_eq_true rfl⟩) rfl hl.1 rfl (Nat.le_of_ble_eq_true rfl) dX0_ridTold_20 ⟨Nat.le_of_ble_eq_true rfl, Nat.le_of_ble_eq_true rfl⟩) hS (fun q _ h => Or.inl h) (fun q h => Or.inl h) (fun r20 u20 tt H locs ht _ h20 hW _ _ hS => ?_)
    rw [ht] at hW
    obtain ⟨e1, e2⟩ := h20
    have hW : CW D t Z cb u20 H := hW
    rw [e2] at hW
    obtain ⟨hC, hD⟩ := hW
    refine z_top (y := frN (meS (B 2) j (nI k)) j) e1 ?_
    refine z_top (y := leN61 (f k)) (congrArg leN61 (hf k).symm) ?_
    refine lv_istore (lv' := [(6, .int (leN61 (f k))), (5, .int (nI k)), (4, .int (leN61 (mnL f (-9, -9) k).2)), (3, .int ((mnL f (-9, -9) k).1)), (0, .ref cb), (1, .int (nI j)), (2, .int w)]) hx hb dX0_ridTold_23 hl (by decide) rfl (fun ls hl => ?_)
    refine W.join (fun vJ => F0 m 38 ls (.int vJ :: [])) (fun vJ => vJ = (mnL f (-9, -9) (k + 1)).1) (fun vJ hJ => ?_) (fun J => ?_)
    · subst hJ
      refine lv_istore_n (lv' := [(3, .int ((mnL f (-9, -9) (k + 1)).1)), (6, .int (leN61 (f k))), (5, .int (nI k)), (4, .int (leN61 (mnL f (-9, -9) k).2)), (0, .ref cb), (1, .int (nI j)), (2, .int w)]) hx hb dX0_ridTold_38 rfl hl (by decide) rfl (fun ls hl => ?_)
      refine lv_iload hx hb dX0_ridTold_39 (lv_at hl 3 rfl) ?_
      refine lv_iload hx hb dX0_ridTold_41 (lv_at hl 1 rfl) ?_
      refine va_mmin hx hb (hml.trans hl.1.symm) hown (hts _ q1040) (hts _ q655) (hts _ q119) (hts _ q656) (Nat.le_of_ble_eq_true rfl) (Nat.le_of_ble_eq_true rfl) (Nat.le_of_ble_eq_true rfl) (Nat.le_of_ble_eq_true rfl) dX0_ridTold_43 ?_
      refine z_top (y := leN61 (mnL f (-9, -9) (k + 1)).2) (mn_min hb1 hb2) ?_
      refine lv_istore (lv' := [(4, .int (leN61 (mnL f (-9, -9) (k + 1)).2)), (3, .int ((mnL f (-9, -9) (k + 1)).1)), (6, .int (leN61 (f k))), (5, .int (nI k)), (0, .ref cb), (1, .int (nI j)), (2, .int w)]) hx hb dX0_ridTold_46 hl (by decide) rfl (fun ls hl => ?_)
      refine lv_iinc (v := nI (k + 1)) (lv' := [(5, .int (nI (k + 1))), (4, .int (leN61 (mnL f (-9, -9) (k + 1)).2)), (3, .int ((mnL f (-9, -9) (k + 1)).1)), (6, .int (leN61 (f k))), (0, .ref cb), (1, .int (nI j)), (2, .int w)]) hx hb dX0_ridTold_48 hl (k := 3) rfl (nI_1 k) (by decide) rfl (fun ls hl => ?_)
      refine lv_goto (tgt := 10) hx hb dX0_ridTold_51 (by decide) ?_
      exact ihk (k + 1) H locs ls (by omega) ⟨by omega, trivial, hC, hD, hS, lv_sub hl [0, 1, 2, 4, 5, 6] rfl⟩
    · refine lv_iload hx hb dX0_ridTold_25 (lv_at hl 0 rfl) ?_
      refine lv_iload hx hb dX0_ridTold_27 (lv_at hl 2 rfl) ?_
      refine lv_icmp_ge (tgt := 37) hx hb dX0_ridTold_29 (by decide) (fun c29 => ?_) (fun c29 => ?_)
      · refine lv_iload_n hx hb dX0_ridTold_37 rfl (lv_at hl 3 rfl) ?_
        exact J _ (mn_t1 hb1 hb2 c29)
      · refine lv_iload hx hb dX0_ridTold_32 (lv_at hl 1 rfl) ?_
        refine lv_goto (tgt := 38) hx hb dX0_ridTold_34 (by decide) ?_
        exact J _ (mn_f1 hb1 hb2 c29)
set_option maxHeartbeats 800000 in
theorem cx_songInstead (l : Launch) (htr : l.stackTraces = false) (D : va_G) (t : Nat → ClassId) (Z : Nat × Cell) (cb : Nat) (B : BT) (j : Nat) (hOk : Ok (B 2) 999) (hj : j < nH (B 2)) : Met l yX0_songInstead (ws_ yX0_songInstead cX0_songInstead 8 (some .int)) ({ frames := 8, cells := 0, slots := 0, locals := 177 }) (zPc [.ref cb, .int (nI j)] (CW D t Z cb B) (KX D t Z)) (va_Qi (fun r u => r = (inP (B 2) j).1 ∧ u = B) (fun B' U => CW D t Z cb B' U.heap) (cA cb)) 0 0 (cA cb) := by
  refine zOf (cc := cX0_songInstead) (maxL := 8) (ret := (some .int)) (by decide) (Nat.le_of_ble_eq_true rfl) (fun pg ev s m below meth cd ls F hW hK hl hnm => ?_)
  obtain ⟨hx, hb, hml, hown, hts, hr, hlk⟩ := F
  have S : CallFix pg m cd cX0_songInstead 8 s _ lw_all RX0 := ⟨hx, hb, hml, hown, hts⟩
  have hl : lv_has ls 8 [(0, .ref cb), (1, .int (nI j))] := hl
  have hKK := hK.1
  obtain ⟨hC, hD⟩ := hW
  have hS : va_S (fA (cA cb) s) s.heap s.heap [] := va_S.rf
  have hd0 := hOk.hr0
  have hd8 := hOk.d8
  have hh3 := hOk.hr3
  have hh6 := hOk.h6
  have hs2 := hOk.hr2
  have hs5 := hOk.s5
  have hX := hOk.X
  obtain ⟨rd, hrd⟩ : ∃ z, z = rdS (B 2) j := ⟨_, rfl⟩
  have hbd : BD rd := by rw [hrd]; exact rdS_bd
  obtain ⟨f, hf⟩ : ∃ f : Nat → Int32, ∀ i, f i = if nI i = hd (B 2) j 3 then -9 else rdS (geS (B 2) j (nI i)) j := ⟨_, fun _ => rfl⟩
  have hbf : ∀ k, BD (f k) := fun k => by rw [hf]; exact rdS_if
  refine lv_bipush (v := (-9)) hx hb dX0_songInstead_0 (by decide) ?_
  refine lv_istore_n (lv' := [(2, .int (-9)), (0, .ref cb), (1, .int (nI j))]) hx hb dX0_songInstead_2 rfl hl (by decide) rfl (fun ls hl => ?_)
  refine lv_aload_n hx hb dX0_songInstead_3 rfl (lv_at hl 1 rfl) ?_
  refine lv_iload_n hx hb dX0_songInstead_4 rfl (lv_at hl 2 rfl) ?_
  refine lv_iconst (v := 3) hx hb dX0_songInstead_5 (by decide) ?_
  refine va_calli (gx_runV (As := [.int (nI j), .int 3]) (rest := []) S hK ⟨hC, hD⟩ (hC.recv hKK) (cx_freeBy l htr D t Z cb B j 3 hOk hj (Or.inr (Or.inr rfl))) (cwV 2 hts (lw_V q1033 q1035 qs44 q95 q1036) rfl rfl rfl (by decide +kernel) ⟨Nat.le_of_ble_eq_true rfl, Nat.le_of_ble_eq_true rfl⟩) rfl hl.1 rfl (Nat.le_of_ble_eq_true rfl) dX0_songInstead_6 ⟨Nat.le_of_ble_eq_true rfl, Nat.le_of_ble_eq_true rfl⟩) hS (fun q _ h => Or.inl h) (fun q h => Or.inl h) (fun r6 u6 tt H locs ht _ h6 hW _ _ hS => ?_)
  rw [ht] at hW
  obtain ⟨e1, e2⟩ := h6
  have hW : CW D t Z cb u6 H := hW
  rw [e2] at hW
  obtain ⟨hC, hD⟩ := hW
  refine z_top (y := frN (meS (B 2) j 3) j) e1 ?_
  refine z_top (y := leN61 rd) (by show leN61 _ = _; rw [hrd]; rfl) ?_
  refine lv_istore_n (lv' := [(3, .int (leN61 rd)), (2, .int (-9)), (0, .ref cb), (1, .int (nI j))]) hx hb dX0_songInstead_9 rfl hl (by decide) rfl (fun ls hl => ?_)
  have hl : lv_has ls 8 [(3, .int (leN61 (mnL f (-9, rd) 0).2)), (2, .int ((mnL f (-9, rd) 0).1)), (0, .ref cb), (1, .int (nI j))] := hl
  refine lv_iconst (v := 0) hx hb dX0_songInstead_10 (by decide) ?_
  refine lv_istore (lv' := [(4, .int 0), (3, .int (leN61 (mnL f (-9, rd) 0).2)), (2, .int ((mnL f (-9, rd) 0).1)), (0, .ref cb), (1, .int (nI j))]) hx hb dX0_songInstead_11 hl (by decide) rfl (fun ls hl => ?_)
  refine W.loop (σ := Nat) (fun k H locs ls => k ≤ nS (B 2) ∧ (True) ∧ CM D t Z cb B H ∧ ND D t cb H ∧ va_S (fA (cA cb) s) s.heap H locs ∧ lv_has ls 8 [(4, .int (nI k)), (3, .int (leN61 (mnL f (-9, rd) k).2)), (2, .int ((mnL f (-9, rd) k).1)), (0, .ref cb), (1, .int (nI j))]) (fun k => nS (B 2) - k) (fun k H locs ls hIk ihk => ?_) 0 ⟨by omega, trivial, hC, hD, hS, lv_sub hl [0, 1, 2, 3, 4] rfl⟩
  obtain ⟨hk, hEk, hC, hD, hS, hl⟩ := hIk
  refine lv_iload hx hb dX0_songInstead_13 (lv_at hl 0 rfl) ?_
  refine lv_aload_n hx hb dX0_songInstead_15 rfl (lv_at hl 3 rfl) ?_
  refine c_xget (v := .ref (cb + 8)) hx hb hts hown hKK hC 1 (by decide) (Or.inl q284) rfl rfl dX0_songInstead_16 ?_
  refine c_oget (v := .int ((B 2) 2)) hx hb hts hown hKK hC 4 (by decide) (Or.inr ⟨_, q204⟩) rfl (fun _ => rfl) dX0_songInstead_19 ?_
  refine lv_icmp_ge (tgt := 102) hx hb dX0_songInstead_22 (by decide) (fun c22 => ?_) (fun c22 => ?_)
  · obtain rfl : k = nS (B 2) := Nat.le_antisymm hk (lp_end hs2 (by omega) (by omega) c22)
    refine lv_iload_n hx hb dX0_songInstead_102 rfl (lv_at hl 2 rfl) ?_
    exact x_iretC hx hb hr ⟨by rw [show inP (B 2) j = mnL f (-9, rd) (nS (B 2)) by rw [hrd]; exact (mn_ext hf _).symm], rfl⟩ ⟨hC, hD⟩ hS (Nat.le_of_ble_eq_true rfl) (Nat.le_of_ble_eq_true rfl) dX0_songInstead_103 hlk
  · have hk2 : k < nS (B 2) := lp_go hs2 (by omega) (by omega) c22
    have hkv : nI k = -9 ∨ (0 ≤ nI k ∧ nI k < B 2 2) := Or.inr ⟨nI_pos' (by omega), by rw [hs2]; exact nI_lt hk2 (by omega)⟩
    have hb1 := mn_bd (f := f) (i := (-9, rd)) hbf hbd k
    have hb2 := hbf k
    have hog : Ok (geS (B 2) j (nI k)) 999 := Ok_geS hOk hj (Or.inr (hkv.resolve_left (nI_n9 (by omega))))
    refine lv_aload_n hx hb dX0_songInstead_25 rfl (lv_at hl 3 rfl) ?_
    refine va_callr (gx_runV (As := []) (rest := []) S hK ⟨hC, hD⟩ (hC.recv hKK) (cx_openMind l htr D t Z cb B ) (cwV 0 hts (lw_V q971 q973 qs31 q95 q974) rfl rfl rfl (by decide +kernel) ⟨Nat.le_of_ble_eq_true rfl, Nat.le_of_ble_eq_true rfl⟩) rfl hl.1 rfl (Nat.le_of_ble_eq_true rfl) dX0_songInstead_26 ⟨Nat.le_of_ble_eq_true rfl, Nat.le_of_ble_eq_true rfl⟩) hS (fun q _ h => Or.inl h) (fun q h => Or.inl h) (fun u26 a26 tt H locs ht _ _ hW _ _ hS => ?_)
    obtain ⟨sgN, kdN, AN⟩ := u26
    obtain ⟨rfl, hC, hN⟩ := hW
    rw [ht] at hC hN
    have hN : OV D t (cb + 23) (cb + 2) (cb + 70) sgN kdN (B 2) AN H := hN
    refine lv_astore (lv' := [(5, .ref (cb + 23)), (4, .int (nI k)), (3, .int (leN61 (mnL f (-9, rd) k).2)), (2, .int ((mnL f (-9, rd) k).1)), (0, .ref cb), (1, .int (nI j))]) hx hb dX0_songInstead_29 hl (by decide) rfl (fun ls hl => ?_)
    refine W.join (fun vJ => F0 m 48 ls (.int vJ :: [])) (fun vJ => vJ = bI (decide (¬ nI k = hd (B 2) j 3))) (fun vJ hJ => ?_) (fun J1 => ?_)
    · subst hJ
      refine lv_istore (lv' := [(6, .int (bI (decide (¬ nI k = hd (B 2) j 3)))), (5, .ref (cb + 23)), (4, .int (nI k)), (3, .int (leN61 (mnL f (-9, rd) k).2)), (2, .int ((mnL f (-9, rd) k).1)), (0, .ref cb), (1, .int (nI j))]) hx hb dX0_songInstead_48 hl (by decide) rfl (fun ls hl => ?_)
      refine lv_aload hx hb dX0_songInstead_50 (lv_at hl 1 rfl) ?_
      refine lv_iload_n hx hb dX0_songInstead_52 rfl (lv_at hl 6 rfl) ?_
      refine lv_iload hx hb dX0_songInstead_53 (lv_at hl 2 rfl) ?_
      refine va_callv (g_runV (As := [.int (nI j), .int (nI k)]) (rest := []) S hKK hN (hN.recv hKK) (co_X8_get l D t (cb + 23) (cb + 2) (cb + 70) sgN kdN (B 2) AN j (nI k) hX (by omega) (by omega) (by omega) hkv) (cwV 2 hts (lw_V q884 q632 q633 q103 q634) rfl rfl rfl (by decide +kernel) ⟨Nat.le_of_ble_eq_true rfl, Nat.le_of_ble_eq_true rfl⟩) rfl hl.1 rfl (Nat.le_of_ble_eq_true rfl) dX0_songInstead_55 ⟨Nat.le_of_ble_eq_true rfl, Nat.le_of_ble_eq_true rfl⟩) hS (fun q _ h => fM h) (fun q h => fM h) (fun u55 tt H locs ht _ h55 hN _ hq hS => ?_)
      obtain ⟨R55, A55⟩ := u55
      rw [ht] at hN
      have hN : OV D t (cb + 23) (cb + 2) (cb + 70) sgN kdN R55 A55 H := hN
      have h55 : (R55, A55) = (geS (B 2) j (nI k), AN) := h55
      obtain ⟨e1, e2⟩ := Prod.mk.inj h55
      rw [e1, e2] at hN
      have hC := hC.kept hq
      refine lv_iload hx hb dX0_songInstead_58 (lv_at hl 0 rfl) ?_
      refine z_ifeq (tgt := 72) hx hb dX0_songInstead_60 (by decide) (fun c60 => ?_) (fun c60 => ?_)
      · have hv : leN61 (f k) = 61 := by rw [hf, if_pos (Decidable.of_not_not (of_decide_eq_false c60))]; rfl
        refine lv_bipush (v := 61) hx hb dX0_songInstead_72 (by decide) ?_
        refine z_top (y := leN61 (f k)) hv.symm ?_
        refine lv_istore (lv' := [(7, .int (leN61 (f k))), (6, .int (bI (decide (¬ nI k = hd (B 2) j 3)))), (5, .ref (cb + 23)), (4, .int (nI k)), (3, .int (leN61 (mnL f (-9, rd) k).2)), (2, .int ((mnL f (-9, rd) k).1)), (0, .ref cb), (1, .int (nI j))]) hx hb dX0_songInstead_74 hl (by decide) rfl (fun ls hl => ?_)
        refine W.join (fun vJ => F0 m 88 ls (.int vJ :: [])) (fun vJ => vJ = (mnL f (-9, rd) (k + 1)).1) (fun vJ hJ => ?_) (fun J2 => ?_)
        · subst hJ
          refine lv_istore_n (lv' := [(2, .int ((mnL f (-9, rd) (k + 1)).1)), (7, .int (leN61 (f k))), (6, .int (bI (decide (¬ nI k = hd (B 2) j 3)))), (5, .ref (cb + 23)), (4, .int (nI k)), (3, .int (leN61 (mnL f (-9, rd) k).2)), (0, .ref cb), (1, .int (nI j))]) hx hb dX0_songInstead_88 rfl hl (by decide) rfl (fun ls hl => ?_)
          refine lv_iload_n hx hb dX0_songInstead_89 rfl (lv_at hl 5 rfl) ?_
          refine lv_iload hx hb dX0_songInstead_90 (lv_at hl 1 rfl) ?_
          refine va_mmin hx hb (hml.trans hl.1.symm) hown (hts _ q1040) (hts _ q655) (hts _ q119) (hts _ q656) (Nat.le_of_ble_eq_true rfl) (Nat.le_of_ble_eq_true rfl) (Nat.le_of_ble_eq_true rfl) (Nat.le_of_ble_eq_true rfl) dX0_songInstead_92 ?_
          refine z_top (y := leN61 (mnL f (-9, rd) (k + 1)).2) (mn_min hb1 hb2) ?_
          refine lv_istore_n (lv' := [(3, .int (leN61 (mnL f (-9, rd) (k + 1)).2)), (2, .int ((mnL f (-9, rd) (k + 1)).1)), (7, .int (leN61 (f k))), (6, .int (bI (decide (¬ nI k = hd (B 2) j 3)))), (5, .ref (cb + 23)), (4, .int (nI k)), (0, .ref cb), (1, .int (nI j))]) hx hb dX0_songInstead_95 rfl hl (by decide) rfl (fun ls hl => ?_)
          refine lv_iinc (v := nI (k + 1)) (lv' := [(4, .int (nI (k + 1))), (3, .int (leN61 (mnL f (-9, rd) (k + 1)).2)), (2, .int ((mnL f (-9, rd) (k + 1)).1)), (7, .int (leN61 (f k))), (6, .int (bI (decide (¬ nI k = hd (B 2) j 3)))), (5, .ref (cb + 23)), (0, .ref cb), (1, .int (nI j))]) hx hb dX0_songInstead_96 hl (k := 5) rfl (nI_1 k) (by decide) rfl (fun ls hl => ?_)
          refine lv_goto (tgt := 13) hx hb dX0_songInstead_99 (by decide) ?_
          exact ihk (k + 1) H locs ls (by omega) ⟨by omega, trivial, hC, ⟨_, _, _, hN.1⟩, hS, lv_sub hl [0, 1, 2, 6, 7] rfl⟩
        · refine lv_iload hx hb dX0_songInstead_76 (lv_at hl 0 rfl) ?_
          refine lv_iload_n hx hb dX0_songInstead_78 rfl (lv_at hl 4 rfl) ?_
          refine lv_icmp_ge (tgt := 87) hx hb dX0_songInstead_79 (by decide) (fun c79 => ?_) (fun c79 => ?_)
          · refine lv_iload_n hx hb dX0_songInstead_87 rfl (lv_at hl 5 rfl) ?_
            exact J2 _ (mn_t1 hb1 hb2 c79)
          · refine lv_iload hx hb dX0_songInstead_82 (lv_at hl 3 rfl) ?_
            refine lv_goto (tgt := 88) hx hb dX0_songInstead_84 (by decide) ?_
            exact J2 _ (mn_f1 hb1 hb2 c79)
      · have hv : leN61 (f k) = frN (geS (B 2) j (nI k)) j := by rw [hf, if_neg (of_decide_eq_true c60)]; rfl
        refine lv_aload hx hb dX0_songInstead_63 (lv_at hl 1 rfl) ?_
        refine lv_iload_n hx hb dX0_songInstead_65 rfl (lv_at hl 6 rfl) ?_
        refine va_calli (g_runS (As := [.ref (cb + 23), .int (nI j)]) (rest := []) S hKK hN (co_X0_freeIn l D t (cb + 23) (cb + 2) (cb + 70) sgN kdN (geS (B 2) j (nI k)) AN j 999 hog (by omega) (by omega) (by omega) (by rw [nH_eq (geS_off (by omega))]; exact hj)) (va_cwS 2 hts (lw_S q1037 q1038 q95 q1039) rfl rfl rfl (by decide +kernel) ⟨Nat.le_of_ble_eq_true rfl, Nat.le_of_ble_eq_true rfl⟩) rfl hl.1 rfl (Nat.le_of_ble_eq_true rfl) dX0_songInstead_66 ⟨Nat.le_of_ble_eq_true rfl, Nat.le_of_ble_eq_true rfl⟩) hS (fun q _ h => fM h) (fun q h => fM h) (fun r66 u66 tt H locs ht _ h66 hN _ hq hS => ?_)
        obtain ⟨R66, A66⟩ := u66
        rw [ht] at hN
        have hN : OV D t (cb + 23) (cb + 2) (cb + 70) sgN kdN R66 A66 H := hN
        have hC := hC.kept hq
        refine z_top (y := frN (geS (B 2) j (nI k)) j) h66 ?_
        refine lv_goto (tgt := 74) hx hb dX0_songInstead_69 (by decide) ?_
        refine z_top (y := leN61 (f k)) hv.symm ?_
        refine lv_istore (lv' := [(7, .int (leN61 (f k))), (6, .int (bI (decide (¬ nI k = hd (B 2) j 3)))), (5, .ref (cb + 23)), (4, .int (nI k)), (3, .int (leN61 (mnL f (-9, rd) k).2)), (2, .int ((mnL f (-9, rd) k).1)), (0, .ref cb), (1, .int (nI j))]) hx hb dX0_songInstead_74 hl (by decide) rfl (fun ls hl => ?_)
        refine W.join (fun vJ => F0 m 88 ls (.int vJ :: [])) (fun vJ => vJ = (mnL f (-9, rd) (k + 1)).1) (fun vJ hJ => ?_) (fun J2 => ?_)
        · subst hJ
          refine lv_istore_n (lv' := [(2, .int ((mnL f (-9, rd) (k + 1)).1)), (7, .int (leN61 (f k))), (6, .int (bI (decide (¬ nI k = hd (B 2) j 3)))), (5, .ref (cb + 23)), (4, .int (nI k)), (3, .int (leN61 (mnL f (-9, rd) k).2)), (0, .ref cb), (1, .int (nI j))]) hx hb dX0_songInstead_88 rfl hl (by decide) rfl (fun ls hl => ?_)
          refine lv_iload_n hx hb dX0_songInstead_89 rfl (lv_at hl 5 rfl) ?_
          refine lv_iload hx hb dX0_songInstead_90 (lv_at hl 1 rfl) ?_
          refine va_mmin hx hb (hml.trans hl.1.symm) hown (hts _ q1040) (hts _ q655) (hts _ q119) (hts _ q656) (Nat.le_of_ble_eq_true rfl) (Nat.le_of_ble_eq_true rfl) (Nat.le_of_ble_eq_true rfl) (Nat.le_of_ble_eq_true rfl) dX0_songInstead_92 ?_
          refine z_top (y := leN61 (mnL f (-9, rd) (k + 1)).2) (mn_min hb1 hb2) ?_
          refine lv_istore_n (lv' := [(3, .int (leN61 (mnL f (-9, rd) (k + 1)).2)), (2, .int ((mnL f (-9, rd) (k + 1)).1)), (7, .int (leN61 (f k))), (6, .int (bI (decide (¬ nI k = hd (B 2) j 3)))), (5, .ref (cb + 23)), (4, .int (nI k)), (0, .ref cb), (1, .int (nI j))]) hx hb dX0_songInstead_95 rfl hl (by decide) rfl (fun ls hl => ?_)
          refine lv_iinc (v := nI (k + 1)) (lv' := [(4, .int (nI (k + 1))), (3, .int (leN61 (mnL f (-9, rd) (k + 1)).2)), (2, .int ((mnL f (-9, rd) (k + 1)).1)), (7, .int (leN61 (f k))), (6, .int (bI (decide (¬ nI k = hd (B 2) j 3)))), (5, .ref (cb + 23)), (0, .ref cb), (1, .int (nI j))]) hx hb dX0_songInstead_96 hl (k := 5) rfl (nI_1 k) (by decide) rfl (fun ls hl => ?_)
          refine lv_goto (tgt := 13) hx hb dX0_songInstead_99 (by decide) ?_
          exact ihk (k + 1) H locs ls (by omega) ⟨by omega, trivial, hC, ⟨_, _, _, hN.1⟩, hS, lv_sub hl [0, 1, 2, 6, 7] rfl⟩
        · refine lv_iload hx hb dX0_songInstead_76 (lv_at hl 0 rfl) ?_
          refine lv_iload_n hx hb dX0_songInstead_78 rfl (lv_at hl 4 rfl) ?_
          refine lv_icmp_ge (tgt := 87) hx hb dX0_songInstead_79 (by decide) (fun c79 => ?_) (fun c79 => ?_)
          · refine lv_iload_n hx hb dX0_songInstead_87 rfl (lv_at hl 5 rfl) ?_
            exact J2 _ (mn_t1 hb1 hb2 c79)
          · refine lv_iload hx hb dX0_songInstead_82 (lv_at hl 3 rfl) ?_
            refine lv_goto (tgt := 88) hx hb dX0_songInstead_84 (by decide) ?_
            exact J2 _ (mn_f1 hb1 hb2 c79)
    · refine lv_iload hx hb dX0_songInstead_31 (lv_at hl 1 rfl) ?_
      refine lv_aload hx hb dX0_songInstead_33 (lv_at hl 0 rfl) ?_
      refine n_get (v := .ref (cb + 23 + 7)) hx hb hts hown hKK hN.1 10 (by decide) (Or.inr ⟨_, q222⟩) rfl rfl dX0_songInstead_35 ?_
      refine lv_iload_n hx hb dX0_songInstead_38 rfl (lv_at hl 5 rfl) ?_
      refine o_ald hx hb hKK hN.1 7 rfl (k := j) (v := hd (B 2) j 3) rfl (by omega) (by decide) rfl dX0_songInstead_39 ?_
      refine lv_icmp_eq (tgt := 47) hx hb dX0_songInstead_40 (by decide) (fun c40 => ?_) (fun c40 => ?_)
      · refine lv_iconst (v := 0) hx hb dX0_songInstead_47 (by decide) ?_
        exact J1 _ (by rw [decide_eq_false (fun h => h c40)]; rfl)
      · refine lv_iconst (v := 1) hx hb dX0_songInstead_43 (by decide) ?_
        refine lv_goto (tgt := 48) hx hb dX0_songInstead_44 (by decide) ?_
        exact J1 _ (by rw [decide_eq_true c40]; rfl)
