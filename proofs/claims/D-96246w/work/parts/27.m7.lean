/-! THE MODEL's FACE (2): printed by wip/D-96246w/gen/gen_m7.py -/
set_option maxRecDepth 100000
set_option maxHeartbeats 4000000 in
theorem mm_most (l : Launch) (D : va_G) (t : Nat → ClassId) (mb : Nat) (B : BT) (x : Int32) (y : Int32) (z : Int32) (hB : OkB B) : Met l yX9_most (ws_ yX9_most cX9_most 9 (some .int)) ({ frames := 5, cells := 0, slots := 0, locals := 113 }) (zPc [.ref mb, .int x, .int y, .int z] (MW D t mb B) (KK D t)) (va_Qi (fun r B' => r = (mostS B x y z).1 ∧ PE (mostS B x y z).2 B') (fun B' U => MW D t mb B' U.heap) (mA mb)) 0 0 (mA mb) := by
  refine zOf (cc := cX9_most) (maxL := 9) (ret := (some .int)) (by decide) (Nat.le_of_ble_eq_true rfl) (fun pg ev s m below meth cd ls F hP hKK hl hnm => ?_)
  obtain ⟨hx, hb, hml, hown, hts, hr, hlk⟩ := F
  have S : CallFix pg m cd cX9_most 9 s _ lw_all RX9 := ⟨hx, hb, hml, hown, hts⟩
  have hl : lv_has ls 9 [(0, .ref mb), (1, .int x), (2, .int y), (3, .int z)] := hl
  have hS : va_S (mA mb) s.heap s.heap [] := va_S.rf
  have ho := hB.1
  have hj6 := ho.h6
  have hs5 := ho.s5
  have hd8 := ho.d8
  have hh3 := ho.hr3
  have hh6 := ho.h6
  have hd0 := ho.hr0
  refine lv_aload_n hx hb dX9_most_0 rfl (lv_at hl 0 rfl) ?_
  refine W.join (fun vJ => F0 m 19 ls (.int vJ :: [.ref mb])) (fun vJ => vJ = bI (isN (B 2) x)) (fun vJ hJ => ?_) (fun J => ?_)
  · subst hJ
    refine lv_iload_n hx hb dX9_most_19 rfl (lv_at hl 2 rfl) ?_
    refine m_callr (As := [.int (bI (isN (B 2) x)), .int y]) (rest := []) S hKK hP (mm_wrong l D t mb B (isN (B 2) x) y) (cwV 2 hts (lw_V q1458 q1460 qs84 q104 q1461) rfl rfl rfl (by decide +kernel) ⟨Nat.le_of_ble_eq_true rfl, Nat.le_of_ble_eq_true rfl⟩) rfl hl.1 rfl (Nat.le_of_ble_eq_true rfl) dX9_most_20 ⟨Nat.le_of_ble_eq_true rfl, Nat.le_of_ble_eq_true rfl⟩ ?_
    refine lv_istore (lv' := [(4, .int (wrS (isN (B 2) x) y)), (0, .ref mb), (1, .int x), (2, .int y), (3, .int z)]) hx hb dX9_most_23 hl (by decide) rfl (fun ls hl => ?_)
    refine W.join (α := Array Slot) (fun ls => F0 m 42 ls []) (fun ls => lv_has ls 9 [(4, .int (hoN (isN (B 2) x) y z)), (0, .ref mb), (1, .int x), (2, .int y), (3, .int z)]) (fun ls hl => ?_) (fun JL => ?_)
    · refine lv_iload hx hb dX9_most_42 (lv_at hl 0 rfl) ?_
      refine lv_if_eq (tgt := 54) hx hb dX9_most_44 (by decide) (fun c44 => ?_) (fun c44 => ?_)
      · have hw0 : wrS (isN (B 2) x) y = 0 ∧ isI z 2 = true := by unfold hoN at c44; grind
        have hw := wr_ix hw0.1
        refine lv_aload_n hx hb dX9_most_54 rfl (lv_at hl 1 rfl) ?_
        refine m_callv (As := []) (rest := []) S hKK hP hS (mm_begins l D t mb B ) (cwV 0 hts (lw_V q1462 q1464 qs85 q104 q1465) rfl rfl rfl (by decide +kernel) ⟨Nat.le_of_ble_eq_true rfl, Nat.le_of_ble_eq_true rfl⟩) rfl hl.1 rfl (Nat.le_of_ble_eq_true rfl) dX9_most_55 ⟨Nat.le_of_ble_eq_true rfl, Nat.le_of_ble_eq_true rfl⟩ (fun B55 H locs h55 hP hS => ?_)
        have h55 : B55 = upc B 5 (B 2) := h55
        subst h55
        refine lv_bipush (v := (-9)) hx hb dX9_most_58 (by decide) ?_
        refine lv_istore (lv' := [(5, .int (-9)), (4, .int (hoN (isN (B 2) x) y z)), (0, .ref mb), (1, .int x), (2, .int y), (3, .int z)]) hx hb dX9_most_60 hl (by decide) rfl (fun ls hl => ?_)
        refine lv_bipush (v := (-9)) hx hb dX9_most_62 (by decide) ?_
        refine lv_istore (lv' := [(6, .int (-9)), (5, .int (-9)), (4, .int (hoN (isN (B 2) x) y z)), (0, .ref mb), (1, .int x), (2, .int y), (3, .int z)]) hx hb dX9_most_64 hl (by decide) rfl (fun ls hl => ?_)
        refine lv_iconst (v := 0) hx hb dX9_most_66 (by decide) ?_
        refine lv_istore (lv' := [(7, .int 0), (6, .int (-9)), (5, .int (-9)), (4, .int (hoN (isN (B 2) x) y z)), (0, .ref mb), (1, .int x), (2, .int y), (3, .int z)]) hx hb dX9_most_67 hl (by decide) rfl (fun ls hl => ?_)
        refine W.loop (σ := Nat) (fun k H locs ls => k ≤ ix y + 1 ∧ (True) ∧ MW D t mb (grB (upc B 5 (B 2)) k) H ∧ va_S (mA mb) s.heap H locs ∧ lv_has ls 9 [(7, .int (nI k)), (5, .int ((mxL (fun k => haS (hrS (B 2) k) x) (-9, -9) k).1)), (6, .int ((mxL (fun k => haS (hrS (B 2) k) x) (-9, -9) k).2)), (0, .ref mb), (1, .int x), (2, .int y), (3, .int z)]) (fun k => ix y + 1 - k) (fun k H locs ls hIk ihk => ?_) 0 ⟨by omega, trivial, (by rw [show grB (upc B 5 (B 2)) 0 = upc B 5 (B 2) from rfl]; exact hP), hS, lv_sub hl [0, 2, 1, 4, 5, 6, 7] rfl⟩
        obtain ⟨hk, hEk, hP, hS, hl⟩ := hIk
        refine lv_iload hx hb dX9_most_69 (lv_at hl 0 rfl) ?_
        refine lv_iload_n hx hb dX9_most_71 rfl (lv_at hl 5 rfl) ?_
        refine lv_icmp_gt (tgt := 125) hx hb dX9_most_72 (by decide) (fun c72 => ?_) (fun c72 => ?_)
        · obtain rfl : k = ix y + 1 := Nat.le_antisymm hk (lp_gt hw.2.1 (by omega) (by omega) c72)
          refine lv_aload_n hx hb dX9_most_125 rfl (lv_at hl 3 rfl) ?_
          refine m_callv (As := []) (rest := []) S hKK hP hS (mm_ends l D t mb (grB (upc B 5 (B 2)) (ix y + 1)) ) (cwV 0 hts (lw_V q1470 q1472 qs87 q104 q1473) rfl rfl rfl (by decide +kernel) ⟨Nat.le_of_ble_eq_true rfl, Nat.le_of_ble_eq_true rfl⟩) rfl hl.1 rfl (Nat.le_of_ble_eq_true rfl) dX9_most_126 ⟨Nat.le_of_ble_eq_true rfl, Nat.le_of_ble_eq_true rfl⟩ (fun B126 H locs h126 hP hS => ?_)
          have h126 : B126 = upc (grB (upc B 5 (B 2)) (ix y + 1)) 2 ((grB (upc B 5 (B 2)) (ix y + 1)) 5) := h126
          subst h126
          refine W.join (fun vJ => F0 m 140 ls (.int vJ :: [])) (fun vJ => vJ = (if z = 0 then (mxL (fun k => haS (hrS (B 2) k) x) (-9, -9) (ix y + 1)).1 else (mxL (fun k => haS (hrS (B 2) k) x) (-9, -9) (ix y + 1)).2)) (fun vJ hJ => ?_) (fun J3 => ?_)
          · subst hJ
            exact m_iret hx hb hr (ok_close (o := mostS B x y z) (if_pos c44) (PE_gr B (ix y + 1))) hP hS dX9_most_140 hlk
          · refine lv_iload_n hx hb dX9_most_129 rfl (lv_at hl 6 rfl) ?_
            refine lv_if_ne (tgt := 138) hx hb dX9_most_130 (by decide) (fun c130 => ?_) (fun c130 => ?_)
            · refine lv_iload hx hb dX9_most_138 (lv_at hl 2 rfl) ?_
              exact J3 _ (by grind)
            · refine lv_iload hx hb dX9_most_133 (lv_at hl 1 rfl) ?_
              refine lv_goto (tgt := 140) hx hb dX9_most_135 (by decide) ?_
              exact J3 _ (by grind)
        · have hk2 : k ≤ ix y := lp_ng hw.2.1 (by omega) (by omega) c72
          have hok : Ok (grB (upc B 5 (B 2)) k 2) (999 + k) := by rw [grB_2]; exact Ok_hrS ho (by omega)
          have hg2 : grB (upc B 5 (B 2)) k 2 = hrS (B 2) k := grB_2 _ k
          refine lv_aload_n hx hb dX9_most_75 rfl (lv_at hl 3 rfl) ?_
          refine lv_iload_n hx hb dX9_most_76 rfl (lv_at hl 4 rfl) ?_
          refine m_callr (As := [.int x]) (rest := []) S hKK hP (mm_haveIt l D t mb (grB (upc B 5 (B 2)) k) x hok.hr3 hok.h6) (cwV 1 hts (lw_V q1382 q1384 qs74 q104 q1385) rfl rfl rfl (by decide +kernel) ⟨Nat.le_of_ble_eq_true rfl, Nat.le_of_ble_eq_true rfl⟩) rfl hl.1 rfl (Nat.le_of_ble_eq_true rfl) dX9_most_77 ⟨Nat.le_of_ble_eq_true rfl, Nat.le_of_ble_eq_true rfl⟩ ?_
          refine z_top (y := haS (hrS (B 2) k) x) (by rw [hg2]) ?_
          refine lv_istore (lv' := [(8, .int (haS (hrS (B 2) k) x)), (7, .int (nI k)), (5, .int ((mxL (fun k => haS (hrS (B 2) k) x) (-9, -9) k).1)), (6, .int ((mxL (fun k => haS (hrS (B 2) k) x) (-9, -9) k).2)), (0, .ref mb), (1, .int x), (2, .int y), (3, .int z)]) hx hb dX9_most_80 hl (by decide) rfl (fun ls hl => ?_)
          refine W.join (fun vJ => F0 m 96 ls (.int vJ :: [])) (fun vJ => vJ = (mxL (fun k => haS (hrS (B 2) k) x) (-9, -9) (k + 1)).1) (fun vJ hJ => ?_) (fun J => ?_)
          · subst hJ
            refine lv_istore (lv' := [(5, .int ((mxL (fun k => haS (hrS (B 2) k) x) (-9, -9) (k + 1)).1)), (8, .int (haS (hrS (B 2) k) x)), (7, .int (nI k)), (6, .int ((mxL (fun k => haS (hrS (B 2) k) x) (-9, -9) k).2)), (0, .ref mb), (1, .int x), (2, .int y), (3, .int z)]) hx hb dX9_most_96 hl (by decide) rfl (fun ls hl => ?_)
            refine W.join (fun vJ => F0 m 112 ls (.int vJ :: [])) (fun vJ => vJ = (mxL (fun k => haS (hrS (B 2) k) x) (-9, -9) (k + 1)).2) (fun vJ hJ => ?_) (fun J2 => ?_)
            · subst hJ
              refine lv_istore (lv' := [(6, .int ((mxL (fun k => haS (hrS (B 2) k) x) (-9, -9) (k + 1)).2)), (5, .int ((mxL (fun k => haS (hrS (B 2) k) x) (-9, -9) (k + 1)).1)), (8, .int (haS (hrS (B 2) k) x)), (7, .int (nI k)), (0, .ref mb), (1, .int x), (2, .int y), (3, .int z)]) hx hb dX9_most_112 hl (by decide) rfl (fun ls hl => ?_)
              refine lv_aload_n hx hb dX9_most_114 rfl (lv_at hl 4 rfl) ?_
              refine m_calli (As := []) (rest := []) S hKK hP hS (mm_goes l D t mb (grB (upc B 5 (B 2)) k) (999 + k) hok) (cwV 0 hts (lw_V q1438 q1440 qs80 q104 q1441) rfl rfl rfl (by decide +kernel) ⟨Nat.le_of_ble_eq_true rfl, Nat.le_of_ble_eq_true rfl⟩) rfl hl.1 rfl (Nat.le_of_ble_eq_true rfl) dX9_most_115 ⟨Nat.le_of_ble_eq_true rfl, Nat.le_of_ble_eq_true rfl⟩ (fun r115 B115 H locs h115 hP hS => ?_)
              obtain ⟨-, hb115⟩ : _ ∧ B115 = goE (grB (upc B 5 (B 2)) k) := h115
              subst hb115
              refine lv_pop hx hb dX9_most_118 rfl ?_
              refine lv_iinc (v := nI (k + 1)) (lv' := [(7, .int (nI (k + 1))), (6, .int ((mxL (fun k => haS (hrS (B 2) k) x) (-9, -9) (k + 1)).2)), (5, .int ((mxL (fun k => haS (hrS (B 2) k) x) (-9, -9) (k + 1)).1)), (8, .int (haS (hrS (B 2) k) x)), (0, .ref mb), (1, .int x), (2, .int y), (3, .int z)]) hx hb dX9_most_119 hl (k := 3) rfl (nI_1 k) (by decide) rfl (fun ls hl => ?_)
              refine lv_goto (tgt := 69) hx hb dX9_most_122 (by decide) ?_
              exact ihk (k + 1) H locs ls (by omega) ⟨by omega, trivial, (by rw [show grB (upc B 5 (B 2)) (k + 1) = goE (grB (upc B 5 (B 2)) k) from rfl]; exact hP), hS, lv_sub hl [0, 2, 1, 4, 5, 6, 7] rfl⟩
            · refine lv_iload hx hb dX9_most_98 (lv_at hl 1 rfl) ?_
              refine lv_iload hx hb dX9_most_100 (lv_at hl 3 rfl) ?_
              refine lv_icmp_le (tgt := 110) hx hb dX9_most_102 (by decide) (fun c102 => ?_) (fun c102 => ?_)
              · refine lv_iload hx hb dX9_most_110 (lv_at hl 3 rfl) ?_
                exact J2 _ (by simp only [mxL]; grind)
              · refine lv_iload hx hb dX9_most_105 (lv_at hl 1 rfl) ?_
                refine lv_goto (tgt := 112) hx hb dX9_most_107 (by decide) ?_
                exact J2 _ (by simp only [mxL]; grind)
          · refine lv_iload hx hb dX9_most_82 (lv_at hl 0 rfl) ?_
            refine lv_iload hx hb dX9_most_84 (lv_at hl 3 rfl) ?_
            refine lv_icmp_le (tgt := 94) hx hb dX9_most_86 (by decide) (fun c86 => ?_) (fun c86 => ?_)
            · refine lv_iload hx hb dX9_most_94 (lv_at hl 2 rfl) ?_
              exact J _ (by simp only [mxL]; grind)
            · refine lv_iload hx hb dX9_most_89 (lv_at hl 1 rfl) ?_
              refine lv_goto (tgt := 96) hx hb dX9_most_91 (by decide) ?_
              exact J _ (by simp only [mxL]; grind)
      · have hno : rfOk (hoN (isN (B 2) x) y z) := by unfold hoN at c44 ⊢; split; exact rf_m2; exact rf_wr (by grind)
        refine lv_aload_n hx hb dX9_most_47 rfl (lv_at hl 1 rfl) ?_
        refine lv_iload hx hb dX9_most_48 (lv_at hl 0 rfl) ?_
        refine m_calli (As := [.int (hoN (isN (B 2) x) y z)]) (rest := []) S hKK hP hS (mm_refuse l D t mb B (hoN (isN (B 2) x) y z) (ix (-(hoN (isN (B 2) x) y z))) (rf1 hno) (rf2 hno)) (cwV 1 hts (lw_V q1306 q1308 qs60 q104 q1309) rfl rfl rfl (by decide +kernel) ⟨Nat.le_of_ble_eq_true rfl, Nat.le_of_ble_eq_true rfl⟩) rfl hl.1 rfl (Nat.le_of_ble_eq_true rfl) dX9_most_50 ⟨Nat.le_of_ble_eq_true rfl, Nat.le_of_ble_eq_true rfl⟩ (fun r50 B50 H locs h50 hP hS => ?_)
        exact m_iret hx hb hr (rf_close h50 (if_neg c44)) hP hS dX9_most_53 hlk
    · refine lv_iload hx hb dX9_most_25 (lv_at hl 0 rfl) ?_
      refine lv_if_ne (tgt := 42) hx hb dX9_most_27 (by decide) (fun c27 => ?_) (fun c27 => ?_)
      · exact JL ls (by rw [show hoN (isN (B 2) x) y z = wrS (isN (B 2) x) y from (by grind [hoN, isI])]; exact lv_sub hl [0, 1, 2, 3, 4] rfl)
      · refine lv_iload_n hx hb dX9_most_30 rfl (lv_at hl 4 rfl) ?_
        refine lv_iconst (v := 2) hx hb dX9_most_31 (by decide) ?_
        refine m_callS (As := [.int z, .int 2]) (rest := []) S hKK trivial (mm_isIn l D t z 2) (va_cwS 2 hts (lw_S q1330 q1331 q104 q1332) rfl rfl rfl (by decide +kernel) ⟨Nat.le_of_ble_eq_true rfl, Nat.le_of_ble_eq_true rfl⟩) rfl hl.1 rfl (Nat.le_of_ble_eq_true rfl) dX9_most_32 ⟨Nat.le_of_ble_eq_true rfl, Nat.le_of_ble_eq_true rfl⟩ ?_
        refine z_ifne (tgt := 42) hx hb dX9_most_35 (by decide) (fun c35 => ?_) (fun c35 => ?_)
        · exact JL ls (by rw [show hoN (isN (B 2) x) y z = wrS (isN (B 2) x) y from (by grind [hoN, isI])]; exact lv_sub hl [0, 1, 2, 3, 4] rfl)
        · refine lv_bipush (v := (-2)) hx hb dX9_most_38 (by decide) ?_
          refine lv_istore (lv' := [(4, .int (-2)), (0, .ref mb), (1, .int x), (2, .int y), (3, .int z)]) hx hb dX9_most_40 hl (by decide) rfl (fun ls hl => ?_)
          exact JL ls (by rw [show hoN (isN (B 2) x) y z = (-2) from (by grind [hoN, isI])]; exact lv_sub hl [0, 1, 2, 3, 4] rfl)
  · refine lv_iload_n hx hb dX9_most_1 rfl (lv_at hl 1 rfl) ?_
    refine lv_iconst (v := (-1)) hx hb dX9_most_2 (by decide) ?_
    refine lv_icmp_eq (tgt := 14) hx hb dX9_most_3 (by decide) (fun c3 => ?_) (fun c3 => ?_)
    · refine lv_iconst (v := 1) hx hb dX9_most_14 (by decide) ?_
      refine lv_goto (tgt := 19) hx hb dX9_most_15 (by decide) ?_
      exact J _ (by grind [isN, isS, bI])
    · refine lv_aload_n hx hb dX9_most_6 rfl (lv_at hl 0 rfl) ?_
      refine lv_iload_n hx hb dX9_most_7 rfl (lv_at hl 1 rfl) ?_
      refine m_callr (As := [.int x]) (rest := [.ref mb]) S hKK hP (mm_isSong l D t mb B x) (cwV 1 hts (lw_V q1362 q1364 qs70 q104 q1365) rfl rfl rfl (by decide +kernel) ⟨Nat.le_of_ble_eq_true rfl, Nat.le_of_ble_eq_true rfl⟩) rfl hl.1 rfl (Nat.le_of_ble_eq_true rfl) dX9_most_8 ⟨Nat.le_of_ble_eq_true rfl, Nat.le_of_ble_eq_true rfl⟩ ?_
      refine z_ifeq (tgt := 18) hx hb dX9_most_11 (by decide) (fun c11 => ?_) (fun c11 => ?_)
      · refine lv_iconst (v := 0) hx hb dX9_most_18 (by decide) ?_
        exact J _ (by grind [isN, isS, bI])
      · refine lv_iconst (v := 1) hx hb dX9_most_14 (by decide) ?_
        refine lv_goto (tgt := 19) hx hb dX9_most_15 (by decide) ?_
        exact J _ (by grind [isN, isS, bI])
set_option maxHeartbeats 4000000 in
theorem mm_lasts (l : Launch) (D : va_G) (t : Nat → ClassId) (mb : Nat) (B : BT) (x : Int32) (hB : OkB B) : Met l yX9_lasts (ws_ yX9_lasts cX9_lasts 6 (some .int)) ({ frames := 6, cells := 0, slots := 0, locals := 135 }) (zPc [.ref mb, .int x] (MW D t mb B) (KK D t)) (va_Qi (fun r B' => r = (lastS B x).1 ∧ PE (lastS B x).2 B') (fun B' U => MW D t mb B' U.heap) (mA mb)) 0 0 (mA mb) := by
  refine zOf (cc := cX9_lasts) (maxL := 6) (ret := (some .int)) (by decide) (Nat.le_of_ble_eq_true rfl) (fun pg ev s m below meth cd ls F hP hKK hl hnm => ?_)
  obtain ⟨hx, hb, hml, hown, hts, hr, hlk⟩ := F
  have S : CallFix pg m cd cX9_lasts 6 s _ lw_all RX9 := ⟨hx, hb, hml, hown, hts⟩
  have hl : lv_has ls 6 [(0, .ref mb), (1, .int x)] := hl
  have hS : va_S (mA mb) s.heap s.heap [] := va_S.rf
  have ho := hB.1
  have hj6 := ho.h6
  have hs5 := ho.s5
  have hd8 := ho.d8
  have hh3 := ho.hr3
  have hh6 := ho.h6
  have hd0 := ho.hr0
  refine lv_iload_n hx hb dX9_lasts_0 rfl (lv_at hl 1 rfl) ?_
  refine lv_iconst (v := 0) hx hb dX9_lasts_1 (by decide) ?_
  refine lv_bipush (v := 60) hx hb dX9_lasts_2 (by decide) ?_
  refine m_callS (As := [.int x, .int 0, .int 60]) (rest := []) S hKK trivial (mm_within l D t x 0 60) (va_cwS 3 hts (lw_S q1303 q1304 q104 q1305) rfl rfl rfl (by decide +kernel) ⟨Nat.le_of_ble_eq_true rfl, Nat.le_of_ble_eq_true rfl⟩) rfl hl.1 rfl (Nat.le_of_ble_eq_true rfl) dX9_lasts_4 ⟨Nat.le_of_ble_eq_true rfl, Nat.le_of_ble_eq_true rfl⟩ ?_
  refine lv_istore_n (lv' := [(2, .int (wiS x 0 60)), (0, .ref mb), (1, .int x)]) hx hb dX9_lasts_7 rfl hl (by decide) rfl (fun ls hl => ?_)
  refine lv_iload_n hx hb dX9_lasts_8 rfl (lv_at hl 0 rfl) ?_
  refine lv_if_eq (tgt := 18) hx hb dX9_lasts_9 (by decide) (fun c9 => ?_) (fun c9 => ?_)
  · have hh := wi_ix c9
    have hok : Ok (grB (upc B 5 (B 2)) (ix x) 2) (999 + ix x) := by rw [grB_2]; exact Ok_hrS ho (by omega)
    have hg2 : grB (upc B 5 (B 2)) (ix x) 2 = hrS (B 2) (ix x) := grB_2 _ _
    have hgs : grB (upc B 5 (B 2)) (ix x) 2 2 = nI (nS (B 2)) := by rw [hg2, hrS_lo (by omega) (by omega)]; exact ho.hr2
    refine lv_aload_n hx hb dX9_lasts_18 rfl (lv_at hl 1 rfl) ?_
    refine m_callv (As := []) (rest := []) S hKK hP hS (mm_begins l D t mb B ) (cwV 0 hts (lw_V q1462 q1464 qs85 q104 q1465) rfl rfl rfl (by decide +kernel) ⟨Nat.le_of_ble_eq_true rfl, Nat.le_of_ble_eq_true rfl⟩) rfl hl.1 rfl (Nat.le_of_ble_eq_true rfl) dX9_lasts_19 ⟨Nat.le_of_ble_eq_true rfl, Nat.le_of_ble_eq_true rfl⟩ (fun B19 H locs h19 hP hS => ?_)
    have h19 : B19 = upc B 5 (B 2) := h19
    subst h19
    refine lv_aload_n hx hb dX9_lasts_22 rfl (lv_at hl 1 rfl) ?_
    refine lv_iload_n hx hb dX9_lasts_23 rfl (lv_at hl 2 rfl) ?_
    refine z_stk (st' := [.int (nI (ix x)), .ref mb]) (by rw [← show x = nI (ix x) from hh.1]) ?_
    refine m_callv (As := [.int (nI (ix x))]) (rest := []) S hKK hP hS (mm_goesFor l D t mb (upc B 5 (B 2)) 999 (ix x) ho (by omega)) (cwV 1 hts (lw_V q1466 q1468 qs86 q104 q1469) rfl rfl rfl (by decide +kernel) ⟨Nat.le_of_ble_eq_true rfl, Nat.le_of_ble_eq_true rfl⟩) rfl hl.1 rfl (Nat.le_of_ble_eq_true rfl) dX9_lasts_24 ⟨Nat.le_of_ble_eq_true rfl, Nat.le_of_ble_eq_true rfl⟩ (fun B24 H locs h24 hP hS => ?_)
    have h24 : B24 = grB (upc B 5 (B 2)) (ix x) := h24
    subst h24
    refine lv_bipush (v := (-9)) hx hb dX9_lasts_27 (by decide) ?_
    refine lv_istore_n (lv' := [(3, .int (-9)), (2, .int (wiS x 0 60)), (0, .ref mb), (1, .int x)]) hx hb dX9_lasts_29 rfl hl (by decide) rfl (fun ls hl => ?_)
    refine lv_iconst (v := 0) hx hb dX9_lasts_30 (by decide) ?_
    refine lv_istore (lv' := [(4, .int 0), (3, .int (-9)), (2, .int (wiS x 0 60)), (0, .ref mb), (1, .int x)]) hx hb dX9_lasts_31 hl (by decide) rfl (fun ls hl => ?_)
    refine lv_iconst (v := 0) hx hb dX9_lasts_33 (by decide) ?_
    refine lv_istore (lv' := [(5, .int 0), (4, .int 0), (3, .int (-9)), (2, .int (wiS x 0 60)), (0, .ref mb), (1, .int x)]) hx hb dX9_lasts_34 hl (by decide) rfl (fun ls hl => ?_)
    refine W.loopR (fun (k : Nat) ls => k ≤ nS (B 2) ∧ (True) ∧ lv_has ls 6 [(5, .int (nI k)), (3, .int ((mxL (fun i => haS (hrS (B 2) (ix x)) (nI i)) (-9, 0) k).1)), (4, .int ((mxL (fun i => haS (hrS (B 2) (ix x)) (nI i)) (-9, 0) k).2)), (0, .ref mb), (1, .int x)]) (fun k => nS (B 2) - k) (fun k ls hIk ihk => ?_) 0 ⟨by omega, trivial, lv_sub hl [0, 2, 1, 4, 5] rfl⟩
    obtain ⟨hk, hEk, hl⟩ := hIk
    refine lv_iload hx hb dX9_lasts_36 (lv_at hl 0 rfl) ?_
    refine lv_aload_n hx hb dX9_lasts_38 rfl (lv_at hl 3 rfl) ?_
    refine m_get hx hb hts hown hKK hP 1 (by decide) q1248 rfl rfl dX9_lasts_39 ?_
    refine lv_iconst (v := 2) hx hb dX9_lasts_42 (by decide) ?_
    refine m_ald hx hb hKK hP 2 rfl (k := 2) (v := (grB (upc B 5 (B 2)) (ix x)) 2 2) rfl (by omega) (by decide) rfl dX9_lasts_43 ?_
    refine lv_icmp_ge (tgt := 95) hx hb dX9_lasts_44 (by decide) (fun c44 => ?_) (fun c44 => ?_)
    · obtain rfl : k = nS (B 2) := Nat.le_antisymm hk (lp_end hgs (by omega) (by omega) c44)
      refine lv_aload_n hx hb dX9_lasts_95 rfl (lv_at hl 3 rfl) ?_
      refine m_callv (As := []) (rest := []) S hKK hP hS (mm_ends l D t mb (grB (upc B 5 (B 2)) (ix x)) ) (cwV 0 hts (lw_V q1470 q1472 qs87 q104 q1473) rfl rfl rfl (by decide +kernel) ⟨Nat.le_of_ble_eq_true rfl, Nat.le_of_ble_eq_true rfl⟩) rfl hl.1 rfl (Nat.le_of_ble_eq_true rfl) dX9_lasts_96 ⟨Nat.le_of_ble_eq_true rfl, Nat.le_of_ble_eq_true rfl⟩ (fun B96 H locs h96 hP hS => ?_)
      have h96 : B96 = upc (grB (upc B 5 (B 2)) (ix x)) 2 ((grB (upc B 5 (B 2)) (ix x)) 5) := h96
      subst h96
      refine lv_iload_n hx hb dX9_lasts_99 rfl (lv_at hl 1 rfl) ?_
      exact m_iret hx hb hr (ok_close (o := lastS B x) (if_pos c9) (PE_gr B (ix x))) hP hS dX9_lasts_100 hlk
    · have hk2 : k < nS (B 2) := lp_go hgs (by omega) (by omega) c44
      refine W.join (fun vJ => F0 m 64 ls (.int vJ :: [])) (fun vJ => vJ = (mxL (fun i => haS (hrS (B 2) (ix x)) (nI i)) (-9, 0) (k + 1)).1) (fun vJ hJ => ?_) (fun J => ?_)
      · subst hJ
        refine lv_istore_n (lv' := [(3, .int ((mxL (fun i => haS (hrS (B 2) (ix x)) (nI i)) (-9, 0) (k + 1)).1)), (5, .int (nI k)), (4, .int ((mxL (fun i => haS (hrS (B 2) (ix x)) (nI i)) (-9, 0) k).2)), (0, .ref mb), (1, .int x)]) hx hb dX9_lasts_64 rfl hl (by decide) rfl (fun ls hl => ?_)
        refine W.join (fun vJ => F0 m 87 ls (.int vJ :: [])) (fun vJ => vJ = (mxL (fun i => haS (hrS (B 2) (ix x)) (nI i)) (-9, 0) (k + 1)).2) (fun vJ hJ => ?_) (fun J2 => ?_)
        · subst hJ
          refine lv_istore (lv' := [(4, .int ((mxL (fun i => haS (hrS (B 2) (ix x)) (nI i)) (-9, 0) (k + 1)).2)), (3, .int ((mxL (fun i => haS (hrS (B 2) (ix x)) (nI i)) (-9, 0) (k + 1)).1)), (5, .int (nI k)), (0, .ref mb), (1, .int x)]) hx hb dX9_lasts_87 hl (by decide) rfl (fun ls hl => ?_)
          refine lv_iinc (v := nI (k + 1)) (lv' := [(5, .int (nI (k + 1))), (4, .int ((mxL (fun i => haS (hrS (B 2) (ix x)) (nI i)) (-9, 0) (k + 1)).2)), (3, .int ((mxL (fun i => haS (hrS (B 2) (ix x)) (nI i)) (-9, 0) (k + 1)).1)), (0, .ref mb), (1, .int x)]) hx hb dX9_lasts_89 hl (k := 2) rfl (nI_1 k) (by decide) rfl (fun ls hl => ?_)
          refine lv_goto (tgt := 36) hx hb dX9_lasts_92 (by decide) ?_
          exact ihk (k + 1) ls (by omega) ⟨by omega, trivial, lv_sub hl [0, 2, 1, 3, 4] rfl⟩
        · refine lv_aload_n hx hb dX9_lasts_65 rfl (lv_at hl 3 rfl) ?_
          refine lv_iload hx hb dX9_lasts_66 (lv_at hl 1 rfl) ?_
          refine m_callr (As := [.int (nI k)]) (rest := []) S hKK hP (mm_haveIt l D t mb (grB (upc B 5 (B 2)) (ix x)) (nI k) hok.hr3 hok.h6) (cwV 1 hts (lw_V q1382 q1384 qs74 q104 q1385) rfl rfl rfl (by decide +kernel) ⟨Nat.le_of_ble_eq_true rfl, Nat.le_of_ble_eq_true rfl⟩) rfl hl.1 rfl (Nat.le_of_ble_eq_true rfl) dX9_lasts_68 ⟨Nat.le_of_ble_eq_true rfl, Nat.le_of_ble_eq_true rfl⟩ ?_
          refine z_top (y := haS (hrS (B 2) (ix x)) (nI k)) (by rw [hg2]) ?_
          refine lv_iload hx hb dX9_lasts_71 (lv_at hl 2 rfl) ?_
          refine lv_icmp_le (tgt := 85) hx hb dX9_lasts_73 (by decide) (fun c73 => ?_) (fun c73 => ?_)
          · refine lv_iload hx hb dX9_lasts_85 (lv_at hl 2 rfl) ?_
            exact J2 _ (by simp only [mxL]; grind)
          · refine lv_aload_n hx hb dX9_lasts_76 rfl (lv_at hl 3 rfl) ?_
            refine lv_iload hx hb dX9_lasts_77 (lv_at hl 1 rfl) ?_
            refine m_callr (As := [.int (nI k)]) (rest := []) S hKK hP (mm_haveIt l D t mb (grB (upc B 5 (B 2)) (ix x)) (nI k) hok.hr3 hok.h6) (cwV 1 hts (lw_V q1382 q1384 qs74 q104 q1385) rfl rfl rfl (by decide +kernel) ⟨Nat.le_of_ble_eq_true rfl, Nat.le_of_ble_eq_true rfl⟩) rfl hl.1 rfl (Nat.le_of_ble_eq_true rfl) dX9_lasts_79 ⟨Nat.le_of_ble_eq_true rfl, Nat.le_of_ble_eq_true rfl⟩ ?_
            refine z_top (y := haS (hrS (B 2) (ix x)) (nI k)) (by rw [hg2]) ?_
            refine lv_goto (tgt := 87) hx hb dX9_lasts_82 (by decide) ?_
            exact J2 _ (by simp only [mxL]; grind)
      · refine lv_aload_n hx hb dX9_lasts_47 rfl (lv_at hl 3 rfl) ?_
        refine lv_iload hx hb dX9_lasts_48 (lv_at hl 0 rfl) ?_
        refine m_callr (As := [.int (nI k)]) (rest := []) S hKK hP (mm_haveIt l D t mb (grB (upc B 5 (B 2)) (ix x)) (nI k) hok.hr3 hok.h6) (cwV 1 hts (lw_V q1382 q1384 qs74 q104 q1385) rfl rfl rfl (by decide +kernel) ⟨Nat.le_of_ble_eq_true rfl, Nat.le_of_ble_eq_true rfl⟩) rfl hl.1 rfl (Nat.le_of_ble_eq_true rfl) dX9_lasts_50 ⟨Nat.le_of_ble_eq_true rfl, Nat.le_of_ble_eq_true rfl⟩ ?_
        refine z_top (y := haS (hrS (B 2) (ix x)) (nI k)) (by rw [hg2]) ?_
        refine lv_iload hx hb dX9_lasts_53 (lv_at hl 2 rfl) ?_
        refine lv_icmp_le (tgt := 63) hx hb dX9_lasts_55 (by decide) (fun c55 => ?_) (fun c55 => ?_)
        · refine lv_iload_n hx hb dX9_lasts_63 rfl (lv_at hl 1 rfl) ?_
          exact J _ (by simp only [mxL]; grind)
        · refine lv_iload hx hb dX9_lasts_58 (lv_at hl 0 rfl) ?_
          refine lv_goto (tgt := 64) hx hb dX9_lasts_60 (by decide) ?_
          exact J _ (by simp only [mxL]; grind)
  · have hno := rf_wi c9
    refine lv_aload_n hx hb dX9_lasts_12 rfl (lv_at hl 1 rfl) ?_
    refine lv_iload_n hx hb dX9_lasts_13 rfl (lv_at hl 0 rfl) ?_
    refine m_calli (As := [.int (wiS x 0 60)]) (rest := []) S hKK hP hS (mm_refuse l D t mb B (wiS x 0 60) (ix (-(wiS x 0 60))) (rf1 hno) (rf2 hno)) (cwV 1 hts (lw_V q1306 q1308 qs60 q104 q1309) rfl rfl rfl (by decide +kernel) ⟨Nat.le_of_ble_eq_true rfl, Nat.le_of_ble_eq_true rfl⟩) rfl hl.1 rfl (Nat.le_of_ble_eq_true rfl) dX9_lasts_14 ⟨Nat.le_of_ble_eq_true rfl, Nat.le_of_ble_eq_true rfl⟩ (fun r14 B14 H locs h14 hP hS => ?_)
    exact m_iret hx hb hr (rf_close h14 (if_neg c9)) hP hS dX9_lasts_17 hlk
set_option maxHeartbeats 4000000 in
theorem mm_wentBy (l : Launch) (D : va_G) (t : Nat → ClassId) (mb : Nat) (B : BT) (x y : Int32) (b : Bool) (hB : OkB B) : Met l yX9_wentBy (ws_ yX9_wentBy cX9_wentBy 6 (some .int)) ({ frames := 6, cells := 0, slots := 0, locals := 135 }) (zPc [.ref mb, .int x, .int y, .int (bI b)] (MW D t mb B) (KK D t)) (va_Qi (fun r B' => r = (fromS B x y b).1 ∧ PE (fromS B x y b).2 B') (fun B' U => MW D t mb B' U.heap) (mA mb)) 0 0 (mA mb) := by
  refine zOf (cc := cX9_wentBy) (maxL := 6) (ret := (some .int)) (by decide) (Nat.le_of_ble_eq_true rfl) (fun pg ev s m below meth cd ls F hP hKK hl hnm => ?_)
  obtain ⟨hx, hb, hml, hown, hts, hr, hlk⟩ := F
  have S : CallFix pg m cd cX9_wentBy 6 s _ lw_all RX9 := ⟨hx, hb, hml, hown, hts⟩
  have hl : lv_has ls 6 [(0, .ref mb), (1, .int x), (2, .int y), (3, .int (bI b))] := hl
  have hS : va_S (mA mb) s.heap s.heap [] := va_S.rf
  have ho := hB.1
  have hj6 := ho.h6
  have hs5 := ho.s5
  have hd8 := ho.d8
  have hh3 := ho.hr3
  have hh6 := ho.h6
  have hd0 := ho.hr0
  refine lv_aload_n hx hb dX9_wentBy_0 rfl (lv_at hl 0 rfl) ?_
  refine lv_aload_n hx hb dX9_wentBy_1 rfl (lv_at hl 0 rfl) ?_
  refine lv_iload_n hx hb dX9_wentBy_2 rfl (lv_at hl 1 rfl) ?_
  refine m_callr (As := [.int x]) (rest := [.ref mb]) S hKK hP (mm_isHead l D t mb B x) (cwV 1 hts (lw_V q1358 q1360 qs69 q104 q1361) rfl rfl rfl (by decide +kernel) ⟨Nat.le_of_ble_eq_true rfl, Nat.le_of_ble_eq_true rfl⟩) rfl hl.1 rfl (Nat.le_of_ble_eq_true rfl) dX9_wentBy_3 ⟨Nat.le_of_ble_eq_true rfl, Nat.le_of_ble_eq_true rfl⟩ ?_
  refine lv_iload_n hx hb dX9_wentBy_6 rfl (lv_at hl 2 rfl) ?_
  refine m_callr (As := [.int (bI (decide (0 ≤ x ∧ x < B 2 3))), .int y]) (rest := []) S hKK hP (mm_wrong l D t mb B (decide (0 ≤ x ∧ x < B 2 3)) y) (cwV 2 hts (lw_V q1458 q1460 qs84 q104 q1461) rfl rfl rfl (by decide +kernel) ⟨Nat.le_of_ble_eq_true rfl, Nat.le_of_ble_eq_true rfl⟩) rfl hl.1 rfl (Nat.le_of_ble_eq_true rfl) dX9_wentBy_7 ⟨Nat.le_of_ble_eq_true rfl, Nat.le_of_ble_eq_true rfl⟩ ?_
  refine z_top (y := wrS (isH (B 2) x) y) rfl ?_
  refine lv_istore (lv' := [(4, .int (wrS (isH (B 2) x) y)), (0, .ref mb), (1, .int x), (2, .int y), (3, .int (bI b))]) hx hb dX9_wentBy_10 hl (by decide) rfl (fun ls hl => ?_)
  refine lv_iload hx hb dX9_wentBy_12 (lv_at hl 0 rfl) ?_
  refine lv_if_eq (tgt := 24) hx hb dX9_wentBy_14 (by decide) (fun c14 => ?_) (fun c14 => ?_)
  · have hw := wr_ix c14
    have hh := isH_ix ho hw.1
    have hg2 : grB (upc (upc (upc B 5 (B 2)) 8 (tk 6 nI (B 8))) 9 (tk 6 nI (B 9))) (ix y) 2 = hrS (B 2) (ix y) := grB_2 _ _
    have hg89 := grB_89 (upc (upc (upc B 5 (B 2)) 8 (tk 6 nI (B 8))) 9 (tk 6 nI (B 9))) (ix y)
    refine lv_aload_n hx hb dX9_wentBy_24 rfl (lv_at hl 1 rfl) ?_
    refine m_callv (As := []) (rest := []) S hKK hP hS (mm_starts l D t mb B ) (cwV 0 hts (lw_V q1506 q1508 qs90 q104 q1509) rfl rfl rfl (by decide +kernel) ⟨Nat.le_of_ble_eq_true rfl, Nat.le_of_ble_eq_true rfl⟩) rfl hl.1 rfl (Nat.le_of_ble_eq_true rfl) dX9_wentBy_25 ⟨Nat.le_of_ble_eq_true rfl, Nat.le_of_ble_eq_true rfl⟩ (fun B25 H locs h25 hP hS => ?_)
    have h25 : B25 = upc (upc (upc B 5 (B 2)) 8 (tk 6 nI (B 8))) 9 (tk 6 nI (B 9)) := h25
    subst h25
    refine lv_aload_n hx hb dX9_wentBy_28 rfl (lv_at hl 1 rfl) ?_
    refine lv_iload_n hx hb dX9_wentBy_29 rfl (lv_at hl 3 rfl) ?_
    refine z_stk (st' := [.int (nI (ix y)), .ref mb]) (by rw [← show y = nI (ix y) from hw.2.1]) ?_
    refine m_callv (As := [.int (nI (ix y))]) (rest := []) S hKK hP hS (mm_goesFor l D t mb (upc (upc (upc B 5 (B 2)) 8 (tk 6 nI (B 8))) 9 (tk 6 nI (B 9))) 999 (ix y) ho (by omega)) (cwV 1 hts (lw_V q1466 q1468 qs86 q104 q1469) rfl rfl rfl (by decide +kernel) ⟨Nat.le_of_ble_eq_true rfl, Nat.le_of_ble_eq_true rfl⟩) rfl hl.1 rfl (Nat.le_of_ble_eq_true rfl) dX9_wentBy_30 ⟨Nat.le_of_ble_eq_true rfl, Nat.le_of_ble_eq_true rfl⟩ (fun B30 H locs h30 hP hS => ?_)
    have h30 : B30 = grB (upc (upc (upc B 5 (B 2)) 8 (tk 6 nI (B 8))) 9 (tk 6 nI (B 9))) (ix y) := h30
    subst h30
    refine W.join (fun vJ => F0 m 66 ls (.int vJ :: [])) (fun vJ => vJ = fromV (B 2) x y b) (fun vJ hJ => ?_) (fun J => ?_)
    · subst hJ
      refine lv_istore (lv' := [(5, .int (fromV (B 2) x y b)), (4, .int (wrS (isH (B 2) x) y)), (0, .ref mb), (1, .int x), (2, .int y), (3, .int (bI b))]) hx hb dX9_wentBy_66 hl (by decide) rfl (fun ls hl => ?_)
      refine lv_aload_n hx hb dX9_wentBy_68 rfl (lv_at hl 2 rfl) ?_
      refine m_callv (As := []) (rest := []) S hKK hP hS (mm_ends l D t mb (grB (upc (upc (upc B 5 (B 2)) 8 (tk 6 nI (B 8))) 9 (tk 6 nI (B 9))) (ix y)) ) (cwV 0 hts (lw_V q1470 q1472 qs87 q104 q1473) rfl rfl rfl (by decide +kernel) ⟨Nat.le_of_ble_eq_true rfl, Nat.le_of_ble_eq_true rfl⟩) rfl hl.1 rfl (Nat.le_of_ble_eq_true rfl) dX9_wentBy_69 ⟨Nat.le_of_ble_eq_true rfl, Nat.le_of_ble_eq_true rfl⟩ (fun B69 H locs h69 hP hS => ?_)
      have h69 : B69 = upc (grB (upc (upc (upc B 5 (B 2)) 8 (tk 6 nI (B 8))) 9 (tk 6 nI (B 9))) (ix y)) 2 ((grB (upc (upc (upc B 5 (B 2)) 8 (tk 6 nI (B 8))) 9 (tk 6 nI (B 9))) (ix y)) 5) := h69
      subst h69
      refine lv_iload hx hb dX9_wentBy_72 (lv_at hl 0 rfl) ?_
      exact m_iret hx hb hr (ok_close (o := fromS B x y b) (if_pos c14) (PE_st B (ix y))) hP hS dX9_wentBy_74 hlk
    · refine lv_aload_n hx hb dX9_wentBy_33 rfl (lv_at hl 1 rfl) ?_
      refine lv_iload_n hx hb dX9_wentBy_34 rfl (lv_at hl 2 rfl) ?_
      refine lv_iconst (v := 3) hx hb dX9_wentBy_35 (by decide) ?_
      refine z_stk (st' := [.int 3, .int (nI (ix x)), .ref mb]) (by rw [← show x = nI (ix x) from hh.1]) ?_
      refine m_callr (As := [.int (nI (ix x)), .int 3]) (rest := []) S hKK hP (mm_at l D t mb (grB (upc (upc (upc B 5 (B 2)) 8 (tk 6 nI (B 8))) 9 (tk 6 nI (B 9))) (ix y)) (ix x) 3 (by omega)) (cwV 2 hts (lw_V q1386 q1388 qs75 q104 q1389) rfl rfl rfl (by decide +kernel) ⟨Nat.le_of_ble_eq_true rfl, Nat.le_of_ble_eq_true rfl⟩) rfl hl.1 rfl (Nat.le_of_ble_eq_true rfl) dX9_wentBy_36 ⟨Nat.le_of_ble_eq_true rfl, Nat.le_of_ble_eq_true rfl⟩ ?_
      refine z_top (y := hd (hrS (B 2) (ix y)) (ix x) 3) (by rw [hg2]) ?_
      refine lv_if_ge (tgt := 47) hx hb dX9_wentBy_39 (by decide) (fun c39 => ?_) (fun c39 => ?_)
      · refine lv_iload_n hx hb dX9_wentBy_47 rfl (lv_at hl 4 rfl) ?_
        refine z_ifeq (tgt := 60) hx hb dX9_wentBy_48 (by decide) (fun c48 => ?_) (fun c48 => ?_)
        · refine lv_aload_n hx hb dX9_wentBy_60 rfl (lv_at hl 1 rfl) ?_
          refine m_get hx hb hts hown hKK hP 8 (by decide) q1255 rfl rfl dX9_wentBy_61 ?_
          refine lv_iload_n hx hb dX9_wentBy_64 rfl (lv_at hl 2 rfl) ?_
          refine m_ald hx hb hKK hP 8 rfl (k := ix x) (v := (fgS (B 2) nI nI (ix y)).1 (ix x)) hh.1 (by omega) (by decide) (by rw [hg89.1]; exact (fgS_lt ho hj6 (fun j hj => tk_lt hj) (fun j hj => tk_lt hj) (ix y) (ix x) (by omega)).1) dX9_wentBy_65 ?_
          exact J _ (by unfold fromV; grind)
        · refine lv_aload_n hx hb dX9_wentBy_51 rfl (lv_at hl 1 rfl) ?_
          refine m_get hx hb hts hown hKK hP 9 (by decide) q1256 rfl rfl dX9_wentBy_52 ?_
          refine lv_iload_n hx hb dX9_wentBy_55 rfl (lv_at hl 2 rfl) ?_
          refine m_ald hx hb hKK hP 9 rfl (k := ix x) (v := (fgS (B 2) nI nI (ix y)).2 (ix x)) hh.1 (by omega) (by decide) (by rw [hg89.2]; exact (fgS_lt ho hj6 (fun j hj => tk_lt hj) (fun j hj => tk_lt hj) (ix y) (ix x) (by omega)).2) dX9_wentBy_56 ?_
          refine lv_goto (tgt := 66) hx hb dX9_wentBy_57 (by decide) ?_
          exact J _ (by unfold fromV; grind)
      · refine lv_bipush (v := (-9)) hx hb dX9_wentBy_42 (by decide) ?_
        refine lv_goto (tgt := 66) hx hb dX9_wentBy_44 (by decide) ?_
        exact J _ (by unfold fromV; grind)
  · have hno := rf_wr c14
    refine lv_aload_n hx hb dX9_wentBy_17 rfl (lv_at hl 1 rfl) ?_
    refine lv_iload hx hb dX9_wentBy_18 (lv_at hl 0 rfl) ?_
    refine m_calli (As := [.int (wrS (isH (B 2) x) y)]) (rest := []) S hKK hP hS (mm_refuse l D t mb B (wrS (isH (B 2) x) y) (ix (-(wrS (isH (B 2) x) y))) (rf1 hno) (rf2 hno)) (cwV 1 hts (lw_V q1306 q1308 qs60 q104 q1309) rfl rfl rfl (by decide +kernel) ⟨Nat.le_of_ble_eq_true rfl, Nat.le_of_ble_eq_true rfl⟩) rfl hl.1 rfl (Nat.le_of_ble_eq_true rfl) dX9_wentBy_20 ⟨Nat.le_of_ble_eq_true rfl, Nat.le_of_ble_eq_true rfl⟩ (fun r20 B20 H locs h20 hP hS => ?_)
    exact m_iret hx hb hr (rf_close h20 (if_neg c14)) hP hS dX9_wentBy_23 hlk
set_option maxHeartbeats 4000000 in
theorem mm_from (l : Launch) (D : va_G) (t : Nat → ClassId) (mb : Nat) (B : BT) (x : Int32) (y : Int32) (hB : OkB B) : Met l yX9_from (ws_ yX9_from cX9_from 3 (some .int)) ({ frames := 7, cells := 0, slots := 0, locals := 160 }) (zPc [.ref mb, .int x, .int y] (MW D t mb B) (KK D t)) (va_Qi (fun r B' => r = (fromS B x y false).1 ∧ PE (fromS B x y false).2 B') (fun B' U => MW D t mb B' U.heap) (mA mb)) 0 0 (mA mb) := by
  refine zOf (cc := cX9_from) (maxL := 3) (ret := (some .int)) (by decide) (Nat.le_of_ble_eq_true rfl) (fun pg ev s m below meth cd ls F hP hKK hl hnm => ?_)
  obtain ⟨hx, hb, hml, hown, hts, hr, hlk⟩ := F
  have S : CallFix pg m cd cX9_from 3 s _ lw_all RX9 := ⟨hx, hb, hml, hown, hts⟩
  have hl : lv_has ls 3 [(0, .ref mb), (1, .int x), (2, .int y)] := hl
  have hS : va_S (mA mb) s.heap s.heap [] := va_S.rf
  refine lv_aload_n hx hb dX9_from_0 rfl (lv_at hl 0 rfl) ?_
  refine lv_iload_n hx hb dX9_from_1 rfl (lv_at hl 1 rfl) ?_
  refine lv_iload_n hx hb dX9_from_2 rfl (lv_at hl 2 rfl) ?_
  refine lv_iconst (v := 0) hx hb dX9_from_3 (by decide) ?_
  refine m_calli (As := [.int x, .int y, .int (bI false)]) (rest := []) S hKK hP hS (mm_wentBy l D t mb B x y false hB) (cwV 3 hts (lw_V q1502 q1504 qs89 q104 q1505) rfl rfl rfl (by decide +kernel) ⟨Nat.le_of_ble_eq_true rfl, Nat.le_of_ble_eq_true rfl⟩) rfl hl.1 rfl (Nat.le_of_ble_eq_true rfl) dX9_from_4 ⟨Nat.le_of_ble_eq_true rfl, Nat.le_of_ble_eq_true rfl⟩ (fun r4 B4 H locs h4 hP hS => ?_)
  exact m_iret hx hb hr h4 hP hS dX9_from_7 hlk
set_option maxHeartbeats 4000000 in
theorem mm_first (l : Launch) (D : va_G) (t : Nat → ClassId) (mb : Nat) (B : BT) (x : Int32) (y : Int32) (hB : OkB B) : Met l yX9_first (ws_ yX9_first cX9_first 3 (some .int)) ({ frames := 7, cells := 0, slots := 0, locals := 160 }) (zPc [.ref mb, .int x, .int y] (MW D t mb B) (KK D t)) (va_Qi (fun r B' => r = (fromS B x y true).1 ∧ PE (fromS B x y true).2 B') (fun B' U => MW D t mb B' U.heap) (mA mb)) 0 0 (mA mb) := by
  refine zOf (cc := cX9_first) (maxL := 3) (ret := (some .int)) (by decide) (Nat.le_of_ble_eq_true rfl) (fun pg ev s m below meth cd ls F hP hKK hl hnm => ?_)
  obtain ⟨hx, hb, hml, hown, hts, hr, hlk⟩ := F
  have S : CallFix pg m cd cX9_first 3 s _ lw_all RX9 := ⟨hx, hb, hml, hown, hts⟩
  have hl : lv_has ls 3 [(0, .ref mb), (1, .int x), (2, .int y)] := hl
  have hS : va_S (mA mb) s.heap s.heap [] := va_S.rf
  refine lv_aload_n hx hb dX9_first_0 rfl (lv_at hl 0 rfl) ?_
  refine lv_iload_n hx hb dX9_first_1 rfl (lv_at hl 1 rfl) ?_
  refine lv_iload_n hx hb dX9_first_2 rfl (lv_at hl 2 rfl) ?_
  refine lv_iconst (v := 1) hx hb dX9_first_3 (by decide) ?_
  refine m_calli (As := [.int x, .int y, .int (bI true)]) (rest := []) S hKK hP hS (mm_wentBy l D t mb B x y true hB) (cwV 3 hts (lw_V q1502 q1504 qs89 q104 q1505) rfl rfl rfl (by decide +kernel) ⟨Nat.le_of_ble_eq_true rfl, Nat.le_of_ble_eq_true rfl⟩) rfl hl.1 rfl (Nat.le_of_ble_eq_true rfl) dX9_first_4 ⟨Nat.le_of_ble_eq_true rfl, Nat.le_of_ble_eq_true rfl⟩ (fun r4 B4 H locs h4 hP hS => ?_)
  exact m_iret hx hb hr h4 hP hS dX9_first_7 hlk
set_option maxHeartbeats 4000000 in
theorem mm_ridOf (l : Launch) (D : va_G) (t : Nat → ClassId) (mb : Nat) (B : BT) (N j : Nat) (ho : Ok (B 2) N) (hN : N ≤ 999) (hj : j < nH (B 2)) : Met l yX9_ridOf (ws_ yX9_ridOf cX9_ridOf 4 (some .int)) ({ frames := 5, cells := 0, slots := 0, locals := 113 }) (zPc [.ref mb, .int (nI j)] (MW D t mb B) (KK D t)) (va_Qi (fun r B' => r = rdS (B 2) j ∧ SC B B') (fun B' U => MW D t mb B' U.heap) (mA mb)) 0 0 (mA mb) := by
  refine zOf (cc := cX9_ridOf) (maxL := 4) (ret := (some .int)) (by decide) (Nat.le_of_ble_eq_true rfl) (fun pg ev s m below meth cd ls F hP hKK hl hnm => ?_)
  obtain ⟨hx, hb, hml, hown, hts, hr, hlk⟩ := F
  have S : CallFix pg m cd cX9_ridOf 4 s _ lw_all RX9 := ⟨hx, hb, hml, hown, hts⟩
  have hl : lv_has ls 4 [(0, .ref mb), (1, .int (nI j))] := hl
  have hS : va_S (mA mb) s.heap s.heap [] := va_S.rf
  have hj6 := ho.h6
  refine lv_bipush (v := (-9)) hx hb dX9_ridOf_0 (by decide) ?_
  refine lv_istore_n (lv' := [(2, .int (-9)), (0, .ref mb), (1, .int (nI j))]) hx hb dX9_ridOf_2 rfl hl (by decide) rfl (fun ls hl => ?_)
  refine lv_iconst (v := 0) hx hb dX9_ridOf_3 (by decide) ?_
  refine lv_istore_n (lv' := [(3, .int 0), (2, .int (-9)), (0, .ref mb), (1, .int (nI j))]) hx hb dX9_ridOf_4 rfl hl (by decide) rfl (fun ls hl => ?_)
  refine W.loop (σ := Nat) (fun k H locs ls => k ≤ 61 ∧ (True) ∧ MW D t mb (grB B k) H ∧ va_S (mA mb) s.heap H locs ∧ lv_has ls 4 [(3, .int (nI k)), (2, .int (fdS (fun n => decide (hd (hrS (B 2) n) j 3 < 0)) k)), (0, .ref mb), (1, .int (nI j))]) (fun k => 61 - k) (fun k H locs ls hIk ihk => ?_) 0 ⟨by omega, trivial, (by rw [show grB B 0 = B from rfl]; exact hP), hS, lv_sub hl [0, 1, 2, 3] rfl⟩
  obtain ⟨hk, hEk, hP, hS, hl⟩ := hIk
  refine lv_iload_n hx hb dX9_ridOf_5 rfl (lv_at hl 0 rfl) ?_
  refine lv_bipush (v := 60) hx hb dX9_ridOf_6 (by decide) ?_
  refine lv_icmp_gt (tgt := 42) hx hb dX9_ridOf_8 (by decide) (fun c8 => ?_) (fun c8 => ?_)
  · obtain rfl : k = 61 := Nat.le_antisymm hk (lp_gt (n := 60) rfl (by omega) (by omega) c8)
    refine lv_aload_n hx hb dX9_ridOf_42 rfl (lv_at hl 2 rfl) ?_
    refine m_callv (As := []) (rest := []) S hKK hP hS (mm_ends l D t mb (grB B 61) ) (cwV 0 hts (lw_V q1470 q1472 qs87 q104 q1473) rfl rfl rfl (by decide +kernel) ⟨Nat.le_of_ble_eq_true rfl, Nat.le_of_ble_eq_true rfl⟩) rfl hl.1 rfl (Nat.le_of_ble_eq_true rfl) dX9_ridOf_43 ⟨Nat.le_of_ble_eq_true rfl, Nat.le_of_ble_eq_true rfl⟩ (fun B43 H locs h43 hP hS => ?_)
    have h43 : B43 = upc (grB B 61) 2 ((grB B 61) 5) := h43
    subst h43
    refine lv_iload_n hx hb dX9_ridOf_46 rfl (lv_at hl 1 rfl) ?_
    exact m_iret hx hb hr ⟨rfl, by rw [show grB B 61 5 = B 5 from grB_x B (by decide) _]; exact SC_gr B _⟩ hP hS dX9_ridOf_47 hlk
  · have hk2 : k ≤ 60 := lp_ng (n := 60) rfl (by omega) (by omega) c8
    have hok : Ok (grB B k 2) (N + k) := by rw [grB_2]; exact Ok_hrS ho (by omega)
    have hg2 : grB B k 2 = hrS (B 2) k := grB_2 _ k
    refine lv_iload_n hx hb dX9_ridOf_11 rfl (lv_at hl 1 rfl) ?_
    refine lv_if_ge (tgt := 42) hx hb dX9_ridOf_12 (by decide) (fun c12 => ?_) (fun c12 => ?_)
    · refine lv_aload_n hx hb dX9_ridOf_42 rfl (lv_at hl 2 rfl) ?_
      refine m_callv (As := []) (rest := []) S hKK hP hS (mm_ends l D t mb (grB B k) ) (cwV 0 hts (lw_V q1470 q1472 qs87 q104 q1473) rfl rfl rfl (by decide +kernel) ⟨Nat.le_of_ble_eq_true rfl, Nat.le_of_ble_eq_true rfl⟩) rfl hl.1 rfl (Nat.le_of_ble_eq_true rfl) dX9_ridOf_43 ⟨Nat.le_of_ble_eq_true rfl, Nat.le_of_ble_eq_true rfl⟩ (fun B43 H locs h43 hP hS => ?_)
      have h43 : B43 = upc (grB B k) 2 ((grB B k) 5) := h43
      subst h43
      refine lv_iload_n hx hb dX9_ridOf_46 rfl (lv_at hl 1 rfl) ?_
      exact m_iret hx hb hr ⟨(fdS_more c12 (show k ≤ 61 by omega)).symm, by rw [show grB B k 5 = B 5 from grB_x B (by decide) _]; exact SC_gr B _⟩ hP hS dX9_ridOf_47 hlk
    · refine W.join (fun vJ => F0 m 30 ls (.int vJ :: [])) (fun vJ => vJ = fdS (fun n => decide (hd (hrS (B 2) n) j 3 < 0)) (k + 1)) (fun vJ hJ => ?_) (fun J => ?_)
      · subst hJ
        refine lv_istore_n (lv' := [(2, .int (fdS (fun n => decide (hd (hrS (B 2) n) j 3 < 0)) (k + 1))), (3, .int (nI k)), (0, .ref mb), (1, .int (nI j))]) hx hb dX9_ridOf_30 rfl hl (by decide) rfl (fun ls hl => ?_)
        refine lv_aload_n hx hb dX9_ridOf_31 rfl (lv_at hl 2 rfl) ?_
        refine m_calli (As := []) (rest := []) S hKK hP hS (mm_goes l D t mb (grB B k) (N + k) hok) (cwV 0 hts (lw_V q1438 q1440 qs80 q104 q1441) rfl rfl rfl (by decide +kernel) ⟨Nat.le_of_ble_eq_true rfl, Nat.le_of_ble_eq_true rfl⟩) rfl hl.1 rfl (Nat.le_of_ble_eq_true rfl) dX9_ridOf_32 ⟨Nat.le_of_ble_eq_true rfl, Nat.le_of_ble_eq_true rfl⟩ (fun r32 B32 H locs h32 hP hS => ?_)
        obtain ⟨-, hb32⟩ : _ ∧ B32 = goE (grB B k) := h32
        subst hb32
        refine lv_pop hx hb dX9_ridOf_35 rfl ?_
        refine lv_iinc (v := nI (k + 1)) (lv' := [(3, .int (nI (k + 1))), (2, .int (fdS (fun n => decide (hd (hrS (B 2) n) j 3 < 0)) (k + 1))), (0, .ref mb), (1, .int (nI j))]) hx hb dX9_ridOf_36 hl (k := 1) rfl (nI_1 k) (by decide) rfl (fun ls hl => ?_)
        refine lv_goto (tgt := 5) hx hb dX9_ridOf_39 (by decide) ?_
        exact ihk (k + 1) H locs ls (by omega) ⟨by omega, trivial, (by rw [show grB B (k + 1) = goE (grB B k) from rfl]; exact hP), hS, lv_sub hl [0, 1, 2, 3] rfl⟩
      · refine lv_aload_n hx hb dX9_ridOf_15 rfl (lv_at hl 2 rfl) ?_
        refine lv_iload_n hx hb dX9_ridOf_16 rfl (lv_at hl 3 rfl) ?_
        refine lv_iconst (v := 3) hx hb dX9_ridOf_17 (by decide) ?_
        refine m_callr (As := [.int (nI j), .int 3]) (rest := []) S hKK hP (mm_at l D t mb (grB B k) j 3 (by omega)) (cwV 2 hts (lw_V q1386 q1388 qs75 q104 q1389) rfl rfl rfl (by decide +kernel) ⟨Nat.le_of_ble_eq_true rfl, Nat.le_of_ble_eq_true rfl⟩) rfl hl.1 rfl (Nat.le_of_ble_eq_true rfl) dX9_ridOf_18 ⟨Nat.le_of_ble_eq_true rfl, Nat.le_of_ble_eq_true rfl⟩ ?_
        refine z_top (y := hd (hrS (B 2) k) j 3) (by rw [hg2]) ?_
        refine lv_if_ge (tgt := 28) hx hb dX9_ridOf_21 (by decide) (fun c21 => ?_) (fun c21 => ?_)
        · refine lv_bipush (v := (-9)) hx hb dX9_ridOf_28 (by decide) ?_
          exact J _ (by grind [fdS])
        · refine lv_iload_n hx hb dX9_ridOf_24 rfl (lv_at hl 0 rfl) ?_
          refine lv_goto (tgt := 30) hx hb dX9_ridOf_25 (by decide) ?_
          exact J _ (by grind [fdS])
set_option maxHeartbeats 4000000 in
theorem mm_rid (l : Launch) (D : va_G) (t : Nat → ClassId) (mb : Nat) (B : BT) (x : Int32) (y : Int32) (hB : OkB B) : Met l yX9_rid (ws_ yX9_rid cX9_rid 8 (some .int)) ({ frames := 6, cells := 0, slots := 0, locals := 136 }) (zPc [.ref mb, .int x, .int y] (MW D t mb B) (KK D t)) (va_Qi (fun r B' => r = (ridS B x y).1 ∧ PE (ridS B x y).2 B') (fun B' U => MW D t mb B' U.heap) (mA mb)) 0 0 (mA mb) := by
  refine zOf (cc := cX9_rid) (maxL := 8) (ret := (some .int)) (by decide) (Nat.le_of_ble_eq_true rfl) (fun pg ev s m below meth cd ls F hP hKK hl hnm => ?_)
  obtain ⟨hx, hb, hml, hown, hts, hr, hlk⟩ := F
  have S : CallFix pg m cd cX9_rid 8 s _ lw_all RX9 := ⟨hx, hb, hml, hown, hts⟩
  have hl : lv_has ls 8 [(0, .ref mb), (1, .int x), (2, .int y)] := hl
  have hS : va_S (mA mb) s.heap s.heap [] := va_S.rf
  have ho := hB.1
  have hj6 := ho.h6
  have hs5 := ho.s5
  have hd8 := ho.d8
  have hh3 := ho.hr3
  have hh6 := ho.h6
  have hd0 := ho.hr0
  refine W.join (fun vJ => F0 m 40 ls (.int vJ :: [])) (fun vJ => vJ = riN (B 2) x y) (fun vJ hJ => ?_) (fun J => ?_)
  · subst hJ
    refine lv_istore_n (lv' := [(3, .int (riN (B 2) x y)), (0, .ref mb), (1, .int x), (2, .int y)]) hx hb dX9_rid_40 rfl hl (by decide) rfl (fun ls hl => ?_)
    refine lv_iload_n hx hb dX9_rid_41 rfl (lv_at hl 0 rfl) ?_
    refine lv_if_eq (tgt := 51) hx hb dX9_rid_42 (by decide) (fun c42 => ?_) (fun c42 => ?_)
    · have hh := isH_ix ho (x := x) (by unfold riN at c42; unfold isH at c42; grind)
      refine lv_aload_n hx hb dX9_rid_51 rfl (lv_at hl 1 rfl) ?_
      refine m_callv (As := []) (rest := []) S hKK hP hS (mm_begins l D t mb B ) (cwV 0 hts (lw_V q1462 q1464 qs85 q104 q1465) rfl rfl rfl (by decide +kernel) ⟨Nat.le_of_ble_eq_true rfl, Nat.le_of_ble_eq_true rfl⟩) rfl hl.1 rfl (Nat.le_of_ble_eq_true rfl) dX9_rid_52 ⟨Nat.le_of_ble_eq_true rfl, Nat.le_of_ble_eq_true rfl⟩ (fun B52 H locs h52 hP hS => ?_)
      have h52 : B52 = upc B 5 (B 2) := h52
      subst h52
      refine lv_bipush (v := (-9)) hx hb dX9_rid_55 (by decide) ?_
      refine lv_istore (lv' := [(4, .int (-9)), (3, .int (riN (B 2) x y)), (0, .ref mb), (1, .int x), (2, .int y)]) hx hb dX9_rid_57 hl (by decide) rfl (fun ls hl => ?_)
      refine lv_bipush (v := (-9)) hx hb dX9_rid_59 (by decide) ?_
      refine lv_istore (lv' := [(5, .int (-9)), (4, .int (-9)), (3, .int (riN (B 2) x y)), (0, .ref mb), (1, .int x), (2, .int y)]) hx hb dX9_rid_61 hl (by decide) rfl (fun ls hl => ?_)
      refine lv_iconst (v := 0) hx hb dX9_rid_63 (by decide) ?_
      refine lv_istore (lv' := [(6, .int 0), (5, .int (-9)), (4, .int (-9)), (3, .int (riN (B 2) x y)), (0, .ref mb), (1, .int x), (2, .int y)]) hx hb dX9_rid_64 hl (by decide) rfl (fun ls hl => ?_)
      refine W.loop (σ := Nat × BT) (fun sv H locs ls => sv.1 ≤ 4 ∧ (RB B sv.2) ∧ MW D t mb sv.2 H ∧ va_S (mA mb) s.heap H locs ∧ lv_has ls 8 [(6, .int (nI sv.1)), (4, .int ((mnL (fun k => rdS (meS (B 2) (ix x) (nI k)) (ix x)) (-9, -9) sv.1).1)), (5, .int ((mnL (fun k => rdS (meS (B 2) (ix x) (nI k)) (ix x)) (-9, -9) sv.1).2)), (0, .ref mb), (1, .int x), (2, .int y)]) (fun sv => 4 - sv.1) (fun sv H locs ls hI ihk => ?_) (0, upc B 5 (B 2)) ⟨by show 0 ≤ 4; omega, (RB_begin B), hP, hS, lv_sub hl [0, 2, 1, 4, 5, 6] rfl⟩
      obtain ⟨k, B1⟩ := sv
      obtain ⟨hk, hEk, hP, hS, hl⟩ := hI
      have hl : lv_has ls 8 [(6, .int (nI k)), (4, .int ((mnL (fun k => rdS (meS (B 2) (ix x) (nI k)) (ix x)) (-9, -9) k).1)), (5, .int ((mnL (fun k => rdS (meS (B 2) (ix x) (nI k)) (ix x)) (-9, -9) k).2)), (0, .ref mb), (1, .int x), (2, .int y)] := hl
      dsimp only at hk hEk hP
      refine lv_iload hx hb dX9_rid_66 (lv_at hl 0 rfl) ?_
      refine lv_iconst (v := 4) hx hb dX9_rid_68 (by decide) ?_
      refine lv_icmp_ge (tgt := 120) hx hb dX9_rid_69 (by decide) (fun c69 => ?_) (fun c69 => ?_)
      · obtain rfl : k = 4 := Nat.le_antisymm hk (lp_end (n := 4) rfl (by omega) (by omega) c69)
        refine W.join (fun vJ => F0 m 131 ls (.int vJ :: [])) (fun vJ => vJ = (if y = 0 then (riP (B 2) (ix x)).1 else (riP (B 2) (ix x)).2)) (fun vJ hJ => ?_) (fun J3 => ?_)
        · subst hJ
          exact m_iret hx hb hr (ok_close (o := ridS B x y) (if_pos c42) hEk.pe) hP hS dX9_rid_131 hlk
        · refine lv_iload_n hx hb dX9_rid_120 rfl (lv_at hl 5 rfl) ?_
          refine lv_if_ne (tgt := 129) hx hb dX9_rid_121 (by decide) (fun c121 => ?_) (fun c121 => ?_)
          · refine lv_iload hx hb dX9_rid_129 (lv_at hl 2 rfl) ?_
            exact J3 _ (by unfold riP; grind)
          · refine lv_iload hx hb dX9_rid_124 (lv_at hl 1 rfl) ?_
            refine lv_goto (tgt := 131) hx hb dX9_rid_126 (by decide) ?_
            exact J3 _ (by unfold riP; grind)
      · have hk2 : k < 4 := lp_go (n := 4) rfl (by omega) (by omega) c69
        have hb2 : B1 2 = B 2 := hEk.1
        refine lv_aload_n hx hb dX9_rid_72 rfl (lv_at hl 3 rfl) ?_
        refine lv_iload_n hx hb dX9_rid_73 rfl (lv_at hl 4 rfl) ?_
        refine lv_iload hx hb dX9_rid_74 (lv_at hl 0 rfl) ?_
        refine z_stk (st' := [.int (nI k), .int (nI (ix x)), .ref mb]) (by rw [← show x = nI (ix x) from hh.1]) ?_
        refine m_callv (As := [.int (nI (ix x)), .int (nI k)]) (rest := []) S hKK hP hS (mm_mends l D t mb B1 (ix x) (nI k) (by omega)) (cwV 2 hts (lw_V q1426 q1428 qs79 q104 q1429) rfl rfl rfl (by decide +kernel) ⟨Nat.le_of_ble_eq_true rfl, Nat.le_of_ble_eq_true rfl⟩) rfl hl.1 rfl (Nat.le_of_ble_eq_true rfl) dX9_rid_76 ⟨Nat.le_of_ble_eq_true rfl, Nat.le_of_ble_eq_true rfl⟩ (fun B76 H locs h76 hP hS => ?_)
        have h76 : B76 = upc B1 2 (meS (B1 2) (ix x) (nI k)) := h76
        subst h76
        have hok : Ok ((upc B1 2 (meS (B1 2) (ix x) (nI k))) 2) 999 := by rw [upc_same, hb2]; exact Ok_meS ho hh.2
        have hnj : ix x < nH ((upc B1 2 (meS (B1 2) (ix x) (nI k))) 2) := by rw [upc_same, hb2, nH_meS]; exact hh.2
        refine lv_aload_n hx hb dX9_rid_79 rfl (lv_at hl 3 rfl) ?_
        refine lv_iload_n hx hb dX9_rid_80 rfl (lv_at hl 4 rfl) ?_
        refine z_stk (st' := [.int (nI (ix x)), .ref mb]) (by rw [← show x = nI (ix x) from hh.1]) ?_
        refine m_calli (As := [.int (nI (ix x))]) (rest := []) S hKK hP hS (mm_ridOf l D t mb (upc B1 2 (meS (B1 2) (ix x) (nI k))) 999 (ix x) hok (by omega) hnj) (cwV 1 hts (lw_V q1518 q1520 qs91 q104 q1521) rfl rfl rfl (by decide +kernel) ⟨Nat.le_of_ble_eq_true rfl, Nat.le_of_ble_eq_true rfl⟩) rfl hl.1 rfl (Nat.le_of_ble_eq_true rfl) dX9_rid_81 ⟨Nat.le_of_ble_eq_true rfl, Nat.le_of_ble_eq_true rfl⟩ (fun r81 B81 H locs h81 hP hS => ?_)
        obtain ⟨hr81, hs81⟩ : r81 = rdS ((upc B1 2 (meS (B1 2) (ix x) (nI k))) 2) (ix x) ∧ SC _ B81 := h81
        rw [upc_same, hb2] at hr81
        have hRB : RB B B81 := hEk.put hs81
        refine z_top (y := rdS (meS (B 2) (ix x) (nI k)) (ix x)) hr81 ?_
        refine lv_istore (lv' := [(7, .int (rdS (meS (B 2) (ix x) (nI k)) (ix x))), (6, .int (nI k)), (4, .int ((mnL (fun k => rdS (meS (B 2) (ix x) (nI k)) (ix x)) (-9, -9) k).1)), (5, .int ((mnL (fun k => rdS (meS (B 2) (ix x) (nI k)) (ix x)) (-9, -9) k).2)), (0, .ref mb), (1, .int x), (2, .int y)]) hx hb dX9_rid_84 hl (by decide) rfl (fun ls hl => ?_)
        refine W.join (α := Array Slot) (fun ls => F0 m 114 ls []) (fun ls => lv_has ls 8 [(6, .int (nI k)), (4, .int ((mnL (fun k => rdS (meS (B 2) (ix x) (nI k)) (ix x)) (-9, -9) (k + 1)).1)), (5, .int ((mnL (fun k => rdS (meS (B 2) (ix x) (nI k)) (ix x)) (-9, -9) (k + 1)).2)), (0, .ref mb), (1, .int x), (2, .int y)]) (fun ls hl => ?_) (fun JL => ?_)
        · refine lv_iinc (v := nI (k + 1)) (lv' := [(6, .int (nI (k + 1))), (4, .int ((mnL (fun k => rdS (meS (B 2) (ix x) (nI k)) (ix x)) (-9, -9) (k + 1)).1)), (5, .int ((mnL (fun k => rdS (meS (B 2) (ix x) (nI k)) (ix x)) (-9, -9) (k + 1)).2)), (0, .ref mb), (1, .int x), (2, .int y)]) hx hb dX9_rid_114 hl (k := 0) rfl (nI_1 k) (by decide) rfl (fun ls hl => ?_)
          refine lv_goto (tgt := 66) hx hb dX9_rid_117 (by decide) ?_
          exact ihk (k + 1, B81) H locs ls (by show 4 - (k + 1) < 4 - k; omega) ⟨by show k + 1 ≤ 4; omega, hRB, hP, hS, lv_sub hl [0, 1, 2, 3, 4, 5] rfl⟩
        · refine lv_iload hx hb dX9_rid_86 (lv_at hl 0 rfl) ?_
          refine lv_if_lt (tgt := 114) hx hb dX9_rid_88 (by decide) (fun c88 => ?_) (fun c88 => ?_)
          · exact JL ls (by rw [show (mnL (fun k => rdS (meS (B 2) (ix x) (nI k)) (ix x)) (-9, -9) (k + 1)).1 = (mnL (fun k => rdS (meS (B 2) (ix x) (nI k)) (ix x)) (-9, -9) k).1 from (by simp only [mnL]; grind)]; rw [show (mnL (fun k => rdS (meS (B 2) (ix x) (nI k)) (ix x)) (-9, -9) (k + 1)).2 = (mnL (fun k => rdS (meS (B 2) (ix x) (nI k)) (ix x)) (-9, -9) k).2 from (by simp only [mnL]; grind)]; exact lv_sub hl [1, 2, 3, 4, 5, 6] rfl)
          · refine lv_iload hx hb dX9_rid_91 (lv_at hl 3 rfl) ?_
            refine lv_if_lt (tgt := 106) hx hb dX9_rid_93 (by decide) (fun c93 => ?_) (fun c93 => ?_)
            · refine lv_iload hx hb dX9_rid_106 (lv_at hl 1 rfl) ?_
              refine lv_istore (lv' := [(4, .int (nI k)), (7, .int (rdS (meS (B 2) (ix x) (nI k)) (ix x))), (6, .int (nI k)), (5, .int ((mnL (fun k => rdS (meS (B 2) (ix x) (nI k)) (ix x)) (-9, -9) k).2)), (0, .ref mb), (1, .int x), (2, .int y)]) hx hb dX9_rid_108 hl (by decide) rfl (fun ls hl => ?_)
              refine lv_iload hx hb dX9_rid_110 (lv_at hl 1 rfl) ?_
              refine lv_istore (lv' := [(5, .int (rdS (meS (B 2) (ix x) (nI k)) (ix x))), (4, .int (nI k)), (7, .int (rdS (meS (B 2) (ix x) (nI k)) (ix x))), (6, .int (nI k)), (0, .ref mb), (1, .int x), (2, .int y)]) hx hb dX9_rid_112 hl (by decide) rfl (fun ls hl => ?_)
              exact JL ls (by rw [show (mnL (fun k => rdS (meS (B 2) (ix x) (nI k)) (ix x)) (-9, -9) (k + 1)).1 = nI k from (by simp only [mnL]; grind)]; rw [show (mnL (fun k => rdS (meS (B 2) (ix x) (nI k)) (ix x)) (-9, -9) (k + 1)).2 = rdS (meS (B 2) (ix x) (nI k)) (ix x) from (by simp only [mnL]; grind)]; exact lv_sub hl [3, 1, 0, 4, 5, 6] rfl)
            · refine lv_iload hx hb dX9_rid_96 (lv_at hl 0 rfl) ?_
              refine lv_iload hx hb dX9_rid_98 (lv_at hl 3 rfl) ?_
              refine lv_icmp_lt (tgt := 106) hx hb dX9_rid_100 (by decide) (fun c100 => ?_) (fun c100 => ?_)
              · refine lv_iload hx hb dX9_rid_106 (lv_at hl 1 rfl) ?_
                refine lv_istore (lv' := [(4, .int (nI k)), (7, .int (rdS (meS (B 2) (ix x) (nI k)) (ix x))), (6, .int (nI k)), (5, .int ((mnL (fun k => rdS (meS (B 2) (ix x) (nI k)) (ix x)) (-9, -9) k).2)), (0, .ref mb), (1, .int x), (2, .int y)]) hx hb dX9_rid_108 hl (by decide) rfl (fun ls hl => ?_)
                refine lv_iload hx hb dX9_rid_110 (lv_at hl 1 rfl) ?_
                refine lv_istore (lv' := [(5, .int (rdS (meS (B 2) (ix x) (nI k)) (ix x))), (4, .int (nI k)), (7, .int (rdS (meS (B 2) (ix x) (nI k)) (ix x))), (6, .int (nI k)), (0, .ref mb), (1, .int x), (2, .int y)]) hx hb dX9_rid_112 hl (by decide) rfl (fun ls hl => ?_)
                exact JL ls (by rw [show (mnL (fun k => rdS (meS (B 2) (ix x) (nI k)) (ix x)) (-9, -9) (k + 1)).1 = nI k from (by simp only [mnL]; grind)]; rw [show (mnL (fun k => rdS (meS (B 2) (ix x) (nI k)) (ix x)) (-9, -9) (k + 1)).2 = rdS (meS (B 2) (ix x) (nI k)) (ix x) from (by simp only [mnL]; grind)]; exact lv_sub hl [3, 1, 0, 4, 5, 6] rfl)
              · refine lv_goto (tgt := 114) hx hb dX9_rid_103 (by decide) ?_
                exact JL ls (by rw [show (mnL (fun k => rdS (meS (B 2) (ix x) (nI k)) (ix x)) (-9, -9) (k + 1)).1 = (mnL (fun k => rdS (meS (B 2) (ix x) (nI k)) (ix x)) (-9, -9) k).1 from (by simp only [mnL]; grind)]; rw [show (mnL (fun k => rdS (meS (B 2) (ix x) (nI k)) (ix x)) (-9, -9) (k + 1)).2 = (mnL (fun k => rdS (meS (B 2) (ix x) (nI k)) (ix x)) (-9, -9) k).2 from (by simp only [mnL]; grind)]; exact lv_sub hl [1, 2, 3, 4, 5, 6] rfl)
    · have hno : rfOk (riN (B 2) x y) := by unfold riN at c42 ⊢; unfold rfOk; grind
      refine lv_aload_n hx hb dX9_rid_45 rfl (lv_at hl 1 rfl) ?_
      refine lv_iload_n hx hb dX9_rid_46 rfl (lv_at hl 0 rfl) ?_
      refine m_calli (As := [.int (riN (B 2) x y)]) (rest := []) S hKK hP hS (mm_refuse l D t mb B (riN (B 2) x y) (ix (-(riN (B 2) x y))) (rf1 hno) (rf2 hno)) (cwV 1 hts (lw_V q1306 q1308 qs60 q104 q1309) rfl rfl rfl (by decide +kernel) ⟨Nat.le_of_ble_eq_true rfl, Nat.le_of_ble_eq_true rfl⟩) rfl hl.1 rfl (Nat.le_of_ble_eq_true rfl) dX9_rid_47 ⟨Nat.le_of_ble_eq_true rfl, Nat.le_of_ble_eq_true rfl⟩ (fun r47 B47 H locs h47 hP hS => ?_)
      exact m_iret hx hb hr (rf_close h47 (if_neg c42)) hP hS dX9_rid_50 hlk
  · refine lv_aload_n hx hb dX9_rid_0 rfl (lv_at hl 0 rfl) ?_
    refine lv_iload_n hx hb dX9_rid_1 rfl (lv_at hl 1 rfl) ?_
    refine m_callr (As := [.int x]) (rest := []) S hKK hP (mm_isHead l D t mb B x) (cwV 1 hts (lw_V q1358 q1360 qs69 q104 q1361) rfl rfl rfl (by decide +kernel) ⟨Nat.le_of_ble_eq_true rfl, Nat.le_of_ble_eq_true rfl⟩) rfl hl.1 rfl (Nat.le_of_ble_eq_true rfl) dX9_rid_2 ⟨Nat.le_of_ble_eq_true rfl, Nat.le_of_ble_eq_true rfl⟩ ?_
    refine z_ifne (tgt := 12) hx hb dX9_rid_5 (by decide) (fun c5 => ?_) (fun c5 => ?_)
    · have hh := isH_ix ho c5
      refine lv_iload_n hx hb dX9_rid_12 rfl (lv_at hl 2 rfl) ?_
      refine lv_iconst (v := 2) hx hb dX9_rid_13 (by decide) ?_
      refine m_callS (As := [.int y, .int 2]) (rest := []) S hKK trivial (mm_isIn l D t y 2) (va_cwS 2 hts (lw_S q1330 q1331 q104 q1332) rfl rfl rfl (by decide +kernel) ⟨Nat.le_of_ble_eq_true rfl, Nat.le_of_ble_eq_true rfl⟩) rfl hl.1 rfl (Nat.le_of_ble_eq_true rfl) dX9_rid_14 ⟨Nat.le_of_ble_eq_true rfl, Nat.le_of_ble_eq_true rfl⟩ ?_
      refine z_ifne (tgt := 25) hx hb dX9_rid_17 (by decide) (fun c17 => ?_) (fun c17 => ?_)
      · refine lv_aload_n hx hb dX9_rid_25 rfl (lv_at hl 0 rfl) ?_
        refine lv_iload_n hx hb dX9_rid_26 rfl (lv_at hl 1 rfl) ?_
        refine lv_iconst (v := 3) hx hb dX9_rid_27 (by decide) ?_
        refine z_stk (st' := [.int 3, .int (nI (ix x)), .ref mb]) (by rw [← show x = nI (ix x) from hh.1]) ?_
        refine m_callr (As := [.int (nI (ix x)), .int 3]) (rest := []) S hKK hP (mm_at l D t mb B (ix x) 3 (by omega)) (cwV 2 hts (lw_V q1386 q1388 qs75 q104 q1389) rfl rfl rfl (by decide +kernel) ⟨Nat.le_of_ble_eq_true rfl, Nat.le_of_ble_eq_true rfl⟩) rfl hl.1 rfl (Nat.le_of_ble_eq_true rfl) dX9_rid_28 ⟨Nat.le_of_ble_eq_true rfl, Nat.le_of_ble_eq_true rfl⟩ ?_
        refine lv_if_ge (tgt := 39) hx hb dX9_rid_31 (by decide) (fun c31 => ?_) (fun c31 => ?_)
        · refine lv_iconst (v := 0) hx hb dX9_rid_39 (by decide) ?_
          exact J _ (by grind [riN, isH, isI])
        · refine lv_bipush (v := (-3)) hx hb dX9_rid_34 (by decide) ?_
          refine lv_goto (tgt := 40) hx hb dX9_rid_36 (by decide) ?_
          exact J _ (by grind [riN, isH, isI])
      · refine lv_bipush (v := (-2)) hx hb dX9_rid_20 (by decide) ?_
        refine lv_goto (tgt := 40) hx hb dX9_rid_22 (by decide) ?_
        exact J _ (by grind [riN, isH, isI])
    · refine lv_iconst (v := (-1)) hx hb dX9_rid_8 (by decide) ?_
      refine lv_goto (tgt := 40) hx hb dX9_rid_9 (by decide) ?_
      exact J _ (by grind [riN, isH, isI])
set_option maxHeartbeats 4000000 in
theorem mm_instead (l : Launch) (D : va_G) (t : Nat → ClassId) (mb : Nat) (B : BT) (x : Int32) (hB : OkB B) : Met l yX9_instead (ws_ yX9_instead cX9_instead 8 (some .int)) ({ frames := 6, cells := 0, slots := 0, locals := 136 }) (zPc [.ref mb, .int x] (MW D t mb B) (KK D t)) (va_Qi (fun r B' => r = (instS B x).1 ∧ PE (instS B x).2 B') (fun B' U => MW D t mb B' U.heap) (mA mb)) 0 0 (mA mb) := by
  refine zOf (cc := cX9_instead) (maxL := 8) (ret := (some .int)) (by decide) (Nat.le_of_ble_eq_true rfl) (fun pg ev s m below meth cd ls F hP hKK hl hnm => ?_)
  obtain ⟨hx, hb, hml, hown, hts, hr, hlk⟩ := F
  have S : CallFix pg m cd cX9_instead 8 s _ lw_all RX9 := ⟨hx, hb, hml, hown, hts⟩
  have hl : lv_has ls 8 [(0, .ref mb), (1, .int x)] := hl
  have hS : va_S (mA mb) s.heap s.heap [] := va_S.rf
  have ho := hB.1
  have hj6 := ho.h6
  have hs5 := ho.s5
  have hd8 := ho.d8
  have hh3 := ho.hr3
  have hh6 := ho.h6
  have hd0 := ho.hr0
  refine W.join (fun vJ => F0 m 27 ls (.int vJ :: [])) (fun vJ => vJ = inN (B 2) x) (fun vJ hJ => ?_) (fun J => ?_)
  · subst hJ
    refine lv_istore_n (lv' := [(2, .int (inN (B 2) x)), (0, .ref mb), (1, .int x)]) hx hb dX9_instead_27 rfl hl (by decide) rfl (fun ls hl => ?_)
    refine lv_iload_n hx hb dX9_instead_28 rfl (lv_at hl 0 rfl) ?_
    refine lv_if_eq (tgt := 38) hx hb dX9_instead_29 (by decide) (fun c29 => ?_) (fun c29 => ?_)
    · have hh := isH_ix ho (x := x) (by unfold inN at c29; unfold isH at c29; grind)
      refine lv_aload_n hx hb dX9_instead_38 rfl (lv_at hl 1 rfl) ?_
      refine m_callv (As := []) (rest := []) S hKK hP hS (mm_begins l D t mb B ) (cwV 0 hts (lw_V q1462 q1464 qs85 q104 q1465) rfl rfl rfl (by decide +kernel) ⟨Nat.le_of_ble_eq_true rfl, Nat.le_of_ble_eq_true rfl⟩) rfl hl.1 rfl (Nat.le_of_ble_eq_true rfl) dX9_instead_39 ⟨Nat.le_of_ble_eq_true rfl, Nat.le_of_ble_eq_true rfl⟩ (fun B39 H locs h39 hP hS => ?_)
      have h39 : B39 = upc B 5 (B 2) := h39
      subst h39
      refine lv_aload_n hx hb dX9_instead_42 rfl (lv_at hl 1 rfl) ?_
      refine lv_iload_n hx hb dX9_instead_43 rfl (lv_at hl 2 rfl) ?_
      refine lv_iconst (v := 3) hx hb dX9_instead_44 (by decide) ?_
      refine z_stk (st' := [.int 3, .int (nI (ix x)), .ref mb]) (by rw [← show x = nI (ix x) from hh.1]) ?_
      refine m_callr (As := [.int (nI (ix x)), .int 3]) (rest := []) S hKK hP (mm_at l D t mb (upc B 5 (B 2)) (ix x) 3 (by omega)) (cwV 2 hts (lw_V q1386 q1388 qs75 q104 q1389) rfl rfl rfl (by decide +kernel) ⟨Nat.le_of_ble_eq_true rfl, Nat.le_of_ble_eq_true rfl⟩) rfl hl.1 rfl (Nat.le_of_ble_eq_true rfl) dX9_instead_45 ⟨Nat.le_of_ble_eq_true rfl, Nat.le_of_ble_eq_true rfl⟩ ?_
      refine z_top (y := hd (B 2) (ix x) 3) rfl ?_
      refine lv_istore_n (lv' := [(3, .int (hd (B 2) (ix x) 3)), (2, .int (inN (B 2) x)), (0, .ref mb), (1, .int x)]) hx hb dX9_instead_48 rfl hl (by decide) rfl (fun ls hl => ?_)
      refine lv_aload_n hx hb dX9_instead_49 rfl (lv_at hl 2 rfl) ?_
      refine lv_iload_n hx hb dX9_instead_50 rfl (lv_at hl 3 rfl) ?_
      refine z_stk (st' := [.int (nI (ix x)), .ref mb]) (by rw [← show x = nI (ix x) from hh.1]) ?_
      refine m_calli (As := [.int (nI (ix x))]) (rest := []) S hKK hP hS (mm_ridOf l D t mb (upc B 5 (B 2)) 999 (ix x) ho (by omega) hh.2) (cwV 1 hts (lw_V q1518 q1520 qs91 q104 q1521) rfl rfl rfl (by decide +kernel) ⟨Nat.le_of_ble_eq_true rfl, Nat.le_of_ble_eq_true rfl⟩) rfl hl.1 rfl (Nat.le_of_ble_eq_true rfl) dX9_instead_51 ⟨Nat.le_of_ble_eq_true rfl, Nat.le_of_ble_eq_true rfl⟩ (fun r51 B51 H locs h51 hP hS => ?_)
      obtain ⟨hr51, hs51⟩ : r51 = rdS (B 2) (ix x) ∧ SC _ B51 := h51
      have hRB0 : RB B B51 := (RB_begin B).sc hs51
      refine lv_istore (lv' := [(4, .int r51), (3, .int (hd (B 2) (ix x) 3)), (2, .int (inN (B 2) x)), (0, .ref mb), (1, .int x)]) hx hb dX9_instead_54 hl (by decide) rfl (fun ls hl => ?_)
      refine lv_bipush (v := (-9)) hx hb dX9_instead_56 (by decide) ?_
      refine lv_istore (lv' := [(5, .int (-9)), (4, .int r51), (3, .int (hd (B 2) (ix x) 3)), (2, .int (inN (B 2) x)), (0, .ref mb), (1, .int x)]) hx hb dX9_instead_58 hl (by decide) rfl (fun ls hl => ?_)
      refine lv_iconst (v := 0) hx hb dX9_instead_60 (by decide) ?_
      refine lv_istore (lv' := [(6, .int 0), (5, .int (-9)), (4, .int r51), (3, .int (hd (B 2) (ix x) 3)), (2, .int (inN (B 2) x)), (0, .ref mb), (1, .int x)]) hx hb dX9_instead_61 hl (by decide) rfl (fun ls hl => ?_)
      refine W.loop (σ := Nat × BT) (fun sv H locs ls => sv.1 ≤ nS (B 2) ∧ (RB B sv.2) ∧ MW D t mb sv.2 H ∧ va_S (mA mb) s.heap H locs ∧ lv_has ls 8 [(6, .int (nI sv.1)), (5, .int ((mnL (fun i => if nI i = hd (B 2) (ix x) 3 then -9 else rdS (geS (B 2) (ix x) (nI i)) (ix x)) (-9, r51) sv.1).1)), (4, .int ((mnL (fun i => if nI i = hd (B 2) (ix x) 3 then -9 else rdS (geS (B 2) (ix x) (nI i)) (ix x)) (-9, r51) sv.1).2)), (0, .ref mb), (1, .int x), (3, .int (hd (B 2) (ix x) 3))]) (fun sv => nS (B 2) - sv.1) (fun sv H locs ls hI ihk => ?_) (0, B51) ⟨by show 0 ≤ nS (B 2); omega, hRB0, hP, hS, lv_sub hl [0, 1, 2, 5, 6, 3] rfl⟩
      obtain ⟨k, B1⟩ := sv
      obtain ⟨hk, hEk, hP, hS, hl⟩ := hI
      have hl : lv_has ls 8 [(6, .int (nI k)), (5, .int ((mnL (fun i => if nI i = hd (B 2) (ix x) 3 then -9 else rdS (geS (B 2) (ix x) (nI i)) (ix x)) (-9, r51) k).1)), (4, .int ((mnL (fun i => if nI i = hd (B 2) (ix x) 3 then -9 else rdS (geS (B 2) (ix x) (nI i)) (ix x)) (-9, r51) k).2)), (0, .ref mb), (1, .int x), (3, .int (hd (B 2) (ix x) 3))] := hl
      dsimp only at hk hEk hP
      refine lv_iload hx hb dX9_instead_63 (lv_at hl 0 rfl) ?_
      refine lv_aload_n hx hb dX9_instead_65 rfl (lv_at hl 3 rfl) ?_
      refine m_get hx hb hts hown hKK hP 1 (by decide) q1248 rfl rfl dX9_instead_66 ?_
      refine lv_iconst (v := 2) hx hb dX9_instead_69 (by decide) ?_
      refine m_ald hx hb hKK hP 2 rfl (k := 2) (v := B 2 2) rfl (by omega) (by decide) (by rw [hEk.1]) dX9_instead_70 ?_
      refine lv_icmp_ge (tgt := 131) hx hb dX9_instead_71 (by decide) (fun c71 => ?_) (fun c71 => ?_)
      · obtain rfl : k = nS (B 2) := Nat.le_antisymm hk (lp_end ho.hr2 (by omega) (by omega) c71)
        refine lv_iload hx hb dX9_instead_131 (lv_at hl 1 rfl) ?_
        exact m_iret hx hb hr (ok_close (o := instS B x) (by unfold instS; rw [if_pos c29]; unfold inP; rw [hr51]) hEk.pe) hP hS dX9_instead_133 hlk
      · have hk2 : k < nS (B 2) := lp_go ho.hr2 (by omega) (by omega) c71
        have hb2 : B1 2 = B 2 := hEk.1
        refine lv_iload hx hb dX9_instead_74 (lv_at hl 0 rfl) ?_
        refine lv_iload_n hx hb dX9_instead_76 rfl (lv_at hl 5 rfl) ?_
        refine lv_icmp_ne (tgt := 83) hx hb dX9_instead_77 (by decide) (fun c77 => ?_) (fun c77 => ?_)
        · have hv : ¬ nI k < 0 → nI k = nI (ix (nI k)) ∧ ix (nI k) < 5 := fun _ => by rw [ix_nI (by omega)]; exact ⟨rfl, by omega⟩
          refine lv_aload_n hx hb dX9_instead_83 rfl (lv_at hl 3 rfl) ?_
          refine lv_iload_n hx hb dX9_instead_84 rfl (lv_at hl 4 rfl) ?_
          refine lv_iload hx hb dX9_instead_85 (lv_at hl 0 rfl) ?_
          refine z_stk (st' := [.int (nI k), .int (nI (ix x)), .ref mb]) (by rw [← show x = nI (ix x) from hh.1]) ?_
          refine m_callv (As := [.int (nI (ix x)), .int (nI k)]) (rest := []) S hKK hP hS (mm_gets l D t mb B1 (ix x) (nI k) (by omega) hv) (cwV 2 hts (lw_V q1366 q1368 qs71 q104 q1369) rfl rfl rfl (by decide +kernel) ⟨Nat.le_of_ble_eq_true rfl, Nat.le_of_ble_eq_true rfl⟩) rfl hl.1 rfl (Nat.le_of_ble_eq_true rfl) dX9_instead_87 ⟨Nat.le_of_ble_eq_true rfl, Nat.le_of_ble_eq_true rfl⟩ (fun B87 H locs h87 hP hS => ?_)
          have h87 : B87 = upc B1 2 (geS (B1 2) (ix x) (nI k)) := h87
          subst h87
          have hok : Ok ((upc B1 2 (geS (B1 2) (ix x) (nI k))) 2) 999 := by rw [upc_same, hb2]; exact Ok_geS ho hh.2 (Or.inr ⟨nI_le (a := 0) (by omega) (by omega), by rw [ho.hr2]; exact nI_lt hk2 (by omega)⟩)
          have hnj : ix x < nH ((upc B1 2 (geS (B1 2) (ix x) (nI k))) 2) := by rw [upc_same, hb2, nH_eq (geS_off (by omega))]; exact hh.2
          refine lv_aload_n hx hb dX9_instead_90 rfl (lv_at hl 3 rfl) ?_
          refine lv_iload_n hx hb dX9_instead_91 rfl (lv_at hl 4 rfl) ?_
          refine z_stk (st' := [.int (nI (ix x)), .ref mb]) (by rw [← show x = nI (ix x) from hh.1]) ?_
          refine m_calli (As := [.int (nI (ix x))]) (rest := []) S hKK hP hS (mm_ridOf l D t mb (upc B1 2 (geS (B1 2) (ix x) (nI k))) 999 (ix x) hok (by omega) hnj) (cwV 1 hts (lw_V q1518 q1520 qs91 q104 q1521) rfl rfl rfl (by decide +kernel) ⟨Nat.le_of_ble_eq_true rfl, Nat.le_of_ble_eq_true rfl⟩) rfl hl.1 rfl (Nat.le_of_ble_eq_true rfl) dX9_instead_92 ⟨Nat.le_of_ble_eq_true rfl, Nat.le_of_ble_eq_true rfl⟩ (fun r92 B92 H locs h92 hP hS => ?_)
          obtain ⟨hr92, hs92⟩ : r92 = rdS ((upc B1 2 (geS (B1 2) (ix x) (nI k))) 2) (ix x) ∧ SC _ B92 := h92
          rw [upc_same, hb2] at hr92
          have hRB : RB B B92 := hEk.put hs92
          refine z_top (y := rdS (geS (B 2) (ix x) (nI k)) (ix x)) hr92 ?_
          refine lv_istore (lv' := [(7, .int (rdS (geS (B 2) (ix x) (nI k)) (ix x))), (6, .int (nI k)), (5, .int ((mnL (fun i => if nI i = hd (B 2) (ix x) 3 then -9 else rdS (geS (B 2) (ix x) (nI i)) (ix x)) (-9, r51) k).1)), (4, .int ((mnL (fun i => if nI i = hd (B 2) (ix x) 3 then -9 else rdS (geS (B 2) (ix x) (nI i)) (ix x)) (-9, r51) k).2)), (0, .ref mb), (1, .int x), (3, .int (hd (B 2) (ix x) 3))]) hx hb dX9_instead_95 hl (by decide) rfl (fun ls hl => ?_)
          refine W.join (α := Array Slot) (fun ls => F0 m 125 ls []) (fun ls => lv_has ls 8 [(6, .int (nI k)), (5, .int ((mnL (fun i => if nI i = hd (B 2) (ix x) 3 then -9 else rdS (geS (B 2) (ix x) (nI i)) (ix x)) (-9, r51) (k + 1)).1)), (4, .int ((mnL (fun i => if nI i = hd (B 2) (ix x) 3 then -9 else rdS (geS (B 2) (ix x) (nI i)) (ix x)) (-9, r51) (k + 1)).2)), (0, .ref mb), (1, .int x), (3, .int (hd (B 2) (ix x) 3))]) (fun ls hl => ?_) (fun JL => ?_)
          · refine lv_iinc (v := nI (k + 1)) (lv' := [(6, .int (nI (k + 1))), (5, .int ((mnL (fun i => if nI i = hd (B 2) (ix x) 3 then -9 else rdS (geS (B 2) (ix x) (nI i)) (ix x)) (-9, r51) (k + 1)).1)), (4, .int ((mnL (fun i => if nI i = hd (B 2) (ix x) 3 then -9 else rdS (geS (B 2) (ix x) (nI i)) (ix x)) (-9, r51) (k + 1)).2)), (0, .ref mb), (1, .int x), (3, .int (hd (B 2) (ix x) 3))]) hx hb dX9_instead_125 hl (k := 0) rfl (nI_1 k) (by decide) rfl (fun ls hl => ?_)
            refine lv_goto (tgt := 63) hx hb dX9_instead_128 (by decide) ?_
            exact ihk (k + 1, B92) H locs ls (by show nS (B 2) - (k + 1) < nS (B 2) - k; omega) ⟨by show k + 1 ≤ nS (B 2); omega, hRB, hP, hS, lv_sub hl [0, 1, 2, 3, 4, 5] rfl⟩
          · refine lv_iload hx hb dX9_instead_97 (lv_at hl 0 rfl) ?_
            refine lv_if_lt (tgt := 125) hx hb dX9_instead_99 (by decide) (fun c99 => ?_) (fun c99 => ?_)
            · exact JL ls (by rw [show (mnL (fun i => if nI i = hd (B 2) (ix x) 3 then -9 else rdS (geS (B 2) (ix x) (nI i)) (ix x)) (-9, r51) (k + 1)).1 = (mnL (fun i => if nI i = hd (B 2) (ix x) 3 then -9 else rdS (geS (B 2) (ix x) (nI i)) (ix x)) (-9, r51) k).1 from (by simp only [mnL]; rw [if_neg c77]; grind)]; rw [show (mnL (fun i => if nI i = hd (B 2) (ix x) 3 then -9 else rdS (geS (B 2) (ix x) (nI i)) (ix x)) (-9, r51) (k + 1)).2 = (mnL (fun i => if nI i = hd (B 2) (ix x) 3 then -9 else rdS (geS (B 2) (ix x) (nI i)) (ix x)) (-9, r51) k).2 from (by simp only [mnL]; rw [if_neg c77]; grind)]; exact lv_sub hl [1, 2, 3, 4, 5, 6] rfl)
            · refine lv_iload hx hb dX9_instead_102 (lv_at hl 3 rfl) ?_
              refine lv_if_lt (tgt := 117) hx hb dX9_instead_104 (by decide) (fun c104 => ?_) (fun c104 => ?_)
              · refine lv_iload hx hb dX9_instead_117 (lv_at hl 1 rfl) ?_
                refine lv_istore (lv' := [(5, .int (nI k)), (7, .int (rdS (geS (B 2) (ix x) (nI k)) (ix x))), (6, .int (nI k)), (4, .int ((mnL (fun i => if nI i = hd (B 2) (ix x) 3 then -9 else rdS (geS (B 2) (ix x) (nI i)) (ix x)) (-9, r51) k).2)), (0, .ref mb), (1, .int x), (3, .int (hd (B 2) (ix x) 3))]) hx hb dX9_instead_119 hl (by decide) rfl (fun ls hl => ?_)
                refine lv_iload hx hb dX9_instead_121 (lv_at hl 1 rfl) ?_
                refine lv_istore (lv' := [(4, .int (rdS (geS (B 2) (ix x) (nI k)) (ix x))), (5, .int (nI k)), (7, .int (rdS (geS (B 2) (ix x) (nI k)) (ix x))), (6, .int (nI k)), (0, .ref mb), (1, .int x), (3, .int (hd (B 2) (ix x) 3))]) hx hb dX9_instead_123 hl (by decide) rfl (fun ls hl => ?_)
                exact JL ls (by rw [show (mnL (fun i => if nI i = hd (B 2) (ix x) 3 then -9 else rdS (geS (B 2) (ix x) (nI i)) (ix x)) (-9, r51) (k + 1)).1 = nI k from (by simp only [mnL]; rw [if_neg c77]; grind)]; rw [show (mnL (fun i => if nI i = hd (B 2) (ix x) 3 then -9 else rdS (geS (B 2) (ix x) (nI i)) (ix x)) (-9, r51) (k + 1)).2 = rdS (geS (B 2) (ix x) (nI k)) (ix x) from (by simp only [mnL]; rw [if_neg c77]; grind)]; exact lv_sub hl [3, 1, 0, 4, 5, 6] rfl)
              · refine lv_iload hx hb dX9_instead_107 (lv_at hl 0 rfl) ?_
                refine lv_iload hx hb dX9_instead_109 (lv_at hl 3 rfl) ?_
                refine lv_icmp_lt (tgt := 117) hx hb dX9_instead_111 (by decide) (fun c111 => ?_) (fun c111 => ?_)
                · refine lv_iload hx hb dX9_instead_117 (lv_at hl 1 rfl) ?_
                  refine lv_istore (lv' := [(5, .int (nI k)), (7, .int (rdS (geS (B 2) (ix x) (nI k)) (ix x))), (6, .int (nI k)), (4, .int ((mnL (fun i => if nI i = hd (B 2) (ix x) 3 then -9 else rdS (geS (B 2) (ix x) (nI i)) (ix x)) (-9, r51) k).2)), (0, .ref mb), (1, .int x), (3, .int (hd (B 2) (ix x) 3))]) hx hb dX9_instead_119 hl (by decide) rfl (fun ls hl => ?_)
                  refine lv_iload hx hb dX9_instead_121 (lv_at hl 1 rfl) ?_
                  refine lv_istore (lv' := [(4, .int (rdS (geS (B 2) (ix x) (nI k)) (ix x))), (5, .int (nI k)), (7, .int (rdS (geS (B 2) (ix x) (nI k)) (ix x))), (6, .int (nI k)), (0, .ref mb), (1, .int x), (3, .int (hd (B 2) (ix x) 3))]) hx hb dX9_instead_123 hl (by decide) rfl (fun ls hl => ?_)
                  exact JL ls (by rw [show (mnL (fun i => if nI i = hd (B 2) (ix x) 3 then -9 else rdS (geS (B 2) (ix x) (nI i)) (ix x)) (-9, r51) (k + 1)).1 = nI k from (by simp only [mnL]; rw [if_neg c77]; grind)]; rw [show (mnL (fun i => if nI i = hd (B 2) (ix x) 3 then -9 else rdS (geS (B 2) (ix x) (nI i)) (ix x)) (-9, r51) (k + 1)).2 = rdS (geS (B 2) (ix x) (nI k)) (ix x) from (by simp only [mnL]; rw [if_neg c77]; grind)]; exact lv_sub hl [3, 1, 0, 4, 5, 6] rfl)
                · refine lv_goto (tgt := 125) hx hb dX9_instead_114 (by decide) ?_
                  exact JL ls (by rw [show (mnL (fun i => if nI i = hd (B 2) (ix x) 3 then -9 else rdS (geS (B 2) (ix x) (nI i)) (ix x)) (-9, r51) (k + 1)).1 = (mnL (fun i => if nI i = hd (B 2) (ix x) 3 then -9 else rdS (geS (B 2) (ix x) (nI i)) (ix x)) (-9, r51) k).1 from (by simp only [mnL]; rw [if_neg c77]; grind)]; rw [show (mnL (fun i => if nI i = hd (B 2) (ix x) 3 then -9 else rdS (geS (B 2) (ix x) (nI i)) (ix x)) (-9, r51) (k + 1)).2 = (mnL (fun i => if nI i = hd (B 2) (ix x) 3 then -9 else rdS (geS (B 2) (ix x) (nI i)) (ix x)) (-9, r51) k).2 from (by simp only [mnL]; rw [if_neg c77]; grind)]; exact lv_sub hl [1, 2, 3, 4, 5, 6] rfl)
        · have hRB := hEk
          have eM : mnL (fun i => if nI i = hd (B 2) (ix x) 3 then -9 else rdS (geS (B 2) (ix x) (nI i)) (ix x)) (-9, r51) (k + 1) = mnL (fun i => if nI i = hd (B 2) (ix x) 3 then -9 else rdS (geS (B 2) (ix x) (nI i)) (ix x)) (-9, r51) k := by simp only [mnL]; rw [if_pos c77]; rfl
          have hl : lv_has ls 8 [(6, .int (nI k)), (5, .int ((mnL (fun i => if nI i = hd (B 2) (ix x) 3 then -9 else rdS (geS (B 2) (ix x) (nI i)) (ix x)) (-9, r51) (k + 1)).1)), (4, .int ((mnL (fun i => if nI i = hd (B 2) (ix x) 3 then -9 else rdS (geS (B 2) (ix x) (nI i)) (ix x)) (-9, r51) (k + 1)).2)), (0, .ref mb), (1, .int x), (3, .int (hd (B 2) (ix x) 3))] := by rw [eM]; exact lv_sub hl [0, 1, 2, 3, 4, 5] rfl
          refine lv_goto (tgt := 125) hx hb dX9_instead_80 (by decide) ?_
          refine lv_iinc (v := nI (k + 1)) (lv' := [(6, .int (nI (k + 1))), (5, .int ((mnL (fun i => if nI i = hd (B 2) (ix x) 3 then -9 else rdS (geS (B 2) (ix x) (nI i)) (ix x)) (-9, r51) (k + 1)).1)), (4, .int ((mnL (fun i => if nI i = hd (B 2) (ix x) 3 then -9 else rdS (geS (B 2) (ix x) (nI i)) (ix x)) (-9, r51) (k + 1)).2)), (0, .ref mb), (1, .int x), (3, .int (hd (B 2) (ix x) 3))]) hx hb dX9_instead_125 hl (k := 0) rfl (nI_1 k) (by decide) rfl (fun ls hl => ?_)
          refine lv_goto (tgt := 63) hx hb dX9_instead_128 (by decide) ?_
          exact ihk (k + 1, B1) H locs ls (by show nS (B 2) - (k + 1) < nS (B 2) - k; omega) ⟨by show k + 1 ≤ nS (B 2); omega, hRB, hP, hS, lv_sub hl [0, 1, 2, 3, 4, 5] rfl⟩
    · have hno : rfOk (inN (B 2) x) := by unfold inN at c29 ⊢; unfold rfOk; grind
      refine lv_aload_n hx hb dX9_instead_32 rfl (lv_at hl 1 rfl) ?_
      refine lv_iload_n hx hb dX9_instead_33 rfl (lv_at hl 0 rfl) ?_
      refine m_calli (As := [.int (inN (B 2) x)]) (rest := []) S hKK hP hS (mm_refuse l D t mb B (inN (B 2) x) (ix (-(inN (B 2) x))) (rf1 hno) (rf2 hno)) (cwV 1 hts (lw_V q1306 q1308 qs60 q104 q1309) rfl rfl rfl (by decide +kernel) ⟨Nat.le_of_ble_eq_true rfl, Nat.le_of_ble_eq_true rfl⟩) rfl hl.1 rfl (Nat.le_of_ble_eq_true rfl) dX9_instead_34 ⟨Nat.le_of_ble_eq_true rfl, Nat.le_of_ble_eq_true rfl⟩ (fun r34 B34 H locs h34 hP hS => ?_)
      exact m_iret hx hb hr (rf_close h34 (if_neg c29)) hP hS dX9_instead_37 hlk
  · refine lv_aload_n hx hb dX9_instead_0 rfl (lv_at hl 0 rfl) ?_
    refine lv_iload_n hx hb dX9_instead_1 rfl (lv_at hl 1 rfl) ?_
    refine m_callr (As := [.int x]) (rest := []) S hKK hP (mm_isHead l D t mb B x) (cwV 1 hts (lw_V q1358 q1360 qs69 q104 q1361) rfl rfl rfl (by decide +kernel) ⟨Nat.le_of_ble_eq_true rfl, Nat.le_of_ble_eq_true rfl⟩) rfl hl.1 rfl (Nat.le_of_ble_eq_true rfl) dX9_instead_2 ⟨Nat.le_of_ble_eq_true rfl, Nat.le_of_ble_eq_true rfl⟩ ?_
    refine z_ifne (tgt := 12) hx hb dX9_instead_5 (by decide) (fun c5 => ?_) (fun c5 => ?_)
    · have hh := isH_ix ho c5
      refine lv_aload_n hx hb dX9_instead_12 rfl (lv_at hl 0 rfl) ?_
      refine lv_iload_n hx hb dX9_instead_13 rfl (lv_at hl 1 rfl) ?_
      refine lv_iconst (v := 3) hx hb dX9_instead_14 (by decide) ?_
      refine z_stk (st' := [.int 3, .int (nI (ix x)), .ref mb]) (by rw [← show x = nI (ix x) from hh.1]) ?_
      refine m_callr (As := [.int (nI (ix x)), .int 3]) (rest := []) S hKK hP (mm_at l D t mb B (ix x) 3 (by omega)) (cwV 2 hts (lw_V q1386 q1388 qs75 q104 q1389) rfl rfl rfl (by decide +kernel) ⟨Nat.le_of_ble_eq_true rfl, Nat.le_of_ble_eq_true rfl⟩) rfl hl.1 rfl (Nat.le_of_ble_eq_true rfl) dX9_instead_15 ⟨Nat.le_of_ble_eq_true rfl, Nat.le_of_ble_eq_true rfl⟩ ?_
      refine lv_if_ge (tgt := 26) hx hb dX9_instead_18 (by decide) (fun c18 => ?_) (fun c18 => ?_)
      · refine lv_iconst (v := 0) hx hb dX9_instead_26 (by decide) ?_
        exact J _ (by grind [inN, isH])
      · refine lv_bipush (v := (-3)) hx hb dX9_instead_21 (by decide) ?_
        refine lv_goto (tgt := 27) hx hb dX9_instead_23 (by decide) ?_
        exact J _ (by grind [inN, isH])
    · refine lv_iconst (v := (-1)) hx hb dX9_instead_8 (by decide) ?_
      refine lv_goto (tgt := 27) hx hb dX9_instead_9 (by decide) ?_
      exact J _ (by grind [inN, isH])
