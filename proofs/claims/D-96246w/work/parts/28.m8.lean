/-! THE MODEL's FACE (3): printed by wip/D-96246w/gen/gen_m8.py -/
set_option maxRecDepth 100000
set_option maxHeartbeats 4000000 in
theorem mm_shut (l : Launch) (D : va_G) (t : Nat → ClassId) (mb : Nat) (B : BT) (x : Int32) (hB : OkB B) : Met l yX9_shut (ws_ yX9_shut cX9_shut 7 (some .int)) ({ frames := 7, cells := 0, slots := 0, locals := 158 }) (zPc [.ref mb, .int x] (MW D t mb B) (KK D t)) (va_Qi (fun r B' => r = (shutS B x).1 ∧ PE (shutS B x).2 B') (fun B' U => MW D t mb B' U.heap) (mA mb)) 0 0 (mA mb) := by
  refine zOf (cc := cX9_shut) (maxL := 7) (ret := (some .int)) (by decide) (Nat.le_of_ble_eq_true rfl) (fun pg ev s m below meth cd ls F hP hKK hl hnm => ?_)
  obtain ⟨hx, hb, hml, hown, hts, hr, hlk⟩ := F
  have S : CallFix pg m cd cX9_shut 7 s _ lw_all RX9 := ⟨hx, hb, hml, hown, hts⟩
  have hl : lv_has ls 7 [(0, .ref mb), (1, .int x)] := hl
  have hS : va_S (mA mb) s.heap s.heap [] := va_S.rf
  have ho := hB.1
  have hj6 := ho.h6
  have hs5 := ho.s5
  have hd8 := ho.d8
  have hh3 := ho.hr3
  have hh6 := ho.h6
  have hd0 := ho.hr0
  refine lv_iload_n hx hb dX9_shut_0 rfl (lv_at hl 1 rfl) ?_
  refine lv_iconst (v := 0) hx hb dX9_shut_1 (by decide) ?_
  refine lv_bipush (v := 60) hx hb dX9_shut_2 (by decide) ?_
  refine m_callS (As := [.int x, .int 0, .int 60]) (rest := []) S hKK trivial (mm_within l D t x 0 60) (va_cwS 3 hts (lw_S q1303 q1304 q104 q1305) rfl rfl rfl (by decide +kernel) ⟨Nat.le_of_ble_eq_true rfl, Nat.le_of_ble_eq_true rfl⟩) rfl hl.1 rfl (Nat.le_of_ble_eq_true rfl) dX9_shut_4 ⟨Nat.le_of_ble_eq_true rfl, Nat.le_of_ble_eq_true rfl⟩ ?_
  refine lv_istore_n (lv' := [(2, .int (wiS x 0 60)), (0, .ref mb), (1, .int x)]) hx hb dX9_shut_7 rfl hl (by decide) rfl (fun ls hl => ?_)
  refine lv_iload_n hx hb dX9_shut_8 rfl (lv_at hl 0 rfl) ?_
  refine lv_if_eq (tgt := 18) hx hb dX9_shut_9 (by decide) (fun c9 => ?_) (fun c9 => ?_)
  · have hh := wi_ix c9
    refine lv_aload_n hx hb dX9_shut_18 rfl (lv_at hl 1 rfl) ?_
    refine m_callv (As := []) (rest := []) S hKK hP hS (mm_begins l D t mb B ) (cwV 0 hts (lw_V q1462 q1464 qs85 q104 q1465) rfl rfl rfl (by decide +kernel) ⟨Nat.le_of_ble_eq_true rfl, Nat.le_of_ble_eq_true rfl⟩) rfl hl.1 rfl (Nat.le_of_ble_eq_true rfl) dX9_shut_19 ⟨Nat.le_of_ble_eq_true rfl, Nat.le_of_ble_eq_true rfl⟩ (fun B19 H locs h19 hP hS => ?_)
    have h19 : B19 = upc B 5 (B 2) := h19
    subst h19
    refine lv_aload_n hx hb dX9_shut_22 rfl (lv_at hl 1 rfl) ?_
    refine lv_iconst (v := (-1)) hx hb dX9_shut_23 (by decide) ?_
    refine lv_iload_n hx hb dX9_shut_24 rfl (lv_at hl 2 rfl) ?_
    refine z_stk (st' := [.int (nI (ix x)), .int (-1), .ref mb]) (by rw [← show x = nI (ix x) from hh.1]) ?_
    refine m_calli (As := [.int (-1), .int (nI (ix x))]) (rest := []) S hKK hP hS (mm_haveBehind l D t mb (upc B 5 (B 2)) 999 (ix x) (-1) ho (by omega)) (cwV 2 hts (lw_V q1478 q1480 qs88 q104 q1481) rfl rfl rfl (by decide +kernel) ⟨Nat.le_of_ble_eq_true rfl, Nat.le_of_ble_eq_true rfl⟩) rfl hl.1 rfl (Nat.le_of_ble_eq_true rfl) dX9_shut_25 ⟨Nat.le_of_ble_eq_true rfl, Nat.le_of_ble_eq_true rfl⟩ (fun r25 B25 H locs h25 hP hS => ?_)
    obtain ⟨hr25, hs25⟩ : r25 = haS (hrS (B 2) (ix x)) (-1) ∧ SC _ B25 := h25
    have hRB0 : RB B B25 := (RB_begin B).sc hs25
    refine lv_istore_n (lv' := [(3, .int r25), (2, .int (wiS x 0 60)), (0, .ref mb), (1, .int x)]) hx hb dX9_shut_28 rfl hl (by decide) rfl (fun ls hl => ?_)
    refine lv_bipush (v := (-9)) hx hb dX9_shut_29 (by decide) ?_
    refine lv_istore (lv' := [(4, .int (-9)), (3, .int r25), (2, .int (wiS x 0 60)), (0, .ref mb), (1, .int x)]) hx hb dX9_shut_31 hl (by decide) rfl (fun ls hl => ?_)
    refine lv_iconst (v := 0) hx hb dX9_shut_33 (by decide) ?_
    refine lv_istore (lv' := [(5, .int 0), (4, .int (-9)), (3, .int r25), (2, .int (wiS x 0 60)), (0, .ref mb), (1, .int x)]) hx hb dX9_shut_34 hl (by decide) rfl (fun ls hl => ?_)
    refine W.loop (σ := Nat × BT) (fun sv H locs ls => sv.1 ≤ nD (B 2) ∧ (RB B sv.2) ∧ MW D t mb sv.2 H ∧ va_S (mA mb) s.heap H locs ∧ lv_has ls 7 [(5, .int (nI sv.1)), (4, .int ((lsL (fun d => bt (B 2 1) d) (fun d => haS (hrS (shR (B 2) d) (ix x)) (-1)) (-9, r25) sv.1).1)), (3, .int ((lsL (fun d => bt (B 2 1) d) (fun d => haS (hrS (shR (B 2) d) (ix x)) (-1)) (-9, r25) sv.1).2)), (0, .ref mb), (1, .int x)]) (fun sv => nD (B 2) - sv.1) (fun sv H locs ls hI ihk => ?_) (0, B25) ⟨by show 0 ≤ nD (B 2); omega, hRB0, hP, hS, lv_sub hl [0, 1, 2, 4, 5] rfl⟩
    obtain ⟨k, B1⟩ := sv
    obtain ⟨hk, hEk, hP, hS, hl⟩ := hI
    have hl : lv_has ls 7 [(5, .int (nI k)), (4, .int ((lsL (fun d => bt (B 2 1) d) (fun d => haS (hrS (shR (B 2) d) (ix x)) (-1)) (-9, r25) k).1)), (3, .int ((lsL (fun d => bt (B 2 1) d) (fun d => haS (hrS (shR (B 2) d) (ix x)) (-1)) (-9, r25) k).2)), (0, .ref mb), (1, .int x)] := hl
    dsimp only at hk hEk hP
    refine lv_iload hx hb dX9_shut_36 (lv_at hl 0 rfl) ?_
    refine lv_aload_n hx hb dX9_shut_38 rfl (lv_at hl 3 rfl) ?_
    refine m_get hx hb hts hown hKK hP 1 (by decide) q1248 rfl rfl dX9_shut_39 ?_
    refine lv_iconst (v := 0) hx hb dX9_shut_42 (by decide) ?_
    refine m_ald hx hb hKK hP 2 rfl (k := 0) (v := B 2 0) rfl (by omega) (by decide) (by rw [hEk.1]) dX9_shut_43 ?_
    refine lv_icmp_ge (tgt := 121) hx hb dX9_shut_44 (by decide) (fun c44 => ?_) (fun c44 => ?_)
    · obtain rfl : k = nD (B 2) := Nat.le_antisymm hk (lp_end ho.hr0 (by omega) (by omega) c44)
      refine lv_iload hx hb dX9_shut_121 (lv_at hl 1 rfl) ?_
      exact m_iret hx hb hr (ok_close (o := shutS B x) (by unfold shutS; rw [if_pos c9]; unfold shP; rw [hr25]) hEk.pe) hP hS dX9_shut_123 hlk
    · have hk2 : k < nD (B 2) := lp_go ho.hr0 (by omega) (by omega) c44
      have hb2 : B1 2 = B 2 := hEk.1
      refine lv_aload_n hx hb dX9_shut_47 rfl (lv_at hl 3 rfl) ?_
      refine m_get hx hb hts hown hKK hP 1 (by decide) q1248 rfl rfl dX9_shut_48 ?_
      refine lv_iconst (v := 1) hx hb dX9_shut_51 (by decide) ?_
      refine m_ald hx hb hKK hP 2 rfl (k := 1) (v := B 2 1) rfl (by omega) (by decide) (by rw [hEk.1]) dX9_shut_52 ?_
      refine lv_iload hx hb dX9_shut_53 (lv_at hl 0 rfl) ?_
      refine lv_ishr hx hb dX9_shut_55 ?_
      refine lv_iconst (v := 1) hx hb dX9_shut_56 (by decide) ?_
      refine lv_iand hx hb dX9_shut_57 ?_
      refine lv_if_ne (tgt := 64) hx hb dX9_shut_58 (by decide) (fun c58 => ?_) (fun c58 => ?_)
      · have hbt : bt (B 2 1) k = true := by cases q : bt (B 2 1) k with | true => rfl | false => exact absurd ((b_bit0 _ (by omega)).mpr q) c58
        refine lv_aload_n hx hb dX9_shut_64 rfl (lv_at hl 3 rfl) ?_
        refine m_get hx hb hts hown hKK hP 1 (by decide) q1248 rfl rfl dX9_shut_65 ?_
        refine lv_iconst (v := 1) hx hb dX9_shut_68 (by decide) ?_
        refine lv_dup2_11 hx hb dX9_shut_69 rfl rfl ?_
        refine m_ald hx hb hKK hP 2 rfl (k := 1) (v := B 2 1) rfl (by omega) (by decide) (by rw [hEk.1]) dX9_shut_70 ?_
        refine lv_iconst (v := 1) hx hb dX9_shut_71 (by decide) ?_
        refine lv_iload hx hb dX9_shut_72 (lv_at hl 0 rfl) ?_
        refine lv_ishl hx hb dX9_shut_74 ?_
        refine lv_iconst (v := (-1)) hx hb dX9_shut_75 (by decide) ?_
        refine lv_ixor hx hb dX9_shut_76 ?_
        refine lv_iand hx hb dX9_shut_77 ?_
        refine m_ast hx hb hKK hP hS 2 rfl (k := 1) rfl (by omega) (by decide) rfl dX9_shut_78 (fun H locs hP hS => ?_)
        have hsh : (up2 B1 2 1 (B 2 1 &&& ((1 <<< (nI k &&& 31)) ^^^ (-1)))) 2 = shR (B 2) k := by rw [up2_same, hb2]; rfl
        have hok : Ok ((up2 B1 2 1 (B 2 1 &&& ((1 <<< (nI k &&& 31)) ^^^ (-1)))) 2) 999 := by rw [hsh]; exact Ok_shR ho
        refine lv_aload_n hx hb dX9_shut_79 rfl (lv_at hl 3 rfl) ?_
        refine lv_iconst (v := (-1)) hx hb dX9_shut_80 (by decide) ?_
        refine lv_iload_n hx hb dX9_shut_81 rfl (lv_at hl 4 rfl) ?_
        refine z_stk (st' := [.int (nI (ix x)), .int (-1), .ref mb]) (by rw [← show x = nI (ix x) from hh.1]) ?_
        refine m_calli (As := [.int (-1), .int (nI (ix x))]) (rest := []) S hKK hP hS (mm_haveBehind l D t mb (up2 B1 2 1 ((B 2 1) &&& ((1 <<< ((nI k) &&& 31)) ^^^ (-1)))) 999 (ix x) (-1) hok (by omega)) (cwV 2 hts (lw_V q1478 q1480 qs88 q104 q1481) rfl rfl rfl (by decide +kernel) ⟨Nat.le_of_ble_eq_true rfl, Nat.le_of_ble_eq_true rfl⟩) rfl hl.1 rfl (Nat.le_of_ble_eq_true rfl) dX9_shut_82 ⟨Nat.le_of_ble_eq_true rfl, Nat.le_of_ble_eq_true rfl⟩ (fun r82 B82 H locs h82 hP hS => ?_)
        obtain ⟨hr82, hs82⟩ : r82 = haS (hrS ((up2 B1 2 1 (B 2 1 &&& ((1 <<< (nI k &&& 31)) ^^^ (-1)))) 2) (ix x)) (-1) ∧ SC _ B82 := h82
        rw [hsh] at hr82
        have hRB : RB B B82 := hEk.put (f := upd (B1 2) 1 (B 2 1 &&& ((1 <<< (nI k &&& 31)) ^^^ (-1)))) hs82
        refine lv_istore (lv' := [(6, .int r82), (5, .int (nI k)), (4, .int ((lsL (fun d => bt (B 2 1) d) (fun d => haS (hrS (shR (B 2) d) (ix x)) (-1)) (-9, r25) k).1)), (3, .int ((lsL (fun d => bt (B 2 1) d) (fun d => haS (hrS (shR (B 2) d) (ix x)) (-1)) (-9, r25) k).2)), (0, .ref mb), (1, .int x)]) hx hb dX9_shut_85 hl (by decide) rfl (fun ls hl => ?_)
        refine W.join (fun vJ => F0 m 100 ls (.int vJ :: [])) (fun vJ => vJ = (lsL (fun d => bt (B 2 1) d) (fun d => haS (hrS (shR (B 2) d) (ix x)) (-1)) (-9, r25) (k + 1)).1) (fun vJ hJ => ?_) (fun J => ?_)
        · subst hJ
          refine lv_istore (lv' := [(4, .int ((lsL (fun d => bt (B 2 1) d) (fun d => haS (hrS (shR (B 2) d) (ix x)) (-1)) (-9, r25) (k + 1)).1)), (6, .int r82), (5, .int (nI k)), (3, .int ((lsL (fun d => bt (B 2 1) d) (fun d => haS (hrS (shR (B 2) d) (ix x)) (-1)) (-9, r25) k).2)), (0, .ref mb), (1, .int x)]) hx hb dX9_shut_100 hl (by decide) rfl (fun ls hl => ?_)
          refine W.join (fun vJ => F0 m 114 ls (.int vJ :: [])) (fun vJ => vJ = (lsL (fun d => bt (B 2 1) d) (fun d => haS (hrS (shR (B 2) d) (ix x)) (-1)) (-9, r25) (k + 1)).2) (fun vJ hJ => ?_) (fun J2 => ?_)
          · subst hJ
            refine lv_istore_n (lv' := [(3, .int ((lsL (fun d => bt (B 2 1) d) (fun d => haS (hrS (shR (B 2) d) (ix x)) (-1)) (-9, r25) (k + 1)).2)), (4, .int ((lsL (fun d => bt (B 2 1) d) (fun d => haS (hrS (shR (B 2) d) (ix x)) (-1)) (-9, r25) (k + 1)).1)), (6, .int r82), (5, .int (nI k)), (0, .ref mb), (1, .int x)]) hx hb dX9_shut_114 rfl hl (by decide) rfl (fun ls hl => ?_)
            refine lv_iinc (v := nI (k + 1)) (lv' := [(5, .int (nI (k + 1))), (3, .int ((lsL (fun d => bt (B 2 1) d) (fun d => haS (hrS (shR (B 2) d) (ix x)) (-1)) (-9, r25) (k + 1)).2)), (4, .int ((lsL (fun d => bt (B 2 1) d) (fun d => haS (hrS (shR (B 2) d) (ix x)) (-1)) (-9, r25) (k + 1)).1)), (6, .int r82), (0, .ref mb), (1, .int x)]) hx hb dX9_shut_115 hl (k := 3) rfl (nI_1 k) (by decide) rfl (fun ls hl => ?_)
            refine lv_goto (tgt := 36) hx hb dX9_shut_118 (by decide) ?_
            exact ihk (k + 1, B82) H locs ls (by show nD (B 2) - (k + 1) < nD (B 2) - k; omega) ⟨by show k + 1 ≤ nD (B 2); omega, hRB, hP, hS, lv_sub hl [0, 2, 1, 4, 5] rfl⟩
          · refine lv_iload hx hb dX9_shut_102 (lv_at hl 1 rfl) ?_
            refine lv_iload_n hx hb dX9_shut_104 rfl (lv_at hl 3 rfl) ?_
            refine lv_icmp_ge (tgt := 113) hx hb dX9_shut_105 (by decide) (fun c105 => ?_) (fun c105 => ?_)
            · refine lv_iload_n hx hb dX9_shut_113 rfl (lv_at hl 3 rfl) ?_
              exact J2 _ (by simp only [lsL]; grind)
            · refine lv_iload hx hb dX9_shut_108 (lv_at hl 1 rfl) ?_
              refine lv_goto (tgt := 114) hx hb dX9_shut_110 (by decide) ?_
              exact J2 _ (by simp only [lsL]; grind)
        · refine lv_iload hx hb dX9_shut_87 (lv_at hl 0 rfl) ?_
          refine lv_iload_n hx hb dX9_shut_89 rfl (lv_at hl 3 rfl) ?_
          refine lv_icmp_ge (tgt := 98) hx hb dX9_shut_90 (by decide) (fun c90 => ?_) (fun c90 => ?_)
          · refine lv_iload hx hb dX9_shut_98 (lv_at hl 2 rfl) ?_
            exact J _ (by simp only [lsL]; grind)
          · refine lv_iload hx hb dX9_shut_93 (lv_at hl 1 rfl) ?_
            refine lv_goto (tgt := 100) hx hb dX9_shut_95 (by decide) ?_
            exact J _ (by simp only [lsL]; grind)
      · have hbt : bt (B 2 1) k = false := (b_bit0 _ (by omega)).mp c58
        have eM : lsL (fun d => bt (B 2 1) d) (fun d => haS (hrS (shR (B 2) d) (ix x)) (-1)) (-9, r25) (k + 1) = lsL (fun d => bt (B 2 1) d) (fun d => haS (hrS (shR (B 2) d) (ix x)) (-1)) (-9, r25) k := by simp only [lsL]; rw [if_neg (by rw [hbt]; simp)]
        have hRB := hEk
        have hl : lv_has ls 7 [(5, .int (nI k)), (4, .int ((lsL (fun d => bt (B 2 1) d) (fun d => haS (hrS (shR (B 2) d) (ix x)) (-1)) (-9, r25) (k + 1)).1)), (3, .int ((lsL (fun d => bt (B 2 1) d) (fun d => haS (hrS (shR (B 2) d) (ix x)) (-1)) (-9, r25) (k + 1)).2)), (0, .ref mb), (1, .int x)] := by rw [eM]; exact lv_sub hl [0, 1, 2, 3, 4] rfl
        refine lv_goto (tgt := 115) hx hb dX9_shut_61 (by decide) ?_
        refine lv_iinc (v := nI (k + 1)) (lv' := [(5, .int (nI (k + 1))), (4, .int ((lsL (fun d => bt (B 2 1) d) (fun d => haS (hrS (shR (B 2) d) (ix x)) (-1)) (-9, r25) (k + 1)).1)), (3, .int ((lsL (fun d => bt (B 2 1) d) (fun d => haS (hrS (shR (B 2) d) (ix x)) (-1)) (-9, r25) (k + 1)).2)), (0, .ref mb), (1, .int x)]) hx hb dX9_shut_115 hl (k := 0) rfl (nI_1 k) (by decide) rfl (fun ls hl => ?_)
        refine lv_goto (tgt := 36) hx hb dX9_shut_118 (by decide) ?_
        exact ihk (k + 1, B1) H locs ls (by show nD (B 2) - (k + 1) < nD (B 2) - k; omega) ⟨by show k + 1 ≤ nD (B 2); omega, hRB, hP, hS, lv_sub hl [0, 1, 2, 3, 4] rfl⟩
  · have hno := rf_wi c9
    refine lv_aload_n hx hb dX9_shut_12 rfl (lv_at hl 1 rfl) ?_
    refine lv_iload_n hx hb dX9_shut_13 rfl (lv_at hl 0 rfl) ?_
    refine m_calli (As := [.int (wiS x 0 60)]) (rest := []) S hKK hP hS (mm_refuse l D t mb B (wiS x 0 60) (ix (-(wiS x 0 60))) (rf1 hno) (rf2 hno)) (cwV 1 hts (lw_V q1306 q1308 qs60 q104 q1309) rfl rfl rfl (by decide +kernel) ⟨Nat.le_of_ble_eq_true rfl, Nat.le_of_ble_eq_true rfl⟩) rfl hl.1 rfl (Nat.le_of_ble_eq_true rfl) dX9_shut_14 ⟨Nat.le_of_ble_eq_true rfl, Nat.le_of_ble_eq_true rfl⟩ (fun r14 B14 H locs h14 hP hS => ?_)
    exact m_iret hx hb hr (rf_close h14 (if_neg c9)) hP hS dX9_shut_17 hlk
set_option maxHeartbeats 4000000 in
theorem mm_seats (l : Launch) (D : va_G) (t : Nat → ClassId) (mb : Nat) (B : BT) (x : Int32) (hB : OkB B) : Met l yX9_seats (ws_ yX9_seats cX9_seats 9 (some .int)) ({ frames := 7, cells := 0, slots := 0, locals := 158 }) (zPc [.ref mb, .int x] (MW D t mb B) (KK D t)) (va_Qi (fun r B' => r = (seatS B x).1 ∧ PE (seatS B x).2 B') (fun B' U => MW D t mb B' U.heap) (mA mb)) 0 0 (mA mb) := by
  refine zOf (cc := cX9_seats) (maxL := 9) (ret := (some .int)) (by decide) (Nat.le_of_ble_eq_true rfl) (fun pg ev s m below meth cd ls F hP hKK hl hnm => ?_)
  obtain ⟨hx, hb, hml, hown, hts, hr, hlk⟩ := F
  have S : CallFix pg m cd cX9_seats 9 s _ lw_all RX9 := ⟨hx, hb, hml, hown, hts⟩
  have hl : lv_has ls 9 [(0, .ref mb), (1, .int x)] := hl
  have hS : va_S (mA mb) s.heap s.heap [] := va_S.rf
  have ho := hB.1
  have hj6 := ho.h6
  have hs5 := ho.s5
  have hd8 := ho.d8
  have hh3 := ho.hr3
  have hh6 := ho.h6
  have hd0 := ho.hr0
  refine lv_iload_n hx hb dX9_seats_0 rfl (lv_at hl 1 rfl) ?_
  refine lv_iconst (v := 0) hx hb dX9_seats_1 (by decide) ?_
  refine lv_bipush (v := 60) hx hb dX9_seats_2 (by decide) ?_
  refine m_callS (As := [.int x, .int 0, .int 60]) (rest := []) S hKK trivial (mm_within l D t x 0 60) (va_cwS 3 hts (lw_S q1303 q1304 q104 q1305) rfl rfl rfl (by decide +kernel) ⟨Nat.le_of_ble_eq_true rfl, Nat.le_of_ble_eq_true rfl⟩) rfl hl.1 rfl (Nat.le_of_ble_eq_true rfl) dX9_seats_4 ⟨Nat.le_of_ble_eq_true rfl, Nat.le_of_ble_eq_true rfl⟩ ?_
  refine lv_istore_n (lv' := [(2, .int (wiS x 0 60)), (0, .ref mb), (1, .int x)]) hx hb dX9_seats_7 rfl hl (by decide) rfl (fun ls hl => ?_)
  refine lv_iload_n hx hb dX9_seats_8 rfl (lv_at hl 0 rfl) ?_
  refine lv_if_eq (tgt := 18) hx hb dX9_seats_9 (by decide) (fun c9 => ?_) (fun c9 => ?_)
  · have hh := wi_ix c9
    refine lv_aload_n hx hb dX9_seats_18 rfl (lv_at hl 1 rfl) ?_
    refine m_callv (As := []) (rest := []) S hKK hP hS (mm_begins l D t mb B ) (cwV 0 hts (lw_V q1462 q1464 qs85 q104 q1465) rfl rfl rfl (by decide +kernel) ⟨Nat.le_of_ble_eq_true rfl, Nat.le_of_ble_eq_true rfl⟩) rfl hl.1 rfl (Nat.le_of_ble_eq_true rfl) dX9_seats_19 ⟨Nat.le_of_ble_eq_true rfl, Nat.le_of_ble_eq_true rfl⟩ (fun B19 H locs h19 hP hS => ?_)
    have h19 : B19 = upc B 5 (B 2) := h19
    subst h19
    refine lv_aload_n hx hb dX9_seats_22 rfl (lv_at hl 1 rfl) ?_
    refine lv_iconst (v := (-1)) hx hb dX9_seats_23 (by decide) ?_
    refine lv_iload_n hx hb dX9_seats_24 rfl (lv_at hl 2 rfl) ?_
    refine z_stk (st' := [.int (nI (ix x)), .int (-1), .ref mb]) (by rw [← show x = nI (ix x) from hh.1]) ?_
    refine m_calli (As := [.int (-1), .int (nI (ix x))]) (rest := []) S hKK hP hS (mm_haveBehind l D t mb (upc B 5 (B 2)) 999 (ix x) (-1) ho (by omega)) (cwV 2 hts (lw_V q1478 q1480 qs88 q104 q1481) rfl rfl rfl (by decide +kernel) ⟨Nat.le_of_ble_eq_true rfl, Nat.le_of_ble_eq_true rfl⟩) rfl hl.1 rfl (Nat.le_of_ble_eq_true rfl) dX9_seats_25 ⟨Nat.le_of_ble_eq_true rfl, Nat.le_of_ble_eq_true rfl⟩ (fun r25 B25 H locs h25 hP hS => ?_)
    obtain ⟨hr25, hs25⟩ : r25 = haS (hrS (B 2) (ix x)) (-1) ∧ SC _ B25 := h25
    have hRB0 : RB B B25 := (RB_begin B).sc hs25
    refine lv_istore_n (lv' := [(3, .int r25), (2, .int (wiS x 0 60)), (0, .ref mb), (1, .int x)]) hx hb dX9_seats_28 rfl hl (by decide) rfl (fun ls hl => ?_)
    refine lv_bipush (v := (-9)) hx hb dX9_seats_29 (by decide) ?_
    refine lv_istore (lv' := [(4, .int (-9)), (3, .int r25), (2, .int (wiS x 0 60)), (0, .ref mb), (1, .int x)]) hx hb dX9_seats_31 hl (by decide) rfl (fun ls hl => ?_)
    refine lv_iconst (v := 0) hx hb dX9_seats_33 (by decide) ?_
    refine lv_istore (lv' := [(5, .int 0), (4, .int (-9)), (3, .int r25), (2, .int (wiS x 0 60)), (0, .ref mb), (1, .int x)]) hx hb dX9_seats_34 hl (by decide) rfl (fun ls hl => ?_)
    refine W.loop (σ := Nat × BT) (fun sv H locs ls => sv.1 ≤ nH (B 2) ∧ (RB B sv.2) ∧ MW D t mb sv.2 H ∧ va_S (mA mb) s.heap H locs ∧ lv_has ls 9 [(5, .int (nI sv.1)), (4, .int ((seJ (fun a b => haS (hrS (swR (B 2) a b) (ix x)) (-1)) (nH (B 2)) (-9, r25) sv.1).1)), (3, .int ((seJ (fun a b => haS (hrS (swR (B 2) a b) (ix x)) (-1)) (nH (B 2)) (-9, r25) sv.1).2)), (0, .ref mb), (1, .int x)]) (fun sv => nH (B 2) - sv.1) (fun sv H locs ls hI iha => ?_) (0, B25) ⟨by show 0 ≤ nH (B 2); omega, hRB0, hP, hS, lv_sub hl [0, 1, 2, 4, 5] rfl⟩
    obtain ⟨a, B1⟩ := sv
    obtain ⟨ha, hEa, hP, hS, hl⟩ := hI
    have hl : lv_has ls 9 [(5, .int (nI a)), (4, .int ((seJ (fun a b => haS (hrS (swR (B 2) a b) (ix x)) (-1)) (nH (B 2)) (-9, r25) a).1)), (3, .int ((seJ (fun a b => haS (hrS (swR (B 2) a b) (ix x)) (-1)) (nH (B 2)) (-9, r25) a).2)), (0, .ref mb), (1, .int x)] := hl
    dsimp only at ha hEa hP
    refine lv_iload hx hb dX9_seats_36 (lv_at hl 0 rfl) ?_
    refine lv_aload_n hx hb dX9_seats_38 rfl (lv_at hl 3 rfl) ?_
    refine m_get hx hb hts hown hKK hP 1 (by decide) q1248 rfl rfl dX9_seats_39 ?_
    refine lv_iconst (v := 3) hx hb dX9_seats_42 (by decide) ?_
    refine m_ald hx hb hKK hP 2 rfl (k := 3) (v := B 2 3) rfl (by omega) (by decide) (by rw [hEa.1]) dX9_seats_43 ?_
    refine lv_icmp_ge (tgt := 150) hx hb dX9_seats_44 (by decide) (fun c44 => ?_) (fun c44 => ?_)
    · obtain rfl : a = nH (B 2) := Nat.le_antisymm ha (lp_end hh3 (by omega) (by omega) c44)
      refine lv_iload hx hb dX9_seats_150 (lv_at hl 1 rfl) ?_
      exact m_iret hx hb hr (ok_close (o := seatS B x) (by unfold seatS; rw [if_pos c9]; unfold seP; rw [hr25]) hEa.pe) hP hS dX9_seats_152 hlk
    · have ha2 : a < nH (B 2) := lp_go hh3 (by omega) (by omega) c44
      refine lv_iload hx hb dX9_seats_47 (lv_at hl 0 rfl) ?_
      refine lv_iconst (v := 1) hx hb dX9_seats_49 (by decide) ?_
      refine lv_iadd hx hb dX9_seats_50 ?_
      refine z_top (y := nI (a + 1 + 0)) (nI_1 a) ?_
      refine lv_istore (lv' := [(6, .int (nI (a + 1 + 0))), (5, .int (nI a)), (4, .int ((seJ (fun a b => haS (hrS (swR (B 2) a b) (ix x)) (-1)) (nH (B 2)) (-9, r25) a).1)), (3, .int ((seJ (fun a b => haS (hrS (swR (B 2) a b) (ix x)) (-1)) (nH (B 2)) (-9, r25) a).2)), (0, .ref mb), (1, .int x)]) hx hb dX9_seats_51 hl (by decide) rfl (fun ls hl => ?_)
      refine W.loop (σ := Nat × BT) (fun sv H locs ls => sv.1 ≤ (nH (B 2) - (a + 1)) ∧ (RB B sv.2) ∧ MW D t mb sv.2 H ∧ va_S (mA mb) s.heap H locs ∧ lv_has ls 9 [(6, .int (nI (a + 1 + sv.1))), (5, .int (nI a)), (4, .int ((seI (fun a b => haS (hrS (swR (B 2) a b) (ix x)) (-1)) a (seJ (fun a b => haS (hrS (swR (B 2) a b) (ix x)) (-1)) (nH (B 2)) (-9, r25) a) sv.1).1)), (3, .int ((seI (fun a b => haS (hrS (swR (B 2) a b) (ix x)) (-1)) a (seJ (fun a b => haS (hrS (swR (B 2) a b) (ix x)) (-1)) (nH (B 2)) (-9, r25) a) sv.1).2)), (0, .ref mb), (1, .int x)]) (fun sv => (nH (B 2) - (a + 1)) - sv.1) (fun sv H locs ls hI ihi => ?_) (0, B1) ⟨by show 0 ≤ (nH (B 2) - (a + 1)); omega, hEa, hP, hS, lv_sub hl [0, 1, 2, 3, 4, 5] rfl⟩
      obtain ⟨i, B2⟩ := sv
      obtain ⟨hi, hEi, hP, hS, hl⟩ := hI
      have hl : lv_has ls 9 [(6, .int (nI (a + 1 + i))), (5, .int (nI a)), (4, .int ((seI (fun a b => haS (hrS (swR (B 2) a b) (ix x)) (-1)) a (seJ (fun a b => haS (hrS (swR (B 2) a b) (ix x)) (-1)) (nH (B 2)) (-9, r25) a) i).1)), (3, .int ((seI (fun a b => haS (hrS (swR (B 2) a b) (ix x)) (-1)) a (seJ (fun a b => haS (hrS (swR (B 2) a b) (ix x)) (-1)) (nH (B 2)) (-9, r25) a) i).2)), (0, .ref mb), (1, .int x)] := hl
      dsimp only at hi hEi hP
      refine lv_iload hx hb dX9_seats_53 (lv_at hl 0 rfl) ?_
      refine lv_aload_n hx hb dX9_seats_55 rfl (lv_at hl 4 rfl) ?_
      refine m_get hx hb hts hown hKK hP 1 (by decide) q1248 rfl rfl dX9_seats_56 ?_
      refine lv_iconst (v := 3) hx hb dX9_seats_59 (by decide) ?_
      refine m_ald hx hb hKK hP 2 rfl (k := 3) (v := B 2 3) rfl (by omega) (by decide) (by rw [hEi.1]) dX9_seats_60 ?_
      refine lv_icmp_ge (tgt := 144) hx hb dX9_seats_61 (by decide) (fun c61 => ?_) (fun c61 => ?_)
      · obtain rfl : i = (nH (B 2) - (a + 1)) := by have := lp_end hh3 (by omega) (by omega) c61; omega
        refine lv_iinc (v := nI (a + 1)) (lv' := [(5, .int (nI (a + 1))), (6, .int (nI (a + 1 + (nH (B 2) - (a + 1))))), (4, .int ((seI (fun a b => haS (hrS (swR (B 2) a b) (ix x)) (-1)) a (seJ (fun a b => haS (hrS (swR (B 2) a b) (ix x)) (-1)) (nH (B 2)) (-9, r25) a) (nH (B 2) - (a + 1))).1)), (3, .int ((seI (fun a b => haS (hrS (swR (B 2) a b) (ix x)) (-1)) a (seJ (fun a b => haS (hrS (swR (B 2) a b) (ix x)) (-1)) (nH (B 2)) (-9, r25) a) (nH (B 2) - (a + 1))).2)), (0, .ref mb), (1, .int x)]) hx hb dX9_seats_144 hl (k := 1) rfl (nI_1 a) (by decide) rfl (fun ls hl => ?_)
        refine lv_goto (tgt := 36) hx hb dX9_seats_147 (by decide) ?_
        exact iha (a + 1, B2) H locs ls (by show nH (B 2) - (a + 1) < nH (B 2) - a; omega) ⟨by show a + 1 ≤ nH (B 2); omega, hEi, hP, hS, lv_sub hl [0, 2, 3, 4, 5] rfl⟩
      · have hi2 : a + 1 + i < nH (B 2) := lp_go hh3 (by omega) (by omega) c61
        have hb2 : B2 2 = B 2 := hEi.1
        refine lv_aload_n hx hb dX9_seats_64 rfl (lv_at hl 4 rfl) ?_
        refine lv_iload hx hb dX9_seats_65 (lv_at hl 1 rfl) ?_
        refine lv_iconst (v := 1) hx hb dX9_seats_67 (by decide) ?_
        refine m_callr (As := [.int (nI a), .int 1]) (rest := []) S hKK hP (mm_at l D t mb B2 a 1 (by omega)) (cwV 2 hts (lw_V q1386 q1388 qs75 q104 q1389) rfl rfl rfl (by decide +kernel) ⟨Nat.le_of_ble_eq_true rfl, Nat.le_of_ble_eq_true rfl⟩) rfl hl.1 rfl (Nat.le_of_ble_eq_true rfl) dX9_seats_68 ⟨Nat.le_of_ble_eq_true rfl, Nat.le_of_ble_eq_true rfl⟩ ?_
        refine z_top (y := hd (B 2) a 1) (by rw [hb2]) ?_
        refine lv_istore (lv' := [(7, .int (hd (B 2) a 1)), (6, .int (nI (a + 1 + i))), (5, .int (nI a)), (4, .int ((seI (fun a b => haS (hrS (swR (B 2) a b) (ix x)) (-1)) a (seJ (fun a b => haS (hrS (swR (B 2) a b) (ix x)) (-1)) (nH (B 2)) (-9, r25) a) i).1)), (3, .int ((seI (fun a b => haS (hrS (swR (B 2) a b) (ix x)) (-1)) a (seJ (fun a b => haS (hrS (swR (B 2) a b) (ix x)) (-1)) (nH (B 2)) (-9, r25) a) i).2)), (0, .ref mb), (1, .int x)]) hx hb dX9_seats_71 hl (by decide) rfl (fun ls hl => ?_)
        refine lv_aload_n hx hb dX9_seats_73 rfl (lv_at hl 5 rfl) ?_
        refine lv_iload hx hb dX9_seats_74 (lv_at hl 2 rfl) ?_
        refine lv_iconst (v := 1) hx hb dX9_seats_76 (by decide) ?_
        refine lv_aload_n hx hb dX9_seats_77 rfl (lv_at hl 5 rfl) ?_
        refine lv_iload hx hb dX9_seats_78 (lv_at hl 1 rfl) ?_
        refine lv_iconst (v := 1) hx hb dX9_seats_80 (by decide) ?_
        refine m_callr (As := [.int (nI (a + 1 + i)), .int 1]) (rest := [.int 1, .int (nI a), .ref mb]) S hKK hP (mm_at l D t mb B2 (a + 1 + i) 1 (by omega)) (cwV 2 hts (lw_V q1386 q1388 qs75 q104 q1389) rfl rfl rfl (by decide +kernel) ⟨Nat.le_of_ble_eq_true rfl, Nat.le_of_ble_eq_true rfl⟩) rfl hl.1 rfl (Nat.le_of_ble_eq_true rfl) dX9_seats_81 ⟨Nat.le_of_ble_eq_true rfl, Nat.le_of_ble_eq_true rfl⟩ ?_
        refine z_top (y := hd (B 2) (a + 1 + i) 1) (by rw [hb2]) ?_
        refine m_callv (As := [.int (nI a), .int 1, .int (hd (B 2) (a + 1 + i) 1)]) (rest := []) S hKK hP hS (mm_puts l D t mb B2 a 1 (hd (B 2) (a + 1 + i) 1) (by omega)) (cwV 3 hts (lw_V q1354 q1356 qs68 q104 q1357) rfl rfl rfl (by decide +kernel) ⟨Nat.le_of_ble_eq_true rfl, Nat.le_of_ble_eq_true rfl⟩) rfl hl.1 rfl (Nat.le_of_ble_eq_true rfl) dX9_seats_84 ⟨Nat.le_of_ble_eq_true rfl, Nat.le_of_ble_eq_true rfl⟩ (fun B84 H locs h84 hP hS => ?_)
        have h84 : B84 = up2 B2 2 (37 + 6 * a + 1) (hd (B 2) (a + 1 + i) 1) := h84
        subst h84
        refine lv_aload_n hx hb dX9_seats_87 rfl (lv_at hl 5 rfl) ?_
        refine lv_iload hx hb dX9_seats_88 (lv_at hl 1 rfl) ?_
        refine lv_iconst (v := 1) hx hb dX9_seats_90 (by decide) ?_
        refine lv_iload hx hb dX9_seats_91 (lv_at hl 0 rfl) ?_
        refine m_callv (As := [.int (nI (a + 1 + i)), .int 1, .int (hd (B 2) a 1)]) (rest := []) S hKK hP hS (mm_puts l D t mb (up2 B2 2 (37 + 6 * a + 1) (hd (B 2) (a + 1 + i) 1)) (a + 1 + i) 1 (hd (B 2) a 1) (by omega)) (cwV 3 hts (lw_V q1354 q1356 qs68 q104 q1357) rfl rfl rfl (by decide +kernel) ⟨Nat.le_of_ble_eq_true rfl, Nat.le_of_ble_eq_true rfl⟩) rfl hl.1 rfl (Nat.le_of_ble_eq_true rfl) dX9_seats_93 ⟨Nat.le_of_ble_eq_true rfl, Nat.le_of_ble_eq_true rfl⟩ (fun B93 H locs h93 hP hS => ?_)
        have h93 : B93 = up2 (up2 B2 2 (37 + 6 * a + 1) (hd (B 2) (a + 1 + i) 1)) 2 (37 + 6 * (a + 1 + i) + 1) (hd (B 2) a 1) := h93
        subst h93
        have hsw : up2 (up2 B2 2 (37 + 6 * a + 1) (hd (B 2) (a + 1 + i) 1)) 2 (37 + 6 * (a + 1 + i) + 1) (hd (B 2) a 1) = upc B2 2 (swR (B 2) a (a + 1 + i)) := by rw [up2_upc, up2_upc, upc_same, upc_upc, hb2]; rfl
        rw [hsw] at hP
        have hok : Ok ((upc B2 2 (swR (B 2) a (a + 1 + i))) 2) 999 := by rw [upc_same]; exact Ok_swR ho ha2 hi2
        refine lv_aload_n hx hb dX9_seats_96 rfl (lv_at hl 5 rfl) ?_
        refine lv_iconst (v := (-1)) hx hb dX9_seats_97 (by decide) ?_
        refine lv_iload_n hx hb dX9_seats_98 rfl (lv_at hl 6 rfl) ?_
        refine z_stk (st' := [.int (nI (ix x)), .int (-1), .ref mb]) (by rw [← show x = nI (ix x) from hh.1]) ?_
        refine m_calli (As := [.int (-1), .int (nI (ix x))]) (rest := []) S hKK hP hS (mm_haveBehind l D t mb (upc B2 2 (swR (B 2) a (a + 1 + i))) 999 (ix x) (-1) hok (by omega)) (cwV 2 hts (lw_V q1478 q1480 qs88 q104 q1481) rfl rfl rfl (by decide +kernel) ⟨Nat.le_of_ble_eq_true rfl, Nat.le_of_ble_eq_true rfl⟩) rfl hl.1 rfl (Nat.le_of_ble_eq_true rfl) dX9_seats_99 ⟨Nat.le_of_ble_eq_true rfl, Nat.le_of_ble_eq_true rfl⟩ (fun r99 B99 H locs h99 hP hS => ?_)
        obtain ⟨hr99, hs99⟩ : r99 = haS (hrS ((upc B2 2 (swR (B 2) a (a + 1 + i))) 2) (ix x)) (-1) ∧ SC _ B99 := h99
        rw [upc_same] at hr99
        have hRB : RB B B99 := hEi.put hs99
        refine lv_istore (lv' := [(8, .int r99), (7, .int (hd (B 2) a 1)), (6, .int (nI (a + 1 + i))), (5, .int (nI a)), (4, .int ((seI (fun a b => haS (hrS (swR (B 2) a b) (ix x)) (-1)) a (seJ (fun a b => haS (hrS (swR (B 2) a b) (ix x)) (-1)) (nH (B 2)) (-9, r25) a) i).1)), (3, .int ((seI (fun a b => haS (hrS (swR (B 2) a b) (ix x)) (-1)) a (seJ (fun a b => haS (hrS (swR (B 2) a b) (ix x)) (-1)) (nH (B 2)) (-9, r25) a) i).2)), (0, .ref mb), (1, .int x)]) hx hb dX9_seats_102 hl (by decide) rfl (fun ls hl => ?_)
        refine W.join (fun vJ => F0 m 123 ls (.int vJ :: [])) (fun vJ => vJ = (seI (fun a b => haS (hrS (swR (B 2) a b) (ix x)) (-1)) a (seJ (fun a b => haS (hrS (swR (B 2) a b) (ix x)) (-1)) (nH (B 2)) (-9, r25) a) (i + 1)).1) (fun vJ hJ => ?_) (fun J => ?_)
        · subst hJ
          refine lv_istore (lv' := [(4, .int ((seI (fun a b => haS (hrS (swR (B 2) a b) (ix x)) (-1)) a (seJ (fun a b => haS (hrS (swR (B 2) a b) (ix x)) (-1)) (nH (B 2)) (-9, r25) a) (i + 1)).1)), (8, .int r99), (7, .int (hd (B 2) a 1)), (6, .int (nI (a + 1 + i))), (5, .int (nI a)), (3, .int ((seI (fun a b => haS (hrS (swR (B 2) a b) (ix x)) (-1)) a (seJ (fun a b => haS (hrS (swR (B 2) a b) (ix x)) (-1)) (nH (B 2)) (-9, r25) a) i).2)), (0, .ref mb), (1, .int x)]) hx hb dX9_seats_123 hl (by decide) rfl (fun ls hl => ?_)
          refine W.join (fun vJ => F0 m 137 ls (.int vJ :: [])) (fun vJ => vJ = (seI (fun a b => haS (hrS (swR (B 2) a b) (ix x)) (-1)) a (seJ (fun a b => haS (hrS (swR (B 2) a b) (ix x)) (-1)) (nH (B 2)) (-9, r25) a) (i + 1)).2) (fun vJ hJ => ?_) (fun J2 => ?_)
          · subst hJ
            refine lv_istore_n (lv' := [(3, .int ((seI (fun a b => haS (hrS (swR (B 2) a b) (ix x)) (-1)) a (seJ (fun a b => haS (hrS (swR (B 2) a b) (ix x)) (-1)) (nH (B 2)) (-9, r25) a) (i + 1)).2)), (4, .int ((seI (fun a b => haS (hrS (swR (B 2) a b) (ix x)) (-1)) a (seJ (fun a b => haS (hrS (swR (B 2) a b) (ix x)) (-1)) (nH (B 2)) (-9, r25) a) (i + 1)).1)), (8, .int r99), (7, .int (hd (B 2) a 1)), (6, .int (nI (a + 1 + i))), (5, .int (nI a)), (0, .ref mb), (1, .int x)]) hx hb dX9_seats_137 rfl hl (by decide) rfl (fun ls hl => ?_)
            refine lv_iinc (v := nI ((a + 1 + i) + 1)) (lv' := [(6, .int (nI ((a + 1 + i) + 1))), (3, .int ((seI (fun a b => haS (hrS (swR (B 2) a b) (ix x)) (-1)) a (seJ (fun a b => haS (hrS (swR (B 2) a b) (ix x)) (-1)) (nH (B 2)) (-9, r25) a) (i + 1)).2)), (4, .int ((seI (fun a b => haS (hrS (swR (B 2) a b) (ix x)) (-1)) a (seJ (fun a b => haS (hrS (swR (B 2) a b) (ix x)) (-1)) (nH (B 2)) (-9, r25) a) (i + 1)).1)), (8, .int r99), (7, .int (hd (B 2) a 1)), (5, .int (nI a)), (0, .ref mb), (1, .int x)]) hx hb dX9_seats_138 hl (k := 4) rfl (nI_1 (a + 1 + i)) (by decide) rfl (fun ls hl => ?_)
            refine lv_goto (tgt := 53) hx hb dX9_seats_141 (by decide) ?_
            exact ihi (i + 1, B99) H locs ls (by show (nH (B 2) - (a + 1)) - (i + 1) < (nH (B 2) - (a + 1)) - i; omega) ⟨by show i + 1 ≤ (nH (B 2) - (a + 1)); omega, hRB, hP, hS, lv_sub hl [0, 5, 2, 1, 6, 7] rfl⟩
          · refine lv_iload hx hb dX9_seats_125 (lv_at hl 1 rfl) ?_
            refine lv_iload_n hx hb dX9_seats_127 rfl (lv_at hl 5 rfl) ?_
            refine lv_icmp_ge (tgt := 136) hx hb dX9_seats_128 (by decide) (fun c128 => ?_) (fun c128 => ?_)
            · refine lv_iload_n hx hb dX9_seats_136 rfl (lv_at hl 5 rfl) ?_
              exact J2 _ (by simp only [seI]; grind)
            · refine lv_iload hx hb dX9_seats_131 (lv_at hl 1 rfl) ?_
              refine lv_goto (tgt := 137) hx hb dX9_seats_133 (by decide) ?_
              exact J2 _ (by simp only [seI]; grind)
        · refine lv_iload hx hb dX9_seats_104 (lv_at hl 0 rfl) ?_
          refine lv_iload_n hx hb dX9_seats_106 rfl (lv_at hl 5 rfl) ?_
          refine lv_icmp_ge (tgt := 121) hx hb dX9_seats_107 (by decide) (fun c107 => ?_) (fun c107 => ?_)
          · refine lv_iload hx hb dX9_seats_121 (lv_at hl 4 rfl) ?_
            exact J _ (by simp only [seI]; grind)
          · refine lv_bipush (v := 10) hx hb dX9_seats_110 (by decide) ?_
            refine lv_iload hx hb dX9_seats_112 (lv_at hl 3 rfl) ?_
            refine lv_imul hx hb dX9_seats_114 ?_
            refine lv_iload hx hb dX9_seats_115 (lv_at hl 2 rfl) ?_
            refine lv_iadd hx hb dX9_seats_117 ?_
            refine lv_goto (tgt := 123) hx hb dX9_seats_118 (by decide) ?_
            exact J _ (by simp only [seI]; grind)
  · have hno := rf_wi c9
    refine lv_aload_n hx hb dX9_seats_12 rfl (lv_at hl 1 rfl) ?_
    refine lv_iload_n hx hb dX9_seats_13 rfl (lv_at hl 0 rfl) ?_
    refine m_calli (As := [.int (wiS x 0 60)]) (rest := []) S hKK hP hS (mm_refuse l D t mb B (wiS x 0 60) (ix (-(wiS x 0 60))) (rf1 hno) (rf2 hno)) (cwV 1 hts (lw_V q1306 q1308 qs60 q104 q1309) rfl rfl rfl (by decide +kernel) ⟨Nat.le_of_ble_eq_true rfl, Nat.le_of_ble_eq_true rfl⟩) rfl hl.1 rfl (Nat.le_of_ble_eq_true rfl) dX9_seats_14 ⟨Nat.le_of_ble_eq_true rfl, Nat.le_of_ble_eq_true rfl⟩ (fun r14 B14 H locs h14 hP hS => ?_)
    exact m_iret hx hb hr (rf_close h14 (if_neg c9)) hP hS dX9_seats_17 hlk
set_option maxHeartbeats 4000000 in
theorem mm_write (l : Launch) (D : va_G) (t : Nat → ClassId) (mb : Nat) (B : BT) (x : Int32) (y : Int32) (z : Int32) (hB : OkB B) : Met l yX9_write (ws_ yX9_write cX9_write 10 (some .int)) ({ frames := 7, cells := 0, slots := 0, locals := 158 }) (zPc [.ref mb, .int x, .int y, .int z] (MW D t mb B) (KK D t)) (va_Qi (fun r B' => r = (writeS B x y z).1 ∧ PE (writeS B x y z).2 B') (fun B' U => MW D t mb B' U.heap) (mA mb)) 0 0 (mA mb) := by
  refine zOf (cc := cX9_write) (maxL := 10) (ret := (some .int)) (by decide) (Nat.le_of_ble_eq_true rfl) (fun pg ev s m below meth cd ls F hP hKK hl hnm => ?_)
  obtain ⟨hx, hb, hml, hown, hts, hr, hlk⟩ := F
  have S : CallFix pg m cd cX9_write 10 s _ lw_all RX9 := ⟨hx, hb, hml, hown, hts⟩
  have hl : lv_has ls 10 [(0, .ref mb), (1, .int x), (2, .int y), (3, .int z)] := hl
  have hS : va_S (mA mb) s.heap s.heap [] := va_S.rf
  have ho := hB.1
  have hj6 := ho.h6
  have hs5 := ho.s5
  have hd8 := ho.d8
  have hh3 := ho.hr3
  have hh6 := ho.h6
  have hd0 := ho.hr0
  refine W.join (fun vJ => F0 m 69 ls (.int vJ :: [])) (fun vJ => vJ = wtN (B 2) x y z) (fun vJ hJ => ?_) (fun J => ?_)
  · subst hJ
    refine lv_istore (lv' := [(4, .int (wtN (B 2) x y z)), (0, .ref mb), (1, .int x), (2, .int y), (3, .int z)]) hx hb dX9_write_69 hl (by decide) rfl (fun ls hl => ?_)
    refine lv_iload hx hb dX9_write_71 (lv_at hl 0 rfl) ?_
    refine lv_if_eq (tgt := 83) hx hb dX9_write_73 (by decide) (fun c73 => ?_) (fun c73 => ?_)
    · have hwt : (1 ≤ x ∧ x ≤ 9) ∧ (0 ≤ y ∧ y ≤ 60) ∧ ¬ B 2 2 = 5 ∧ ¬ B 2 3 = 0 := by unfold wtN at c73; grind
      have hh := le_ix (n := 60) (by omega) hwt.2.1.1 hwt.2.1.2
      have hS5 : nS (B 2) < 5 := by rcases Nat.lt_or_ge (nS (B 2)) 5 with q | q; exact q; exact absurd (by rw [ho.hr2, show nS (B 2) = 5 by omega]; rfl) hwt.2.2.1
      have hH0 : 0 < nH (B 2) := by rcases Nat.eq_zero_or_pos (nH (B 2)) with q | q; exact absurd (by rw [hh3, q]; rfl) hwt.2.2.2; exact q
      refine lv_aload_n hx hb dX9_write_83 rfl (lv_at hl 1 rfl) ?_
      refine m_callv (As := []) (rest := []) S hKK hP hS (mm_begins l D t mb B ) (cwV 0 hts (lw_V q1462 q1464 qs85 q104 q1465) rfl rfl rfl (by decide +kernel) ⟨Nat.le_of_ble_eq_true rfl, Nat.le_of_ble_eq_true rfl⟩) rfl hl.1 rfl (Nat.le_of_ble_eq_true rfl) dX9_write_84 ⟨Nat.le_of_ble_eq_true rfl, Nat.le_of_ble_eq_true rfl⟩ (fun B84 H locs h84 hP hS => ?_)
      have h84 : B84 = upc B 5 (B 2) := h84
      subst h84
      refine lv_bipush (v := (-9)) hx hb dX9_write_87 (by decide) ?_
      refine lv_istore (lv' := [(5, .int (-9)), (4, .int (wtN (B 2) x y z)), (0, .ref mb), (1, .int x), (2, .int y), (3, .int z)]) hx hb dX9_write_89 hl (by decide) rfl (fun ls hl => ?_)
      refine lv_bipush (v := (-9)) hx hb dX9_write_91 (by decide) ?_
      refine lv_istore (lv' := [(6, .int (-9)), (5, .int (-9)), (4, .int (wtN (B 2) x y z)), (0, .ref mb), (1, .int x), (2, .int y), (3, .int z)]) hx hb dX9_write_93 hl (by decide) rfl (fun ls hl => ?_)
      refine lv_iconst (v := 0) hx hb dX9_write_95 (by decide) ?_
      refine lv_istore (lv' := [(7, .int 0), (6, .int (-9)), (5, .int (-9)), (4, .int (wtN (B 2) x y z)), (0, .ref mb), (1, .int x), (2, .int y), (3, .int z)]) hx hb dX9_write_96 hl (by decide) rfl (fun ls hl => ?_)
      refine W.loop (σ := Nat × BT) (fun sv H locs ls => sv.1 ≤ 60 ∧ (RB B sv.2) ∧ MW D t mb sv.2 H ∧ va_S (mA mb) s.heap H locs ∧ lv_has ls 10 [(7, .int (nI sv.1)), (5, .int ((mxL (fun k => haS (hrS (wgR (B 2) x k) (ix y)) (nI (nS (B 2)))) (-9, -9) sv.1).1)), (6, .int ((mxL (fun k => haS (hrS (wgR (B 2) x k) (ix y)) (nI (nS (B 2)))) (-9, -9) sv.1).2)), (0, .ref mb), (1, .int x), (2, .int y), (3, .int z)]) (fun sv => 60 - sv.1) (fun sv H locs ls hI ihk => ?_) (0, upc B 5 (B 2)) ⟨by show 0 ≤ 60; omega, (RB_begin B), hP, hS, lv_sub hl [0, 2, 1, 4, 5, 6, 7] rfl⟩
      obtain ⟨k, B1⟩ := sv
      obtain ⟨hk, hEk, hP, hS, hl⟩ := hI
      have hl : lv_has ls 10 [(7, .int (nI k)), (5, .int ((mxL (fun k => haS (hrS (wgR (B 2) x k) (ix y)) (nI (nS (B 2)))) (-9, -9) k).1)), (6, .int ((mxL (fun k => haS (hrS (wgR (B 2) x k) (ix y)) (nI (nS (B 2)))) (-9, -9) k).2)), (0, .ref mb), (1, .int x), (2, .int y), (3, .int z)] := hl
      dsimp only at hk hEk hP
      refine lv_iload hx hb dX9_write_98 (lv_at hl 0 rfl) ?_
      refine lv_bipush (v := 60) hx hb dX9_write_100 (by decide) ?_
      refine lv_icmp_ge (tgt := 228) hx hb dX9_write_102 (by decide) (fun c102 => ?_) (fun c102 => ?_)
      · obtain rfl : k = 60 := Nat.le_antisymm hk (lp_end (n := 60) rfl (by omega) (by omega) c102)
        refine W.join (fun vJ => F0 m 239 ls (.int vJ :: [])) (fun vJ => vJ = (if z = 0 then (wtP (B 2) x (ix y)).1 else (wtP (B 2) x (ix y)).2)) (fun vJ hJ => ?_) (fun J3 => ?_)
        · subst hJ
          exact m_iret hx hb hr (ok_close (o := writeS B x y z) (if_pos c73) hEk.pe) hP hS dX9_write_239 hlk
        · refine lv_iload_n hx hb dX9_write_228 rfl (lv_at hl 6 rfl) ?_
          refine lv_if_ne (tgt := 237) hx hb dX9_write_229 (by decide) (fun c229 => ?_) (fun c229 => ?_)
          · refine lv_iload hx hb dX9_write_237 (lv_at hl 2 rfl) ?_
            exact J3 _ (by unfold wtP; grind)
          · refine lv_iload hx hb dX9_write_232 (lv_at hl 1 rfl) ?_
            refine lv_goto (tgt := 239) hx hb dX9_write_234 (by decide) ?_
            exact J3 _ (by unfold wtP; grind)
      · have hk2 : k < 60 := lp_go (n := 60) rfl (by omega) (by omega) c102
        have hb2 : B1 2 = B 2 := hEk.1
        refine lv_aload_n hx hb dX9_write_105 rfl (lv_at hl 3 rfl) ?_
        refine m_get hx hb hts hown hKK hP 1 (by decide) q1248 rfl rfl dX9_write_106 ?_
        refine lv_iconst (v := 2) hx hb dX9_write_109 (by decide) ?_
        refine m_ald hx hb hKK hP 2 rfl (k := 2) (v := nI (nS (B 2))) rfl (by omega) (by decide) (by rw [hb2]; exact ho.hr2) dX9_write_110 ?_
        refine lv_istore (lv' := [(8, .int (nI (nS (B 2)))), (7, .int (nI k)), (5, .int ((mxL (fun k => haS (hrS (wgR (B 2) x k) (ix y)) (nI (nS (B 2)))) (-9, -9) k).1)), (6, .int ((mxL (fun k => haS (hrS (wgR (B 2) x k) (ix y)) (nI (nS (B 2)))) (-9, -9) k).2)), (0, .ref mb), (1, .int x), (2, .int y), (3, .int z)]) hx hb dX9_write_111 hl (by decide) rfl (fun ls hl => ?_)
        refine lv_aload_n hx hb dX9_write_113 rfl (lv_at hl 4 rfl) ?_
        refine m_get hx hb hts hown hKK hP 1 (by decide) q1248 rfl rfl dX9_write_114 ?_
        refine lv_bipush (v := 22) hx hb dX9_write_117 (by decide) ?_
        refine lv_iconst (v := 3) hx hb dX9_write_119 (by decide) ?_
        refine lv_iload hx hb dX9_write_120 (lv_at hl 0 rfl) ?_
        refine lv_imul hx hb dX9_write_122 ?_
        refine lv_iadd hx hb dX9_write_123 ?_
        refine lv_iload hx hb dX9_write_124 (lv_at hl 1 rfl) ?_
        refine lv_bipush (v := 10) hx hb dX9_write_126 (by decide) ?_
        refine lv_idiv hx hb dX9_write_128 (by decide) ?_
        refine z_top (y := nI (k / 10)) (pk_div (d := 10) (by omega) (by omega) (by omega)) ?_
        refine m_ast hx hb hKK hP hS 2 rfl (k := 22 + 3 * (nS (B 2))) (nI_addO rfl (nI_mulO rfl rfl)) (by omega) (by decide) rfl dX9_write_129 (fun H locs hP hS => ?_)
        refine lv_aload_n hx hb dX9_write_130 rfl (lv_at hl 4 rfl) ?_
        refine m_get hx hb hts hown hKK hP 1 (by decide) q1248 rfl rfl dX9_write_131 ?_
        refine lv_bipush (v := 22) hx hb dX9_write_134 (by decide) ?_
        refine lv_iconst (v := 3) hx hb dX9_write_136 (by decide) ?_
        refine lv_iload hx hb dX9_write_137 (lv_at hl 0 rfl) ?_
        refine lv_imul hx hb dX9_write_139 ?_
        refine lv_iadd hx hb dX9_write_140 ?_
        refine lv_iconst (v := 1) hx hb dX9_write_141 (by decide) ?_
        refine lv_iadd hx hb dX9_write_142 ?_
        refine lv_iload hx hb dX9_write_143 (lv_at hl 1 rfl) ?_
        refine lv_bipush (v := 10) hx hb dX9_write_145 (by decide) ?_
        refine lv_irem hx hb dX9_write_147 (by decide) ?_
        refine z_top (y := nI (k % 10)) (pk_rem (d := 10) (by omega) (by omega) (by omega)) ?_
        refine m_ast hx hb hKK hP hS 2 rfl (k := 22 + 3 * (nS (B 2)) + 1) (nI_addO (nI_addO rfl (nI_mulO rfl rfl)) rfl) (by omega) (by decide) rfl dX9_write_148 (fun H locs hP hS => ?_)
        refine lv_aload_n hx hb dX9_write_149 rfl (lv_at hl 4 rfl) ?_
        refine m_get hx hb hts hown hKK hP 1 (by decide) q1248 rfl rfl dX9_write_150 ?_
        refine lv_bipush (v := 22) hx hb dX9_write_153 (by decide) ?_
        refine lv_iconst (v := 3) hx hb dX9_write_155 (by decide) ?_
        refine lv_iload hx hb dX9_write_156 (lv_at hl 0 rfl) ?_
        refine lv_imul hx hb dX9_write_158 ?_
        refine lv_iadd hx hb dX9_write_159 ?_
        refine lv_iconst (v := 2) hx hb dX9_write_160 (by decide) ?_
        refine lv_iadd hx hb dX9_write_161 ?_
        refine lv_iload_n hx hb dX9_write_162 rfl (lv_at hl 5 rfl) ?_
        refine m_ast hx hb hKK hP hS 2 rfl (k := 22 + 3 * (nS (B 2)) + 2) (nI_addO (nI_addO rfl (nI_mulO rfl rfl)) rfl) (by omega) (by decide) rfl dX9_write_163 (fun H locs hP hS => ?_)
        refine lv_aload_n hx hb dX9_write_164 rfl (lv_at hl 4 rfl) ?_
        refine m_get hx hb hts hown hKK hP 1 (by decide) q1248 rfl rfl dX9_write_165 ?_
        refine lv_iconst (v := 2) hx hb dX9_write_168 (by decide) ?_
        refine lv_dup2_11 hx hb dX9_write_169 rfl rfl ?_
        refine m_ald hx hb hKK hP 2 rfl (k := 2) (v := nI (nS (B 2))) rfl (by omega) (by decide) (by rw [up2_same, upd_ne _ _ (by omega), up2_same, upd_ne _ _ (by omega), up2_same, upd_ne _ _ (by omega), hb2]; exact ho.hr2) dX9_write_170 ?_
        refine lv_iconst (v := 1) hx hb dX9_write_171 (by decide) ?_
        refine lv_iadd hx hb dX9_write_172 ?_
        refine z_top (y := nI (nS (B 2) + 1)) (nI_1 _) ?_
        refine m_ast hx hb hKK hP hS 2 rfl (k := 2) rfl (by omega) (by decide) rfl dX9_write_173 (fun H locs hP hS => ?_)
        have hsw : up2 (up2 (up2 (up2 B1 2 (22 + 3 * nS (B 2)) (nI (k / 10))) 2 (22 + 3 * nS (B 2) + 1) (nI (k % 10))) 2 (22 + 3 * nS (B 2) + 2) x) 2 2 (nI (nS (B 2) + 1)) = upc B1 2 (wsR (B 2) x k) := by rw [up2_upc, up2_upc, up2_upc, up2_upc, upc_same, upc_same, upc_same, upc_upc, upc_upc, upc_upc, hb2]; rfl
        rw [hsw] at hP
        refine lv_aload_n hx hb dX9_write_174 rfl (lv_at hl 4 rfl) ?_
        refine lv_iconst (v := 0) hx hb dX9_write_175 (by decide) ?_
        refine lv_iload hx hb dX9_write_176 (lv_at hl 0 rfl) ?_
        have hv : ¬ nI (nS (B 2)) < 0 → nI (nS (B 2)) = nI (ix (nI (nS (B 2)))) ∧ ix (nI (nS (B 2))) < 5 := fun _ => by rw [ix_nI (by omega)]; exact ⟨rfl, hS5⟩
        refine m_callv (As := [.int 0, .int (nI (nS (B 2)))]) (rest := []) S hKK hP hS (mm_gets l D t mb (upc B1 2 (wsR (B 2) x k)) 0 (nI (nS (B 2))) (by omega) hv) (cwV 2 hts (lw_V q1366 q1368 qs71 q104 q1369) rfl rfl rfl (by decide +kernel) ⟨Nat.le_of_ble_eq_true rfl, Nat.le_of_ble_eq_true rfl⟩) rfl hl.1 rfl (Nat.le_of_ble_eq_true rfl) dX9_write_178 ⟨Nat.le_of_ble_eq_true rfl, Nat.le_of_ble_eq_true rfl⟩ (fun B178 H locs h178 hP hS => ?_)
        have h178 : B178 = upc (upc B1 2 (wsR (B 2) x k)) 2 (geS ((upc B1 2 (wsR (B 2) x k)) 2) 0 (nI (nS (B 2)))) := h178
        subst h178
        rw [upc_same, upc_upc] at hP
        have hok : Ok ((upc B1 2 (wgR (B 2) x k)) 2) 999 := by rw [upc_same]; exact Ok_wgR ho hS5 hH0 hk2 hwt.1.1 hwt.1.2
        have hP : MW D t mb (upc B1 2 (wgR (B 2) x k)) H := hP
        refine lv_aload_n hx hb dX9_write_181 rfl (lv_at hl 4 rfl) ?_
        refine lv_iload hx hb dX9_write_182 (lv_at hl 0 rfl) ?_
        refine lv_iload_n hx hb dX9_write_184 rfl (lv_at hl 6 rfl) ?_
        refine z_stk (st' := [.int (nI (ix y)), .int (nI (nS (B 2))), .ref mb]) (by rw [← show y = nI (ix y) from hh.1]) ?_
        refine m_calli (As := [.int (nI (nS (B 2))), .int (nI (ix y))]) (rest := []) S hKK hP hS (mm_haveBehind l D t mb (upc B1 2 (wgR (B 2) x k)) 999 (ix y) (nI (nS (B 2))) hok (by omega)) (cwV 2 hts (lw_V q1478 q1480 qs88 q104 q1481) rfl rfl rfl (by decide +kernel) ⟨Nat.le_of_ble_eq_true rfl, Nat.le_of_ble_eq_true rfl⟩) rfl hl.1 rfl (Nat.le_of_ble_eq_true rfl) dX9_write_185 ⟨Nat.le_of_ble_eq_true rfl, Nat.le_of_ble_eq_true rfl⟩ (fun r185 B185 H locs h185 hP hS => ?_)
        obtain ⟨hr185, hs185⟩ : r185 = haS (hrS ((upc B1 2 (wgR (B 2) x k)) 2) (ix y)) (nI (nS (B 2))) ∧ SC _ B185 := h185
        rw [upc_same] at hr185
        have hRB : RB B B185 := hEk.put hs185
        refine lv_istore (lv' := [(9, .int r185), (8, .int (nI (nS (B 2)))), (7, .int (nI k)), (5, .int ((mxL (fun k => haS (hrS (wgR (B 2) x k) (ix y)) (nI (nS (B 2)))) (-9, -9) k).1)), (6, .int ((mxL (fun k => haS (hrS (wgR (B 2) x k) (ix y)) (nI (nS (B 2)))) (-9, -9) k).2)), (0, .ref mb), (1, .int x), (2, .int y), (3, .int z)]) hx hb dX9_write_188 hl (by decide) rfl (fun ls hl => ?_)
        refine W.join (fun vJ => F0 m 204 ls (.int vJ :: [])) (fun vJ => vJ = (mxL (fun k => haS (hrS (wgR (B 2) x k) (ix y)) (nI (nS (B 2)))) (-9, -9) (k + 1)).1) (fun vJ hJ => ?_) (fun J => ?_)
        · subst hJ
          refine lv_istore (lv' := [(5, .int ((mxL (fun k => haS (hrS (wgR (B 2) x k) (ix y)) (nI (nS (B 2)))) (-9, -9) (k + 1)).1)), (9, .int r185), (8, .int (nI (nS (B 2)))), (7, .int (nI k)), (6, .int ((mxL (fun k => haS (hrS (wgR (B 2) x k) (ix y)) (nI (nS (B 2)))) (-9, -9) k).2)), (0, .ref mb), (1, .int x), (2, .int y), (3, .int z)]) hx hb dX9_write_204 hl (by decide) rfl (fun ls hl => ?_)
          refine W.join (fun vJ => F0 m 220 ls (.int vJ :: [])) (fun vJ => vJ = (mxL (fun k => haS (hrS (wgR (B 2) x k) (ix y)) (nI (nS (B 2)))) (-9, -9) (k + 1)).2) (fun vJ hJ => ?_) (fun J2 => ?_)
          · subst hJ
            refine lv_istore (lv' := [(6, .int ((mxL (fun k => haS (hrS (wgR (B 2) x k) (ix y)) (nI (nS (B 2)))) (-9, -9) (k + 1)).2)), (5, .int ((mxL (fun k => haS (hrS (wgR (B 2) x k) (ix y)) (nI (nS (B 2)))) (-9, -9) (k + 1)).1)), (9, .int r185), (8, .int (nI (nS (B 2)))), (7, .int (nI k)), (0, .ref mb), (1, .int x), (2, .int y), (3, .int z)]) hx hb dX9_write_220 hl (by decide) rfl (fun ls hl => ?_)
            refine lv_iinc (v := nI (k + 1)) (lv' := [(7, .int (nI (k + 1))), (6, .int ((mxL (fun k => haS (hrS (wgR (B 2) x k) (ix y)) (nI (nS (B 2)))) (-9, -9) (k + 1)).2)), (5, .int ((mxL (fun k => haS (hrS (wgR (B 2) x k) (ix y)) (nI (nS (B 2)))) (-9, -9) (k + 1)).1)), (9, .int r185), (8, .int (nI (nS (B 2)))), (0, .ref mb), (1, .int x), (2, .int y), (3, .int z)]) hx hb dX9_write_222 hl (k := 4) rfl (nI_1 k) (by decide) rfl (fun ls hl => ?_)
            refine lv_goto (tgt := 98) hx hb dX9_write_225 (by decide) ?_
            exact ihk (k + 1, B185) H locs ls (by show 60 - (k + 1) < 60 - k; omega) ⟨by show k + 1 ≤ 60; omega, hRB, hP, hS, lv_sub hl [0, 2, 1, 5, 6, 7, 8] rfl⟩
          · refine lv_iload hx hb dX9_write_206 (lv_at hl 1 rfl) ?_
            refine lv_iload hx hb dX9_write_208 (lv_at hl 4 rfl) ?_
            refine lv_icmp_le (tgt := 218) hx hb dX9_write_210 (by decide) (fun c210 => ?_) (fun c210 => ?_)
            · refine lv_iload hx hb dX9_write_218 (lv_at hl 4 rfl) ?_
              exact J2 _ (by simp only [mxL]; grind)
            · refine lv_iload hx hb dX9_write_213 (lv_at hl 1 rfl) ?_
              refine lv_goto (tgt := 220) hx hb dX9_write_215 (by decide) ?_
              exact J2 _ (by simp only [mxL]; grind)
        · refine lv_iload hx hb dX9_write_190 (lv_at hl 0 rfl) ?_
          refine lv_iload hx hb dX9_write_192 (lv_at hl 4 rfl) ?_
          refine lv_icmp_le (tgt := 202) hx hb dX9_write_194 (by decide) (fun c194 => ?_) (fun c194 => ?_)
          · refine lv_iload hx hb dX9_write_202 (lv_at hl 3 rfl) ?_
            exact J _ (by simp only [mxL]; grind)
          · refine lv_iload hx hb dX9_write_197 (lv_at hl 2 rfl) ?_
            refine lv_goto (tgt := 204) hx hb dX9_write_199 (by decide) ?_
            exact J _ (by simp only [mxL]; grind)
    · have hno : rfOk (wtN (B 2) x y z) := by unfold wtN at c73 ⊢; unfold rfOk; grind
      refine lv_aload_n hx hb dX9_write_76 rfl (lv_at hl 1 rfl) ?_
      refine lv_iload hx hb dX9_write_77 (lv_at hl 0 rfl) ?_
      refine m_calli (As := [.int (wtN (B 2) x y z)]) (rest := []) S hKK hP hS (mm_refuse l D t mb B (wtN (B 2) x y z) (ix (-(wtN (B 2) x y z))) (rf1 hno) (rf2 hno)) (cwV 1 hts (lw_V q1306 q1308 qs60 q104 q1309) rfl rfl rfl (by decide +kernel) ⟨Nat.le_of_ble_eq_true rfl, Nat.le_of_ble_eq_true rfl⟩) rfl hl.1 rfl (Nat.le_of_ble_eq_true rfl) dX9_write_79 ⟨Nat.le_of_ble_eq_true rfl, Nat.le_of_ble_eq_true rfl⟩ (fun r79 B79 H locs h79 hP hS => ?_)
      exact m_iret hx hb hr (rf_close h79 (if_neg c73)) hP hS dX9_write_82 hlk
  · refine lv_iload_n hx hb dX9_write_0 rfl (lv_at hl 1 rfl) ?_
    refine lv_iconst (v := 1) hx hb dX9_write_1 (by decide) ?_
    refine lv_icmp_lt (tgt := 9) hx hb dX9_write_2 (by decide) (fun c2 => ?_) (fun c2 => ?_)
    · refine lv_bipush (v := (-4)) hx hb dX9_write_9 (by decide) ?_
      refine lv_goto (tgt := 69) hx hb dX9_write_11 (by decide) ?_
      exact J _ (by unfold wtN isI; grind)
    · refine lv_iload_n hx hb dX9_write_5 rfl (lv_at hl 2 rfl) ?_
      refine lv_if_ge (tgt := 14) hx hb dX9_write_6 (by decide) (fun c6 => ?_) (fun c6 => ?_)
      · refine lv_iload_n hx hb dX9_write_14 rfl (lv_at hl 1 rfl) ?_
        refine lv_bipush (v := 9) hx hb dX9_write_15 (by decide) ?_
        refine lv_icmp_gt (tgt := 36) hx hb dX9_write_17 (by decide) (fun c17 => ?_) (fun c17 => ?_)
        · refine lv_bipush (v := (-6)) hx hb dX9_write_36 (by decide) ?_
          refine lv_goto (tgt := 69) hx hb dX9_write_38 (by decide) ?_
          exact J _ (by unfold wtN isI; grind)
        · refine lv_iload_n hx hb dX9_write_20 rfl (lv_at hl 2 rfl) ?_
          refine lv_bipush (v := 60) hx hb dX9_write_21 (by decide) ?_
          refine lv_icmp_gt (tgt := 36) hx hb dX9_write_23 (by decide) (fun c23 => ?_) (fun c23 => ?_)
          · refine lv_bipush (v := (-6)) hx hb dX9_write_36 (by decide) ?_
            refine lv_goto (tgt := 69) hx hb dX9_write_38 (by decide) ?_
            exact J _ (by unfold wtN isI; grind)
          · refine lv_aload_n hx hb dX9_write_26 rfl (lv_at hl 0 rfl) ?_
            refine m_get hx hb hts hown hKK hP 1 (by decide) q1248 rfl rfl dX9_write_27 ?_
            refine lv_iconst (v := 2) hx hb dX9_write_30 (by decide) ?_
            refine m_ald hx hb hKK hP 2 rfl (k := 2) (v := B 2 2) rfl (by omega) (by decide) rfl dX9_write_31 ?_
            refine lv_iconst (v := 5) hx hb dX9_write_32 (by decide) ?_
            refine lv_icmp_ne (tgt := 41) hx hb dX9_write_33 (by decide) (fun c33 => ?_) (fun c33 => ?_)
            · refine lv_iload_n hx hb dX9_write_41 rfl (lv_at hl 3 rfl) ?_
              refine lv_iconst (v := 2) hx hb dX9_write_42 (by decide) ?_
              refine m_callS (As := [.int z, .int 2]) (rest := []) S hKK trivial (mm_isIn l D t z 2) (va_cwS 2 hts (lw_S q1330 q1331 q104 q1332) rfl rfl rfl (by decide +kernel) ⟨Nat.le_of_ble_eq_true rfl, Nat.le_of_ble_eq_true rfl⟩) rfl hl.1 rfl (Nat.le_of_ble_eq_true rfl) dX9_write_43 ⟨Nat.le_of_ble_eq_true rfl, Nat.le_of_ble_eq_true rfl⟩ ?_
              refine z_ifne (tgt := 54) hx hb dX9_write_46 (by decide) (fun c46 => ?_) (fun c46 => ?_)
              · refine lv_aload_n hx hb dX9_write_54 rfl (lv_at hl 0 rfl) ?_
                refine m_get hx hb hts hown hKK hP 1 (by decide) q1248 rfl rfl dX9_write_55 ?_
                refine lv_iconst (v := 3) hx hb dX9_write_58 (by decide) ?_
                refine m_ald hx hb hKK hP 2 rfl (k := 3) (v := B 2 3) rfl (by omega) (by decide) rfl dX9_write_59 ?_
                refine lv_if_ne (tgt := 68) hx hb dX9_write_60 (by decide) (fun c60 => ?_) (fun c60 => ?_)
                · refine lv_iconst (v := 0) hx hb dX9_write_68 (by decide) ?_
                  exact J _ (by unfold wtN isI; grind)
                · refine lv_bipush (v := (-3)) hx hb dX9_write_63 (by decide) ?_
                  refine lv_goto (tgt := 69) hx hb dX9_write_65 (by decide) ?_
                  exact J _ (by unfold wtN isI; grind)
              · refine lv_bipush (v := (-2)) hx hb dX9_write_49 (by decide) ?_
                refine lv_goto (tgt := 69) hx hb dX9_write_51 (by decide) ?_
                exact J _ (by unfold wtN isI; grind)
            · refine lv_bipush (v := (-6)) hx hb dX9_write_36 (by decide) ?_
              refine lv_goto (tgt := 69) hx hb dX9_write_38 (by decide) ?_
              exact J _ (by unfold wtN isI; grind)
      · refine lv_bipush (v := (-4)) hx hb dX9_write_9 (by decide) ?_
        refine lv_goto (tgt := 69) hx hb dX9_write_11 (by decide) ?_
        exact J _ (by unfold wtN isI; grind)
set_option maxHeartbeats 4000000 in
theorem mm_row (l : Launch) (D : va_G) (t : Nat → ClassId) (mb : Nat) (B : BT) (x : Int32) (hB : OkB B) : Met l yX9_row (ws_ yX9_row cX9_row 3 (some .int)) ({ frames := 1, cells := 0, slots := 0, locals := 22 }) (zPc [.ref mb, .int x] (MW D t mb B) (KK D t)) (va_Qi (fun r B' => r = (rowS B x).1 ∧ PE (rowS B x).2 B') (fun B' U => MW D t mb B' U.heap) (mA mb)) 0 0 (mA mb) := by
  refine zOf (cc := cX9_row) (maxL := 3) (ret := (some .int)) (by decide) (Nat.le_of_ble_eq_true rfl) (fun pg ev s m below meth cd ls F hP hKK hl hnm => ?_)
  obtain ⟨hx, hb, hml, hown, hts, hr, hlk⟩ := F
  have S : CallFix pg m cd cX9_row 3 s _ lw_all RX9 := ⟨hx, hb, hml, hown, hts⟩
  have hl : lv_has ls 3 [(0, .ref mb), (1, .int x)] := hl
  have hS : va_S (mA mb) s.heap s.heap [] := va_S.rf
  have ho := hB.1
  have hj6 := ho.h6
  have hs5 := ho.s5
  have hd8 := ho.d8
  have hh3 := ho.hr3
  have hh6 := ho.h6
  have hd0 := ho.hr0
  refine lv_iload_n hx hb dX9_row_0 rfl (lv_at hl 1 rfl) ?_
  refine lv_iconst (v := 0) hx hb dX9_row_1 (by decide) ?_
  refine lv_bipush (v := 9) hx hb dX9_row_2 (by decide) ?_
  refine m_callS (As := [.int x, .int 0, .int 9]) (rest := []) S hKK trivial (mm_within l D t x 0 9) (va_cwS 3 hts (lw_S q1303 q1304 q104 q1305) rfl rfl rfl (by decide +kernel) ⟨Nat.le_of_ble_eq_true rfl, Nat.le_of_ble_eq_true rfl⟩) rfl hl.1 rfl (Nat.le_of_ble_eq_true rfl) dX9_row_4 ⟨Nat.le_of_ble_eq_true rfl, Nat.le_of_ble_eq_true rfl⟩ ?_
  refine lv_istore_n (lv' := [(2, .int (wiS x 0 9)), (0, .ref mb), (1, .int x)]) hx hb dX9_row_7 rfl hl (by decide) rfl (fun ls hl => ?_)
  refine W.join (α := Array Slot) (fun ls => F0 m 24 ls []) (fun ls => lv_has ls 3 [(2, .int (rwN B x)), (0, .ref mb), (1, .int x)]) (fun ls hl => ?_) (fun JL => ?_)
  · refine lv_iload_n hx hb dX9_row_24 rfl (lv_at hl 0 rfl) ?_
    refine lv_if_eq (tgt := 34) hx hb dX9_row_25 (by decide) (fun c25 => ?_) (fun c25 => ?_)
    · have h96 : ix (B 0 3) < 6 := by
        have h1 := hB.2.2.2.1
        rcases Nat.lt_or_ge (ix (B 0 3)) 6 with q | q
        · exact q
        · exfalso
          have e : B 0 3 = 6 := by rw [h1.1, show ix (B 0 3) = 6 by omega]; rfl
          unfold rwN at c25
          grind
      refine lv_aload_n hx hb dX9_row_34 rfl (lv_at hl 1 rfl) ?_
      refine m_get hx hb hts hown hKK hP 15 (by decide) q1262 rfl rfl dX9_row_35 ?_
      refine lv_aload_n hx hb dX9_row_38 rfl (lv_at hl 1 rfl) ?_
      refine m_get hx hb hts hown hKK hP 16 (by decide) q1263 rfl rfl dX9_row_39 ?_
      refine lv_iload_n hx hb dX9_row_42 rfl (lv_at hl 2 rfl) ?_
      refine m_ast hx hb hKK hP hS 13 rfl (k := ix (B 0 3)) hB.2.2.2.1.1 (by omega) (by decide) rfl dX9_row_43 (fun H locs hP hS => ?_)
      refine lv_aload_n hx hb dX9_row_44 rfl (lv_at hl 1 rfl) ?_
      refine lv_dup hx hb dX9_row_45 rfl ?_
      refine m_get hx hb hts hown hKK hP 16 (by decide) q1263 rfl rfl dX9_row_46 ?_
      refine lv_iconst (v := 1) hx hb dX9_row_49 (by decide) ?_
      refine lv_iadd hx hb dX9_row_50 ?_
      refine m_put (ty := .int) hx hb hts hown hKK hP hS 16 3 (by decide) q1263 rfl rfl (by decide +kernel) rfl rfl rfl dX9_row_51 (fun H locs hP hS => ?_)
      refine lv_aload_n hx hb dX9_row_54 rfl (lv_at hl 1 rfl) ?_
      refine m_get hx hb hts hown hKK hP 16 (by decide) q1263 rfl rfl dX9_row_55 ?_
      exact m_iret hx hb hr (ok_close (o := rowS B x) (if_pos c25) (PE.rf _)) hP hS dX9_row_58 hlk
    · have hno : rfOk (rwN B x) := by unfold rwN at c25 ⊢; split; exact rf_m6; exact rf_wi (by grind)
      refine lv_aload_n hx hb dX9_row_28 rfl (lv_at hl 1 rfl) ?_
      refine lv_iload_n hx hb dX9_row_29 rfl (lv_at hl 0 rfl) ?_
      refine m_calli (As := [.int (rwN B x)]) (rest := []) S hKK hP hS (mm_refuse l D t mb B (rwN B x) (ix (-(rwN B x))) (rf1 hno) (rf2 hno)) (cwV 1 hts (lw_V q1306 q1308 qs60 q104 q1309) rfl rfl rfl (by decide +kernel) ⟨Nat.le_of_ble_eq_true rfl, Nat.le_of_ble_eq_true rfl⟩) rfl hl.1 rfl (Nat.le_of_ble_eq_true rfl) dX9_row_30 ⟨Nat.le_of_ble_eq_true rfl, Nat.le_of_ble_eq_true rfl⟩ (fun r30 B30 H locs h30 hP hS => ?_)
      exact m_iret hx hb hr (rf_close h30 (if_neg c25)) hP hS dX9_row_33 hlk
  · refine lv_iload_n hx hb dX9_row_8 rfl (lv_at hl 0 rfl) ?_
    refine lv_if_ne (tgt := 24) hx hb dX9_row_9 (by decide) (fun c9 => ?_) (fun c9 => ?_)
    · exact JL ls (by rw [show rwN B x = wiS x 0 9 from (by grind [rwN])]; exact lv_sub hl [0, 1, 2] rfl)
    · refine lv_aload_n hx hb dX9_row_12 rfl (lv_at hl 1 rfl) ?_
      refine m_get hx hb hts hown hKK hP 16 (by decide) q1263 rfl rfl dX9_row_13 ?_
      refine lv_bipush (v := 6) hx hb dX9_row_16 (by decide) ?_
      refine lv_icmp_ne (tgt := 24) hx hb dX9_row_18 (by decide) (fun c18 => ?_) (fun c18 => ?_)
      · exact JL ls (by rw [show rwN B x = wiS x 0 9 from (by grind [rwN])]; exact lv_sub hl [0, 1, 2] rfl)
      · refine lv_bipush (v := (-6)) hx hb dX9_row_21 (by decide) ?_
        refine lv_istore_n (lv' := [(2, .int (-6)), (0, .ref mb), (1, .int x)]) hx hb dX9_row_23 rfl hl (by decide) rfl (fun ls hl => ?_)
        exact JL ls (by rw [show rwN B x = (-6) from (by grind [rwN])]; exact lv_sub hl [0, 1, 2] rfl)
set_option maxHeartbeats 4000000 in
theorem mm_isTold (l : Launch) (D : va_G) (t : Nat → ClassId) (mb : Nat) (B : BT) (j : Nat) (hj : j < 6) : Met l yX9_isTold (ws_ yX9_isTold cX9_isTold 2 (some .boolean)) ({ frames := 1, cells := 0, slots := 0, locals := 22 }) (zPc [.ref mb, .int (nI j)] (MW D t mb B) (KK D t)) (QcRead (bI (toB (B 13) (B 2) j))) 0 0 (fun _ => False) := by
  refine zOf (cc := cX9_isTold) (maxL := 2) (ret := (some .boolean)) (by decide) (Nat.le_of_ble_eq_true rfl) (fun pg ev s m below meth cd ls F hP hKK hl hnm => ?_)
  obtain ⟨hx, hb, hml, hown, hts, hr, hlk⟩ := F
  have S : CallFix pg m cd cX9_isTold 2 s _ lw_all RX9 := ⟨hx, hb, hml, hown, hts⟩
  have hl : lv_has ls 2 [(0, .ref mb), (1, .int (nI j))] := hl
  refine lv_aload_n hx hb dX9_isTold_0 rfl (lv_at hl 0 rfl) ?_
  refine m_get hx hb hts hown hKK hP 15 (by decide) q1262 rfl rfl dX9_isTold_1 ?_
  refine lv_iload_n hx hb dX9_isTold_4 rfl (lv_at hl 1 rfl) ?_
  refine m_ald hx hb hKK hP 13 rfl (k := j) (v := B 13 j) rfl (by omega) (by decide) rfl dX9_isTold_5 ?_
  refine lv_aload_n hx hb dX9_isTold_6 rfl (lv_at hl 0 rfl) ?_
  refine lv_iload_n hx hb dX9_isTold_7 rfl (lv_at hl 1 rfl) ?_
  refine lv_iconst (v := 3) hx hb dX9_isTold_8 (by decide) ?_
  refine m_callr (As := [.int (nI j), .int 3]) (rest := [.int (B 13 j)]) S hKK hP (mm_at l D t mb B j 3 (by omega)) (cwV 2 hts (lw_V q1386 q1388 qs75 q104 q1389) rfl rfl rfl (by decide +kernel) ⟨Nat.le_of_ble_eq_true rfl, Nat.le_of_ble_eq_true rfl⟩) rfl hl.1 rfl (Nat.le_of_ble_eq_true rfl) dX9_isTold_9 ⟨Nat.le_of_ble_eq_true rfl, Nat.le_of_ble_eq_true rfl⟩ ?_
  refine lv_if_ge (tgt := 20) hx hb dX9_isTold_12 (by decide) (fun c12 => ?_) (fun c12 => ?_)
  · refine lv_aload_n hx hb dX9_isTold_20 rfl (lv_at hl 0 rfl) ?_
    refine lv_iload_n hx hb dX9_isTold_21 rfl (lv_at hl 1 rfl) ?_
    refine lv_iconst (v := 3) hx hb dX9_isTold_22 (by decide) ?_
    refine m_callr (As := [.int (nI j), .int 3]) (rest := [.int (B 13 j)]) S hKK hP (mm_at l D t mb B j 3 (by omega)) (cwV 2 hts (lw_V q1386 q1388 qs75 q104 q1389) rfl rfl rfl (by decide +kernel) ⟨Nat.le_of_ble_eq_true rfl, Nat.le_of_ble_eq_true rfl⟩) rfl hl.1 rfl (Nat.le_of_ble_eq_true rfl) dX9_isTold_23 ⟨Nat.le_of_ble_eq_true rfl, Nat.le_of_ble_eq_true rfl⟩ ?_
    refine lv_icmp_ne (tgt := 33) hx hb dX9_isTold_26 (by decide) (fun c26 => ?_) (fun c26 => ?_)
    · refine lv_iconst (v := 0) hx hb dX9_isTold_33 (by decide) ?_
      exact z_bretR hx hb hr (by simp only [toB, hd]; grind [bI]) (fun q h => by cases h) rfl dX9_isTold_34 hlk
    · refine lv_iconst (v := 1) hx hb dX9_isTold_29 (by decide) ?_
      refine lv_goto (tgt := 34) hx hb dX9_isTold_30 (by decide) ?_
      exact z_bretR hx hb hr (by simp only [toB, hd]; grind [bI]) (fun q h => by cases h) rfl dX9_isTold_34 hlk
  · refine lv_bipush (v := 9) hx hb dX9_isTold_15 (by decide) ?_
    refine lv_goto (tgt := 26) hx hb dX9_isTold_17 (by decide) ?_
    refine lv_icmp_ne (tgt := 33) hx hb dX9_isTold_26 (by decide) (fun c26 => ?_) (fun c26 => ?_)
    · refine lv_iconst (v := 0) hx hb dX9_isTold_33 (by decide) ?_
      exact z_bretR hx hb hr (by simp only [toB, hd]; grind [bI]) (fun q h => by cases h) rfl dX9_isTold_34 hlk
    · refine lv_iconst (v := 1) hx hb dX9_isTold_29 (by decide) ?_
      refine lv_goto (tgt := 34) hx hb dX9_isTold_30 (by decide) ?_
      exact z_bretR hx hb hr (by simp only [toB, hd]; grind [bI]) (fun q h => by cases h) rfl dX9_isTold_34 hlk
set_option maxHeartbeats 4000000 in
theorem mm_isAllTold (l : Launch) (D : va_G) (t : Nat → ClassId) (mb : Nat) (B : BT) (hh3 : B 2 3 = nI (nH (B 2))) (hh6 : nH (B 2) ≤ 6) : Met l yX9_isAllTold (ws_ yX9_isAllTold cX9_isAllTold 2 (some .boolean)) ({ frames := 2, cells := 0, slots := 0, locals := 43 }) (zPc [.ref mb] (MW D t mb B) (KK D t)) (QcRead (bI (atB (B 13) (B 2) (nH (B 2))))) 0 0 (fun _ => False) := by
  refine zOf (cc := cX9_isAllTold) (maxL := 2) (ret := (some .boolean)) (by decide) (Nat.le_of_ble_eq_true rfl) (fun pg ev s m below meth cd ls F hP hKK hl hnm => ?_)
  obtain ⟨hx, hb, hml, hown, hts, hr, hlk⟩ := F
  have S : CallFix pg m cd cX9_isAllTold 2 s _ lw_all RX9 := ⟨hx, hb, hml, hown, hts⟩
  have hl : lv_has ls 2 [(0, .ref mb)] := hl
  refine lv_iconst (v := 0) hx hb dX9_isAllTold_0 (by decide) ?_
  refine lv_istore_n (lv' := [(1, .int 0), (0, .ref mb)]) hx hb dX9_isAllTold_1 rfl hl (by decide) rfl (fun ls hl => ?_)
  refine W.loopR (fun (k : Nat) ls => k ≤ nH (B 2) ∧ (atB (B 13) (B 2) k = true) ∧ lv_has ls 2 [(1, .int (nI k)), (0, .ref mb)]) (fun k => nH (B 2) - k) (fun k ls hIk ihk => ?_) 0 ⟨by omega, rfl, lv_sub hl [0, 1] rfl⟩
  obtain ⟨hk, hEk, hl⟩ := hIk
  refine lv_iload_n hx hb dX9_isAllTold_2 rfl (lv_at hl 0 rfl) ?_
  refine lv_aload_n hx hb dX9_isAllTold_3 rfl (lv_at hl 1 rfl) ?_
  refine m_get hx hb hts hown hKK hP 1 (by decide) q1248 rfl rfl dX9_isAllTold_4 ?_
  refine lv_iconst (v := 3) hx hb dX9_isAllTold_7 (by decide) ?_
  refine m_ald hx hb hKK hP 2 rfl (k := 3) (v := B 2 3) rfl (by omega) (by decide) rfl dX9_isAllTold_8 ?_
  refine lv_icmp_ge (tgt := 28) hx hb dX9_isAllTold_9 (by decide) (fun c9 => ?_) (fun c9 => ?_)
  · obtain rfl : k = nH (B 2) := Nat.le_antisymm hk (lp_end hh3 (by omega) (by omega) c9)
    refine lv_iconst (v := 1) hx hb dX9_isAllTold_28 (by decide) ?_
    exact z_bretR hx hb hr (by rw [hEk]; rfl) (fun q h => by cases h) rfl dX9_isAllTold_29 hlk
  · have hk2 : k < nH (B 2) := lp_go hh3 (by omega) (by omega) c9
    refine lv_aload_n hx hb dX9_isAllTold_12 rfl (lv_at hl 1 rfl) ?_
    refine lv_iload_n hx hb dX9_isAllTold_13 rfl (lv_at hl 0 rfl) ?_
    refine m_callr (As := [.int (nI k)]) (rest := []) S hKK hP (mm_isTold l D t mb B k (by omega)) (cwV 1 hts (lw_V q1550 q1552 qs93 q104 q1553) rfl rfl rfl (by decide +kernel) ⟨Nat.le_of_ble_eq_true rfl, Nat.le_of_ble_eq_true rfl⟩) rfl hl.1 rfl (Nat.le_of_ble_eq_true rfl) dX9_isAllTold_14 ⟨Nat.le_of_ble_eq_true rfl, Nat.le_of_ble_eq_true rfl⟩ ?_
    refine z_ifne (tgt := 22) hx hb dX9_isAllTold_17 (by decide) (fun c17 => ?_) (fun c17 => ?_)
    · refine lv_iinc (v := nI (k + 1)) (lv' := [(1, .int (nI (k + 1))), (0, .ref mb)]) hx hb dX9_isAllTold_22 hl (k := 0) rfl (nI_1 k) (by decide) rfl (fun ls hl => ?_)
      refine lv_goto (tgt := 2) hx hb dX9_isAllTold_25 (by decide) ?_
      exact ihk (k + 1) ls (by omega) ⟨by omega, (by simp only [atB, hEk, c17, Bool.and_self]), lv_sub hl [0, 1] rfl⟩
    · refine lv_iconst (v := 0) hx hb dX9_isAllTold_20 (by decide) ?_
      exact z_bretR hx hb hr (by rw [atB_f hk2 c17]; rfl) (fun q h => by cases h) rfl dX9_isAllTold_21 hlk
set_option maxHeartbeats 4000000 in
theorem mm_otherwise (l : Launch) (D : va_G) (t : Nat → ClassId) (mb : Nat) (B : BT) (x : Int32) (y : Int32) (hB : OkB B) : Met l yX9_otherwise (ws_ yX9_otherwise cX9_otherwise 10 (some .int)) ({ frames := 6, cells := 0, slots := 0, locals := 135 }) (zPc [.ref mb, .int x, .int y] (MW D t mb B) (KK D t)) (va_Qi (fun r B' => r = (otherS B x y).1 ∧ PE (otherS B x y).2 B') (fun B' U => MW D t mb B' U.heap) (mA mb)) 0 0 (mA mb) := by
  refine zOf (cc := cX9_otherwise) (maxL := 10) (ret := (some .int)) (by decide) (Nat.le_of_ble_eq_true rfl) (fun pg ev s m below meth cd ls F hP hKK hl hnm => ?_)
  obtain ⟨hx, hb, hml, hown, hts, hr, hlk⟩ := F
  have S : CallFix pg m cd cX9_otherwise 10 s _ lw_all RX9 := ⟨hx, hb, hml, hown, hts⟩
  have hl : lv_has ls 10 [(0, .ref mb), (1, .int x), (2, .int y)] := hl
  have hS : va_S (mA mb) s.heap s.heap [] := va_S.rf
  have ho := hB.1
  have hj6 := ho.h6
  have hs5 := ho.s5
  have hd8 := ho.d8
  have hh3 := ho.hr3
  have hh6 := ho.h6
  have hd0 := ho.hr0
  refine lv_iload_n hx hb dX9_otherwise_0 rfl (lv_at hl 1 rfl) ?_
  refine lv_iconst (v := 0) hx hb dX9_otherwise_1 (by decide) ?_
  refine lv_bipush (v := 60) hx hb dX9_otherwise_2 (by decide) ?_
  refine m_callS (As := [.int x, .int 0, .int 60]) (rest := []) S hKK trivial (mm_within l D t x 0 60) (va_cwS 3 hts (lw_S q1303 q1304 q104 q1305) rfl rfl rfl (by decide +kernel) ⟨Nat.le_of_ble_eq_true rfl, Nat.le_of_ble_eq_true rfl⟩) rfl hl.1 rfl (Nat.le_of_ble_eq_true rfl) dX9_otherwise_4 ⟨Nat.le_of_ble_eq_true rfl, Nat.le_of_ble_eq_true rfl⟩ ?_
  refine lv_istore_n (lv' := [(3, .int (wiS x 0 60)), (0, .ref mb), (1, .int x), (2, .int y)]) hx hb dX9_otherwise_7 rfl hl (by decide) rfl (fun ls hl => ?_)
  refine W.join (α := Array Slot) (fun ls => F0 m 45 ls []) (fun ls => lv_has ls 10 [(3, .int (otN B x y)), (0, .ref mb), (1, .int x), (2, .int y)]) (fun ls hl => ?_) (fun JL => ?_)
  · refine lv_iload_n hx hb dX9_otherwise_45 rfl (lv_at hl 0 rfl) ?_
    refine lv_if_eq (tgt := 55) hx hb dX9_otherwise_46 (by decide) (fun c46 => ?_) (fun c46 => ?_)
    · have hwi : wiS x 0 60 = 0 := by unfold otN at c46; grind
      have hh := wi_ix hwi
      refine lv_aload_n hx hb dX9_otherwise_55 rfl (lv_at hl 1 rfl) ?_
      refine m_callv (As := []) (rest := []) S hKK hP hS (mm_begins l D t mb B ) (cwV 0 hts (lw_V q1462 q1464 qs85 q104 q1465) rfl rfl rfl (by decide +kernel) ⟨Nat.le_of_ble_eq_true rfl, Nat.le_of_ble_eq_true rfl⟩) rfl hl.1 rfl (Nat.le_of_ble_eq_true rfl) dX9_otherwise_56 ⟨Nat.le_of_ble_eq_true rfl, Nat.le_of_ble_eq_true rfl⟩ (fun B56 H locs h56 hP hS => ?_)
      have h56 : B56 = upc B 5 (B 2) := h56
      subst h56
      refine lv_iconst (v := 0) hx hb dX9_otherwise_59 (by decide) ?_
      refine lv_istore (lv' := [(4, .int 0), (3, .int (otN B x y)), (0, .ref mb), (1, .int x), (2, .int y)]) hx hb dX9_otherwise_60 hl (by decide) rfl (fun ls hl => ?_)
      refine lv_bipush (v := (-9)) hx hb dX9_otherwise_62 (by decide) ?_
      refine lv_istore (lv' := [(5, .int (-9)), (4, .int 0), (3, .int (otN B x y)), (0, .ref mb), (1, .int x), (2, .int y)]) hx hb dX9_otherwise_64 hl (by decide) rfl (fun ls hl => ?_)
      refine lv_iconst (v := 0) hx hb dX9_otherwise_66 (by decide) ?_
      refine lv_istore (lv' := [(6, .int 0), (5, .int (-9)), (4, .int 0), (3, .int (otN B x y)), (0, .ref mb), (1, .int x), (2, .int y)]) hx hb dX9_otherwise_67 hl (by decide) rfl (fun ls hl => ?_)
      refine W.loop (σ := Nat × BT) (fun sv H locs ls => sv.1 ≤ 10 * nH (B 2) ∧ (RB B sv.2) ∧ MW D t mb sv.2 H ∧ va_S (mA mb) s.heap H locs ∧ lv_has ls 10 [(6, .int (nI sv.1)), (4, .int (nI (otL (otF (B 13) (B 2) (ix x)) sv.1).1)), (5, .int ((otL (otF (B 13) (B 2) (ix x)) sv.1).2)), (0, .ref mb), (1, .int x), (2, .int y)]) (fun sv => 10 * nH (B 2) - sv.1) (fun sv H locs ls hI ihk => ?_) (0, upc B 5 (B 2)) ⟨by show 0 ≤ 10 * nH (B 2); omega, (RB_begin B), hP, hS, lv_sub hl [0, 2, 1, 4, 5, 6] rfl⟩
      obtain ⟨k, B1⟩ := sv
      obtain ⟨hk, hEk, hP, hS, hl⟩ := hI
      have hl : lv_has ls 10 [(6, .int (nI k)), (4, .int (nI (otL (otF (B 13) (B 2) (ix x)) k).1)), (5, .int ((otL (otF (B 13) (B 2) (ix x)) k).2)), (0, .ref mb), (1, .int x), (2, .int y)] := hl
      dsimp only at hk hEk hP
      refine lv_iload hx hb dX9_otherwise_69 (lv_at hl 0 rfl) ?_
      refine lv_bipush (v := 10) hx hb dX9_otherwise_71 (by decide) ?_
      refine lv_aload_n hx hb dX9_otherwise_73 rfl (lv_at hl 3 rfl) ?_
      refine m_get hx hb hts hown hKK hP 1 (by decide) q1248 rfl rfl dX9_otherwise_74 ?_
      refine lv_iconst (v := 3) hx hb dX9_otherwise_77 (by decide) ?_
      refine m_ald hx hb hKK hP 2 rfl (k := 3) (v := B 2 3) rfl (by omega) (by decide) (by rw [hEk.1]) dX9_otherwise_78 ?_
      refine lv_imul hx hb dX9_otherwise_79 ?_
      refine z_top (y := nI (10 * nH (B 2))) (by rw [hh3]; exact pk_mul 10 _) ?_
      refine lv_icmp_ge (tgt := 201) hx hb dX9_otherwise_80 (by decide) (fun c80 => ?_) (fun c80 => ?_)
      · obtain rfl : k = 10 * nH (B 2) := Nat.le_antisymm hk (lp_end rfl (by omega) (by omega) c80)
        refine W.join (fun vJ => F0 m 212 ls (.int vJ :: [])) (fun vJ => vJ = (if y = 0 then nI (otL (otF (B 13) (B 2) (ix x)) (10 * nH (B 2))).1 else (otL (otF (B 13) (B 2) (ix x)) (10 * nH (B 2))).2)) (fun vJ hJ => ?_) (fun J4 => ?_)
        · subst hJ
          exact m_iret hx hb hr (ok_close (o := otherS B x y) (if_pos c46) hEk.pe) hP hS dX9_otherwise_212 hlk
        · refine lv_iload_n hx hb dX9_otherwise_201 rfl (lv_at hl 5 rfl) ?_
          refine lv_if_ne (tgt := 210) hx hb dX9_otherwise_202 (by decide) (fun c202 => ?_) (fun c202 => ?_)
          · refine lv_iload hx hb dX9_otherwise_210 (lv_at hl 2 rfl) ?_
            exact J4 _ (by grind)
          · refine lv_iload hx hb dX9_otherwise_205 (lv_at hl 1 rfl) ?_
            refine lv_goto (tgt := 212) hx hb dX9_otherwise_207 (by decide) ?_
            exact J4 _ (by grind)
      · have hk2 : k < 10 * nH (B 2) := lp_go rfl (by omega) (by omega) c80
        have hb2 : B1 2 = B 2 := hEk.1
        have hrem : nI k - nI k / 10 * 10 = nI (k % 10) := pk_rem (d := 10) (by omega) (by omega) (by omega)
        have h9 : nI (k % 10) = 9 ↔ k % 10 = 9 := nI_eq (b := 9) (by omega) (by omega)
        refine lv_iload hx hb dX9_otherwise_83 (lv_at hl 0 rfl) ?_
        refine lv_bipush (v := 10) hx hb dX9_otherwise_85 (by decide) ?_
        refine lv_idiv hx hb dX9_otherwise_87 (by decide) ?_
        refine z_top (y := nI (k / 10)) (pk_div (d := 10) (by omega) (by omega) (by omega)) ?_
        refine lv_istore (lv' := [(7, .int (nI (k / 10))), (6, .int (nI k)), (4, .int (nI (otL (otF (B 13) (B 2) (ix x)) k).1)), (5, .int ((otL (otF (B 13) (B 2) (ix x)) k).2)), (0, .ref mb), (1, .int x), (2, .int y)]) hx hb dX9_otherwise_88 hl (by decide) rfl (fun ls hl => ?_)
        refine W.join (fun vJ => F0 m 110 ls (.int vJ :: [])) (fun vJ => vJ = otV k) (fun vJ hJ => ?_) (fun J1 => ?_)
        · subst hJ
          refine lv_istore (lv' := [(8, .int (otV k)), (7, .int (nI (k / 10))), (6, .int (nI k)), (4, .int (nI (otL (otF (B 13) (B 2) (ix x)) k).1)), (5, .int ((otL (otF (B 13) (B 2) (ix x)) k).2)), (0, .ref mb), (1, .int x), (2, .int y)]) hx hb dX9_otherwise_110 hl (by decide) rfl (fun ls hl => ?_)
          refine lv_iload hx hb dX9_otherwise_112 (lv_at hl 0 rfl) ?_
          refine lv_aload_n hx hb dX9_otherwise_114 rfl (lv_at hl 5 rfl) ?_
          refine m_get hx hb hts hown hKK hP 1 (by decide) q1248 rfl rfl dX9_otherwise_115 ?_
          refine lv_iconst (v := 2) hx hb dX9_otherwise_118 (by decide) ?_
          refine m_ald hx hb hKK hP 2 rfl (k := 2) (v := B 2 2) rfl (by omega) (by decide) (by rw [hEk.1]) dX9_otherwise_119 ?_
          refine lv_icmp_ge (tgt := 195) hx hb dX9_otherwise_120 (by decide) (fun c120 => ?_) (fun c120 => ?_)
          · have hF : otF (B 13) (B 2) (ix x) k = false := by unfold otF; rw [decide_eq_false (by grind), Bool.false_and]
            have eM : otL (otF (B 13) (B 2) (ix x)) (k + 1) = otL (otF (B 13) (B 2) (ix x)) k := by simp only [otL]; rw [if_neg (by rw [hF]; decide)]
            have hRB := hEk
            have hl : lv_has ls 10 [(6, .int (nI k)), (4, .int (nI (otL (otF (B 13) (B 2) (ix x)) (k + 1)).1)), (5, .int ((otL (otF (B 13) (B 2) (ix x)) (k + 1)).2)), (0, .ref mb), (1, .int x), (2, .int y)] := by rw [eM]; exact lv_sub hl [2, 3, 4, 5, 6, 7] rfl
            refine lv_iinc (v := nI (k + 1)) (lv' := [(6, .int (nI (k + 1))), (4, .int (nI (otL (otF (B 13) (B 2) (ix x)) (k + 1)).1)), (5, .int ((otL (otF (B 13) (B 2) (ix x)) (k + 1)).2)), (0, .ref mb), (1, .int x), (2, .int y)]) hx hb dX9_otherwise_195 hl (k := 0) rfl (nI_1 k) (by decide) rfl (fun ls hl => ?_)
            refine lv_goto (tgt := 69) hx hb dX9_otherwise_198 (by decide) ?_
            exact ihk (k + 1, B1) H locs ls (by show 10 * nH (B 2) - (k + 1) < 10 * nH (B 2) - k; omega) ⟨by show k + 1 ≤ 10 * nH (B 2); omega, hRB, hP, hS, lv_sub hl [0, 1, 2, 3, 4, 5] rfl⟩
          · refine lv_iload hx hb dX9_otherwise_123 (lv_at hl 0 rfl) ?_
            refine lv_aload_n hx hb dX9_otherwise_125 rfl (lv_at hl 5 rfl) ?_
            refine lv_iload hx hb dX9_otherwise_126 (lv_at hl 1 rfl) ?_
            refine lv_iconst (v := 3) hx hb dX9_otherwise_128 (by decide) ?_
            refine m_callr (As := [.int (nI (k / 10)), .int 3]) (rest := [.int (otV k)]) S hKK hP (mm_at l D t mb B1 (k / 10) 3 (by omega)) (cwV 2 hts (lw_V q1386 q1388 qs75 q104 q1389) rfl rfl rfl (by decide +kernel) ⟨Nat.le_of_ble_eq_true rfl, Nat.le_of_ble_eq_true rfl⟩) rfl hl.1 rfl (Nat.le_of_ble_eq_true rfl) dX9_otherwise_129 ⟨Nat.le_of_ble_eq_true rfl, Nat.le_of_ble_eq_true rfl⟩ ?_
            refine z_top (y := hd (B 2) (k / 10) 3) (by rw [hb2]) ?_
            refine lv_icmp_ne (tgt := 138) hx hb dX9_otherwise_132 (by decide) (fun c132 => ?_) (fun c132 => ?_)
            · have hv : ¬ otV k < 0 → otV k = nI (ix (otV k)) ∧ ix (otV k) < 5 := fun q => by have := ho.ix (v := otV k) (by grind) (by grind); exact ⟨this.1, by omega⟩
              have hok1 : Ok (geS (B 2) (k / 10) (otV k)) 999 := Ok_geS ho (by omega) (by grind)
              refine lv_aload_n hx hb dX9_otherwise_138 rfl (lv_at hl 5 rfl) ?_
              refine lv_iload hx hb dX9_otherwise_139 (lv_at hl 1 rfl) ?_
              refine lv_iload hx hb dX9_otherwise_141 (lv_at hl 0 rfl) ?_
              refine m_callv (As := [.int (nI (k / 10)), .int (otV k)]) (rest := []) S hKK hP hS (mm_gets l D t mb B1 (k / 10) (otV k) (by omega) hv) (cwV 2 hts (lw_V q1366 q1368 qs71 q104 q1369) rfl rfl rfl (by decide +kernel) ⟨Nat.le_of_ble_eq_true rfl, Nat.le_of_ble_eq_true rfl⟩) rfl hl.1 rfl (Nat.le_of_ble_eq_true rfl) dX9_otherwise_143 ⟨Nat.le_of_ble_eq_true rfl, Nat.le_of_ble_eq_true rfl⟩ (fun B143 H locs h143 hP hS => ?_)
              have h143 : B143 = upc B1 2 (geS (B1 2) (k / 10) (otV k)) := h143
              subst h143
              rw [hb2] at hP
              have hg2 : grB (upc B1 2 (geS (B 2) (k / 10) (otV k))) (ix x) 2 = hrS (geS (B 2) (k / 10) (otV k)) (ix x) := by rw [grB_2, upc_same]
              have hok2 : Ok (grB (upc B1 2 (geS (B 2) (k / 10) (otV k))) (ix x) 2) (999 + ix x) := by rw [hg2]; exact Ok_hrS hok1 (by omega)
              have hg13 : grB (upc B1 2 (geS (B 2) (k / 10) (otV k))) (ix x) 13 = B 13 := by rw [grB_x _ (by decide)]; exact hEk.2.2.2.2.2.2
              refine lv_aload_n hx hb dX9_otherwise_146 rfl (lv_at hl 5 rfl) ?_
              refine lv_iload_n hx hb dX9_otherwise_147 rfl (lv_at hl 6 rfl) ?_
              refine z_stk (st' := [.int (nI (ix x)), .ref mb]) (by rw [← show x = nI (ix x) from hh.1]) ?_
              refine m_callv (As := [.int (nI (ix x))]) (rest := []) S hKK hP hS (mm_goesFor l D t mb (upc B1 2 (geS (B 2) (k / 10) (otV k))) 999 (ix x) (by rw [upc_same]; exact hok1) (by omega)) (cwV 1 hts (lw_V q1466 q1468 qs86 q104 q1469) rfl rfl rfl (by decide +kernel) ⟨Nat.le_of_ble_eq_true rfl, Nat.le_of_ble_eq_true rfl⟩) rfl hl.1 rfl (Nat.le_of_ble_eq_true rfl) dX9_otherwise_148 ⟨Nat.le_of_ble_eq_true rfl, Nat.le_of_ble_eq_true rfl⟩ (fun B148 H locs h148 hP hS => ?_)
              have h148 : B148 = grB (upc B1 2 (geS (B 2) (k / 10) (otV k))) (ix x) := h148
              subst h148
              refine lv_aload_n hx hb dX9_otherwise_151 rfl (lv_at hl 5 rfl) ?_
              refine m_callr (As := []) (rest := []) S hKK hP (mm_isAllTold l D t mb (grB (upc B1 2 (geS (B 2) (k / 10) (otV k))) (ix x)) hok2.hr3 hok2.h6) (cwV 0 hts (lw_V q1546 q1548 qs92 q104 q1549) rfl rfl rfl (by decide +kernel) ⟨Nat.le_of_ble_eq_true rfl, Nat.le_of_ble_eq_true rfl⟩) rfl hl.1 rfl (Nat.le_of_ble_eq_true rfl) dX9_otherwise_152 ⟨Nat.le_of_ble_eq_true rfl, Nat.le_of_ble_eq_true rfl⟩ ?_
              refine z_top (y := bI (otF (B 13) (B 2) (ix x) k)) (by rw [hg13, hg2, nH_hrS, nH_eq (geS_off (by omega))]; unfold otF; rw [decide_eq_true (by grind), Bool.true_and]) ?_
              refine lv_istore (lv' := [(9, .int (bI (otF (B 13) (B 2) (ix x) k))), (8, .int (otV k)), (7, .int (nI (k / 10))), (6, .int (nI k)), (4, .int (nI (otL (otF (B 13) (B 2) (ix x)) k).1)), (5, .int ((otL (otF (B 13) (B 2) (ix x)) k).2)), (0, .ref mb), (1, .int x), (2, .int y)]) hx hb dX9_otherwise_155 hl (by decide) rfl (fun ls hl => ?_)
              refine lv_aload_n hx hb dX9_otherwise_157 rfl (lv_at hl 6 rfl) ?_
              refine m_callv (As := []) (rest := []) S hKK hP hS (mm_ends l D t mb (grB (upc B1 2 (geS (B 2) (k / 10) (otV k))) (ix x)) ) (cwV 0 hts (lw_V q1470 q1472 qs87 q104 q1473) rfl rfl rfl (by decide +kernel) ⟨Nat.le_of_ble_eq_true rfl, Nat.le_of_ble_eq_true rfl⟩) rfl hl.1 rfl (Nat.le_of_ble_eq_true rfl) dX9_otherwise_158 ⟨Nat.le_of_ble_eq_true rfl, Nat.le_of_ble_eq_true rfl⟩ (fun B158 H locs h158 hP hS => ?_)
              have h158 : B158 = upc (grB (upc B1 2 (geS (B 2) (k / 10) (otV k))) (ix x)) 2 ((grB (upc B1 2 (geS (B 2) (k / 10) (otV k))) (ix x)) 5) := h158
              subst h158
              have hRB : RB B (upc (grB (upc B1 2 (geS (B 2) (k / 10) (otV k))) (ix x)) 2 (grB (upc B1 2 (geS (B 2) (k / 10) (otV k))) (ix x) 5)) := hEk.put (by rw [show grB (upc B1 2 (geS (B 2) (k / 10) (otV k))) (ix x) 5 = (upc B1 2 (geS (B 2) (k / 10) (otV k))) 5 from grB_x _ (by decide) _]; exact SC_gr _ _)
              have h0 : nI (otL (otF (B 13) (B 2) (ix x)) k).1 = 0 ↔ (otL (otF (B 13) (B 2) (ix x)) k).1 = 0 := nI_eq (b := 0) (by have := otL_le (otF (B 13) (B 2) (ix x)) k; omega) (by omega)
              refine W.join (fun vJ => F0 m 178 ls (.int vJ :: [])) (fun vJ => vJ = (otL (otF (B 13) (B 2) (ix x)) (k + 1)).2) (fun vJ hJ => ?_) (fun J2 => ?_)
              · subst hJ
                refine lv_istore (lv' := [(5, .int ((otL (otF (B 13) (B 2) (ix x)) (k + 1)).2)), (9, .int (bI (otF (B 13) (B 2) (ix x) k))), (8, .int (otV k)), (7, .int (nI (k / 10))), (6, .int (nI k)), (4, .int (nI (otL (otF (B 13) (B 2) (ix x)) k).1)), (0, .ref mb), (1, .int x), (2, .int y)]) hx hb dX9_otherwise_178 hl (by decide) rfl (fun ls hl => ?_)
                refine lv_iload hx hb dX9_otherwise_180 (lv_at hl 5 rfl) ?_
                refine W.join (fun vJ => F0 m 192 ls (.int vJ :: [.int (nI (otL (otF (B 13) (B 2) (ix x)) k).1)])) (fun vJ => vJ = (if otF (B 13) (B 2) (ix x) k = true then 1 else 0)) (fun vJ hJ => ?_) (fun J3 => ?_)
                · subst hJ
                  refine lv_iadd hx hb dX9_otherwise_192 ?_
                  refine z_top (y := nI (otL (otF (B 13) (B 2) (ix x)) (k + 1)).1) (by simp only [otL]; rw [nI_inc]; congr 1; split <;> rfl) ?_
                  refine lv_istore (lv' := [(4, .int (nI (otL (otF (B 13) (B 2) (ix x)) (k + 1)).1)), (5, .int ((otL (otF (B 13) (B 2) (ix x)) (k + 1)).2)), (9, .int (bI (otF (B 13) (B 2) (ix x) k))), (8, .int (otV k)), (7, .int (nI (k / 10))), (6, .int (nI k)), (0, .ref mb), (1, .int x), (2, .int y)]) hx hb dX9_otherwise_193 hl (by decide) rfl (fun ls hl => ?_)
                  refine lv_iinc (v := nI (k + 1)) (lv' := [(6, .int (nI (k + 1))), (4, .int (nI (otL (otF (B 13) (B 2) (ix x)) (k + 1)).1)), (5, .int ((otL (otF (B 13) (B 2) (ix x)) (k + 1)).2)), (9, .int (bI (otF (B 13) (B 2) (ix x) k))), (8, .int (otV k)), (7, .int (nI (k / 10))), (0, .ref mb), (1, .int x), (2, .int y)]) hx hb dX9_otherwise_195 hl (k := 5) rfl (nI_1 k) (by decide) rfl (fun ls hl => ?_)
                  refine lv_goto (tgt := 69) hx hb dX9_otherwise_198 (by decide) ?_
                  exact ihk (k + 1, upc (grB (upc B1 2 (geS (B 2) (k / 10) (otV k))) (ix x)) 2 ((grB (upc B1 2 (geS (B 2) (k / 10) (otV k))) (ix x)) 5)) H locs ls (by show 10 * nH (B 2) - (k + 1) < 10 * nH (B 2) - k; omega) ⟨by show k + 1 ≤ 10 * nH (B 2); omega, hRB, hP, hS, lv_sub hl [0, 1, 2, 6, 7, 8] rfl⟩
                · refine lv_iload hx hb dX9_otherwise_182 (lv_at hl 1 rfl) ?_
                  refine z_ifeq (tgt := 191) hx hb dX9_otherwise_184 (by decide) (fun c184 => ?_) (fun c184 => ?_)
                  · refine lv_iconst (v := 0) hx hb dX9_otherwise_191 (by decide) ?_
                    exact J3 _ (by grind)
                  · refine lv_iconst (v := 1) hx hb dX9_otherwise_187 (by decide) ?_
                    refine lv_goto (tgt := 192) hx hb dX9_otherwise_188 (by decide) ?_
                    exact J3 _ (by grind)
              · refine lv_iload hx hb dX9_otherwise_161 (lv_at hl 0 rfl) ?_
                refine z_ifeq (tgt := 176) hx hb dX9_otherwise_163 (by decide) (fun c163 => ?_) (fun c163 => ?_)
                · refine lv_iload hx hb dX9_otherwise_176 (lv_at hl 5 rfl) ?_
                  exact J2 _ (by simp only [otL]; grind)
                · refine lv_iload hx hb dX9_otherwise_166 (lv_at hl 4 rfl) ?_
                  refine lv_if_ne (tgt := 176) hx hb dX9_otherwise_168 (by decide) (fun c168 => ?_) (fun c168 => ?_)
                  · refine lv_iload hx hb dX9_otherwise_176 (lv_at hl 5 rfl) ?_
                    exact J2 _ (by simp only [otL]; grind)
                  · refine lv_iload hx hb dX9_otherwise_171 (lv_at hl 3 rfl) ?_
                    refine lv_goto (tgt := 178) hx hb dX9_otherwise_173 (by decide) ?_
                    exact J2 _ (by simp only [otL]; grind)
            · have hF : otF (B 13) (B 2) (ix x) k = false := by unfold otF; rw [decide_eq_false (by grind), Bool.false_and]
              have eM : otL (otF (B 13) (B 2) (ix x)) (k + 1) = otL (otF (B 13) (B 2) (ix x)) k := by simp only [otL]; rw [if_neg (by rw [hF]; decide)]
              have hRB := hEk
              have hl : lv_has ls 10 [(6, .int (nI k)), (4, .int (nI (otL (otF (B 13) (B 2) (ix x)) (k + 1)).1)), (5, .int ((otL (otF (B 13) (B 2) (ix x)) (k + 1)).2)), (0, .ref mb), (1, .int x), (2, .int y)] := by rw [eM]; exact lv_sub hl [2, 3, 4, 5, 6, 7] rfl
              refine lv_goto (tgt := 195) hx hb dX9_otherwise_135 (by decide) ?_
              refine lv_iinc (v := nI (k + 1)) (lv' := [(6, .int (nI (k + 1))), (4, .int (nI (otL (otF (B 13) (B 2) (ix x)) (k + 1)).1)), (5, .int ((otL (otF (B 13) (B 2) (ix x)) (k + 1)).2)), (0, .ref mb), (1, .int x), (2, .int y)]) hx hb dX9_otherwise_195 hl (k := 0) rfl (nI_1 k) (by decide) rfl (fun ls hl => ?_)
              refine lv_goto (tgt := 69) hx hb dX9_otherwise_198 (by decide) ?_
              exact ihk (k + 1, B1) H locs ls (by show 10 * nH (B 2) - (k + 1) < 10 * nH (B 2) - k; omega) ⟨by show k + 1 ≤ 10 * nH (B 2); omega, hRB, hP, hS, lv_sub hl [0, 1, 2, 3, 4, 5] rfl⟩
        · refine lv_iload hx hb dX9_otherwise_90 (lv_at hl 1 rfl) ?_
          refine lv_bipush (v := 10) hx hb dX9_otherwise_92 (by decide) ?_
          refine lv_irem hx hb dX9_otherwise_94 (by decide) ?_
          refine lv_bipush (v := 9) hx hb dX9_otherwise_95 (by decide) ?_
          refine lv_icmp_ne (tgt := 105) hx hb dX9_otherwise_97 (by decide) (fun c97 => ?_) (fun c97 => ?_)
          · refine lv_iload hx hb dX9_otherwise_105 (lv_at hl 1 rfl) ?_
            refine lv_bipush (v := 10) hx hb dX9_otherwise_107 (by decide) ?_
            refine lv_irem hx hb dX9_otherwise_109 (by decide) ?_
            exact J1 _ (by unfold otV; grind)
          · refine lv_bipush (v := (-9)) hx hb dX9_otherwise_100 (by decide) ?_
            refine lv_goto (tgt := 110) hx hb dX9_otherwise_102 (by decide) ?_
            exact J1 _ (by unfold otV; grind)
    · have hno : rfOk (otN B x y) := by unfold otN wiS at c46 ⊢; unfold rfOk; grind
      refine lv_aload_n hx hb dX9_otherwise_49 rfl (lv_at hl 1 rfl) ?_
      refine lv_iload_n hx hb dX9_otherwise_50 rfl (lv_at hl 0 rfl) ?_
      refine m_calli (As := [.int (otN B x y)]) (rest := []) S hKK hP hS (mm_refuse l D t mb B (otN B x y) (ix (-(otN B x y))) (rf1 hno) (rf2 hno)) (cwV 1 hts (lw_V q1306 q1308 qs60 q104 q1309) rfl rfl rfl (by decide +kernel) ⟨Nat.le_of_ble_eq_true rfl, Nat.le_of_ble_eq_true rfl⟩) rfl hl.1 rfl (Nat.le_of_ble_eq_true rfl) dX9_otherwise_51 ⟨Nat.le_of_ble_eq_true rfl, Nat.le_of_ble_eq_true rfl⟩ (fun r51 B51 H locs h51 hP hS => ?_)
      exact m_iret hx hb hr (rf_close h51 (if_neg c46)) hP hS dX9_otherwise_54 hlk
  · refine lv_iload_n hx hb dX9_otherwise_8 rfl (lv_at hl 0 rfl) ?_
    refine lv_if_ne (tgt := 45) hx hb dX9_otherwise_9 (by decide) (fun c9 => ?_) (fun c9 => ?_)
    · exact JL ls (by rw [show otN B x y = wiS x 0 60 from (by unfold otN isI; grind)]; exact lv_sub hl [0, 1, 2, 3] rfl)
    · refine W.join (fun vJ => F0 m 44 ls (.int vJ :: [])) (fun vJ => vJ = otN B x y) (fun vJ hJ => ?_) (fun J0 => ?_)
      · subst hJ
        refine lv_istore_n (lv' := [(3, .int (otN B x y)), (0, .ref mb), (1, .int x), (2, .int y)]) hx hb dX9_otherwise_44 rfl hl (by decide) rfl (fun ls hl => ?_)
        exact JL ls (by exact lv_sub hl [0, 1, 2, 3] rfl)
      · refine lv_iload_n hx hb dX9_otherwise_12 rfl (lv_at hl 3 rfl) ?_
        refine lv_iconst (v := 2) hx hb dX9_otherwise_13 (by decide) ?_
        refine m_callS (As := [.int y, .int 2]) (rest := []) S hKK trivial (mm_isIn l D t y 2) (va_cwS 2 hts (lw_S q1330 q1331 q104 q1332) rfl rfl rfl (by decide +kernel) ⟨Nat.le_of_ble_eq_true rfl, Nat.le_of_ble_eq_true rfl⟩) rfl hl.1 rfl (Nat.le_of_ble_eq_true rfl) dX9_otherwise_14 ⟨Nat.le_of_ble_eq_true rfl, Nat.le_of_ble_eq_true rfl⟩ ?_
        refine z_ifne (tgt := 25) hx hb dX9_otherwise_17 (by decide) (fun c17 => ?_) (fun c17 => ?_)
        · refine lv_aload_n hx hb dX9_otherwise_25 rfl (lv_at hl 1 rfl) ?_
          refine m_get hx hb hts hown hKK hP 16 (by decide) q1263 rfl rfl dX9_otherwise_26 ?_
          refine lv_aload_n hx hb dX9_otherwise_29 rfl (lv_at hl 1 rfl) ?_
          refine m_get hx hb hts hown hKK hP 1 (by decide) q1248 rfl rfl dX9_otherwise_30 ?_
          refine lv_iconst (v := 3) hx hb dX9_otherwise_33 (by decide) ?_
          refine m_ald hx hb hKK hP 2 rfl (k := 3) (v := B 2 3) rfl (by omega) (by decide) rfl dX9_otherwise_34 ?_
          refine lv_icmp_eq (tgt := 43) hx hb dX9_otherwise_35 (by decide) (fun c35 => ?_) (fun c35 => ?_)
          · refine lv_iconst (v := 0) hx hb dX9_otherwise_43 (by decide) ?_
            exact J0 _ (by unfold otN isI; grind)
          · refine lv_bipush (v := (-3)) hx hb dX9_otherwise_38 (by decide) ?_
            refine lv_goto (tgt := 44) hx hb dX9_otherwise_40 (by decide) ?_
            exact J0 _ (by unfold otN isI; grind)
        · refine lv_bipush (v := (-2)) hx hb dX9_otherwise_20 (by decide) ?_
          refine lv_goto (tgt := 44) hx hb dX9_otherwise_22 (by decide) ?_
          exact J0 _ (by unfold otN isI; grind)
set_option maxHeartbeats 4000000 in
theorem mm_judge (l : Launch) (D : va_G) (t : Nat → ClassId) (mb : Nat) (B : BT) (hB : OkB B) : Met l yX9_judge (ws_ yX9_judge cX9_judge 3 (some .int)) ({ frames := 2, cells := 0, slots := 0, locals := 43 }) (zPc [.ref mb] (MW D t mb B) (KK D t)) (va_Qi (fun r B' => r = (judS B).1 ∧ PE (judS B).2 B') (fun B' U => MW D t mb B' U.heap) (mA mb)) 0 0 (mA mb) := by
  refine zOf (cc := cX9_judge) (maxL := 3) (ret := (some .int)) (by decide) (Nat.le_of_ble_eq_true rfl) (fun pg ev s m below meth cd ls F hP hKK hl hnm => ?_)
  obtain ⟨hx, hb, hml, hown, hts, hr, hlk⟩ := F
  have S : CallFix pg m cd cX9_judge 3 s _ lw_all RX9 := ⟨hx, hb, hml, hown, hts⟩
  have hl : lv_has ls 3 [(0, .ref mb)] := hl
  have hS : va_S (mA mb) s.heap s.heap [] := va_S.rf
  have ho := hB.1
  have hj6 := ho.h6
  have hs5 := ho.s5
  have hd8 := ho.d8
  have hh3 := ho.hr3
  have hh6 := ho.h6
  have hd0 := ho.hr0
  have hr6 := hB.2.2.2.1.2
  refine lv_aload_n hx hb dX9_judge_0 rfl (lv_at hl 0 rfl) ?_
  refine m_get hx hb hts hown hKK hP 16 (by decide) q1263 rfl rfl dX9_judge_1 ?_
  refine lv_istore_n (lv' := [(1, .int (B 0 3)), (0, .ref mb)]) hx hb dX9_judge_4 rfl hl (by decide) rfl (fun ls hl => ?_)
  refine lv_aload_n hx hb dX9_judge_5 rfl (lv_at hl 1 rfl) ?_
  refine lv_iconst (v := 0) hx hb dX9_judge_6 (by decide) ?_
  refine m_put (ty := .int) hx hb hts hown hKK hP hS 16 3 (by decide) q1263 rfl rfl (by decide +kernel) rfl rfl rfl dX9_judge_7 (fun H locs hP hS => ?_)
  refine lv_iconst (v := 0) hx hb dX9_judge_10 (by decide) ?_
  refine lv_istore_n (lv' := [(2, .int 0), (1, .int (B 0 3)), (0, .ref mb)]) hx hb dX9_judge_11 rfl hl (by decide) rfl (fun ls hl => ?_)
  refine W.loopR (fun (k : Nat) ls => k ≤ ix (B 0 3) ∧ (fdS (fun h => decide (h = nH (B 2)) || !toB (B 13) (B 2) h) k = -9) ∧ lv_has ls 3 [(2, .int (nI k)), (0, .ref mb), (1, .int (B 0 3))]) (fun k => ix (B 0 3) - k) (fun k ls hIk ihk => ?_) 0 ⟨by omega, rfl, lv_sub hl [0, 2, 1] rfl⟩
  obtain ⟨hk, hEk, hl⟩ := hIk
  refine lv_iload_n hx hb dX9_judge_12 rfl (lv_at hl 0 rfl) ?_
  refine lv_iload_n hx hb dX9_judge_13 rfl (lv_at hl 2 rfl) ?_
  refine lv_icmp_ge (tgt := 43) hx hb dX9_judge_14 (by decide) (fun c14 => ?_) (fun c14 => ?_)
  · obtain rfl : k = ix (B 0 3) := Nat.le_antisymm hk (lp_end hB.2.2.2.1.1 (by omega) (by omega) c14)
    refine lv_iload_n hx hb dX9_judge_43 rfl (lv_at hl 2 rfl) ?_
    refine lv_aload_n hx hb dX9_judge_44 rfl (lv_at hl 1 rfl) ?_
    refine m_get hx hb hts hown hKK hP 1 (by decide) q1248 rfl rfl dX9_judge_45 ?_
    refine lv_iconst (v := 3) hx hb dX9_judge_48 (by decide) ?_
    refine m_ald hx hb hKK hP 2 rfl (k := 3) (v := B 2 3) rfl (by omega) (by decide) rfl dX9_judge_49 ?_
    refine lv_icmp_ge (tgt := 57) hx hb dX9_judge_50 (by decide) (fun c50 => ?_) (fun c50 => ?_)
    · refine lv_bipush (v := (-9)) hx hb dX9_judge_57 (by decide) ?_
      exact m_iret hx hb hr (ok_close (o := judS B) (by unfold judS judV; rw [hEk, if_neg (by decide)]; first | rw [if_pos (show B 0 3 < B 2 3 by grind)] | rw [if_neg (show ¬ B 0 3 < B 2 3 by grind)]) (PE.rf _)) hP hS dX9_judge_59 hlk
    · refine lv_iload_n hx hb dX9_judge_53 rfl (lv_at hl 2 rfl) ?_
      refine lv_goto (tgt := 59) hx hb dX9_judge_54 (by decide) ?_
      exact m_iret hx hb hr (ok_close (o := judS B) (by unfold judS judV; rw [hEk, if_neg (by decide)]; first | rw [if_pos (show B 0 3 < B 2 3 by grind)] | rw [if_neg (show ¬ B 0 3 < B 2 3 by grind)]) (PE.rf _)) hP hS dX9_judge_59 hlk
  · have hk2 : k < ix (B 0 3) := lp_go hB.2.2.2.1.1 (by omega) (by omega) c14
    have hkH : nI k = B 2 3 ↔ k = nH (B 2) := by rw [hh3]; exact nI_eq (by omega) (by omega)
    refine lv_iload_n hx hb dX9_judge_17 rfl (lv_at hl 0 rfl) ?_
    refine lv_aload_n hx hb dX9_judge_18 rfl (lv_at hl 1 rfl) ?_
    refine m_get hx hb hts hown hKK hP 1 (by decide) q1248 rfl rfl dX9_judge_19 ?_
    refine lv_iconst (v := 3) hx hb dX9_judge_22 (by decide) ?_
    refine m_ald hx hb hKK hP 2 rfl (k := 3) (v := B 2 3) rfl (by omega) (by decide) rfl dX9_judge_23 ?_
    refine lv_icmp_eq (tgt := 35) hx hb dX9_judge_24 (by decide) (fun c24 => ?_) (fun c24 => ?_)
    · refine lv_iload_n hx hb dX9_judge_35 rfl (lv_at hl 0 rfl) ?_
      exact m_iret hx hb hr (ok_close (o := judS B) (by have e : fdS (fun h => decide (h = nH (B 2)) || !toB (B 13) (B 2) h) (ix (B 0 3)) = nI k := (fdS_more (k := k + 1) (by simp only [fdS, hEk]; rw [if_neg (by decide), if_pos (by simp only [Bool.or_eq_true, decide_eq_true_eq, Bool.not_eq_true']; grind)]; exact nI_le (a := 0) (by omega) (by omega)) hk2).trans (by simp only [fdS, hEk]; rw [if_neg (by decide), if_pos (by simp only [Bool.or_eq_true, decide_eq_true_eq, Bool.not_eq_true']; grind)]); unfold judS judV; rw [e, if_pos (show 0 ≤ nI k from nI_le (a := 0) (by omega) (by omega))]) (PE.rf _)) hP hS dX9_judge_36 hlk
    · refine lv_aload_n hx hb dX9_judge_27 rfl (lv_at hl 1 rfl) ?_
      refine lv_iload_n hx hb dX9_judge_28 rfl (lv_at hl 0 rfl) ?_
      refine m_callr (As := [.int (nI k)]) (rest := []) S hKK hP (mm_isTold l D t mb (up2 B 0 3 0) k (by omega)) (cwV 1 hts (lw_V q1550 q1552 qs93 q104 q1553) rfl rfl rfl (by decide +kernel) ⟨Nat.le_of_ble_eq_true rfl, Nat.le_of_ble_eq_true rfl⟩) rfl hl.1 rfl (Nat.le_of_ble_eq_true rfl) dX9_judge_29 ⟨Nat.le_of_ble_eq_true rfl, Nat.le_of_ble_eq_true rfl⟩ ?_
      refine z_top (y := bI (toB (B 13) (B 2) k)) rfl ?_
      refine z_ifne (tgt := 37) hx hb dX9_judge_32 (by decide) (fun c32 => ?_) (fun c32 => ?_)
      · refine lv_iinc (v := nI (k + 1)) (lv' := [(2, .int (nI (k + 1))), (0, .ref mb), (1, .int (B 0 3))]) hx hb dX9_judge_37 hl (k := 0) rfl (nI_1 k) (by decide) rfl (fun ls hl => ?_)
        refine lv_goto (tgt := 12) hx hb dX9_judge_40 (by decide) ?_
        exact ihk (k + 1) ls (by omega) ⟨by omega, (by simp only [fdS, hEk]; grind), lv_sub hl [0, 1, 2] rfl⟩
      · refine lv_iload_n hx hb dX9_judge_35 rfl (lv_at hl 0 rfl) ?_
        exact m_iret hx hb hr (ok_close (o := judS B) (by have e : fdS (fun h => decide (h = nH (B 2)) || !toB (B 13) (B 2) h) (ix (B 0 3)) = nI k := (fdS_more (k := k + 1) (by simp only [fdS, hEk]; rw [if_neg (by decide), if_pos (by simp only [Bool.or_eq_true, decide_eq_true_eq, Bool.not_eq_true']; grind)]; exact nI_le (a := 0) (by omega) (by omega)) hk2).trans (by simp only [fdS, hEk]; rw [if_neg (by decide), if_pos (by simp only [Bool.or_eq_true, decide_eq_true_eq, Bool.not_eq_true']; grind)]); unfold judS judV; rw [e, if_pos (show 0 ≤ nI k from nI_le (a := 0) (by omega) (by omega))]) (PE.rf _)) hP hS dX9_judge_36 hlk
set_option maxHeartbeats 4000000 in
theorem mm_seeds (l : Launch) (D : va_G) (t : Nat → ClassId) (mb : Nat) (B : BT) (x : Int32) (y : Int32) (hB : OkB B) : Met l yX9_seeds (ws_ yX9_seeds cX9_seeds 7 (some .int)) ({ frames := 5, cells := 0, slots := 0, locals := 113 }) (zPc [.ref mb, .int x, .int y] (MW D t mb B) (KK D t)) (va_Qi (fun r B' => r = (seedS B x y).1 ∧ PE (seedS B x y).2 B') (fun B' U => MW D t mb B' U.heap) (mA mb)) 0 0 (mA mb) := by
  refine zOf (cc := cX9_seeds) (maxL := 7) (ret := (some .int)) (by decide) (Nat.le_of_ble_eq_true rfl) (fun pg ev s m below meth cd ls F hP hKK hl hnm => ?_)
  obtain ⟨hx, hb, hml, hown, hts, hr, hlk⟩ := F
  have S : CallFix pg m cd cX9_seeds 7 s _ lw_all RX9 := ⟨hx, hb, hml, hown, hts⟩
  have hl : lv_has ls 7 [(0, .ref mb), (1, .int x), (2, .int y)] := hl
  have hS : va_S (mA mb) s.heap s.heap [] := va_S.rf
  have ho := hB.1
  have hj6 := ho.h6
  have hs5 := ho.s5
  have hd8 := ho.d8
  have hh3 := ho.hr3
  have hh6 := ho.h6
  have hd0 := ho.hr0
  refine lv_iload_n hx hb dX9_seeds_0 rfl (lv_at hl 1 rfl) ?_
  refine lv_iconst (v := 1) hx hb dX9_seeds_1 (by decide) ?_
  refine lv_bipush (v := 40) hx hb dX9_seeds_2 (by decide) ?_
  refine m_callS (As := [.int x, .int 1, .int 40]) (rest := []) S hKK trivial (mm_within l D t x 1 40) (va_cwS 3 hts (lw_S q1303 q1304 q104 q1305) rfl rfl rfl (by decide +kernel) ⟨Nat.le_of_ble_eq_true rfl, Nat.le_of_ble_eq_true rfl⟩) rfl hl.1 rfl (Nat.le_of_ble_eq_true rfl) dX9_seeds_4 ⟨Nat.le_of_ble_eq_true rfl, Nat.le_of_ble_eq_true rfl⟩ ?_
  refine lv_istore_n (lv' := [(3, .int (wiS x 1 40)), (0, .ref mb), (1, .int x), (2, .int y)]) hx hb dX9_seeds_7 rfl hl (by decide) rfl (fun ls hl => ?_)
  refine lv_iload_n hx hb dX9_seeds_8 rfl (lv_at hl 0 rfl) ?_
  refine lv_if_eq (tgt := 18) hx hb dX9_seeds_9 (by decide) (fun c9 => ?_) (fun c9 => ?_)
  · have hx1 : 1 ≤ x ∧ x ≤ 40 := by unfold wiS at c9; grind
    have hh := le_ix (n := 40) (x := x) (by omega) (by grind) hx1.2
    refine lv_aload_n hx hb dX9_seeds_18 rfl (lv_at hl 1 rfl) ?_
    refine m_callv (As := []) (rest := []) S hKK hP hS (mm_begins l D t mb B ) (cwV 0 hts (lw_V q1462 q1464 qs85 q104 q1465) rfl rfl rfl (by decide +kernel) ⟨Nat.le_of_ble_eq_true rfl, Nat.le_of_ble_eq_true rfl⟩) rfl hl.1 rfl (Nat.le_of_ble_eq_true rfl) dX9_seeds_19 ⟨Nat.le_of_ble_eq_true rfl, Nat.le_of_ble_eq_true rfl⟩ (fun B19 H locs h19 hP hS => ?_)
    have h19 : B19 = upc B 5 (B 2) := h19
    subst h19
    refine lv_iload_n hx hb dX9_seeds_22 rfl (lv_at hl 3 rfl) ?_
    refine lv_istore (lv' := [(4, .int y), (3, .int (wiS x 1 40)), (0, .ref mb), (1, .int x), (2, .int y)]) hx hb dX9_seeds_23 hl (by decide) rfl (fun ls hl => ?_)
    refine lv_iconst (v := 0) hx hb dX9_seeds_25 (by decide) ?_
    refine lv_istore (lv' := [(5, .int 0), (4, .int y), (3, .int (wiS x 1 40)), (0, .ref mb), (1, .int x), (2, .int y)]) hx hb dX9_seeds_26 hl (by decide) rfl (fun ls hl => ?_)
    refine W.loop (σ := Nat × BT) (fun sv H locs ls => sv.1 ≤ ix x ∧ (SR B sv.2 (sdL (B 2) y sv.1).1) ∧ MW D t mb sv.2 H ∧ va_S (mA mb) s.heap H locs ∧ lv_has ls 7 [(5, .int (nI sv.1)), (4, .int ((sdL (B 2) y sv.1).2)), (0, .ref mb), (1, .int x)]) (fun sv => ix x - sv.1) (fun sv H locs ls hI ihk => ?_) (0, upc B 5 (B 2)) ⟨by show 0 ≤ ix x; omega, (SR_begin B), hP, hS, lv_sub hl [0, 1, 3, 4] rfl⟩
    obtain ⟨k, B1⟩ := sv
    obtain ⟨hk, hEk, hP, hS, hl⟩ := hI
    have hl : lv_has ls 7 [(5, .int (nI k)), (4, .int ((sdL (B 2) y k).2)), (0, .ref mb), (1, .int x)] := hl
    dsimp only at hk hEk hP
    refine lv_iload hx hb dX9_seeds_28 (lv_at hl 0 rfl) ?_
    refine lv_iload_n hx hb dX9_seeds_30 rfl (lv_at hl 3 rfl) ?_
    refine lv_icmp_ge (tgt := 93) hx hb dX9_seeds_31 (by decide) (fun c31 => ?_) (fun c31 => ?_)
    · obtain rfl : k = ix x := Nat.le_antisymm hk (lp_end hh.1 (by omega) (by omega) c31)
      have hok := (Ok_sdL (z := y) ho (k := ix x) (by omega)).1
      rw [← hEk.1] at hok
      refine lv_aload_n hx hb dX9_seeds_93 rfl (lv_at hl 2 rfl) ?_
      refine lv_iconst (v := (-1)) hx hb dX9_seeds_94 (by decide) ?_
      refine m_callr (As := [.int (-1)]) (rest := []) S hKK hP (mm_haveIt l D t mb B1 (-1) hok.hr3 hok.h6) (cwV 1 hts (lw_V q1382 q1384 qs74 q104 q1385) rfl rfl rfl (by decide +kernel) ⟨Nat.le_of_ble_eq_true rfl, Nat.le_of_ble_eq_true rfl⟩) rfl hl.1 rfl (Nat.le_of_ble_eq_true rfl) dX9_seeds_95 ⟨Nat.le_of_ble_eq_true rfl, Nat.le_of_ble_eq_true rfl⟩ ?_
      refine z_top (y := haS (sdL (B 2) y (ix x)).1 (-1)) (by rw [hEk.1]) ?_
      refine lv_istore (lv' := [(5, .int (haS (sdL (B 2) y (ix x)).1 (-1))), (4, .int ((sdL (B 2) y (ix x)).2)), (0, .ref mb), (1, .int x)]) hx hb dX9_seeds_98 hl (by decide) rfl (fun ls hl => ?_)
      refine lv_aload_n hx hb dX9_seeds_100 rfl (lv_at hl 2 rfl) ?_
      refine m_callv (As := []) (rest := []) S hKK hP hS (mm_ends l D t mb B1 ) (cwV 0 hts (lw_V q1470 q1472 qs87 q104 q1473) rfl rfl rfl (by decide +kernel) ⟨Nat.le_of_ble_eq_true rfl, Nat.le_of_ble_eq_true rfl⟩) rfl hl.1 rfl (Nat.le_of_ble_eq_true rfl) dX9_seeds_101 ⟨Nat.le_of_ble_eq_true rfl, Nat.le_of_ble_eq_true rfl⟩ (fun B101 H locs h101 hP hS => ?_)
      have h101 : B101 = upc B1 2 (B1 5) := h101
      subst h101
      refine lv_iload hx hb dX9_seeds_104 (lv_at hl 0 rfl) ?_
      exact m_iret hx hb hr (ok_close (o := seedS B x y) (if_pos c9) hEk.ends) hP hS dX9_seeds_106 hlk
    · have hk2 : k < ix x := lp_go hh.1 (by omega) (by omega) c31
      have hsd := Ok_sdL (z := y) ho (k := k) (by omega)
      refine lv_iconst (v := 0) hx hb dX9_seeds_34 (by decide) ?_
      refine lv_istore (lv' := [(6, .int 0), (5, .int (nI k)), (4, .int ((sdL (B 2) y k).2)), (0, .ref mb), (1, .int x)]) hx hb dX9_seeds_35 hl (by decide) rfl (fun ls hl => ?_)
      refine W.loop (σ := Nat × BT) (fun sv H locs ls => sv.1 ≤ nH (B 2) ∧ (SR B sv.2 (sdI (sdL (B 2) y k) sv.1).1) ∧ MW D t mb sv.2 H ∧ va_S (mA mb) s.heap H locs ∧ lv_has ls 7 [(6, .int (nI sv.1)), (5, .int (nI k)), (4, .int ((sdI (sdL (B 2) y k) sv.1).2)), (0, .ref mb), (1, .int x)]) (fun sv => nH (B 2) - sv.1) (fun sv H locs ls hI ihi => ?_) (0, B1) ⟨by show 0 ≤ nH (B 2); omega, hEk, hP, hS, lv_sub hl [0, 1, 2, 3, 4] rfl⟩
      obtain ⟨i, B2⟩ := sv
      obtain ⟨hi, hEi, hP, hS, hl⟩ := hI
      have hl : lv_has ls 7 [(6, .int (nI i)), (5, .int (nI k)), (4, .int ((sdI (sdL (B 2) y k) i).2)), (0, .ref mb), (1, .int x)] := hl
      dsimp only at hi hEi hP
      refine lv_iload hx hb dX9_seeds_37 (lv_at hl 0 rfl) ?_
      have hsi := Ok_sdI hsd.1 (k := i) (by rw [hsd.2]; exact hi)
      have hi3 : B2 2 3 = nI (nH (B 2)) := by rw [hEi.1, hsi.1.hr3, hsi.2, hsd.2]
      refine lv_aload_n hx hb dX9_seeds_39 rfl (lv_at hl 3 rfl) ?_
      refine m_get hx hb hts hown hKK hP 1 (by decide) q1248 rfl rfl dX9_seeds_40 ?_
      refine lv_iconst (v := 3) hx hb dX9_seeds_43 (by decide) ?_
      refine m_ald hx hb hKK hP 2 rfl (k := 3) (v := B2 2 3) rfl (by omega) (by decide) rfl dX9_seeds_44 ?_
      refine lv_icmp_ge (tgt := 82) hx hb dX9_seeds_45 (by decide) (fun c45 => ?_) (fun c45 => ?_)
      · obtain rfl : i = nH (B 2) := Nat.le_antisymm hi (lp_end hi3 (by omega) (by omega) c45)
        have hok : Ok (B2 2) (999 + k) := by rw [hEi.1]; exact hsi.1
        refine lv_aload_n hx hb dX9_seeds_82 rfl (lv_at hl 3 rfl) ?_
        refine m_calli (As := []) (rest := []) S hKK hP hS (mm_goes l D t mb B2 (999 + k) hok) (cwV 0 hts (lw_V q1438 q1440 qs80 q104 q1441) rfl rfl rfl (by decide +kernel) ⟨Nat.le_of_ble_eq_true rfl, Nat.le_of_ble_eq_true rfl⟩) rfl hl.1 rfl (Nat.le_of_ble_eq_true rfl) dX9_seeds_83 ⟨Nat.le_of_ble_eq_true rfl, Nat.le_of_ble_eq_true rfl⟩ (fun r83 B83 H locs h83 hP hS => ?_)
        obtain ⟨-, hb83⟩ : _ ∧ B83 = goE B2 := h83
        subst hb83
        have hSR : SR B (goE B2) (sdL (B 2) y (k + 1)).1 := hEi.go
        refine lv_pop hx hb dX9_seeds_86 rfl ?_
        refine lv_iinc (v := nI (k + 1)) (lv' := [(5, .int (nI (k + 1))), (6, .int (nI (nH (B 2)))), (4, .int ((sdI (sdL (B 2) y k) (nH (B 2))).2)), (0, .ref mb), (1, .int x)]) hx hb dX9_seeds_87 hl (k := 1) rfl (nI_1 k) (by decide) rfl (fun ls hl => ?_)
        refine lv_goto (tgt := 28) hx hb dX9_seeds_90 (by decide) ?_
        exact ihk (k + 1, goE B2) H locs ls (by show ix x - (k + 1) < ix x - k; omega) ⟨by show k + 1 ≤ ix x; omega, hSR, hP, hS, lv_sub hl [0, 2, 3, 4] rfl⟩
      · have hi2 : i < nH (B 2) := lp_go hi3 (by omega) (by omega) c45
        refine lv_iload hx hb dX9_seeds_48 (lv_at hl 2 rfl) ?_
        refine lv_ldc (v := 1664525) hx hb hown (hts _ q1562) dX9_seeds_50 ?_
        refine lv_imul hx hb dX9_seeds_52 ?_
        refine lv_ldc (v := 1013904223) hx hb hown (hts _ q1563) dX9_seeds_53 ?_
        refine lv_iadd hx hb dX9_seeds_55 ?_
        refine z_top (y := (sdI (sdL (B 2) y k) (i + 1)).2) rfl ?_
        refine lv_istore (lv' := [(4, .int ((sdI (sdL (B 2) y k) (i + 1)).2)), (6, .int (nI i)), (5, .int (nI k)), (0, .ref mb), (1, .int x)]) hx hb dX9_seeds_56 hl (by decide) rfl (fun ls hl => ?_)
        refine lv_aload_n hx hb dX9_seeds_58 rfl (lv_at hl 3 rfl) ?_
        refine lv_iload hx hb dX9_seeds_59 (lv_at hl 1 rfl) ?_
        refine lv_iconst (v := 1) hx hb dX9_seeds_61 (by decide) ?_
        refine lv_iload hx hb dX9_seeds_62 (lv_at hl 0 rfl) ?_
        refine lv_ldc (v := 2147483647) hx hb hown (hts _ q1564) dX9_seeds_64 ?_
        refine lv_iand hx hb dX9_seeds_66 ?_
        refine lv_sipush (v := 256) hx hb dX9_seeds_67 (by decide) ?_
        refine lv_idiv hx hb dX9_seeds_70 (by decide) ?_
        refine lv_iconst (v := 5) hx hb dX9_seeds_71 (by decide) ?_
        refine lv_irem hx hb dX9_seeds_72 (by decide) ?_
        refine z_top (y := sdR (sdI (sdL (B 2) y k) i).2) rfl ?_
        refine m_callv (As := [.int (nI i), .int 1, .int (sdR (sdI (sdL (B 2) y k) i).2)]) (rest := []) S hKK hP hS (mm_puts l D t mb B2 i 1 (sdR (sdI (sdL (B 2) y k) i).2) (by omega)) (cwV 3 hts (lw_V q1354 q1356 qs68 q104 q1357) rfl rfl rfl (by decide +kernel) ⟨Nat.le_of_ble_eq_true rfl, Nat.le_of_ble_eq_true rfl⟩) rfl hl.1 rfl (Nat.le_of_ble_eq_true rfl) dX9_seeds_73 ⟨Nat.le_of_ble_eq_true rfl, Nat.le_of_ble_eq_true rfl⟩ (fun B73 H locs h73 hP hS => ?_)
        have h73 : B73 = up2 B2 2 (37 + 6 * i + 1) (sdR (sdI (sdL (B 2) y k) i).2) := h73
        subst h73
        refine lv_iinc (v := nI (i + 1)) (lv' := [(6, .int (nI (i + 1))), (4, .int ((sdI (sdL (B 2) y k) (i + 1)).2)), (5, .int (nI k)), (0, .ref mb), (1, .int x)]) hx hb dX9_seeds_76 hl (k := 1) rfl (nI_1 i) (by decide) rfl (fun ls hl => ?_)
        refine lv_goto (tgt := 37) hx hb dX9_seeds_79 (by decide) ?_
        exact ihi (i + 1, up2 B2 2 (37 + 6 * i + 1) (sdR (sdI (sdL (B 2) y k) i).2)) H locs ls (by show nH (B 2) - (i + 1) < nH (B 2) - i; omega) ⟨by show i + 1 ≤ nH (B 2); omega, (hEi.put rfl), hP, hS, lv_sub hl [0, 2, 1, 3, 4] rfl⟩
  · have hno := rf_wi c9
    refine lv_aload_n hx hb dX9_seeds_12 rfl (lv_at hl 1 rfl) ?_
    refine lv_iload_n hx hb dX9_seeds_13 rfl (lv_at hl 0 rfl) ?_
    refine m_calli (As := [.int (wiS x 1 40)]) (rest := []) S hKK hP hS (mm_refuse l D t mb B (wiS x 1 40) (ix (-(wiS x 1 40))) (rf1 hno) (rf2 hno)) (cwV 1 hts (lw_V q1306 q1308 qs60 q104 q1309) rfl rfl rfl (by decide +kernel) ⟨Nat.le_of_ble_eq_true rfl, Nat.le_of_ble_eq_true rfl⟩) rfl hl.1 rfl (Nat.le_of_ble_eq_true rfl) dX9_seeds_14 ⟨Nat.le_of_ble_eq_true rfl, Nat.le_of_ble_eq_true rfl⟩ (fun r14 B14 H locs h14 hP hS => ?_)
    exact m_iret hx hb hr (rf_close h14 (if_neg c9)) hP hS dX9_seeds_17 hlk
set_option maxHeartbeats 4000000 in
theorem mm_image (l : Launch) (D : va_G) (t : Nat → ClassId) (mb : Nat) (B : BT) (hB : OkB B) : Met l yX9_image (ws_ yX9_image cX9_image 1 (some .int)) ({ frames := 1, cells := 0, slots := 0, locals := 22 }) (zPc [.ref mb] (MW D t mb B) (KK D t)) (va_Qi (fun r B' => r = (imS B).1 ∧ PE (imS B).2 B') (fun B' U => MW D t mb B' U.heap) (mA mb)) 0 0 (mA mb) := by
  refine zOf (cc := cX9_image) (maxL := 1) (ret := (some .int)) (by decide) (Nat.le_of_ble_eq_true rfl) (fun pg ev s m below meth cd ls F hP hKK hl hnm => ?_)
  obtain ⟨hx, hb, hml, hown, hts, hr, hlk⟩ := F
  have S : CallFix pg m cd cX9_image 1 s _ lw_all RX9 := ⟨hx, hb, hml, hown, hts⟩
  have hl : lv_has ls 1 [(0, .ref mb)] := hl
  have hS : va_S (mA mb) s.heap s.heap [] := va_S.rf
  have ho := hB.1
  have hj6 := ho.h6
  have hs5 := ho.s5
  have hd8 := ho.d8
  have hh3 := ho.hr3
  have hh6 := ho.h6
  have hd0 := ho.hr0
  refine lv_aload_n hx hb dX9_image_0 rfl (lv_at hl 0 rfl) ?_
  refine m_get hx hb hts hown hKK hP 1 (by decide) q1248 rfl rfl dX9_image_1 ?_
  refine lv_aload_n hx hb dX9_image_4 rfl (lv_at hl 0 rfl) ?_
  refine m_get hx hb hts hown hKK hP 2 (by decide) q1249 rfl rfl dX9_image_5 ?_
  refine m_callSv (As := [.ref (mb + 2), .ref (mb + 3)]) (rest := []) S hKK hP hS (mm_lays_2_3 l D t mb B ) (va_cwS 2 hts (lw_S q1347 q1348 q104 q1349) rfl rfl rfl (by decide +kernel) ⟨Nat.le_of_ble_eq_true rfl, Nat.le_of_ble_eq_true rfl⟩) rfl hl.1 rfl (Nat.le_of_ble_eq_true rfl) dX9_image_8 ⟨Nat.le_of_ble_eq_true rfl, Nat.le_of_ble_eq_true rfl⟩ (fun B8 H locs h8 hP hS => ?_)
  have h8 : B8 = upc B 3 (B 2) := h8
  subst h8
  refine lv_aload_n hx hb dX9_image_11 rfl (lv_at hl 0 rfl) ?_
  refine lv_iconst (v := 1) hx hb dX9_image_12 (by decide) ?_
  refine m_put (ty := .boolean) hx hb hts hown hKK hP hS 5 0 (by decide) q1252 rfl rfl (by decide +kernel) rfl rfl rfl dX9_image_13 (fun H locs hP hS => ?_)
  refine lv_aload_n hx hb dX9_image_16 rfl (lv_at hl 0 rfl) ?_
  refine m_get hx hb hts hown hKK hP 1 (by decide) q1248 rfl rfl dX9_image_17 ?_
  refine lv_iconst (v := 4) hx hb dX9_image_20 (by decide) ?_
  refine m_ald hx hb hKK hP 2 rfl (k := 4) (v := B 2 4) rfl (by omega) (by decide) rfl dX9_image_21 ?_
  exact m_iret hx hb hr (ok_close (o := imS B) rfl (PE.rf _)) hP hS dX9_image_22 hlk
set_option maxHeartbeats 4000000 in
theorem mm_on (l : Launch) (D : va_G) (t : Nat → ClassId) (mb : Nat) (B : BT) (hB : OkB B) : Met l yX9_on (ws_ yX9_on cX9_on 1 (some .int)) ({ frames := 1, cells := 0, slots := 0, locals := 22 }) (zPc [.ref mb] (MW D t mb B) (KK D t)) (va_Qi (fun r B' => r = (onS B).1 ∧ PE (onS B).2 B') (fun B' U => MW D t mb B' U.heap) (mA mb)) 0 0 (mA mb) := by
  refine zOf (cc := cX9_on) (maxL := 1) (ret := (some .int)) (by decide) (Nat.le_of_ble_eq_true rfl) (fun pg ev s m below meth cd ls F hP hKK hl hnm => ?_)
  obtain ⟨hx, hb, hml, hown, hts, hr, hlk⟩ := F
  have S : CallFix pg m cd cX9_on 1 s _ lw_all RX9 := ⟨hx, hb, hml, hown, hts⟩
  have hl : lv_has ls 1 [(0, .ref mb)] := hl
  have hS : va_S (mA mb) s.heap s.heap [] := va_S.rf
  have ho := hB.1
  have hj6 := ho.h6
  have hs5 := ho.s5
  have hd8 := ho.d8
  have hh3 := ho.hr3
  have hh6 := ho.h6
  have hd0 := ho.hr0
  refine lv_aload_n hx hb dX9_on_0 rfl (lv_at hl 0 rfl) ?_
  refine m_get hx hb hts hown hKK hP 5 (by decide) q1252 rfl rfl dX9_on_1 ?_
  refine lv_if_ne (tgt := 14) hx hb dX9_on_4 (by decide) (fun c4 => ?_) (fun c4 => ?_)
  · refine lv_aload_n hx hb dX9_on_14 rfl (lv_at hl 0 rfl) ?_
    refine m_get hx hb hts hown hKK hP 2 (by decide) q1249 rfl rfl dX9_on_15 ?_
    refine lv_aload_n hx hb dX9_on_18 rfl (lv_at hl 0 rfl) ?_
    refine m_get hx hb hts hown hKK hP 1 (by decide) q1248 rfl rfl dX9_on_19 ?_
    refine m_callSv (As := [.ref (mb + 3), .ref (mb + 2)]) (rest := []) S hKK hP hS (mm_lays_3_2 l D t mb B ) (va_cwS 2 hts (lw_S q1347 q1348 q104 q1349) rfl rfl rfl (by decide +kernel) ⟨Nat.le_of_ble_eq_true rfl, Nat.le_of_ble_eq_true rfl⟩) rfl hl.1 rfl (Nat.le_of_ble_eq_true rfl) dX9_on_22 ⟨Nat.le_of_ble_eq_true rfl, Nat.le_of_ble_eq_true rfl⟩ (fun B22 H locs h22 hP hS => ?_)
    have h22 : B22 = upc B 2 (B 3) := h22
    subst h22
    refine lv_aload_n hx hb dX9_on_25 rfl (lv_at hl 0 rfl) ?_
    refine m_get hx hb hts hown hKK hP 1 (by decide) q1248 rfl rfl dX9_on_26 ?_
    refine lv_iconst (v := 4) hx hb dX9_on_29 (by decide) ?_
    refine m_ald hx hb hKK hP 2 rfl (k := 4) (v := B 3 4) rfl (by omega) (by decide) rfl dX9_on_30 ?_
    exact m_iret hx hb hr (ok_close (o := onS B) (if_neg c4) (PE.rf _)) hP hS dX9_on_31 hlk
  · refine lv_aload_n hx hb dX9_on_7 rfl (lv_at hl 0 rfl) ?_
    refine lv_bipush (v := (-3)) hx hb dX9_on_8 (by decide) ?_
    refine m_calli (As := [.int (-3)]) (rest := []) S hKK hP hS (mm_refuse l D t mb B (-3) (ix (-(-3))) (rf1 rf_m3) (rf2 rf_m3)) (cwV 1 hts (lw_V q1306 q1308 qs60 q104 q1309) rfl rfl rfl (by decide +kernel) ⟨Nat.le_of_ble_eq_true rfl, Nat.le_of_ble_eq_true rfl⟩) rfl hl.1 rfl (Nat.le_of_ble_eq_true rfl) dX9_on_10 ⟨Nat.le_of_ble_eq_true rfl, Nat.le_of_ble_eq_true rfl⟩ (fun r10 B10 H locs h10 hP hS => ?_)
    exact m_iret hx hb hr (rf_close h10 (if_pos c4)) hP hS dX9_on_13 hlk
set_option maxHeartbeats 4000000 in
theorem mm_bits (l : Launch) (D : va_G) (t : Nat → ClassId) (b : Nat) (h256 : b < 256) : Met l yX9_bits (ws_ yX9_bits cX9_bits 3 (some .int)) ({ frames := 0, cells := 0, slots := 0, locals := 0 }) (zPc [.int (nI b)] (fun _ => True) (KK D t)) (QcRead (nI (poS 8 b))) 0 0 (fun _ => False) := by
  refine zOf (cc := cX9_bits) (maxL := 3) (ret := (some .int)) (by decide) (Nat.le_of_ble_eq_true rfl) (fun pg ev s m below meth cd ls F hP hKK hl hnm => ?_)
  obtain ⟨hx, hb, hml, hown, hts, hr, hlk⟩ := F
  have S : CallFix pg m cd cX9_bits 3 s _ lw_all RX9 := ⟨hx, hb, hml, hown, hts⟩
  have hl : lv_has ls 3 [(0, .int (nI b))] := hl
  have hb2 : b < 2 ^ 8 := h256
  refine lv_iconst (v := 0) hx hb dX9_bits_0 (by decide) ?_
  refine lv_istore_n (lv' := [(1, .int 0), (0, .int (nI b))]) hx hb dX9_bits_1 rfl hl (by decide) rfl (fun ls hl => ?_)
  refine lv_iload_n hx hb dX9_bits_2 rfl (lv_at hl 1 rfl) ?_
  refine lv_istore_n (lv' := [(2, .int (nI b)), (1, .int 0), (0, .int (nI b))]) hx hb dX9_bits_3 rfl hl (by decide) rfl (fun ls hl => ?_)
  refine W.loopR (σ := Nat × Nat × Nat) (fun sv ls => sv.2.1 + poS sv.1 sv.2.2 = poS 8 b ∧ sv.2.2 < 2 ^ sv.1 ∧ sv.1 ≤ 8 ∧ lv_has ls 3 [(2, .int (nI sv.2.2)), (1, .int (nI sv.2.1))]) (fun sv => sv.2.2) (fun sv ls hI ih => ?_) (8, 0, b) ⟨Nat.zero_add _, hb2, Nat.le_refl 8, lv_sub hl [0, 1] rfl⟩
  obtain ⟨j, a, v⟩ := sv
  obtain ⟨h1, h2, h3, hl⟩ := hI
  dsimp only at h1 h2 h3
  have hl : lv_has ls 3 [(2, .int (nI v)), (1, .int (nI a))] := hl
  have hv8 : v < 256 := Nat.lt_of_lt_of_le h2 (Nat.pow_le_pow_right (by omega) h3)
  refine lv_iload_n hx hb dX9_bits_4 rfl (lv_at hl 0 rfl) ?_
  refine lv_if_le (tgt := 21) hx hb dX9_bits_5 (by decide) (fun c5 => ?_) (fun c5 => ?_)
  · have hv0 : v = 0 := by have := lp_end (n := v) (k := 0) rfl (by omega) (by omega) c5; omega
    have ha : a = poS 8 b := by rw [← h1, hv0, poS_0]; rfl
    refine lv_iload_n hx hb dX9_bits_21 rfl (lv_at hl 1 rfl) ?_
    exact z_iretR hx hb hr (by rw [ha]) (fun q h => by cases h) rfl dX9_bits_22 hlk
  · have hv0 : 0 < v := lp_go (n := v) (k := 0) rfl (by omega) (by omega) c5
    obtain ⟨j', hj⟩ : ∃ j', j = j' + 1 := ⟨j - 1, by cases j with | zero => simp at h2; omega | succ j => omega⟩
    refine lv_iload_n hx hb dX9_bits_8 rfl (lv_at hl 1 rfl) ?_
    refine lv_iload_n hx hb dX9_bits_9 rfl (lv_at hl 0 rfl) ?_
    refine lv_iconst (v := 1) hx hb dX9_bits_10 (by decide) ?_
    refine lv_iand hx hb dX9_bits_11 ?_
    refine lv_iadd hx hb dX9_bits_12 ?_
    refine z_top (y := nI (a + v % 2)) (by rw [pk_andN (by omega) 1 (by decide)]; exact nI_add _ _) ?_
    refine lv_istore_n (lv' := [(1, .int (nI (a + v % 2))), (2, .int (nI v))]) hx hb dX9_bits_13 rfl hl (by decide) rfl (fun ls hl => ?_)
    refine lv_iload_n hx hb dX9_bits_14 rfl (lv_at hl 1 rfl) ?_
    refine lv_iconst (v := 1) hx hb dX9_bits_15 (by decide) ?_
    refine lv_ishr hx hb dX9_bits_16 ?_
    refine z_top (y := nI (v / 2)) (pk_shrN (by omega) _ 1 (by decide)) ?_
    refine lv_istore_n (lv' := [(2, .int (nI (v / 2))), (1, .int (nI (a + v % 2)))]) hx hb dX9_bits_17 rfl hl (by decide) rfl (fun ls hl => ?_)
    refine lv_goto (tgt := 4) hx hb dX9_bits_18 (by decide) ?_
    exact ih (j - 1, a + v % 2, v / 2) ls (by show v / 2 < v; omega) ⟨by show a + v % 2 + poS (j - 1) (v / 2) = _; rw [← h1, hj]; simp only [poS, Nat.add_sub_cancel]; omega, by show v / 2 < 2 ^ (j - 1); rw [hj, Nat.add_sub_cancel]; rw [hj, Nat.pow_succ] at h2; omega, by show j - 1 ≤ 8; omega, lv_sub hl [0, 1] rfl⟩
set_option maxHeartbeats 4000000 in
theorem mm_count (l : Launch) (D : va_G) (t : Nat → ClassId) (mb : Nat) (B : BT) (x : Int32) (hB : OkB B) : Met l yX9_count (ws_ yX9_count cX9_count 4 (some .int)) ({ frames := 2, cells := 0, slots := 0, locals := 45 }) (zPc [.ref mb, .int x] (MW D t mb B) (KK D t)) (va_Qi (fun r B' => r = ((countV B x, B)).1 ∧ PE ((countV B x, B)).2 B') (fun B' U => MW D t mb B' U.heap) (mA mb)) 0 0 (mA mb) := by
  refine zOf (cc := cX9_count) (maxL := 4) (ret := (some .int)) (by decide) (Nat.le_of_ble_eq_true rfl) (fun pg ev s m below meth cd ls F hP hKK hl hnm => ?_)
  obtain ⟨hx, hb, hml, hown, hts, hr, hlk⟩ := F
  have S : CallFix pg m cd cX9_count 4 s _ lw_all RX9 := ⟨hx, hb, hml, hown, hts⟩
  have hl : lv_has ls 4 [(0, .ref mb), (1, .int x)] := hl
  have hS : va_S (mA mb) s.heap s.heap [] := va_S.rf
  have ho := hB.1
  have hj6 := ho.h6
  have hs5 := ho.s5
  have hd8 := ho.d8
  have hh3 := ho.hr3
  have hh6 := ho.h6
  have hd0 := ho.hr0
  refine lv_iload_n hx hb dX9_count_0 rfl (lv_at hl 1 rfl) ?_
  refine lv_bipush (v := 10) hx hb dX9_count_1 (by decide) ?_
  refine lv_icmp_le (tgt := 22) hx hb dX9_count_3 (by decide) (fun c3 => ?_) (fun c3 => ?_)
  · have hn : ¬ (10 < x ∧ x < 17) := by grind
    refine lv_iconst (v := 0) hx hb dX9_count_22 (by decide) ?_
    refine lv_istore_n (lv' := [(2, .int 0), (0, .ref mb), (1, .int x)]) hx hb dX9_count_23 rfl hl (by decide) rfl (fun ls hl => ?_)
    refine lv_iload_n hx hb dX9_count_24 rfl (lv_at hl 2 rfl) ?_
    by_cases c25_0 : x = 0
    · refine lv_tableIn (off := 55) (tgt := 80) hx hb dX9_count_25 (by rw [c25_0]; decide) (by rw [c25_0]; decide) (by rw [c25_0]; rfl) (by decide) ?_
      refine lv_aload_n hx hb dX9_count_80 rfl (lv_at hl 1 rfl) ?_
      refine m_get hx hb hts hown hKK hP 1 (by decide) q1248 rfl rfl dX9_count_81 ?_
      refine lv_iconst (v := 3) hx hb dX9_count_84 (by decide) ?_
      refine m_ald hx hb hKK hP 2 rfl (k := 3) (v := B 2 3) rfl (by omega) (by decide) rfl dX9_count_85 ?_
      exact m_iret hx hb hr (ok_close (by unfold countV; rw [if_neg hn]; rw [if_pos c25_0]) (PE.rf _)) hP hS dX9_count_86 hlk
    by_cases c25_1 : x = 1
    · refine lv_tableIn (off := 62) (tgt := 87) hx hb dX9_count_25 (by rw [c25_1]; decide) (by rw [c25_1]; decide) (by rw [c25_1]; rfl) (by decide) ?_
      refine lv_aload_n hx hb dX9_count_87 rfl (lv_at hl 1 rfl) ?_
      refine m_get hx hb hts hown hKK hP 1 (by decide) q1248 rfl rfl dX9_count_88 ?_
      refine lv_iconst (v := 2) hx hb dX9_count_91 (by decide) ?_
      refine m_ald hx hb hKK hP 2 rfl (k := 2) (v := B 2 2) rfl (by omega) (by decide) rfl dX9_count_92 ?_
      exact m_iret hx hb hr (ok_close (by unfold countV; rw [if_neg hn]; rw [if_neg c25_0]; rw [if_pos c25_1]) (PE.rf _)) hP hS dX9_count_93 hlk
    by_cases c25_2 : x = 2
    · refine lv_tableIn (off := 69) (tgt := 94) hx hb dX9_count_25 (by rw [c25_2]; decide) (by rw [c25_2]; decide) (by rw [c25_2]; rfl) (by decide) ?_
      refine lv_aload_n hx hb dX9_count_94 rfl (lv_at hl 1 rfl) ?_
      refine m_get hx hb hts hown hKK hP 1 (by decide) q1248 rfl rfl dX9_count_95 ?_
      refine lv_iconst (v := 0) hx hb dX9_count_98 (by decide) ?_
      refine m_ald hx hb hKK hP 2 rfl (k := 0) (v := B 2 0) rfl (by omega) (by decide) rfl dX9_count_99 ?_
      exact m_iret hx hb hr (ok_close (by unfold countV; rw [if_neg hn]; rw [if_neg c25_0]; rw [if_neg c25_1]; rw [if_pos c25_2]) (PE.rf _)) hP hS dX9_count_100 hlk
    by_cases c25_3 : x = 3
    · refine lv_tableIn (off := 76) (tgt := 101) hx hb dX9_count_25 (by rw [c25_3]; decide) (by rw [c25_3]; decide) (by rw [c25_3]; rfl) (by decide) ?_
      have hb1 : ix (B 2 1) < 256 := Nat.lt_of_lt_of_le ho.op.2 (Nat.pow_le_pow_right (n := 2) (by omega) hd8)
      refine lv_aload_n hx hb dX9_count_101 rfl (lv_at hl 1 rfl) ?_
      refine m_get hx hb hts hown hKK hP 1 (by decide) q1248 rfl rfl dX9_count_102 ?_
      refine lv_iconst (v := 1) hx hb dX9_count_105 (by decide) ?_
      refine m_ald hx hb hKK hP 2 rfl (k := 1) (v := B 2 1) rfl (by omega) (by decide) rfl dX9_count_106 ?_
      refine z_stk (st' := [.int (nI (ix (B 2 1)))]) (by rw [← show B 2 1 = nI (ix (B 2 1)) from ho.op.1]) ?_
      refine m_callS (As := [.int (nI (ix (B 2 1)))]) (rest := []) S hKK trivial (mm_bits l D t (ix (B 2 1)) hb1) (va_cwS 1 hts (lw_S q1577 q1578 q104 q1579) rfl rfl rfl (by decide +kernel) ⟨Nat.le_of_ble_eq_true rfl, Nat.le_of_ble_eq_true rfl⟩) rfl hl.1 rfl (Nat.le_of_ble_eq_true rfl) dX9_count_107 ⟨Nat.le_of_ble_eq_true rfl, Nat.le_of_ble_eq_true rfl⟩ ?_
      exact m_iret hx hb hr (ok_close (by unfold countV; rw [if_neg hn]; rw [if_neg c25_0]; rw [if_neg c25_1]; rw [if_neg c25_2]; rw [if_pos c25_3]) (PE.rf _)) hP hS dX9_count_110 hlk
    by_cases c25_4 : x = 4
    · refine lv_tableIn (off := 86) (tgt := 111) hx hb dX9_count_25 (by rw [c25_4]; decide) (by rw [c25_4]; decide) (by rw [c25_4]; rfl) (by decide) ?_
      refine lv_aload_n hx hb dX9_count_111 rfl (lv_at hl 1 rfl) ?_
      refine m_get hx hb hts hown hKK hP 1 (by decide) q1248 rfl rfl dX9_count_112 ?_
      refine lv_iload_n hx hb dX9_count_115 rfl (lv_at hl 2 rfl) ?_
      refine m_ald hx hb hKK hP 2 rfl (k := 4) (v := B 2 4) c25_4 (by omega) (by decide) rfl dX9_count_116 ?_
      exact m_iret hx hb hr (ok_close (by unfold countV; rw [if_neg hn]; rw [if_neg c25_0]; rw [if_neg c25_1]; rw [if_neg c25_2]; rw [if_neg c25_3]; rw [if_pos c25_4]) (PE.rf _)) hP hS dX9_count_117 hlk
    by_cases c25_5 : x = 5
    · refine lv_tableIn (off := 86) (tgt := 111) hx hb dX9_count_25 (by rw [c25_5]; decide) (by rw [c25_5]; decide) (by rw [c25_5]; rfl) (by decide) ?_
      refine lv_aload_n hx hb dX9_count_111 rfl (lv_at hl 1 rfl) ?_
      refine m_get hx hb hts hown hKK hP 1 (by decide) q1248 rfl rfl dX9_count_112 ?_
      refine lv_iload_n hx hb dX9_count_115 rfl (lv_at hl 2 rfl) ?_
      refine m_ald hx hb hKK hP 2 rfl (k := 5) (v := B 2 5) c25_5 (by omega) (by decide) rfl dX9_count_116 ?_
      exact m_iret hx hb hr (ok_close (by unfold countV; rw [if_neg hn]; rw [if_neg c25_0]; rw [if_neg c25_1]; rw [if_neg c25_2]; rw [if_neg c25_3]; rw [if_neg c25_4]; rw [if_pos c25_5]) (PE.rf _)) hP hS dX9_count_117 hlk
    by_cases c25_6 : x = 6
    · refine lv_tableIn (off := 93) (tgt := 118) hx hb dX9_count_25 (by rw [c25_6]; decide) (by rw [c25_6]; decide) (by rw [c25_6]; rfl) (by decide) ?_
      refine lv_aload_n hx hb dX9_count_118 rfl (lv_at hl 1 rfl) ?_
      refine lv_iconst (v := (-1)) hx hb dX9_count_119 (by decide) ?_
      refine m_callr (As := [.int (-1)]) (rest := []) S hKK hP (mm_haveIt l D t mb B (-1) hh3 hh6) (cwV 1 hts (lw_V q1382 q1384 qs74 q104 q1385) rfl rfl rfl (by decide +kernel) ⟨Nat.le_of_ble_eq_true rfl, Nat.le_of_ble_eq_true rfl⟩) rfl hl.1 rfl (Nat.le_of_ble_eq_true rfl) dX9_count_120 ⟨Nat.le_of_ble_eq_true rfl, Nat.le_of_ble_eq_true rfl⟩ ?_
      exact m_iret hx hb hr (ok_close (by unfold countV; rw [if_neg hn]; rw [if_neg c25_0]; rw [if_neg c25_1]; rw [if_neg c25_2]; rw [if_neg c25_3]; rw [if_neg c25_4]; rw [if_neg c25_5]; rw [if_pos c25_6]) (PE.rf _)) hP hS dX9_count_123 hlk
    by_cases c25_7 : x = 7
    · refine lv_tableIn (off := 99) (tgt := 124) hx hb dX9_count_25 (by rw [c25_7]; decide) (by rw [c25_7]; decide) (by rw [c25_7]; rfl) (by decide) ?_
      refine lv_iconst (v := 0) hx hb dX9_count_124 (by decide) ?_
      refine lv_istore_n (lv' := [(3, .int 0), (2, .int 0), (0, .ref mb), (1, .int x)]) hx hb dX9_count_125 rfl hl (by decide) rfl (fun ls hl => ?_)
      refine W.loopR (fun (k : Nat) ls => k ≤ nH (B 2) ∧ (True) ∧ lv_has ls 4 [(3, .int (nI k)), (2, .int (stL (B 2) k)), (0, .ref mb), (1, .int x)]) (fun k => nH (B 2) - k) (fun k ls hIk ihk => ?_) 0 ⟨by omega, trivial, lv_sub hl [0, 1, 2, 3] rfl⟩
      obtain ⟨hk, hEk, hl⟩ := hIk
      refine lv_iload_n hx hb dX9_count_126 rfl (lv_at hl 0 rfl) ?_
      refine lv_aload_n hx hb dX9_count_127 rfl (lv_at hl 2 rfl) ?_
      refine m_get hx hb hts hown hKK hP 1 (by decide) q1248 rfl rfl dX9_count_128 ?_
      refine lv_iconst (v := 3) hx hb dX9_count_131 (by decide) ?_
      refine m_ald hx hb hKK hP 2 rfl (k := 3) (v := B 2 3) rfl (by omega) (by decide) rfl dX9_count_132 ?_
      refine lv_icmp_ge (tgt := 151) hx hb dX9_count_133 (by decide) (fun c133 => ?_) (fun c133 => ?_)
      · obtain rfl : k = nH (B 2) := Nat.le_antisymm hk (lp_end hh3 (by omega) (by omega) c133)
        refine lv_iload_n hx hb dX9_count_151 rfl (lv_at hl 1 rfl) ?_
        exact m_iret hx hb hr (ok_close (by unfold countV; rw [if_neg hn]; rw [if_neg c25_0]; rw [if_neg c25_1]; rw [if_neg c25_2]; rw [if_neg c25_3]; rw [if_neg c25_4]; rw [if_neg c25_5]; rw [if_neg c25_6]; rw [if_pos c25_7]) (PE.rf _)) hP hS dX9_count_152 hlk
      · have hk2 : k < nH (B 2) := lp_go hh3 (by omega) (by omega) c133
        refine lv_iload_n hx hb dX9_count_136 rfl (lv_at hl 1 rfl) ?_
        refine lv_aload_n hx hb dX9_count_137 rfl (lv_at hl 2 rfl) ?_
        refine lv_iload_n hx hb dX9_count_138 rfl (lv_at hl 0 rfl) ?_
        refine lv_iconst (v := 4) hx hb dX9_count_139 (by decide) ?_
        refine m_callr (As := [.int (nI k), .int 4]) (rest := [.int (stL (B 2) k)]) S hKK hP (mm_at l D t mb B k 4 (by omega)) (cwV 2 hts (lw_V q1386 q1388 qs75 q104 q1389) rfl rfl rfl (by decide +kernel) ⟨Nat.le_of_ble_eq_true rfl, Nat.le_of_ble_eq_true rfl⟩) rfl hl.1 rfl (Nat.le_of_ble_eq_true rfl) dX9_count_140 ⟨Nat.le_of_ble_eq_true rfl, Nat.le_of_ble_eq_true rfl⟩ ?_
        refine lv_iadd hx hb dX9_count_143 ?_
        refine z_top (y := stL (B 2) (k + 1)) rfl ?_
        refine lv_istore_n (lv' := [(2, .int (stL (B 2) (k + 1))), (3, .int (nI k)), (0, .ref mb), (1, .int x)]) hx hb dX9_count_144 rfl hl (by decide) rfl (fun ls hl => ?_)
        refine lv_iinc (v := nI (k + 1)) (lv' := [(3, .int (nI (k + 1))), (2, .int (stL (B 2) (k + 1))), (0, .ref mb), (1, .int x)]) hx hb dX9_count_145 hl (k := 1) rfl (nI_1 k) (by decide) rfl (fun ls hl => ?_)
        refine lv_goto (tgt := 126) hx hb dX9_count_148 (by decide) ?_
        exact ihk (k + 1) ls (by omega) ⟨by omega, trivial, lv_sub hl [0, 1, 2, 3] rfl⟩
    by_cases c25_8 : x = 8
    · refine lv_tableIn (off := 128) (tgt := 153) hx hb dX9_count_25 (by rw [c25_8]; decide) (by rw [c25_8]; decide) (by rw [c25_8]; rfl) (by decide) ?_
      refine lv_aload_n hx hb dX9_count_153 rfl (lv_at hl 1 rfl) ?_
      refine m_get hx hb hts hown hKK hP 16 (by decide) q1263 rfl rfl dX9_count_154 ?_
      exact m_iret hx hb hr (ok_close (by unfold countV; rw [if_neg hn]; rw [if_neg c25_0]; rw [if_neg c25_1]; rw [if_neg c25_2]; rw [if_neg c25_3]; rw [if_neg c25_4]; rw [if_neg c25_5]; rw [if_neg c25_6]; rw [if_neg c25_7]; rw [if_pos c25_8]) (PE.rf _)) hP hS dX9_count_157 hlk
    by_cases c25_9 : x = 9
    · refine lv_tableIn (off := 133) (tgt := 158) hx hb dX9_count_25 (by rw [c25_9]; decide) (by rw [c25_9]; decide) (by rw [c25_9]; rfl) (by decide) ?_
      refine lv_aload_n hx hb dX9_count_158 rfl (lv_at hl 1 rfl) ?_
      refine m_get hx hb hts hown hKK hP 13 (by decide) q1260 rfl rfl dX9_count_159 ?_
      exact m_iret hx hb hr (ok_close (by unfold countV; rw [if_neg hn]; rw [if_neg c25_0]; rw [if_neg c25_1]; rw [if_neg c25_2]; rw [if_neg c25_3]; rw [if_neg c25_4]; rw [if_neg c25_5]; rw [if_neg c25_6]; rw [if_neg c25_7]; rw [if_neg c25_8]; rw [if_pos c25_9]) (PE.rf _)) hP hS dX9_count_162 hlk
    refine lv_tableOut (tgt := 163) hx hb dX9_count_25 (z_tabOut (lo := 0) (hi := 9) [0, 1, 2, 3, 4, 5, 6, 7, 8, 9] (by decide) (by decide) ⟨c25_0, c25_1, c25_2, c25_3, c25_4, c25_5, c25_6, c25_7, c25_8, c25_9, trivial⟩) (by decide) ?_
    refine lv_bipush (v := (-9)) hx hb dX9_count_163 (by decide) ?_
    exact m_iret hx hb hr (ok_close (by unfold countV; rw [if_neg hn]; rw [if_neg c25_0]; rw [if_neg c25_1]; rw [if_neg c25_2]; rw [if_neg c25_3]; rw [if_neg c25_4]; rw [if_neg c25_5]; rw [if_neg c25_6]; rw [if_neg c25_7]; rw [if_neg c25_8]; rw [if_neg c25_9]) (PE.rf _)) hP hS dX9_count_165 hlk
  · refine lv_iload_n hx hb dX9_count_6 rfl (lv_at hl 1 rfl) ?_
    refine lv_bipush (v := 17) hx hb dX9_count_7 (by decide) ?_
    refine lv_icmp_ge (tgt := 22) hx hb dX9_count_9 (by decide) (fun c9 => ?_) (fun c9 => ?_)
    · have hn : ¬ (10 < x ∧ x < 17) := by grind
      refine lv_iconst (v := 0) hx hb dX9_count_22 (by decide) ?_
      refine lv_istore_n (lv' := [(2, .int 0), (0, .ref mb), (1, .int x)]) hx hb dX9_count_23 rfl hl (by decide) rfl (fun ls hl => ?_)
      refine lv_iload_n hx hb dX9_count_24 rfl (lv_at hl 2 rfl) ?_
      by_cases c25_0 : x = 0
      · refine lv_tableIn (off := 55) (tgt := 80) hx hb dX9_count_25 (by rw [c25_0]; decide) (by rw [c25_0]; decide) (by rw [c25_0]; rfl) (by decide) ?_
        refine lv_aload_n hx hb dX9_count_80 rfl (lv_at hl 1 rfl) ?_
        refine m_get hx hb hts hown hKK hP 1 (by decide) q1248 rfl rfl dX9_count_81 ?_
        refine lv_iconst (v := 3) hx hb dX9_count_84 (by decide) ?_
        refine m_ald hx hb hKK hP 2 rfl (k := 3) (v := B 2 3) rfl (by omega) (by decide) rfl dX9_count_85 ?_
        exact m_iret hx hb hr (ok_close (by unfold countV; rw [if_neg hn]; rw [if_pos c25_0]) (PE.rf _)) hP hS dX9_count_86 hlk
      by_cases c25_1 : x = 1
      · refine lv_tableIn (off := 62) (tgt := 87) hx hb dX9_count_25 (by rw [c25_1]; decide) (by rw [c25_1]; decide) (by rw [c25_1]; rfl) (by decide) ?_
        refine lv_aload_n hx hb dX9_count_87 rfl (lv_at hl 1 rfl) ?_
        refine m_get hx hb hts hown hKK hP 1 (by decide) q1248 rfl rfl dX9_count_88 ?_
        refine lv_iconst (v := 2) hx hb dX9_count_91 (by decide) ?_
        refine m_ald hx hb hKK hP 2 rfl (k := 2) (v := B 2 2) rfl (by omega) (by decide) rfl dX9_count_92 ?_
        exact m_iret hx hb hr (ok_close (by unfold countV; rw [if_neg hn]; rw [if_neg c25_0]; rw [if_pos c25_1]) (PE.rf _)) hP hS dX9_count_93 hlk
      by_cases c25_2 : x = 2
      · refine lv_tableIn (off := 69) (tgt := 94) hx hb dX9_count_25 (by rw [c25_2]; decide) (by rw [c25_2]; decide) (by rw [c25_2]; rfl) (by decide) ?_
        refine lv_aload_n hx hb dX9_count_94 rfl (lv_at hl 1 rfl) ?_
        refine m_get hx hb hts hown hKK hP 1 (by decide) q1248 rfl rfl dX9_count_95 ?_
        refine lv_iconst (v := 0) hx hb dX9_count_98 (by decide) ?_
        refine m_ald hx hb hKK hP 2 rfl (k := 0) (v := B 2 0) rfl (by omega) (by decide) rfl dX9_count_99 ?_
        exact m_iret hx hb hr (ok_close (by unfold countV; rw [if_neg hn]; rw [if_neg c25_0]; rw [if_neg c25_1]; rw [if_pos c25_2]) (PE.rf _)) hP hS dX9_count_100 hlk
      by_cases c25_3 : x = 3
      · refine lv_tableIn (off := 76) (tgt := 101) hx hb dX9_count_25 (by rw [c25_3]; decide) (by rw [c25_3]; decide) (by rw [c25_3]; rfl) (by decide) ?_
        have hb1 : ix (B 2 1) < 256 := Nat.lt_of_lt_of_le ho.op.2 (Nat.pow_le_pow_right (n := 2) (by omega) hd8)
        refine lv_aload_n hx hb dX9_count_101 rfl (lv_at hl 1 rfl) ?_
        refine m_get hx hb hts hown hKK hP 1 (by decide) q1248 rfl rfl dX9_count_102 ?_
        refine lv_iconst (v := 1) hx hb dX9_count_105 (by decide) ?_
        refine m_ald hx hb hKK hP 2 rfl (k := 1) (v := B 2 1) rfl (by omega) (by decide) rfl dX9_count_106 ?_
        refine z_stk (st' := [.int (nI (ix (B 2 1)))]) (by rw [← show B 2 1 = nI (ix (B 2 1)) from ho.op.1]) ?_
        refine m_callS (As := [.int (nI (ix (B 2 1)))]) (rest := []) S hKK trivial (mm_bits l D t (ix (B 2 1)) hb1) (va_cwS 1 hts (lw_S q1577 q1578 q104 q1579) rfl rfl rfl (by decide +kernel) ⟨Nat.le_of_ble_eq_true rfl, Nat.le_of_ble_eq_true rfl⟩) rfl hl.1 rfl (Nat.le_of_ble_eq_true rfl) dX9_count_107 ⟨Nat.le_of_ble_eq_true rfl, Nat.le_of_ble_eq_true rfl⟩ ?_
        exact m_iret hx hb hr (ok_close (by unfold countV; rw [if_neg hn]; rw [if_neg c25_0]; rw [if_neg c25_1]; rw [if_neg c25_2]; rw [if_pos c25_3]) (PE.rf _)) hP hS dX9_count_110 hlk
      by_cases c25_4 : x = 4
      · refine lv_tableIn (off := 86) (tgt := 111) hx hb dX9_count_25 (by rw [c25_4]; decide) (by rw [c25_4]; decide) (by rw [c25_4]; rfl) (by decide) ?_
        refine lv_aload_n hx hb dX9_count_111 rfl (lv_at hl 1 rfl) ?_
        refine m_get hx hb hts hown hKK hP 1 (by decide) q1248 rfl rfl dX9_count_112 ?_
        refine lv_iload_n hx hb dX9_count_115 rfl (lv_at hl 2 rfl) ?_
        refine m_ald hx hb hKK hP 2 rfl (k := 4) (v := B 2 4) c25_4 (by omega) (by decide) rfl dX9_count_116 ?_
        exact m_iret hx hb hr (ok_close (by unfold countV; rw [if_neg hn]; rw [if_neg c25_0]; rw [if_neg c25_1]; rw [if_neg c25_2]; rw [if_neg c25_3]; rw [if_pos c25_4]) (PE.rf _)) hP hS dX9_count_117 hlk
      by_cases c25_5 : x = 5
      · refine lv_tableIn (off := 86) (tgt := 111) hx hb dX9_count_25 (by rw [c25_5]; decide) (by rw [c25_5]; decide) (by rw [c25_5]; rfl) (by decide) ?_
        refine lv_aload_n hx hb dX9_count_111 rfl (lv_at hl 1 rfl) ?_
        refine m_get hx hb hts hown hKK hP 1 (by decide) q1248 rfl rfl dX9_count_112 ?_
        refine lv_iload_n hx hb dX9_count_115 rfl (lv_at hl 2 rfl) ?_
        refine m_ald hx hb hKK hP 2 rfl (k := 5) (v := B 2 5) c25_5 (by omega) (by decide) rfl dX9_count_116 ?_
        exact m_iret hx hb hr (ok_close (by unfold countV; rw [if_neg hn]; rw [if_neg c25_0]; rw [if_neg c25_1]; rw [if_neg c25_2]; rw [if_neg c25_3]; rw [if_neg c25_4]; rw [if_pos c25_5]) (PE.rf _)) hP hS dX9_count_117 hlk
      by_cases c25_6 : x = 6
      · refine lv_tableIn (off := 93) (tgt := 118) hx hb dX9_count_25 (by rw [c25_6]; decide) (by rw [c25_6]; decide) (by rw [c25_6]; rfl) (by decide) ?_
        refine lv_aload_n hx hb dX9_count_118 rfl (lv_at hl 1 rfl) ?_
        refine lv_iconst (v := (-1)) hx hb dX9_count_119 (by decide) ?_
        refine m_callr (As := [.int (-1)]) (rest := []) S hKK hP (mm_haveIt l D t mb B (-1) hh3 hh6) (cwV 1 hts (lw_V q1382 q1384 qs74 q104 q1385) rfl rfl rfl (by decide +kernel) ⟨Nat.le_of_ble_eq_true rfl, Nat.le_of_ble_eq_true rfl⟩) rfl hl.1 rfl (Nat.le_of_ble_eq_true rfl) dX9_count_120 ⟨Nat.le_of_ble_eq_true rfl, Nat.le_of_ble_eq_true rfl⟩ ?_
        exact m_iret hx hb hr (ok_close (by unfold countV; rw [if_neg hn]; rw [if_neg c25_0]; rw [if_neg c25_1]; rw [if_neg c25_2]; rw [if_neg c25_3]; rw [if_neg c25_4]; rw [if_neg c25_5]; rw [if_pos c25_6]) (PE.rf _)) hP hS dX9_count_123 hlk
      by_cases c25_7 : x = 7
      · refine lv_tableIn (off := 99) (tgt := 124) hx hb dX9_count_25 (by rw [c25_7]; decide) (by rw [c25_7]; decide) (by rw [c25_7]; rfl) (by decide) ?_
        refine lv_iconst (v := 0) hx hb dX9_count_124 (by decide) ?_
        refine lv_istore_n (lv' := [(3, .int 0), (2, .int 0), (0, .ref mb), (1, .int x)]) hx hb dX9_count_125 rfl hl (by decide) rfl (fun ls hl => ?_)
        refine W.loopR (fun (k : Nat) ls => k ≤ nH (B 2) ∧ (True) ∧ lv_has ls 4 [(3, .int (nI k)), (2, .int (stL (B 2) k)), (0, .ref mb), (1, .int x)]) (fun k => nH (B 2) - k) (fun k ls hIk ihk => ?_) 0 ⟨by omega, trivial, lv_sub hl [0, 1, 2, 3] rfl⟩
        obtain ⟨hk, hEk, hl⟩ := hIk
        refine lv_iload_n hx hb dX9_count_126 rfl (lv_at hl 0 rfl) ?_
        refine lv_aload_n hx hb dX9_count_127 rfl (lv_at hl 2 rfl) ?_
        refine m_get hx hb hts hown hKK hP 1 (by decide) q1248 rfl rfl dX9_count_128 ?_
        refine lv_iconst (v := 3) hx hb dX9_count_131 (by decide) ?_
        refine m_ald hx hb hKK hP 2 rfl (k := 3) (v := B 2 3) rfl (by omega) (by decide) rfl dX9_count_132 ?_
        refine lv_icmp_ge (tgt := 151) hx hb dX9_count_133 (by decide) (fun c133 => ?_) (fun c133 => ?_)
        · obtain rfl : k = nH (B 2) := Nat.le_antisymm hk (lp_end hh3 (by omega) (by omega) c133)
          refine lv_iload_n hx hb dX9_count_151 rfl (lv_at hl 1 rfl) ?_
          exact m_iret hx hb hr (ok_close (by unfold countV; rw [if_neg hn]; rw [if_neg c25_0]; rw [if_neg c25_1]; rw [if_neg c25_2]; rw [if_neg c25_3]; rw [if_neg c25_4]; rw [if_neg c25_5]; rw [if_neg c25_6]; rw [if_pos c25_7]) (PE.rf _)) hP hS dX9_count_152 hlk
        · have hk2 : k < nH (B 2) := lp_go hh3 (by omega) (by omega) c133
          refine lv_iload_n hx hb dX9_count_136 rfl (lv_at hl 1 rfl) ?_
          refine lv_aload_n hx hb dX9_count_137 rfl (lv_at hl 2 rfl) ?_
          refine lv_iload_n hx hb dX9_count_138 rfl (lv_at hl 0 rfl) ?_
          refine lv_iconst (v := 4) hx hb dX9_count_139 (by decide) ?_
          refine m_callr (As := [.int (nI k), .int 4]) (rest := [.int (stL (B 2) k)]) S hKK hP (mm_at l D t mb B k 4 (by omega)) (cwV 2 hts (lw_V q1386 q1388 qs75 q104 q1389) rfl rfl rfl (by decide +kernel) ⟨Nat.le_of_ble_eq_true rfl, Nat.le_of_ble_eq_true rfl⟩) rfl hl.1 rfl (Nat.le_of_ble_eq_true rfl) dX9_count_140 ⟨Nat.le_of_ble_eq_true rfl, Nat.le_of_ble_eq_true rfl⟩ ?_
          refine lv_iadd hx hb dX9_count_143 ?_
          refine z_top (y := stL (B 2) (k + 1)) rfl ?_
          refine lv_istore_n (lv' := [(2, .int (stL (B 2) (k + 1))), (3, .int (nI k)), (0, .ref mb), (1, .int x)]) hx hb dX9_count_144 rfl hl (by decide) rfl (fun ls hl => ?_)
          refine lv_iinc (v := nI (k + 1)) (lv' := [(3, .int (nI (k + 1))), (2, .int (stL (B 2) (k + 1))), (0, .ref mb), (1, .int x)]) hx hb dX9_count_145 hl (k := 1) rfl (nI_1 k) (by decide) rfl (fun ls hl => ?_)
          refine lv_goto (tgt := 126) hx hb dX9_count_148 (by decide) ?_
          exact ihk (k + 1) ls (by omega) ⟨by omega, trivial, lv_sub hl [0, 1, 2, 3] rfl⟩
      by_cases c25_8 : x = 8
      · refine lv_tableIn (off := 128) (tgt := 153) hx hb dX9_count_25 (by rw [c25_8]; decide) (by rw [c25_8]; decide) (by rw [c25_8]; rfl) (by decide) ?_
        refine lv_aload_n hx hb dX9_count_153 rfl (lv_at hl 1 rfl) ?_
        refine m_get hx hb hts hown hKK hP 16 (by decide) q1263 rfl rfl dX9_count_154 ?_
        exact m_iret hx hb hr (ok_close (by unfold countV; rw [if_neg hn]; rw [if_neg c25_0]; rw [if_neg c25_1]; rw [if_neg c25_2]; rw [if_neg c25_3]; rw [if_neg c25_4]; rw [if_neg c25_5]; rw [if_neg c25_6]; rw [if_neg c25_7]; rw [if_pos c25_8]) (PE.rf _)) hP hS dX9_count_157 hlk
      by_cases c25_9 : x = 9
      · refine lv_tableIn (off := 133) (tgt := 158) hx hb dX9_count_25 (by rw [c25_9]; decide) (by rw [c25_9]; decide) (by rw [c25_9]; rfl) (by decide) ?_
        refine lv_aload_n hx hb dX9_count_158 rfl (lv_at hl 1 rfl) ?_
        refine m_get hx hb hts hown hKK hP 13 (by decide) q1260 rfl rfl dX9_count_159 ?_
        exact m_iret hx hb hr (ok_close (by unfold countV; rw [if_neg hn]; rw [if_neg c25_0]; rw [if_neg c25_1]; rw [if_neg c25_2]; rw [if_neg c25_3]; rw [if_neg c25_4]; rw [if_neg c25_5]; rw [if_neg c25_6]; rw [if_neg c25_7]; rw [if_neg c25_8]; rw [if_pos c25_9]) (PE.rf _)) hP hS dX9_count_162 hlk
      refine lv_tableOut (tgt := 163) hx hb dX9_count_25 (z_tabOut (lo := 0) (hi := 9) [0, 1, 2, 3, 4, 5, 6, 7, 8, 9] (by decide) (by decide) ⟨c25_0, c25_1, c25_2, c25_3, c25_4, c25_5, c25_6, c25_7, c25_8, c25_9, trivial⟩) (by decide) ?_
      refine lv_bipush (v := (-9)) hx hb dX9_count_163 (by decide) ?_
      exact m_iret hx hb hr (ok_close (by unfold countV; rw [if_neg hn]; rw [if_neg c25_0]; rw [if_neg c25_1]; rw [if_neg c25_2]; rw [if_neg c25_3]; rw [if_neg c25_4]; rw [if_neg c25_5]; rw [if_neg c25_6]; rw [if_neg c25_7]; rw [if_neg c25_8]; rw [if_neg c25_9]) (PE.rf _)) hP hS dX9_count_165 hlk
    · have hi : x - 10 = nI (ix (x - 10)) ∧ ix (x - 10) < 7 := ix_of (by grind) (show x - 10 < nI 7 by show x - 10 < 7; grind) (by omega)
      refine lv_aload_n hx hb dX9_count_12 rfl (lv_at hl 0 rfl) ?_
      refine m_get hx hb hts hown hKK hP 0 (by decide) q1247 rfl rfl dX9_count_13 ?_
      refine lv_iload_n hx hb dX9_count_16 rfl (lv_at hl 1 rfl) ?_
      refine lv_bipush (v := 10) hx hb dX9_count_17 (by decide) ?_
      refine lv_isub hx hb dX9_count_19 ?_
      refine m_ald hx hb hKK hP 1 rfl (k := ix (x - 10)) (v := B 1 (ix (x - 10))) hi.1 (by omega) (by decide) rfl dX9_count_20 ?_
      exact m_iret hx hb hr (ok_close (by unfold countV; rw [if_pos (by grind)]) (PE.rf _)) hP hS dX9_count_21 hlk
