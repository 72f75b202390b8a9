/-! THE MODEL WRITES A HEAD: printed by wip/D-96246w/gen/gen_m3.py -/
set_option maxRecDepth 100000
set_option maxHeartbeats 4000000 in
theorem mm_gets (l : Launch) (D : va_G) (t : Nat → ClassId) (mb : Nat) (B : BT) (j : Nat) (v : Int32) (hj : j < 6) (hv : ¬ v < 0 → v = nI (ix v) ∧ ix v < 5) : Met l yX9_gets (ws_ yX9_gets cX9_gets 3 none) ({ frames := 2, cells := 0, slots := 0, locals := 45 }) (zPc [.ref mb, .int (nI j), .int v] (MW D t mb B) (KK D t)) (va_Qv (fun B' => B' = upc B 2 (geS (B 2) j v)) (fun B' U => MW D t mb B' U.heap) (mA mb)) 0 0 (mA mb) := by
  refine zOf (cc := cX9_gets) (maxL := 3) (ret := none) (by decide) (Nat.le_of_ble_eq_true rfl) (fun pg ev s m below meth cd ls F hP hKK hl hnm => ?_)
  obtain ⟨hx, hb, hml, hown, hts, hr, hlk⟩ := F
  have S : CallFix pg m cd cX9_gets 3 s _ lw_all RX9 := ⟨hx, hb, hml, hown, hts⟩
  have hl : lv_has ls 3 [(0, .ref mb), (1, .int (nI j)), (2, .int v)] := hl
  have hS : va_S (mA mb) s.heap s.heap [] := va_S.rf
  refine lv_aload_n hx hb dX9_gets_0 rfl (lv_at hl 0 rfl) ?_
  refine lv_iload_n hx hb dX9_gets_1 rfl (lv_at hl 1 rfl) ?_
  refine lv_iconst (v := 3) hx hb dX9_gets_2 (by decide) ?_
  refine W.join (fun vJ => F0 m 13 ls (.int vJ :: [.int 3, .int (nI j), .ref mb])) (fun vJ => vJ = (if v < 0 then -9 else v)) (fun vJ hJ => ?_) (fun J => ?_)
  · subst hJ
    refine m_callv (As := [.int (nI j), .int 3, .int (if v < 0 then -9 else v)]) (rest := []) S hKK hP hS (mm_puts l D t mb B j 3 (if v < 0 then -9 else v) (by omega)) (cwV 3 hts (lw_V q1354 q1356 qs68 q104 q1357) rfl rfl rfl (by decide +kernel) ⟨Nat.le_of_ble_eq_true rfl, Nat.le_of_ble_eq_true rfl⟩) rfl hl.1 rfl (Nat.le_of_ble_eq_true rfl) dX9_gets_13 ⟨Nat.le_of_ble_eq_true rfl, Nat.le_of_ble_eq_true rfl⟩ (fun B13 H locs h13 hP hS => ?_)
    have h13 : B13 = up2 B 2 (37 + 6 * j + 3) (if v < 0 then -9 else v) := h13
    subst h13
    refine lv_aload_n hx hb dX9_gets_16 rfl (lv_at hl 0 rfl) ?_
    refine lv_iload_n hx hb dX9_gets_17 rfl (lv_at hl 1 rfl) ?_
    refine lv_iconst (v := 4) hx hb dX9_gets_18 (by decide) ?_
    refine W.join (fun vJ => F0 m 32 ls (.int vJ :: [.int 4, .int (nI j), .ref mb])) (fun vJ => vJ = (if v < 0 then 0 else frS (B 2) (ix v))) (fun vJ hJ => ?_) (fun J2 => ?_)
    · subst hJ
      refine m_callv (As := [.int (nI j), .int 4, .int (if v < 0 then 0 else frS (B 2) (ix v))]) (rest := []) S hKK hP hS (mm_puts l D t mb (up2 B 2 (37 + 6 * j + 3) (if v < 0 then -9 else v)) j 4 (if v < 0 then 0 else frS (B 2) (ix v)) (by omega)) (cwV 3 hts (lw_V q1354 q1356 qs68 q104 q1357) rfl rfl rfl (by decide +kernel) ⟨Nat.le_of_ble_eq_true rfl, Nat.le_of_ble_eq_true rfl⟩) rfl hl.1 rfl (Nat.le_of_ble_eq_true rfl) dX9_gets_32 ⟨Nat.le_of_ble_eq_true rfl, Nat.le_of_ble_eq_true rfl⟩ (fun B32 H locs h32 hP hS => ?_)
      have h32 : B32 = up2 (up2 B 2 (37 + 6 * j + 3) (if v < 0 then -9 else v)) 2 (37 + 6 * j + 4) (if v < 0 then 0 else frS (B 2) (ix v)) := h32
      subst h32
      exact m_vret hx hb hr (by show _ = _; rw [up2_upc, up2_upc, upc_same, upc_upc]; rfl) hP hS dX9_gets_35 hlk
    · refine lv_iload_n hx hb dX9_gets_19 rfl (lv_at hl 2 rfl) ?_
      refine lv_if_ge (tgt := 27) hx hb dX9_gets_20 (by decide) (fun c20 => ?_) (fun c20 => ?_)
      · have hv2 := hv (by grind)
        refine lv_aload_n hx hb dX9_gets_27 rfl (lv_at hl 0 rfl) ?_
        refine lv_iload_n hx hb dX9_gets_28 rfl (lv_at hl 2 rfl) ?_
        refine z_stk (st' := [.int (nI (ix v)), .ref mb, .int 4, .int (nI j), .ref mb]) (by rw [← show v = nI (ix v) from hv2.1]) ?_
        refine m_callr (As := [.int (nI (ix v))]) (rest := [.int 4, .int (nI j), .ref mb]) S hKK hP (mm_fresh l D t mb (up2 B 2 (37 + 6 * j + 3) (if v < 0 then -9 else v)) (ix v) (by omega)) (cwV 1 hts (lw_V q1370 q1372 qs72 q104 q1373) rfl rfl rfl (by decide +kernel) ⟨Nat.le_of_ble_eq_true rfl, Nat.le_of_ble_eq_true rfl⟩) rfl hl.1 rfl (Nat.le_of_ble_eq_true rfl) dX9_gets_29 ⟨Nat.le_of_ble_eq_true rfl, Nat.le_of_ble_eq_true rfl⟩ ?_
        refine z_top (y := frS (B 2) (ix v)) (frS_hd (by omega)) ?_
        exact J2 _ (by grind)
      · refine lv_iconst (v := 0) hx hb dX9_gets_23 (by decide) ?_
        refine lv_goto (tgt := 32) hx hb dX9_gets_24 (by decide) ?_
        exact J2 _ (by grind)
  · refine lv_iload_n hx hb dX9_gets_3 rfl (lv_at hl 2 rfl) ?_
    refine lv_if_ge (tgt := 12) hx hb dX9_gets_4 (by decide) (fun c4 => ?_) (fun c4 => ?_)
    · refine lv_iload_n hx hb dX9_gets_12 rfl (lv_at hl 2 rfl) ?_
      exact J _ (by grind)
    · refine lv_bipush (v := (-9)) hx hb dX9_gets_7 (by decide) ?_
      refine lv_goto (tgt := 13) hx hb dX9_gets_9 (by decide) ?_
      exact J _ (by grind)
set_option maxHeartbeats 4000000 in
theorem mm_wanes (l : Launch) (D : va_G) (t : Nat → ClassId) (mb : Nat) (B : BT) (j : Nat) (hj : j < 6) (hv : ¬ B 2 (37 + 6 * j + 3) < 0 → B 2 (37 + 6 * j + 3) = nI (ix (B 2 (37 + 6 * j + 3))) ∧ ix (B 2 (37 + 6 * j + 3)) < 5) : Met l yX9_wanes (ws_ yX9_wanes cX9_wanes 4 none) ({ frames := 3, cells := 0, slots := 0, locals := 67 }) (zPc [.ref mb, .int (nI j)] (MW D t mb B) (KK D t)) (va_Qv (fun B' => B' = upc B 2 (waS (B 2) j)) (fun B' U => MW D t mb B' U.heap) (mA mb)) 0 0 (mA mb) := by
  refine zOf (cc := cX9_wanes) (maxL := 4) (ret := none) (by decide) (Nat.le_of_ble_eq_true rfl) (fun pg ev s m below meth cd ls F hP hKK hl hnm => ?_)
  obtain ⟨hx, hb, hml, hown, hts, hr, hlk⟩ := F
  have S : CallFix pg m cd cX9_wanes 4 s _ lw_all RX9 := ⟨hx, hb, hml, hown, hts⟩
  have hl : lv_has ls 4 [(0, .ref mb), (1, .int (nI j))] := hl
  have hS : va_S (mA mb) s.heap s.heap [] := va_S.rf
  refine lv_aload_n hx hb dX9_wanes_0 rfl (lv_at hl 0 rfl) ?_
  refine lv_iload_n hx hb dX9_wanes_1 rfl (lv_at hl 1 rfl) ?_
  refine lv_iconst (v := 3) hx hb dX9_wanes_2 (by decide) ?_
  refine m_callr (As := [.int (nI j), .int 3]) (rest := []) S hKK hP (mm_at l D t mb B j 3 (by omega)) (cwV 2 hts (lw_V q1386 q1388 qs75 q104 q1389) rfl rfl rfl (by decide +kernel) ⟨Nat.le_of_ble_eq_true rfl, Nat.le_of_ble_eq_true rfl⟩) rfl hl.1 rfl (Nat.le_of_ble_eq_true rfl) dX9_wanes_3 ⟨Nat.le_of_ble_eq_true rfl, Nat.le_of_ble_eq_true rfl⟩ ?_
  refine lv_istore_n (lv' := [(2, .int (B 2 (37 + 6 * j + 3))), (0, .ref mb), (1, .int (nI j))]) hx hb dX9_wanes_6 rfl hl (by decide) rfl (fun ls hl => ?_)
  refine lv_iload_n hx hb dX9_wanes_7 rfl (lv_at hl 0 rfl) ?_
  refine lv_if_ge (tgt := 12) hx hb dX9_wanes_8 (by decide) (fun c8 => ?_) (fun c8 => ?_)
  · have hv2 := hv (by grind)
    refine lv_aload_n hx hb dX9_wanes_12 rfl (lv_at hl 1 rfl) ?_
    refine lv_iload_n hx hb dX9_wanes_13 rfl (lv_at hl 2 rfl) ?_
    refine lv_iconst (v := 4) hx hb dX9_wanes_14 (by decide) ?_
    refine m_callr (As := [.int (nI j), .int 4]) (rest := []) S hKK hP (mm_at l D t mb B j 4 (by omega)) (cwV 2 hts (lw_V q1386 q1388 qs75 q104 q1389) rfl rfl rfl (by decide +kernel) ⟨Nat.le_of_ble_eq_true rfl, Nat.le_of_ble_eq_true rfl⟩) rfl hl.1 rfl (Nat.le_of_ble_eq_true rfl) dX9_wanes_15 ⟨Nat.le_of_ble_eq_true rfl, Nat.le_of_ble_eq_true rfl⟩ ?_
    refine lv_aload_n hx hb dX9_wanes_18 rfl (lv_at hl 1 rfl) ?_
    refine lv_iload_n hx hb dX9_wanes_19 rfl (lv_at hl 0 rfl) ?_
    refine z_stk (st' := [.int (nI (ix (B 2 (37 + 6 * j + 3)))), .ref mb, .int (B 2 (37 + 6 * j + 4))]) (by rw [← show B 2 (37 + 6 * j + 3) = nI (ix (B 2 (37 + 6 * j + 3))) from hv2.1]) ?_
    refine m_callr (As := [.int (nI (ix (B 2 (37 + 6 * j + 3))))]) (rest := [.int (B 2 (37 + 6 * j + 4))]) S hKK hP (mm_fades l D t mb B (ix (B 2 (37 + 6 * j + 3))) (by omega)) (cwV 1 hts (lw_V q1450 q1452 qs83 q104 q1453) rfl rfl rfl (by decide +kernel) ⟨Nat.le_of_ble_eq_true rfl, Nat.le_of_ble_eq_true rfl⟩) rfl hl.1 rfl (Nat.le_of_ble_eq_true rfl) dX9_wanes_20 ⟨Nat.le_of_ble_eq_true rfl, Nat.le_of_ble_eq_true rfl⟩ ?_
    refine lv_isub hx hb dX9_wanes_23 ?_
    refine W.join (fun vJ => F0 m 38 ls (.int vJ :: [.int ((B 2 (37 + 6 * j + 4)) - (faS (B 2) (ix (B 2 (37 + 6 * j + 3)))))])) (fun vJ => vJ = (if 0 < B 2 (37 + 6 * j + 5) then 1 else 0)) (fun vJ hJ => ?_) (fun J => ?_)
    · subst hJ
      refine lv_isub hx hb dX9_wanes_38 ?_
      refine z_top (y := wvS (B 2) j) rfl ?_
      refine lv_istore_n (lv' := [(3, .int (wvS (B 2) j)), (2, .int (B 2 (37 + 6 * j + 3))), (0, .ref mb), (1, .int (nI j))]) hx hb dX9_wanes_39 rfl hl (by decide) rfl (fun ls hl => ?_)
      refine W.join (fun vJ => F0 m 52 ls (.int vJ :: [])) (fun vJ => vJ = (if 60 < wvS (B 2) j then 60 else wvS (B 2) j)) (fun vJ hJ => ?_) (fun J2 => ?_)
      · subst hJ
        refine lv_istore_n (lv' := [(3, .int (if 60 < wvS (B 2) j then 60 else wvS (B 2) j)), (2, .int (B 2 (37 + 6 * j + 3))), (0, .ref mb), (1, .int (nI j))]) hx hb dX9_wanes_52 rfl hl (by decide) rfl (fun ls hl => ?_)
        refine lv_iload_n hx hb dX9_wanes_53 rfl (lv_at hl 0 rfl) ?_
        refine lv_if_gt (tgt := 67) hx hb dX9_wanes_54 (by decide) (fun c54 => ?_) (fun c54 => ?_)
        · refine lv_aload_n hx hb dX9_wanes_67 rfl (lv_at hl 2 rfl) ?_
          refine lv_iload_n hx hb dX9_wanes_68 rfl (lv_at hl 3 rfl) ?_
          refine lv_iconst (v := 4) hx hb dX9_wanes_69 (by decide) ?_
          refine lv_iload_n hx hb dX9_wanes_70 rfl (lv_at hl 0 rfl) ?_
          refine m_callv (As := [.int (nI j), .int 4, .int (if 60 < wvS (B 2) j then 60 else wvS (B 2) j)]) (rest := []) S hKK hP hS (mm_puts l D t mb B j 4 (if 60 < wvS (B 2) j then 60 else wvS (B 2) j) (by omega)) (cwV 3 hts (lw_V q1354 q1356 qs68 q104 q1357) rfl rfl rfl (by decide +kernel) ⟨Nat.le_of_ble_eq_true rfl, Nat.le_of_ble_eq_true rfl⟩) rfl hl.1 rfl (Nat.le_of_ble_eq_true rfl) dX9_wanes_71 ⟨Nat.le_of_ble_eq_true rfl, Nat.le_of_ble_eq_true rfl⟩ (fun B71 H locs h71 hP hS => ?_)
          have h71 : B71 = up2 B 2 (37 + 6 * j + 4) (if 60 < wvS (B 2) j then 60 else wvS (B 2) j) := h71
          subst h71
          exact m_vret hx hb hr (by show _ = upc B 2 (waS (B 2) j); unfold waS; rw [if_neg (show ¬ hd (B 2) j 3 < 0 by grind)]; first | (rw [if_pos (show (if 60 < wvS (B 2) j then 60 else wvS (B 2) j) ≤ 0 by grind)]; done) | (rw [if_neg (show ¬ (if 60 < wvS (B 2) j then 60 else wvS (B 2) j) ≤ 0 by grind), up2_upc]; done)) hP hS dX9_wanes_74 hlk
        · refine lv_aload_n hx hb dX9_wanes_57 rfl (lv_at hl 2 rfl) ?_
          refine lv_iload_n hx hb dX9_wanes_58 rfl (lv_at hl 3 rfl) ?_
          refine lv_bipush (v := (-9)) hx hb dX9_wanes_59 (by decide) ?_
          refine m_callv (As := [.int (nI j), .int (-9)]) (rest := []) S hKK hP hS (mm_gets l D t mb B j (-9) (by omega) (by decide)) (cwV 2 hts (lw_V q1366 q1368 qs71 q104 q1369) rfl rfl rfl (by decide +kernel) ⟨Nat.le_of_ble_eq_true rfl, Nat.le_of_ble_eq_true rfl⟩) rfl hl.1 rfl (Nat.le_of_ble_eq_true rfl) dX9_wanes_61 ⟨Nat.le_of_ble_eq_true rfl, Nat.le_of_ble_eq_true rfl⟩ (fun B61 H locs h61 hP hS => ?_)
          have h61 : B61 = upc B 2 (geS (B 2) j (-9)) := h61
          subst h61
          refine lv_goto (tgt := 74) hx hb dX9_wanes_64 (by decide) ?_
          exact m_vret hx hb hr (by show _ = upc B 2 (waS (B 2) j); unfold waS; rw [if_neg (show ¬ hd (B 2) j 3 < 0 by grind)]; first | (rw [if_pos (show (if 60 < wvS (B 2) j then 60 else wvS (B 2) j) ≤ 0 by grind)]; done) | (rw [if_neg (show ¬ (if 60 < wvS (B 2) j then 60 else wvS (B 2) j) ≤ 0 by grind), up2_upc]; done)) hP hS dX9_wanes_74 hlk
      · refine lv_iload_n hx hb dX9_wanes_40 rfl (lv_at hl 0 rfl) ?_
        refine lv_bipush (v := 60) hx hb dX9_wanes_41 (by decide) ?_
        refine lv_icmp_le (tgt := 51) hx hb dX9_wanes_43 (by decide) (fun c43 => ?_) (fun c43 => ?_)
        · refine lv_iload_n hx hb dX9_wanes_51 rfl (lv_at hl 0 rfl) ?_
          exact J2 _ (by grind)
        · refine lv_bipush (v := 60) hx hb dX9_wanes_46 (by decide) ?_
          refine lv_goto (tgt := 52) hx hb dX9_wanes_48 (by decide) ?_
          exact J2 _ (by grind)
    · refine lv_aload_n hx hb dX9_wanes_24 rfl (lv_at hl 1 rfl) ?_
      refine lv_iload_n hx hb dX9_wanes_25 rfl (lv_at hl 2 rfl) ?_
      refine lv_iconst (v := 5) hx hb dX9_wanes_26 (by decide) ?_
      refine m_callr (As := [.int (nI j), .int 5]) (rest := [.int ((B 2 (37 + 6 * j + 4)) - (faS (B 2) (ix (B 2 (37 + 6 * j + 3)))))]) S hKK hP (mm_at l D t mb B j 5 (by omega)) (cwV 2 hts (lw_V q1386 q1388 qs75 q104 q1389) rfl rfl rfl (by decide +kernel) ⟨Nat.le_of_ble_eq_true rfl, Nat.le_of_ble_eq_true rfl⟩) rfl hl.1 rfl (Nat.le_of_ble_eq_true rfl) dX9_wanes_27 ⟨Nat.le_of_ble_eq_true rfl, Nat.le_of_ble_eq_true rfl⟩ ?_
      refine lv_if_le (tgt := 37) hx hb dX9_wanes_30 (by decide) (fun c30 => ?_) (fun c30 => ?_)
      · refine lv_iconst (v := 0) hx hb dX9_wanes_37 (by decide) ?_
        exact J _ (by grind)
      · refine lv_iconst (v := 1) hx hb dX9_wanes_33 (by decide) ?_
        refine lv_goto (tgt := 38) hx hb dX9_wanes_34 (by decide) ?_
        exact J _ (by grind)
  · exact m_vret hx hb hr (by show B = _; unfold waS; rw [if_pos (show hd (B 2) j 3 < 0 by grind)]; exact (upc_self B 2).symm) hP hS dX9_wanes_11 hlk
