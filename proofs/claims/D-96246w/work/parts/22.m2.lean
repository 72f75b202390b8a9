/-! THE MODEL's READERS: printed by wip/D-96246w/gen/gen_m2.py -/
set_option maxRecDepth 100000
set_option maxHeartbeats 4000000 in
theorem mm_fresh (l : Launch) (D : va_G) (t : Nat → ClassId) (mb : Nat) (B : BT) (i : Nat) (hi : i < 5) : Met l yX9_fresh (ws_ yX9_fresh cX9_fresh 4 (some .int)) ({ frames := 1, cells := 0, slots := 0, locals := 22 }) (zPc [.ref mb, .int (nI i)] (MW D t mb B) (KK D t)) (QcRead (frS (B 2) i)) 0 0 (fun _ => False) := by
  refine zOf (cc := cX9_fresh) (maxL := 4) (ret := (some .int)) (by decide) (Nat.le_of_ble_eq_true rfl) (fun pg ev s m below meth cd ls F hP hKK hl hnm => ?_)
  obtain ⟨hx, hb, hml, hown, hts, hr, hlk⟩ := F
  have S : CallFix pg m cd cX9_fresh 4 s _ lw_all RX9 := ⟨hx, hb, hml, hown, hts⟩
  have hl : lv_has ls 4 [(0, .ref mb), (1, .int (nI i))] := hl
  refine lv_iconst (v := 2) hx hb dX9_fresh_0 (by decide) ?_
  refine lv_aload_n hx hb dX9_fresh_1 rfl (lv_at hl 0 rfl) ?_
  refine lv_iload_n hx hb dX9_fresh_2 rfl (lv_at hl 1 rfl) ?_
  refine lv_iconst (v := 1) hx hb dX9_fresh_3 (by decide) ?_
  refine m_callr (As := [.int (nI i), .int 1]) (rest := [.int 2]) S hKK hP (mm_of l D t mb B i 1 (by omega)) (cwV 2 hts (lw_V q1374 q1376 qs73 q104 q1377) rfl rfl rfl (by decide +kernel) ⟨Nat.le_of_ble_eq_true rfl, Nat.le_of_ble_eq_true rfl⟩) rfl hl.1 rfl (Nat.le_of_ble_eq_true rfl) dX9_fresh_4 ⟨Nat.le_of_ble_eq_true rfl, Nat.le_of_ble_eq_true rfl⟩ ?_
  refine lv_imul hx hb dX9_fresh_7 ?_
  refine lv_aload_n hx hb dX9_fresh_8 rfl (lv_at hl 0 rfl) ?_
  refine lv_iload_n hx hb dX9_fresh_9 rfl (lv_at hl 1 rfl) ?_
  refine lv_iconst (v := 2) hx hb dX9_fresh_10 (by decide) ?_
  refine m_callr (As := [.int (nI i), .int 2]) (rest := [.int (2 * (B 2 (22 + 3 * i + 1)))]) S hKK hP (mm_of l D t mb B i 2 (by omega)) (cwV 2 hts (lw_V q1374 q1376 qs73 q104 q1377) rfl rfl rfl (by decide +kernel) ⟨Nat.le_of_ble_eq_true rfl, Nat.le_of_ble_eq_true rfl⟩) rfl hl.1 rfl (Nat.le_of_ble_eq_true rfl) dX9_fresh_11 ⟨Nat.le_of_ble_eq_true rfl, Nat.le_of_ble_eq_true rfl⟩ ?_
  refine lv_iadd hx hb dX9_fresh_14 ?_
  refine lv_istore_n (lv' := [(2, .int ((2 * (B 2 (22 + 3 * i + 1))) + (B 2 (22 + 3 * i + 2)))), (0, .ref mb), (1, .int (nI i))]) hx hb dX9_fresh_15 rfl hl (by decide) rfl (fun ls hl => ?_)
  refine lv_aload_n hx hb dX9_fresh_16 rfl (lv_at hl 1 rfl) ?_
  refine lv_iload_n hx hb dX9_fresh_17 rfl (lv_at hl 2 rfl) ?_
  refine lv_iconst (v := 0) hx hb dX9_fresh_18 (by decide) ?_
  refine m_callr (As := [.int (nI i), .int 0]) (rest := []) S hKK hP (mm_of l D t mb B i 0 (by omega)) (cwV 2 hts (lw_V q1374 q1376 qs73 q104 q1377) rfl rfl rfl (by decide +kernel) ⟨Nat.le_of_ble_eq_true rfl, Nat.le_of_ble_eq_true rfl⟩) rfl hl.1 rfl (Nat.le_of_ble_eq_true rfl) dX9_fresh_19 ⟨Nat.le_of_ble_eq_true rfl, Nat.le_of_ble_eq_true rfl⟩ ?_
  refine lv_istore_n (lv' := [(3, .int (B 2 (22 + 3 * i + 0))), (2, .int ((2 * (B 2 (22 + 3 * i + 1))) + (B 2 (22 + 3 * i + 2)))), (0, .ref mb), (1, .int (nI i))]) hx hb dX9_fresh_22 rfl hl (by decide) rfl (fun ls hl => ?_)
  refine lv_iload_n hx hb dX9_fresh_23 rfl (lv_at hl 0 rfl) ?_
  refine lv_iconst (v := 2) hx hb dX9_fresh_24 (by decide) ?_
  refine lv_icmp_ne (tgt := 34) hx hb dX9_fresh_25 (by decide) (fun c25 => ?_) (fun c25 => ?_)
  · refine lv_iload_n hx hb dX9_fresh_34 rfl (lv_at hl 0 rfl) ?_
    refine lv_iconst (v := 4) hx hb dX9_fresh_35 (by decide) ?_
    refine lv_icmp_ne (tgt := 47) hx hb dX9_fresh_36 (by decide) (fun c36 => ?_) (fun c36 => ?_)
    · refine lv_iload_n hx hb dX9_fresh_47 rfl (lv_at hl 1 rfl) ?_
      exact z_iretR hx hb hr (by grind [frS]) (fun q h => by cases h) rfl dX9_fresh_48 hlk
    · refine lv_iconst (v := 2) hx hb dX9_fresh_39 (by decide) ?_
      refine lv_iload_n hx hb dX9_fresh_40 rfl (lv_at hl 1 rfl) ?_
      refine lv_iconst (v := 3) hx hb dX9_fresh_41 (by decide) ?_
      refine lv_iadd hx hb dX9_fresh_42 ?_
      refine lv_imul hx hb dX9_fresh_43 ?_
      refine lv_goto (tgt := 48) hx hb dX9_fresh_44 (by decide) ?_
      exact z_iretR hx hb hr (by grind [frS]) (fun q h => by cases h) rfl dX9_fresh_48 hlk
  · refine lv_iload_n hx hb dX9_fresh_28 rfl (lv_at hl 1 rfl) ?_
    refine lv_iconst (v := 3) hx hb dX9_fresh_29 (by decide) ?_
    refine lv_iadd hx hb dX9_fresh_30 ?_
    refine lv_goto (tgt := 48) hx hb dX9_fresh_31 (by decide) ?_
    exact z_iretR hx hb hr (by grind [frS]) (fun q h => by cases h) rfl dX9_fresh_48 hlk
set_option maxHeartbeats 4000000 in
theorem mm_fades (l : Launch) (D : va_G) (t : Nat → ClassId) (mb : Nat) (B : BT) (i : Nat) (hi : i < 5) : Met l yX9_fades (ws_ yX9_fades cX9_fades 2 (some .int)) ({ frames := 1, cells := 0, slots := 0, locals := 22 }) (zPc [.ref mb, .int (nI i)] (MW D t mb B) (KK D t)) (QcRead (faS (B 2) i)) 0 0 (fun _ => False) := by
  refine zOf (cc := cX9_fades) (maxL := 2) (ret := (some .int)) (by decide) (Nat.le_of_ble_eq_true rfl) (fun pg ev s m below meth cd ls F hP hKK hl hnm => ?_)
  obtain ⟨hx, hb, hml, hown, hts, hr, hlk⟩ := F
  have S : CallFix pg m cd cX9_fades 2 s _ lw_all RX9 := ⟨hx, hb, hml, hown, hts⟩
  have hl : lv_has ls 2 [(0, .ref mb), (1, .int (nI i))] := hl
  refine lv_aload_n hx hb dX9_fades_0 rfl (lv_at hl 0 rfl) ?_
  refine lv_iload_n hx hb dX9_fades_1 rfl (lv_at hl 1 rfl) ?_
  refine lv_iconst (v := 0) hx hb dX9_fades_2 (by decide) ?_
  refine m_callr (As := [.int (nI i), .int 0]) (rest := []) S hKK hP (mm_of l D t mb B i 0 (by omega)) (cwV 2 hts (lw_V q1374 q1376 qs73 q104 q1377) rfl rfl rfl (by decide +kernel) ⟨Nat.le_of_ble_eq_true rfl, Nat.le_of_ble_eq_true rfl⟩) rfl hl.1 rfl (Nat.le_of_ble_eq_true rfl) dX9_fades_3 ⟨Nat.le_of_ble_eq_true rfl, Nat.le_of_ble_eq_true rfl⟩ ?_
  by_cases c6_1 : B 2 (22 + 3 * i + 0) = 1
  · refine lv_tableIn (off := 34) (tgt := 40) hx hb dX9_fades_6 (by rw [c6_1]; decide) (by rw [c6_1]; decide) (by rw [c6_1]; rfl) (by decide) ?_
    refine lv_iconst (v := 1) hx hb dX9_fades_40 (by decide) ?_
    exact z_iretR hx hb hr (by grind [faS]) (fun q h => by cases h) rfl dX9_fades_41 hlk
  by_cases c6_2 : B 2 (22 + 3 * i + 0) = 2
  · refine lv_tableIn (off := 36) (tgt := 42) hx hb dX9_fades_6 (by rw [c6_2]; decide) (by rw [c6_2]; decide) (by rw [c6_2]; rfl) (by decide) ?_
    refine lv_iconst (v := 3) hx hb dX9_fades_42 (by decide) ?_
    exact z_iretR hx hb hr (by grind [faS]) (fun q h => by cases h) rfl dX9_fades_43 hlk
  by_cases c6_3 : B 2 (22 + 3 * i + 0) = 3
  · refine lv_tableIn (off := 38) (tgt := 44) hx hb dX9_fades_6 (by rw [c6_3]; decide) (by rw [c6_3]; decide) (by rw [c6_3]; rfl) (by decide) ?_
    refine lv_aload_n hx hb dX9_fades_44 rfl (lv_at hl 0 rfl) ?_
    refine m_get hx hb hts hown hKK hP 1 (by decide) q1248 rfl rfl dX9_fades_45 ?_
    refine lv_iconst (v := 4) hx hb dX9_fades_48 (by decide) ?_
    refine m_ald hx hb hKK hP 2 rfl (k := 4) (v := B 2 4) rfl (by omega) (by decide) rfl dX9_fades_49 ?_
    refine lv_bipush (v := 6) hx hb dX9_fades_50 (by decide) ?_
    refine lv_irem hx hb dX9_fades_52 (by decide) ?_
    refine lv_if_ne (tgt := 61) hx hb dX9_fades_53 (by decide) (fun c53 => ?_) (fun c53 => ?_)
    · refine lv_iconst (v := 1) hx hb dX9_fades_61 (by decide) ?_
      exact z_iretR hx hb hr (by grind [faS]) (fun q h => by cases h) rfl dX9_fades_62 hlk
    · refine lv_bipush (v := (-4)) hx hb dX9_fades_56 (by decide) ?_
      refine lv_goto (tgt := 62) hx hb dX9_fades_58 (by decide) ?_
      exact z_iretR hx hb hr (by grind [faS]) (fun q h => by cases h) rfl dX9_fades_62 hlk
  by_cases c6_4 : B 2 (22 + 3 * i + 0) = 4
  · refine lv_tableIn (off := 57) (tgt := 63) hx hb dX9_fades_6 (by rw [c6_4]; decide) (by rw [c6_4]; decide) (by rw [c6_4]; rfl) (by decide) ?_
    refine lv_bipush (v := 6) hx hb dX9_fades_63 (by decide) ?_
    exact z_iretR hx hb hr (by grind [faS]) (fun q h => by cases h) rfl dX9_fades_65 hlk
  by_cases c6_5 : B 2 (22 + 3 * i + 0) = 5
  · refine lv_tableIn (off := 60) (tgt := 66) hx hb dX9_fades_6 (by rw [c6_5]; decide) (by rw [c6_5]; decide) (by rw [c6_5]; rfl) (by decide) ?_
    refine lv_aload_n hx hb dX9_fades_66 rfl (lv_at hl 0 rfl) ?_
    refine m_get hx hb hts hown hKK hP 1 (by decide) q1248 rfl rfl dX9_fades_67 ?_
    refine lv_iconst (v := 4) hx hb dX9_fades_70 (by decide) ?_
    refine m_ald hx hb hKK hP 2 rfl (k := 4) (v := B 2 4) rfl (by omega) (by decide) rfl dX9_fades_71 ?_
    refine lv_iconst (v := 2) hx hb dX9_fades_72 (by decide) ?_
    refine lv_irem hx hb dX9_fades_73 (by decide) ?_
    refine lv_iconst (v := 1) hx hb dX9_fades_74 (by decide) ?_
    refine lv_icmp_ne (tgt := 82) hx hb dX9_fades_75 (by decide) (fun c75 => ?_) (fun c75 => ?_)
    · refine lv_iconst (v := 1) hx hb dX9_fades_82 (by decide) ?_
      exact z_iretR hx hb hr (by grind [faS]) (fun q h => by cases h) rfl dX9_fades_83 hlk
    · refine lv_iconst (v := 0) hx hb dX9_fades_78 (by decide) ?_
      refine lv_goto (tgt := 83) hx hb dX9_fades_79 (by decide) ?_
      exact z_iretR hx hb hr (by grind [faS]) (fun q h => by cases h) rfl dX9_fades_83 hlk
  refine lv_tableOut (tgt := 84) hx hb dX9_fades_6 (z_tabOut (lo := 1) (hi := 5) [1, 2, 3, 4, 5] (by decide) (by decide) ⟨c6_1, c6_2, c6_3, c6_4, c6_5, trivial⟩) (by decide) ?_
  refine lv_iconst (v := 2) hx hb dX9_fades_84 (by decide) ?_
  exact z_iretR hx hb hr (by grind [faS]) (fun q h => by cases h) rfl dX9_fades_85 hlk
set_option maxHeartbeats 4000000 in
theorem mm_hums (l : Launch) (D : va_G) (t : Nat → ClassId) (mb : Nat) (B : BT) (j : Nat) (hj : j < 6) : Met l yX9_hums (ws_ yX9_hums cX9_hums 2 (some .boolean)) ({ frames := 1, cells := 0, slots := 0, locals := 22 }) (zPc [.ref mb, .int (nI j)] (MW D t mb B) (KK D t)) (QcRead (bI (huS (B 2) j))) 0 0 (fun _ => False) := by
  refine zOf (cc := cX9_hums) (maxL := 2) (ret := (some .boolean)) (by decide) (Nat.le_of_ble_eq_true rfl) (fun pg ev s m below meth cd ls F hP hKK hl hnm => ?_)
  obtain ⟨hx, hb, hml, hown, hts, hr, hlk⟩ := F
  have S : CallFix pg m cd cX9_hums 2 s _ lw_all RX9 := ⟨hx, hb, hml, hown, hts⟩
  have hl : lv_has ls 2 [(0, .ref mb), (1, .int (nI j))] := hl
  refine lv_aload_n hx hb dX9_hums_0 rfl (lv_at hl 0 rfl) ?_
  refine lv_iload_n hx hb dX9_hums_1 rfl (lv_at hl 1 rfl) ?_
  refine lv_iconst (v := 3) hx hb dX9_hums_2 (by decide) ?_
  refine m_callr (As := [.int (nI j), .int 3]) (rest := []) S hKK hP (mm_at l D t mb B j 3 (by omega)) (cwV 2 hts (lw_V q1386 q1388 qs75 q104 q1389) rfl rfl rfl (by decide +kernel) ⟨Nat.le_of_ble_eq_true rfl, Nat.le_of_ble_eq_true rfl⟩) rfl hl.1 rfl (Nat.le_of_ble_eq_true rfl) dX9_hums_3 ⟨Nat.le_of_ble_eq_true rfl, Nat.le_of_ble_eq_true rfl⟩ ?_
  refine lv_if_ge (tgt := 11) hx hb dX9_hums_6 (by decide) (fun c6 => ?_) (fun c6 => ?_)
  · refine lv_aload_n hx hb dX9_hums_11 rfl (lv_at hl 0 rfl) ?_
    refine lv_iload_n hx hb dX9_hums_12 rfl (lv_at hl 1 rfl) ?_
    refine lv_iconst (v := 0) hx hb dX9_hums_13 (by decide) ?_
    refine m_callr (As := [.int (nI j), .int 0]) (rest := []) S hKK hP (mm_at l D t mb B j 0 (by omega)) (cwV 2 hts (lw_V q1386 q1388 qs75 q104 q1389) rfl rfl rfl (by decide +kernel) ⟨Nat.le_of_ble_eq_true rfl, Nat.le_of_ble_eq_true rfl⟩) rfl hl.1 rfl (Nat.le_of_ble_eq_true rfl) dX9_hums_14 ⟨Nat.le_of_ble_eq_true rfl, Nat.le_of_ble_eq_true rfl⟩ ?_
    by_cases c17_1 : B 2 (37 + 6 * j + 0) = 1
    · refine lv_tableIn (off := 35) (tgt := 52) hx hb dX9_hums_17 (by rw [c17_1]; decide) (by rw [c17_1]; decide) (by rw [c17_1]; rfl) (by decide) ?_
      refine lv_iconst (v := 1) hx hb dX9_hums_52 (by decide) ?_
      exact z_bretR hx hb hr (by grind [huS, bI]) (fun q h => by cases h) rfl dX9_hums_53 hlk
    by_cases c17_2 : B 2 (37 + 6 * j + 0) = 2
    · refine lv_tableIn (off := 56) (tgt := 73) hx hb dX9_hums_17 (by rw [c17_2]; decide) (by rw [c17_2]; decide) (by rw [c17_2]; rfl) (by decide) ?_
      refine lv_aload_n hx hb dX9_hums_73 rfl (lv_at hl 0 rfl) ?_
      refine lv_iload_n hx hb dX9_hums_74 rfl (lv_at hl 1 rfl) ?_
      refine lv_iconst (v := 4) hx hb dX9_hums_75 (by decide) ?_
      refine m_callr (As := [.int (nI j), .int 4]) (rest := []) S hKK hP (mm_at l D t mb B j 4 (by omega)) (cwV 2 hts (lw_V q1386 q1388 qs75 q104 q1389) rfl rfl rfl (by decide +kernel) ⟨Nat.le_of_ble_eq_true rfl, Nat.le_of_ble_eq_true rfl⟩) rfl hl.1 rfl (Nat.le_of_ble_eq_true rfl) dX9_hums_76 ⟨Nat.le_of_ble_eq_true rfl, Nat.le_of_ble_eq_true rfl⟩ ?_
      refine lv_aload_n hx hb dX9_hums_79 rfl (lv_at hl 0 rfl) ?_
      refine m_get hx hb hts hown hKK hP 1 (by decide) q1248 rfl rfl dX9_hums_80 ?_
      refine lv_iconst (v := 5) hx hb dX9_hums_83 (by decide) ?_
      refine m_ald hx hb hKK hP 2 rfl (k := 5) (v := B 2 5) rfl (by omega) (by decide) rfl dX9_hums_84 ?_
      refine lv_icmp_lt (tgt := 92) hx hb dX9_hums_85 (by decide) (fun c85 => ?_) (fun c85 => ?_)
      · refine lv_iconst (v := 0) hx hb dX9_hums_92 (by decide) ?_
        exact z_bretR hx hb hr (by grind [huS, bI]) (fun q h => by cases h) rfl dX9_hums_93 hlk
      · refine lv_iconst (v := 1) hx hb dX9_hums_88 (by decide) ?_
        refine lv_goto (tgt := 93) hx hb dX9_hums_89 (by decide) ?_
        exact z_bretR hx hb hr (by grind [huS, bI]) (fun q h => by cases h) rfl dX9_hums_93 hlk
    by_cases c17_3 : B 2 (37 + 6 * j + 0) = 3
    · refine lv_tableIn (off := 56) (tgt := 73) hx hb dX9_hums_17 (by rw [c17_3]; decide) (by rw [c17_3]; decide) (by rw [c17_3]; rfl) (by decide) ?_
      refine lv_aload_n hx hb dX9_hums_73 rfl (lv_at hl 0 rfl) ?_
      refine lv_iload_n hx hb dX9_hums_74 rfl (lv_at hl 1 rfl) ?_
      refine lv_iconst (v := 4) hx hb dX9_hums_75 (by decide) ?_
      refine m_callr (As := [.int (nI j), .int 4]) (rest := []) S hKK hP (mm_at l D t mb B j 4 (by omega)) (cwV 2 hts (lw_V q1386 q1388 qs75 q104 q1389) rfl rfl rfl (by decide +kernel) ⟨Nat.le_of_ble_eq_true rfl, Nat.le_of_ble_eq_true rfl⟩) rfl hl.1 rfl (Nat.le_of_ble_eq_true rfl) dX9_hums_76 ⟨Nat.le_of_ble_eq_true rfl, Nat.le_of_ble_eq_true rfl⟩ ?_
      refine lv_aload_n hx hb dX9_hums_79 rfl (lv_at hl 0 rfl) ?_
      refine m_get hx hb hts hown hKK hP 1 (by decide) q1248 rfl rfl dX9_hums_80 ?_
      refine lv_iconst (v := 5) hx hb dX9_hums_83 (by decide) ?_
      refine m_ald hx hb hKK hP 2 rfl (k := 5) (v := B 2 5) rfl (by omega) (by decide) rfl dX9_hums_84 ?_
      refine lv_icmp_lt (tgt := 92) hx hb dX9_hums_85 (by decide) (fun c85 => ?_) (fun c85 => ?_)
      · refine lv_iconst (v := 0) hx hb dX9_hums_92 (by decide) ?_
        exact z_bretR hx hb hr (by grind [huS, bI]) (fun q h => by cases h) rfl dX9_hums_93 hlk
      · refine lv_iconst (v := 1) hx hb dX9_hums_88 (by decide) ?_
        refine lv_goto (tgt := 93) hx hb dX9_hums_89 (by decide) ?_
        exact z_bretR hx hb hr (by grind [huS, bI]) (fun q h => by cases h) rfl dX9_hums_93 hlk
    by_cases c17_4 : B 2 (37 + 6 * j + 0) = 4
    · refine lv_tableIn (off := 37) (tgt := 54) hx hb dX9_hums_17 (by rw [c17_4]; decide) (by rw [c17_4]; decide) (by rw [c17_4]; rfl) (by decide) ?_
      refine lv_iconst (v := 0) hx hb dX9_hums_54 (by decide) ?_
      exact z_bretR hx hb hr (by grind [huS, bI]) (fun q h => by cases h) rfl dX9_hums_55 hlk
    by_cases c17_5 : B 2 (37 + 6 * j + 0) = 5
    · refine lv_tableIn (off := 39) (tgt := 56) hx hb dX9_hums_17 (by rw [c17_5]; decide) (by rw [c17_5]; decide) (by rw [c17_5]; rfl) (by decide) ?_
      refine lv_aload_n hx hb dX9_hums_56 rfl (lv_at hl 0 rfl) ?_
      refine m_get hx hb hts hown hKK hP 1 (by decide) q1248 rfl rfl dX9_hums_57 ?_
      refine lv_iconst (v := 4) hx hb dX9_hums_60 (by decide) ?_
      refine m_ald hx hb hKK hP 2 rfl (k := 4) (v := B 2 4) rfl (by omega) (by decide) rfl dX9_hums_61 ?_
      refine lv_iconst (v := 2) hx hb dX9_hums_62 (by decide) ?_
      refine lv_irem hx hb dX9_hums_63 (by decide) ?_
      refine lv_if_ne (tgt := 71) hx hb dX9_hums_64 (by decide) (fun c64 => ?_) (fun c64 => ?_)
      · refine lv_iconst (v := 0) hx hb dX9_hums_71 (by decide) ?_
        exact z_bretR hx hb hr (by grind [huS, bI]) (fun q h => by cases h) rfl dX9_hums_72 hlk
      · refine lv_iconst (v := 1) hx hb dX9_hums_67 (by decide) ?_
        refine lv_goto (tgt := 72) hx hb dX9_hums_68 (by decide) ?_
        exact z_bretR hx hb hr (by grind [huS, bI]) (fun q h => by cases h) rfl dX9_hums_72 hlk
    refine lv_tableOut (tgt := 73) hx hb dX9_hums_17 (z_tabOut (lo := 1) (hi := 5) [1, 2, 3, 4, 5] (by decide) (by decide) ⟨c17_1, c17_2, c17_3, c17_4, c17_5, trivial⟩) (by decide) ?_
    refine lv_aload_n hx hb dX9_hums_73 rfl (lv_at hl 0 rfl) ?_
    refine lv_iload_n hx hb dX9_hums_74 rfl (lv_at hl 1 rfl) ?_
    refine lv_iconst (v := 4) hx hb dX9_hums_75 (by decide) ?_
    refine m_callr (As := [.int (nI j), .int 4]) (rest := []) S hKK hP (mm_at l D t mb B j 4 (by omega)) (cwV 2 hts (lw_V q1386 q1388 qs75 q104 q1389) rfl rfl rfl (by decide +kernel) ⟨Nat.le_of_ble_eq_true rfl, Nat.le_of_ble_eq_true rfl⟩) rfl hl.1 rfl (Nat.le_of_ble_eq_true rfl) dX9_hums_76 ⟨Nat.le_of_ble_eq_true rfl, Nat.le_of_ble_eq_true rfl⟩ ?_
    refine lv_aload_n hx hb dX9_hums_79 rfl (lv_at hl 0 rfl) ?_
    refine m_get hx hb hts hown hKK hP 1 (by decide) q1248 rfl rfl dX9_hums_80 ?_
    refine lv_iconst (v := 5) hx hb dX9_hums_83 (by decide) ?_
    refine m_ald hx hb hKK hP 2 rfl (k := 5) (v := B 2 5) rfl (by omega) (by decide) rfl dX9_hums_84 ?_
    refine lv_icmp_lt (tgt := 92) hx hb dX9_hums_85 (by decide) (fun c85 => ?_) (fun c85 => ?_)
    · refine lv_iconst (v := 0) hx hb dX9_hums_92 (by decide) ?_
      exact z_bretR hx hb hr (by grind [huS, bI]) (fun q h => by cases h) rfl dX9_hums_93 hlk
    · refine lv_iconst (v := 1) hx hb dX9_hums_88 (by decide) ?_
      refine lv_goto (tgt := 93) hx hb dX9_hums_89 (by decide) ?_
      exact z_bretR hx hb hr (by grind [huS, bI]) (fun q h => by cases h) rfl dX9_hums_93 hlk
  · refine lv_iconst (v := 0) hx hb dX9_hums_9 (by decide) ?_
    exact z_bretR hx hb hr (by grind [huS, bI]) (fun q h => by cases h) rfl dX9_hums_10 hlk
set_option maxHeartbeats 4000000 in
theorem mm_bar (l : Launch) (D : va_G) (t : Nat → ClassId) (mb : Nat) (B : BT) (j : Nat) (hj : j < 6) : Met l yX9_bar (ws_ yX9_bar cX9_bar 3 (some .int)) ({ frames := 1, cells := 0, slots := 0, locals := 22 }) (zPc [.ref mb, .int (nI j)] (MW D t mb B) (KK D t)) (QcRead (baS (B 2) j)) 0 0 (fun _ => False) := by
  refine zOf (cc := cX9_bar) (maxL := 3) (ret := (some .int)) (by decide) (Nat.le_of_ble_eq_true rfl) (fun pg ev s m below meth cd ls F hP hKK hl hnm => ?_)
  obtain ⟨hx, hb, hml, hown, hts, hr, hlk⟩ := F
  have S : CallFix pg m cd cX9_bar 3 s _ lw_all RX9 := ⟨hx, hb, hml, hown, hts⟩
  have hl : lv_has ls 3 [(0, .ref mb), (1, .int (nI j))] := hl
  refine lv_aload_n hx hb dX9_bar_0 rfl (lv_at hl 0 rfl) ?_
  refine lv_iload_n hx hb dX9_bar_1 rfl (lv_at hl 1 rfl) ?_
  refine lv_iconst (v := 2) hx hb dX9_bar_2 (by decide) ?_
  refine m_callr (As := [.int (nI j), .int 2]) (rest := []) S hKK hP (mm_at l D t mb B j 2 (by omega)) (cwV 2 hts (lw_V q1386 q1388 qs75 q104 q1389) rfl rfl rfl (by decide +kernel) ⟨Nat.le_of_ble_eq_true rfl, Nat.le_of_ble_eq_true rfl⟩) rfl hl.1 rfl (Nat.le_of_ble_eq_true rfl) dX9_bar_3 ⟨Nat.le_of_ble_eq_true rfl, Nat.le_of_ble_eq_true rfl⟩ ?_
  refine lv_istore_n (lv' := [(2, .int (B 2 (37 + 6 * j + 2))), (0, .ref mb), (1, .int (nI j))]) hx hb dX9_bar_6 rfl hl (by decide) rfl (fun ls hl => ?_)
  refine lv_aload_n hx hb dX9_bar_7 rfl (lv_at hl 1 rfl) ?_
  refine lv_iload_n hx hb dX9_bar_8 rfl (lv_at hl 2 rfl) ?_
  refine lv_iconst (v := 0) hx hb dX9_bar_9 (by decide) ?_
  refine m_callr (As := [.int (nI j), .int 0]) (rest := []) S hKK hP (mm_at l D t mb B j 0 (by omega)) (cwV 2 hts (lw_V q1386 q1388 qs75 q104 q1389) rfl rfl rfl (by decide +kernel) ⟨Nat.le_of_ble_eq_true rfl, Nat.le_of_ble_eq_true rfl⟩) rfl hl.1 rfl (Nat.le_of_ble_eq_true rfl) dX9_bar_10 ⟨Nat.le_of_ble_eq_true rfl, Nat.le_of_ble_eq_true rfl⟩ ?_
  by_cases c13_2 : B 2 (37 + 6 * j + 0) = 2
  · refine lv_tableIn (off := 31) (tgt := 44) hx hb dX9_bar_13 (by rw [c13_2]; decide) (by rw [c13_2]; decide) (by rw [c13_2]; rfl) (by decide) ?_
    refine lv_bipush (v := 99) hx hb dX9_bar_44 (by decide) ?_
    exact z_iretR hx hb hr (by grind [baS]) (fun q h => by cases h) rfl dX9_bar_46 hlk
  by_cases c13_3 : B 2 (37 + 6 * j + 0) = 3
  · refine lv_tableIn (off := 34) (tgt := 47) hx hb dX9_bar_13 (by rw [c13_3]; decide) (by rw [c13_3]; decide) (by rw [c13_3]; rfl) (by decide) ?_
    refine lv_iload_n hx hb dX9_bar_47 rfl (lv_at hl 0 rfl) ?_
    refine lv_iconst (v := 2) hx hb dX9_bar_48 (by decide) ?_
    refine lv_idiv hx hb dX9_bar_49 (by decide) ?_
    exact z_iretR hx hb hr (by grind [baS]) (fun q h => by cases h) rfl dX9_bar_50 hlk
  by_cases c13_4 : B 2 (37 + 6 * j + 0) = 4
  · refine lv_tableIn (off := 38) (tgt := 51) hx hb dX9_bar_13 (by rw [c13_4]; decide) (by rw [c13_4]; decide) (by rw [c13_4]; rfl) (by decide) ?_
    refine lv_iload_n hx hb dX9_bar_51 rfl (lv_at hl 0 rfl) ?_
    refine lv_iconst (v := 3) hx hb dX9_bar_52 (by decide) ?_
    refine lv_iadd hx hb dX9_bar_53 ?_
    exact z_iretR hx hb hr (by grind [baS]) (fun q h => by cases h) rfl dX9_bar_54 hlk
  by_cases c13_5 : B 2 (37 + 6 * j + 0) = 5
  · refine lv_tableIn (off := 42) (tgt := 55) hx hb dX9_bar_13 (by rw [c13_5]; decide) (by rw [c13_5]; decide) (by rw [c13_5]; rfl) (by decide) ?_
    refine lv_iconst (v := 0) hx hb dX9_bar_55 (by decide) ?_
    exact z_iretR hx hb hr (by grind [baS]) (fun q h => by cases h) rfl dX9_bar_56 hlk
  refine lv_tableOut (tgt := 57) hx hb dX9_bar_13 (z_tabOut (lo := 2) (hi := 5) [2, 3, 4, 5] (by decide) (by decide) ⟨c13_2, c13_3, c13_4, c13_5, trivial⟩) (by decide) ?_
  refine lv_iload_n hx hb dX9_bar_57 rfl (lv_at hl 0 rfl) ?_
  exact z_iretR hx hb hr (by grind [baS]) (fun q h => by cases h) rfl dX9_bar_58 hlk
set_option maxHeartbeats 4000000 in
theorem mm_areNear (l : Launch) (D : va_G) (t : Nat → ClassId) (mb : Nat) (B : BT) (i j : Nat) (hi : i < 6) (hj : j < 6) (hd0 : B 2 0 = nI (nD (B 2))) (hd8 : nD (B 2) ≤ 8) : Met l yX9_areNear (ws_ yX9_areNear cX9_areNear 8 (some .boolean)) ({ frames := 1, cells := 0, slots := 0, locals := 22 }) (zPc [.ref mb, .int (nI i), .int (nI j)] (MW D t mb B) (KK D t)) (QcRead (bI (neS (B 2) i j))) 0 0 (fun _ => False) := by
  refine zOf (cc := cX9_areNear) (maxL := 8) (ret := (some .boolean)) (by decide) (Nat.le_of_ble_eq_true rfl) (fun pg ev s m below meth cd ls F hP hKK hl hnm => ?_)
  obtain ⟨hx, hb, hml, hown, hts, hr, hlk⟩ := F
  have S : CallFix pg m cd cX9_areNear 8 s _ lw_all RX9 := ⟨hx, hb, hml, hown, hts⟩
  have hl : lv_has ls 8 [(0, .ref mb), (1, .int (nI i)), (2, .int (nI j))] := hl
  refine lv_aload_n hx hb dX9_areNear_0 rfl (lv_at hl 0 rfl) ?_
  refine lv_iload_n hx hb dX9_areNear_1 rfl (lv_at hl 1 rfl) ?_
  refine lv_iconst (v := 1) hx hb dX9_areNear_2 (by decide) ?_
  refine m_callr (As := [.int (nI i), .int 1]) (rest := []) S hKK hP (mm_at l D t mb B i 1 (by omega)) (cwV 2 hts (lw_V q1386 q1388 qs75 q104 q1389) rfl rfl rfl (by decide +kernel) ⟨Nat.le_of_ble_eq_true rfl, Nat.le_of_ble_eq_true rfl⟩) rfl hl.1 rfl (Nat.le_of_ble_eq_true rfl) dX9_areNear_3 ⟨Nat.le_of_ble_eq_true rfl, Nat.le_of_ble_eq_true rfl⟩ ?_
  refine lv_istore_n (lv' := [(3, .int (B 2 (37 + 6 * i + 1))), (0, .ref mb), (1, .int (nI i)), (2, .int (nI j))]) hx hb dX9_areNear_6 rfl hl (by decide) rfl (fun ls hl => ?_)
  refine lv_aload_n hx hb dX9_areNear_7 rfl (lv_at hl 1 rfl) ?_
  refine lv_iload_n hx hb dX9_areNear_8 rfl (lv_at hl 3 rfl) ?_
  refine lv_iconst (v := 1) hx hb dX9_areNear_9 (by decide) ?_
  refine m_callr (As := [.int (nI j), .int 1]) (rest := []) S hKK hP (mm_at l D t mb B j 1 (by omega)) (cwV 2 hts (lw_V q1386 q1388 qs75 q104 q1389) rfl rfl rfl (by decide +kernel) ⟨Nat.le_of_ble_eq_true rfl, Nat.le_of_ble_eq_true rfl⟩) rfl hl.1 rfl (Nat.le_of_ble_eq_true rfl) dX9_areNear_10 ⟨Nat.le_of_ble_eq_true rfl, Nat.le_of_ble_eq_true rfl⟩ ?_
  refine lv_istore (lv' := [(4, .int (B 2 (37 + 6 * j + 1))), (3, .int (B 2 (37 + 6 * i + 1))), (0, .ref mb), (1, .int (nI i)), (2, .int (nI j))]) hx hb dX9_areNear_13 hl (by decide) rfl (fun ls hl => ?_)
  refine lv_iload_n hx hb dX9_areNear_15 rfl (lv_at hl 3 rfl) ?_
  refine lv_iload_n hx hb dX9_areNear_16 rfl (lv_at hl 4 rfl) ?_
  refine lv_icmp_ne (tgt := 22) hx hb dX9_areNear_17 (by decide) (fun c17 => ?_) (fun c17 => ?_)
  · refine lv_iload_n hx hb dX9_areNear_22 rfl (lv_at hl 1 rfl) ?_
    refine lv_iload hx hb dX9_areNear_23 (lv_at hl 0 rfl) ?_
    refine lv_icmp_ne (tgt := 30) hx hb dX9_areNear_25 (by decide) (fun c25 => ?_) (fun c25 => ?_)
    · refine lv_iconst (v := 0) hx hb dX9_areNear_30 (by decide) ?_
      refine lv_istore (lv' := [(5, .int 0), (4, .int (B 2 (37 + 6 * j + 1))), (3, .int (B 2 (37 + 6 * i + 1))), (0, .ref mb), (1, .int (nI i)), (2, .int (nI j))]) hx hb dX9_areNear_31 hl (by decide) rfl (fun ls hl => ?_)
      refine W.loopR (fun (k : Nat) ls => k ≤ nD (B 2) ∧ (anS (doS (B 2) (B 2 (37 + 6 * i + 1)) (B 2 (37 + 6 * j + 1))) k = false) ∧ lv_has ls 8 [(5, .int (nI k)), (4, .int (B 2 (37 + 6 * j + 1))), (3, .int (B 2 (37 + 6 * i + 1))), (0, .ref mb), (1, .int (nI i)), (2, .int (nI j))]) (fun k => nD (B 2) - k) (fun k ls hIk ihk => ?_) 0 ⟨by omega, rfl, lv_sub hl [0, 1, 2, 3, 4, 5] rfl⟩
      obtain ⟨hk, hEk, hl⟩ := hIk
      refine lv_iload hx hb dX9_areNear_33 (lv_at hl 0 rfl) ?_
      refine lv_aload_n hx hb dX9_areNear_35 rfl (lv_at hl 3 rfl) ?_
      refine m_get hx hb hts hown hKK hP 1 (by decide) q1248 rfl rfl dX9_areNear_36 ?_
      refine lv_iconst (v := 0) hx hb dX9_areNear_39 (by decide) ?_
      refine m_ald hx hb hKK hP 2 rfl (k := 0) (v := B 2 0) rfl (by omega) (by decide) rfl dX9_areNear_40 ?_
      refine lv_icmp_ge (tgt := 123) hx hb dX9_areNear_41 (by decide) (fun c41 => ?_) (fun c41 => ?_)
      · obtain rfl : k = nD (B 2) := Nat.le_antisymm hk (lp_end hd0 (by omega) (by omega) c41)
        refine lv_iconst (v := 0) hx hb dX9_areNear_123 (by decide) ?_
        exact z_bretR hx hb hr (by have hij : ¬ i = j := fun q => c17 (by rw [q]); simp only [neS, hij, c25, hEk, not_false_eq_true, decide_true, decide_false, Bool.true_and, Bool.or_self, bI_f]) (fun q h => by cases h) rfl dX9_areNear_124 hlk
      · have hk2 : k < nD (B 2) := lp_go hd0 (by omega) (by omega) c41
        refine lv_aload_n hx hb dX9_areNear_44 rfl (lv_at hl 3 rfl) ?_
        refine m_get hx hb hts hown hKK hP 1 (by decide) q1248 rfl rfl dX9_areNear_45 ?_
        refine lv_bipush (v := 6) hx hb dX9_areNear_48 (by decide) ?_
        refine lv_iconst (v := 2) hx hb dX9_areNear_50 (by decide) ?_
        refine lv_iload hx hb dX9_areNear_51 (lv_at hl 0 rfl) ?_
        refine lv_imul hx hb dX9_areNear_53 ?_
        refine lv_iadd hx hb dX9_areNear_54 ?_
        refine m_ald hx hb hKK hP 2 rfl (k := 6 + 2 * k) (v := B 2 (6 + 2 * k)) (nI_addO rfl (nI_mulO rfl rfl)) (by omega) (by decide) rfl dX9_areNear_55 ?_
        refine lv_istore (lv' := [(6, .int (B 2 (6 + 2 * k))), (5, .int (nI k)), (4, .int (B 2 (37 + 6 * j + 1))), (3, .int (B 2 (37 + 6 * i + 1))), (0, .ref mb), (1, .int (nI i)), (2, .int (nI j))]) hx hb dX9_areNear_56 hl (by decide) rfl (fun ls hl => ?_)
        refine lv_aload_n hx hb dX9_areNear_58 rfl (lv_at hl 4 rfl) ?_
        refine m_get hx hb hts hown hKK hP 1 (by decide) q1248 rfl rfl dX9_areNear_59 ?_
        refine lv_bipush (v := 6) hx hb dX9_areNear_62 (by decide) ?_
        refine lv_iconst (v := 2) hx hb dX9_areNear_64 (by decide) ?_
        refine lv_iload hx hb dX9_areNear_65 (lv_at hl 1 rfl) ?_
        refine lv_imul hx hb dX9_areNear_67 ?_
        refine lv_iadd hx hb dX9_areNear_68 ?_
        refine lv_iconst (v := 1) hx hb dX9_areNear_69 (by decide) ?_
        refine lv_iadd hx hb dX9_areNear_70 ?_
        refine m_ald hx hb hKK hP 2 rfl (k := 6 + 2 * k + 1) (v := B 2 (6 + 2 * k + 1)) (nI_addO (nI_addO rfl (nI_mulO rfl rfl)) rfl) (by omega) (by decide) rfl dX9_areNear_71 ?_
        refine lv_istore (lv' := [(7, .int (B 2 (6 + 2 * k + 1))), (6, .int (B 2 (6 + 2 * k))), (5, .int (nI k)), (4, .int (B 2 (37 + 6 * j + 1))), (3, .int (B 2 (37 + 6 * i + 1))), (0, .ref mb), (1, .int (nI i)), (2, .int (nI j))]) hx hb dX9_areNear_72 hl (by decide) rfl (fun ls hl => ?_)
        refine lv_aload_n hx hb dX9_areNear_74 rfl (lv_at hl 5 rfl) ?_
        refine m_get hx hb hts hown hKK hP 1 (by decide) q1248 rfl rfl dX9_areNear_75 ?_
        refine lv_iconst (v := 1) hx hb dX9_areNear_78 (by decide) ?_
        refine m_ald hx hb hKK hP 2 rfl (k := 1) (v := B 2 1) rfl (by omega) (by decide) rfl dX9_areNear_79 ?_
        refine lv_iload hx hb dX9_areNear_80 (lv_at hl 2 rfl) ?_
        refine lv_ishr hx hb dX9_areNear_82 ?_
        refine lv_iconst (v := 1) hx hb dX9_areNear_83 (by decide) ?_
        refine lv_iand hx hb dX9_areNear_84 ?_
        refine lv_iconst (v := 1) hx hb dX9_areNear_85 (by decide) ?_
        refine lv_icmp_ne (tgt := 117) hx hb dX9_areNear_86 (by decide) (fun c86 => ?_) (fun c86 => ?_)
        · refine lv_iinc (v := nI (k + 1)) (lv' := [(5, .int (nI (k + 1))), (7, .int (B 2 (6 + 2 * k + 1))), (6, .int (B 2 (6 + 2 * k))), (4, .int (B 2 (37 + 6 * j + 1))), (3, .int (B 2 (37 + 6 * i + 1))), (0, .ref mb), (1, .int (nI i)), (2, .int (nI j))]) hx hb dX9_areNear_117 hl (k := 2) rfl (nI_1 k) (by decide) rfl (fun ls hl => ?_)
          refine lv_goto (tgt := 33) hx hb dX9_areNear_120 (by decide) ?_
          exact ihk (k + 1) ls (by omega) ⟨by omega, (by simp only [anS, hEk, Bool.false_or]; simp only [doS, decide_eq_false_iff_not]; grind), lv_sub hl [0, 3, 4, 5, 6, 7] rfl⟩
        · refine lv_iload hx hb dX9_areNear_89 (lv_at hl 1 rfl) ?_
          refine lv_iload_n hx hb dX9_areNear_91 rfl (lv_at hl 4 rfl) ?_
          refine lv_icmp_ne (tgt := 102) hx hb dX9_areNear_92 (by decide) (fun c92 => ?_) (fun c92 => ?_)
          · refine lv_iload hx hb dX9_areNear_102 (lv_at hl 1 rfl) ?_
            refine lv_iload hx hb dX9_areNear_104 (lv_at hl 3 rfl) ?_
            refine lv_icmp_ne (tgt := 117) hx hb dX9_areNear_106 (by decide) (fun c106 => ?_) (fun c106 => ?_)
            · refine lv_iinc (v := nI (k + 1)) (lv' := [(5, .int (nI (k + 1))), (7, .int (B 2 (6 + 2 * k + 1))), (6, .int (B 2 (6 + 2 * k))), (4, .int (B 2 (37 + 6 * j + 1))), (3, .int (B 2 (37 + 6 * i + 1))), (0, .ref mb), (1, .int (nI i)), (2, .int (nI j))]) hx hb dX9_areNear_117 hl (k := 2) rfl (nI_1 k) (by decide) rfl (fun ls hl => ?_)
              refine lv_goto (tgt := 33) hx hb dX9_areNear_120 (by decide) ?_
              exact ihk (k + 1) ls (by omega) ⟨by omega, (by simp only [anS, hEk, Bool.false_or]; simp only [doS, decide_eq_false_iff_not]; grind), lv_sub hl [0, 3, 4, 5, 6, 7] rfl⟩
            · refine lv_iload hx hb dX9_areNear_109 (lv_at hl 0 rfl) ?_
              refine lv_iload_n hx hb dX9_areNear_111 rfl (lv_at hl 4 rfl) ?_
              refine lv_icmp_ne (tgt := 117) hx hb dX9_areNear_112 (by decide) (fun c112 => ?_) (fun c112 => ?_)
              · refine lv_iinc (v := nI (k + 1)) (lv' := [(5, .int (nI (k + 1))), (7, .int (B 2 (6 + 2 * k + 1))), (6, .int (B 2 (6 + 2 * k))), (4, .int (B 2 (37 + 6 * j + 1))), (3, .int (B 2 (37 + 6 * i + 1))), (0, .ref mb), (1, .int (nI i)), (2, .int (nI j))]) hx hb dX9_areNear_117 hl (k := 2) rfl (nI_1 k) (by decide) rfl (fun ls hl => ?_)
                refine lv_goto (tgt := 33) hx hb dX9_areNear_120 (by decide) ?_
                exact ihk (k + 1) ls (by omega) ⟨by omega, (by simp only [anS, hEk, Bool.false_or]; simp only [doS, decide_eq_false_iff_not]; grind), lv_sub hl [0, 3, 4, 5, 6, 7] rfl⟩
              · refine lv_iconst (v := 1) hx hb dX9_areNear_115 (by decide) ?_
                exact z_bretR hx hb hr (by have hij : ¬ i = j := fun q => c17 (by rw [q]); have hf := anS_of (f := doS (B 2) (B 2 (37 + 6 * i + 1)) (B 2 (37 + 6 * j + 1))) hk2 (by simp only [doS, decide_eq_true_eq]; grind); simp only [neS, hij, c25, hf, not_false_eq_true, decide_true, decide_false, Bool.true_and, Bool.false_or, bI_t]) (fun q h => by cases h) rfl dX9_areNear_116 hlk
          · refine lv_iload hx hb dX9_areNear_95 (lv_at hl 0 rfl) ?_
            refine lv_iload hx hb dX9_areNear_97 (lv_at hl 3 rfl) ?_
            refine lv_icmp_eq (tgt := 115) hx hb dX9_areNear_99 (by decide) (fun c99 => ?_) (fun c99 => ?_)
            · refine lv_iconst (v := 1) hx hb dX9_areNear_115 (by decide) ?_
              exact z_bretR hx hb hr (by have hij : ¬ i = j := fun q => c17 (by rw [q]); have hf := anS_of (f := doS (B 2) (B 2 (37 + 6 * i + 1)) (B 2 (37 + 6 * j + 1))) hk2 (by simp only [doS, decide_eq_true_eq]; grind); simp only [neS, hij, c25, hf, not_false_eq_true, decide_true, decide_false, Bool.true_and, Bool.false_or, bI_t]) (fun q h => by cases h) rfl dX9_areNear_116 hlk
            · refine lv_iload hx hb dX9_areNear_102 (lv_at hl 1 rfl) ?_
              refine lv_iload hx hb dX9_areNear_104 (lv_at hl 3 rfl) ?_
              refine lv_icmp_ne (tgt := 117) hx hb dX9_areNear_106 (by decide) (fun c106 => ?_) (fun c106 => ?_)
              · refine lv_iinc (v := nI (k + 1)) (lv' := [(5, .int (nI (k + 1))), (7, .int (B 2 (6 + 2 * k + 1))), (6, .int (B 2 (6 + 2 * k))), (4, .int (B 2 (37 + 6 * j + 1))), (3, .int (B 2 (37 + 6 * i + 1))), (0, .ref mb), (1, .int (nI i)), (2, .int (nI j))]) hx hb dX9_areNear_117 hl (k := 2) rfl (nI_1 k) (by decide) rfl (fun ls hl => ?_)
                refine lv_goto (tgt := 33) hx hb dX9_areNear_120 (by decide) ?_
                exact ihk (k + 1) ls (by omega) ⟨by omega, (by simp only [anS, hEk, Bool.false_or]; simp only [doS, decide_eq_false_iff_not]; grind), lv_sub hl [0, 3, 4, 5, 6, 7] rfl⟩
              · refine lv_iload hx hb dX9_areNear_109 (lv_at hl 0 rfl) ?_
                refine lv_iload_n hx hb dX9_areNear_111 rfl (lv_at hl 4 rfl) ?_
                refine lv_icmp_ne (tgt := 117) hx hb dX9_areNear_112 (by decide) (fun c112 => ?_) (fun c112 => ?_)
                · refine lv_iinc (v := nI (k + 1)) (lv' := [(5, .int (nI (k + 1))), (7, .int (B 2 (6 + 2 * k + 1))), (6, .int (B 2 (6 + 2 * k))), (4, .int (B 2 (37 + 6 * j + 1))), (3, .int (B 2 (37 + 6 * i + 1))), (0, .ref mb), (1, .int (nI i)), (2, .int (nI j))]) hx hb dX9_areNear_117 hl (k := 2) rfl (nI_1 k) (by decide) rfl (fun ls hl => ?_)
                  refine lv_goto (tgt := 33) hx hb dX9_areNear_120 (by decide) ?_
                  exact ihk (k + 1) ls (by omega) ⟨by omega, (by simp only [anS, hEk, Bool.false_or]; simp only [doS, decide_eq_false_iff_not]; grind), lv_sub hl [0, 3, 4, 5, 6, 7] rfl⟩
                · refine lv_iconst (v := 1) hx hb dX9_areNear_115 (by decide) ?_
                  exact z_bretR hx hb hr (by have hij : ¬ i = j := fun q => c17 (by rw [q]); have hf := anS_of (f := doS (B 2) (B 2 (37 + 6 * i + 1)) (B 2 (37 + 6 * j + 1))) hk2 (by simp only [doS, decide_eq_true_eq]; grind); simp only [neS, hij, c25, hf, not_false_eq_true, decide_true, decide_false, Bool.true_and, Bool.false_or, bI_t]) (fun q h => by cases h) rfl dX9_areNear_116 hlk
    · refine lv_iconst (v := 1) hx hb dX9_areNear_28 (by decide) ?_
      exact z_bretR hx hb hr (by have hij : ¬ i = j := fun q => c17 (by rw [q]); simp only [neS, hij, c25, not_false_eq_true, decide_true, Bool.true_and, Bool.true_or, bI_t]) (fun q h => by cases h) rfl dX9_areNear_29 hlk
  · refine lv_iconst (v := 0) hx hb dX9_areNear_20 (by decide) ?_
    exact z_bretR hx hb hr (by have : i = j := (nI_eq (by omega) (by omega)).mp c17; simp [neS, this, bI]) (fun q h => by cases h) rfl dX9_areNear_21 hlk
set_option maxHeartbeats 4000000 in
theorem mm_haveIt (l : Launch) (D : va_G) (t : Nat → ClassId) (mb : Nat) (B : BT) (x : Int32) (hh3 : B 2 3 = nI (nH (B 2))) (hh6 : nH (B 2) ≤ 6) : Met l yX9_haveIt (ws_ yX9_haveIt cX9_haveIt 4 (some .int)) ({ frames := 1, cells := 0, slots := 0, locals := 22 }) (zPc [.ref mb, .int x] (MW D t mb B) (KK D t)) (QcRead (haS (B 2) x)) 0 0 (fun _ => False) := by
  refine zOf (cc := cX9_haveIt) (maxL := 4) (ret := (some .int)) (by decide) (Nat.le_of_ble_eq_true rfl) (fun pg ev s m below meth cd ls F hP hKK hl hnm => ?_)
  obtain ⟨hx, hb, hml, hown, hts, hr, hlk⟩ := F
  have S : CallFix pg m cd cX9_haveIt 4 s _ lw_all RX9 := ⟨hx, hb, hml, hown, hts⟩
  have hl : lv_has ls 4 [(0, .ref mb), (1, .int x)] := hl
  refine lv_iconst (v := 0) hx hb dX9_haveIt_0 (by decide) ?_
  refine lv_istore_n (lv' := [(2, .int 0), (0, .ref mb), (1, .int x)]) hx hb dX9_haveIt_1 rfl hl (by decide) rfl (fun ls hl => ?_)
  refine lv_iconst (v := 0) hx hb dX9_haveIt_2 (by decide) ?_
  refine lv_istore_n (lv' := [(3, .int 0), (2, .int 0), (0, .ref mb), (1, .int x)]) hx hb dX9_haveIt_3 rfl hl (by decide) rfl (fun ls hl => ?_)
  refine W.loopR (fun (k : Nat) ls => k ≤ nH (B 2) ∧ (True) ∧ lv_has ls 4 [(3, .int (nI k)), (2, .int (nI (haL (B 2) x k))), (0, .ref mb), (1, .int x)]) (fun k => nH (B 2) - k) (fun k ls hIk ihk => ?_) 0 ⟨by omega, trivial, lv_sub hl [0, 1, 2, 3] rfl⟩
  obtain ⟨hk, hEk, hl⟩ := hIk
  refine lv_iload_n hx hb dX9_haveIt_4 rfl (lv_at hl 0 rfl) ?_
  refine lv_aload_n hx hb dX9_haveIt_5 rfl (lv_at hl 2 rfl) ?_
  refine m_get hx hb hts hown hKK hP 1 (by decide) q1248 rfl rfl dX9_haveIt_6 ?_
  refine lv_iconst (v := 3) hx hb dX9_haveIt_9 (by decide) ?_
  refine m_ald hx hb hKK hP 2 rfl (k := 3) (v := B 2 3) rfl (by omega) (by decide) rfl dX9_haveIt_10 ?_
  refine lv_icmp_ge (tgt := 59) hx hb dX9_haveIt_11 (by decide) (fun c11 => ?_) (fun c11 => ?_)
  · obtain rfl : k = nH (B 2) := Nat.le_antisymm hk (lp_end hh3 (by omega) (by omega) c11)
    refine lv_iload_n hx hb dX9_haveIt_59 rfl (lv_at hl 1 rfl) ?_
    exact z_iretR hx hb hr rfl (fun q h => by cases h) rfl dX9_haveIt_60 hlk
  · have hk2 : k < nH (B 2) := lp_go hh3 (by omega) (by omega) c11
    refine lv_iload_n hx hb dX9_haveIt_14 rfl (lv_at hl 1 rfl) ?_
    refine W.join (fun vJ => F0 m 51 ls (.int vJ :: [.int (nI (haL (B 2) x k))])) (fun vJ => vJ = (if (if x < 0 then 0 ≤ hd (B 2) k 3 else hd (B 2) k 3 = x) then 1 else 0)) (fun vJ hJ => ?_) (fun J => ?_)
    · subst hJ
      refine lv_iadd hx hb dX9_haveIt_51 ?_
      refine z_top (y := nI (haL (B 2) x (k + 1))) nI_inc ?_
      refine lv_istore_n (lv' := [(2, .int (nI (haL (B 2) x (k + 1)))), (3, .int (nI k)), (0, .ref mb), (1, .int x)]) hx hb dX9_haveIt_52 rfl hl (by decide) rfl (fun ls hl => ?_)
      refine lv_iinc (v := nI (k + 1)) (lv' := [(3, .int (nI (k + 1))), (2, .int (nI (haL (B 2) x (k + 1)))), (0, .ref mb), (1, .int x)]) hx hb dX9_haveIt_53 hl (k := 1) rfl (nI_1 k) (by decide) rfl (fun ls hl => ?_)
      refine lv_goto (tgt := 4) hx hb dX9_haveIt_56 (by decide) ?_
      exact ihk (k + 1) ls (by omega) ⟨by omega, trivial, lv_sub hl [0, 1, 2, 3] rfl⟩
    · refine lv_iload_n hx hb dX9_haveIt_15 rfl (lv_at hl 3 rfl) ?_
      refine lv_if_ge (tgt := 36) hx hb dX9_haveIt_16 (by decide) (fun c16 => ?_) (fun c16 => ?_)
      · refine lv_aload_n hx hb dX9_haveIt_36 rfl (lv_at hl 2 rfl) ?_
        refine lv_iload_n hx hb dX9_haveIt_37 rfl (lv_at hl 0 rfl) ?_
        refine lv_iconst (v := 3) hx hb dX9_haveIt_38 (by decide) ?_
        refine m_callr (As := [.int (nI k), .int 3]) (rest := [.int (nI (haL (B 2) x k))]) S hKK hP (mm_at l D t mb B k 3 (by omega)) (cwV 2 hts (lw_V q1386 q1388 qs75 q104 q1389) rfl rfl rfl (by decide +kernel) ⟨Nat.le_of_ble_eq_true rfl, Nat.le_of_ble_eq_true rfl⟩) rfl hl.1 rfl (Nat.le_of_ble_eq_true rfl) dX9_haveIt_39 ⟨Nat.le_of_ble_eq_true rfl, Nat.le_of_ble_eq_true rfl⟩ ?_
        refine lv_iload_n hx hb dX9_haveIt_42 rfl (lv_at hl 3 rfl) ?_
        refine lv_icmp_ne (tgt := 50) hx hb dX9_haveIt_43 (by decide) (fun c43 => ?_) (fun c43 => ?_)
        · refine lv_iconst (v := 0) hx hb dX9_haveIt_50 (by decide) ?_
          exact J _ (by grind)
        · refine lv_iconst (v := 1) hx hb dX9_haveIt_46 (by decide) ?_
          refine lv_goto (tgt := 51) hx hb dX9_haveIt_47 (by decide) ?_
          exact J _ (by grind)
      · refine lv_aload_n hx hb dX9_haveIt_19 rfl (lv_at hl 2 rfl) ?_
        refine lv_iload_n hx hb dX9_haveIt_20 rfl (lv_at hl 0 rfl) ?_
        refine lv_iconst (v := 3) hx hb dX9_haveIt_21 (by decide) ?_
        refine m_callr (As := [.int (nI k), .int 3]) (rest := [.int (nI (haL (B 2) x k))]) S hKK hP (mm_at l D t mb B k 3 (by omega)) (cwV 2 hts (lw_V q1386 q1388 qs75 q104 q1389) rfl rfl rfl (by decide +kernel) ⟨Nat.le_of_ble_eq_true rfl, Nat.le_of_ble_eq_true rfl⟩) rfl hl.1 rfl (Nat.le_of_ble_eq_true rfl) dX9_haveIt_22 ⟨Nat.le_of_ble_eq_true rfl, Nat.le_of_ble_eq_true rfl⟩ ?_
        refine lv_if_lt (tgt := 32) hx hb dX9_haveIt_25 (by decide) (fun c25 => ?_) (fun c25 => ?_)
        · refine lv_iconst (v := 0) hx hb dX9_haveIt_32 (by decide) ?_
          refine lv_goto (tgt := 51) hx hb dX9_haveIt_33 (by decide) ?_
          exact J _ (by grind)
        · refine lv_iconst (v := 1) hx hb dX9_haveIt_28 (by decide) ?_
          refine lv_goto (tgt := 51) hx hb dX9_haveIt_29 (by decide) ?_
          exact J _ (by grind)
