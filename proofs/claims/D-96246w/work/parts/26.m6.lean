/-! THE MODEL's FACE (1): printed by wip/D-96246w/gen/gen_m6.py -/
set_option maxRecDepth 100000
set_option maxHeartbeats 4000000 in
theorem mm_letter (l : Launch) (D : va_G) (t : Nat → ClassId) (mb : Nat) (B : BT) (x : Int32) (hB : OkB B) : Met l yX9_letter (ws_ yX9_letter cX9_letter 3 (some .int)) ({ frames := 1, cells := 0, slots := 0, locals := 22 }) (zPc [.ref mb, .int x] (MW D t mb B) (KK D t)) (va_Qi (fun r B' => r = (letS B x).1 ∧ PE (letS B x).2 B') (fun B' U => MW D t mb B' U.heap) (mA mb)) 0 0 (mA mb) := by
  refine zOf (cc := cX9_letter) (maxL := 3) (ret := (some .int)) (by decide) (Nat.le_of_ble_eq_true rfl) (fun pg ev s m below meth cd ls F hP hKK hl hnm => ?_)
  obtain ⟨hx, hb, hml, hown, hts, hr, hlk⟩ := F
  have S : CallFix pg m cd cX9_letter 3 s _ lw_all RX9 := ⟨hx, hb, hml, hown, hts⟩
  have hl : lv_has ls 3 [(0, .ref mb), (1, .int x)] := hl
  have hS : va_S (mA mb) s.heap s.heap [] := va_S.rf
  have ho := hB.1
  have hj6 := ho.h6
  have hs5 := ho.s5
  have hd8 := ho.d8
  have hh3 := ho.hr3
  have hh6 := ho.h6
  have hd0 := ho.hr0
  refine lv_iload_n hx hb dX9_letter_0 rfl (lv_at hl 1 rfl) ?_
  refine lv_iconst (v := 0) hx hb dX9_letter_1 (by decide) ?_
  refine lv_sipush (v := 255) hx hb dX9_letter_2 (by decide) ?_
  refine m_callS (As := [.int x, .int 0, .int 255]) (rest := []) S hKK trivial (mm_within l D t x 0 255) (va_cwS 3 hts (lw_S q1303 q1304 q104 q1305) rfl rfl rfl (by decide +kernel) ⟨Nat.le_of_ble_eq_true rfl, Nat.le_of_ble_eq_true rfl⟩) rfl hl.1 rfl (Nat.le_of_ble_eq_true rfl) dX9_letter_5 ⟨Nat.le_of_ble_eq_true rfl, Nat.le_of_ble_eq_true rfl⟩ ?_
  refine lv_istore_n (lv' := [(2, .int (wiS x 0 255)), (0, .ref mb), (1, .int x)]) hx hb dX9_letter_8 rfl hl (by decide) rfl (fun ls hl => ?_)
  refine W.join (α := Array Slot) (fun ls => F0 m 25 ls []) (fun ls => lv_has ls 3 [(2, .int (leN B x)), (0, .ref mb), (1, .int x)]) (fun ls hl => ?_) (fun JL => ?_)
  · refine lv_iload_n hx hb dX9_letter_25 rfl (lv_at hl 0 rfl) ?_
    refine lv_if_eq (tgt := 35) hx hb dX9_letter_26 (by decide) (fun c26 => ?_) (fun c26 => ?_)
    · have h96 : ix (B 0 1) < 96 := by
        have h1 := hB.2.2.1
        rcases Nat.lt_or_ge (ix (B 0 1)) 96 with q | q
        · exact q
        · exfalso
          have e : B 0 1 = 96 := by rw [h1.1, show ix (B 0 1) = 96 by omega]; rfl
          unfold leN at c26
          grind
      refine lv_aload_n hx hb dX9_letter_35 rfl (lv_at hl 1 rfl) ?_
      refine m_get hx hb hts hown hKK hP 11 (by decide) q1258 rfl rfl dX9_letter_36 ?_
      refine lv_aload_n hx hb dX9_letter_39 rfl (lv_at hl 1 rfl) ?_
      refine m_get hx hb hts hown hKK hP 13 (by decide) q1260 rfl rfl dX9_letter_40 ?_
      refine lv_iload_n hx hb dX9_letter_43 rfl (lv_at hl 2 rfl) ?_
      refine m_ast hx hb hKK hP hS 11 rfl (k := ix (B 0 1)) hB.2.2.1.1 (by omega) (by decide) rfl dX9_letter_44 (fun H locs hP hS => ?_)
      refine lv_aload_n hx hb dX9_letter_45 rfl (lv_at hl 1 rfl) ?_
      refine lv_dup hx hb dX9_letter_46 rfl ?_
      refine m_get hx hb hts hown hKK hP 13 (by decide) q1260 rfl rfl dX9_letter_47 ?_
      refine lv_iconst (v := 1) hx hb dX9_letter_50 (by decide) ?_
      refine lv_iadd hx hb dX9_letter_51 ?_
      refine m_put (ty := .int) hx hb hts hown hKK hP hS 13 1 (by decide) q1260 rfl rfl (by decide +kernel) rfl rfl rfl dX9_letter_52 (fun H locs hP hS => ?_)
      refine lv_aload_n hx hb dX9_letter_55 rfl (lv_at hl 1 rfl) ?_
      refine m_get hx hb hts hown hKK hP 13 (by decide) q1260 rfl rfl dX9_letter_56 ?_
      exact m_iret hx hb hr (ok_close (o := letS B x) (if_pos c26) (PE.rf _)) hP hS dX9_letter_59 hlk
    · have hno : rfOk (leN B x) := by unfold leN at c26 ⊢; split; exact rf_m6; exact rf_wi (by grind)
      refine lv_aload_n hx hb dX9_letter_29 rfl (lv_at hl 1 rfl) ?_
      refine lv_iload_n hx hb dX9_letter_30 rfl (lv_at hl 0 rfl) ?_
      refine m_calli (As := [.int (leN B x)]) (rest := []) S hKK hP hS (mm_refuse l D t mb B (leN B x) (ix (-(leN B x))) (rf1 hno) (rf2 hno)) (cwV 1 hts (lw_V q1306 q1308 qs60 q104 q1309) rfl rfl rfl (by decide +kernel) ⟨Nat.le_of_ble_eq_true rfl, Nat.le_of_ble_eq_true rfl⟩) rfl hl.1 rfl (Nat.le_of_ble_eq_true rfl) dX9_letter_31 ⟨Nat.le_of_ble_eq_true rfl, Nat.le_of_ble_eq_true rfl⟩ (fun r31 B31 H locs h31 hP hS => ?_)
      exact m_iret hx hb hr (rf_close h31 (if_neg c26)) hP hS dX9_letter_34 hlk
  · refine lv_iload_n hx hb dX9_letter_9 rfl (lv_at hl 0 rfl) ?_
    refine lv_if_ne (tgt := 25) hx hb dX9_letter_10 (by decide) (fun c10 => ?_) (fun c10 => ?_)
    · exact JL ls (by rw [show leN B x = wiS x 0 255 from (by grind [leN])]; exact lv_sub hl [0, 1, 2] rfl)
    · refine lv_aload_n hx hb dX9_letter_13 rfl (lv_at hl 1 rfl) ?_
      refine m_get hx hb hts hown hKK hP 13 (by decide) q1260 rfl rfl dX9_letter_14 ?_
      refine lv_bipush (v := 96) hx hb dX9_letter_17 (by decide) ?_
      refine lv_icmp_ne (tgt := 25) hx hb dX9_letter_19 (by decide) (fun c19 => ?_) (fun c19 => ?_)
      · exact JL ls (by rw [show leN B x = wiS x 0 255 from (by grind [leN])]; exact lv_sub hl [0, 1, 2] rfl)
      · refine lv_bipush (v := (-6)) hx hb dX9_letter_22 (by decide) ?_
        refine lv_istore_n (lv' := [(2, .int (-6)), (0, .ref mb), (1, .int x)]) hx hb dX9_letter_24 rfl hl (by decide) rfl (fun ls hl => ?_)
        exact JL ls (by rw [show leN B x = (-6) from (by grind [leN])]; exact lv_sub hl [0, 1, 2] rfl)
set_option maxHeartbeats 4000000 in
theorem mm_song (l : Launch) (D : va_G) (t : Nat → ClassId) (mb : Nat) (B : BT) (x : Int32) (y : Int32) (hB : OkB B) : Met l yX9_song (ws_ yX9_song cX9_song 3 (some .int)) ({ frames := 2, cells := 0, slots := 0, locals := 45 }) (zPc [.ref mb, .int x, .int y] (MW D t mb B) (KK D t)) (va_Qi (fun r B' => r = (songS B x y).1 ∧ PE (songS B x y).2 B') (fun B' U => MW D t mb B' U.heap) (mA mb)) 0 0 (mA mb) := by
  refine zOf (cc := cX9_song) (maxL := 3) (ret := (some .int)) (by decide) (Nat.le_of_ble_eq_true rfl) (fun pg ev s m below meth cd ls F hP hKK hl hnm => ?_)
  obtain ⟨hx, hb, hml, hown, hts, hr, hlk⟩ := F
  have S : CallFix pg m cd cX9_song 3 s _ lw_all RX9 := ⟨hx, hb, hml, hown, hts⟩
  have hl : lv_has ls 3 [(0, .ref mb), (1, .int x), (2, .int y)] := hl
  have hS : va_S (mA mb) s.heap s.heap [] := va_S.rf
  have ho := hB.1
  have hj6 := ho.h6
  have hs5 := ho.s5
  have hd8 := ho.d8
  have hh3 := ho.hr3
  have hh6 := ho.h6
  have hd0 := ho.hr0
  refine lv_aload_n hx hb dX9_song_0 rfl (lv_at hl 0 rfl) ?_
  refine lv_iload_n hx hb dX9_song_1 rfl (lv_at hl 1 rfl) ?_
  refine m_callr (As := [.int x]) (rest := []) S hKK hP (mm_isSong l D t mb B x) (cwV 1 hts (lw_V q1362 q1364 qs70 q104 q1365) rfl rfl rfl (by decide +kernel) ⟨Nat.le_of_ble_eq_true rfl, Nat.le_of_ble_eq_true rfl⟩) rfl hl.1 rfl (Nat.le_of_ble_eq_true rfl) dX9_song_2 ⟨Nat.le_of_ble_eq_true rfl, Nat.le_of_ble_eq_true rfl⟩ ?_
  refine z_ifne (tgt := 14) hx hb dX9_song_5 (by decide) (fun c5 => ?_) (fun c5 => ?_)
  · have hh := isS_ix ho c5
    refine lv_iload_n hx hb dX9_song_14 rfl (lv_at hl 2 rfl) ?_
    refine lv_iconst (v := 3) hx hb dX9_song_15 (by decide) ?_
    refine m_callS (As := [.int y, .int 3]) (rest := []) S hKK trivial (mm_isIn l D t y 3) (va_cwS 2 hts (lw_S q1330 q1331 q104 q1332) rfl rfl rfl (by decide +kernel) ⟨Nat.le_of_ble_eq_true rfl, Nat.le_of_ble_eq_true rfl⟩) rfl hl.1 rfl (Nat.le_of_ble_eq_true rfl) dX9_song_16 ⟨Nat.le_of_ble_eq_true rfl, Nat.le_of_ble_eq_true rfl⟩ ?_
    refine z_ifeq (tgt := 31) hx hb dX9_song_19 (by decide) (fun c19 => ?_) (fun c19 => ?_)
    · refine lv_iload_n hx hb dX9_song_31 rfl (lv_at hl 2 rfl) ?_
      refine lv_iconst (v := 3) hx hb dX9_song_32 (by decide) ?_
      refine lv_icmp_ne (tgt := 44) hx hb dX9_song_33 (by decide) (fun c33 => ?_) (fun c33 => ?_)
      · refine lv_iload_n hx hb dX9_song_44 rfl (lv_at hl 2 rfl) ?_
        refine lv_iconst (v := 4) hx hb dX9_song_45 (by decide) ?_
        refine lv_icmp_ne (tgt := 57) hx hb dX9_song_46 (by decide) (fun c46 => ?_) (fun c46 => ?_)
        · refine lv_aload_n hx hb dX9_song_57 rfl (lv_at hl 0 rfl) ?_
          refine lv_bipush (v := (-2)) hx hb dX9_song_58 (by decide) ?_
          refine m_calli (As := [.int (-2)]) (rest := []) S hKK hP hS (mm_refuse l D t mb B (-2) (ix (-(-2))) (rf1 rf_m2) (rf2 rf_m2)) (cwV 1 hts (lw_V q1306 q1308 qs60 q104 q1309) rfl rfl rfl (by decide +kernel) ⟨Nat.le_of_ble_eq_true rfl, Nat.le_of_ble_eq_true rfl⟩) rfl hl.1 rfl (Nat.le_of_ble_eq_true rfl) dX9_song_60 ⟨Nat.le_of_ble_eq_true rfl, Nat.le_of_ble_eq_true rfl⟩ (fun r60 B60 H locs h60 hP hS => ?_)
          exact m_iret hx hb hr (rf_close h60 (by unfold songS; rw [if_pos (show isS (B 2) x = true from c5)]; rw [if_neg (show ¬ isI y 3 = true by unfold isI; rw [show (decide (0 ≤ y ∧ y < 3)) = false from c19]; decide)]; rw [if_neg c33, if_neg c46])) hP hS dX9_song_63 hlk
        · refine lv_aload_n hx hb dX9_song_49 rfl (lv_at hl 0 rfl) ?_
          refine lv_iload_n hx hb dX9_song_50 rfl (lv_at hl 1 rfl) ?_
          refine m_callr (As := [.int x]) (rest := []) S hKK hP (mm_haveIt l D t mb B x hh3 hh6) (cwV 1 hts (lw_V q1382 q1384 qs74 q104 q1385) rfl rfl rfl (by decide +kernel) ⟨Nat.le_of_ble_eq_true rfl, Nat.le_of_ble_eq_true rfl⟩) rfl hl.1 rfl (Nat.le_of_ble_eq_true rfl) dX9_song_51 ⟨Nat.le_of_ble_eq_true rfl, Nat.le_of_ble_eq_true rfl⟩ ?_
          refine lv_goto (tgt := 63) hx hb dX9_song_54 (by decide) ?_
          exact m_iret hx hb hr (ok_close (o := songS B x y) (by unfold songS; rw [if_pos (show isS (B 2) x = true from c5)]; rw [if_neg (show ¬ isI y 3 = true by unfold isI; rw [show (decide (0 ≤ y ∧ y < 3)) = false from c19]; decide)]; rw [if_neg c33, if_pos c46]) (PE.rf _)) hP hS dX9_song_63 hlk
      · refine lv_aload_n hx hb dX9_song_36 rfl (lv_at hl 0 rfl) ?_
        refine lv_iload_n hx hb dX9_song_37 rfl (lv_at hl 1 rfl) ?_
        refine z_stk (st' := [.int (nI (ix x)), .ref mb]) (by rw [← show x = nI (ix x) from hh.1]) ?_
        refine m_callr (As := [.int (nI (ix x))]) (rest := []) S hKK hP (mm_fresh l D t mb B (ix x) (by omega)) (cwV 1 hts (lw_V q1370 q1372 qs72 q104 q1373) rfl rfl rfl (by decide +kernel) ⟨Nat.le_of_ble_eq_true rfl, Nat.le_of_ble_eq_true rfl⟩) rfl hl.1 rfl (Nat.le_of_ble_eq_true rfl) dX9_song_38 ⟨Nat.le_of_ble_eq_true rfl, Nat.le_of_ble_eq_true rfl⟩ ?_
        refine lv_goto (tgt := 63) hx hb dX9_song_41 (by decide) ?_
        exact m_iret hx hb hr (ok_close (o := songS B x y) (by unfold songS; rw [if_pos (show isS (B 2) x = true from c5)]; rw [if_neg (show ¬ isI y 3 = true by unfold isI; rw [show (decide (0 ≤ y ∧ y < 3)) = false from c19]; decide)]; rw [if_pos c33]) (PE.rf _)) hP hS dX9_song_63 hlk
    · have hy := isI_ix (n := 3) (by omega) c19
      refine lv_aload_n hx hb dX9_song_22 rfl (lv_at hl 0 rfl) ?_
      refine lv_iload_n hx hb dX9_song_23 rfl (lv_at hl 1 rfl) ?_
      refine lv_iload_n hx hb dX9_song_24 rfl (lv_at hl 2 rfl) ?_
      refine z_stk (st' := [.int (nI (ix y)), .int (nI (ix x)), .ref mb]) (by rw [← show x = nI (ix x) from hh.1]; rw [← show y = nI (ix y) from hy.1]) ?_
      refine m_callr (As := [.int (nI (ix x)), .int (nI (ix y))]) (rest := []) S hKK hP (mm_of l D t mb B (ix x) (ix y) (by omega)) (cwV 2 hts (lw_V q1374 q1376 qs73 q104 q1377) rfl rfl rfl (by decide +kernel) ⟨Nat.le_of_ble_eq_true rfl, Nat.le_of_ble_eq_true rfl⟩) rfl hl.1 rfl (Nat.le_of_ble_eq_true rfl) dX9_song_25 ⟨Nat.le_of_ble_eq_true rfl, Nat.le_of_ble_eq_true rfl⟩ ?_
      refine lv_goto (tgt := 63) hx hb dX9_song_28 (by decide) ?_
      exact m_iret hx hb hr (ok_close (o := songS B x y) (by unfold songS; rw [if_pos (show isS (B 2) x = true from c5)]; rw [if_pos (show isI y 3 = true from c19)]) (PE.rf _)) hP hS dX9_song_63 hlk
  · refine lv_aload_n hx hb dX9_song_8 rfl (lv_at hl 0 rfl) ?_
    refine lv_iconst (v := (-1)) hx hb dX9_song_9 (by decide) ?_
    refine m_calli (As := [.int (-1)]) (rest := []) S hKK hP hS (mm_refuse l D t mb B (-1) (ix (-(-1))) (rf1 rf_m1) (rf2 rf_m1)) (cwV 1 hts (lw_V q1306 q1308 qs60 q104 q1309) rfl rfl rfl (by decide +kernel) ⟨Nat.le_of_ble_eq_true rfl, Nat.le_of_ble_eq_true rfl⟩) rfl hl.1 rfl (Nat.le_of_ble_eq_true rfl) dX9_song_10 ⟨Nat.le_of_ble_eq_true rfl, Nat.le_of_ble_eq_true rfl⟩ (fun r10 B10 H locs h10 hP hS => ?_)
    exact m_iret hx hb hr (rf_close h10 (by unfold songS; rw [if_neg (by unfold isS; rw [c5]; decide)])) hP hS dX9_song_13 hlk
set_option maxHeartbeats 4000000 in
theorem mm_head (l : Launch) (D : va_G) (t : Nat → ClassId) (mb : Nat) (B : BT) (x : Int32) (y : Int32) (hB : OkB B) : Met l yX9_head (ws_ yX9_head cX9_head 3 (some .int)) ({ frames := 2, cells := 0, slots := 0, locals := 44 }) (zPc [.ref mb, .int x, .int y] (MW D t mb B) (KK D t)) (va_Qi (fun r B' => r = (headS B x y).1 ∧ PE (headS B x y).2 B') (fun B' U => MW D t mb B' U.heap) (mA mb)) 0 0 (mA mb) := by
  refine zOf (cc := cX9_head) (maxL := 3) (ret := (some .int)) (by decide) (Nat.le_of_ble_eq_true rfl) (fun pg ev s m below meth cd ls F hP hKK hl hnm => ?_)
  obtain ⟨hx, hb, hml, hown, hts, hr, hlk⟩ := F
  have S : CallFix pg m cd cX9_head 3 s _ lw_all RX9 := ⟨hx, hb, hml, hown, hts⟩
  have hl : lv_has ls 3 [(0, .ref mb), (1, .int x), (2, .int y)] := hl
  have hS : va_S (mA mb) s.heap s.heap [] := va_S.rf
  have ho := hB.1
  have hj6 := ho.h6
  have hs5 := ho.s5
  have hd8 := ho.d8
  have hh3 := ho.hr3
  have hh6 := ho.h6
  have hd0 := ho.hr0
  refine lv_aload_n hx hb dX9_head_0 rfl (lv_at hl 0 rfl) ?_
  refine lv_iload_n hx hb dX9_head_1 rfl (lv_at hl 1 rfl) ?_
  refine m_callr (As := [.int x]) (rest := []) S hKK hP (mm_isHead l D t mb B x) (cwV 1 hts (lw_V q1358 q1360 qs69 q104 q1361) rfl rfl rfl (by decide +kernel) ⟨Nat.le_of_ble_eq_true rfl, Nat.le_of_ble_eq_true rfl⟩) rfl hl.1 rfl (Nat.le_of_ble_eq_true rfl) dX9_head_2 ⟨Nat.le_of_ble_eq_true rfl, Nat.le_of_ble_eq_true rfl⟩ ?_
  refine z_ifne (tgt := 14) hx hb dX9_head_5 (by decide) (fun c5 => ?_) (fun c5 => ?_)
  · have hh := isH_ix ho c5
    refine lv_iload_n hx hb dX9_head_14 rfl (lv_at hl 2 rfl) ?_
    refine lv_bipush (v := 6) hx hb dX9_head_15 (by decide) ?_
    refine m_callS (As := [.int y, .int 6]) (rest := []) S hKK trivial (mm_isIn l D t y 6) (va_cwS 2 hts (lw_S q1330 q1331 q104 q1332) rfl rfl rfl (by decide +kernel) ⟨Nat.le_of_ble_eq_true rfl, Nat.le_of_ble_eq_true rfl⟩) rfl hl.1 rfl (Nat.le_of_ble_eq_true rfl) dX9_head_17 ⟨Nat.le_of_ble_eq_true rfl, Nat.le_of_ble_eq_true rfl⟩ ?_
    refine z_ifeq (tgt := 32) hx hb dX9_head_20 (by decide) (fun c20 => ?_) (fun c20 => ?_)
    · refine lv_iload_n hx hb dX9_head_32 rfl (lv_at hl 2 rfl) ?_
      refine lv_bipush (v := 6) hx hb dX9_head_33 (by decide) ?_
      refine lv_icmp_ne (tgt := 46) hx hb dX9_head_35 (by decide) (fun c35 => ?_) (fun c35 => ?_)
      · refine lv_iload_n hx hb dX9_head_46 rfl (lv_at hl 2 rfl) ?_
        refine lv_bipush (v := 7) hx hb dX9_head_47 (by decide) ?_
        refine lv_icmp_ne (tgt := 68) hx hb dX9_head_49 (by decide) (fun c49 => ?_) (fun c49 => ?_)
        · refine lv_aload_n hx hb dX9_head_68 rfl (lv_at hl 0 rfl) ?_
          refine lv_bipush (v := (-2)) hx hb dX9_head_69 (by decide) ?_
          refine m_calli (As := [.int (-2)]) (rest := []) S hKK hP hS (mm_refuse l D t mb B (-2) (ix (-(-2))) (rf1 rf_m2) (rf2 rf_m2)) (cwV 1 hts (lw_V q1306 q1308 qs60 q104 q1309) rfl rfl rfl (by decide +kernel) ⟨Nat.le_of_ble_eq_true rfl, Nat.le_of_ble_eq_true rfl⟩) rfl hl.1 rfl (Nat.le_of_ble_eq_true rfl) dX9_head_71 ⟨Nat.le_of_ble_eq_true rfl, Nat.le_of_ble_eq_true rfl⟩ (fun r71 B71 H locs h71 hP hS => ?_)
          exact m_iret hx hb hr (rf_close h71 (by unfold headS; rw [if_pos (show isH (B 2) x = true from c5)]; rw [if_neg (show ¬ isI y 6 = true by unfold isI; rw [show (decide (0 ≤ y ∧ y < 6)) = false from c20]; decide)]; rw [if_neg c35, if_neg c49])) hP hS dX9_head_74 hlk
        · refine lv_aload_n hx hb dX9_head_52 rfl (lv_at hl 0 rfl) ?_
          refine lv_iload_n hx hb dX9_head_53 rfl (lv_at hl 1 rfl) ?_
          refine z_stk (st' := [.int (nI (ix x)), .ref mb]) (by rw [← show x = nI (ix x) from hh.1]) ?_
          refine m_callr (As := [.int (nI (ix x))]) (rest := []) S hKK hP (mm_hums l D t mb B (ix x) (by omega)) (cwV 1 hts (lw_V q1398 q1400 qs77 q104 q1401) rfl rfl rfl (by decide +kernel) ⟨Nat.le_of_ble_eq_true rfl, Nat.le_of_ble_eq_true rfl⟩) rfl hl.1 rfl (Nat.le_of_ble_eq_true rfl) dX9_head_54 ⟨Nat.le_of_ble_eq_true rfl, Nat.le_of_ble_eq_true rfl⟩ ?_
          refine z_ifeq (tgt := 64) hx hb dX9_head_57 (by decide) (fun c57 => ?_) (fun c57 => ?_)
          · refine lv_iconst (v := 0) hx hb dX9_head_64 (by decide) ?_
            refine lv_goto (tgt := 74) hx hb dX9_head_65 (by decide) ?_
            exact m_iret hx hb hr (ok_close (o := headS B x y) (by unfold headS; rw [if_pos (show isH (B 2) x = true from c5)]; rw [if_neg (show ¬ isI y 6 = true by unfold isI; rw [show (decide (0 ≤ y ∧ y < 6)) = false from c20]; decide)]; rw [if_neg c35, if_pos c49, c57]; rfl) (PE.rf _)) hP hS dX9_head_74 hlk
          · refine lv_iconst (v := 1) hx hb dX9_head_60 (by decide) ?_
            refine lv_goto (tgt := 74) hx hb dX9_head_61 (by decide) ?_
            exact m_iret hx hb hr (ok_close (o := headS B x y) (by unfold headS; rw [if_pos (show isH (B 2) x = true from c5)]; rw [if_neg (show ¬ isI y 6 = true by unfold isI; rw [show (decide (0 ≤ y ∧ y < 6)) = false from c20]; decide)]; rw [if_neg c35, if_pos c49, c57]; rfl) (PE.rf _)) hP hS dX9_head_74 hlk
      · refine lv_aload_n hx hb dX9_head_38 rfl (lv_at hl 0 rfl) ?_
        refine lv_iload_n hx hb dX9_head_39 rfl (lv_at hl 1 rfl) ?_
        refine z_stk (st' := [.int (nI (ix x)), .ref mb]) (by rw [← show x = nI (ix x) from hh.1]) ?_
        refine m_callr (As := [.int (nI (ix x))]) (rest := []) S hKK hP (mm_bar l D t mb B (ix x) (by omega)) (cwV 1 hts (lw_V q1394 q1396 qs76 q104 q1397) rfl rfl rfl (by decide +kernel) ⟨Nat.le_of_ble_eq_true rfl, Nat.le_of_ble_eq_true rfl⟩) rfl hl.1 rfl (Nat.le_of_ble_eq_true rfl) dX9_head_40 ⟨Nat.le_of_ble_eq_true rfl, Nat.le_of_ble_eq_true rfl⟩ ?_
        refine lv_goto (tgt := 74) hx hb dX9_head_43 (by decide) ?_
        exact m_iret hx hb hr (ok_close (o := headS B x y) (by unfold headS; rw [if_pos (show isH (B 2) x = true from c5)]; rw [if_neg (show ¬ isI y 6 = true by unfold isI; rw [show (decide (0 ≤ y ∧ y < 6)) = false from c20]; decide)]; rw [if_pos c35]) (PE.rf _)) hP hS dX9_head_74 hlk
    · have hy := isI_ix (n := 6) (by omega) c20
      refine lv_aload_n hx hb dX9_head_23 rfl (lv_at hl 0 rfl) ?_
      refine lv_iload_n hx hb dX9_head_24 rfl (lv_at hl 1 rfl) ?_
      refine lv_iload_n hx hb dX9_head_25 rfl (lv_at hl 2 rfl) ?_
      refine z_stk (st' := [.int (nI (ix y)), .int (nI (ix x)), .ref mb]) (by rw [← show x = nI (ix x) from hh.1]; rw [← show y = nI (ix y) from hy.1]) ?_
      refine m_callr (As := [.int (nI (ix x)), .int (nI (ix y))]) (rest := []) S hKK hP (mm_at l D t mb B (ix x) (ix y) (by omega)) (cwV 2 hts (lw_V q1386 q1388 qs75 q104 q1389) rfl rfl rfl (by decide +kernel) ⟨Nat.le_of_ble_eq_true rfl, Nat.le_of_ble_eq_true rfl⟩) rfl hl.1 rfl (Nat.le_of_ble_eq_true rfl) dX9_head_26 ⟨Nat.le_of_ble_eq_true rfl, Nat.le_of_ble_eq_true rfl⟩ ?_
      refine lv_goto (tgt := 74) hx hb dX9_head_29 (by decide) ?_
      exact m_iret hx hb hr (ok_close (o := headS B x y) (by unfold headS; rw [if_pos (show isH (B 2) x = true from c5)]; rw [if_pos (show isI y 6 = true from c20)]) (PE.rf _)) hP hS dX9_head_74 hlk
  · refine lv_aload_n hx hb dX9_head_8 rfl (lv_at hl 0 rfl) ?_
    refine lv_iconst (v := (-1)) hx hb dX9_head_9 (by decide) ?_
    refine m_calli (As := [.int (-1)]) (rest := []) S hKK hP hS (mm_refuse l D t mb B (-1) (ix (-(-1))) (rf1 rf_m1) (rf2 rf_m1)) (cwV 1 hts (lw_V q1306 q1308 qs60 q104 q1309) rfl rfl rfl (by decide +kernel) ⟨Nat.le_of_ble_eq_true rfl, Nat.le_of_ble_eq_true rfl⟩) rfl hl.1 rfl (Nat.le_of_ble_eq_true rfl) dX9_head_10 ⟨Nat.le_of_ble_eq_true rfl, Nat.le_of_ble_eq_true rfl⟩ (fun r10 B10 H locs h10 hP hS => ?_)
    exact m_iret hx hb hr (rf_close h10 (by unfold headS; rw [if_neg (by unfold isH; rw [c5]; decide)])) hP hS dX9_head_13 hlk
set_option maxHeartbeats 4000000 in
theorem mm_near (l : Launch) (D : va_G) (t : Nat → ClassId) (mb : Nat) (B : BT) (x : Int32) (hB : OkB B) : Met l yX9_near (ws_ yX9_near cX9_near 4 (some .int)) ({ frames := 2, cells := 0, slots := 0, locals := 49 }) (zPc [.ref mb, .int x] (MW D t mb B) (KK D t)) (va_Qi (fun r B' => r = (nearS B x).1 ∧ PE (nearS B x).2 B') (fun B' U => MW D t mb B' U.heap) (mA mb)) 0 0 (mA mb) := by
  refine zOf (cc := cX9_near) (maxL := 4) (ret := (some .int)) (by decide) (Nat.le_of_ble_eq_true rfl) (fun pg ev s m below meth cd ls F hP hKK hl hnm => ?_)
  obtain ⟨hx, hb, hml, hown, hts, hr, hlk⟩ := F
  have S : CallFix pg m cd cX9_near 4 s _ lw_all RX9 := ⟨hx, hb, hml, hown, hts⟩
  have hl : lv_has ls 4 [(0, .ref mb), (1, .int x)] := hl
  have hS : va_S (mA mb) s.heap s.heap [] := va_S.rf
  have ho := hB.1
  have hj6 := ho.h6
  have hs5 := ho.s5
  have hd8 := ho.d8
  have hh3 := ho.hr3
  have hh6 := ho.h6
  have hd0 := ho.hr0
  refine lv_aload_n hx hb dX9_near_0 rfl (lv_at hl 0 rfl) ?_
  refine lv_iload_n hx hb dX9_near_1 rfl (lv_at hl 1 rfl) ?_
  refine m_callr (As := [.int x]) (rest := []) S hKK hP (mm_isHead l D t mb B x) (cwV 1 hts (lw_V q1358 q1360 qs69 q104 q1361) rfl rfl rfl (by decide +kernel) ⟨Nat.le_of_ble_eq_true rfl, Nat.le_of_ble_eq_true rfl⟩) rfl hl.1 rfl (Nat.le_of_ble_eq_true rfl) dX9_near_2 ⟨Nat.le_of_ble_eq_true rfl, Nat.le_of_ble_eq_true rfl⟩ ?_
  refine z_ifne (tgt := 14) hx hb dX9_near_5 (by decide) (fun c5 => ?_) (fun c5 => ?_)
  · have hh := isH_ix ho c5
    refine lv_iconst (v := 0) hx hb dX9_near_14 (by decide) ?_
    refine lv_istore_n (lv' := [(2, .int 0), (0, .ref mb), (1, .int x)]) hx hb dX9_near_15 rfl hl (by decide) rfl (fun ls hl => ?_)
    refine lv_iconst (v := 0) hx hb dX9_near_16 (by decide) ?_
    refine lv_istore_n (lv' := [(3, .int 0), (2, .int 0), (0, .ref mb), (1, .int x)]) hx hb dX9_near_17 rfl hl (by decide) rfl (fun ls hl => ?_)
    refine W.loopR (fun (k : Nat) ls => k ≤ nH (B 2) ∧ (True) ∧ lv_has ls 4 [(3, .int (nI k)), (2, .int (neB (B 2) (ix x) k)), (0, .ref mb), (1, .int x)]) (fun k => nH (B 2) - k) (fun k ls hIk ihk => ?_) 0 ⟨by omega, trivial, lv_sub hl [0, 1, 2, 3] rfl⟩
    obtain ⟨hk, hEk, hl⟩ := hIk
    refine lv_iload_n hx hb dX9_near_18 rfl (lv_at hl 0 rfl) ?_
    refine lv_aload_n hx hb dX9_near_19 rfl (lv_at hl 2 rfl) ?_
    refine m_get hx hb hts hown hKK hP 1 (by decide) q1248 rfl rfl dX9_near_20 ?_
    refine lv_iconst (v := 3) hx hb dX9_near_23 (by decide) ?_
    refine m_ald hx hb hKK hP 2 rfl (k := 3) (v := B 2 3) rfl (by omega) (by decide) rfl dX9_near_24 ?_
    refine lv_icmp_ge (tgt := 53) hx hb dX9_near_25 (by decide) (fun c25 => ?_) (fun c25 => ?_)
    · obtain rfl : k = nH (B 2) := Nat.le_antisymm hk (lp_end hh3 (by omega) (by omega) c25)
      refine lv_iload_n hx hb dX9_near_53 rfl (lv_at hl 1 rfl) ?_
      exact m_iret hx hb hr (ok_close (o := nearS B x) (if_pos c5) (PE.rf _)) hP hS dX9_near_54 hlk
    · have hk2 : k < nH (B 2) := lp_go hh3 (by omega) (by omega) c25
      refine lv_iload_n hx hb dX9_near_28 rfl (lv_at hl 1 rfl) ?_
      refine W.join (fun vJ => F0 m 45 ls (.int vJ :: [.int (neB (B 2) (ix x) k)])) (fun vJ => vJ = (if neS (B 2) (ix x) k = true then (1 <<< (nI k &&& 31)) else 0)) (fun vJ hJ => ?_) (fun J => ?_)
      · subst hJ
        refine lv_ior hx hb dX9_near_45 ?_
        refine z_top (y := neB (B 2) (ix x) (k + 1)) rfl ?_
        refine lv_istore_n (lv' := [(2, .int (neB (B 2) (ix x) (k + 1))), (3, .int (nI k)), (0, .ref mb), (1, .int x)]) hx hb dX9_near_46 rfl hl (by decide) rfl (fun ls hl => ?_)
        refine lv_iinc (v := nI (k + 1)) (lv' := [(3, .int (nI (k + 1))), (2, .int (neB (B 2) (ix x) (k + 1))), (0, .ref mb), (1, .int x)]) hx hb dX9_near_47 hl (k := 1) rfl (nI_1 k) (by decide) rfl (fun ls hl => ?_)
        refine lv_goto (tgt := 18) hx hb dX9_near_50 (by decide) ?_
        exact ihk (k + 1) ls (by omega) ⟨by omega, trivial, lv_sub hl [0, 1, 2, 3] rfl⟩
      · refine lv_aload_n hx hb dX9_near_29 rfl (lv_at hl 2 rfl) ?_
        refine lv_iload_n hx hb dX9_near_30 rfl (lv_at hl 3 rfl) ?_
        refine lv_iload_n hx hb dX9_near_31 rfl (lv_at hl 0 rfl) ?_
        refine z_stk (st' := [.int (nI k), .int (nI (ix x)), .ref mb, .int (neB (B 2) (ix x) k)]) (by rw [← show x = nI (ix x) from hh.1]) ?_
        refine m_callr (As := [.int (nI (ix x)), .int (nI k)]) (rest := [.int (neB (B 2) (ix x) k)]) S hKK hP (mm_areNear l D t mb B (ix x) k (by omega) (by omega) hd0 hd8) (cwV 2 hts (lw_V q1406 q1408 qs78 q104 q1409) rfl rfl rfl (by decide +kernel) ⟨Nat.le_of_ble_eq_true rfl, Nat.le_of_ble_eq_true rfl⟩) rfl hl.1 rfl (Nat.le_of_ble_eq_true rfl) dX9_near_32 ⟨Nat.le_of_ble_eq_true rfl, Nat.le_of_ble_eq_true rfl⟩ ?_
        refine z_ifeq (tgt := 44) hx hb dX9_near_35 (by decide) (fun c35 => ?_) (fun c35 => ?_)
        · refine lv_iconst (v := 0) hx hb dX9_near_44 (by decide) ?_
          exact J _ (by grind)
        · refine lv_iconst (v := 1) hx hb dX9_near_38 (by decide) ?_
          refine lv_iload_n hx hb dX9_near_39 rfl (lv_at hl 0 rfl) ?_
          refine lv_ishl hx hb dX9_near_40 ?_
          refine lv_goto (tgt := 45) hx hb dX9_near_41 (by decide) ?_
          exact J _ (by grind)
  · refine lv_aload_n hx hb dX9_near_8 rfl (lv_at hl 0 rfl) ?_
    refine lv_iconst (v := (-1)) hx hb dX9_near_9 (by decide) ?_
    refine m_calli (As := [.int (-1)]) (rest := []) S hKK hP hS (mm_refuse l D t mb B (-1) (ix (-(-1))) (rf1 rf_m1) (rf2 rf_m1)) (cwV 1 hts (lw_V q1306 q1308 qs60 q104 q1309) rfl rfl rfl (by decide +kernel) ⟨Nat.le_of_ble_eq_true rfl, Nat.le_of_ble_eq_true rfl⟩) rfl hl.1 rfl (Nat.le_of_ble_eq_true rfl) dX9_near_10 ⟨Nat.le_of_ble_eq_true rfl, Nat.le_of_ble_eq_true rfl⟩ (fun r10 B10 H locs h10 hP hS => ?_)
    exact m_iret hx hb hr (rf_close h10 (by unfold nearS; rw [if_neg (by unfold isH; rw [c5]; decide)])) hP hS dX9_near_13 hlk
set_option maxHeartbeats 4000000 in
theorem mm_door (l : Launch) (D : va_G) (t : Nat → ClassId) (mb : Nat) (B : BT) (x : Int32) (hB : OkB B) : Met l yX9_door (ws_ yX9_door cX9_door 2 (some .int)) ({ frames := 1, cells := 0, slots := 0, locals := 21 }) (zPc [.ref mb, .int x] (MW D t mb B) (KK D t)) (va_Qi (fun r B' => r = (doorS B x).1 ∧ PE (doorS B x).2 B') (fun B' U => MW D t mb B' U.heap) (mA mb)) 0 0 (mA mb) := by
  refine zOf (cc := cX9_door) (maxL := 2) (ret := (some .int)) (by decide) (Nat.le_of_ble_eq_true rfl) (fun pg ev s m below meth cd ls F hP hKK hl hnm => ?_)
  obtain ⟨hx, hb, hml, hown, hts, hr, hlk⟩ := F
  have S : CallFix pg m cd cX9_door 2 s _ lw_all RX9 := ⟨hx, hb, hml, hown, hts⟩
  have hl : lv_has ls 2 [(0, .ref mb), (1, .int x)] := hl
  have hS : va_S (mA mb) s.heap s.heap [] := va_S.rf
  have ho := hB.1
  have hj6 := ho.h6
  have hs5 := ho.s5
  have hd8 := ho.d8
  have hh3 := ho.hr3
  have hh6 := ho.h6
  have hd0 := ho.hr0
  refine lv_iload_n hx hb dX9_door_0 rfl (lv_at hl 1 rfl) ?_
  refine lv_aload_n hx hb dX9_door_1 rfl (lv_at hl 0 rfl) ?_
  refine m_get hx hb hts hown hKK hP 1 (by decide) q1248 rfl rfl dX9_door_2 ?_
  refine lv_iconst (v := 0) hx hb dX9_door_5 (by decide) ?_
  refine m_ald hx hb hKK hP 2 rfl (k := 0) (v := B 2 0) rfl (by omega) (by decide) rfl dX9_door_6 ?_
  refine m_callS (As := [.int x, .int (B 2 0)]) (rest := []) S hKK trivial (mm_isIn l D t x (B 2 0)) (va_cwS 2 hts (lw_S q1330 q1331 q104 q1332) rfl rfl rfl (by decide +kernel) ⟨Nat.le_of_ble_eq_true rfl, Nat.le_of_ble_eq_true rfl⟩) rfl hl.1 rfl (Nat.le_of_ble_eq_true rfl) dX9_door_7 ⟨Nat.le_of_ble_eq_true rfl, Nat.le_of_ble_eq_true rfl⟩ ?_
  refine z_ifne (tgt := 19) hx hb dX9_door_10 (by decide) (fun c10 => ?_) (fun c10 => ?_)
  · have hh := isD_ix ho c10
    refine lv_aload_n hx hb dX9_door_19 rfl (lv_at hl 0 rfl) ?_
    refine m_get hx hb hts hown hKK hP 1 (by decide) q1248 rfl rfl dX9_door_20 ?_
    refine lv_iconst (v := 1) hx hb dX9_door_23 (by decide) ?_
    refine lv_dup2_11 hx hb dX9_door_24 rfl rfl ?_
    refine m_ald hx hb hKK hP 2 rfl (k := 1) (v := B 2 1) rfl (by omega) (by decide) rfl dX9_door_25 ?_
    refine lv_iconst (v := 1) hx hb dX9_door_26 (by decide) ?_
    refine lv_iload_n hx hb dX9_door_27 rfl (lv_at hl 1 rfl) ?_
    refine lv_ishl hx hb dX9_door_28 ?_
    refine lv_ixor hx hb dX9_door_29 ?_
    refine m_ast hx hb hKK hP hS 2 rfl (k := 1) rfl (by omega) (by decide) rfl dX9_door_30 (fun H locs hP hS => ?_)
    refine lv_aload_n hx hb dX9_door_31 rfl (lv_at hl 0 rfl) ?_
    refine m_get hx hb hts hown hKK hP 1 (by decide) q1248 rfl rfl dX9_door_32 ?_
    refine lv_iconst (v := 1) hx hb dX9_door_35 (by decide) ?_
    refine m_ald hx hb hKK hP 2 rfl (k := 1) (v := doorX (B 2) x) rfl (by omega) (by decide) rfl dX9_door_36 ?_
    refine lv_iload_n hx hb dX9_door_37 rfl (lv_at hl 1 rfl) ?_
    refine lv_ishr hx hb dX9_door_38 ?_
    refine lv_iconst (v := 1) hx hb dX9_door_39 (by decide) ?_
    refine lv_iand hx hb dX9_door_40 ?_
    exact m_iret hx hb hr (ok_close (o := doorS B x) (if_pos c10) (PE.rf _)) hP hS dX9_door_41 hlk
  · refine lv_aload_n hx hb dX9_door_13 rfl (lv_at hl 0 rfl) ?_
    refine lv_iconst (v := (-1)) hx hb dX9_door_14 (by decide) ?_
    refine m_calli (As := [.int (-1)]) (rest := []) S hKK hP hS (mm_refuse l D t mb B (-1) (ix (-(-1))) (rf1 rf_m1) (rf2 rf_m1)) (cwV 1 hts (lw_V q1306 q1308 qs60 q104 q1309) rfl rfl rfl (by decide +kernel) ⟨Nat.le_of_ble_eq_true rfl, Nat.le_of_ble_eq_true rfl⟩) rfl hl.1 rfl (Nat.le_of_ble_eq_true rfl) dX9_door_15 ⟨Nat.le_of_ble_eq_true rfl, Nat.le_of_ble_eq_true rfl⟩ (fun r15 B15 H locs h15 hP hS => ?_)
    exact m_iret hx hb hr (rf_close h15 (by unfold doorS; rw [if_neg (by unfold isI; rw [c10]; decide)])) hP hS dX9_door_18 hlk
set_option maxHeartbeats 4000000 in
theorem mm_go (l : Launch) (D : va_G) (t : Nat → ClassId) (mb : Nat) (B : BT) (x : Int32) (y : Int32) (hB : OkB B) : Met l yX9_go (ws_ yX9_go cX9_go 4 (some .int)) ({ frames := 2, cells := 0, slots := 0, locals := 42 }) (zPc [.ref mb, .int x, .int y] (MW D t mb B) (KK D t)) (va_Qi (fun r B' => r = (goS B x y).1 ∧ PE (goS B x y).2 B') (fun B' U => MW D t mb B' U.heap) (mA mb)) 0 0 (mA mb) := by
  refine zOf (cc := cX9_go) (maxL := 4) (ret := (some .int)) (by decide) (Nat.le_of_ble_eq_true rfl) (fun pg ev s m below meth cd ls F hP hKK hl hnm => ?_)
  obtain ⟨hx, hb, hml, hown, hts, hr, hlk⟩ := F
  have S : CallFix pg m cd cX9_go 4 s _ lw_all RX9 := ⟨hx, hb, hml, hown, hts⟩
  have hl : lv_has ls 4 [(0, .ref mb), (1, .int x), (2, .int y)] := hl
  have hS : va_S (mA mb) s.heap s.heap [] := va_S.rf
  have ho := hB.1
  have hj6 := ho.h6
  have hs5 := ho.s5
  have hd8 := ho.d8
  have hh3 := ho.hr3
  have hh6 := ho.h6
  have hd0 := ho.hr0
  refine lv_aload_n hx hb dX9_go_0 rfl (lv_at hl 0 rfl) ?_
  refine lv_iload_n hx hb dX9_go_1 rfl (lv_at hl 1 rfl) ?_
  refine m_callr (As := [.int x]) (rest := []) S hKK hP (mm_isHead l D t mb B x) (cwV 1 hts (lw_V q1358 q1360 qs69 q104 q1361) rfl rfl rfl (by decide +kernel) ⟨Nat.le_of_ble_eq_true rfl, Nat.le_of_ble_eq_true rfl⟩) rfl hl.1 rfl (Nat.le_of_ble_eq_true rfl) dX9_go_2 ⟨Nat.le_of_ble_eq_true rfl, Nat.le_of_ble_eq_true rfl⟩ ?_
  refine z_ifeq (tgt := 16) hx hb dX9_go_5 (by decide) (fun c5 => ?_) (fun c5 => ?_)
  · refine lv_aload_n hx hb dX9_go_16 rfl (lv_at hl 0 rfl) ?_
    refine lv_iconst (v := (-1)) hx hb dX9_go_17 (by decide) ?_
    refine m_calli (As := [.int (-1)]) (rest := []) S hKK hP hS (mm_refuse l D t mb B (-1) (ix (-(-1))) (rf1 rf_m1) (rf2 rf_m1)) (cwV 1 hts (lw_V q1306 q1308 qs60 q104 q1309) rfl rfl rfl (by decide +kernel) ⟨Nat.le_of_ble_eq_true rfl, Nat.le_of_ble_eq_true rfl⟩) rfl hl.1 rfl (Nat.le_of_ble_eq_true rfl) dX9_go_18 ⟨Nat.le_of_ble_eq_true rfl, Nat.le_of_ble_eq_true rfl⟩ (fun r18 B18 H locs h18 hP hS => ?_)
    exact m_iret hx hb hr (rf_close h18 (by unfold goS isH isI; rw [if_neg (by grind)])) hP hS dX9_go_21 hlk
  · have hh := isH_ix ho c5
    refine lv_iload_n hx hb dX9_go_8 rfl (lv_at hl 2 rfl) ?_
    refine lv_iconst (v := 5) hx hb dX9_go_9 (by decide) ?_
    refine m_callS (As := [.int y, .int 5]) (rest := []) S hKK trivial (mm_isIn l D t y 5) (va_cwS 2 hts (lw_S q1330 q1331 q104 q1332) rfl rfl rfl (by decide +kernel) ⟨Nat.le_of_ble_eq_true rfl, Nat.le_of_ble_eq_true rfl⟩) rfl hl.1 rfl (Nat.le_of_ble_eq_true rfl) dX9_go_10 ⟨Nat.le_of_ble_eq_true rfl, Nat.le_of_ble_eq_true rfl⟩ ?_
    refine z_ifne (tgt := 22) hx hb dX9_go_13 (by decide) (fun c13 => ?_) (fun c13 => ?_)
    · refine lv_aload_n hx hb dX9_go_22 rfl (lv_at hl 0 rfl) ?_
      refine lv_iload_n hx hb dX9_go_23 rfl (lv_at hl 1 rfl) ?_
      refine lv_iconst (v := 1) hx hb dX9_go_24 (by decide) ?_
      refine z_stk (st' := [.int 1, .int (nI (ix x)), .ref mb]) (by rw [← show x = nI (ix x) from hh.1]) ?_
      refine m_callr (As := [.int (nI (ix x)), .int 1]) (rest := []) S hKK hP (mm_at l D t mb B (ix x) 1 (by omega)) (cwV 2 hts (lw_V q1386 q1388 qs75 q104 q1389) rfl rfl rfl (by decide +kernel) ⟨Nat.le_of_ble_eq_true rfl, Nat.le_of_ble_eq_true rfl⟩) rfl hl.1 rfl (Nat.le_of_ble_eq_true rfl) dX9_go_25 ⟨Nat.le_of_ble_eq_true rfl, Nat.le_of_ble_eq_true rfl⟩ ?_
      refine lv_istore_n (lv' := [(3, .int (B 2 (37 + 6 * (ix x) + 1))), (0, .ref mb), (1, .int x), (2, .int y)]) hx hb dX9_go_28 rfl hl (by decide) rfl (fun ls hl => ?_)
      refine lv_aload_n hx hb dX9_go_29 rfl (lv_at hl 1 rfl) ?_
      refine lv_iload_n hx hb dX9_go_30 rfl (lv_at hl 2 rfl) ?_
      refine lv_iconst (v := 1) hx hb dX9_go_31 (by decide) ?_
      refine lv_iload_n hx hb dX9_go_32 rfl (lv_at hl 3 rfl) ?_
      refine z_stk (st' := [.int y, .int 1, .int (nI (ix x)), .ref mb]) (by rw [← show x = nI (ix x) from hh.1]) ?_
      refine m_callv (As := [.int (nI (ix x)), .int 1, .int y]) (rest := []) S hKK hP hS (mm_puts l D t mb B (ix x) 1 y (by omega)) (cwV 3 hts (lw_V q1354 q1356 qs68 q104 q1357) rfl rfl rfl (by decide +kernel) ⟨Nat.le_of_ble_eq_true rfl, Nat.le_of_ble_eq_true rfl⟩) rfl hl.1 rfl (Nat.le_of_ble_eq_true rfl) dX9_go_33 ⟨Nat.le_of_ble_eq_true rfl, Nat.le_of_ble_eq_true rfl⟩ (fun B33 H locs h33 hP hS => ?_)
      have h33 : B33 = up2 B 2 (37 + 6 * (ix x) + 1) y := h33
      subst h33
      refine lv_iload_n hx hb dX9_go_36 rfl (lv_at hl 0 rfl) ?_
      exact m_iret hx hb hr (ok_close (o := goS B x y) (if_pos ⟨c5, c13⟩) (PE.rf _)) hP hS dX9_go_37 hlk
    · refine lv_aload_n hx hb dX9_go_16 rfl (lv_at hl 0 rfl) ?_
      refine lv_iconst (v := (-1)) hx hb dX9_go_17 (by decide) ?_
      refine m_calli (As := [.int (-1)]) (rest := []) S hKK hP hS (mm_refuse l D t mb B (-1) (ix (-(-1))) (rf1 rf_m1) (rf2 rf_m1)) (cwV 1 hts (lw_V q1306 q1308 qs60 q104 q1309) rfl rfl rfl (by decide +kernel) ⟨Nat.le_of_ble_eq_true rfl, Nat.le_of_ble_eq_true rfl⟩) rfl hl.1 rfl (Nat.le_of_ble_eq_true rfl) dX9_go_18 ⟨Nat.le_of_ble_eq_true rfl, Nat.le_of_ble_eq_true rfl⟩ (fun r18 B18 H locs h18 hP hS => ?_)
      exact m_iret hx hb hr (rf_close h18 (by unfold goS isH isI; rw [if_neg (by grind)])) hP hS dX9_go_21 hlk
set_option maxHeartbeats 4000000 in
theorem mm_get (l : Launch) (D : va_G) (t : Nat → ClassId) (mb : Nat) (B : BT) (x : Int32) (y : Int32) (hB : OkB B) : Met l yX9_get (ws_ yX9_get cX9_get 4 (some .int)) ({ frames := 3, cells := 0, slots := 0, locals := 67 }) (zPc [.ref mb, .int x, .int y] (MW D t mb B) (KK D t)) (va_Qi (fun r B' => r = (getS B x y).1 ∧ PE (getS B x y).2 B') (fun B' U => MW D t mb B' U.heap) (mA mb)) 0 0 (mA mb) := by
  refine zOf (cc := cX9_get) (maxL := 4) (ret := (some .int)) (by decide) (Nat.le_of_ble_eq_true rfl) (fun pg ev s m below meth cd ls F hP hKK hl hnm => ?_)
  obtain ⟨hx, hb, hml, hown, hts, hr, hlk⟩ := F
  have S : CallFix pg m cd cX9_get 4 s _ lw_all RX9 := ⟨hx, hb, hml, hown, hts⟩
  have hl : lv_has ls 4 [(0, .ref mb), (1, .int x), (2, .int y)] := hl
  have hS : va_S (mA mb) s.heap s.heap [] := va_S.rf
  have ho := hB.1
  have hj6 := ho.h6
  have hs5 := ho.s5
  have hd8 := ho.d8
  have hh3 := ho.hr3
  have hh6 := ho.h6
  have hd0 := ho.hr0
  refine lv_aload_n hx hb dX9_get_0 rfl (lv_at hl 0 rfl) ?_
  refine lv_iload_n hx hb dX9_get_1 rfl (lv_at hl 1 rfl) ?_
  refine m_callr (As := [.int x]) (rest := []) S hKK hP (mm_isHead l D t mb B x) (cwV 1 hts (lw_V q1358 q1360 qs69 q104 q1361) rfl rfl rfl (by decide +kernel) ⟨Nat.le_of_ble_eq_true rfl, Nat.le_of_ble_eq_true rfl⟩) rfl hl.1 rfl (Nat.le_of_ble_eq_true rfl) dX9_get_2 ⟨Nat.le_of_ble_eq_true rfl, Nat.le_of_ble_eq_true rfl⟩ ?_
  refine z_ifeq (tgt := 21) hx hb dX9_get_5 (by decide) (fun c5 => ?_) (fun c5 => ?_)
  · refine lv_aload_n hx hb dX9_get_21 rfl (lv_at hl 0 rfl) ?_
    refine lv_iconst (v := (-1)) hx hb dX9_get_22 (by decide) ?_
    refine m_calli (As := [.int (-1)]) (rest := []) S hKK hP hS (mm_refuse l D t mb B (-1) (ix (-(-1))) (rf1 rf_m1) (rf2 rf_m1)) (cwV 1 hts (lw_V q1306 q1308 qs60 q104 q1309) rfl rfl rfl (by decide +kernel) ⟨Nat.le_of_ble_eq_true rfl, Nat.le_of_ble_eq_true rfl⟩) rfl hl.1 rfl (Nat.le_of_ble_eq_true rfl) dX9_get_23 ⟨Nat.le_of_ble_eq_true rfl, Nat.le_of_ble_eq_true rfl⟩ (fun r23 B23 H locs h23 hP hS => ?_)
    exact m_iret hx hb hr (rf_close h23 (by unfold getS isH isS; rw [if_neg (by grind)])) hP hS dX9_get_26 hlk
  · have hh := isH_ix ho c5
    refine lv_iload_n hx hb dX9_get_8 rfl (lv_at hl 2 rfl) ?_
    refine lv_iconst (v := (-1)) hx hb dX9_get_9 (by decide) ?_
    refine lv_icmp_eq (tgt := 27) hx hb dX9_get_10 (by decide) (fun c10 => ?_) (fun c10 => ?_)
    · refine lv_aload_n hx hb dX9_get_27 rfl (lv_at hl 0 rfl) ?_
      refine lv_iload_n hx hb dX9_get_28 rfl (lv_at hl 1 rfl) ?_
      refine lv_iconst (v := 3) hx hb dX9_get_29 (by decide) ?_
      refine z_stk (st' := [.int 3, .int (nI (ix x)), .ref mb]) (by rw [← show x = nI (ix x) from hh.1]) ?_
      refine m_callr (As := [.int (nI (ix x)), .int 3]) (rest := []) S hKK hP (mm_at l D t mb B (ix x) 3 (by omega)) (cwV 2 hts (lw_V q1386 q1388 qs75 q104 q1389) rfl rfl rfl (by decide +kernel) ⟨Nat.le_of_ble_eq_true rfl, Nat.le_of_ble_eq_true rfl⟩) rfl hl.1 rfl (Nat.le_of_ble_eq_true rfl) dX9_get_30 ⟨Nat.le_of_ble_eq_true rfl, Nat.le_of_ble_eq_true rfl⟩ ?_
      refine lv_istore_n (lv' := [(3, .int (B 2 (37 + 6 * (ix x) + 3))), (0, .ref mb), (1, .int x), (2, .int y)]) hx hb dX9_get_33 rfl hl (by decide) rfl (fun ls hl => ?_)
      have hv : ¬ y < 0 → y = nI (ix y) ∧ ix y < 5 := by
        intro q
        have hs : y = nI (ix y) ∧ ix y < nS (B 2) := by first | exact isS_ix ho c18 | (exfalso; subst c10; exact q (by decide))
        exact ⟨hs.1, by omega⟩
      refine lv_aload_n hx hb dX9_get_34 rfl (lv_at hl 1 rfl) ?_
      refine lv_iload_n hx hb dX9_get_35 rfl (lv_at hl 2 rfl) ?_
      refine lv_iload_n hx hb dX9_get_36 rfl (lv_at hl 3 rfl) ?_
      refine z_stk (st' := [.int y, .int (nI (ix x)), .ref mb]) (by rw [← show x = nI (ix x) from hh.1]) ?_
      refine m_callv (As := [.int (nI (ix x)), .int y]) (rest := []) S hKK hP hS (mm_gets l D t mb B (ix x) y (by omega) hv) (cwV 2 hts (lw_V q1366 q1368 qs71 q104 q1369) rfl rfl rfl (by decide +kernel) ⟨Nat.le_of_ble_eq_true rfl, Nat.le_of_ble_eq_true rfl⟩) rfl hl.1 rfl (Nat.le_of_ble_eq_true rfl) dX9_get_37 ⟨Nat.le_of_ble_eq_true rfl, Nat.le_of_ble_eq_true rfl⟩ (fun B37 H locs h37 hP hS => ?_)
      have h37 : B37 = upc B 2 (geS (B 2) (ix x) y) := h37
      subst h37
      refine lv_iload_n hx hb dX9_get_40 rfl (lv_at hl 0 rfl) ?_
      exact m_iret hx hb hr (ok_close (o := getS B x y) (if_pos ⟨c5, by unfold isS; grind⟩) (PE.rf _)) hP hS dX9_get_41 hlk
    · refine lv_aload_n hx hb dX9_get_13 rfl (lv_at hl 0 rfl) ?_
      refine lv_iload_n hx hb dX9_get_14 rfl (lv_at hl 2 rfl) ?_
      refine m_callr (As := [.int y]) (rest := []) S hKK hP (mm_isSong l D t mb B y) (cwV 1 hts (lw_V q1362 q1364 qs70 q104 q1365) rfl rfl rfl (by decide +kernel) ⟨Nat.le_of_ble_eq_true rfl, Nat.le_of_ble_eq_true rfl⟩) rfl hl.1 rfl (Nat.le_of_ble_eq_true rfl) dX9_get_15 ⟨Nat.le_of_ble_eq_true rfl, Nat.le_of_ble_eq_true rfl⟩ ?_
      refine z_ifne (tgt := 27) hx hb dX9_get_18 (by decide) (fun c18 => ?_) (fun c18 => ?_)
      · refine lv_aload_n hx hb dX9_get_27 rfl (lv_at hl 0 rfl) ?_
        refine lv_iload_n hx hb dX9_get_28 rfl (lv_at hl 1 rfl) ?_
        refine lv_iconst (v := 3) hx hb dX9_get_29 (by decide) ?_
        refine z_stk (st' := [.int 3, .int (nI (ix x)), .ref mb]) (by rw [← show x = nI (ix x) from hh.1]) ?_
        refine m_callr (As := [.int (nI (ix x)), .int 3]) (rest := []) S hKK hP (mm_at l D t mb B (ix x) 3 (by omega)) (cwV 2 hts (lw_V q1386 q1388 qs75 q104 q1389) rfl rfl rfl (by decide +kernel) ⟨Nat.le_of_ble_eq_true rfl, Nat.le_of_ble_eq_true rfl⟩) rfl hl.1 rfl (Nat.le_of_ble_eq_true rfl) dX9_get_30 ⟨Nat.le_of_ble_eq_true rfl, Nat.le_of_ble_eq_true rfl⟩ ?_
        refine lv_istore_n (lv' := [(3, .int (B 2 (37 + 6 * (ix x) + 3))), (0, .ref mb), (1, .int x), (2, .int y)]) hx hb dX9_get_33 rfl hl (by decide) rfl (fun ls hl => ?_)
        have hv : ¬ y < 0 → y = nI (ix y) ∧ ix y < 5 := by
          intro q
          have hs : y = nI (ix y) ∧ ix y < nS (B 2) := by first | exact isS_ix ho c18 | (exfalso; subst c10; exact q (by decide))
          exact ⟨hs.1, by omega⟩
        refine lv_aload_n hx hb dX9_get_34 rfl (lv_at hl 1 rfl) ?_
        refine lv_iload_n hx hb dX9_get_35 rfl (lv_at hl 2 rfl) ?_
        refine lv_iload_n hx hb dX9_get_36 rfl (lv_at hl 3 rfl) ?_
        refine z_stk (st' := [.int y, .int (nI (ix x)), .ref mb]) (by rw [← show x = nI (ix x) from hh.1]) ?_
        refine m_callv (As := [.int (nI (ix x)), .int y]) (rest := []) S hKK hP hS (mm_gets l D t mb B (ix x) y (by omega) hv) (cwV 2 hts (lw_V q1366 q1368 qs71 q104 q1369) rfl rfl rfl (by decide +kernel) ⟨Nat.le_of_ble_eq_true rfl, Nat.le_of_ble_eq_true rfl⟩) rfl hl.1 rfl (Nat.le_of_ble_eq_true rfl) dX9_get_37 ⟨Nat.le_of_ble_eq_true rfl, Nat.le_of_ble_eq_true rfl⟩ (fun B37 H locs h37 hP hS => ?_)
        have h37 : B37 = upc B 2 (geS (B 2) (ix x) y) := h37
        subst h37
        refine lv_iload_n hx hb dX9_get_40 rfl (lv_at hl 0 rfl) ?_
        exact m_iret hx hb hr (ok_close (o := getS B x y) (if_pos ⟨c5, by unfold isS; grind⟩) (PE.rf _)) hP hS dX9_get_41 hlk
      · refine lv_aload_n hx hb dX9_get_21 rfl (lv_at hl 0 rfl) ?_
        refine lv_iconst (v := (-1)) hx hb dX9_get_22 (by decide) ?_
        refine m_calli (As := [.int (-1)]) (rest := []) S hKK hP hS (mm_refuse l D t mb B (-1) (ix (-(-1))) (rf1 rf_m1) (rf2 rf_m1)) (cwV 1 hts (lw_V q1306 q1308 qs60 q104 q1309) rfl rfl rfl (by decide +kernel) ⟨Nat.le_of_ble_eq_true rfl, Nat.le_of_ble_eq_true rfl⟩) rfl hl.1 rfl (Nat.le_of_ble_eq_true rfl) dX9_get_23 ⟨Nat.le_of_ble_eq_true rfl, Nat.le_of_ble_eq_true rfl⟩ (fun r23 B23 H locs h23 hP hS => ?_)
        exact m_iret hx hb hr (rf_close h23 (by unfold getS isH isS; rw [if_neg (by grind)])) hP hS dX9_get_26 hlk
set_option maxHeartbeats 4000000 in
theorem mm_mends (l : Launch) (D : va_G) (t : Nat → ClassId) (mb : Nat) (B : BT) (j : Nat) (w : Int32) (hj : j < 6) : Met l yX9_mends (ws_ yX9_mends cX9_mends 4 none) ({ frames := 3, cells := 0, slots := 0, locals := 67 }) (zPc [.ref mb, .int (nI j), .int w] (MW D t mb B) (KK D t)) (va_Qv (fun B' => B' = upc B 2 (meS (B 2) j w)) (fun B' U => MW D t mb B' U.heap) (mA mb)) 0 0 (mA mb) := by
  refine zOf (cc := cX9_mends) (maxL := 4) (ret := none) (by decide) (Nat.le_of_ble_eq_true rfl) (fun pg ev s m below meth cd ls F hP hKK hl hnm => ?_)
  obtain ⟨hx, hb, hml, hown, hts, hr, hlk⟩ := F
  have S : CallFix pg m cd cX9_mends 4 s _ lw_all RX9 := ⟨hx, hb, hml, hown, hts⟩
  have hl : lv_has ls 4 [(0, .ref mb), (1, .int (nI j)), (2, .int w)] := hl
  have hS : va_S (mA mb) s.heap s.heap [] := va_S.rf
  refine lv_iload_n hx hb dX9_mends_0 rfl (lv_at hl 2 rfl) ?_
  refine lv_iconst (v := 3) hx hb dX9_mends_1 (by decide) ?_
  refine lv_icmp_ne (tgt := 6) hx hb dX9_mends_2 (by decide) (fun c2 => ?_) (fun c2 => ?_)
  · refine lv_iload_n hx hb dX9_mends_6 rfl (lv_at hl 2 rfl) ?_
    refine lv_iconst (v := 2) hx hb dX9_mends_7 (by decide) ?_
    refine lv_icmp_ne (tgt := 19) hx hb dX9_mends_8 (by decide) (fun c8 => ?_) (fun c8 => ?_)
    · refine W.join (fun vJ => F0 m 42 ls (.int vJ :: [])) (fun vJ => vJ = meV (B 2) j w) (fun vJ hJ => ?_) (fun J => ?_)
      · subst hJ
        refine lv_istore_n (lv' := [(3, .int (meV (B 2) j w)), (0, .ref mb), (1, .int (nI j)), (2, .int w)]) hx hb dX9_mends_42 rfl hl (by decide) rfl (fun ls hl => ?_)
        refine lv_iload_n hx hb dX9_mends_43 rfl (lv_at hl 0 rfl) ?_
        refine lv_if_gt (tgt := 57) hx hb dX9_mends_44 (by decide) (fun c44 => ?_) (fun c44 => ?_)
        · refine lv_aload_n hx hb dX9_mends_57 rfl (lv_at hl 1 rfl) ?_
          refine lv_iload_n hx hb dX9_mends_58 rfl (lv_at hl 2 rfl) ?_
          refine lv_iconst (v := 4) hx hb dX9_mends_59 (by decide) ?_
          refine lv_iload_n hx hb dX9_mends_60 rfl (lv_at hl 0 rfl) ?_
          refine m_callv (As := [.int (nI j), .int 4, .int (meV (B 2) j w)]) (rest := []) S hKK hP hS (mm_puts l D t mb B j 4 (meV (B 2) j w) (by omega)) (cwV 3 hts (lw_V q1354 q1356 qs68 q104 q1357) rfl rfl rfl (by decide +kernel) ⟨Nat.le_of_ble_eq_true rfl, Nat.le_of_ble_eq_true rfl⟩) rfl hl.1 rfl (Nat.le_of_ble_eq_true rfl) dX9_mends_61 ⟨Nat.le_of_ble_eq_true rfl, Nat.le_of_ble_eq_true rfl⟩ (fun B61 H locs h61 hP hS => ?_)
          have h61 : B61 = up2 B 2 (37 + 6 * j + 4) (meV (B 2) j w) := h61
          subst h61
          exact m_vret hx hb hr (by show _ = upc B 2 (meS (B 2) j w); unfold meS; rw [if_neg c2, if_neg c8]; first | (rw [if_pos (show meV (B 2) j w ≤ 0 by grind)]; done) | (rw [if_neg (show ¬ meV (B 2) j w ≤ 0 by grind), up2_upc]; done)) hP hS dX9_mends_64 hlk
        · refine lv_aload_n hx hb dX9_mends_47 rfl (lv_at hl 1 rfl) ?_
          refine lv_iload_n hx hb dX9_mends_48 rfl (lv_at hl 2 rfl) ?_
          refine lv_bipush (v := (-9)) hx hb dX9_mends_49 (by decide) ?_
          refine m_callv (As := [.int (nI j), .int (-9)]) (rest := []) S hKK hP hS (mm_gets l D t mb B j (-9) (by omega) (by decide)) (cwV 2 hts (lw_V q1366 q1368 qs71 q104 q1369) rfl rfl rfl (by decide +kernel) ⟨Nat.le_of_ble_eq_true rfl, Nat.le_of_ble_eq_true rfl⟩) rfl hl.1 rfl (Nat.le_of_ble_eq_true rfl) dX9_mends_51 ⟨Nat.le_of_ble_eq_true rfl, Nat.le_of_ble_eq_true rfl⟩ (fun B51 H locs h51 hP hS => ?_)
          have h51 : B51 = upc B 2 (geS (B 2) j (-9)) := h51
          subst h51
          refine lv_goto (tgt := 64) hx hb dX9_mends_54 (by decide) ?_
          exact m_vret hx hb hr (by show _ = upc B 2 (meS (B 2) j w); unfold meS; rw [if_neg c2, if_neg c8]; first | (rw [if_pos (show meV (B 2) j w ≤ 0 by grind)]; done) | (rw [if_neg (show ¬ meV (B 2) j w ≤ 0 by grind), up2_upc]; done)) hP hS dX9_mends_64 hlk
      · refine lv_iload_n hx hb dX9_mends_19 rfl (lv_at hl 2 rfl) ?_
        refine lv_if_ne (tgt := 34) hx hb dX9_mends_20 (by decide) (fun c20 => ?_) (fun c20 => ?_)
        · refine lv_aload_n hx hb dX9_mends_34 rfl (lv_at hl 0 rfl) ?_
          refine lv_iload_n hx hb dX9_mends_35 rfl (lv_at hl 1 rfl) ?_
          refine lv_iconst (v := 4) hx hb dX9_mends_36 (by decide) ?_
          refine m_callr (As := [.int (nI j), .int 4]) (rest := []) S hKK hP (mm_at l D t mb B j 4 (by omega)) (cwV 2 hts (lw_V q1386 q1388 qs75 q104 q1389) rfl rfl rfl (by decide +kernel) ⟨Nat.le_of_ble_eq_true rfl, Nat.le_of_ble_eq_true rfl⟩) rfl hl.1 rfl (Nat.le_of_ble_eq_true rfl) dX9_mends_37 ⟨Nat.le_of_ble_eq_true rfl, Nat.le_of_ble_eq_true rfl⟩ ?_
          refine lv_iconst (v := 4) hx hb dX9_mends_40 (by decide) ?_
          refine lv_isub hx hb dX9_mends_41 ?_
          exact J _ (by grind [meV])
        · refine lv_aload_n hx hb dX9_mends_23 rfl (lv_at hl 0 rfl) ?_
          refine lv_iload_n hx hb dX9_mends_24 rfl (lv_at hl 1 rfl) ?_
          refine lv_iconst (v := 4) hx hb dX9_mends_25 (by decide) ?_
          refine m_callr (As := [.int (nI j), .int 4]) (rest := []) S hKK hP (mm_at l D t mb B j 4 (by omega)) (cwV 2 hts (lw_V q1386 q1388 qs75 q104 q1389) rfl rfl rfl (by decide +kernel) ⟨Nat.le_of_ble_eq_true rfl, Nat.le_of_ble_eq_true rfl⟩) rfl hl.1 rfl (Nat.le_of_ble_eq_true rfl) dX9_mends_26 ⟨Nat.le_of_ble_eq_true rfl, Nat.le_of_ble_eq_true rfl⟩ ?_
          refine lv_iconst (v := 2) hx hb dX9_mends_29 (by decide) ?_
          refine lv_idiv hx hb dX9_mends_30 (by decide) ?_
          refine lv_goto (tgt := 42) hx hb dX9_mends_31 (by decide) ?_
          exact J _ (by grind [meV])
    · refine lv_aload_n hx hb dX9_mends_11 rfl (lv_at hl 0 rfl) ?_
      refine lv_iload_n hx hb dX9_mends_12 rfl (lv_at hl 1 rfl) ?_
      refine lv_iconst (v := 5) hx hb dX9_mends_13 (by decide) ?_
      refine lv_iconst (v := 3) hx hb dX9_mends_14 (by decide) ?_
      refine m_callv (As := [.int (nI j), .int 5, .int 3]) (rest := []) S hKK hP hS (mm_puts l D t mb B j 5 3 (by omega)) (cwV 3 hts (lw_V q1354 q1356 qs68 q104 q1357) rfl rfl rfl (by decide +kernel) ⟨Nat.le_of_ble_eq_true rfl, Nat.le_of_ble_eq_true rfl⟩) rfl hl.1 rfl (Nat.le_of_ble_eq_true rfl) dX9_mends_15 ⟨Nat.le_of_ble_eq_true rfl, Nat.le_of_ble_eq_true rfl⟩ (fun B15 H locs h15 hP hS => ?_)
      have h15 : B15 = up2 B 2 (37 + 6 * j + 5) 3 := h15
      subst h15
      exact m_vret hx hb hr (by show _ = upc B 2 (meS (B 2) j w); unfold meS; rw [if_neg c2, if_pos c8, up2_upc]) hP hS dX9_mends_18 hlk
  · exact m_vret hx hb hr (by show B = _; unfold meS; rw [if_pos c2]; exact (upc_self B 2).symm) hP hS dX9_mends_5 hlk
set_option maxHeartbeats 4000000 in
theorem mm_remedy (l : Launch) (D : va_G) (t : Nat → ClassId) (mb : Nat) (B : BT) (x : Int32) (y : Int32) (hB : OkB B) : Met l yX9_remedy (ws_ yX9_remedy cX9_remedy 4 (some .int)) ({ frames := 4, cells := 0, slots := 0, locals := 90 }) (zPc [.ref mb, .int x, .int y] (MW D t mb B) (KK D t)) (va_Qi (fun r B' => r = (remS B x y).1 ∧ PE (remS B x y).2 B') (fun B' U => MW D t mb B' U.heap) (mA mb)) 0 0 (mA mb) := by
  refine zOf (cc := cX9_remedy) (maxL := 4) (ret := (some .int)) (by decide) (Nat.le_of_ble_eq_true rfl) (fun pg ev s m below meth cd ls F hP hKK hl hnm => ?_)
  obtain ⟨hx, hb, hml, hown, hts, hr, hlk⟩ := F
  have S : CallFix pg m cd cX9_remedy 4 s _ lw_all RX9 := ⟨hx, hb, hml, hown, hts⟩
  have hl : lv_has ls 4 [(0, .ref mb), (1, .int x), (2, .int y)] := hl
  have hS : va_S (mA mb) s.heap s.heap [] := va_S.rf
  have ho := hB.1
  have hj6 := ho.h6
  have hs5 := ho.s5
  have hd8 := ho.d8
  have hh3 := ho.hr3
  have hh6 := ho.h6
  have hd0 := ho.hr0
  refine W.join (fun vJ => F0 m 45 ls (.int vJ :: [])) (fun vJ => vJ = reN (B 2) x y) (fun vJ hJ => ?_) (fun J => ?_)
  · subst hJ
    refine lv_istore_n (lv' := [(3, .int (reN (B 2) x y)), (0, .ref mb), (1, .int x), (2, .int y)]) hx hb dX9_remedy_45 rfl hl (by decide) rfl (fun ls hl => ?_)
    refine lv_iload_n hx hb dX9_remedy_46 rfl (lv_at hl 0 rfl) ?_
    refine lv_if_eq (tgt := 56) hx hb dX9_remedy_47 (by decide) (fun c47 => ?_) (fun c47 => ?_)
    · have hh := isH_ix ho (x := x) (by unfold reN at c47; unfold isH at c47; grind)
      refine lv_aload_n hx hb dX9_remedy_56 rfl (lv_at hl 1 rfl) ?_
      refine lv_iload_n hx hb dX9_remedy_57 rfl (lv_at hl 2 rfl) ?_
      refine lv_iload_n hx hb dX9_remedy_58 rfl (lv_at hl 3 rfl) ?_
      refine z_stk (st' := [.int y, .int (nI (ix x)), .ref mb]) (by rw [← show x = nI (ix x) from hh.1]) ?_
      refine m_callv (As := [.int (nI (ix x)), .int y]) (rest := []) S hKK hP hS (mm_mends l D t mb B (ix x) y (by omega)) (cwV 2 hts (lw_V q1426 q1428 qs79 q104 q1429) rfl rfl rfl (by decide +kernel) ⟨Nat.le_of_ble_eq_true rfl, Nat.le_of_ble_eq_true rfl⟩) rfl hl.1 rfl (Nat.le_of_ble_eq_true rfl) dX9_remedy_59 ⟨Nat.le_of_ble_eq_true rfl, Nat.le_of_ble_eq_true rfl⟩ (fun B59 H locs h59 hP hS => ?_)
      have h59 : B59 = upc B 2 (meS (B 2) (ix x) y) := h59
      subst h59
      refine lv_aload_n hx hb dX9_remedy_62 rfl (lv_at hl 1 rfl) ?_
      refine lv_iload_n hx hb dX9_remedy_63 rfl (lv_at hl 2 rfl) ?_
      refine lv_iconst (v := 4) hx hb dX9_remedy_64 (by decide) ?_
      refine z_stk (st' := [.int 4, .int (nI (ix x)), .ref mb]) (by rw [← show x = nI (ix x) from hh.1]) ?_
      refine m_callr (As := [.int (nI (ix x)), .int 4]) (rest := []) S hKK hP (mm_at l D t mb (upc B 2 (meS (B 2) (ix x) y)) (ix x) 4 (by omega)) (cwV 2 hts (lw_V q1386 q1388 qs75 q104 q1389) rfl rfl rfl (by decide +kernel) ⟨Nat.le_of_ble_eq_true rfl, Nat.le_of_ble_eq_true rfl⟩) rfl hl.1 rfl (Nat.le_of_ble_eq_true rfl) dX9_remedy_65 ⟨Nat.le_of_ble_eq_true rfl, Nat.le_of_ble_eq_true rfl⟩ ?_
      refine z_top (y := hd (meS (B 2) (ix x) y) (ix x) 4) rfl ?_
      exact m_iret hx hb hr (ok_close (o := remS B x y) (if_pos c47) (PE.rf _)) hP hS dX9_remedy_68 hlk
    · have hno : rfOk (reN (B 2) x y) := by unfold reN at c47 ⊢; unfold rfOk; grind
      refine lv_aload_n hx hb dX9_remedy_50 rfl (lv_at hl 1 rfl) ?_
      refine lv_iload_n hx hb dX9_remedy_51 rfl (lv_at hl 0 rfl) ?_
      refine m_calli (As := [.int (reN (B 2) x y)]) (rest := []) S hKK hP hS (mm_refuse l D t mb B (reN (B 2) x y) (ix (-(reN (B 2) x y))) (rf1 hno) (rf2 hno)) (cwV 1 hts (lw_V q1306 q1308 qs60 q104 q1309) rfl rfl rfl (by decide +kernel) ⟨Nat.le_of_ble_eq_true rfl, Nat.le_of_ble_eq_true rfl⟩) rfl hl.1 rfl (Nat.le_of_ble_eq_true rfl) dX9_remedy_52 ⟨Nat.le_of_ble_eq_true rfl, Nat.le_of_ble_eq_true rfl⟩ (fun r52 B52 H locs h52 hP hS => ?_)
      exact m_iret hx hb hr (rf_close h52 (if_neg c47)) hP hS dX9_remedy_55 hlk
  · refine lv_aload_n hx hb dX9_remedy_0 rfl (lv_at hl 0 rfl) ?_
    refine lv_iload_n hx hb dX9_remedy_1 rfl (lv_at hl 1 rfl) ?_
    refine m_callr (As := [.int x]) (rest := []) S hKK hP (mm_isHead l D t mb B x) (cwV 1 hts (lw_V q1358 q1360 qs69 q104 q1361) rfl rfl rfl (by decide +kernel) ⟨Nat.le_of_ble_eq_true rfl, Nat.le_of_ble_eq_true rfl⟩) rfl hl.1 rfl (Nat.le_of_ble_eq_true rfl) dX9_remedy_2 ⟨Nat.le_of_ble_eq_true rfl, Nat.le_of_ble_eq_true rfl⟩ ?_
    refine z_ifne (tgt := 12) hx hb dX9_remedy_5 (by decide) (fun c5 => ?_) (fun c5 => ?_)
    · have hh := isH_ix ho c5
      refine lv_iload_n hx hb dX9_remedy_12 rfl (lv_at hl 2 rfl) ?_
      refine lv_iconst (v := 3) hx hb dX9_remedy_13 (by decide) ?_
      refine m_callS (As := [.int y, .int 3]) (rest := []) S hKK trivial (mm_isIn l D t y 3) (va_cwS 2 hts (lw_S q1330 q1331 q104 q1332) rfl rfl rfl (by decide +kernel) ⟨Nat.le_of_ble_eq_true rfl, Nat.le_of_ble_eq_true rfl⟩) rfl hl.1 rfl (Nat.le_of_ble_eq_true rfl) dX9_remedy_14 ⟨Nat.le_of_ble_eq_true rfl, Nat.le_of_ble_eq_true rfl⟩ ?_
      refine z_ifne (tgt := 25) hx hb dX9_remedy_17 (by decide) (fun c17 => ?_) (fun c17 => ?_)
      · refine lv_iload_n hx hb dX9_remedy_25 rfl (lv_at hl 2 rfl) ?_
        refine lv_iconst (v := 2) hx hb dX9_remedy_26 (by decide) ?_
        refine lv_icmp_ge (tgt := 44) hx hb dX9_remedy_27 (by decide) (fun c27 => ?_) (fun c27 => ?_)
        · refine lv_iconst (v := 0) hx hb dX9_remedy_44 (by decide) ?_
          exact J _ (by grind [reN, isH, isI])
        · refine lv_aload_n hx hb dX9_remedy_30 rfl (lv_at hl 0 rfl) ?_
          refine lv_iload_n hx hb dX9_remedy_31 rfl (lv_at hl 1 rfl) ?_
          refine lv_iconst (v := 3) hx hb dX9_remedy_32 (by decide) ?_
          refine z_stk (st' := [.int 3, .int (nI (ix x)), .ref mb]) (by rw [← show x = nI (ix x) from hh.1]) ?_
          refine m_callr (As := [.int (nI (ix x)), .int 3]) (rest := []) S hKK hP (mm_at l D t mb B (ix x) 3 (by omega)) (cwV 2 hts (lw_V q1386 q1388 qs75 q104 q1389) rfl rfl rfl (by decide +kernel) ⟨Nat.le_of_ble_eq_true rfl, Nat.le_of_ble_eq_true rfl⟩) rfl hl.1 rfl (Nat.le_of_ble_eq_true rfl) dX9_remedy_33 ⟨Nat.le_of_ble_eq_true rfl, Nat.le_of_ble_eq_true rfl⟩ ?_
          refine lv_if_ge (tgt := 44) hx hb dX9_remedy_36 (by decide) (fun c36 => ?_) (fun c36 => ?_)
          · refine lv_iconst (v := 0) hx hb dX9_remedy_44 (by decide) ?_
            exact J _ (by grind [reN, isH, isI])
          · refine lv_bipush (v := (-3)) hx hb dX9_remedy_39 (by decide) ?_
            refine lv_goto (tgt := 45) hx hb dX9_remedy_41 (by decide) ?_
            exact J _ (by grind [reN, isH, isI])
      · refine lv_bipush (v := (-2)) hx hb dX9_remedy_20 (by decide) ?_
        refine lv_goto (tgt := 45) hx hb dX9_remedy_22 (by decide) ?_
        exact J _ (by grind [reN, isH, isI])
    · refine lv_iconst (v := (-1)) hx hb dX9_remedy_8 (by decide) ?_
      refine lv_goto (tgt := 45) hx hb dX9_remedy_9 (by decide) ?_
      exact J _ (by grind [reN, isH, isI])
set_option maxHeartbeats 4000000 in
theorem mm_loud (l : Launch) (D : va_G) (t : Nat → ClassId) (mb : Nat) (B : BT) (x : Int32) (hB : OkB B) : Met l yX9_loud (ws_ yX9_loud cX9_loud 4 (some .int)) ({ frames := 1, cells := 0, slots := 0, locals := 22 }) (zPc [.ref mb, .int x] (MW D t mb B) (KK D t)) (va_Qi (fun r B' => r = (loudS B x).1 ∧ PE (loudS B x).2 B') (fun B' U => MW D t mb B' U.heap) (mA mb)) 0 0 (mA mb) := by
  refine zOf (cc := cX9_loud) (maxL := 4) (ret := (some .int)) (by decide) (Nat.le_of_ble_eq_true rfl) (fun pg ev s m below meth cd ls F hP hKK hl hnm => ?_)
  obtain ⟨hx, hb, hml, hown, hts, hr, hlk⟩ := F
  have S : CallFix pg m cd cX9_loud 4 s _ lw_all RX9 := ⟨hx, hb, hml, hown, hts⟩
  have hl : lv_has ls 4 [(0, .ref mb), (1, .int x)] := hl
  have hS : va_S (mA mb) s.heap s.heap [] := va_S.rf
  have ho := hB.1
  have hj6 := ho.h6
  have hs5 := ho.s5
  have hd8 := ho.d8
  have hh3 := ho.hr3
  have hh6 := ho.h6
  have hd0 := ho.hr0
  refine lv_iload_n hx hb dX9_loud_0 rfl (lv_at hl 1 rfl) ?_
  refine lv_iconst (v := 1) hx hb dX9_loud_1 (by decide) ?_
  refine lv_bipush (v := 20) hx hb dX9_loud_2 (by decide) ?_
  refine m_callS (As := [.int x, .int 1, .int 20]) (rest := []) S hKK trivial (mm_within l D t x 1 20) (va_cwS 3 hts (lw_S q1303 q1304 q104 q1305) rfl rfl rfl (by decide +kernel) ⟨Nat.le_of_ble_eq_true rfl, Nat.le_of_ble_eq_true rfl⟩) rfl hl.1 rfl (Nat.le_of_ble_eq_true rfl) dX9_loud_4 ⟨Nat.le_of_ble_eq_true rfl, Nat.le_of_ble_eq_true rfl⟩ ?_
  refine lv_istore_n (lv' := [(2, .int (wiS x 1 20)), (0, .ref mb), (1, .int x)]) hx hb dX9_loud_7 rfl hl (by decide) rfl (fun ls hl => ?_)
  refine lv_iload_n hx hb dX9_loud_8 rfl (lv_at hl 0 rfl) ?_
  refine lv_if_eq (tgt := 18) hx hb dX9_loud_9 (by decide) (fun c9 => ?_) (fun c9 => ?_)
  · refine lv_aload_n hx hb dX9_loud_18 rfl (lv_at hl 1 rfl) ?_
    refine m_get hx hb hts hown hKK hP 1 (by decide) q1248 rfl rfl dX9_loud_19 ?_
    refine lv_iconst (v := 5) hx hb dX9_loud_22 (by decide) ?_
    refine m_ald hx hb hKK hP 2 rfl (k := 5) (v := B 2 5) rfl (by omega) (by decide) rfl dX9_loud_23 ?_
    refine lv_istore_n (lv' := [(3, .int (B 2 5)), (2, .int (wiS x 1 20)), (0, .ref mb), (1, .int x)]) hx hb dX9_loud_24 rfl hl (by decide) rfl (fun ls hl => ?_)
    refine lv_aload_n hx hb dX9_loud_25 rfl (lv_at hl 2 rfl) ?_
    refine m_get hx hb hts hown hKK hP 1 (by decide) q1248 rfl rfl dX9_loud_26 ?_
    refine lv_iconst (v := 5) hx hb dX9_loud_29 (by decide) ?_
    refine lv_iload_n hx hb dX9_loud_30 rfl (lv_at hl 3 rfl) ?_
    refine m_ast hx hb hKK hP hS 2 rfl (k := 5) rfl (by omega) (by decide) rfl dX9_loud_31 (fun H locs hP hS => ?_)
    refine lv_iload_n hx hb dX9_loud_32 rfl (lv_at hl 0 rfl) ?_
    exact m_iret hx hb hr (ok_close (o := loudS B x) (if_pos c9) (PE.rf _)) hP hS dX9_loud_33 hlk
  · have hno := rf_wi c9
    refine lv_aload_n hx hb dX9_loud_12 rfl (lv_at hl 1 rfl) ?_
    refine lv_iload_n hx hb dX9_loud_13 rfl (lv_at hl 0 rfl) ?_
    refine m_calli (As := [.int (wiS x 1 20)]) (rest := []) S hKK hP hS (mm_refuse l D t mb B (wiS x 1 20) (ix (-(wiS x 1 20))) (rf1 hno) (rf2 hno)) (cwV 1 hts (lw_V q1306 q1308 qs60 q104 q1309) rfl rfl rfl (by decide +kernel) ⟨Nat.le_of_ble_eq_true rfl, Nat.le_of_ble_eq_true rfl⟩) rfl hl.1 rfl (Nat.le_of_ble_eq_true rfl) dX9_loud_14 ⟨Nat.le_of_ble_eq_true rfl, Nat.le_of_ble_eq_true rfl⟩ (fun r14 B14 H locs h14 hP hS => ?_)
    exact m_iret hx hb hr (rf_close h14 (if_neg c9)) hP hS dX9_loud_17 hlk
set_option maxHeartbeats 4000000 in
theorem mm_hour (l : Launch) (D : va_G) (t : Nat → ClassId) (mb : Nat) (B : BT) (hB : OkB B) : Met l yX9_hour (ws_ yX9_hour cX9_hour 1 (some .int)) ({ frames := 5, cells := 0, slots := 0, locals := 113 }) (zPc [.ref mb] (MW D t mb B) (KK D t)) (va_Qi (fun r B' => r = (hourS B).1 ∧ PE (hourS B).2 B') (fun B' U => MW D t mb B' U.heap) (mA mb)) 0 0 (mA mb) := by
  refine zOf (cc := cX9_hour) (maxL := 1) (ret := (some .int)) (by decide) (Nat.le_of_ble_eq_true rfl) (fun pg ev s m below meth cd ls F hP hKK hl hnm => ?_)
  obtain ⟨hx, hb, hml, hown, hts, hr, hlk⟩ := F
  have S : CallFix pg m cd cX9_hour 1 s _ lw_all RX9 := ⟨hx, hb, hml, hown, hts⟩
  have hl : lv_has ls 1 [(0, .ref mb)] := hl
  have hS : va_S (mA mb) s.heap s.heap [] := va_S.rf
  have ho := hB.1
  have hj6 := ho.h6
  have hs5 := ho.s5
  have hd8 := ho.d8
  have hh3 := ho.hr3
  have hh6 := ho.h6
  have hd0 := ho.hr0
  refine lv_aload_n hx hb dX9_hour_0 rfl (lv_at hl 0 rfl) ?_
  refine m_get hx hb hts hown hKK hP 1 (by decide) q1248 rfl rfl dX9_hour_1 ?_
  refine lv_iconst (v := 4) hx hb dX9_hour_4 (by decide) ?_
  refine m_ald hx hb hKK hP 2 rfl (k := 4) (v := B 2 4) rfl (by omega) (by decide) rfl dX9_hour_5 ?_
  refine lv_sipush (v := 999) hx hb dX9_hour_6 (by decide) ?_
  refine lv_icmp_ne (tgt := 21) hx hb dX9_hour_9 (by decide) (fun c9 => ?_) (fun c9 => ?_)
  · refine lv_aload_n hx hb dX9_hour_21 rfl (lv_at hl 0 rfl) ?_
    refine m_calli (As := []) (rest := []) S hKK hP hS (mm_goes l D t mb B 999 ho) (cwV 0 hts (lw_V q1438 q1440 qs80 q104 q1441) rfl rfl rfl (by decide +kernel) ⟨Nat.le_of_ble_eq_true rfl, Nat.le_of_ble_eq_true rfl⟩) rfl hl.1 rfl (Nat.le_of_ble_eq_true rfl) dX9_hour_22 ⟨Nat.le_of_ble_eq_true rfl, Nat.le_of_ble_eq_true rfl⟩ (fun r22 B22 H locs h22 hP hS => ?_)
    exact m_iret hx hb hr (by obtain ⟨rfl, rfl⟩ := h22; exact ok_close (o := hourS B) (if_neg c9) (PE_goE B)) hP hS dX9_hour_25 hlk
  · refine lv_aload_n hx hb dX9_hour_12 rfl (lv_at hl 0 rfl) ?_
    refine lv_bipush (v := (-6)) hx hb dX9_hour_13 (by decide) ?_
    refine m_calli (As := [.int (-6)]) (rest := []) S hKK hP hS (mm_refuse l D t mb B (-6) (ix (-(-6))) (rf1 rf_m6) (rf2 rf_m6)) (cwV 1 hts (lw_V q1306 q1308 qs60 q104 q1309) rfl rfl rfl (by decide +kernel) ⟨Nat.le_of_ble_eq_true rfl, Nat.le_of_ble_eq_true rfl⟩) rfl hl.1 rfl (Nat.le_of_ble_eq_true rfl) dX9_hour_15 ⟨Nat.le_of_ble_eq_true rfl, Nat.le_of_ble_eq_true rfl⟩ (fun r15 B15 H locs h15 hP hS => ?_)
    refine lv_goto (tgt := 25) hx hb dX9_hour_18 (by decide) ?_
    exact m_iret hx hb hr (rf_close h15 (if_pos c9)) hP hS dX9_hour_25 hlk
set_option maxHeartbeats 4000000 in
theorem mm_wrong (l : Launch) (D : va_G) (t : Nat → ClassId) (mb : Nat) (B : BT) (b : Bool) (x : Int32) : Met l yX9_wrong (ws_ yX9_wrong cX9_wrong 3 (some .int)) ({ frames := 1, cells := 0, slots := 0, locals := 22 }) (zPc [.ref mb, .int (bI b), .int x] (MW D t mb B) (KK D t)) (QcRead (wrS b x)) 0 0 (fun _ => False) := by
  refine zOf (cc := cX9_wrong) (maxL := 3) (ret := (some .int)) (by decide) (Nat.le_of_ble_eq_true rfl) (fun pg ev s m below meth cd ls F hP hKK hl hnm => ?_)
  obtain ⟨hx, hb, hml, hown, hts, hr, hlk⟩ := F
  have S : CallFix pg m cd cX9_wrong 3 s _ lw_all RX9 := ⟨hx, hb, hml, hown, hts⟩
  have hl : lv_has ls 3 [(0, .ref mb), (1, .int (bI b)), (2, .int x)] := hl
  refine lv_iload_n hx hb dX9_wrong_0 rfl (lv_at hl 1 rfl) ?_
  refine z_ifeq (tgt := 14) hx hb dX9_wrong_1 (by decide) (fun c1 => ?_) (fun c1 => ?_)
  · refine lv_iconst (v := (-1)) hx hb dX9_wrong_14 (by decide) ?_
    exact z_iretR hx hb hr (by grind [wrS, bI]) (fun q h => by cases h) rfl dX9_wrong_15 hlk
  · refine lv_iload_n hx hb dX9_wrong_4 rfl (lv_at hl 2 rfl) ?_
    refine lv_iconst (v := 0) hx hb dX9_wrong_5 (by decide) ?_
    refine lv_bipush (v := 60) hx hb dX9_wrong_6 (by decide) ?_
    refine m_callS (As := [.int x, .int 0, .int 60]) (rest := []) S hKK trivial (mm_within l D t x 0 60) (va_cwS 3 hts (lw_S q1303 q1304 q104 q1305) rfl rfl rfl (by decide +kernel) ⟨Nat.le_of_ble_eq_true rfl, Nat.le_of_ble_eq_true rfl⟩) rfl hl.1 rfl (Nat.le_of_ble_eq_true rfl) dX9_wrong_8 ⟨Nat.le_of_ble_eq_true rfl, Nat.le_of_ble_eq_true rfl⟩ ?_
    refine lv_goto (tgt := 15) hx hb dX9_wrong_11 (by decide) ?_
    exact z_iretR hx hb hr (by grind [wrS, bI]) (fun q h => by cases h) rfl dX9_wrong_15 hlk
set_option maxHeartbeats 4000000 in
theorem mm_hold (l : Launch) (D : va_G) (t : Nat → ClassId) (mb : Nat) (B : BT) (x : Int32) (y : Int32) (z : Int32) (hB : OkB B) : Met l yX9_hold (ws_ yX9_hold cX9_hold 6 (some .int)) ({ frames := 6, cells := 0, slots := 0, locals := 135 }) (zPc [.ref mb, .int x, .int y, .int z] (MW D t mb B) (KK D t)) (va_Qi (fun r B' => r = (holdS B x y z).1 ∧ PE (holdS B x y z).2 B') (fun B' U => MW D t mb B' U.heap) (mA mb)) 0 0 (mA mb) := by
  refine zOf (cc := cX9_hold) (maxL := 6) (ret := (some .int)) (by decide) (Nat.le_of_ble_eq_true rfl) (fun pg ev s m below meth cd ls F hP hKK hl hnm => ?_)
  obtain ⟨hx, hb, hml, hown, hts, hr, hlk⟩ := F
  have S : CallFix pg m cd cX9_hold 6 s _ lw_all RX9 := ⟨hx, hb, hml, hown, hts⟩
  have hl : lv_has ls 6 [(0, .ref mb), (1, .int x), (2, .int y), (3, .int z)] := hl
  have hS : va_S (mA mb) s.heap s.heap [] := va_S.rf
  have ho := hB.1
  have hj6 := ho.h6
  have hs5 := ho.s5
  have hd8 := ho.d8
  have hh3 := ho.hr3
  have hh6 := ho.h6
  have hd0 := ho.hr0
  refine lv_aload_n hx hb dX9_hold_0 rfl (lv_at hl 0 rfl) ?_
  refine lv_aload_n hx hb dX9_hold_1 rfl (lv_at hl 0 rfl) ?_
  refine lv_iload_n hx hb dX9_hold_2 rfl (lv_at hl 1 rfl) ?_
  refine m_callr (As := [.int x]) (rest := [.ref mb]) S hKK hP (mm_isHead l D t mb B x) (cwV 1 hts (lw_V q1358 q1360 qs69 q104 q1361) rfl rfl rfl (by decide +kernel) ⟨Nat.le_of_ble_eq_true rfl, Nat.le_of_ble_eq_true rfl⟩) rfl hl.1 rfl (Nat.le_of_ble_eq_true rfl) dX9_hold_3 ⟨Nat.le_of_ble_eq_true rfl, Nat.le_of_ble_eq_true rfl⟩ ?_
  refine lv_iload_n hx hb dX9_hold_6 rfl (lv_at hl 2 rfl) ?_
  refine m_callr (As := [.int (bI (decide (0 ≤ x ∧ x < B 2 3))), .int y]) (rest := []) S hKK hP (mm_wrong l D t mb B (decide (0 ≤ x ∧ x < B 2 3)) y) (cwV 2 hts (lw_V q1458 q1460 qs84 q104 q1461) rfl rfl rfl (by decide +kernel) ⟨Nat.le_of_ble_eq_true rfl, Nat.le_of_ble_eq_true rfl⟩) rfl hl.1 rfl (Nat.le_of_ble_eq_true rfl) dX9_hold_7 ⟨Nat.le_of_ble_eq_true rfl, Nat.le_of_ble_eq_true rfl⟩ ?_
  refine z_top (y := wrS (isH (B 2) x) y) rfl ?_
  refine lv_istore (lv' := [(4, .int (wrS (isH (B 2) x) y)), (0, .ref mb), (1, .int x), (2, .int y), (3, .int z)]) hx hb dX9_hold_10 hl (by decide) rfl (fun ls hl => ?_)
  refine W.join (α := Array Slot) (fun ls => F0 m 29 ls []) (fun ls => lv_has ls 6 [(4, .int (hoN (isH (B 2) x) y z)), (0, .ref mb), (1, .int x), (2, .int y), (3, .int z)]) (fun ls hl => ?_) (fun JL => ?_)
  · refine lv_iload hx hb dX9_hold_29 (lv_at hl 0 rfl) ?_
    refine lv_if_eq (tgt := 41) hx hb dX9_hold_31 (by decide) (fun c31 => ?_) (fun c31 => ?_)
    · have hw0 : wrS (isH (B 2) x) y = 0 ∧ isI z 2 = true := by unfold hoN at c31; grind
      have hw := wr_ix hw0.1
      have hh := isH_ix ho hw.1
      have hz := isI_ix (n := 2) (by omega) hw0.2
      refine lv_aload_n hx hb dX9_hold_41 rfl (lv_at hl 1 rfl) ?_
      refine m_callv (As := []) (rest := []) S hKK hP hS (mm_begins l D t mb B ) (cwV 0 hts (lw_V q1462 q1464 qs85 q104 q1465) rfl rfl rfl (by decide +kernel) ⟨Nat.le_of_ble_eq_true rfl, Nat.le_of_ble_eq_true rfl⟩) rfl hl.1 rfl (Nat.le_of_ble_eq_true rfl) dX9_hold_42 ⟨Nat.le_of_ble_eq_true rfl, Nat.le_of_ble_eq_true rfl⟩ (fun B42 H locs h42 hP hS => ?_)
      have h42 : B42 = upc B 5 (B 2) := h42
      subst h42
      refine lv_aload_n hx hb dX9_hold_45 rfl (lv_at hl 1 rfl) ?_
      refine lv_iload_n hx hb dX9_hold_46 rfl (lv_at hl 3 rfl) ?_
      refine z_stk (st' := [.int (nI (ix y)), .ref mb]) (by rw [← show y = nI (ix y) from hw.2.1]) ?_
      refine m_callv (As := [.int (nI (ix y))]) (rest := []) S hKK hP hS (mm_goesFor l D t mb (upc B 5 (B 2)) 999 (ix y) ho (by omega)) (cwV 1 hts (lw_V q1466 q1468 qs86 q104 q1469) rfl rfl rfl (by decide +kernel) ⟨Nat.le_of_ble_eq_true rfl, Nat.le_of_ble_eq_true rfl⟩) rfl hl.1 rfl (Nat.le_of_ble_eq_true rfl) dX9_hold_47 ⟨Nat.le_of_ble_eq_true rfl, Nat.le_of_ble_eq_true rfl⟩ (fun B47 H locs h47 hP hS => ?_)
      have h47 : B47 = grB (upc B 5 (B 2)) (ix y) := h47
      subst h47
      refine lv_aload_n hx hb dX9_hold_50 rfl (lv_at hl 1 rfl) ?_
      refine lv_iload_n hx hb dX9_hold_51 rfl (lv_at hl 2 rfl) ?_
      refine lv_iconst (v := 3) hx hb dX9_hold_52 (by decide) ?_
      refine lv_iload_n hx hb dX9_hold_53 rfl (lv_at hl 4 rfl) ?_
      refine lv_iadd hx hb dX9_hold_54 ?_
      refine z_stk (st' := [.int (nI (3 + ix z)), .int (nI (ix x)), .ref mb]) (by rw [← show x = nI (ix x) from hh.1]; rw [← show (3 + z) = nI (3 + ix z) from (nI_addO rfl hz.1)]) ?_
      refine m_callr (As := [.int (nI (ix x)), .int (nI (3 + ix z))]) (rest := []) S hKK hP (mm_at l D t mb (grB (upc B 5 (B 2)) (ix y)) (ix x) (3 + ix z) (by omega)) (cwV 2 hts (lw_V q1386 q1388 qs75 q104 q1389) rfl rfl rfl (by decide +kernel) ⟨Nat.le_of_ble_eq_true rfl, Nat.le_of_ble_eq_true rfl⟩) rfl hl.1 rfl (Nat.le_of_ble_eq_true rfl) dX9_hold_55 ⟨Nat.le_of_ble_eq_true rfl, Nat.le_of_ble_eq_true rfl⟩ ?_
      refine z_top (y := hd (hrS (B 2) (ix y)) (ix x) (3 + ix z)) (by rw [grB_2]; rfl) ?_
      refine lv_istore (lv' := [(5, .int (hd (hrS (B 2) (ix y)) (ix x) (3 + ix z))), (4, .int (hoN (isH (B 2) x) y z)), (0, .ref mb), (1, .int x), (2, .int y), (3, .int z)]) hx hb dX9_hold_58 hl (by decide) rfl (fun ls hl => ?_)
      refine lv_aload_n hx hb dX9_hold_60 rfl (lv_at hl 2 rfl) ?_
      refine m_callv (As := []) (rest := []) S hKK hP hS (mm_ends l D t mb (grB (upc B 5 (B 2)) (ix y)) ) (cwV 0 hts (lw_V q1470 q1472 qs87 q104 q1473) rfl rfl rfl (by decide +kernel) ⟨Nat.le_of_ble_eq_true rfl, Nat.le_of_ble_eq_true rfl⟩) rfl hl.1 rfl (Nat.le_of_ble_eq_true rfl) dX9_hold_61 ⟨Nat.le_of_ble_eq_true rfl, Nat.le_of_ble_eq_true rfl⟩ (fun B61 H locs h61 hP hS => ?_)
      have h61 : B61 = upc (grB (upc B 5 (B 2)) (ix y)) 2 ((grB (upc B 5 (B 2)) (ix y)) 5) := h61
      subst h61
      refine lv_iload hx hb dX9_hold_64 (lv_at hl 0 rfl) ?_
      exact m_iret hx hb hr (ok_close (o := holdS B x y z) (if_pos c31) (PE_gr B (ix y))) hP hS dX9_hold_66 hlk
    · have hno : rfOk (hoN (isH (B 2) x) y z) := by unfold hoN at c31 ⊢; split; exact rf_m2; exact rf_wr (by grind)
      refine lv_aload_n hx hb dX9_hold_34 rfl (lv_at hl 1 rfl) ?_
      refine lv_iload hx hb dX9_hold_35 (lv_at hl 0 rfl) ?_
      refine m_calli (As := [.int (hoN (isH (B 2) x) y z)]) (rest := []) S hKK hP hS (mm_refuse l D t mb B (hoN (isH (B 2) x) y z) (ix (-(hoN (isH (B 2) x) y z))) (rf1 hno) (rf2 hno)) (cwV 1 hts (lw_V q1306 q1308 qs60 q104 q1309) rfl rfl rfl (by decide +kernel) ⟨Nat.le_of_ble_eq_true rfl, Nat.le_of_ble_eq_true rfl⟩) rfl hl.1 rfl (Nat.le_of_ble_eq_true rfl) dX9_hold_37 ⟨Nat.le_of_ble_eq_true rfl, Nat.le_of_ble_eq_true rfl⟩ (fun r37 B37 H locs h37 hP hS => ?_)
      exact m_iret hx hb hr (rf_close h37 (if_neg c31)) hP hS dX9_hold_40 hlk
  · refine lv_iload hx hb dX9_hold_12 (lv_at hl 0 rfl) ?_
    refine lv_if_ne (tgt := 29) hx hb dX9_hold_14 (by decide) (fun c14 => ?_) (fun c14 => ?_)
    · exact JL ls (by rw [show hoN (isH (B 2) x) y z = wrS (isH (B 2) x) y from (by grind [hoN, isI])]; exact lv_sub hl [0, 1, 2, 3, 4] rfl)
    · refine lv_iload_n hx hb dX9_hold_17 rfl (lv_at hl 4 rfl) ?_
      refine lv_iconst (v := 2) hx hb dX9_hold_18 (by decide) ?_
      refine m_callS (As := [.int z, .int 2]) (rest := []) S hKK trivial (mm_isIn l D t z 2) (va_cwS 2 hts (lw_S q1330 q1331 q104 q1332) rfl rfl rfl (by decide +kernel) ⟨Nat.le_of_ble_eq_true rfl, Nat.le_of_ble_eq_true rfl⟩) rfl hl.1 rfl (Nat.le_of_ble_eq_true rfl) dX9_hold_19 ⟨Nat.le_of_ble_eq_true rfl, Nat.le_of_ble_eq_true rfl⟩ ?_
      refine z_ifne (tgt := 29) hx hb dX9_hold_22 (by decide) (fun c22 => ?_) (fun c22 => ?_)
      · exact JL ls (by rw [show hoN (isH (B 2) x) y z = wrS (isH (B 2) x) y from (by grind [hoN, isI])]; exact lv_sub hl [0, 1, 2, 3, 4] rfl)
      · refine lv_bipush (v := (-2)) hx hb dX9_hold_25 (by decide) ?_
        refine lv_istore (lv' := [(4, .int (-2)), (0, .ref mb), (1, .int x), (2, .int y), (3, .int z)]) hx hb dX9_hold_27 hl (by decide) rfl (fun ls hl => ?_)
        exact JL ls (by rw [show hoN (isH (B 2) x) y z = (-2) from (by grind [hoN, isI])]; exact lv_sub hl [0, 1, 2, 3, 4] rfl)
set_option maxHeartbeats 4000000 in
theorem mm_have (l : Launch) (D : va_G) (t : Nat → ClassId) (mb : Nat) (B : BT) (x : Int32) (y : Int32) (hB : OkB B) : Met l yX9_have (ws_ yX9_have cX9_have 4 (some .int)) ({ frames := 7, cells := 0, slots := 0, locals := 158 }) (zPc [.ref mb, .int x, .int y] (MW D t mb B) (KK D t)) (va_Qi (fun r B' => r = (haveS B x y).1 ∧ PE (haveS B x y).2 B') (fun B' U => MW D t mb B' U.heap) (mA mb)) 0 0 (mA mb) := by
  refine zOf (cc := cX9_have) (maxL := 4) (ret := (some .int)) (by decide) (Nat.le_of_ble_eq_true rfl) (fun pg ev s m below meth cd ls F hP hKK hl hnm => ?_)
  obtain ⟨hx, hb, hml, hown, hts, hr, hlk⟩ := F
  have S : CallFix pg m cd cX9_have 4 s _ lw_all RX9 := ⟨hx, hb, hml, hown, hts⟩
  have hl : lv_has ls 4 [(0, .ref mb), (1, .int x), (2, .int y)] := hl
  have hS : va_S (mA mb) s.heap s.heap [] := va_S.rf
  have ho := hB.1
  have hj6 := ho.h6
  have hs5 := ho.s5
  have hd8 := ho.d8
  have hh3 := ho.hr3
  have hh6 := ho.h6
  have hd0 := ho.hr0
  refine lv_aload_n hx hb dX9_have_0 rfl (lv_at hl 0 rfl) ?_
  refine W.join (fun vJ => F0 m 19 ls (.int vJ :: [.ref mb])) (fun vJ => vJ = bI (isN (B 2) x)) (fun vJ hJ => ?_) (fun J => ?_)
  · subst hJ
    refine lv_iload_n hx hb dX9_have_19 rfl (lv_at hl 2 rfl) ?_
    refine m_callr (As := [.int (bI (isN (B 2) x)), .int y]) (rest := []) S hKK hP (mm_wrong l D t mb B (isN (B 2) x) y) (cwV 2 hts (lw_V q1458 q1460 qs84 q104 q1461) rfl rfl rfl (by decide +kernel) ⟨Nat.le_of_ble_eq_true rfl, Nat.le_of_ble_eq_true rfl⟩) rfl hl.1 rfl (Nat.le_of_ble_eq_true rfl) dX9_have_20 ⟨Nat.le_of_ble_eq_true rfl, Nat.le_of_ble_eq_true rfl⟩ ?_
    refine lv_istore_n (lv' := [(3, .int (wrS (isN (B 2) x) y)), (0, .ref mb), (1, .int x), (2, .int y)]) hx hb dX9_have_23 rfl hl (by decide) rfl (fun ls hl => ?_)
    refine lv_iload_n hx hb dX9_have_24 rfl (lv_at hl 0 rfl) ?_
    refine lv_if_eq (tgt := 34) hx hb dX9_have_25 (by decide) (fun c25 => ?_) (fun c25 => ?_)
    · have hw := wr_ix c25
      refine lv_aload_n hx hb dX9_have_34 rfl (lv_at hl 1 rfl) ?_
      refine m_callv (As := []) (rest := []) S hKK hP hS (mm_begins l D t mb B ) (cwV 0 hts (lw_V q1462 q1464 qs85 q104 q1465) rfl rfl rfl (by decide +kernel) ⟨Nat.le_of_ble_eq_true rfl, Nat.le_of_ble_eq_true rfl⟩) rfl hl.1 rfl (Nat.le_of_ble_eq_true rfl) dX9_have_35 ⟨Nat.le_of_ble_eq_true rfl, Nat.le_of_ble_eq_true rfl⟩ (fun B35 H locs h35 hP hS => ?_)
      have h35 : B35 = upc B 5 (B 2) := h35
      subst h35
      refine lv_aload_n hx hb dX9_have_38 rfl (lv_at hl 1 rfl) ?_
      refine lv_iload_n hx hb dX9_have_39 rfl (lv_at hl 2 rfl) ?_
      refine lv_iload_n hx hb dX9_have_40 rfl (lv_at hl 3 rfl) ?_
      refine z_stk (st' := [.int (nI (ix y)), .int x, .ref mb]) (by rw [← show y = nI (ix y) from hw.2.1]) ?_
      refine m_calli (As := [.int x, .int (nI (ix y))]) (rest := []) S hKK hP hS (mm_haveBehind l D t mb (upc B 5 (B 2)) 999 (ix y) x ho (by omega)) (cwV 2 hts (lw_V q1478 q1480 qs88 q104 q1481) rfl rfl rfl (by decide +kernel) ⟨Nat.le_of_ble_eq_true rfl, Nat.le_of_ble_eq_true rfl⟩) rfl hl.1 rfl (Nat.le_of_ble_eq_true rfl) dX9_have_41 ⟨Nat.le_of_ble_eq_true rfl, Nat.le_of_ble_eq_true rfl⟩ (fun r41 B41 H locs h41 hP hS => ?_)
      exact m_iret hx hb hr (by obtain ⟨rfl, hs⟩ := h41; exact ok_close (o := haveS B x y) (if_pos c25) ((RB_begin B).sc hs).pe) hP hS dX9_have_44 hlk
    · have hno := rf_wr c25
      refine lv_aload_n hx hb dX9_have_28 rfl (lv_at hl 1 rfl) ?_
      refine lv_iload_n hx hb dX9_have_29 rfl (lv_at hl 0 rfl) ?_
      refine m_calli (As := [.int (wrS (isN (B 2) x) y)]) (rest := []) S hKK hP hS (mm_refuse l D t mb B (wrS (isN (B 2) x) y) (ix (-(wrS (isN (B 2) x) y))) (rf1 hno) (rf2 hno)) (cwV 1 hts (lw_V q1306 q1308 qs60 q104 q1309) rfl rfl rfl (by decide +kernel) ⟨Nat.le_of_ble_eq_true rfl, Nat.le_of_ble_eq_true rfl⟩) rfl hl.1 rfl (Nat.le_of_ble_eq_true rfl) dX9_have_30 ⟨Nat.le_of_ble_eq_true rfl, Nat.le_of_ble_eq_true rfl⟩ (fun r30 B30 H locs h30 hP hS => ?_)
      exact m_iret hx hb hr (rf_close h30 (if_neg c25)) hP hS dX9_have_33 hlk
  · refine lv_iload_n hx hb dX9_have_1 rfl (lv_at hl 1 rfl) ?_
    refine lv_iconst (v := (-1)) hx hb dX9_have_2 (by decide) ?_
    refine lv_icmp_eq (tgt := 14) hx hb dX9_have_3 (by decide) (fun c3 => ?_) (fun c3 => ?_)
    · refine lv_iconst (v := 1) hx hb dX9_have_14 (by decide) ?_
      refine lv_goto (tgt := 19) hx hb dX9_have_15 (by decide) ?_
      exact J _ (by grind [isN, isS, bI])
    · refine lv_aload_n hx hb dX9_have_6 rfl (lv_at hl 0 rfl) ?_
      refine lv_iload_n hx hb dX9_have_7 rfl (lv_at hl 1 rfl) ?_
      refine m_callr (As := [.int x]) (rest := [.ref mb]) S hKK hP (mm_isSong l D t mb B x) (cwV 1 hts (lw_V q1362 q1364 qs70 q104 q1365) rfl rfl rfl (by decide +kernel) ⟨Nat.le_of_ble_eq_true rfl, Nat.le_of_ble_eq_true rfl⟩) rfl hl.1 rfl (Nat.le_of_ble_eq_true rfl) dX9_have_8 ⟨Nat.le_of_ble_eq_true rfl, Nat.le_of_ble_eq_true rfl⟩ ?_
      refine z_ifeq (tgt := 18) hx hb dX9_have_11 (by decide) (fun c11 => ?_) (fun c11 => ?_)
      · refine lv_iconst (v := 0) hx hb dX9_have_18 (by decide) ?_
        exact J _ (by grind [isN, isS, bI])
      · refine lv_iconst (v := 1) hx hb dX9_have_14 (by decide) ?_
        refine lv_goto (tgt := 19) hx hb dX9_have_15 (by decide) ?_
        exact J _ (by grind [isN, isS, bI])
set_option maxHeartbeats 4000000 in
theorem mm_takes_2 (l : Launch) (D : va_G) (t : Nat → ClassId) (mb : Nat) (B : BT) (x : Int32) (y : Int32) (hB : OkB B) : Met l yX9_takes_2 (ws_ yX9_takes_2 cX9_takes_2 5 (some .int)) ({ frames := 5, cells := 0, slots := 0, locals := 113 }) (zPc [.ref mb, .int x, .int y] (MW D t mb B) (KK D t)) (va_Qi (fun r B' => r = (takeS B x y).1 ∧ PE (takeS B x y).2 B') (fun B' U => MW D t mb B' U.heap) (mA mb)) 0 0 (mA mb) := by
  refine zOf (cc := cX9_takes_2) (maxL := 5) (ret := (some .int)) (by decide) (Nat.le_of_ble_eq_true rfl) (fun pg ev s m below meth cd ls F hP hKK hl hnm => ?_)
  obtain ⟨hx, hb, hml, hown, hts, hr, hlk⟩ := F
  have S : CallFix pg m cd cX9_takes_2 5 s _ lw_all RX9 := ⟨hx, hb, hml, hown, hts⟩
  have hl : lv_has ls 5 [(0, .ref mb), (1, .int x), (2, .int y)] := hl
  have hS : va_S (mA mb) s.heap s.heap [] := va_S.rf
  have ho := hB.1
  have hj6 := ho.h6
  have hs5 := ho.s5
  have hd8 := ho.d8
  have hh3 := ho.hr3
  have hh6 := ho.h6
  have hd0 := ho.hr0
  refine lv_aload_n hx hb dX9_takes_2_0 rfl (lv_at hl 0 rfl) ?_
  refine lv_iload_n hx hb dX9_takes_2_1 rfl (lv_at hl 1 rfl) ?_
  refine m_callr (As := [.int x]) (rest := []) S hKK hP (mm_isHead l D t mb B x) (cwV 1 hts (lw_V q1358 q1360 qs69 q104 q1361) rfl rfl rfl (by decide +kernel) ⟨Nat.le_of_ble_eq_true rfl, Nat.le_of_ble_eq_true rfl⟩) rfl hl.1 rfl (Nat.le_of_ble_eq_true rfl) dX9_takes_2_2 ⟨Nat.le_of_ble_eq_true rfl, Nat.le_of_ble_eq_true rfl⟩ ?_
  refine z_ifeq (tgt := 16) hx hb dX9_takes_2_5 (by decide) (fun c5 => ?_) (fun c5 => ?_)
  · refine lv_aload_n hx hb dX9_takes_2_16 rfl (lv_at hl 0 rfl) ?_
    refine lv_iconst (v := (-1)) hx hb dX9_takes_2_17 (by decide) ?_
    refine m_calli (As := [.int (-1)]) (rest := []) S hKK hP hS (mm_refuse l D t mb B (-1) (ix (-(-1))) (rf1 rf_m1) (rf2 rf_m1)) (cwV 1 hts (lw_V q1306 q1308 qs60 q104 q1309) rfl rfl rfl (by decide +kernel) ⟨Nat.le_of_ble_eq_true rfl, Nat.le_of_ble_eq_true rfl⟩) rfl hl.1 rfl (Nat.le_of_ble_eq_true rfl) dX9_takes_2_18 ⟨Nat.le_of_ble_eq_true rfl, Nat.le_of_ble_eq_true rfl⟩ (fun r18 B18 H locs h18 hP hS => ?_)
    exact m_iret hx hb hr (rf_close h18 (by unfold takeS isH isS; rw [if_neg (by grind)])) hP hS dX9_takes_2_21 hlk
  · have hh := isH_ix ho c5
    refine lv_aload_n hx hb dX9_takes_2_8 rfl (lv_at hl 0 rfl) ?_
    refine lv_iload_n hx hb dX9_takes_2_9 rfl (lv_at hl 2 rfl) ?_
    refine m_callr (As := [.int y]) (rest := []) S hKK hP (mm_isSong l D t mb B y) (cwV 1 hts (lw_V q1362 q1364 qs70 q104 q1365) rfl rfl rfl (by decide +kernel) ⟨Nat.le_of_ble_eq_true rfl, Nat.le_of_ble_eq_true rfl⟩) rfl hl.1 rfl (Nat.le_of_ble_eq_true rfl) dX9_takes_2_10 ⟨Nat.le_of_ble_eq_true rfl, Nat.le_of_ble_eq_true rfl⟩ ?_
    refine z_ifne (tgt := 22) hx hb dX9_takes_2_13 (by decide) (fun c13 => ?_) (fun c13 => ?_)
    · have hy := isS_ix ho c13
      refine lv_aload_n hx hb dX9_takes_2_22 rfl (lv_at hl 0 rfl) ?_
      refine m_callv (As := []) (rest := []) S hKK hP hS (mm_begins l D t mb B ) (cwV 0 hts (lw_V q1462 q1464 qs85 q104 q1465) rfl rfl rfl (by decide +kernel) ⟨Nat.le_of_ble_eq_true rfl, Nat.le_of_ble_eq_true rfl⟩) rfl hl.1 rfl (Nat.le_of_ble_eq_true rfl) dX9_takes_2_23 ⟨Nat.le_of_ble_eq_true rfl, Nat.le_of_ble_eq_true rfl⟩ (fun B23 H locs h23 hP hS => ?_)
      have h23 : B23 = upc B 5 (B 2) := h23
      subst h23
      refine lv_bipush (v := (-9)) hx hb dX9_takes_2_26 (by decide) ?_
      refine lv_istore_n (lv' := [(3, .int (-9)), (0, .ref mb), (1, .int x), (2, .int y)]) hx hb dX9_takes_2_28 rfl hl (by decide) rfl (fun ls hl => ?_)
      refine lv_iconst (v := 0) hx hb dX9_takes_2_29 (by decide) ?_
      refine lv_istore (lv' := [(4, .int 0), (3, .int (-9)), (0, .ref mb), (1, .int x), (2, .int y)]) hx hb dX9_takes_2_30 hl (by decide) rfl (fun ls hl => ?_)
      refine W.loop (σ := Nat) (fun k H locs ls => k ≤ 61 ∧ (True) ∧ MW D t mb (grB (upc B 5 (B 2)) k) H ∧ va_S (mA mb) s.heap H locs ∧ lv_has ls 5 [(4, .int (nI k)), (3, .int (fdS (fun n => decide (hd (hrS (B 2) n) (ix x) 3 = y)) k)), (0, .ref mb), (1, .int x), (2, .int y)]) (fun k => 61 - k) (fun k H locs ls hIk ihk => ?_) 0 ⟨by omega, trivial, (by rw [show grB (upc B 5 (B 2)) 0 = upc B 5 (B 2) from rfl]; exact hP), hS, lv_sub hl [0, 1, 2, 3, 4] rfl⟩
      obtain ⟨hk, hEk, hP, hS, hl⟩ := hIk
      refine lv_iload hx hb dX9_takes_2_32 (lv_at hl 0 rfl) ?_
      refine lv_bipush (v := 60) hx hb dX9_takes_2_34 (by decide) ?_
      refine lv_icmp_gt (tgt := 72) hx hb dX9_takes_2_36 (by decide) (fun c36 => ?_) (fun c36 => ?_)
      · obtain rfl : k = 61 := Nat.le_antisymm hk (lp_gt (n := 60) rfl (by omega) (by omega) c36)
        refine lv_aload_n hx hb dX9_takes_2_72 rfl (lv_at hl 2 rfl) ?_
        refine m_callv (As := []) (rest := []) S hKK hP hS (mm_ends l D t mb (grB (upc B 5 (B 2)) 61) ) (cwV 0 hts (lw_V q1470 q1472 qs87 q104 q1473) rfl rfl rfl (by decide +kernel) ⟨Nat.le_of_ble_eq_true rfl, Nat.le_of_ble_eq_true rfl⟩) rfl hl.1 rfl (Nat.le_of_ble_eq_true rfl) dX9_takes_2_73 ⟨Nat.le_of_ble_eq_true rfl, Nat.le_of_ble_eq_true rfl⟩ (fun B73 H locs h73 hP hS => ?_)
        have h73 : B73 = upc (grB (upc B 5 (B 2)) 61) 2 ((grB (upc B 5 (B 2)) 61) 5) := h73
        subst h73
        refine lv_iload_n hx hb dX9_takes_2_76 rfl (lv_at hl 1 rfl) ?_
        exact m_iret hx hb hr (ok_close (o := takeS B x y) (by unfold takeS; rw [if_pos ⟨c5, c13⟩]) (PE_gr B 61)) hP hS dX9_takes_2_77 hlk
      · have hk2 : k ≤ 60 := lp_ng (n := 60) rfl (by omega) (by omega) c36
        have hok : Ok (grB (upc B 5 (B 2)) k 2) (999 + k) := by rw [grB_2]; exact Ok_hrS ho (by omega)
        have hg2 : grB (upc B 5 (B 2)) k 2 = hrS (B 2) k := grB_2 _ k
        refine lv_iload_n hx hb dX9_takes_2_39 rfl (lv_at hl 1 rfl) ?_
        refine lv_if_ge (tgt := 72) hx hb dX9_takes_2_40 (by decide) (fun c40 => ?_) (fun c40 => ?_)
        · refine lv_aload_n hx hb dX9_takes_2_72 rfl (lv_at hl 2 rfl) ?_
          refine m_callv (As := []) (rest := []) S hKK hP hS (mm_ends l D t mb (grB (upc B 5 (B 2)) k) ) (cwV 0 hts (lw_V q1470 q1472 qs87 q104 q1473) rfl rfl rfl (by decide +kernel) ⟨Nat.le_of_ble_eq_true rfl, Nat.le_of_ble_eq_true rfl⟩) rfl hl.1 rfl (Nat.le_of_ble_eq_true rfl) dX9_takes_2_73 ⟨Nat.le_of_ble_eq_true rfl, Nat.le_of_ble_eq_true rfl⟩ (fun B73 H locs h73 hP hS => ?_)
          have h73 : B73 = upc (grB (upc B 5 (B 2)) k) 2 ((grB (upc B 5 (B 2)) k) 5) := h73
          subst h73
          refine lv_iload_n hx hb dX9_takes_2_76 rfl (lv_at hl 1 rfl) ?_
          exact m_iret hx hb hr (ok_close (o := takeS B x y) (by unfold takeS; rw [if_pos ⟨c5, c13⟩]; rw [fdS_more c40 (show k ≤ 61 by omega)]) (PE_gr B k)) hP hS dX9_takes_2_77 hlk
        · refine W.join (fun vJ => F0 m 60 ls (.int vJ :: [])) (fun vJ => vJ = fdS (fun n => decide (hd (hrS (B 2) n) (ix x) 3 = y)) (k + 1)) (fun vJ hJ => ?_) (fun J => ?_)
          · subst hJ
            refine lv_istore_n (lv' := [(3, .int (fdS (fun n => decide (hd (hrS (B 2) n) (ix x) 3 = y)) (k + 1))), (4, .int (nI k)), (0, .ref mb), (1, .int x), (2, .int y)]) hx hb dX9_takes_2_60 rfl hl (by decide) rfl (fun ls hl => ?_)
            refine lv_aload_n hx hb dX9_takes_2_61 rfl (lv_at hl 2 rfl) ?_
            refine m_calli (As := []) (rest := []) S hKK hP hS (mm_goes l D t mb (grB (upc B 5 (B 2)) k) (999 + k) hok) (cwV 0 hts (lw_V q1438 q1440 qs80 q104 q1441) rfl rfl rfl (by decide +kernel) ⟨Nat.le_of_ble_eq_true rfl, Nat.le_of_ble_eq_true rfl⟩) rfl hl.1 rfl (Nat.le_of_ble_eq_true rfl) dX9_takes_2_62 ⟨Nat.le_of_ble_eq_true rfl, Nat.le_of_ble_eq_true rfl⟩ (fun r62 B62 H locs h62 hP hS => ?_)
            obtain ⟨-, hb62⟩ : _ ∧ B62 = goE (grB (upc B 5 (B 2)) k) := h62
            subst hb62
            refine lv_pop hx hb dX9_takes_2_65 rfl ?_
            refine lv_iinc (v := nI (k + 1)) (lv' := [(4, .int (nI (k + 1))), (3, .int (fdS (fun n => decide (hd (hrS (B 2) n) (ix x) 3 = y)) (k + 1))), (0, .ref mb), (1, .int x), (2, .int y)]) hx hb dX9_takes_2_66 hl (k := 1) rfl (nI_1 k) (by decide) rfl (fun ls hl => ?_)
            refine lv_goto (tgt := 32) hx hb dX9_takes_2_69 (by decide) ?_
            exact ihk (k + 1) H locs ls (by omega) ⟨by omega, trivial, (by rw [show grB (upc B 5 (B 2)) (k + 1) = goE (grB (upc B 5 (B 2)) k) from rfl]; exact hP), hS, lv_sub hl [0, 1, 2, 3, 4] rfl⟩
          · refine lv_aload_n hx hb dX9_takes_2_43 rfl (lv_at hl 2 rfl) ?_
            refine lv_iload_n hx hb dX9_takes_2_44 rfl (lv_at hl 3 rfl) ?_
            refine lv_iconst (v := 3) hx hb dX9_takes_2_45 (by decide) ?_
            refine z_stk (st' := [.int 3, .int (nI (ix x)), .ref mb]) (by rw [← show x = nI (ix x) from hh.1]) ?_
            refine m_callr (As := [.int (nI (ix x)), .int 3]) (rest := []) S hKK hP (mm_at l D t mb (grB (upc B 5 (B 2)) k) (ix x) 3 (by omega)) (cwV 2 hts (lw_V q1386 q1388 qs75 q104 q1389) rfl rfl rfl (by decide +kernel) ⟨Nat.le_of_ble_eq_true rfl, Nat.le_of_ble_eq_true rfl⟩) rfl hl.1 rfl (Nat.le_of_ble_eq_true rfl) dX9_takes_2_46 ⟨Nat.le_of_ble_eq_true rfl, Nat.le_of_ble_eq_true rfl⟩ ?_
            refine z_top (y := hd (hrS (B 2) k) (ix x) 3) (by rw [hg2]) ?_
            refine lv_iload_n hx hb dX9_takes_2_49 rfl (lv_at hl 4 rfl) ?_
            refine lv_icmp_ne (tgt := 58) hx hb dX9_takes_2_50 (by decide) (fun c50 => ?_) (fun c50 => ?_)
            · refine lv_bipush (v := (-9)) hx hb dX9_takes_2_58 (by decide) ?_
              exact J _ (by grind [fdS])
            · refine lv_iload hx hb dX9_takes_2_53 (lv_at hl 0 rfl) ?_
              refine lv_goto (tgt := 60) hx hb dX9_takes_2_55 (by decide) ?_
              exact J _ (by grind [fdS])
    · refine lv_aload_n hx hb dX9_takes_2_16 rfl (lv_at hl 0 rfl) ?_
      refine lv_iconst (v := (-1)) hx hb dX9_takes_2_17 (by decide) ?_
      refine m_calli (As := [.int (-1)]) (rest := []) S hKK hP hS (mm_refuse l D t mb B (-1) (ix (-(-1))) (rf1 rf_m1) (rf2 rf_m1)) (cwV 1 hts (lw_V q1306 q1308 qs60 q104 q1309) rfl rfl rfl (by decide +kernel) ⟨Nat.le_of_ble_eq_true rfl, Nat.le_of_ble_eq_true rfl⟩) rfl hl.1 rfl (Nat.le_of_ble_eq_true rfl) dX9_takes_2_18 ⟨Nat.le_of_ble_eq_true rfl, Nat.le_of_ble_eq_true rfl⟩ (fun r18 B18 H locs h18 hP hS => ?_)
      exact m_iret hx hb hr (rf_close h18 (by unfold takeS isH isS; rw [if_neg (by grind)])) hP hS dX9_takes_2_21 hlk
set_option maxHeartbeats 4000000 in
theorem mm_still (l : Launch) (D : va_G) (t : Nat → ClassId) (mb : Nat) (B : BT) (hB : OkB B) : Met l yX9_still (ws_ yX9_still cX9_still 3 (some .int)) ({ frames := 5, cells := 0, slots := 0, locals := 113 }) (zPc [.ref mb] (MW D t mb B) (KK D t)) (va_Qi (fun r B' => r = (stilS B).1 ∧ PE (stilS B).2 B') (fun B' U => MW D t mb B' U.heap) (mA mb)) 0 0 (mA mb) := by
  refine zOf (cc := cX9_still) (maxL := 3) (ret := (some .int)) (by decide) (Nat.le_of_ble_eq_true rfl) (fun pg ev s m below meth cd ls F hP hKK hl hnm => ?_)
  obtain ⟨hx, hb, hml, hown, hts, hr, hlk⟩ := F
  have S : CallFix pg m cd cX9_still 3 s _ lw_all RX9 := ⟨hx, hb, hml, hown, hts⟩
  have hl : lv_has ls 3 [(0, .ref mb)] := hl
  have hS : va_S (mA mb) s.heap s.heap [] := va_S.rf
  have ho := hB.1
  have hj6 := ho.h6
  have hs5 := ho.s5
  have hd8 := ho.d8
  have hh3 := ho.hr3
  have hh6 := ho.h6
  have hd0 := ho.hr0
  refine lv_aload_n hx hb dX9_still_0 rfl (lv_at hl 0 rfl) ?_
  refine m_callv (As := []) (rest := []) S hKK hP hS (mm_begins l D t mb B ) (cwV 0 hts (lw_V q1462 q1464 qs85 q104 q1465) rfl rfl rfl (by decide +kernel) ⟨Nat.le_of_ble_eq_true rfl, Nat.le_of_ble_eq_true rfl⟩) rfl hl.1 rfl (Nat.le_of_ble_eq_true rfl) dX9_still_1 ⟨Nat.le_of_ble_eq_true rfl, Nat.le_of_ble_eq_true rfl⟩ (fun B1 H locs h1 hP hS => ?_)
  have h1 : B1 = upc B 5 (B 2) := h1
  subst h1
  refine lv_bipush (v := (-9)) hx hb dX9_still_4 (by decide) ?_
  refine lv_istore_n (lv' := [(1, .int (-9)), (0, .ref mb)]) hx hb dX9_still_6 rfl hl (by decide) rfl (fun ls hl => ?_)
  refine lv_iconst (v := 0) hx hb dX9_still_7 (by decide) ?_
  refine lv_istore_n (lv' := [(2, .int 0), (1, .int (-9)), (0, .ref mb)]) hx hb dX9_still_8 rfl hl (by decide) rfl (fun ls hl => ?_)
  refine W.loop (σ := Nat) (fun k H locs ls => k ≤ 61 ∧ (True) ∧ MW D t mb (grB (upc B 5 (B 2)) k) H ∧ va_S (mA mb) s.heap H locs ∧ lv_has ls 3 [(2, .int (nI k)), (1, .int (fdS (fun n => decide (haS (hrS (B 2) n) (-1) = 0)) k)), (0, .ref mb)]) (fun k => 61 - k) (fun k H locs ls hIk ihk => ?_) 0 ⟨by omega, trivial, (by rw [show grB (upc B 5 (B 2)) 0 = upc B 5 (B 2) from rfl]; exact hP), hS, lv_sub hl [0, 1, 2] rfl⟩
  obtain ⟨hk, hEk, hP, hS, hl⟩ := hIk
  refine lv_iload_n hx hb dX9_still_9 rfl (lv_at hl 0 rfl) ?_
  refine lv_bipush (v := 60) hx hb dX9_still_10 (by decide) ?_
  refine lv_icmp_gt (tgt := 45) hx hb dX9_still_12 (by decide) (fun c12 => ?_) (fun c12 => ?_)
  · obtain rfl : k = 61 := Nat.le_antisymm hk (lp_gt (n := 60) rfl (by omega) (by omega) c12)
    refine lv_aload_n hx hb dX9_still_45 rfl (lv_at hl 2 rfl) ?_
    refine m_callv (As := []) (rest := []) S hKK hP hS (mm_ends l D t mb (grB (upc B 5 (B 2)) 61) ) (cwV 0 hts (lw_V q1470 q1472 qs87 q104 q1473) rfl rfl rfl (by decide +kernel) ⟨Nat.le_of_ble_eq_true rfl, Nat.le_of_ble_eq_true rfl⟩) rfl hl.1 rfl (Nat.le_of_ble_eq_true rfl) dX9_still_46 ⟨Nat.le_of_ble_eq_true rfl, Nat.le_of_ble_eq_true rfl⟩ (fun B46 H locs h46 hP hS => ?_)
    have h46 : B46 = upc (grB (upc B 5 (B 2)) 61) 2 ((grB (upc B 5 (B 2)) 61) 5) := h46
    subst h46
    refine lv_iload_n hx hb dX9_still_49 rfl (lv_at hl 1 rfl) ?_
    exact m_iret hx hb hr (ok_close (o := stilS B) (by unfold stilS; rfl) (PE_gr B 61)) hP hS dX9_still_50 hlk
  · have hk2 : k ≤ 60 := lp_ng (n := 60) rfl (by omega) (by omega) c12
    have hok : Ok (grB (upc B 5 (B 2)) k 2) (999 + k) := by rw [grB_2]; exact Ok_hrS ho (by omega)
    have hg2 : grB (upc B 5 (B 2)) k 2 = hrS (B 2) k := grB_2 _ k
    refine lv_iload_n hx hb dX9_still_15 rfl (lv_at hl 1 rfl) ?_
    refine lv_if_ge (tgt := 45) hx hb dX9_still_16 (by decide) (fun c16 => ?_) (fun c16 => ?_)
    · refine lv_aload_n hx hb dX9_still_45 rfl (lv_at hl 2 rfl) ?_
      refine m_callv (As := []) (rest := []) S hKK hP hS (mm_ends l D t mb (grB (upc B 5 (B 2)) k) ) (cwV 0 hts (lw_V q1470 q1472 qs87 q104 q1473) rfl rfl rfl (by decide +kernel) ⟨Nat.le_of_ble_eq_true rfl, Nat.le_of_ble_eq_true rfl⟩) rfl hl.1 rfl (Nat.le_of_ble_eq_true rfl) dX9_still_46 ⟨Nat.le_of_ble_eq_true rfl, Nat.le_of_ble_eq_true rfl⟩ (fun B46 H locs h46 hP hS => ?_)
      have h46 : B46 = upc (grB (upc B 5 (B 2)) k) 2 ((grB (upc B 5 (B 2)) k) 5) := h46
      subst h46
      refine lv_iload_n hx hb dX9_still_49 rfl (lv_at hl 1 rfl) ?_
      exact m_iret hx hb hr (ok_close (o := stilS B) (by unfold stilS; rw [fdS_more c16 (show k ≤ 61 by omega)]) (PE_gr B k)) hP hS dX9_still_50 hlk
    · refine W.join (fun vJ => F0 m 33 ls (.int vJ :: [])) (fun vJ => vJ = fdS (fun n => decide (haS (hrS (B 2) n) (-1) = 0)) (k + 1)) (fun vJ hJ => ?_) (fun J => ?_)
      · subst hJ
        refine lv_istore_n (lv' := [(1, .int (fdS (fun n => decide (haS (hrS (B 2) n) (-1) = 0)) (k + 1))), (2, .int (nI k)), (0, .ref mb)]) hx hb dX9_still_33 rfl hl (by decide) rfl (fun ls hl => ?_)
        refine lv_aload_n hx hb dX9_still_34 rfl (lv_at hl 2 rfl) ?_
        refine m_calli (As := []) (rest := []) S hKK hP hS (mm_goes l D t mb (grB (upc B 5 (B 2)) k) (999 + k) hok) (cwV 0 hts (lw_V q1438 q1440 qs80 q104 q1441) rfl rfl rfl (by decide +kernel) ⟨Nat.le_of_ble_eq_true rfl, Nat.le_of_ble_eq_true rfl⟩) rfl hl.1 rfl (Nat.le_of_ble_eq_true rfl) dX9_still_35 ⟨Nat.le_of_ble_eq_true rfl, Nat.le_of_ble_eq_true rfl⟩ (fun r35 B35 H locs h35 hP hS => ?_)
        obtain ⟨-, hb35⟩ : _ ∧ B35 = goE (grB (upc B 5 (B 2)) k) := h35
        subst hb35
        refine lv_pop hx hb dX9_still_38 rfl ?_
        refine lv_iinc (v := nI (k + 1)) (lv' := [(2, .int (nI (k + 1))), (1, .int (fdS (fun n => decide (haS (hrS (B 2) n) (-1) = 0)) (k + 1))), (0, .ref mb)]) hx hb dX9_still_39 hl (k := 1) rfl (nI_1 k) (by decide) rfl (fun ls hl => ?_)
        refine lv_goto (tgt := 9) hx hb dX9_still_42 (by decide) ?_
        exact ihk (k + 1) H locs ls (by omega) ⟨by omega, trivial, (by rw [show grB (upc B 5 (B 2)) (k + 1) = goE (grB (upc B 5 (B 2)) k) from rfl]; exact hP), hS, lv_sub hl [0, 1, 2] rfl⟩
      · refine lv_aload_n hx hb dX9_still_19 rfl (lv_at hl 2 rfl) ?_
        refine lv_iconst (v := (-1)) hx hb dX9_still_20 (by decide) ?_
        refine m_callr (As := [.int (-1)]) (rest := []) S hKK hP (mm_haveIt l D t mb (grB (upc B 5 (B 2)) k) (-1) hok.hr3 hok.h6) (cwV 1 hts (lw_V q1382 q1384 qs74 q104 q1385) rfl rfl rfl (by decide +kernel) ⟨Nat.le_of_ble_eq_true rfl, Nat.le_of_ble_eq_true rfl⟩) rfl hl.1 rfl (Nat.le_of_ble_eq_true rfl) dX9_still_21 ⟨Nat.le_of_ble_eq_true rfl, Nat.le_of_ble_eq_true rfl⟩ ?_
        refine z_top (y := haS (hrS (B 2) k) (-1)) (by rw [hg2]) ?_
        refine lv_if_ne (tgt := 31) hx hb dX9_still_24 (by decide) (fun c24 => ?_) (fun c24 => ?_)
        · refine lv_bipush (v := (-9)) hx hb dX9_still_31 (by decide) ?_
          exact J _ (by grind [fdS])
        · refine lv_iload_n hx hb dX9_still_27 rfl (lv_at hl 0 rfl) ?_
          refine lv_goto (tgt := 33) hx hb dX9_still_28 (by decide) ?_
          exact J _ (by grind [fdS])
