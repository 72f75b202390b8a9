/-! THE CLASS's CALLS THAT MAY BE REFUSED: printed by wip/D-96246w/gen/gen_x7.py -/
set_option maxRecDepth 100000
theorem lt96 {x : Int32} (h : x = nI (ix x)) (h9 : ix x ≤ 96) (c : ¬ x < 96) : x = 96 := by
  rw [h]
  have : ix x = 96 := by
    rcases Nat.lt_or_ge (ix x) 96 with q | q
    · exact absurd (by rw [h]; exact nI_lt q (by decide)) c
    · omega
  rw [this]; rfl
theorem lt6 {x : Int32} (h : x = nI (ix x)) (h9 : ix x ≤ 6) (c : ¬ x < 6) : x = 6 := by
  rw [h]
  have : ix x = 6 := by
    rcases Nat.lt_or_ge (ix x) 6 with q | q
    · exact absurd (by rw [h]; exact nI_lt q (by decide)) c
    · omega
  rw [this]; rfl
set_option maxHeartbeats 800000 in
theorem cx_letterIt (l : Launch) (htr : l.stackTraces = false) (D : va_G) (t : Nat → ClassId) (Z : Nat × Cell) (cb : Nat) (B : BT) (x : Int32) (hB : OkB B) : MetX l yX0_letterIt (ws_ yX0_letterIt cX0_letterIt 2 (some .int)) ({ frames := 9, cells := 3, slots := 21, locals := 167 }) (zPc [.ref cb, .int x] (CW D t Z cb B) (KX D t Z)) (QX D t Z cb (leN B x) (uLet B x) B) 3 21 (cA cb) := by
  refine zOfX (cc := cX0_letterIt) (maxL := 2) (ret := (some .int)) (by decide) (Nat.le_of_ble_eq_true rfl) (fun pg ev s m below meth cd ls F hnh hW hK hl => ?_)
  obtain ⟨hx, hb, hml, hown, hts, hr, hlk⟩ := F
  have S : CallFix pg m cd cX0_letterIt 2 s _ lw_all RX0 := ⟨hx, hb, hml, hown, hts⟩
  have hl : lv_has ls 2 [(0, .ref cb), (1, .int x)] := hl
  have hKK := hK.1
  obtain ⟨hC, hD⟩ := hW
  have hS : va_S (fA (cA cb) s) s.heap s.heap [] := va_S.rf
  have hOk := hB.1
  have hd0 := hOk.hr0
  have hd8 := hOk.d8
  have hh3 := hOk.hr3
  have hh6 := hOk.h6
  have hs2 := hOk.hr2
  have hs5 := hOk.s5
  have hX := hOk.X
  refine lv_iload_n hx hb dX0_letterIt_0 rfl (lv_at hl 1 rfl) ?_
  refine lv_i2l hx hb dX0_letterIt_1 rfl ?_
  refine lv_lconst (v := 0) hx hb dX0_letterIt_2 (by decide) ?_
  refine lv_ldc2 (v := 255) hx hb hown (hts _ q335) dX0_letterIt_3 ?_
  refine xm_X (xx_runS (As := [.long ((x).toInt64), .long 0, .long 255]) (rest := []) S hK hC.1.2.1 (cx_within l htr D t Z ((x).toInt64) 0 255) (va_cwS 3 hts (lw_S q336 q337 q95 q338) rfl rfl rfl (by decide +kernel) ⟨Nat.le_of_ble_eq_true rfl, Nat.le_of_ble_eq_true rfl⟩) rfl hl.1 rfl (Nat.le_of_ble_eq_true rfl) dX0_letterIt_6 ⟨Nat.le_of_ble_eq_true rfl, Nat.le_of_ble_eq_true rfl⟩) hS hnh hlk (Nat.le_of_ble_eq_true rfl) (Nat.le_of_ble_eq_true rfl) ⟨hC, hD⟩ (fun h => by have e : wiL x.toInt64 0 255 = wiS x 0 255 := wiL_eq (x := x) (a := 0) (b := 255); rw [e] at h ⊢; unfold leN; rw [if_neg (fun q => h q.1)]) (fun n6 locs hS => ?_)
  have hwi : wiS x 0 255 = 0 := (wiL_eq (x := x) (a := 0) (b := 255)).symm.trans n6
  have hx2 := wi_ok hwi
  have hB1 := hB.2.2.1
  refine W.join (fun vJ => F0 m 23 ls (.int vJ :: [])) (fun vJ => vJ = bI (decide (B 0 1 < 96))) (fun vJ hJ => ?_) (fun J => ?_)
  · subst hJ
    refine lv_bipush (v := (-6)) hx hb dX0_letterIt_23 (by decide) ?_
    refine xm_X (xx_runS (As := [.int (bI (decide (B 0 1 < 96))), .int (-6)]) (rest := []) S hK hC.1.2.1 (cx_must l htr D t Z (decide (B 0 1 < 96)) (-6) (by decide)) (va_cwS 2 hts (lw_S q339 q340 q95 q341) rfl rfl rfl (by decide +kernel) ⟨Nat.le_of_ble_eq_true rfl, Nat.le_of_ble_eq_true rfl⟩) rfl hl.1 rfl (Nat.le_of_ble_eq_true rfl) dX0_letterIt_25 ⟨Nat.le_of_ble_eq_true rfl, Nat.le_of_ble_eq_true rfl⟩) hS hnh hlk (Nat.le_of_ble_eq_true rfl) (Nat.le_of_ble_eq_true rfl) ⟨hC, hD⟩ (fun h => by unfold leN; rw [if_pos ⟨hwi, lt96 hB1.1 hB1.2 (fun q => h (by rw [decide_eq_true q]; rfl))⟩, decide_eq_false (fun q => h (by rw [decide_eq_true q]; rfl))]; rfl) (fun n25 locs hS => ?_)
    have h96 : B 0 1 < 96 := of_decide_eq_true (if0 (by decide) n25)
    have hi96 : ix (B 0 1) < 96 := by rw [hB1.1] at h96; exact (nI_ltI (by omega) (by decide)).mp h96
    refine lv_aload_n hx hb dX0_letterIt_28 rfl (lv_at hl 0 rfl) ?_
    refine c_xget (v := .ref (cb + 54)) hx hb hts hown hKK hC 7 (by decide) (Or.inl q291) rfl rfl dX0_letterIt_29 ?_
    refine lv_aload_n hx hb dX0_letterIt_32 rfl (lv_at hl 0 rfl) ?_
    refine c_xget (v := .int (B 0 1)) hx hb hts hown hKK hC 8 (by decide) (Or.inl q293) rfl rfl dX0_letterIt_33 ?_
    refine lv_iload_n hx hb dX0_letterIt_36 rfl (lv_at hl 1 rfl) ?_
    refine lv_i2c hx hb dX0_letterIt_37 rfl ?_
    refine z_top (y := x) (nb_char hx2.1 hx2.2).1 ?_
    refine z_castq hx hb hKK.1 hC.2.1 (cL_D (fun q h => fC h)) hS 3 2 rfl rfl (k := ix (B 0 1)) hB1.1 (by omega) (by decide) (nb_char hx2.1 hx2.2).2 dX0_letterIt_38 (fun H locs hP1 _ hq hS => ?_)
    have hW := CW.own (B' := up2 B 11 (ix (B 0 1)) x) (⟨hC, hD⟩ : CW D t Z cb B _) (up2_ne _ _ _ (by decide)) (up2_ne _ _ _ (by decide)) rfl (hP1 : MR D t cb (up2 B 11 (ix (B 0 1)) x) H) (fun q _ h => hq q (fun z => h (by unfold cO; omega)))
    obtain ⟨hC, hD⟩ := hW
    refine lv_aload_n hx hb dX0_letterIt_39 rfl (lv_at hl 0 rfl) ?_
    refine lv_dup hx hb dX0_letterIt_40 rfl ?_
    refine c_xget (v := .int ((up2 B 11 (ix (B 0 1)) x) 0 1)) hx hb hts hown hKK hC 8 (by decide) (Or.inl q293) rfl rfl dX0_letterIt_41 ?_
    refine lv_iconst (v := 1) hx hb dX0_letterIt_44 (by decide) ?_
    refine lv_iadd hx hb dX0_letterIt_45 ?_
    refine c_xput hx hb hts hown hKK ⟨hC, hD⟩ (fun q h => fC h) hS 8 1 (by decide) (by decide) (Or.inl q293) rfl rfl (by decide +kernel) rfl dX0_letterIt_46 (fun H locs hW _ hq hS => ?_)
    obtain ⟨hC, hD⟩ := hW
    refine lv_aload_n hx hb dX0_letterIt_49 rfl (lv_at hl 0 rfl) ?_
    refine c_xget (v := .int ((up2 (up2 B 11 (ix (B 0 1)) x) 0 1 (((up2 B 11 (ix (B 0 1)) x) 0 1) + 1)) 0 1)) hx hb hts hown hKK hC 8 (by decide) (Or.inl q293) rfl rfl dX0_letterIt_50 ?_
    exact x_iretX hx hb hr (by unfold leN; rw [if_neg (fun q => by rw [q.2] at h96; exact absurd h96 (by decide)), hwi]) rfl ⟨hC, hD⟩ hS (Nat.le_of_ble_eq_true rfl) (Nat.le_of_ble_eq_true rfl) dX0_letterIt_53 hlk
  · refine lv_aload_n hx hb dX0_letterIt_9 rfl (lv_at hl 0 rfl) ?_
    refine c_xget (v := .int (B 0 1)) hx hb hts hown hKK hC 8 (by decide) (Or.inl q293) rfl rfl dX0_letterIt_10 ?_
    refine lv_bipush (v := 96) hx hb dX0_letterIt_13 (by decide) ?_
    refine lv_icmp_ge (tgt := 22) hx hb dX0_letterIt_15 (by decide) (fun c15 => ?_) (fun c15 => ?_)
    · refine lv_iconst (v := 0) hx hb dX0_letterIt_22 (by decide) ?_
      exact J _ (by rw [decide_eq_false (Int32.not_lt.mpr c15)]; rfl)
    · refine lv_iconst (v := 1) hx hb dX0_letterIt_18 (by decide) ?_
      refine lv_goto (tgt := 23) hx hb dX0_letterIt_19 (by decide) ?_
      exact J _ (by rw [decide_eq_true (Int32.not_le.mp c15)]; rfl)
theorem ixK {r : RT} {i : Nat} (h : OkS r i) : nI (ix (so r i 0)) = so r i 0 := by
  obtain ⟨j, hj, e⟩ := nI_of (x := so r i 0) (Int32.not_lt.mpr h.1)
  rw [e, ix_nI hj]
theorem ixH {r : RT} {i : Nat} (h : OkH r i) : nI (ix (hd r i 0)) = hd r i 0 := by
  obtain ⟨j, hj, e⟩ := nI_of (x := hd r i 0) (Int32.not_lt.mpr h.1)
  rw [e, ix_nI hj]
set_option maxHeartbeats 800000 in
theorem cx_songTold (l : Launch) (htr : l.stackTraces = false) (D : va_G) (t : Nat → ClassId) (Z : Nat × Cell) (cb : Nat) (B : BT) (x : Int32) (y : Int32) (hB : OkB B) : MetX l yX0_songTold (ws_ yX0_songTold cX0_songTold 4 (some .int)) ({ frames := 10, cells := 2, slots := 14, locals := 184 }) (zPc [.ref cb, .int x, .int y] (CW D t Z cb B) (KX D t Z)) (QX D t Z cb (nSong (B 2) x y) (songV (B 2) x y, B) B) 2 14 (cA cb) := by
  refine zOfX (cc := cX0_songTold) (maxL := 4) (ret := (some .int)) (by decide) (Nat.le_of_ble_eq_true rfl) (fun pg ev s m below meth cd ls F hnh hW hK hl => ?_)
  obtain ⟨hx, hb, hml, hown, hts, hr, hlk⟩ := F
  have S : CallFix pg m cd cX0_songTold 4 s _ lw_all RX0 := ⟨hx, hb, hml, hown, hts⟩
  have hl : lv_has ls 4 [(0, .ref cb), (1, .int x), (2, .int y)] := hl
  have hKK := hK.1
  obtain ⟨hC, hD⟩ := hW
  have hS : va_S (fA (cA cb) s) s.heap s.heap [] := va_S.rf
  have hOk := hB.1
  have hd0 := hOk.hr0
  have hd8 := hOk.d8
  have hh3 := hOk.hr3
  have hh6 := hOk.h6
  have hs2 := hOk.hr2
  have hs5 := hOk.s5
  have hX := hOk.X
  refine lv_aload_n hx hb dX0_songTold_0 rfl (lv_at hl 0 rfl) ?_
  refine lv_iload_n hx hb dX0_songTold_1 rfl (lv_at hl 1 rfl) ?_
  refine xm_X (xx_runV (As := [.int x]) (rest := []) S hK hC (hC.recv hKK) (cx_mustBeSong l htr D t Z cb B x hOk) (cwV 1 hts (lw_V q742 q744 qs16 q95 q745) rfl rfl rfl (by decide +kernel) ⟨Nat.le_of_ble_eq_true rfl, Nat.le_of_ble_eq_true rfl⟩) rfl hl.1 rfl (Nat.le_of_ble_eq_true rfl) dX0_songTold_2 ⟨Nat.le_of_ble_eq_true rfl, Nat.le_of_ble_eq_true rfl⟩) hS hnh hlk (Nat.le_of_ble_eq_true rfl) (Nat.le_of_ble_eq_true rfl) ⟨hC, hD⟩ (fun h => by unfold nSong; grind) (fun n2 locs hS => ?_)
  refine lv_iload_n hx hb dX0_songTold_5 rfl (lv_at hl 2 rfl) ?_
  refine lv_i2l hx hb dX0_songTold_6 rfl ?_
  refine lv_lconst (v := 0) hx hb dX0_songTold_7 (by decide) ?_
  refine lv_ldc2 (v := 4) hx hb hown (hts _ q750) dX0_songTold_8 ?_
  refine g_r (g_runS (As := [.long ((y).toInt64), .long 0, .long 4]) (rest := []) S hKK trivial (cx_in l D t ((y).toInt64) 0 4) (va_cwS 3 hts (lw_S q749 q482 q95 q483) rfl rfl rfl (by decide +kernel) ⟨Nat.le_of_ble_eq_true rfl, Nat.le_of_ble_eq_true rfl⟩) rfl hl.1 rfl (Nat.le_of_ble_eq_true rfl) dX0_songTold_11 ⟨Nat.le_of_ble_eq_true rfl, Nat.le_of_ble_eq_true rfl⟩) ?_
  refine z_top (y := bI (isI y 5)) (by rw [show (4 : Int64) = ((5 : Int32) - 1).toInt64 by decide +kernel, in_isI (n := 5) (k := 5) (by decide +kernel) (by decide)]) ?_
  refine lv_bipush (v := (-2)) hx hb dX0_songTold_14 (by decide) ?_
  refine xm_X (xx_runS (As := [.int (bI (isI y 5)), .int (-2)]) (rest := []) S hK hC.1.2.1 (cx_must l htr D t Z (isI y 5) (-2) (by decide)) (va_cwS 2 hts (lw_S q339 q340 q95 q341) rfl rfl rfl (by decide +kernel) ⟨Nat.le_of_ble_eq_true rfl, Nat.le_of_ble_eq_true rfl⟩) rfl hl.1 rfl (Nat.le_of_ble_eq_true rfl) dX0_songTold_16 ⟨Nat.le_of_ble_eq_true rfl, Nat.le_of_ble_eq_true rfl⟩) hS hnh hlk (Nat.le_of_ble_eq_true rfl) (Nat.le_of_ble_eq_true rfl) ⟨hC, hD⟩ (fun h => by unfold nSong; grind) (fun n16 locs hS => ?_)
  have hhx := isS_ix hOk (if0 (by decide) n2)
  have hyy := if0 (by decide) n16
  have hOS := hOk.song hhx.2
  have hN0 : nSong (B 2) x y = 0 := by unfold nSong; grind
  refine lv_aload_n hx hb dX0_songTold_19 rfl (lv_at hl 0 rfl) ?_
  refine c_xget (v := .ref (cb + 8)) hx hb hts hown hKK hC 1 (by decide) (Or.inl q284) rfl rfl dX0_songTold_20 ?_
  refine c_oget (v := .ref (cb + 8 + 3)) hx hb hts hown hKK hC 5 (by decide) (Or.inr ⟨_, q207⟩) rfl (fun _ => rfl) dX0_songTold_23 ?_
  refine lv_iload_n hx hb dX0_songTold_26 rfl (lv_at hl 1 rfl) ?_
  obtain ⟨sgO, kdO, AO, hV⟩ := hC.2.2.1
  obtain ⟨a27, hsa27, hla27, hoa27⟩ := hV.2.1.1 (ix x) (by omega) hhx.2
  have hka27 : ix (so (B 2) (ix x) 0) < 6 := okK (hOk.song (i := ix x) hhx.2)
  refine o_sald hx hb hKK hV.1 hhx.1 (by omega) hsa27 dX0_songTold_27 ?_
  refine lv_astore_n (lv' := [(3, .ref a27), (0, .ref cb), (1, .int x), (2, .int y)]) hx hb dX0_songTold_28 rfl hl (by decide) rfl (fun ls hl => ?_)
  refine lv_iload_n hx hb dX0_songTold_29 rfl (lv_at hl 3 rfl) ?_
  by_cases c30_0 : y = 0
  · refine lv_tableIn (off := 30) (tgt := 60) hx hb dX0_songTold_30 (by rw [c30_0]; decide) (by rw [c30_0]; decide) (by rw [c30_0]; rfl) (by decide) ?_
    refine lv_aload_n hx hb dX0_songTold_60 rfl (lv_at hl 0 rfl) ?_
    refine cv_X0_Song_kind (k := ix (so (B 2) (ix x) 0)) hka27 (rest := []) S hKK hoa27 ⟨Nat.le_of_ble_eq_true rfl, Nat.le_of_ble_eq_true rfl⟩ hl.1 rfl (Nat.le_of_ble_eq_true rfl) dX0_songTold_61 ⟨Nat.le_of_ble_eq_true rfl, Nat.le_of_ble_eq_true rfl⟩ ?_
    refine z_top (y := so (B 2) (ix x) 0) (ixK hOS) ?_
    exact x_iretX hx hb hr hN0 (by rw [c30_0, songV_0]) ⟨hC, hD⟩ hS (Nat.le_of_ble_eq_true rfl) (Nat.le_of_ble_eq_true rfl) dX0_songTold_64 hlk
  by_cases c30_1 : y = 1
  · refine lv_tableIn (off := 35) (tgt := 65) hx hb dX0_songTold_30 (by rw [c30_1]; decide) (by rw [c30_1]; decide) (by rw [c30_1]; rfl) (by decide) ?_
    refine lv_aload_n hx hb dX0_songTold_65 rfl (lv_at hl 0 rfl) ?_
    refine cg_song hka27 hx hb hts hown hKK hoa27 0 (by decide) q683 rfl dX0_songTold_66 ?_
    exact x_iretX hx hb hr hN0 (by rw [c30_1, songV_1]) ⟨hC, hD⟩ hS (Nat.le_of_ble_eq_true rfl) (Nat.le_of_ble_eq_true rfl) dX0_songTold_69 hlk
  by_cases c30_2 : y = 2
  · refine lv_tableIn (off := 40) (tgt := 70) hx hb dX0_songTold_30 (by rw [c30_2]; decide) (by rw [c30_2]; decide) (by rw [c30_2]; rfl) (by decide) ?_
    refine lv_aload_n hx hb dX0_songTold_70 rfl (lv_at hl 0 rfl) ?_
    refine cg_song hka27 hx hb hts hown hKK hoa27 1 (by decide) q687 rfl dX0_songTold_71 ?_
    exact x_iretX hx hb hr hN0 (by rw [c30_2, songV_2]) ⟨hC, hD⟩ hS (Nat.le_of_ble_eq_true rfl) (Nat.le_of_ble_eq_true rfl) dX0_songTold_74 hlk
  by_cases c30_3 : y = 3
  · refine lv_tableIn (off := 45) (tgt := 75) hx hb dX0_songTold_30 (by rw [c30_3]; decide) (by rw [c30_3]; decide) (by rw [c30_3]; rfl) (by decide) ?_
    refine lv_aload_n hx hb dX0_songTold_75 rfl (lv_at hl 0 rfl) ?_
    refine cv_X0_Song_fresh (k := ix (so (B 2) (ix x) 0)) hka27 (rest := []) S hKK hoa27 ⟨Nat.le_of_ble_eq_true rfl, Nat.le_of_ble_eq_true rfl⟩ hl.1 rfl (Nat.le_of_ble_eq_true rfl) dX0_songTold_76 ⟨Nat.le_of_ble_eq_true rfl, Nat.le_of_ble_eq_true rfl⟩ ?_
    refine z_top (y := frS (B 2) (ix x)) (frK_eq hOS) ?_
    exact x_iretX hx hb hr hN0 (by rw [c30_3, songV_3]) ⟨hC, hD⟩ hS (Nat.le_of_ble_eq_true rfl) (Nat.le_of_ble_eq_true rfl) dX0_songTold_79 hlk
  refine lv_tableOut (tgt := 80) hx hb dX0_songTold_30 (z_tabOut (lo := 0) (hi := 3) [0, 1, 2, 3] (by decide) (by decide) ⟨c30_0, c30_1, c30_2, c30_3, trivial⟩) (by decide) ?_
  refine lv_aload_n hx hb dX0_songTold_80 rfl (lv_at hl 1 rfl) ?_
  refine c_xget (v := .ref (cb + 8)) hx hb hts hown hKK hC 1 (by decide) (Or.inl q284) rfl rfl dX0_songTold_81 ?_
  refine lv_iload_n hx hb dX0_songTold_84 rfl (lv_at hl 2 rfl) ?_
  obtain ⟨sgO, kdO, AO, hV⟩ := hC.2.2.1
  refine g_r (g_runV (As := [.int x]) (rest := []) S hKK hV (hV.recv hKK) (co_X8_have l D t (cb + 8) (cb + 2) (cb + 70) sgO kdO (B 2) AO x 999 hOk) (cwV 1 hts (lw_V q773 q774 q775 q103 q776) rfl rfl rfl (by decide +kernel) ⟨Nat.le_of_ble_eq_true rfl, Nat.le_of_ble_eq_true rfl⟩) rfl hl.1 rfl (Nat.le_of_ble_eq_true rfl) dX0_songTold_85 ⟨Nat.le_of_ble_eq_true rfl, Nat.le_of_ble_eq_true rfl⟩) ?_
  exact x_iretX hx hb hr hN0 (by rw [songV_4 hyy c30_0 c30_1 c30_2 c30_3]) ⟨hC, hD⟩ hS (Nat.le_of_ble_eq_true rfl) (Nat.le_of_ble_eq_true rfl) dX0_songTold_88 hlk
set_option maxHeartbeats 800000 in
theorem cx_headTold (l : Launch) (htr : l.stackTraces = false) (D : va_G) (t : Nat → ClassId) (Z : Nat × Cell) (cb : Nat) (B : BT) (x : Int32) (y : Int32) (hB : OkB B) : MetX l yX0_headTold (ws_ yX0_headTold cX0_headTold 3 (some .int)) ({ frames := 10, cells := 2, slots := 14, locals := 184 }) (zPc [.ref cb, .int x, .int y] (CW D t Z cb B) (KX D t Z)) (QX D t Z cb (nHead (B 2) x y) (headV (B 2) x y, B) B) 2 14 (cA cb) := by
  refine zOfX (cc := cX0_headTold) (maxL := 3) (ret := (some .int)) (by decide) (Nat.le_of_ble_eq_true rfl) (fun pg ev s m below meth cd ls F hnh hW hK hl => ?_)
  obtain ⟨hx, hb, hml, hown, hts, hr, hlk⟩ := F
  have S : CallFix pg m cd cX0_headTold 3 s _ lw_all RX0 := ⟨hx, hb, hml, hown, hts⟩
  have hl : lv_has ls 3 [(0, .ref cb), (1, .int x), (2, .int y)] := hl
  have hKK := hK.1
  obtain ⟨hC, hD⟩ := hW
  have hS : va_S (fA (cA cb) s) s.heap s.heap [] := va_S.rf
  have hOk := hB.1
  have hd0 := hOk.hr0
  have hd8 := hOk.d8
  have hh3 := hOk.hr3
  have hh6 := hOk.h6
  have hs2 := hOk.hr2
  have hs5 := hOk.s5
  have hX := hOk.X
  refine lv_aload_n hx hb dX0_headTold_0 rfl (lv_at hl 0 rfl) ?_
  refine lv_iload_n hx hb dX0_headTold_1 rfl (lv_at hl 1 rfl) ?_
  refine xm_X (xx_runV (As := [.int x]) (rest := []) S hK hC (hC.recv hKK) (cx_mustBeHead l htr D t Z cb B x hOk) (cwV 1 hts (lw_V q781 q783 qs18 q95 q784) rfl rfl rfl (by decide +kernel) ⟨Nat.le_of_ble_eq_true rfl, Nat.le_of_ble_eq_true rfl⟩) rfl hl.1 rfl (Nat.le_of_ble_eq_true rfl) dX0_headTold_2 ⟨Nat.le_of_ble_eq_true rfl, Nat.le_of_ble_eq_true rfl⟩) hS hnh hlk (Nat.le_of_ble_eq_true rfl) (Nat.le_of_ble_eq_true rfl) ⟨hC, hD⟩ (fun h => by unfold nHead; grind) (fun n2 locs hS => ?_)
  refine lv_iload_n hx hb dX0_headTold_5 rfl (lv_at hl 2 rfl) ?_
  refine lv_i2l hx hb dX0_headTold_6 rfl ?_
  refine lv_lconst (v := 0) hx hb dX0_headTold_7 (by decide) ?_
  refine lv_ldc2 (v := 7) hx hb hown (hts _ q785) dX0_headTold_8 ?_
  refine g_r (g_runS (As := [.long ((y).toInt64), .long 0, .long 7]) (rest := []) S hKK trivial (cx_in l D t ((y).toInt64) 0 7) (va_cwS 3 hts (lw_S q749 q482 q95 q483) rfl rfl rfl (by decide +kernel) ⟨Nat.le_of_ble_eq_true rfl, Nat.le_of_ble_eq_true rfl⟩) rfl hl.1 rfl (Nat.le_of_ble_eq_true rfl) dX0_headTold_11 ⟨Nat.le_of_ble_eq_true rfl, Nat.le_of_ble_eq_true rfl⟩) ?_
  refine z_top (y := bI (isI y 8)) (by rw [show (7 : Int64) = ((8 : Int32) - 1).toInt64 by decide +kernel, in_isI (n := 8) (k := 8) (by decide +kernel) (by decide)]) ?_
  refine lv_bipush (v := (-2)) hx hb dX0_headTold_14 (by decide) ?_
  refine xm_X (xx_runS (As := [.int (bI (isI y 8)), .int (-2)]) (rest := []) S hK hC.1.2.1 (cx_must l htr D t Z (isI y 8) (-2) (by decide)) (va_cwS 2 hts (lw_S q339 q340 q95 q341) rfl rfl rfl (by decide +kernel) ⟨Nat.le_of_ble_eq_true rfl, Nat.le_of_ble_eq_true rfl⟩) rfl hl.1 rfl (Nat.le_of_ble_eq_true rfl) dX0_headTold_16 ⟨Nat.le_of_ble_eq_true rfl, Nat.le_of_ble_eq_true rfl⟩) hS hnh hlk (Nat.le_of_ble_eq_true rfl) (Nat.le_of_ble_eq_true rfl) ⟨hC, hD⟩ (fun h => by unfold nHead; grind) (fun n16 locs hS => ?_)
  have hhx := isH_ix hOk (if0 (by decide) n2)
  have hyy := if0 (by decide) n16
  have hOH := hOk.head hhx.2
  have hN0 : nHead (B 2) x y = 0 := by unfold nHead; grind
  refine lv_iload_n hx hb dX0_headTold_19 rfl (lv_at hl 2 rfl) ?_
  by_cases c20_0 : y = 0
  · refine lv_tableIn (off := 44) (tgt := 64) hx hb dX0_headTold_20 (by rw [c20_0]; decide) (by rw [c20_0]; decide) (by rw [c20_0]; rfl) (by decide) ?_
    refine lv_aload_n hx hb dX0_headTold_64 rfl (lv_at hl 0 rfl) ?_
    refine c_xget (v := .ref (cb + 8)) hx hb hts hown hKK hC 1 (by decide) (Or.inl q284) rfl rfl dX0_headTold_65 ?_
    refine c_oget (v := .ref (cb + 8 + 4)) hx hb hts hown hKK hC 7 (by decide) (Or.inr ⟨_, q214⟩) rfl (fun _ => rfl) dX0_headTold_68 ?_
    refine lv_iload_n hx hb dX0_headTold_71 rfl (lv_at hl 1 rfl) ?_
    obtain ⟨sgO, kdO, AO, hV⟩ := hC.2.2.1
    refine o_kald hx hb hKK hV.1 hhx.1 (by omega) (hV.2.2.1.1 (ix x) (by omega) hhx.2) dX0_headTold_72 ?_
    refine cv_X0_Kind_kind (k := ix (hd (B 2) (ix x) 0)) (okH (hOk.head (j := ix x) (by omega))) (rest := []) S hKK (hV.2.2.2 _ (okH (hOk.head (j := ix x) (by omega)))) ⟨Nat.le_of_ble_eq_true rfl, Nat.le_of_ble_eq_true rfl⟩ hl.1 rfl (Nat.le_of_ble_eq_true rfl) dX0_headTold_73 ⟨Nat.le_of_ble_eq_true rfl, Nat.le_of_ble_eq_true rfl⟩ ?_
    refine z_top (y := hd (B 2) (ix x) 0) (ixH hOH) ?_
    exact x_iretX hx hb hr hN0 (by rw [c20_0, headV_0]) ⟨hC, hD⟩ hS (Nat.le_of_ble_eq_true rfl) (Nat.le_of_ble_eq_true rfl) dX0_headTold_76 hlk
  by_cases c20_1 : y = 1
  · refine lv_tableIn (off := 57) (tgt := 77) hx hb dX0_headTold_20 (by rw [c20_1]; decide) (by rw [c20_1]; decide) (by rw [c20_1]; rfl) (by decide) ?_
    refine lv_aload_n hx hb dX0_headTold_77 rfl (lv_at hl 0 rfl) ?_
    refine c_xget (v := .ref (cb + 8)) hx hb hts hown hKK hC 1 (by decide) (Or.inl q284) rfl rfl dX0_headTold_78 ?_
    refine c_oget (v := .ref (cb + 8 + 5)) hx hb hts hown hKK hC 8 (by decide) (Or.inr ⟨_, q217⟩) rfl (fun _ => rfl) dX0_headTold_81 ?_
    refine lv_iload_n hx hb dX0_headTold_84 rfl (lv_at hl 1 rfl) ?_
    refine c_oald hx hb hKK hC 5 (fun _ _ _ => rfl) (k := ix x) (v := hd (B 2) (ix x) 1) hhx.1 (by omega) (by decide) (fun _ => rfl) dX0_headTold_85 ?_
    exact x_iretX hx hb hr hN0 (by rw [c20_1, headV_1]) ⟨hC, hD⟩ hS (Nat.le_of_ble_eq_true rfl) (Nat.le_of_ble_eq_true rfl) dX0_headTold_86 hlk
  by_cases c20_2 : y = 2
  · refine lv_tableIn (off := 67) (tgt := 87) hx hb dX0_headTold_20 (by rw [c20_2]; decide) (by rw [c20_2]; decide) (by rw [c20_2]; rfl) (by decide) ?_
    refine lv_aload_n hx hb dX0_headTold_87 rfl (lv_at hl 0 rfl) ?_
    refine c_xget (v := .ref (cb + 8)) hx hb hts hown hKK hC 1 (by decide) (Or.inl q284) rfl rfl dX0_headTold_88 ?_
    refine c_oget (v := .ref (cb + 8 + 6)) hx hb hts hown hKK hC 9 (by decide) (Or.inr ⟨_, q220⟩) rfl (fun _ => rfl) dX0_headTold_91 ?_
    refine lv_iload_n hx hb dX0_headTold_94 rfl (lv_at hl 1 rfl) ?_
    refine c_oald hx hb hKK hC 6 (fun _ _ _ => rfl) (k := ix x) (v := hd (B 2) (ix x) 2) hhx.1 (by omega) (by decide) (fun _ => rfl) dX0_headTold_95 ?_
    exact x_iretX hx hb hr hN0 (by rw [c20_2, headV_2]) ⟨hC, hD⟩ hS (Nat.le_of_ble_eq_true rfl) (Nat.le_of_ble_eq_true rfl) dX0_headTold_96 hlk
  by_cases c20_3 : y = 3
  · refine lv_tableIn (off := 77) (tgt := 97) hx hb dX0_headTold_20 (by rw [c20_3]; decide) (by rw [c20_3]; decide) (by rw [c20_3]; rfl) (by decide) ?_
    refine lv_aload_n hx hb dX0_headTold_97 rfl (lv_at hl 0 rfl) ?_
    refine c_xget (v := .ref (cb + 8)) hx hb hts hown hKK hC 1 (by decide) (Or.inl q284) rfl rfl dX0_headTold_98 ?_
    refine c_oget (v := .ref (cb + 8 + 7)) hx hb hts hown hKK hC 10 (by decide) (Or.inr ⟨_, q222⟩) rfl (fun _ => rfl) dX0_headTold_101 ?_
    refine lv_iload_n hx hb dX0_headTold_104 rfl (lv_at hl 1 rfl) ?_
    refine c_oald hx hb hKK hC 7 (fun _ _ _ => rfl) (k := ix x) (v := hd (B 2) (ix x) 3) hhx.1 (by omega) (by decide) (fun _ => rfl) dX0_headTold_105 ?_
    exact x_iretX hx hb hr hN0 (by rw [c20_3, headV_3]) ⟨hC, hD⟩ hS (Nat.le_of_ble_eq_true rfl) (Nat.le_of_ble_eq_true rfl) dX0_headTold_106 hlk
  by_cases c20_4 : y = 4
  · refine lv_tableIn (off := 87) (tgt := 107) hx hb dX0_headTold_20 (by rw [c20_4]; decide) (by rw [c20_4]; decide) (by rw [c20_4]; rfl) (by decide) ?_
    refine lv_aload_n hx hb dX0_headTold_107 rfl (lv_at hl 0 rfl) ?_
    refine c_xget (v := .ref (cb + 8)) hx hb hts hown hKK hC 1 (by decide) (Or.inl q284) rfl rfl dX0_headTold_108 ?_
    refine c_oget (v := .ref (cb + 8 + 8)) hx hb hts hown hKK hC 11 (by decide) (Or.inr ⟨_, q224⟩) rfl (fun _ => rfl) dX0_headTold_111 ?_
    refine lv_iload_n hx hb dX0_headTold_114 rfl (lv_at hl 1 rfl) ?_
    refine c_oald hx hb hKK hC 8 (fun _ _ _ => rfl) (k := ix x) (v := hd (B 2) (ix x) 4) hhx.1 (by omega) (by decide) (fun _ => rfl) dX0_headTold_115 ?_
    exact x_iretX hx hb hr hN0 (by rw [c20_4, headV_4]) ⟨hC, hD⟩ hS (Nat.le_of_ble_eq_true rfl) (Nat.le_of_ble_eq_true rfl) dX0_headTold_116 hlk
  by_cases c20_5 : y = 5
  · refine lv_tableIn (off := 97) (tgt := 117) hx hb dX0_headTold_20 (by rw [c20_5]; decide) (by rw [c20_5]; decide) (by rw [c20_5]; rfl) (by decide) ?_
    refine lv_aload_n hx hb dX0_headTold_117 rfl (lv_at hl 0 rfl) ?_
    refine c_xget (v := .ref (cb + 8)) hx hb hts hown hKK hC 1 (by decide) (Or.inl q284) rfl rfl dX0_headTold_118 ?_
    refine c_oget (v := .ref (cb + 8 + 9)) hx hb hts hown hKK hC 12 (by decide) (Or.inr ⟨_, q227⟩) rfl (fun _ => rfl) dX0_headTold_121 ?_
    refine lv_iload_n hx hb dX0_headTold_124 rfl (lv_at hl 1 rfl) ?_
    refine c_oald hx hb hKK hC 9 (fun _ _ _ => rfl) (k := ix x) (v := hd (B 2) (ix x) 5) hhx.1 (by omega) (by decide) (fun _ => rfl) dX0_headTold_125 ?_
    exact x_iretX hx hb hr hN0 (by rw [c20_5, headV_5]) ⟨hC, hD⟩ hS (Nat.le_of_ble_eq_true rfl) (Nat.le_of_ble_eq_true rfl) dX0_headTold_126 hlk
  by_cases c20_6 : y = 6
  · refine lv_tableIn (off := 107) (tgt := 127) hx hb dX0_headTold_20 (by rw [c20_6]; decide) (by rw [c20_6]; decide) (by rw [c20_6]; rfl) (by decide) ?_
    refine lv_aload_n hx hb dX0_headTold_127 rfl (lv_at hl 0 rfl) ?_
    refine c_xget (v := .ref (cb + 8)) hx hb hts hown hKK hC 1 (by decide) (Or.inl q284) rfl rfl dX0_headTold_128 ?_
    refine lv_iload_n hx hb dX0_headTold_131 rfl (lv_at hl 1 rfl) ?_
    refine z_stk (st' := [.int (nI (ix x)), .ref (cb + 8)]) (by rw [← show x = nI (ix x) from hhx.1]) ?_
    obtain ⟨sgO, kdO, AO, hV⟩ := hC.2.2.1
    refine g_r (g_runV (As := [.int (nI (ix x))]) (rest := []) S hKK hV (hV.recv hKK) (co_X8_bar l D t (cb + 8) (cb + 2) (cb + 70) sgO kdO (B 2) AO (ix x) 999 hOk hhx.2) (cwV 1 hts (lw_V q807 q808 q809 q103 q810) rfl rfl rfl (by decide +kernel) ⟨Nat.le_of_ble_eq_true rfl, Nat.le_of_ble_eq_true rfl⟩) rfl hl.1 rfl (Nat.le_of_ble_eq_true rfl) dX0_headTold_132 ⟨Nat.le_of_ble_eq_true rfl, Nat.le_of_ble_eq_true rfl⟩) ?_
    exact x_iretX hx hb hr hN0 (by rw [c20_6, headV_6]) ⟨hC, hD⟩ hS (Nat.le_of_ble_eq_true rfl) (Nat.le_of_ble_eq_true rfl) dX0_headTold_135 hlk
  refine lv_tableOut (tgt := 136) hx hb dX0_headTold_20 (z_tabOut (lo := 0) (hi := 6) [0, 1, 2, 3, 4, 5, 6] (by decide) (by decide) ⟨c20_0, c20_1, c20_2, c20_3, c20_4, c20_5, c20_6, trivial⟩) (by decide) ?_
  refine lv_aload_n hx hb dX0_headTold_136 rfl (lv_at hl 0 rfl) ?_
  refine c_xget (v := .ref (cb + 8)) hx hb hts hown hKK hC 1 (by decide) (Or.inl q284) rfl rfl dX0_headTold_137 ?_
  refine lv_iload_n hx hb dX0_headTold_140 rfl (lv_at hl 1 rfl) ?_
  refine z_stk (st' := [.int (nI (ix x)), .ref (cb + 8)]) (by rw [← show x = nI (ix x) from hhx.1]) ?_
  obtain ⟨sgO, kdO, AO, hV⟩ := hC.2.2.1
  refine g_r (g_runV (As := [.int (nI (ix x))]) (rest := []) S hKK hV (hV.recv hKK) (co_X8_hums l D t (cb + 8) (cb + 2) (cb + 70) sgO kdO (B 2) AO (ix x) 999 hOk hhx.2) (cwV 1 hts (lw_V q832 q833 q834 q103 q835) rfl rfl rfl (by decide +kernel) ⟨Nat.le_of_ble_eq_true rfl, Nat.le_of_ble_eq_true rfl⟩) rfl hl.1 rfl (Nat.le_of_ble_eq_true rfl) dX0_headTold_141 ⟨Nat.le_of_ble_eq_true rfl, Nat.le_of_ble_eq_true rfl⟩) ?_
  refine z_ifeq (tgt := 151) hx hb dX0_headTold_144 (by decide) (fun c144 => ?_) (fun c144 => ?_)
  · refine lv_iconst (v := 0) hx hb dX0_headTold_151 (by decide) ?_
    exact x_iretX hx hb hr hN0 (by rw [← headV_7 hyy c20_0 c20_1 c20_2 c20_3 c20_4 c20_5 c20_6, c144]; rfl) ⟨hC, hD⟩ hS (Nat.le_of_ble_eq_true rfl) (Nat.le_of_ble_eq_true rfl) dX0_headTold_152 hlk
  · refine lv_iconst (v := 1) hx hb dX0_headTold_147 (by decide) ?_
    refine lv_goto (tgt := 152) hx hb dX0_headTold_148 (by decide) ?_
    exact x_iretX hx hb hr hN0 (by rw [← headV_7 hyy c20_0 c20_1 c20_2 c20_3 c20_4 c20_5 c20_6, c144]; rfl) ⟨hC, hD⟩ hS (Nat.le_of_ble_eq_true rfl) (Nat.le_of_ble_eq_true rfl) dX0_headTold_152 hlk
set_option maxHeartbeats 800000 in
theorem cx_nearTold (l : Launch) (htr : l.stackTraces = false) (D : va_G) (t : Nat → ClassId) (Z : Nat × Cell) (cb : Nat) (B : BT) (x : Int32) (hB : OkB B) : MetX l yX0_nearTold (ws_ yX0_nearTold cX0_nearTold 4 (some .int)) ({ frames := 10, cells := 1, slots := 7, locals := 184 }) (zPc [.ref cb, .int x] (CW D t Z cb B) (KX D t Z)) (QX D t Z cb (nNear (B 2) x) (neB (B 2) (ix x) (nH (B 2)), B) B) 1 7 (cA cb) := by
  refine zOfX (cc := cX0_nearTold) (maxL := 4) (ret := (some .int)) (by decide) (Nat.le_of_ble_eq_true rfl) (fun pg ev s m below meth cd ls F hnh hW hK hl => ?_)
  obtain ⟨hx, hb, hml, hown, hts, hr, hlk⟩ := F
  have S : CallFix pg m cd cX0_nearTold 4 s _ lw_all RX0 := ⟨hx, hb, hml, hown, hts⟩
  have hl : lv_has ls 4 [(0, .ref cb), (1, .int x)] := hl
  have hKK := hK.1
  obtain ⟨hC, hD⟩ := hW
  have hS : va_S (fA (cA cb) s) s.heap s.heap [] := va_S.rf
  have hOk := hB.1
  have hd0 := hOk.hr0
  have hd8 := hOk.d8
  have hh3 := hOk.hr3
  have hh6 := hOk.h6
  have hs2 := hOk.hr2
  have hs5 := hOk.s5
  have hX := hOk.X
  refine lv_aload_n hx hb dX0_nearTold_0 rfl (lv_at hl 0 rfl) ?_
  refine lv_iload_n hx hb dX0_nearTold_1 rfl (lv_at hl 1 rfl) ?_
  refine xm_X (xx_runV (As := [.int x]) (rest := []) S hK hC (hC.recv hKK) (cx_mustBeHead l htr D t Z cb B x hOk) (cwV 1 hts (lw_V q781 q783 qs18 q95 q784) rfl rfl rfl (by decide +kernel) ⟨Nat.le_of_ble_eq_true rfl, Nat.le_of_ble_eq_true rfl⟩) rfl hl.1 rfl (Nat.le_of_ble_eq_true rfl) dX0_nearTold_2 ⟨Nat.le_of_ble_eq_true rfl, Nat.le_of_ble_eq_true rfl⟩) hS hnh hlk (Nat.le_of_ble_eq_true rfl) (Nat.le_of_ble_eq_true rfl) ⟨hC, hD⟩ (fun h => rfl) (fun n2 locs hS => ?_)
  have hhx := isH_ix hOk (if0 (by decide) n2)
  refine lv_iconst (v := 0) hx hb dX0_nearTold_5 (by decide) ?_
  refine lv_istore_n (lv' := [(2, .int 0), (0, .ref cb), (1, .int x)]) hx hb dX0_nearTold_6 rfl hl (by decide) rfl (fun ls hl => ?_)
  have hl : lv_has ls 4 [(2, .int (neB (B 2) (ix x) 0)), (0, .ref cb), (1, .int x)] := hl
  refine lv_iconst (v := 0) hx hb dX0_nearTold_7 (by decide) ?_
  refine lv_istore_n (lv' := [(3, .int 0), (2, .int (neB (B 2) (ix x) 0)), (0, .ref cb), (1, .int x)]) hx hb dX0_nearTold_8 rfl hl (by decide) rfl (fun ls hl => ?_)
  refine W.loop (σ := Nat) (fun k H locs ls => k ≤ nH (B 2) ∧ (True) ∧ CM D t Z cb B H ∧ ND D t cb H ∧ va_S (fA (cA cb) s) s.heap H locs ∧ lv_has ls 4 [(3, .int (nI k)), (2, .int (neB (B 2) (ix x) k)), (0, .ref cb), (1, .int x)]) (fun k => nH (B 2) - k) (fun k H locs ls hIk ihk => ?_) 0 ⟨by omega, trivial, hC, hD, hS, lv_sub hl [0, 1, 2, 3] rfl⟩
  obtain ⟨hk, hEk, hC, hD, hS, hl⟩ := hIk
  refine lv_iload_n hx hb dX0_nearTold_9 rfl (lv_at hl 0 rfl) ?_
  refine lv_aload_n hx hb dX0_nearTold_10 rfl (lv_at hl 2 rfl) ?_
  refine c_xget (v := .ref (cb + 8)) hx hb hts hown hKK hC 1 (by decide) (Or.inl q284) rfl rfl dX0_nearTold_11 ?_
  refine c_oget (v := .int ((B 2) 3)) hx hb hts hown hKK hC 6 (by decide) (Or.inr ⟨_, q211⟩) rfl (fun _ => rfl) dX0_nearTold_14 ?_
  refine lv_icmp_ge (tgt := 48) hx hb dX0_nearTold_17 (by decide) (fun c17 => ?_) (fun c17 => ?_)
  · obtain rfl : k = nH (B 2) := Nat.le_antisymm hk (lp_end hh3 (by omega) (by omega) c17)
    refine lv_iload_n hx hb dX0_nearTold_48 rfl (lv_at hl 1 rfl) ?_
    exact x_iretX hx hb hr n2 rfl ⟨hC, hD⟩ hS (Nat.le_of_ble_eq_true rfl) (Nat.le_of_ble_eq_true rfl) dX0_nearTold_49 hlk
  · have hk2 : k < nH (B 2) := lp_go hh3 (by omega) (by omega) c17
    refine lv_iload_n hx hb dX0_nearTold_20 rfl (lv_at hl 1 rfl) ?_
    refine W.join (fun vJ => F0 m 40 ls (.int vJ :: [.int (neB (B 2) (ix x) k)])) (fun vJ => vJ = (if neS (B 2) (ix x) k = true then 1 <<< (nI k &&& 31) else 0)) (fun vJ hJ => ?_) (fun J => ?_)
    · subst hJ
      refine lv_ior hx hb dX0_nearTold_40 ?_
      refine z_top (y := neB (B 2) (ix x) (k + 1)) rfl ?_
      refine lv_istore_n (lv' := [(2, .int (neB (B 2) (ix x) (k + 1))), (3, .int (nI k)), (0, .ref cb), (1, .int x)]) hx hb dX0_nearTold_41 rfl hl (by decide) rfl (fun ls hl => ?_)
      refine lv_iinc (v := nI (k + 1)) (lv' := [(3, .int (nI (k + 1))), (2, .int (neB (B 2) (ix x) (k + 1))), (0, .ref cb), (1, .int x)]) hx hb dX0_nearTold_42 hl (k := 1) rfl (nI_1 k) (by decide) rfl (fun ls hl => ?_)
      refine lv_goto (tgt := 9) hx hb dX0_nearTold_45 (by decide) ?_
      exact ihk (k + 1) H locs ls (by omega) ⟨by omega, trivial, hC, hD, hS, lv_sub hl [0, 1, 2, 3] rfl⟩
    · refine lv_aload_n hx hb dX0_nearTold_21 rfl (lv_at hl 2 rfl) ?_
      refine c_xget (v := .ref (cb + 8)) hx hb hts hown hKK hC 1 (by decide) (Or.inl q284) rfl rfl dX0_nearTold_22 ?_
      refine lv_iload_n hx hb dX0_nearTold_25 rfl (lv_at hl 3 rfl) ?_
      refine lv_iload_n hx hb dX0_nearTold_26 rfl (lv_at hl 0 rfl) ?_
      refine z_stk (st' := [.int (nI k), .int (nI (ix x)), .ref (cb + 8), .int (neB (B 2) (ix x) k)]) (by rw [← show x = nI (ix x) from hhx.1]) ?_
      obtain ⟨sgO, kdO, AO, hV⟩ := hC.2.2.1
      refine g_r (g_runV (As := [.int (nI (ix x)), .int (nI k)]) (rest := [.int (neB (B 2) (ix x) k)]) S hKK hV (hV.recv hKK) (co_X8_areNear l D t (cb + 8) (cb + 2) (cb + 70) sgO kdO (B 2) AO (ix x) k (by omega) (by omega) hX) (cwV 2 hts (lw_V q859 q860 q861 q103 q862) rfl rfl rfl (by decide +kernel) ⟨Nat.le_of_ble_eq_true rfl, Nat.le_of_ble_eq_true rfl⟩) rfl hl.1 rfl (Nat.le_of_ble_eq_true rfl) dX0_nearTold_27 ⟨Nat.le_of_ble_eq_true rfl, Nat.le_of_ble_eq_true rfl⟩) ?_
      refine z_ifeq (tgt := 39) hx hb dX0_nearTold_30 (by decide) (fun c30 => ?_) (fun c30 => ?_)
      · refine lv_iconst (v := 0) hx hb dX0_nearTold_39 (by decide) ?_
        exact J _ (by rw [if_neg (by rw [c30]; decide)])
      · refine lv_iconst (v := 1) hx hb dX0_nearTold_33 (by decide) ?_
        refine lv_iload_n hx hb dX0_nearTold_34 rfl (lv_at hl 0 rfl) ?_
        refine lv_ishl hx hb dX0_nearTold_35 ?_
        refine lv_goto (tgt := 40) hx hb dX0_nearTold_36 (by decide) ?_
        exact J _ (by rw [if_pos c30])
set_option maxHeartbeats 800000 in
theorem cx_goIt (l : Launch) (htr : l.stackTraces = false) (D : va_G) (t : Nat → ClassId) (Z : Nat × Cell) (cb : Nat) (B : BT) (x : Int32) (y : Int32) (hB : OkB B) : MetX l yX0_goIt (ws_ yX0_goIt cX0_goIt 4 (some .int)) ({ frames := 10, cells := 2, slots := 14, locals := 184 }) (zPc [.ref cb, .int x, .int y] (CW D t Z cb B) (KX D t Z)) (QX D t Z cb (nGo (B 2) x y) (uGo B x y) B) 2 14 (cA cb) := by
  refine zOfX (cc := cX0_goIt) (maxL := 4) (ret := (some .int)) (by decide) (Nat.le_of_ble_eq_true rfl) (fun pg ev s m below meth cd ls F hnh hW hK hl => ?_)
  obtain ⟨hx, hb, hml, hown, hts, hr, hlk⟩ := F
  have S : CallFix pg m cd cX0_goIt 4 s _ lw_all RX0 := ⟨hx, hb, hml, hown, hts⟩
  have hl : lv_has ls 4 [(0, .ref cb), (1, .int x), (2, .int y)] := hl
  have hKK := hK.1
  obtain ⟨hC, hD⟩ := hW
  have hS : va_S (fA (cA cb) s) s.heap s.heap [] := va_S.rf
  have hOk := hB.1
  have hd0 := hOk.hr0
  have hd8 := hOk.d8
  have hh3 := hOk.hr3
  have hh6 := hOk.h6
  have hs2 := hOk.hr2
  have hs5 := hOk.s5
  have hX := hOk.X
  refine lv_aload_n hx hb dX0_goIt_0 rfl (lv_at hl 0 rfl) ?_
  refine lv_iload_n hx hb dX0_goIt_1 rfl (lv_at hl 1 rfl) ?_
  refine xm_X (xx_runV (As := [.int x]) (rest := []) S hK hC (hC.recv hKK) (cx_mustBeHead l htr D t Z cb B x hOk) (cwV 1 hts (lw_V q781 q783 qs18 q95 q784) rfl rfl rfl (by decide +kernel) ⟨Nat.le_of_ble_eq_true rfl, Nat.le_of_ble_eq_true rfl⟩) rfl hl.1 rfl (Nat.le_of_ble_eq_true rfl) dX0_goIt_2 ⟨Nat.le_of_ble_eq_true rfl, Nat.le_of_ble_eq_true rfl⟩) hS hnh hlk (Nat.le_of_ble_eq_true rfl) (Nat.le_of_ble_eq_true rfl) ⟨hC, hD⟩ (fun h => by unfold nGo; grind) (fun n2 locs hS => ?_)
  refine lv_iload_n hx hb dX0_goIt_5 rfl (lv_at hl 2 rfl) ?_
  refine lv_iconst (v := 5) hx hb dX0_goIt_6 (by decide) ?_
  refine xm_X (xx_runS (As := [.int y, .int 5]) (rest := []) S hK hC.1.2.1 (cx_mustBe l htr D t Z y 5 5 (by decide +kernel) (by decide)) (va_cwS 2 hts (lw_S q746 q747 q95 q748) rfl rfl rfl (by decide +kernel) ⟨Nat.le_of_ble_eq_true rfl, Nat.le_of_ble_eq_true rfl⟩) rfl hl.1 rfl (Nat.le_of_ble_eq_true rfl) dX0_goIt_7 ⟨Nat.le_of_ble_eq_true rfl, Nat.le_of_ble_eq_true rfl⟩) hS hnh hlk (Nat.le_of_ble_eq_true rfl) (Nat.le_of_ble_eq_true rfl) ⟨hC, hD⟩ (fun h => by unfold nGo; grind) (fun n7 locs hS => ?_)
  have hhx := isH_ix hOk (if0 (by decide) n2)
  refine lv_aload_n hx hb dX0_goIt_10 rfl (lv_at hl 0 rfl) ?_
  refine c_xget (v := .ref (cb + 8)) hx hb hts hown hKK hC 1 (by decide) (Or.inl q284) rfl rfl dX0_goIt_11 ?_
  refine c_oget (v := .ref (cb + 8 + 5)) hx hb hts hown hKK hC 8 (by decide) (Or.inr ⟨_, q217⟩) rfl (fun _ => rfl) dX0_goIt_14 ?_
  refine lv_iload_n hx hb dX0_goIt_17 rfl (lv_at hl 1 rfl) ?_
  refine c_oald hx hb hKK hC 5 (fun _ _ _ => rfl) (k := ix x) (v := hd (B 2) (ix x) 1) hhx.1 (by omega) (by decide) (fun _ => rfl) dX0_goIt_18 ?_
  refine lv_istore_n (lv' := [(3, .int (hd (B 2) (ix x) 1)), (0, .ref cb), (1, .int x), (2, .int y)]) hx hb dX0_goIt_19 rfl hl (by decide) rfl (fun ls hl => ?_)
  refine lv_aload_n hx hb dX0_goIt_20 rfl (lv_at hl 1 rfl) ?_
  refine c_xget (v := .ref (cb + 8)) hx hb hts hown hKK hC 1 (by decide) (Or.inl q284) rfl rfl dX0_goIt_21 ?_
  refine c_oget (v := .ref (cb + 8 + 5)) hx hb hts hown hKK hC 8 (by decide) (Or.inr ⟨_, q217⟩) rfl (fun _ => rfl) dX0_goIt_24 ?_
  refine lv_iload_n hx hb dX0_goIt_27 rfl (lv_at hl 2 rfl) ?_
  refine lv_iload_n hx hb dX0_goIt_28 rfl (lv_at hl 3 rfl) ?_
  obtain ⟨sgO, kdO, AO, hV⟩ := hC.2.2.1
  refine o_astH hx hb hKK hV (by omega) (by omega) (fun q h => fO h) hS 1 (by decide) rfl (k := ix x) hhx.1 (by omega) rfl dX0_goIt_29 (fun H locs hV _ hq hS => ?_)
  have hW := CW.off (⟨hC, hD⟩ : CW D t Z cb B _) hV (fun q _ h => hq q h)
  obtain ⟨hC, hD⟩ := hW
  refine lv_iload_n hx hb dX0_goIt_30 rfl (lv_at hl 0 rfl) ?_
  exact x_iretX hx hb hr (by unfold nGo; grind) rfl ⟨hC, hD⟩ hS (Nat.le_of_ble_eq_true rfl) (Nat.le_of_ble_eq_true rfl) dX0_goIt_31 hlk
theorem isN_v {r : RT} {y : Int32} (h : isN r y = true) : (if y < 0 then -9 else y) = -9 ∨ (0 ≤ (if y < 0 then -9 else y) ∧ (if y < 0 then -9 else y) < r 2) := by
  unfold isN isS at h
  by_cases e : y < 0
  · rw [if_pos e]; exact Or.inl rfl
  · rw [if_neg e]
    rcases Bool.or_eq_true_iff.mp h with q | q
    · rw [of_decide_eq_true q] at e; exact absurd (by decide) e
    · exact Or.inr (of_decide_eq_true q)
theorem ge_if {r : RT} {j : Nat} {y : Int32} : geS r j (if y < 0 then -9 else y) = geS r j y := by
  by_cases e : y < 0
  · rw [if_pos e, ge_neg e]
  · rw [if_neg e]
set_option maxHeartbeats 800000 in
theorem cx_getIt (l : Launch) (htr : l.stackTraces = false) (D : va_G) (t : Nat → ClassId) (Z : Nat × Cell) (cb : Nat) (B : BT) (x : Int32) (y : Int32) (hB : OkB B) : MetX l yX0_getIt (ws_ yX0_getIt cX0_getIt 4 (some .int)) ({ frames := 10, cells := 2, slots := 14, locals := 184 }) (zPc [.ref cb, .int x, .int y] (CW D t Z cb B) (KX D t Z)) (QX D t Z cb (nGet (B 2) x y) (uGet B x y) B) 2 14 (cA cb) := by
  refine zOfX (cc := cX0_getIt) (maxL := 4) (ret := (some .int)) (by decide) (Nat.le_of_ble_eq_true rfl) (fun pg ev s m below meth cd ls F hnh hW hK hl => ?_)
  obtain ⟨hx, hb, hml, hown, hts, hr, hlk⟩ := F
  have S : CallFix pg m cd cX0_getIt 4 s _ lw_all RX0 := ⟨hx, hb, hml, hown, hts⟩
  have hl : lv_has ls 4 [(0, .ref cb), (1, .int x), (2, .int y)] := hl
  have hKK := hK.1
  obtain ⟨hC, hD⟩ := hW
  have hS : va_S (fA (cA cb) s) s.heap s.heap [] := va_S.rf
  have hOk := hB.1
  have hd0 := hOk.hr0
  have hd8 := hOk.d8
  have hh3 := hOk.hr3
  have hh6 := hOk.h6
  have hs2 := hOk.hr2
  have hs5 := hOk.s5
  have hX := hOk.X
  refine lv_aload_n hx hb dX0_getIt_0 rfl (lv_at hl 0 rfl) ?_
  refine lv_iload_n hx hb dX0_getIt_1 rfl (lv_at hl 1 rfl) ?_
  refine xm_X (xx_runV (As := [.int x]) (rest := []) S hK hC (hC.recv hKK) (cx_mustBeHead l htr D t Z cb B x hOk) (cwV 1 hts (lw_V q781 q783 qs18 q95 q784) rfl rfl rfl (by decide +kernel) ⟨Nat.le_of_ble_eq_true rfl, Nat.le_of_ble_eq_true rfl⟩) rfl hl.1 rfl (Nat.le_of_ble_eq_true rfl) dX0_getIt_2 ⟨Nat.le_of_ble_eq_true rfl, Nat.le_of_ble_eq_true rfl⟩) hS hnh hlk (Nat.le_of_ble_eq_true rfl) (Nat.le_of_ble_eq_true rfl) ⟨hC, hD⟩ (fun h => by unfold nGet; grind) (fun n2 locs hS => ?_)
  refine lv_aload_n hx hb dX0_getIt_5 rfl (lv_at hl 0 rfl) ?_
  refine lv_iload_n hx hb dX0_getIt_6 rfl (lv_at hl 2 rfl) ?_
  refine xm_X (xx_runV (As := [.int y]) (rest := []) S hK hC (hC.recv hKK) (cx_mustBeSongOrNone l htr D t Z cb B y hOk) (cwV 1 hts (lw_V q879 q881 qs22 q95 q882) rfl rfl rfl (by decide +kernel) ⟨Nat.le_of_ble_eq_true rfl, Nat.le_of_ble_eq_true rfl⟩) rfl hl.1 rfl (Nat.le_of_ble_eq_true rfl) dX0_getIt_7 ⟨Nat.le_of_ble_eq_true rfl, Nat.le_of_ble_eq_true rfl⟩) hS hnh hlk (Nat.le_of_ble_eq_true rfl) (Nat.le_of_ble_eq_true rfl) ⟨hC, hD⟩ (fun h => by unfold nGet; grind) (fun n7 locs hS => ?_)
  have hhx := isH_ix hOk (if0 (by decide) n2)
  have hn7 := if0 (by decide) n7
  have hvv : (if y < 0 then -9 else y) = -9 ∨ (0 ≤ (if y < 0 then -9 else y) ∧ (if y < 0 then -9 else y) < B 2 2) := isN_v hn7
  refine lv_aload_n hx hb dX0_getIt_10 rfl (lv_at hl 0 rfl) ?_
  refine c_xget (v := .ref (cb + 8)) hx hb hts hown hKK hC 1 (by decide) (Or.inl q284) rfl rfl dX0_getIt_11 ?_
  refine c_oget (v := .ref (cb + 8 + 7)) hx hb hts hown hKK hC 10 (by decide) (Or.inr ⟨_, q222⟩) rfl (fun _ => rfl) dX0_getIt_14 ?_
  refine lv_iload_n hx hb dX0_getIt_17 rfl (lv_at hl 1 rfl) ?_
  refine c_oald hx hb hKK hC 7 (fun _ _ _ => rfl) (k := ix x) (v := hd (B 2) (ix x) 3) hhx.1 (by omega) (by decide) (fun _ => rfl) dX0_getIt_18 ?_
  refine lv_istore_n (lv' := [(3, .int (hd (B 2) (ix x) 3)), (0, .ref cb), (1, .int x), (2, .int y)]) hx hb dX0_getIt_19 rfl hl (by decide) rfl (fun ls hl => ?_)
  refine lv_aload_n hx hb dX0_getIt_20 rfl (lv_at hl 1 rfl) ?_
  refine c_xget (v := .ref (cb + 8)) hx hb hts hown hKK hC 1 (by decide) (Or.inl q284) rfl rfl dX0_getIt_21 ?_
  refine lv_iload_n hx hb dX0_getIt_24 rfl (lv_at hl 2 rfl) ?_
  refine W.join (fun vJ => F0 m 35 ls (.int vJ :: [.int x, .ref (cb + 8)])) (fun vJ => vJ = (if y < 0 then -9 else y)) (fun vJ hJ => ?_) (fun J => ?_)
  · subst hJ
    refine z_stk (st' := [.int (if y < 0 then -9 else y), .int (nI (ix x)), .ref (cb + 8)]) (by rw [← show x = nI (ix x) from hhx.1]) ?_
    obtain ⟨sgO, kdO, AO, hV⟩ := hC.2.2.1
    refine va_callv (g_runV (As := [.int (nI (ix x)), .int (if y < 0 then -9 else y)]) (rest := []) S hKK hV (hV.recv hKK) (co_X8_get l D t (cb + 8) (cb + 2) (cb + 70) sgO kdO (B 2) AO (ix x) (if y < 0 then -9 else y) hX (by omega) (by omega) (by omega) hvv) (cwV 2 hts (lw_V q884 q632 q633 q103 q634) rfl rfl rfl (by decide +kernel) ⟨Nat.le_of_ble_eq_true rfl, Nat.le_of_ble_eq_true rfl⟩) rfl hl.1 rfl (Nat.le_of_ble_eq_true rfl) dX0_getIt_35 ⟨Nat.le_of_ble_eq_true rfl, Nat.le_of_ble_eq_true rfl⟩) hS (fun q _ h => fO h) (fun q h => fO h) (fun u35 tt H locs ht _ h35 hV _ hq hS => ?_)
    obtain ⟨R35, A35⟩ := u35
    rw [ht] at hV
    have hV : OV D t (cb + 8) (cb + 2) (cb + 70) sgO kdO R35 A35 H := hV
    have h35 : (R35, A35) = (geS (B 2) (ix x) (if y < 0 then -9 else y), AO) := h35
    obtain ⟨e1, e2⟩ := Prod.mk.inj h35
    rw [e1, e2] at hV
    have hW := CW.off (⟨hC, hD⟩ : CW D t Z cb B _) hV hq
    obtain ⟨hC, hD⟩ := hW
    refine lv_iload_n hx hb dX0_getIt_38 rfl (lv_at hl 0 rfl) ?_
    exact x_iretX hx hb hr (by unfold nGet; grind) (by unfold uGet; rw [ge_if]) ⟨hC, hD⟩ hS (Nat.le_of_ble_eq_true rfl) (Nat.le_of_ble_eq_true rfl) dX0_getIt_39 hlk
  · refine lv_iload_n hx hb dX0_getIt_25 rfl (lv_at hl 3 rfl) ?_
    refine lv_if_ge (tgt := 34) hx hb dX0_getIt_26 (by decide) (fun c26 => ?_) (fun c26 => ?_)
    · refine lv_iload_n hx hb dX0_getIt_34 rfl (lv_at hl 3 rfl) ?_
      exact J _ (by rw [if_neg (Int32.not_lt.mpr c26)])
    · refine lv_bipush (v := (-9)) hx hb dX0_getIt_29 (by decide) ?_
      refine lv_goto (tgt := 35) hx hb dX0_getIt_31 (by decide) ?_
      exact J _ (by rw [if_pos (Int32.not_le.mp c26)])
theorem isI3 {y : Int32} (h : isI y 3 = true) : y = 0 ∨ y = 1 ∨ y = 2 := by
  obtain ⟨e, hl⟩ := isI_ix (x := y) (n := 3) (by decide) h
  have : ix y = 0 ∨ ix y = 1 ∨ ix y = 2 := by omega
  rcases this with g | g | g <;> rw [g] at e
  · exact Or.inl e
  · exact Or.inr (Or.inl e)
  · exact Or.inr (Or.inr e)
theorem reN_3 {r : RT} {x y : Int32} (h1 : (if isH r x = true then 0 else -1) = (0 : Int32)) (h2 : (if isI y 3 = true then 0 else -2) = (0 : Int32)) (h012 : y = 0 ∨ y = 1 ∨ y = 2) (hy : ¬ y = 2) (h9 : hd r (ix x) 3 = -9) : reN r x y = -3 := by
  unfold reN
  rw [if_pos (if0 (by decide) h1), if_pos (if0 (by decide) h2), if_pos ⟨by rcases h012 with e | e | e; (rw [e]; decide); (rw [e]; decide); exact absurd e hy, by rw [h9]; decide⟩]
theorem reN_0 {r : RT} {x y : Int32} (h1 : (if isH r x = true then 0 else -1) = (0 : Int32)) (h2 : (if isI y 3 = true then 0 else -2) = (0 : Int32)) (h3 : hd r (ix x) 3 = -9 ∨ (0 ≤ hd r (ix x) 3 ∧ hd r (ix x) 3 < r 2)) (hor : y = 2 ∨ ¬ hd r (ix x) 3 = -9) : reN r x y = 0 := by
  unfold reN
  rw [if_pos (if0 (by decide) h1), if_pos (if0 (by decide) h2), if_neg (fun q => by
    rcases hor with e | e
    · rw [e] at q; exact absurd q.1 (by decide)
    · rcases h3 with z | z
      · exact e z
      · exact absurd q.2 (Int32.not_lt.mpr z.1))]
set_option maxHeartbeats 800000 in
theorem cx_remedyIt (l : Launch) (htr : l.stackTraces = false) (D : va_G) (t : Nat → ClassId) (Z : Nat × Cell) (cb : Nat) (B : BT) (x : Int32) (y : Int32) (hB : OkB B) : MetX l yX0_remedyIt (ws_ yX0_remedyIt cX0_remedyIt 3 (some .int)) ({ frames := 10, cells := 3, slots := 21, locals := 184 }) (zPc [.ref cb, .int x, .int y] (CW D t Z cb B) (KX D t Z)) (QX D t Z cb (reN (B 2) x y) (uRem B x y) B) 3 21 (cA cb) := by
  refine zOfX (cc := cX0_remedyIt) (maxL := 3) (ret := (some .int)) (by decide) (Nat.le_of_ble_eq_true rfl) (fun pg ev s m below meth cd ls F hnh hW hK hl => ?_)
  obtain ⟨hx, hb, hml, hown, hts, hr, hlk⟩ := F
  have S : CallFix pg m cd cX0_remedyIt 3 s _ lw_all RX0 := ⟨hx, hb, hml, hown, hts⟩
  have hl : lv_has ls 3 [(0, .ref cb), (1, .int x), (2, .int y)] := hl
  have hKK := hK.1
  obtain ⟨hC, hD⟩ := hW
  have hS : va_S (fA (cA cb) s) s.heap s.heap [] := va_S.rf
  have hOk := hB.1
  have hd0 := hOk.hr0
  have hd8 := hOk.d8
  have hh3 := hOk.hr3
  have hh6 := hOk.h6
  have hs2 := hOk.hr2
  have hs5 := hOk.s5
  have hX := hOk.X
  refine lv_aload_n hx hb dX0_remedyIt_0 rfl (lv_at hl 0 rfl) ?_
  refine lv_iload_n hx hb dX0_remedyIt_1 rfl (lv_at hl 1 rfl) ?_
  refine xm_X (xx_runV (As := [.int x]) (rest := []) S hK hC (hC.recv hKK) (cx_mustBeHead l htr D t Z cb B x hOk) (cwV 1 hts (lw_V q781 q783 qs18 q95 q784) rfl rfl rfl (by decide +kernel) ⟨Nat.le_of_ble_eq_true rfl, Nat.le_of_ble_eq_true rfl⟩) rfl hl.1 rfl (Nat.le_of_ble_eq_true rfl) dX0_remedyIt_2 ⟨Nat.le_of_ble_eq_true rfl, Nat.le_of_ble_eq_true rfl⟩) hS hnh hlk (Nat.le_of_ble_eq_true rfl) (Nat.le_of_ble_eq_true rfl) ⟨hC, hD⟩ (fun h => by unfold reN; grind) (fun n2 locs hS => ?_)
  refine lv_iload_n hx hb dX0_remedyIt_5 rfl (lv_at hl 2 rfl) ?_
  refine lv_i2l hx hb dX0_remedyIt_6 rfl ?_
  refine lv_lconst (v := 0) hx hb dX0_remedyIt_7 (by decide) ?_
  refine lv_ldc2 (v := 2) hx hb hown (hts _ q893) dX0_remedyIt_8 ?_
  refine g_r (g_runS (As := [.long ((y).toInt64), .long 0, .long 2]) (rest := []) S hKK trivial (cx_in l D t ((y).toInt64) 0 2) (va_cwS 3 hts (lw_S q749 q482 q95 q483) rfl rfl rfl (by decide +kernel) ⟨Nat.le_of_ble_eq_true rfl, Nat.le_of_ble_eq_true rfl⟩) rfl hl.1 rfl (Nat.le_of_ble_eq_true rfl) dX0_remedyIt_11 ⟨Nat.le_of_ble_eq_true rfl, Nat.le_of_ble_eq_true rfl⟩) ?_
  refine z_top (y := bI (isI y 3)) (by rw [show (2 : Int64) = ((3 : Int32) - 1).toInt64 by decide +kernel, in_isI (n := 3) (k := 3) (by decide +kernel) (by decide)]) ?_
  refine lv_bipush (v := (-2)) hx hb dX0_remedyIt_14 (by decide) ?_
  refine xm_X (xx_runS (As := [.int (bI (isI y 3)), .int (-2)]) (rest := []) S hK hC.1.2.1 (cx_must l htr D t Z (isI y 3) (-2) (by decide)) (va_cwS 2 hts (lw_S q339 q340 q95 q341) rfl rfl rfl (by decide +kernel) ⟨Nat.le_of_ble_eq_true rfl, Nat.le_of_ble_eq_true rfl⟩) rfl hl.1 rfl (Nat.le_of_ble_eq_true rfl) dX0_remedyIt_16 ⟨Nat.le_of_ble_eq_true rfl, Nat.le_of_ble_eq_true rfl⟩) hS hnh hlk (Nat.le_of_ble_eq_true rfl) (Nat.le_of_ble_eq_true rfl) ⟨hC, hD⟩ (fun h => by unfold reN; grind) (fun n16 locs hS => ?_)
  have hhx := isH_ix hOk (if0 (by decide) n2)
  have hyy := if0 (by decide) n16
  have h012 := isI3 hyy
  have hhs := isH_ix hOk (if0 (by decide) n2)
  have h3 := (hOk.head hhs.2).2.2.2.2.2.2.1
  refine W.join (fun vJ => F0 m 43 ls (.int vJ :: [])) (fun vJ => vJ = bI (decide (y = 2 ∨ ¬ hd (B 2) (ix x) 3 = -9))) (fun vJ hJ => ?_) (fun J => ?_)
  · subst hJ
    refine lv_bipush (v := (-3)) hx hb dX0_remedyIt_43 (by decide) ?_
    refine xm_X (xx_runS (As := [.int (bI (decide (y = 2 ∨ ¬ hd (B 2) (ix x) 3 = -9))), .int (-3)]) (rest := []) S hK hC.1.2.1 (cx_must l htr D t Z (decide (y = 2 ∨ ¬ hd (B 2) (ix x) 3 = -9)) (-3) (by decide)) (va_cwS 2 hts (lw_S q339 q340 q95 q341) rfl rfl rfl (by decide +kernel) ⟨Nat.le_of_ble_eq_true rfl, Nat.le_of_ble_eq_true rfl⟩) rfl hl.1 rfl (Nat.le_of_ble_eq_true rfl) dX0_remedyIt_45 ⟨Nat.le_of_ble_eq_true rfl, Nat.le_of_ble_eq_true rfl⟩) hS hnh hlk (Nat.le_of_ble_eq_true rfl) (Nat.le_of_ble_eq_true rfl) ⟨hC, hD⟩ (fun h => by have hc : ¬ (y = 2 ∨ ¬ hd (B 2) (ix x) 3 = -9) := (fun q => h (by rw [decide_eq_true q]; rfl)); rw [decide_eq_false hc]; exact reN_3 n2 n16 h012 (fun q => hc (Or.inl q)) (Decidable.of_not_not (fun q => hc (Or.inr q)))) (fun n45 locs hS => ?_)
    have hor := of_decide_eq_true (if0 (by decide) n45)
    refine lv_aload_n hx hb dX0_remedyIt_48 rfl (lv_at hl 0 rfl) ?_
    refine c_xget (v := .ref (cb + 8)) hx hb hts hown hKK hC 1 (by decide) (Or.inl q284) rfl rfl dX0_remedyIt_49 ?_
    refine lv_iload_n hx hb dX0_remedyIt_52 rfl (lv_at hl 1 rfl) ?_
    refine lv_iload_n hx hb dX0_remedyIt_53 rfl (lv_at hl 2 rfl) ?_
    refine z_stk (st' := [.int y, .int (nI (ix x)), .ref (cb + 8)]) (by rw [← show x = nI (ix x) from hhx.1]) ?_
    obtain ⟨sgO, kdO, AO, hV⟩ := hC.2.2.1
    refine va_callv (g_runV (As := [.int (nI (ix x)), .int y]) (rest := []) S hKK hV (hV.recv hKK) (co_X8_remedy l D t (cb + 8) (cb + 2) (cb + 70) sgO kdO (B 2) AO (ix x) y 999 hOk (by omega) (by omega) hhx.2 (by rcases h012 with e | e | e; exact Or.inl ⟨Or.inl e, hor.resolve_left (by rw [e]; decide)⟩; exact Or.inl ⟨Or.inr e, hor.resolve_left (by rw [e]; decide)⟩; exact Or.inr (Or.inl e))) (cwV 2 hts (lw_V q894 q895 q896 q103 q897) rfl rfl rfl (by decide +kernel) ⟨Nat.le_of_ble_eq_true rfl, Nat.le_of_ble_eq_true rfl⟩) rfl hl.1 rfl (Nat.le_of_ble_eq_true rfl) dX0_remedyIt_54 ⟨Nat.le_of_ble_eq_true rfl, Nat.le_of_ble_eq_true rfl⟩) hS (fun q _ h => fO h) (fun q h => fO h) (fun u54 tt H locs ht _ h54 hV _ hq hS => ?_)
    obtain ⟨R54, A54⟩ := u54
    rw [ht] at hV
    have hV : OV D t (cb + 8) (cb + 2) (cb + 70) sgO kdO R54 A54 H := hV
    have h54 : (R54, A54) = (meS (B 2) (ix x) y, AO) := h54
    obtain ⟨e1, e2⟩ := Prod.mk.inj h54
    rw [e1, e2] at hV
    have hW := CW.off (⟨hC, hD⟩ : CW D t Z cb B _) hV hq
    obtain ⟨hC, hD⟩ := hW
    refine lv_aload_n hx hb dX0_remedyIt_57 rfl (lv_at hl 0 rfl) ?_
    refine c_xget (v := .ref (cb + 8)) hx hb hts hown hKK hC 1 (by decide) (Or.inl q284) rfl rfl dX0_remedyIt_58 ?_
    refine c_oget (v := .ref (cb + 8 + 8)) hx hb hts hown hKK hC 11 (by decide) (Or.inr ⟨_, q224⟩) rfl (fun _ => rfl) dX0_remedyIt_61 ?_
    refine lv_iload_n hx hb dX0_remedyIt_64 rfl (lv_at hl 1 rfl) ?_
    refine c_oald hx hb hKK hC 8 (fun _ _ _ => rfl) (k := ix x) (v := hd (meS (B 2) (ix x) y) (ix x) 4) hhx.1 (by omega) (by decide) (fun _ => rfl) dX0_remedyIt_65 ?_
    exact x_iretX hx hb hr (reN_0 n2 n16 h3 hor) rfl ⟨hC, hD⟩ hS (Nat.le_of_ble_eq_true rfl) (Nat.le_of_ble_eq_true rfl) dX0_remedyIt_66 hlk
  · refine lv_iload_n hx hb dX0_remedyIt_19 rfl (lv_at hl 2 rfl) ?_
    refine lv_iconst (v := 2) hx hb dX0_remedyIt_20 (by decide) ?_
    refine lv_icmp_eq (tgt := 38) hx hb dX0_remedyIt_21 (by decide) (fun c21 => ?_) (fun c21 => ?_)
    · refine lv_iconst (v := 1) hx hb dX0_remedyIt_38 (by decide) ?_
      refine lv_goto (tgt := 43) hx hb dX0_remedyIt_39 (by decide) ?_
      exact J _ (by rw [decide_eq_true (Or.inl c21)]; rfl)
    · refine lv_aload_n hx hb dX0_remedyIt_24 rfl (lv_at hl 0 rfl) ?_
      refine c_xget (v := .ref (cb + 8)) hx hb hts hown hKK hC 1 (by decide) (Or.inl q284) rfl rfl dX0_remedyIt_25 ?_
      refine c_oget (v := .ref (cb + 8 + 7)) hx hb hts hown hKK hC 10 (by decide) (Or.inr ⟨_, q222⟩) rfl (fun _ => rfl) dX0_remedyIt_28 ?_
      refine lv_iload_n hx hb dX0_remedyIt_31 rfl (lv_at hl 1 rfl) ?_
      refine c_oald hx hb hKK hC 7 (fun _ _ _ => rfl) (k := ix x) (v := hd (B 2) (ix x) 3) hhx.1 (by omega) (by decide) (fun _ => rfl) dX0_remedyIt_32 ?_
      refine lv_bipush (v := (-9)) hx hb dX0_remedyIt_33 (by decide) ?_
      refine lv_icmp_eq (tgt := 42) hx hb dX0_remedyIt_35 (by decide) (fun c35 => ?_) (fun c35 => ?_)
      · refine lv_iconst (v := 0) hx hb dX0_remedyIt_42 (by decide) ?_
        exact J _ (by rw [decide_eq_false (fun q => q.elim c21 (fun z => z c35))]; rfl)
      · refine lv_iconst (v := 1) hx hb dX0_remedyIt_38 (by decide) ?_
        refine lv_goto (tgt := 43) hx hb dX0_remedyIt_39 (by decide) ?_
        exact J _ (by rw [decide_eq_true (Or.inr c35)]; rfl)
set_option maxHeartbeats 800000 in
theorem cx_loudTold (l : Launch) (htr : l.stackTraces = false) (D : va_G) (t : Nat → ClassId) (Z : Nat × Cell) (cb : Nat) (B : BT) (x : Int32) (hB : OkB B) : MetX l yX0_loudTold (ws_ yX0_loudTold cX0_loudTold 3 (some .int)) ({ frames := 9, cells := 2, slots := 14, locals := 167 }) (zPc [.ref cb, .int x] (CW D t Z cb B) (KX D t Z)) (QX D t Z cb (wiS x 1 20) (uLoud B x) B) 2 14 (cA cb) := by
  refine zOfX (cc := cX0_loudTold) (maxL := 3) (ret := (some .int)) (by decide) (Nat.le_of_ble_eq_true rfl) (fun pg ev s m below meth cd ls F hnh hW hK hl => ?_)
  obtain ⟨hx, hb, hml, hown, hts, hr, hlk⟩ := F
  have S : CallFix pg m cd cX0_loudTold 3 s _ lw_all RX0 := ⟨hx, hb, hml, hown, hts⟩
  have hl : lv_has ls 3 [(0, .ref cb), (1, .int x)] := hl
  have hKK := hK.1
  obtain ⟨hC, hD⟩ := hW
  have hS : va_S (fA (cA cb) s) s.heap s.heap [] := va_S.rf
  have hOk := hB.1
  have hd0 := hOk.hr0
  have hd8 := hOk.d8
  have hh3 := hOk.hr3
  have hh6 := hOk.h6
  have hs2 := hOk.hr2
  have hs5 := hOk.s5
  have hX := hOk.X
  refine lv_iload_n hx hb dX0_loudTold_0 rfl (lv_at hl 1 rfl) ?_
  refine lv_i2l hx hb dX0_loudTold_1 rfl ?_
  refine lv_lconst (v := 1) hx hb dX0_loudTold_2 (by decide) ?_
  refine lv_ldc2 (v := 20) hx hb hown (hts _ q909) dX0_loudTold_3 ?_
  refine xm_X (xx_runS (As := [.long ((x).toInt64), .long 1, .long 20]) (rest := []) S hK hC.1.2.1 (cx_within l htr D t Z ((x).toInt64) 1 20) (va_cwS 3 hts (lw_S q336 q337 q95 q338) rfl rfl rfl (by decide +kernel) ⟨Nat.le_of_ble_eq_true rfl, Nat.le_of_ble_eq_true rfl⟩) rfl hl.1 rfl (Nat.le_of_ble_eq_true rfl) dX0_loudTold_6 ⟨Nat.le_of_ble_eq_true rfl, Nat.le_of_ble_eq_true rfl⟩) hS hnh hlk (Nat.le_of_ble_eq_true rfl) (Nat.le_of_ble_eq_true rfl) ⟨hC, hD⟩ (fun h => (wiL_eq (x := x) (a := 1) (b := 20)).symm) (fun n6 locs hS => ?_)
  refine lv_aload_n hx hb dX0_loudTold_9 rfl (lv_at hl 0 rfl) ?_
  refine c_xget (v := .ref (cb + 8)) hx hb hts hown hKK hC 1 (by decide) (Or.inl q284) rfl rfl dX0_loudTold_10 ?_
  refine c_oget (v := .int ((B 2) 5)) hx hb hts hown hKK hC 14 (by decide) (Or.inr ⟨_, q232⟩) rfl (fun _ => rfl) dX0_loudTold_13 ?_
  refine lv_istore_n (lv' := [(2, .int ((B 2) 5)), (0, .ref cb), (1, .int x)]) hx hb dX0_loudTold_16 rfl hl (by decide) rfl (fun ls hl => ?_)
  refine lv_aload_n hx hb dX0_loudTold_17 rfl (lv_at hl 1 rfl) ?_
  refine c_xget (v := .ref (cb + 8)) hx hb hts hown hKK hC 1 (by decide) (Or.inl q284) rfl rfl dX0_loudTold_18 ?_
  refine lv_iload_n hx hb dX0_loudTold_21 rfl (lv_at hl 2 rfl) ?_
  obtain ⟨sgO, kdO, AO, hV⟩ := hC.2.2.1
  refine o_putr hx hb hts hown hKK hV.1 (fun q h => fO h) hS 14 5 (by decide) (Or.inr ⟨_, q232⟩) rfl rfl (by decide +kernel) rfl dX0_loudTold_22 (fun H locs hP1 _ hq hS => ?_)
  have hV := hV.put (by omega) (by omega) (OR_congr (oC_sc (Or.inr (Or.inr rfl))) hP1) (fun q _ h => hq q h) SK_5
  have hW := CW.off (⟨hC, hD⟩ : CW D t Z cb B _) hV (fun q _ h => hq q h)
  obtain ⟨hC, hD⟩ := hW
  refine lv_iload_n hx hb dX0_loudTold_25 rfl (lv_at hl 0 rfl) ?_
  exact x_iretX hx hb hr ((wiL_eq (x := x) (a := 1) (b := 20)).symm.trans n6) rfl ⟨hC, hD⟩ hS (Nat.le_of_ble_eq_true rfl) (Nat.le_of_ble_eq_true rfl) dX0_loudTold_26 hlk
set_option maxHeartbeats 800000 in
theorem cx_holdTold (l : Launch) (htr : l.stackTraces = false) (D : va_G) (t : Nat → ClassId) (Z : Nat × Cell) (cb : Nat) (B : BT) (x : Int32) (y : Int32) (z : Int32) (hB : OkB B) : MetX l yX0_holdTold (ws_ yX0_holdTold cX0_holdTold 5 (some .int)) ({ frames := 10, cells := 4, slots := 28, locals := 187 }) (zPc [.ref cb, .int x, .int y, .int z] (CW D t Z cb B) (KX D t Z)) (QX D t Z cb (hoN (isH (B 2) x) y z) (hd (hrS (B 2) (ix y)) (ix x) (3 + ix z), B) B) 4 28 (cA cb) := by
  refine zOfX (cc := cX0_holdTold) (maxL := 5) (ret := (some .int)) (by decide) (Nat.le_of_ble_eq_true rfl) (fun pg ev s m below meth cd ls F hnh hW hK hl => ?_)
  obtain ⟨hx, hb, hml, hown, hts, hr, hlk⟩ := F
  have S : CallFix pg m cd cX0_holdTold 5 s _ lw_all RX0 := ⟨hx, hb, hml, hown, hts⟩
  have hl : lv_has ls 5 [(0, .ref cb), (1, .int x), (2, .int y), (3, .int z)] := hl
  have hKK := hK.1
  obtain ⟨hC, hD⟩ := hW
  have hS : va_S (fA (cA cb) s) s.heap s.heap [] := va_S.rf
  have hOk := hB.1
  have hd0 := hOk.hr0
  have hd8 := hOk.d8
  have hh3 := hOk.hr3
  have hh6 := hOk.h6
  have hs2 := hOk.hr2
  have hs5 := hOk.s5
  have hX := hOk.X
  refine lv_aload_n hx hb dX0_holdTold_0 rfl (lv_at hl 0 rfl) ?_
  refine lv_iload_n hx hb dX0_holdTold_1 rfl (lv_at hl 1 rfl) ?_
  refine xm_X (xx_runV (As := [.int x]) (rest := []) S hK hC (hC.recv hKK) (cx_mustBeHead l htr D t Z cb B x hOk) (cwV 1 hts (lw_V q781 q783 qs18 q95 q784) rfl rfl rfl (by decide +kernel) ⟨Nat.le_of_ble_eq_true rfl, Nat.le_of_ble_eq_true rfl⟩) rfl hl.1 rfl (Nat.le_of_ble_eq_true rfl) dX0_holdTold_2 ⟨Nat.le_of_ble_eq_true rfl, Nat.le_of_ble_eq_true rfl⟩) hS hnh hlk (Nat.le_of_ble_eq_true rfl) (Nat.le_of_ble_eq_true rfl) ⟨hC, hD⟩ (fun h => by unfold hoN wrS; grind) (fun n2 locs hS => ?_)
  refine lv_iload_n hx hb dX0_holdTold_5 rfl (lv_at hl 2 rfl) ?_
  refine xm_X (xx_runS (As := [.int y]) (rest := []) S hK hC.1.2.1 (cx_mustBeHours l htr D t Z y) (va_cwS 1 hts (lw_S q964 q965 q95 q966) rfl rfl rfl (by decide +kernel) ⟨Nat.le_of_ble_eq_true rfl, Nat.le_of_ble_eq_true rfl⟩) rfl hl.1 rfl (Nat.le_of_ble_eq_true rfl) dX0_holdTold_6 ⟨Nat.le_of_ble_eq_true rfl, Nat.le_of_ble_eq_true rfl⟩) hS hnh hlk (Nat.le_of_ble_eq_true rfl) (Nat.le_of_ble_eq_true rfl) ⟨hC, hD⟩ (fun h => by unfold hoN wrS; grind) (fun n6 locs hS => ?_)
  refine lv_iload_n hx hb dX0_holdTold_9 rfl (lv_at hl 3 rfl) ?_
  refine xm_X (xx_runS (As := [.int z]) (rest := []) S hK hC.1.2.1 (cx_mustBeBit l htr D t Z z) (va_cwS 1 hts (lw_S q968 q969 q95 q970) rfl rfl rfl (by decide +kernel) ⟨Nat.le_of_ble_eq_true rfl, Nat.le_of_ble_eq_true rfl⟩) rfl hl.1 rfl (Nat.le_of_ble_eq_true rfl) dX0_holdTold_10 ⟨Nat.le_of_ble_eq_true rfl, Nat.le_of_ble_eq_true rfl⟩) hS hnh hlk (Nat.le_of_ble_eq_true rfl) (Nat.le_of_ble_eq_true rfl) ⟨hC, hD⟩ (fun h => by unfold hoN wrS; grind) (fun n10 locs hS => ?_)
  have hhx := isH_ix hOk (if0 (by decide) n2)
  have hy6 := wi_ix n6
  have hz2 := isI_ix (x := z) (n := 2) (by decide) (if0 (by decide) n10)
  refine lv_aload_n hx hb dX0_holdTold_13 rfl (lv_at hl 0 rfl) ?_
  refine va_callr (gx_runV (As := []) (rest := []) S hK ⟨hC, hD⟩ (hC.recv hKK) (cx_openMind l htr D t Z cb B ) (cwV 0 hts (lw_V q971 q973 qs31 q95 q974) rfl rfl rfl (by decide +kernel) ⟨Nat.le_of_ble_eq_true rfl, Nat.le_of_ble_eq_true rfl⟩) rfl hl.1 rfl (Nat.le_of_ble_eq_true rfl) dX0_holdTold_14 ⟨Nat.le_of_ble_eq_true rfl, Nat.le_of_ble_eq_true rfl⟩) hS (fun q _ h => Or.inl h) (fun q h => Or.inl h) (fun u14 a14 tt H locs ht _ _ hW _ _ hS => ?_)
  obtain ⟨sgN, kdN, AN⟩ := u14
  obtain ⟨rfl, hC, hN⟩ := hW
  rw [ht] at hC hN
  have hN : OV D t (cb + 23) (cb + 2) (cb + 70) sgN kdN (B 2) AN H := hN
  refine lv_iload_n hx hb dX0_holdTold_17 rfl (lv_at hl 2 rfl) ?_
  refine z_stk (st' := [.int (nI (ix y)), .ref (cb + 23)]) (by rw [← show y = nI (ix y) from hy6.1]) ?_
  refine va_callr (g_runV (As := [.int (nI (ix y))]) (rest := []) S hKK hN (hN.recv hKK) (co_X8_hoursOn l D t (cb + 23) (cb + 2) (cb + 70) sgN kdN (B 2) AN (ix y) 999 hOk (by omega) (by omega) (by omega)) (cwV 1 hts (lw_V q975 q976 q977 q103 q978) rfl rfl rfl (by decide +kernel) ⟨Nat.le_of_ble_eq_true rfl, Nat.le_of_ble_eq_true rfl⟩) rfl hl.1 rfl (Nat.le_of_ble_eq_true rfl) dX0_holdTold_18 ⟨Nat.le_of_ble_eq_true rfl, Nat.le_of_ble_eq_true rfl⟩) hS (fun q _ h => fM h) (fun q h => fM h) (fun u18 a18 tt H locs ht _ h18 hN _ hq hS => ?_)
  obtain ⟨R18, A18⟩ := u18
  obtain ⟨rfl, hN⟩ := hN
  rw [ht] at hN
  have hN : OV D t (cb + 23) (cb + 2) (cb + 70) sgN kdN R18 A18 H := hN
  obtain ⟨e2, hf12, hf13⟩ := h18
  have e2 : R18 = hrS (B 2) (ix y) := e2
  rw [e2] at hN
  have hC := hC.kept hq
  refine lv_astore (lv' := [(4, .ref (cb + 23)), (0, .ref cb), (1, .int x), (2, .int y), (3, .int z)]) hx hb dX0_holdTold_21 hl (by decide) rfl (fun ls hl => ?_)
  refine W.join (fun vJ => F0 m 44 ls (.int vJ :: [])) (fun vJ => vJ = hd (hrS (B 2) (ix y)) (ix x) (3 + ix z)) (fun vJ hJ => ?_) (fun J => ?_)
  · subst hJ
    exact x_iretX hx hb hr (by unfold hoN wrS; grind) rfl ⟨hC, ⟨_, _, _, hN.1⟩⟩ hS (Nat.le_of_ble_eq_true rfl) (Nat.le_of_ble_eq_true rfl) dX0_holdTold_44 hlk
  · refine lv_iload_n hx hb dX0_holdTold_23 rfl (lv_at hl 4 rfl) ?_
    refine lv_if_ne (tgt := 37) hx hb dX0_holdTold_24 (by decide) (fun c24 => ?_) (fun c24 => ?_)
    · refine lv_aload hx hb dX0_holdTold_37 (lv_at hl 0 rfl) ?_
      refine n_get (v := .ref (cb + 23 + 8)) hx hb hts hown hKK hN.1 11 (by decide) (Or.inr ⟨_, q224⟩) rfl rfl dX0_holdTold_39 ?_
      refine lv_iload_n hx hb dX0_holdTold_42 rfl (lv_at hl 2 rfl) ?_
      refine o_ald hx hb hKK hN.1 8 rfl (k := ix x) (v := hd (hrS (B 2) (ix y)) (ix x) 4) hhx.1 (by omega) (by decide) rfl dX0_holdTold_43 ?_
      exact J _ (by rw [show ix z = 1 by have : ¬ ix z = 0 := (fun q => c24 (by rw [hz2.1, q]; rfl)); omega])
    · refine lv_aload hx hb dX0_holdTold_27 (lv_at hl 0 rfl) ?_
      refine n_get (v := .ref (cb + 23 + 7)) hx hb hts hown hKK hN.1 10 (by decide) (Or.inr ⟨_, q222⟩) rfl rfl dX0_holdTold_29 ?_
      refine lv_iload_n hx hb dX0_holdTold_32 rfl (lv_at hl 2 rfl) ?_
      refine o_ald hx hb hKK hN.1 7 rfl (k := ix x) (v := hd (hrS (B 2) (ix y)) (ix x) 3) hhx.1 (by omega) (by decide) rfl dX0_holdTold_33 ?_
      refine lv_goto (tgt := 44) hx hb dX0_holdTold_34 (by decide) ?_
      exact J _ (by rw [show ix z = 0 by rw [c24]; decide])
set_option maxHeartbeats 800000 in
theorem cx_haveTold (l : Launch) (htr : l.stackTraces = false) (D : va_G) (t : Nat → ClassId) (Z : Nat × Cell) (cb : Nat) (B : BT) (x : Int32) (y : Int32) (hB : OkB B) : MetX l yX0_haveTold (ws_ yX0_haveTold cX0_haveTold 3 (some .int)) ({ frames := 10, cells := 3, slots := 21, locals := 187 }) (zPc [.ref cb, .int x, .int y] (CW D t Z cb B) (KX D t Z)) (QX D t Z cb (wrS (isN (B 2) x) y) (haS (hrS (B 2) (ix y)) x, B) B) 3 21 (cA cb) := by
  refine zOfX (cc := cX0_haveTold) (maxL := 3) (ret := (some .int)) (by decide) (Nat.le_of_ble_eq_true rfl) (fun pg ev s m below meth cd ls F hnh hW hK hl => ?_)
  obtain ⟨hx, hb, hml, hown, hts, hr, hlk⟩ := F
  have S : CallFix pg m cd cX0_haveTold 3 s _ lw_all RX0 := ⟨hx, hb, hml, hown, hts⟩
  have hl : lv_has ls 3 [(0, .ref cb), (1, .int x), (2, .int y)] := hl
  have hKK := hK.1
  obtain ⟨hC, hD⟩ := hW
  have hS : va_S (fA (cA cb) s) s.heap s.heap [] := va_S.rf
  have hOk := hB.1
  have hd0 := hOk.hr0
  have hd8 := hOk.d8
  have hh3 := hOk.hr3
  have hh6 := hOk.h6
  have hs2 := hOk.hr2
  have hs5 := hOk.s5
  have hX := hOk.X
  refine lv_aload_n hx hb dX0_haveTold_0 rfl (lv_at hl 0 rfl) ?_
  refine lv_iload_n hx hb dX0_haveTold_1 rfl (lv_at hl 1 rfl) ?_
  refine xm_X (xx_runV (As := [.int x]) (rest := []) S hK hC (hC.recv hKK) (cx_mustBeSongOrNone l htr D t Z cb B x hOk) (cwV 1 hts (lw_V q879 q881 qs22 q95 q882) rfl rfl rfl (by decide +kernel) ⟨Nat.le_of_ble_eq_true rfl, Nat.le_of_ble_eq_true rfl⟩) rfl hl.1 rfl (Nat.le_of_ble_eq_true rfl) dX0_haveTold_2 ⟨Nat.le_of_ble_eq_true rfl, Nat.le_of_ble_eq_true rfl⟩) hS hnh hlk (Nat.le_of_ble_eq_true rfl) (Nat.le_of_ble_eq_true rfl) ⟨hC, hD⟩ (fun h => by unfold wrS; grind) (fun n2 locs hS => ?_)
  refine lv_iload_n hx hb dX0_haveTold_5 rfl (lv_at hl 2 rfl) ?_
  refine xm_X (xx_runS (As := [.int y]) (rest := []) S hK hC.1.2.1 (cx_mustBeHours l htr D t Z y) (va_cwS 1 hts (lw_S q964 q965 q95 q966) rfl rfl rfl (by decide +kernel) ⟨Nat.le_of_ble_eq_true rfl, Nat.le_of_ble_eq_true rfl⟩) rfl hl.1 rfl (Nat.le_of_ble_eq_true rfl) dX0_haveTold_6 ⟨Nat.le_of_ble_eq_true rfl, Nat.le_of_ble_eq_true rfl⟩) hS hnh hlk (Nat.le_of_ble_eq_true rfl) (Nat.le_of_ble_eq_true rfl) ⟨hC, hD⟩ (fun h => by unfold wrS; grind) (fun n6 locs hS => ?_)
  have hy6 := wi_ix n6
  refine lv_aload_n hx hb dX0_haveTold_9 rfl (lv_at hl 0 rfl) ?_
  refine va_callr (gx_runV (As := []) (rest := []) S hK ⟨hC, hD⟩ (hC.recv hKK) (cx_openMind l htr D t Z cb B ) (cwV 0 hts (lw_V q971 q973 qs31 q95 q974) rfl rfl rfl (by decide +kernel) ⟨Nat.le_of_ble_eq_true rfl, Nat.le_of_ble_eq_true rfl⟩) rfl hl.1 rfl (Nat.le_of_ble_eq_true rfl) dX0_haveTold_10 ⟨Nat.le_of_ble_eq_true rfl, Nat.le_of_ble_eq_true rfl⟩) hS (fun q _ h => Or.inl h) (fun q h => Or.inl h) (fun u10 a10 tt H locs ht _ _ hW _ _ hS => ?_)
  obtain ⟨sgN, kdN, AN⟩ := u10
  obtain ⟨rfl, hC, hN⟩ := hW
  rw [ht] at hC hN
  have hN : OV D t (cb + 23) (cb + 2) (cb + 70) sgN kdN (B 2) AN H := hN
  refine lv_iload_n hx hb dX0_haveTold_13 rfl (lv_at hl 2 rfl) ?_
  refine z_stk (st' := [.int (nI (ix y)), .ref (cb + 23)]) (by rw [← show y = nI (ix y) from hy6.1]) ?_
  refine va_callr (g_runV (As := [.int (nI (ix y))]) (rest := []) S hKK hN (hN.recv hKK) (co_X8_hoursOn l D t (cb + 23) (cb + 2) (cb + 70) sgN kdN (B 2) AN (ix y) 999 hOk (by omega) (by omega) (by omega)) (cwV 1 hts (lw_V q975 q976 q977 q103 q978) rfl rfl rfl (by decide +kernel) ⟨Nat.le_of_ble_eq_true rfl, Nat.le_of_ble_eq_true rfl⟩) rfl hl.1 rfl (Nat.le_of_ble_eq_true rfl) dX0_haveTold_14 ⟨Nat.le_of_ble_eq_true rfl, Nat.le_of_ble_eq_true rfl⟩) hS (fun q _ h => fM h) (fun q h => fM h) (fun u14 a14 tt H locs ht _ h14 hN _ hq hS => ?_)
  obtain ⟨R14, A14⟩ := u14
  obtain ⟨rfl, hN⟩ := hN
  rw [ht] at hN
  have hN : OV D t (cb + 23) (cb + 2) (cb + 70) sgN kdN R14 A14 H := hN
  obtain ⟨e2, hf12, hf13⟩ := h14
  have e2 : R14 = hrS (B 2) (ix y) := e2
  rw [e2] at hN
  have hC := hC.kept hq
  refine lv_iload_n hx hb dX0_haveTold_17 rfl (lv_at hl 1 rfl) ?_
  refine g_r (g_runV (As := [.int x]) (rest := []) S hKK hN (hN.recv hKK) (co_X8_have l D t (cb + 23) (cb + 2) (cb + 70) sgN kdN (hrS (B 2) (ix y)) A14 x (999 + ix y) (Ok_hrS hOk (by omega))) (cwV 1 hts (lw_V q773 q774 q775 q103 q776) rfl rfl rfl (by decide +kernel) ⟨Nat.le_of_ble_eq_true rfl, Nat.le_of_ble_eq_true rfl⟩) rfl hl.1 rfl (Nat.le_of_ble_eq_true rfl) dX0_haveTold_18 ⟨Nat.le_of_ble_eq_true rfl, Nat.le_of_ble_eq_true rfl⟩) ?_
  exact x_iretX hx hb hr (by unfold wrS; grind) rfl ⟨hC, ⟨_, _, _, hN.1⟩⟩ hS (Nat.le_of_ble_eq_true rfl) (Nat.le_of_ble_eq_true rfl) dX0_haveTold_21 hlk
def uTake (B : BT) (x y : Int32) : OT := (fdS (fun n => decide (hd (hrS (B 2) n) (ix x) 3 = y)) 61, B)
set_option maxHeartbeats 800000 in
theorem cx_takesTold (l : Launch) (htr : l.stackTraces = false) (D : va_G) (t : Nat → ClassId) (Z : Nat × Cell) (cb : Nat) (B : BT) (x : Int32) (y : Int32) (hB : OkB B) : MetX l yX0_takesTold (ws_ yX0_takesTold cX0_takesTold 3 (some .int)) ({ frames := 10, cells := 2, slots := 14, locals := 184 }) (zPc [.ref cb, .int x, .int y] (CW D t Z cb B) (KX D t Z)) (QX D t Z cb (nTake (B 2) x y) (uTake B x y) B) 2 14 (cA cb) := by
  refine zOfX (cc := cX0_takesTold) (maxL := 3) (ret := (some .int)) (by decide) (Nat.le_of_ble_eq_true rfl) (fun pg ev s m below meth cd ls F hnh hW hK hl => ?_)
  obtain ⟨hx, hb, hml, hown, hts, hr, hlk⟩ := F
  have S : CallFix pg m cd cX0_takesTold 3 s _ lw_all RX0 := ⟨hx, hb, hml, hown, hts⟩
  have hl : lv_has ls 3 [(0, .ref cb), (1, .int x), (2, .int y)] := hl
  have hKK := hK.1
  obtain ⟨hC, hD⟩ := hW
  have hS : va_S (fA (cA cb) s) s.heap s.heap [] := va_S.rf
  have hOk := hB.1
  have hd0 := hOk.hr0
  have hd8 := hOk.d8
  have hh3 := hOk.hr3
  have hh6 := hOk.h6
  have hs2 := hOk.hr2
  have hs5 := hOk.s5
  have hX := hOk.X
  refine lv_aload_n hx hb dX0_takesTold_0 rfl (lv_at hl 0 rfl) ?_
  refine lv_iload_n hx hb dX0_takesTold_1 rfl (lv_at hl 1 rfl) ?_
  refine xm_X (xx_runV (As := [.int x]) (rest := []) S hK hC (hC.recv hKK) (cx_mustBeHead l htr D t Z cb B x hOk) (cwV 1 hts (lw_V q781 q783 qs18 q95 q784) rfl rfl rfl (by decide +kernel) ⟨Nat.le_of_ble_eq_true rfl, Nat.le_of_ble_eq_true rfl⟩) rfl hl.1 rfl (Nat.le_of_ble_eq_true rfl) dX0_takesTold_2 ⟨Nat.le_of_ble_eq_true rfl, Nat.le_of_ble_eq_true rfl⟩) hS hnh hlk (Nat.le_of_ble_eq_true rfl) (Nat.le_of_ble_eq_true rfl) ⟨hC, hD⟩ (fun h => by unfold nTake; grind) (fun n2 locs hS => ?_)
  refine lv_aload_n hx hb dX0_takesTold_5 rfl (lv_at hl 0 rfl) ?_
  refine lv_iload_n hx hb dX0_takesTold_6 rfl (lv_at hl 2 rfl) ?_
  refine xm_X (xx_runV (As := [.int y]) (rest := []) S hK hC (hC.recv hKK) (cx_mustBeSong l htr D t Z cb B y hOk) (cwV 1 hts (lw_V q742 q744 qs16 q95 q745) rfl rfl rfl (by decide +kernel) ⟨Nat.le_of_ble_eq_true rfl, Nat.le_of_ble_eq_true rfl⟩) rfl hl.1 rfl (Nat.le_of_ble_eq_true rfl) dX0_takesTold_7 ⟨Nat.le_of_ble_eq_true rfl, Nat.le_of_ble_eq_true rfl⟩) hS hnh hlk (Nat.le_of_ble_eq_true rfl) (Nat.le_of_ble_eq_true rfl) ⟨hC, hD⟩ (fun h => by unfold nTake; grind) (fun n7 locs hS => ?_)
  have hhx := isH_ix hOk (if0 (by decide) n2)
  refine lv_aload_n hx hb dX0_takesTold_10 rfl (lv_at hl 0 rfl) ?_
  refine lv_iload_n hx hb dX0_takesTold_11 rfl (lv_at hl 1 rfl) ?_
  refine lv_iload_n hx hb dX0_takesTold_12 rfl (lv_at hl 2 rfl) ?_
  refine z_stk (st' := [.int y, .int (nI (ix x)), .ref cb]) (by rw [← show x = nI (ix x) from hhx.1]) ?_
  refine va_calli (gx_runV (As := [.int (nI (ix x)), .int y]) (rest := []) S hK ⟨hC, hD⟩ (hC.recv hKK) (cx_firstTaken l htr D t Z cb B (ix x) y hOk hhx.2) (cwV 2 hts (lw_V q988 q990 qs34 q95 q991) rfl rfl rfl (by decide +kernel) ⟨Nat.le_of_ble_eq_true rfl, Nat.le_of_ble_eq_true rfl⟩) rfl hl.1 rfl (Nat.le_of_ble_eq_true rfl) dX0_takesTold_13 ⟨Nat.le_of_ble_eq_true rfl, Nat.le_of_ble_eq_true rfl⟩) hS (fun q _ h => Or.inl h) (fun q h => Or.inl h) (fun r13 u13 tt H locs ht _ h13 hW _ _ hS => ?_)
  rw [ht] at hW
  obtain ⟨e1, e2⟩ := h13
  have hW : CW D t Z cb u13 H := hW
  rw [e2] at hW
  obtain ⟨hC, hD⟩ := hW
  refine z_top (y := fdS (fun n => decide (hd (hrS (B 2) n) (ix x) 3 = y)) 61) e1 ?_
  exact x_iretX hx hb hr (by unfold nTake; rw [if_pos ⟨if0 (by decide) n2, if0 (by decide) n7⟩]) rfl ⟨hC, hD⟩ hS (Nat.le_of_ble_eq_true rfl) (Nat.le_of_ble_eq_true rfl) dX0_takesTold_16 hlk
theorem hoN_0 {b : Bool} {y z : Int32} (h1 : (if b = true then 0 else -1) = (0 : Int32)) (h2 : wiS y 0 60 = 0) (h3 : (if isI z 2 = true then 0 else -2) = (0 : Int32)) : hoN b y z = 0 := by
  unfold hoN wrS
  rw [if_pos (if0 (by decide) h1), if_neg (fun q => q.2 (if0 (by decide) h3))]
  exact h2
set_option maxHeartbeats 800000 in
theorem cx_mostAsked (l : Launch) (htr : l.stackTraces = false) (D : va_G) (t : Nat → ClassId) (Z : Nat × Cell) (cb : Nat) (B : BT) (x : Int32) (y : Int32) (z : Int32) (hB : OkB B) : MetX l yX0_mostAsked (ws_ yX0_mostAsked cX0_mostAsked 4 (some .int)) ({ frames := 10, cells := 4, slots := 28, locals := 187 }) (zPc [.ref cb, .int x, .int y, .int z] (CW D t Z cb B) (KX D t Z)) (QX D t Z cb (hoN (isN (B 2) x) y z) ((if z = 0 then (mxL (fun k => haS (hrS (B 2) k) x) (-9, -9) (ix y + 1)).1 else (mxL (fun k => haS (hrS (B 2) k) x) (-9, -9) (ix y + 1)).2), B) B) 4 28 (cA cb) := by
  refine zOfX (cc := cX0_mostAsked) (maxL := 4) (ret := (some .int)) (by decide) (Nat.le_of_ble_eq_true rfl) (fun pg ev s m below meth cd ls F hnh hW hK hl => ?_)
  obtain ⟨hx, hb, hml, hown, hts, hr, hlk⟩ := F
  have S : CallFix pg m cd cX0_mostAsked 4 s _ lw_all RX0 := ⟨hx, hb, hml, hown, hts⟩
  have hl : lv_has ls 4 [(0, .ref cb), (1, .int x), (2, .int y), (3, .int z)] := hl
  have hKK := hK.1
  obtain ⟨hC, hD⟩ := hW
  have hS : va_S (fA (cA cb) s) s.heap s.heap [] := va_S.rf
  have hOk := hB.1
  have hd0 := hOk.hr0
  have hd8 := hOk.d8
  have hh3 := hOk.hr3
  have hh6 := hOk.h6
  have hs2 := hOk.hr2
  have hs5 := hOk.s5
  have hX := hOk.X
  refine lv_aload_n hx hb dX0_mostAsked_0 rfl (lv_at hl 0 rfl) ?_
  refine lv_iload_n hx hb dX0_mostAsked_1 rfl (lv_at hl 1 rfl) ?_
  refine xm_X (xx_runV (As := [.int x]) (rest := []) S hK hC (hC.recv hKK) (cx_mustBeSongOrNone l htr D t Z cb B x hOk) (cwV 1 hts (lw_V q879 q881 qs22 q95 q882) rfl rfl rfl (by decide +kernel) ⟨Nat.le_of_ble_eq_true rfl, Nat.le_of_ble_eq_true rfl⟩) rfl hl.1 rfl (Nat.le_of_ble_eq_true rfl) dX0_mostAsked_2 ⟨Nat.le_of_ble_eq_true rfl, Nat.le_of_ble_eq_true rfl⟩) hS hnh hlk (Nat.le_of_ble_eq_true rfl) (Nat.le_of_ble_eq_true rfl) ⟨hC, hD⟩ (fun h => by unfold hoN wrS; grind) (fun n2 locs hS => ?_)
  refine lv_iload_n hx hb dX0_mostAsked_5 rfl (lv_at hl 2 rfl) ?_
  refine xm_X (xx_runS (As := [.int y]) (rest := []) S hK hC.1.2.1 (cx_mustBeHours l htr D t Z y) (va_cwS 1 hts (lw_S q964 q965 q95 q966) rfl rfl rfl (by decide +kernel) ⟨Nat.le_of_ble_eq_true rfl, Nat.le_of_ble_eq_true rfl⟩) rfl hl.1 rfl (Nat.le_of_ble_eq_true rfl) dX0_mostAsked_6 ⟨Nat.le_of_ble_eq_true rfl, Nat.le_of_ble_eq_true rfl⟩) hS hnh hlk (Nat.le_of_ble_eq_true rfl) (Nat.le_of_ble_eq_true rfl) ⟨hC, hD⟩ (fun h => by unfold hoN wrS; grind) (fun n6 locs hS => ?_)
  refine lv_iload_n hx hb dX0_mostAsked_9 rfl (lv_at hl 3 rfl) ?_
  refine xm_X (xx_runS (As := [.int z]) (rest := []) S hK hC.1.2.1 (cx_mustBeBit l htr D t Z z) (va_cwS 1 hts (lw_S q968 q969 q95 q970) rfl rfl rfl (by decide +kernel) ⟨Nat.le_of_ble_eq_true rfl, Nat.le_of_ble_eq_true rfl⟩) rfl hl.1 rfl (Nat.le_of_ble_eq_true rfl) dX0_mostAsked_10 ⟨Nat.le_of_ble_eq_true rfl, Nat.le_of_ble_eq_true rfl⟩) hS hnh hlk (Nat.le_of_ble_eq_true rfl) (Nat.le_of_ble_eq_true rfl) ⟨hC, hD⟩ (fun h => by unfold hoN wrS; grind) (fun n10 locs hS => ?_)
  have hy6 := wi_ix n6
  have hz2 := if0 (by decide) n10
  refine lv_aload_n hx hb dX0_mostAsked_13 rfl (lv_at hl 0 rfl) ?_
  refine lv_iload_n hx hb dX0_mostAsked_14 rfl (lv_at hl 1 rfl) ?_
  refine lv_iload_n hx hb dX0_mostAsked_15 rfl (lv_at hl 2 rfl) ?_
  refine lv_iload_n hx hb dX0_mostAsked_16 rfl (lv_at hl 3 rfl) ?_
  refine z_stk (st' := [.int z, .int (nI (ix y)), .int x, .ref cb]) (by rw [← show y = nI (ix y) from hy6.1]) ?_
  refine va_calli (gx_runV (As := [.int x, .int (nI (ix y)), .int z]) (rest := []) S hK ⟨hC, hD⟩ (hC.recv hKK) (cx_mostTold l htr D t Z cb B x (ix y) z hOk hy6.2) (cwV 3 hts (lw_V q1000 q1002 qs37 q95 q1003) rfl rfl rfl (by decide +kernel) ⟨Nat.le_of_ble_eq_true rfl, Nat.le_of_ble_eq_true rfl⟩) rfl hl.1 rfl (Nat.le_of_ble_eq_true rfl) dX0_mostAsked_17 ⟨Nat.le_of_ble_eq_true rfl, Nat.le_of_ble_eq_true rfl⟩) hS (fun q _ h => Or.inl h) (fun q h => Or.inl h) (fun r17 u17 tt H locs ht _ h17 hW _ _ hS => ?_)
  rw [ht] at hW
  obtain ⟨e1, e2⟩ := h17
  have hW : CW D t Z cb u17 H := hW
  rw [e2] at hW
  obtain ⟨hC, hD⟩ := hW
  refine z_top (y := (if z = 0 then (mxL (fun k => haS (hrS (B 2) k) x) (-9, -9) (ix y + 1)).1 else (mxL (fun k => haS (hrS (B 2) k) x) (-9, -9) (ix y + 1)).2)) e1 ?_
  exact x_iretX hx hb hr (hoN_0 n2 n6 n10) rfl ⟨hC, hD⟩ hS (Nat.le_of_ble_eq_true rfl) (Nat.le_of_ble_eq_true rfl) dX0_mostAsked_20 hlk
set_option maxHeartbeats 800000 in
theorem cx_fromAsked (l : Launch) (htr : l.stackTraces = false) (D : va_G) (t : Nat → ClassId) (Z : Nat × Cell) (cb : Nat) (B : BT) (x : Int32) (y : Int32) (b : Bool) (hB : OkB B) : MetX l yX0_fromAsked (ws_ yX0_fromAsked cX0_fromAsked 4 (some .int)) ({ frames := 10, cells := 3, slots := 21, locals := 187 }) (zPc [.ref cb, .int x, .int y, .int (bI b)] (CW D t Z cb B) (KX D t Z)) (QX D t Z cb (wrS (isH (B 2) x) y) (fromV (B 2) x y b, B) B) 3 21 (cA cb) := by
  refine zOfX (cc := cX0_fromAsked) (maxL := 4) (ret := (some .int)) (by decide) (Nat.le_of_ble_eq_true rfl) (fun pg ev s m below meth cd ls F hnh hW hK hl => ?_)
  obtain ⟨hx, hb, hml, hown, hts, hr, hlk⟩ := F
  have S : CallFix pg m cd cX0_fromAsked 4 s _ lw_all RX0 := ⟨hx, hb, hml, hown, hts⟩
  have hl : lv_has ls 4 [(0, .ref cb), (1, .int x), (2, .int y), (3, .int (bI b))] := hl
  have hKK := hK.1
  obtain ⟨hC, hD⟩ := hW
  have hS : va_S (fA (cA cb) s) s.heap s.heap [] := va_S.rf
  have hOk := hB.1
  have hd0 := hOk.hr0
  have hd8 := hOk.d8
  have hh3 := hOk.hr3
  have hh6 := hOk.h6
  have hs2 := hOk.hr2
  have hs5 := hOk.s5
  have hX := hOk.X
  refine lv_aload_n hx hb dX0_fromAsked_0 rfl (lv_at hl 0 rfl) ?_
  refine lv_iload_n hx hb dX0_fromAsked_1 rfl (lv_at hl 1 rfl) ?_
  refine xm_X (xx_runV (As := [.int x]) (rest := []) S hK hC (hC.recv hKK) (cx_mustBeHead l htr D t Z cb B x hOk) (cwV 1 hts (lw_V q781 q783 qs18 q95 q784) rfl rfl rfl (by decide +kernel) ⟨Nat.le_of_ble_eq_true rfl, Nat.le_of_ble_eq_true rfl⟩) rfl hl.1 rfl (Nat.le_of_ble_eq_true rfl) dX0_fromAsked_2 ⟨Nat.le_of_ble_eq_true rfl, Nat.le_of_ble_eq_true rfl⟩) hS hnh hlk (Nat.le_of_ble_eq_true rfl) (Nat.le_of_ble_eq_true rfl) ⟨hC, hD⟩ (fun h => by unfold wrS; grind) (fun n2 locs hS => ?_)
  refine lv_iload_n hx hb dX0_fromAsked_5 rfl (lv_at hl 2 rfl) ?_
  refine xm_X (xx_runS (As := [.int y]) (rest := []) S hK hC.1.2.1 (cx_mustBeHours l htr D t Z y) (va_cwS 1 hts (lw_S q964 q965 q95 q966) rfl rfl rfl (by decide +kernel) ⟨Nat.le_of_ble_eq_true rfl, Nat.le_of_ble_eq_true rfl⟩) rfl hl.1 rfl (Nat.le_of_ble_eq_true rfl) dX0_fromAsked_6 ⟨Nat.le_of_ble_eq_true rfl, Nat.le_of_ble_eq_true rfl⟩) hS hnh hlk (Nat.le_of_ble_eq_true rfl) (Nat.le_of_ble_eq_true rfl) ⟨hC, hD⟩ (fun h => by unfold wrS; grind) (fun n6 locs hS => ?_)
  have hhx := isH_ix hOk (if0 (by decide) n2)
  have hy6 := wi_ix n6
  refine lv_aload_n hx hb dX0_fromAsked_9 rfl (lv_at hl 0 rfl) ?_
  refine lv_iload_n hx hb dX0_fromAsked_10 rfl (lv_at hl 1 rfl) ?_
  refine lv_iload_n hx hb dX0_fromAsked_11 rfl (lv_at hl 2 rfl) ?_
  refine lv_iload_n hx hb dX0_fromAsked_12 rfl (lv_at hl 3 rfl) ?_
  refine z_stk (st' := [.int (bI b), .int (nI (ix y)), .int (nI (ix x)), .ref cb]) (by rw [← show x = nI (ix x) from hhx.1]; rw [← show y = nI (ix y) from hy6.1]) ?_
  refine va_calli (gx_runV (As := [.int (nI (ix x)), .int (nI (ix y)), .int (bI b)]) (rest := []) S hK ⟨hC, hD⟩ (hC.recv hKK) (cx_fromTold l htr D t Z cb B (ix x) (ix y) b hOk hhx.2 hy6.2) (cwV 3 hts (lw_V q1013 q1015 qs40 q95 q1016) rfl rfl rfl (by decide +kernel) ⟨Nat.le_of_ble_eq_true rfl, Nat.le_of_ble_eq_true rfl⟩) rfl hl.1 rfl (Nat.le_of_ble_eq_true rfl) dX0_fromAsked_13 ⟨Nat.le_of_ble_eq_true rfl, Nat.le_of_ble_eq_true rfl⟩) hS (fun q _ h => Or.inl h) (fun q h => Or.inl h) (fun r13 u13 tt H locs ht _ h13 hW _ _ hS => ?_)
  rw [ht] at hW
  obtain ⟨e1, e2⟩ := h13
  have hW : CW D t Z cb u13 H := hW
  rw [e2] at hW
  obtain ⟨hC, hD⟩ := hW
  refine z_top (y := fromV (B 2) (nI (ix x)) (nI (ix y)) b) e1 ?_
  exact x_iretX hx hb hr (by unfold wrS; rw [if_pos (if0 (by decide) n2)]; exact n6) (by rw [← hhx.1, ← hy6.1]) ⟨hC, hD⟩ hS (Nat.le_of_ble_eq_true rfl) (Nat.le_of_ble_eq_true rfl) dX0_fromAsked_16 hlk
set_option maxHeartbeats 800000 in
theorem cx_ridAsked (l : Launch) (htr : l.stackTraces = false) (D : va_G) (t : Nat → ClassId) (Z : Nat × Cell) (cb : Nat) (B : BT) (x : Int32) (y : Int32) (hB : OkB B) : MetX l yX0_ridAsked (ws_ yX0_ridAsked cX0_ridAsked 3 (some .int)) ({ frames := 10, cells := 4, slots := 28, locals := 203 }) (zPc [.ref cb, .int x, .int y] (CW D t Z cb B) (KX D t Z)) (QX D t Z cb (riN (B 2) x y) ((if y = 0 then (riP (B 2) (ix x)).1 else (riP (B 2) (ix x)).2), B) B) 4 28 (cA cb) := by
  refine zOfX (cc := cX0_ridAsked) (maxL := 3) (ret := (some .int)) (by decide) (Nat.le_of_ble_eq_true rfl) (fun pg ev s m below meth cd ls F hnh hW hK hl => ?_)
  obtain ⟨hx, hb, hml, hown, hts, hr, hlk⟩ := F
  have S : CallFix pg m cd cX0_ridAsked 3 s _ lw_all RX0 := ⟨hx, hb, hml, hown, hts⟩
  have hl : lv_has ls 3 [(0, .ref cb), (1, .int x), (2, .int y)] := hl
  have hKK := hK.1
  obtain ⟨hC, hD⟩ := hW
  have hS : va_S (fA (cA cb) s) s.heap s.heap [] := va_S.rf
  have hOk := hB.1
  have hd0 := hOk.hr0
  have hd8 := hOk.d8
  have hh3 := hOk.hr3
  have hh6 := hOk.h6
  have hs2 := hOk.hr2
  have hs5 := hOk.s5
  have hX := hOk.X
  refine lv_aload_n hx hb dX0_ridAsked_0 rfl (lv_at hl 0 rfl) ?_
  refine lv_iload_n hx hb dX0_ridAsked_1 rfl (lv_at hl 1 rfl) ?_
  refine xm_X (xx_runV (As := [.int x]) (rest := []) S hK hC (hC.recv hKK) (cx_mustBeHead l htr D t Z cb B x hOk) (cwV 1 hts (lw_V q781 q783 qs18 q95 q784) rfl rfl rfl (by decide +kernel) ⟨Nat.le_of_ble_eq_true rfl, Nat.le_of_ble_eq_true rfl⟩) rfl hl.1 rfl (Nat.le_of_ble_eq_true rfl) dX0_ridAsked_2 ⟨Nat.le_of_ble_eq_true rfl, Nat.le_of_ble_eq_true rfl⟩) hS hnh hlk (Nat.le_of_ble_eq_true rfl) (Nat.le_of_ble_eq_true rfl) ⟨hC, hD⟩ (fun h => by unfold riN; grind) (fun n2 locs hS => ?_)
  refine lv_iload_n hx hb dX0_ridAsked_5 rfl (lv_at hl 2 rfl) ?_
  refine xm_X (xx_runS (As := [.int y]) (rest := []) S hK hC.1.2.1 (cx_mustBeBit l htr D t Z y) (va_cwS 1 hts (lw_S q968 q969 q95 q970) rfl rfl rfl (by decide +kernel) ⟨Nat.le_of_ble_eq_true rfl, Nat.le_of_ble_eq_true rfl⟩) rfl hl.1 rfl (Nat.le_of_ble_eq_true rfl) dX0_ridAsked_6 ⟨Nat.le_of_ble_eq_true rfl, Nat.le_of_ble_eq_true rfl⟩) hS hnh hlk (Nat.le_of_ble_eq_true rfl) (Nat.le_of_ble_eq_true rfl) ⟨hC, hD⟩ (fun h => by unfold riN; grind) (fun n6 locs hS => ?_)
  have hhx := isH_ix hOk (if0 (by decide) n2)
  have hh3x := (hOk.head (isH_ix hOk (if0 (by decide) n2)).2).2.2.2.2.2.2.1
  refine lv_aload_n hx hb dX0_ridAsked_9 rfl (lv_at hl 0 rfl) ?_
  refine lv_iload_n hx hb dX0_ridAsked_10 rfl (lv_at hl 1 rfl) ?_
  refine z_stk (st' := [.int (nI (ix x)), .ref cb]) (by rw [← show x = nI (ix x) from hhx.1]) ?_
  refine xm_X (xx_runV (As := [.int (nI (ix x))]) (rest := []) S hK hC (hC.recv hKK) (cx_mustHaveSong l htr D t Z cb B (ix x) (by omega)) (cwV 1 hts (lw_V q1025 q1027 qs42 q95 q1028) rfl rfl rfl (by decide +kernel) ⟨Nat.le_of_ble_eq_true rfl, Nat.le_of_ble_eq_true rfl⟩) rfl hl.1 rfl (Nat.le_of_ble_eq_true rfl) dX0_ridAsked_11 ⟨Nat.le_of_ble_eq_true rfl, Nat.le_of_ble_eq_true rfl⟩) hS hnh hlk (Nat.le_of_ble_eq_true rfl) (Nat.le_of_ble_eq_true rfl) ⟨hC, hD⟩ (fun h => by unfold riN; rw [if_pos (if0 (by decide) n2), if_pos (if0 (by decide) n6)]; by_cases q : hd (B 2) (ix x) 3 = -9; (rw [if_pos q, if_pos (by rw [q]; decide)]); (rw [if_neg q] at h; exact absurd rfl h)) (fun n11 locs hS => ?_)
  have h9 : ¬ hd (B 2) (ix x) 3 = -9 := fun q => by rw [if_pos q] at n11; exact absurd n11 (by decide)
  refine lv_aload_n hx hb dX0_ridAsked_14 rfl (lv_at hl 0 rfl) ?_
  refine lv_iload_n hx hb dX0_ridAsked_15 rfl (lv_at hl 1 rfl) ?_
  refine lv_iload_n hx hb dX0_ridAsked_16 rfl (lv_at hl 2 rfl) ?_
  refine z_stk (st' := [.int y, .int (nI (ix x)), .ref cb]) (by rw [← show x = nI (ix x) from hhx.1]) ?_
  refine va_calli (gx_runV (As := [.int (nI (ix x)), .int y]) (rest := []) S hK ⟨hC, hD⟩ (hC.recv hKK) (cx_ridTold l htr D t Z cb B (ix x) y hOk hhx.2 h9) (cwV 2 hts (lw_V q1029 q1031 qs43 q95 q1032) rfl rfl rfl (by decide +kernel) ⟨Nat.le_of_ble_eq_true rfl, Nat.le_of_ble_eq_true rfl⟩) rfl hl.1 rfl (Nat.le_of_ble_eq_true rfl) dX0_ridAsked_17 ⟨Nat.le_of_ble_eq_true rfl, Nat.le_of_ble_eq_true rfl⟩) hS (fun q _ h => Or.inl h) (fun q h => Or.inl h) (fun r17 u17 tt H locs ht _ h17 hW _ _ hS => ?_)
  rw [ht] at hW
  obtain ⟨e1, e2⟩ := h17
  have hW : CW D t Z cb u17 H := hW
  rw [e2] at hW
  obtain ⟨hC, hD⟩ := hW
  refine z_top (y := (if y = 0 then (riP (B 2) (ix x)).1 else (riP (B 2) (ix x)).2)) e1 ?_
  exact x_iretX hx hb hr (by unfold riN; rw [if_pos (if0 (by decide) n2), if_pos (if0 (by decide) n6), if_neg (fun q => h9 ((neg9 (hOk.head hhx.2)).mp q))]) rfl ⟨hC, hD⟩ hS (Nat.le_of_ble_eq_true rfl) (Nat.le_of_ble_eq_true rfl) dX0_ridAsked_20 hlk
set_option maxHeartbeats 800000 in
theorem cx_insteadTold (l : Launch) (htr : l.stackTraces = false) (D : va_G) (t : Nat → ClassId) (Z : Nat × Cell) (cb : Nat) (B : BT) (x : Int32) (hB : OkB B) : MetX l yX0_insteadTold (ws_ yX0_insteadTold cX0_insteadTold 2 (some .int)) ({ frames := 10, cells := 3, slots := 21, locals := 204 }) (zPc [.ref cb, .int x] (CW D t Z cb B) (KX D t Z)) (QX D t Z cb (inN (B 2) x) ((inP (B 2) (ix x)).1, B) B) 3 21 (cA cb) := by
  refine zOfX (cc := cX0_insteadTold) (maxL := 2) (ret := (some .int)) (by decide) (Nat.le_of_ble_eq_true rfl) (fun pg ev s m below meth cd ls F hnh hW hK hl => ?_)
  obtain ⟨hx, hb, hml, hown, hts, hr, hlk⟩ := F
  have S : CallFix pg m cd cX0_insteadTold 2 s _ lw_all RX0 := ⟨hx, hb, hml, hown, hts⟩
  have hl : lv_has ls 2 [(0, .ref cb), (1, .int x)] := hl
  have hKK := hK.1
  obtain ⟨hC, hD⟩ := hW
  have hS : va_S (fA (cA cb) s) s.heap s.heap [] := va_S.rf
  have hOk := hB.1
  have hd0 := hOk.hr0
  have hd8 := hOk.d8
  have hh3 := hOk.hr3
  have hh6 := hOk.h6
  have hs2 := hOk.hr2
  have hs5 := hOk.s5
  have hX := hOk.X
  refine lv_aload_n hx hb dX0_insteadTold_0 rfl (lv_at hl 0 rfl) ?_
  refine lv_iload_n hx hb dX0_insteadTold_1 rfl (lv_at hl 1 rfl) ?_
  refine xm_X (xx_runV (As := [.int x]) (rest := []) S hK hC (hC.recv hKK) (cx_mustBeHead l htr D t Z cb B x hOk) (cwV 1 hts (lw_V q781 q783 qs18 q95 q784) rfl rfl rfl (by decide +kernel) ⟨Nat.le_of_ble_eq_true rfl, Nat.le_of_ble_eq_true rfl⟩) rfl hl.1 rfl (Nat.le_of_ble_eq_true rfl) dX0_insteadTold_2 ⟨Nat.le_of_ble_eq_true rfl, Nat.le_of_ble_eq_true rfl⟩) hS hnh hlk (Nat.le_of_ble_eq_true rfl) (Nat.le_of_ble_eq_true rfl) ⟨hC, hD⟩ (fun h => by unfold inN; grind) (fun n2 locs hS => ?_)
  have hhx := isH_ix hOk (if0 (by decide) n2)
  refine lv_aload_n hx hb dX0_insteadTold_5 rfl (lv_at hl 0 rfl) ?_
  refine lv_iload_n hx hb dX0_insteadTold_6 rfl (lv_at hl 1 rfl) ?_
  refine z_stk (st' := [.int (nI (ix x)), .ref cb]) (by rw [← show x = nI (ix x) from hhx.1]) ?_
  refine xm_X (xx_runV (As := [.int (nI (ix x))]) (rest := []) S hK hC (hC.recv hKK) (cx_mustHaveSong l htr D t Z cb B (ix x) (by omega)) (cwV 1 hts (lw_V q1025 q1027 qs42 q95 q1028) rfl rfl rfl (by decide +kernel) ⟨Nat.le_of_ble_eq_true rfl, Nat.le_of_ble_eq_true rfl⟩) rfl hl.1 rfl (Nat.le_of_ble_eq_true rfl) dX0_insteadTold_7 ⟨Nat.le_of_ble_eq_true rfl, Nat.le_of_ble_eq_true rfl⟩) hS hnh hlk (Nat.le_of_ble_eq_true rfl) (Nat.le_of_ble_eq_true rfl) ⟨hC, hD⟩ (fun h => by unfold inN; rw [if_pos (if0 (by decide) n2)]; by_cases q : hd (B 2) (ix x) 3 = -9; (rw [if_pos q, if_pos (by rw [q]; decide)]); (rw [if_neg q] at h; exact absurd rfl h)) (fun n7 locs hS => ?_)
  have h9 : ¬ hd (B 2) (ix x) 3 = -9 := fun q => by rw [if_pos q] at n7; exact absurd n7 (by decide)
  refine lv_aload_n hx hb dX0_insteadTold_10 rfl (lv_at hl 0 rfl) ?_
  refine lv_iload_n hx hb dX0_insteadTold_11 rfl (lv_at hl 1 rfl) ?_
  refine z_stk (st' := [.int (nI (ix x)), .ref cb]) (by rw [← show x = nI (ix x) from hhx.1]) ?_
  refine va_calli (gx_runV (As := [.int (nI (ix x))]) (rest := []) S hK ⟨hC, hD⟩ (hC.recv hKK) (cx_songInstead l htr D t Z cb B (ix x) hOk hhx.2) (cwV 1 hts (lw_V q1045 q1047 qs46 q95 q1048) rfl rfl rfl (by decide +kernel) ⟨Nat.le_of_ble_eq_true rfl, Nat.le_of_ble_eq_true rfl⟩) rfl hl.1 rfl (Nat.le_of_ble_eq_true rfl) dX0_insteadTold_12 ⟨Nat.le_of_ble_eq_true rfl, Nat.le_of_ble_eq_true rfl⟩) hS (fun q _ h => Or.inl h) (fun q h => Or.inl h) (fun r12 u12 tt H locs ht _ h12 hW _ _ hS => ?_)
  rw [ht] at hW
  obtain ⟨e1, e2⟩ := h12
  have hW : CW D t Z cb u12 H := hW
  rw [e2] at hW
  obtain ⟨hC, hD⟩ := hW
  refine z_top (y := (inP (B 2) (ix x)).1) e1 ?_
  exact x_iretX hx hb hr (by unfold inN; rw [if_pos (if0 (by decide) n2), if_neg (fun q => h9 ((neg9 (hOk.head hhx.2)).mp q))]) rfl ⟨hC, hD⟩ hS (Nat.le_of_ble_eq_true rfl) (Nat.le_of_ble_eq_true rfl) dX0_insteadTold_15 hlk
theorem ge5 {r : RT} (h : r 2 = nI (nS r)) (h5 : nS r ≤ 5) (c : 5 ≤ r 2) : r 2 = 5 := by
  rw [h] at c ⊢
  have : 5 ≤ nS r := (nI_leI (a := 5) (by decide) (by omega)).mp c
  rw [show nS r = 5 by omega]; rfl
theorem le0 {r : RT} (h : r 3 = nI (nH r)) (h6 : nH r ≤ 6) (c : r 3 ≤ 0) : r 3 = 0 := by
  rw [h] at c ⊢
  have : nH r ≤ 0 := (nI_leI (b := 0) (by omega) (by decide)).mp c
  rw [show nH r = 0 by omega]; rfl
set_option maxHeartbeats 800000 in
theorem cx_writeAsked (l : Launch) (htr : l.stackTraces = false) (D : va_G) (t : Nat → ClassId) (Z : Nat × Cell) (cb : Nat) (B : BT) (x : Int32) (y : Int32) (z : Int32) (hB : OkB B) : MetX l yX0_writeAsked (ws_ yX0_writeAsked cX0_writeAsked 4 (some .int)) ({ frames := 9, cells := 64, slots := 148, locals := 184 }) (zPc [.ref cb, .int x, .int y, .int z] (CW D t Z cb B) (KX D t Z)) (QX D t Z cb (wtN (B 2) x y z) ((if z = 0 then (wtP (B 2) x (ix y)).1 else (wtP (B 2) x (ix y)).2), B) B) 64 148 (cA cb) := by
  refine zOfX (cc := cX0_writeAsked) (maxL := 4) (ret := (some .int)) (by decide) (Nat.le_of_ble_eq_true rfl) (fun pg ev s m below meth cd ls F hnh hW hK hl => ?_)
  obtain ⟨hx, hb, hml, hown, hts, hr, hlk⟩ := F
  have S : CallFix pg m cd cX0_writeAsked 4 s _ lw_all RX0 := ⟨hx, hb, hml, hown, hts⟩
  have hl : lv_has ls 4 [(0, .ref cb), (1, .int x), (2, .int y), (3, .int z)] := hl
  have hKK := hK.1
  obtain ⟨hC, hD⟩ := hW
  have hS : va_S (fA (cA cb) s) s.heap s.heap [] := va_S.rf
  have hOk := hB.1
  have hd0 := hOk.hr0
  have hd8 := hOk.d8
  have hh3 := hOk.hr3
  have hh6 := hOk.h6
  have hs2 := hOk.hr2
  have hs5 := hOk.s5
  have hX := hOk.X
  refine W.join (fun vJ => F0 m 14 ls (.int vJ :: [])) (fun vJ => vJ = bI (decide (¬ (x < 1 ∨ y < 0)))) (fun vJ hJ => ?_) (fun J1 => ?_)
  · subst hJ
    refine lv_bipush (v := (-4)) hx hb dX0_writeAsked_14 (by decide) ?_
    refine xm_X (xx_runS (As := [.int (bI (decide (¬ (x < 1 ∨ y < 0)))), .int (-4)]) (rest := []) S hK hC.1.2.1 (cx_must l htr D t Z (decide (¬ (x < 1 ∨ y < 0))) (-4) (by decide)) (va_cwS 2 hts (lw_S q339 q340 q95 q341) rfl rfl rfl (by decide +kernel) ⟨Nat.le_of_ble_eq_true rfl, Nat.le_of_ble_eq_true rfl⟩) rfl hl.1 rfl (Nat.le_of_ble_eq_true rfl) dX0_writeAsked_16 ⟨Nat.le_of_ble_eq_true rfl, Nat.le_of_ble_eq_true rfl⟩) hS hnh hlk (Nat.le_of_ble_eq_true rfl) (Nat.le_of_ble_eq_true rfl) ⟨hC, hD⟩ (fun h => by have hc : x < 1 ∨ y < 0 := Decidable.of_not_not (fun q => h (by rw [decide_eq_true q]; rfl)); rw [decide_eq_false (fun q => q hc)]; unfold wtN; rw [if_pos hc]; rfl) (fun n16 locs hS => ?_)
    have h1 := of_decide_eq_true (if0 (by decide) n16)
    refine W.join (fun vJ => F0 m 47 ls (.int vJ :: [])) (fun vJ => vJ = bI (decide (¬ (9 < x ∨ 60 < y ∨ B 2 2 = 5)))) (fun vJ hJ => ?_) (fun J2 => ?_)
    · subst hJ
      refine lv_bipush (v := (-6)) hx hb dX0_writeAsked_47 (by decide) ?_
      refine xm_X (xx_runS (As := [.int (bI (decide (¬ (9 < x ∨ 60 < y ∨ B 2 2 = 5)))), .int (-6)]) (rest := []) S hK hC.1.2.1 (cx_must l htr D t Z (decide (¬ (9 < x ∨ 60 < y ∨ B 2 2 = 5))) (-6) (by decide)) (va_cwS 2 hts (lw_S q339 q340 q95 q341) rfl rfl rfl (by decide +kernel) ⟨Nat.le_of_ble_eq_true rfl, Nat.le_of_ble_eq_true rfl⟩) rfl hl.1 rfl (Nat.le_of_ble_eq_true rfl) dX0_writeAsked_49 ⟨Nat.le_of_ble_eq_true rfl, Nat.le_of_ble_eq_true rfl⟩) hS hnh hlk (Nat.le_of_ble_eq_true rfl) (Nat.le_of_ble_eq_true rfl) ⟨hC, hD⟩ (fun h => by have hc : 9 < x ∨ 60 < y ∨ B 2 2 = 5 := Decidable.of_not_not (fun q => h (by rw [decide_eq_true q]; rfl)); rw [decide_eq_false (fun q => q hc)]; unfold wtN; rw [if_neg h1, if_pos hc]; rfl) (fun n49 locs hS => ?_)
      have h2 := of_decide_eq_true (if0 (by decide) n49)
      refine lv_iload_n hx hb dX0_writeAsked_52 rfl (lv_at hl 3 rfl) ?_
      refine xm_X (xx_runS (As := [.int z]) (rest := []) S hK hC.1.2.1 (cx_mustBeBit l htr D t Z z) (va_cwS 1 hts (lw_S q968 q969 q95 q970) rfl rfl rfl (by decide +kernel) ⟨Nat.le_of_ble_eq_true rfl, Nat.le_of_ble_eq_true rfl⟩) rfl hl.1 rfl (Nat.le_of_ble_eq_true rfl) dX0_writeAsked_53 ⟨Nat.le_of_ble_eq_true rfl, Nat.le_of_ble_eq_true rfl⟩) hS hnh hlk (Nat.le_of_ble_eq_true rfl) (Nat.le_of_ble_eq_true rfl) ⟨hC, hD⟩ (fun h => by unfold wtN; rw [if_neg h1, if_neg h2, if_pos (fun q => h (by rw [if_pos q]))]; rw [if_neg (fun q => h (by rw [if_pos q]))]) (fun n53 locs hS => ?_)
      refine W.join (fun vJ => F0 m 71 ls (.int vJ :: [])) (fun vJ => vJ = bI (decide (¬ B 2 3 = 0))) (fun vJ hJ => ?_) (fun J3 => ?_)
      · subst hJ
        refine lv_bipush (v := (-3)) hx hb dX0_writeAsked_71 (by decide) ?_
        refine xm_X (xx_runS (As := [.int (bI (decide (¬ B 2 3 = 0))), .int (-3)]) (rest := []) S hK hC.1.2.1 (cx_must l htr D t Z (decide (¬ B 2 3 = 0)) (-3) (by decide)) (va_cwS 2 hts (lw_S q339 q340 q95 q341) rfl rfl rfl (by decide +kernel) ⟨Nat.le_of_ble_eq_true rfl, Nat.le_of_ble_eq_true rfl⟩) rfl hl.1 rfl (Nat.le_of_ble_eq_true rfl) dX0_writeAsked_73 ⟨Nat.le_of_ble_eq_true rfl, Nat.le_of_ble_eq_true rfl⟩) hS hnh hlk (Nat.le_of_ble_eq_true rfl) (Nat.le_of_ble_eq_true rfl) ⟨hC, hD⟩ (fun h => by have hc : B 2 3 = 0 := Decidable.of_not_not (fun q => h (by rw [decide_eq_true q]; rfl)); rw [decide_eq_false (fun q => q hc)]; unfold wtN; rw [if_neg h1, if_neg h2, if_neg (fun q => q (if0 (by decide) n53)), if_pos hc]; rfl) (fun n73 locs hS => ?_)
        have h3 := of_decide_eq_true (if0 (by decide) n73)
        have hy6 := le_ixN (x := y) (n := 60) (by decide) (Int32.not_lt.mp (fun q => h1 (Or.inr q))) (Int32.not_lt.mp (fun q => h2 (Or.inr (Or.inl q))))
        have h5 : nS (B 2) < 5 := by { rcases Nat.lt_or_ge (nS (B 2)) 5 with q | q; exact q; exact absurd (Or.inr (Or.inr (by rw [hs2, show nS (B 2) = 5 by omega]; rfl))) h2 }
        have hH0 : 0 < nH (B 2) := Nat.pos_of_ne_zero (fun q => h3 (by rw [hh3, q]; rfl))
        refine lv_aload_n hx hb dX0_writeAsked_76 rfl (lv_at hl 0 rfl) ?_
        refine lv_iload_n hx hb dX0_writeAsked_77 rfl (lv_at hl 1 rfl) ?_
        refine lv_iload_n hx hb dX0_writeAsked_78 rfl (lv_at hl 2 rfl) ?_
        refine lv_iload_n hx hb dX0_writeAsked_79 rfl (lv_at hl 3 rfl) ?_
        refine z_stk (st' := [.int z, .int (nI (ix y)), .int x, .ref cb]) (by rw [← show y = nI (ix y) from hy6.1]) ?_
        refine va_calli (gx_runV (As := [.int x, .int (nI (ix y)), .int z]) (rest := []) S hK ⟨hC, hD⟩ (hC.recv hKK) (cx_writeTold l htr D t Z cb B x (ix y) z hOk hy6.2 h5 hH0 (Int32.not_lt.mp (fun q => h1 (Or.inl q))) (Int32.not_lt.mp (fun q => h2 (Or.inl q)))) (cwV 3 hts (lw_V q1065 q1067 qs51 q95 q1068) rfl rfl rfl (by decide +kernel) ⟨Nat.le_of_ble_eq_true rfl, Nat.le_of_ble_eq_true rfl⟩) rfl hl.1 rfl (Nat.le_of_ble_eq_true rfl) dX0_writeAsked_80 ⟨Nat.le_of_ble_eq_true rfl, Nat.le_of_ble_eq_true rfl⟩) hS (fun q _ h => Or.inl h) (fun q h => Or.inl h) (fun r80 u80 tt H locs ht _ h80 hW _ _ hS => ?_)
        rw [ht] at hW
        obtain ⟨e1, e2⟩ := h80
        have hW : CW D t Z cb u80 H := hW
        rw [e2] at hW
        obtain ⟨hC, hD⟩ := hW
        refine z_top (y := (if z = 0 then (wtP (B 2) x (ix y)).1 else (wtP (B 2) x (ix y)).2)) e1 ?_
        exact x_iretX hx hb hr (by unfold wtN; rw [if_neg h1, if_neg h2, if_neg (fun q => q (if0 (by decide) n53)), if_neg h3]) rfl ⟨hC, hD⟩ hS (Nat.le_of_ble_eq_true rfl) (Nat.le_of_ble_eq_true rfl) dX0_writeAsked_83 hlk
      · refine lv_aload_n hx hb dX0_writeAsked_56 rfl (lv_at hl 0 rfl) ?_
        refine c_xget (v := .ref (cb + 8)) hx hb hts hown hKK hC 1 (by decide) (Or.inl q284) rfl rfl dX0_writeAsked_57 ?_
        refine c_oget (v := .int ((B 2) 3)) hx hb hts hown hKK hC 6 (by decide) (Or.inr ⟨_, q211⟩) rfl (fun _ => rfl) dX0_writeAsked_60 ?_
        refine lv_if_le (tgt := 70) hx hb dX0_writeAsked_63 (by decide) (fun c63 => ?_) (fun c63 => ?_)
        · refine lv_iconst (v := 0) hx hb dX0_writeAsked_70 (by decide) ?_
          exact J3 _ (by rw [decide_eq_false (fun q => q (le0 hh3 hh6 c63))]; rfl)
        · refine lv_iconst (v := 1) hx hb dX0_writeAsked_66 (by decide) ?_
          refine lv_goto (tgt := 71) hx hb dX0_writeAsked_67 (by decide) ?_
          exact J3 _ (by rw [decide_eq_true (show ¬ B 2 3 = 0 from fun q => c63 (by rw [q]; decide))]; rfl)
    · refine lv_iload_n hx hb dX0_writeAsked_19 rfl (lv_at hl 1 rfl) ?_
      refine lv_bipush (v := 9) hx hb dX0_writeAsked_20 (by decide) ?_
      refine lv_icmp_gt (tgt := 46) hx hb dX0_writeAsked_22 (by decide) (fun c22 => ?_) (fun c22 => ?_)
      · refine lv_iconst (v := 0) hx hb dX0_writeAsked_46 (by decide) ?_
        exact J2 _ (by rw [decide_eq_false (fun q => q (Or.inl c22))]; rfl)
      · refine lv_iload_n hx hb dX0_writeAsked_25 rfl (lv_at hl 2 rfl) ?_
        refine lv_bipush (v := 60) hx hb dX0_writeAsked_26 (by decide) ?_
        refine lv_icmp_gt (tgt := 46) hx hb dX0_writeAsked_28 (by decide) (fun c28 => ?_) (fun c28 => ?_)
        · refine lv_iconst (v := 0) hx hb dX0_writeAsked_46 (by decide) ?_
          exact J2 _ (by rw [decide_eq_false (fun q => q (Or.inr (Or.inl c28)))]; rfl)
        · refine lv_aload_n hx hb dX0_writeAsked_31 rfl (lv_at hl 0 rfl) ?_
          refine c_xget (v := .ref (cb + 8)) hx hb hts hown hKK hC 1 (by decide) (Or.inl q284) rfl rfl dX0_writeAsked_32 ?_
          refine c_oget (v := .int ((B 2) 2)) hx hb hts hown hKK hC 4 (by decide) (Or.inr ⟨_, q204⟩) rfl (fun _ => rfl) dX0_writeAsked_35 ?_
          refine lv_iconst (v := 5) hx hb dX0_writeAsked_38 (by decide) ?_
          refine lv_icmp_ge (tgt := 46) hx hb dX0_writeAsked_39 (by decide) (fun c39 => ?_) (fun c39 => ?_)
          · refine lv_iconst (v := 0) hx hb dX0_writeAsked_46 (by decide) ?_
            exact J2 _ (by rw [decide_eq_false (fun q => q (Or.inr (Or.inr (ge5 hs2 hs5 c39))))]; rfl)
          · refine lv_iconst (v := 1) hx hb dX0_writeAsked_42 (by decide) ?_
            refine lv_goto (tgt := 47) hx hb dX0_writeAsked_43 (by decide) ?_
            exact J2 _ (by rw [decide_eq_true (show ¬ (9 < x ∨ 60 < y ∨ B 2 2 = 5) from fun q => q.elim c22 (fun q => q.elim c28 (fun e => c39 (by rw [e]; decide))))]; rfl)
  · refine lv_iload_n hx hb dX0_writeAsked_0 rfl (lv_at hl 1 rfl) ?_
    refine lv_iconst (v := 1) hx hb dX0_writeAsked_1 (by decide) ?_
    refine lv_icmp_lt (tgt := 13) hx hb dX0_writeAsked_2 (by decide) (fun c2 => ?_) (fun c2 => ?_)
    · refine lv_iconst (v := 0) hx hb dX0_writeAsked_13 (by decide) ?_
      exact J1 _ (by rw [decide_eq_false (fun q => q (Or.inl c2))]; rfl)
    · refine lv_iload_n hx hb dX0_writeAsked_5 rfl (lv_at hl 2 rfl) ?_
      refine lv_if_lt (tgt := 13) hx hb dX0_writeAsked_6 (by decide) (fun c6 => ?_) (fun c6 => ?_)
      · refine lv_iconst (v := 0) hx hb dX0_writeAsked_13 (by decide) ?_
        exact J1 _ (by rw [decide_eq_false (fun q => q (Or.inr c6))]; rfl)
      · refine lv_iconst (v := 1) hx hb dX0_writeAsked_9 (by decide) ?_
        refine lv_goto (tgt := 14) hx hb dX0_writeAsked_10 (by decide) ?_
        exact J1 _ (by rw [decide_eq_true (show ¬ (x < 1 ∨ y < 0) from fun q => q.elim c2 c6)]; rfl)
set_option maxHeartbeats 800000 in
theorem cx_otherwiseAsked (l : Launch) (htr : l.stackTraces = false) (D : va_G) (t : Nat → ClassId) (Z : Nat × Cell) (cb : Nat) (B : BT) (x : Int32) (y : Int32) (hB : OkB B) : MetX l yX0_otherwiseAsked (ws_ yX0_otherwiseAsked cX0_otherwiseAsked 3 (some .int)) ({ frames := 10, cells := 4, slots := 28, locals := 187 }) (zPc [.ref cb, .int x, .int y] (CW D t Z cb B) (KX D t Z)) (QX D t Z cb (otN B x y) ((if y = 0 then nI (otL (otF (B 13) (B 2) (ix x)) (10 * nH (B 2))).1 else (otL (otF (B 13) (B 2) (ix x)) (10 * nH (B 2))).2), B) B) 4 28 (cA cb) := by
  refine zOfX (cc := cX0_otherwiseAsked) (maxL := 3) (ret := (some .int)) (by decide) (Nat.le_of_ble_eq_true rfl) (fun pg ev s m below meth cd ls F hnh hW hK hl => ?_)
  obtain ⟨hx, hb, hml, hown, hts, hr, hlk⟩ := F
  have S : CallFix pg m cd cX0_otherwiseAsked 3 s _ lw_all RX0 := ⟨hx, hb, hml, hown, hts⟩
  have hl : lv_has ls 3 [(0, .ref cb), (1, .int x), (2, .int y)] := hl
  have hKK := hK.1
  obtain ⟨hC, hD⟩ := hW
  have hS : va_S (fA (cA cb) s) s.heap s.heap [] := va_S.rf
  have hOk := hB.1
  have hd0 := hOk.hr0
  have hd8 := hOk.d8
  have hh3 := hOk.hr3
  have hh6 := hOk.h6
  have hs2 := hOk.hr2
  have hs5 := hOk.s5
  have hX := hOk.X
  refine lv_iload_n hx hb dX0_otherwiseAsked_0 rfl (lv_at hl 1 rfl) ?_
  refine xm_X (xx_runS (As := [.int x]) (rest := []) S hK hC.1.2.1 (cx_mustBeHours l htr D t Z x) (va_cwS 1 hts (lw_S q964 q965 q95 q966) rfl rfl rfl (by decide +kernel) ⟨Nat.le_of_ble_eq_true rfl, Nat.le_of_ble_eq_true rfl⟩) rfl hl.1 rfl (Nat.le_of_ble_eq_true rfl) dX0_otherwiseAsked_1 ⟨Nat.le_of_ble_eq_true rfl, Nat.le_of_ble_eq_true rfl⟩) hS hnh hlk (Nat.le_of_ble_eq_true rfl) (Nat.le_of_ble_eq_true rfl) ⟨hC, hD⟩ (fun h => by unfold otN; rw [if_neg h]) (fun n1 locs hS => ?_)
  refine lv_iload_n hx hb dX0_otherwiseAsked_4 rfl (lv_at hl 2 rfl) ?_
  refine xm_X (xx_runS (As := [.int y]) (rest := []) S hK hC.1.2.1 (cx_mustBeBit l htr D t Z y) (va_cwS 1 hts (lw_S q968 q969 q95 q970) rfl rfl rfl (by decide +kernel) ⟨Nat.le_of_ble_eq_true rfl, Nat.le_of_ble_eq_true rfl⟩) rfl hl.1 rfl (Nat.le_of_ble_eq_true rfl) dX0_otherwiseAsked_5 ⟨Nat.le_of_ble_eq_true rfl, Nat.le_of_ble_eq_true rfl⟩) hS hnh hlk (Nat.le_of_ble_eq_true rfl) (Nat.le_of_ble_eq_true rfl) ⟨hC, hD⟩ (fun h => by unfold otN; rw [if_pos n1, if_neg (fun q => h (by rw [if_pos q])), if_neg (fun q => h (by rw [if_pos q]))]) (fun n5 locs hS => ?_)
  refine W.join (fun vJ => F0 m 27 ls (.int vJ :: [])) (fun vJ => vJ = bI (decide (B 0 3 = B 2 3))) (fun vJ hJ => ?_) (fun J => ?_)
  · subst hJ
    refine lv_bipush (v := (-3)) hx hb dX0_otherwiseAsked_27 (by decide) ?_
    refine xm_X (xx_runS (As := [.int (bI (decide (B 0 3 = B 2 3))), .int (-3)]) (rest := []) S hK hC.1.2.1 (cx_must l htr D t Z (decide (B 0 3 = B 2 3)) (-3) (by decide)) (va_cwS 2 hts (lw_S q339 q340 q95 q341) rfl rfl rfl (by decide +kernel) ⟨Nat.le_of_ble_eq_true rfl, Nat.le_of_ble_eq_true rfl⟩) rfl hl.1 rfl (Nat.le_of_ble_eq_true rfl) dX0_otherwiseAsked_29 ⟨Nat.le_of_ble_eq_true rfl, Nat.le_of_ble_eq_true rfl⟩) hS hnh hlk (Nat.le_of_ble_eq_true rfl) (Nat.le_of_ble_eq_true rfl) ⟨hC, hD⟩ (fun h => by have hc : ¬ B 0 3 = B 2 3 := (fun q => h (by rw [decide_eq_true q]; rfl)); rw [decide_eq_false hc]; unfold otN; rw [if_pos n1, if_pos (if0 (by decide) n5), if_neg hc]; rfl) (fun n29 locs hS => ?_)
    have hy6 := wi_ix n1
    refine lv_aload_n hx hb dX0_otherwiseAsked_32 rfl (lv_at hl 0 rfl) ?_
    refine lv_iload_n hx hb dX0_otherwiseAsked_33 rfl (lv_at hl 1 rfl) ?_
    refine lv_iload_n hx hb dX0_otherwiseAsked_34 rfl (lv_at hl 2 rfl) ?_
    refine z_stk (st' := [.int y, .int (nI (ix x)), .ref cb]) (by rw [← show x = nI (ix x) from hy6.1]) ?_
    refine va_calli (gx_runV (As := [.int (nI (ix x)), .int y]) (rest := []) S hK ⟨hC, hD⟩ (hC.recv hKK) (cx_otherwiseTold l htr D t Z cb B (ix x) y hOk hy6.2) (cwV 2 hts (lw_V q1075 q1077 qs53 q95 q1078) rfl rfl rfl (by decide +kernel) ⟨Nat.le_of_ble_eq_true rfl, Nat.le_of_ble_eq_true rfl⟩) rfl hl.1 rfl (Nat.le_of_ble_eq_true rfl) dX0_otherwiseAsked_35 ⟨Nat.le_of_ble_eq_true rfl, Nat.le_of_ble_eq_true rfl⟩) hS (fun q _ h => Or.inl h) (fun q h => Or.inl h) (fun r35 u35 tt H locs ht _ h35 hW _ _ hS => ?_)
    rw [ht] at hW
    obtain ⟨e1, e2⟩ := h35
    have hW : CW D t Z cb u35 H := hW
    rw [e2] at hW
    obtain ⟨hC, hD⟩ := hW
    refine z_top (y := (if y = 0 then nI (otL (otF (B 13) (B 2) (ix x)) (10 * nH (B 2))).1 else (otL (otF (B 13) (B 2) (ix x)) (10 * nH (B 2))).2)) e1 ?_
    exact x_iretX hx hb hr (by unfold otN; rw [if_pos n1, if_pos (if0 (by decide) n5), if_pos (of_decide_eq_true (if0 (by decide) n29))]) rfl ⟨hC, hD⟩ hS (Nat.le_of_ble_eq_true rfl) (Nat.le_of_ble_eq_true rfl) dX0_otherwiseAsked_38 hlk
  · refine lv_aload_n hx hb dX0_otherwiseAsked_8 rfl (lv_at hl 0 rfl) ?_
    refine c_xget (v := .int (B 0 3)) hx hb hts hown hKK hC 6 (by decide) (Or.inl q289) rfl rfl dX0_otherwiseAsked_9 ?_
    refine lv_aload_n hx hb dX0_otherwiseAsked_12 rfl (lv_at hl 0 rfl) ?_
    refine c_xget (v := .ref (cb + 8)) hx hb hts hown hKK hC 1 (by decide) (Or.inl q284) rfl rfl dX0_otherwiseAsked_13 ?_
    refine c_oget (v := .int ((B 2) 3)) hx hb hts hown hKK hC 6 (by decide) (Or.inr ⟨_, q211⟩) rfl (fun _ => rfl) dX0_otherwiseAsked_16 ?_
    refine lv_icmp_ne (tgt := 26) hx hb dX0_otherwiseAsked_19 (by decide) (fun c19 => ?_) (fun c19 => ?_)
    · refine lv_iconst (v := 0) hx hb dX0_otherwiseAsked_26 (by decide) ?_
      exact J _ (by rw [decide_eq_false c19]; rfl)
    · refine lv_iconst (v := 1) hx hb dX0_otherwiseAsked_22 (by decide) ?_
      refine lv_goto (tgt := 27) hx hb dX0_otherwiseAsked_23 (by decide) ?_
      exact J _ (by rw [decide_eq_true c19]; rfl)
