/-! THE CLASS's METHODS (6): songOf, songs that are written; printed by wip/D-96246w/gen/gen_x6.py -/
set_option maxRecDepth 100000
set_option maxHeartbeats 1600000 in
theorem cx_songOf (l : Launch) (D : va_G) (t : Nat → ClassId) (n0 k : Nat) (hk : k < 6) (v0 v1 : Int32) : Met l yX0_songOf (ws_ yX0_songOf cX0_songOf 3 (some (.object "SongThatStays$Song"))) ({ frames := 5, cells := 1, slots := 2, locals := 108 }) (zPc [.int (nI k), .int v0, .int v1] (fun H => H.size = n0) (KK D t)) (va_Qr (fun _ => True) (fun (_ : Unit) a U => a = n0 ∧ OB D n0 (9 + k) [.int v0, .int v1] U.heap) (fun _ => False)) 1 2 (fun _ => False) := by
  refine zOf (cc := cX0_songOf) (maxL := 3) (ret := some (.object "SongThatStays$Song")) (by decide) (Nat.le_of_ble_eq_true rfl) (fun pg ev s m below meth cd ls F hP hKK hl hnm => ?_)
  obtain ⟨hx, hb, hml, hown, hts, hr, hlk⟩ := F
  have S : CallFix pg m cd cX0_songOf 3 s _ lw_all RX0 := ⟨hx, hb, hml, hown, hts⟩
  have hl : lv_has ls 3 [(0, .int (nI k)), (1, .int v0), (2, .int v1)] := hl
  refine lv_iload_n hx hb dX0_songOf_0 rfl (lv_at hl 0 rfl) ?_
  rcases six hk with rfl | rfl | rfl | rfl | rfl | rfl
  · refine lv_tableIn (off := 35) (tgt := 36) hx hb dX0_songOf_1 (by decide +kernel) (by decide +kernel) rfl (by decide) ?_
    refine k_new (C := RX21) (T := TX21) (N := 2) (ci := 9) (fs := [(.int 0), (.int 0)]) hx hb hts in_X21 tyX21 tyX21_ok hown q670 q671 q121 hKK rfl (fun j hj => by have : j = 0 ∨ j = 1 := by { omega }; rcases this with rfl | rfl <;> rfl) (Nat.le_of_ble_eq_true rfl) (Nat.le_of_ble_eq_true rfl) dX0_songOf_36 (fun H hO _ z1 o1 => ?_)
    have hS : va_S (fA (fun _ => False) s) s.heap H [] := va_S.rf.new z1 o1
    refine lv_dup hx hb dX0_songOf_39 rfl ?_
    refine lv_iload_n hx hb dX0_songOf_40 rfl (lv_at hl 1 rfl) ?_
    refine lv_iload_n hx hb dX0_songOf_41 rfl (lv_at hl 2 rfl) ?_
    refine va_callv (va_runI (As := [.int v0, .int v1]) (rest := [.ref s.heap.size]) S (ck_X21_9 l D t s.heap.size v0 v1) (cwI 2 hts (lw_meth q674) rfl rfl rfl (hts _ q121) (hts _ q672) (hts _ q673) rfl ⟨by decide, by decide, by decide +kernel⟩ ⟨Nat.le_of_ble_eq_true rfl, Nat.le_of_ble_eq_true rfl⟩) ⟨zBlind, fun U hU hW => ⟨rfl, by rw [hU]; exact hO, hKK.warm hW⟩⟩ rfl rfl hl.1 rfl (lv_room (Nat.le_of_ble_eq_true rfl)) dX0_songOf_42 ⟨Nat.le_of_ble_eq_true rfl, Nat.le_of_ble_eq_true rfl⟩) hS (fun q _ h => Or.inr (by rw [h]; exact Nat.le_refl _)) (fun q h => Or.inr (by rw [h]; exact Nat.le_refl _)) (fun u tt H locs ht _ _ hO _ _ hS => ?_)
    rw [ht] at hO
    exact W.fit (Nat.le_of_ble_eq_true rfl) (Nat.le_of_ble_eq_true rfl) (W.aret (v := .ref s.heap.size) hx hb hr (Or.inl ⟨_, rfl⟩) (Or.inr ⟨_, rfl⟩) (fun tt ht _ => ⟨⟨(), s.heap.size, rfl, trivial, hP, by rw [ht, ← hP]; exact hO⟩, fA.F hS ht⟩) (fA.trim hS) dX0_songOf_45 hlk)
  · refine lv_tableIn (off := 45) (tgt := 46) hx hb dX0_songOf_1 (by decide +kernel) (by decide +kernel) rfl (by decide) ?_
    refine k_new (C := RX22) (T := TX22) (N := 2) (ci := 10) (fs := [(.int 0), (.int 0)]) hx hb hts in_X22 tyX22 tyX22_ok hown q693 q694 q122 hKK rfl (fun j hj => by have : j = 0 ∨ j = 1 := by { omega }; rcases this with rfl | rfl <;> rfl) (Nat.le_of_ble_eq_true rfl) (Nat.le_of_ble_eq_true rfl) dX0_songOf_46 (fun H hO _ z1 o1 => ?_)
    have hS : va_S (fA (fun _ => False) s) s.heap H [] := va_S.rf.new z1 o1
    refine lv_dup hx hb dX0_songOf_49 rfl ?_
    refine lv_iload_n hx hb dX0_songOf_50 rfl (lv_at hl 1 rfl) ?_
    refine lv_iload_n hx hb dX0_songOf_51 rfl (lv_at hl 2 rfl) ?_
    refine va_callv (va_runI (As := [.int v0, .int v1]) (rest := [.ref s.heap.size]) S (ck_X22_10 l D t s.heap.size v0 v1) (cwI 2 hts (lw_meth q697) rfl rfl rfl (hts _ q122) (hts _ q695) (hts _ q696) rfl ⟨by decide, by decide, by decide +kernel⟩ ⟨Nat.le_of_ble_eq_true rfl, Nat.le_of_ble_eq_true rfl⟩) ⟨zBlind, fun U hU hW => ⟨rfl, by rw [hU]; exact hO, hKK.warm hW⟩⟩ rfl rfl hl.1 rfl (lv_room (Nat.le_of_ble_eq_true rfl)) dX0_songOf_52 ⟨Nat.le_of_ble_eq_true rfl, Nat.le_of_ble_eq_true rfl⟩) hS (fun q _ h => Or.inr (by rw [h]; exact Nat.le_refl _)) (fun q h => Or.inr (by rw [h]; exact Nat.le_refl _)) (fun u tt H locs ht _ _ hO _ _ hS => ?_)
    rw [ht] at hO
    exact W.fit (Nat.le_of_ble_eq_true rfl) (Nat.le_of_ble_eq_true rfl) (W.aret (v := .ref s.heap.size) hx hb hr (Or.inl ⟨_, rfl⟩) (Or.inr ⟨_, rfl⟩) (fun tt ht _ => ⟨⟨(), s.heap.size, rfl, trivial, hP, by rw [ht, ← hP]; exact hO⟩, fA.F hS ht⟩) (fA.trim hS) dX0_songOf_55 hlk)
  · refine lv_tableIn (off := 55) (tgt := 56) hx hb dX0_songOf_1 (by decide +kernel) (by decide +kernel) rfl (by decide) ?_
    refine k_new (C := RX23) (T := TX23) (N := 2) (ci := 11) (fs := [(.int 0), (.int 0)]) hx hb hts in_X23 tyX23 tyX23_ok hown q702 q703 q123 hKK rfl (fun j hj => by have : j = 0 ∨ j = 1 := by { omega }; rcases this with rfl | rfl <;> rfl) (Nat.le_of_ble_eq_true rfl) (Nat.le_of_ble_eq_true rfl) dX0_songOf_56 (fun H hO _ z1 o1 => ?_)
    have hS : va_S (fA (fun _ => False) s) s.heap H [] := va_S.rf.new z1 o1
    refine lv_dup hx hb dX0_songOf_59 rfl ?_
    refine lv_iload_n hx hb dX0_songOf_60 rfl (lv_at hl 1 rfl) ?_
    refine lv_iload_n hx hb dX0_songOf_61 rfl (lv_at hl 2 rfl) ?_
    refine va_callv (va_runI (As := [.int v0, .int v1]) (rest := [.ref s.heap.size]) S (ck_X23_11 l D t s.heap.size v0 v1) (cwI 2 hts (lw_meth q706) rfl rfl rfl (hts _ q123) (hts _ q704) (hts _ q705) rfl ⟨by decide, by decide, by decide +kernel⟩ ⟨Nat.le_of_ble_eq_true rfl, Nat.le_of_ble_eq_true rfl⟩) ⟨zBlind, fun U hU hW => ⟨rfl, by rw [hU]; exact hO, hKK.warm hW⟩⟩ rfl rfl hl.1 rfl (lv_room (Nat.le_of_ble_eq_true rfl)) dX0_songOf_62 ⟨Nat.le_of_ble_eq_true rfl, Nat.le_of_ble_eq_true rfl⟩) hS (fun q _ h => Or.inr (by rw [h]; exact Nat.le_refl _)) (fun q h => Or.inr (by rw [h]; exact Nat.le_refl _)) (fun u tt H locs ht _ _ hO _ _ hS => ?_)
    rw [ht] at hO
    exact W.fit (Nat.le_of_ble_eq_true rfl) (Nat.le_of_ble_eq_true rfl) (W.aret (v := .ref s.heap.size) hx hb hr (Or.inl ⟨_, rfl⟩) (Or.inr ⟨_, rfl⟩) (fun tt ht _ => ⟨⟨(), s.heap.size, rfl, trivial, hP, by rw [ht, ← hP]; exact hO⟩, fA.F hS ht⟩) (fA.trim hS) dX0_songOf_65 hlk)
  · refine lv_tableIn (off := 65) (tgt := 66) hx hb dX0_songOf_1 (by decide +kernel) (by decide +kernel) rfl (by decide) ?_
    refine k_new (C := RX24) (T := TX24) (N := 2) (ci := 12) (fs := [(.int 0), (.int 0)]) hx hb hts in_X24 tyX24 tyX24_ok hown q710 q711 q124 hKK rfl (fun j hj => by have : j = 0 ∨ j = 1 := by { omega }; rcases this with rfl | rfl <;> rfl) (Nat.le_of_ble_eq_true rfl) (Nat.le_of_ble_eq_true rfl) dX0_songOf_66 (fun H hO _ z1 o1 => ?_)
    have hS : va_S (fA (fun _ => False) s) s.heap H [] := va_S.rf.new z1 o1
    refine lv_dup hx hb dX0_songOf_69 rfl ?_
    refine lv_iload_n hx hb dX0_songOf_70 rfl (lv_at hl 1 rfl) ?_
    refine lv_iload_n hx hb dX0_songOf_71 rfl (lv_at hl 2 rfl) ?_
    refine va_callv (va_runI (As := [.int v0, .int v1]) (rest := [.ref s.heap.size]) S (ck_X24_12 l D t s.heap.size v0 v1) (cwI 2 hts (lw_meth q714) rfl rfl rfl (hts _ q124) (hts _ q712) (hts _ q713) rfl ⟨by decide, by decide, by decide +kernel⟩ ⟨Nat.le_of_ble_eq_true rfl, Nat.le_of_ble_eq_true rfl⟩) ⟨zBlind, fun U hU hW => ⟨rfl, by rw [hU]; exact hO, hKK.warm hW⟩⟩ rfl rfl hl.1 rfl (lv_room (Nat.le_of_ble_eq_true rfl)) dX0_songOf_72 ⟨Nat.le_of_ble_eq_true rfl, Nat.le_of_ble_eq_true rfl⟩) hS (fun q _ h => Or.inr (by rw [h]; exact Nat.le_refl _)) (fun q h => Or.inr (by rw [h]; exact Nat.le_refl _)) (fun u tt H locs ht _ _ hO _ _ hS => ?_)
    rw [ht] at hO
    exact W.fit (Nat.le_of_ble_eq_true rfl) (Nat.le_of_ble_eq_true rfl) (W.aret (v := .ref s.heap.size) hx hb hr (Or.inl ⟨_, rfl⟩) (Or.inr ⟨_, rfl⟩) (fun tt ht _ => ⟨⟨(), s.heap.size, rfl, trivial, hP, by rw [ht, ← hP]; exact hO⟩, fA.F hS ht⟩) (fA.trim hS) dX0_songOf_75 hlk)
  · refine lv_tableIn (off := 75) (tgt := 76) hx hb dX0_songOf_1 (by decide +kernel) (by decide +kernel) rfl (by decide) ?_
    refine k_new (C := RX25) (T := TX25) (N := 2) (ci := 13) (fs := [(.int 0), (.int 0)]) hx hb hts in_X25 tyX25 tyX25_ok hown q719 q720 q125 hKK rfl (fun j hj => by have : j = 0 ∨ j = 1 := by { omega }; rcases this with rfl | rfl <;> rfl) (Nat.le_of_ble_eq_true rfl) (Nat.le_of_ble_eq_true rfl) dX0_songOf_76 (fun H hO _ z1 o1 => ?_)
    have hS : va_S (fA (fun _ => False) s) s.heap H [] := va_S.rf.new z1 o1
    refine lv_dup hx hb dX0_songOf_79 rfl ?_
    refine lv_iload_n hx hb dX0_songOf_80 rfl (lv_at hl 1 rfl) ?_
    refine lv_iload_n hx hb dX0_songOf_81 rfl (lv_at hl 2 rfl) ?_
    refine va_callv (va_runI (As := [.int v0, .int v1]) (rest := [.ref s.heap.size]) S (ck_X25_13 l D t s.heap.size v0 v1) (cwI 2 hts (lw_meth q723) rfl rfl rfl (hts _ q125) (hts _ q721) (hts _ q722) rfl ⟨by decide, by decide, by decide +kernel⟩ ⟨Nat.le_of_ble_eq_true rfl, Nat.le_of_ble_eq_true rfl⟩) ⟨zBlind, fun U hU hW => ⟨rfl, by rw [hU]; exact hO, hKK.warm hW⟩⟩ rfl rfl hl.1 rfl (lv_room (Nat.le_of_ble_eq_true rfl)) dX0_songOf_82 ⟨Nat.le_of_ble_eq_true rfl, Nat.le_of_ble_eq_true rfl⟩) hS (fun q _ h => Or.inr (by rw [h]; exact Nat.le_refl _)) (fun q h => Or.inr (by rw [h]; exact Nat.le_refl _)) (fun u tt H locs ht _ _ hO _ _ hS => ?_)
    rw [ht] at hO
    exact W.fit (Nat.le_of_ble_eq_true rfl) (Nat.le_of_ble_eq_true rfl) (W.aret (v := .ref s.heap.size) hx hb hr (Or.inl ⟨_, rfl⟩) (Or.inr ⟨_, rfl⟩) (fun tt ht _ => ⟨⟨(), s.heap.size, rfl, trivial, hP, by rw [ht, ← hP]; exact hO⟩, fA.F hS ht⟩) (fA.trim hS) dX0_songOf_85 hlk)
  · refine lv_tableOut (tgt := 86) hx hb dX0_songOf_1 (Or.inr (by decide +kernel)) (by decide) ?_
    refine k_new (C := RX26) (T := TX26) (N := 2) (ci := 14) (fs := [(.int 0), (.int 0)]) hx hb hts in_X26 tyX26 tyX26_ok hown q727 q728 q126 hKK rfl (fun j hj => by have : j = 0 ∨ j = 1 := by { omega }; rcases this with rfl | rfl <;> rfl) (Nat.le_of_ble_eq_true rfl) (Nat.le_of_ble_eq_true rfl) dX0_songOf_86 (fun H hO _ z1 o1 => ?_)
    have hS : va_S (fA (fun _ => False) s) s.heap H [] := va_S.rf.new z1 o1
    refine lv_dup hx hb dX0_songOf_89 rfl ?_
    refine lv_iload_n hx hb dX0_songOf_90 rfl (lv_at hl 1 rfl) ?_
    refine lv_iload_n hx hb dX0_songOf_91 rfl (lv_at hl 2 rfl) ?_
    refine va_callv (va_runI (As := [.int v0, .int v1]) (rest := [.ref s.heap.size]) S (ck_X26_14 l D t s.heap.size v0 v1) (cwI 2 hts (lw_meth q731) rfl rfl rfl (hts _ q126) (hts _ q729) (hts _ q730) rfl ⟨by decide, by decide, by decide +kernel⟩ ⟨Nat.le_of_ble_eq_true rfl, Nat.le_of_ble_eq_true rfl⟩) ⟨zBlind, fun U hU hW => ⟨rfl, by rw [hU]; exact hO, hKK.warm hW⟩⟩ rfl rfl hl.1 rfl (lv_room (Nat.le_of_ble_eq_true rfl)) dX0_songOf_92 ⟨Nat.le_of_ble_eq_true rfl, Nat.le_of_ble_eq_true rfl⟩) hS (fun q _ h => Or.inr (by rw [h]; exact Nat.le_refl _)) (fun q h => Or.inr (by rw [h]; exact Nat.le_refl _)) (fun u tt H locs ht _ _ hO _ _ hS => ?_)
    rw [ht] at hO
    exact W.fit (Nat.le_of_ble_eq_true rfl) (Nat.le_of_ble_eq_true rfl) (W.aret (v := .ref s.heap.size) hx hb hr (Or.inl ⟨_, rfl⟩) (Or.inr ⟨_, rfl⟩) (fun tt ht _ => ⟨⟨(), s.heap.size, rfl, trivial, hP, by rw [ht, ← hP]; exact hO⟩, fA.F hS ht⟩) (fA.trim hS) dX0_songOf_95 hlk)
theorem Song_cast {D : va_G} {t : Nat → ClassId} {s : State} {k : Nat} (hKK : KK D t s) (hk : k < 6) : ∃ r : vw_C, vwCl[9 + k]? = some r ∧ va_Nw (.castable r.1 "SongThatStays$Song") s := by
  rcases six hk with rfl | rfl | rfl | rfl | rfl | rfl
  · exact ⟨_, rfl, hKK.2.1 _ q1598 rfl⟩
  · exact ⟨_, rfl, hKK.2.1 _ q1599 rfl⟩
  · exact ⟨_, rfl, hKK.2.1 _ q1600 rfl⟩
  · exact ⟨_, rfl, hKK.2.1 _ q1601 rfl⟩
  · exact ⟨_, rfl, hKK.2.1 _ q1602 rfl⟩
  · exact ⟨_, rfl, hKK.2.1 _ q1603 rfl⟩
theorem mx_ext {f g : Nat → Int32} {i : Int32 × Int32} : ∀ n, (∀ k, k < n → f k = g k) → mxL f i n = mxL g i n
  | 0, _ => rfl
  | n + 1, h => by rw [mx_step, mx_step, mx_ext n (fun k hk => h k (by omega)), h n (by omega)]
theorem wt_eq {r : RT} {len : Int32} {n : Nat} {f : Nat → Int32} (hf : ∀ k, k < 60 → f k = haS (hrS (wgR r len k) n) (nI (nS r))) : wtP r len n = mxL f (-9, -9) 60 := (mx_ext 60 hf).symm
set_option maxHeartbeats 1600000 in
theorem cx_writeTold (l : Launch) (htr : l.stackTraces = false) (D : va_G) (t : Nat → ClassId) (Z : Nat × Cell) (cb : Nat) (B : BT) (len : Int32) (n : Nat) (w : Int32) (hOk : Ok (B 2) 999) (hn : n ≤ 60) (h5 : nS (B 2) < 5) (hH : 0 < nH (B 2)) (hl1 : 1 ≤ len) (hl9 : len ≤ 9) : Met l yX0_writeTold (ws_ yX0_writeTold cX0_writeTold 11 (some .int)) ({ frames := 7, cells := 60, slots := 120, locals := 154 }) (zPc [.ref cb, .int len, .int (nI n), .int w] (CW D t Z cb B) (KX D t Z)) (va_Qi (fun r u => r = (if w = 0 then (wtP (B 2) len n).1 else (wtP (B 2) len n).2) ∧ u = B) (fun B' U => CW D t Z cb B' U.heap) (cA cb)) 60 120 (cA cb) := by
  refine zOf (cc := cX0_writeTold) (maxL := 11) (ret := (some .int)) (by decide) (Nat.le_of_ble_eq_true rfl) (fun pg ev s m below meth cd ls F hW hK hl hnm => ?_)
  obtain ⟨hx, hb, hml, hown, hts, hr, hlk⟩ := F
  have S : CallFix pg m cd cX0_writeTold 11 s _ lw_all RX0 := ⟨hx, hb, hml, hown, hts⟩
  have hl : lv_has ls 11 [(0, .ref cb), (1, .int len), (2, .int (nI n)), (3, .int w)] := hl
  have hKK := hK.1
  obtain ⟨hC, hD⟩ := hW
  have hS : va_S (fA (cA cb) s) s.heap s.heap [] := va_S.rf
  have hd0 := hOk.hr0
  have hd8 := hOk.d8
  have hh3 := hOk.hr3
  have hh6 := hOk.h6
  have hs2 := hOk.hr2
  have hs5 := hOk.s5
  have hX := hOk.X
  obtain ⟨f, hf, hf0⟩ : ∃ f : Nat → Int32, (∀ k, k < 60 → f k = haS (hrS (wgR (B 2) len k) n) (nI (nS (B 2)))) ∧ ∀ k, 0 ≤ f k := ⟨fun k => if k < 60 then haS (hrS (wgR (B 2) len k) n) (nI (nS (B 2))) else 0, fun k hk => if_pos hk, fun k => by { by_cases hk : k < 60; (show 0 ≤ (if k < 60 then _ else _)); rw [if_pos hk]; exact haS_nn (by rw [nH_hrS]; exact (Ok_wgR hOk h5 hH hk hl1 hl9).h6); (show 0 ≤ (if k < 60 then _ else _)); rw [if_neg hk]; decide }⟩
  refine lv_bipush (v := (-9)) hx hb dX0_writeTold_0 (by decide) ?_
  refine lv_istore (lv' := [(4, .int (-9)), (0, .ref cb), (1, .int len), (2, .int (nI n)), (3, .int w)]) hx hb dX0_writeTold_2 hl (by decide) rfl (fun ls hl => ?_)
  refine lv_iconst (v := (-1)) hx hb dX0_writeTold_4 (by decide) ?_
  refine lv_istore (lv' := [(5, .int (-1)), (4, .int (-9)), (0, .ref cb), (1, .int len), (2, .int (nI n)), (3, .int w)]) hx hb dX0_writeTold_5 hl (by decide) rfl (fun ls hl => ?_)
  have hl : lv_has ls 11 [(5, .int (moL (mxL f (-9, -9) (10 * 0)).2 (10 * 0))), (4, .int ((mxL f (-9, -9) (10 * 0)).1)), (0, .ref cb), (1, .int len), (2, .int (nI n)), (3, .int w)] := hl
  refine lv_iconst (v := 0) hx hb dX0_writeTold_7 (by decide) ?_
  refine lv_istore (lv' := [(6, .int 0), (5, .int (moL (mxL f (-9, -9) (10 * 0)).2 (10 * 0))), (4, .int ((mxL f (-9, -9) (10 * 0)).1)), (0, .ref cb), (1, .int len), (2, .int (nI n)), (3, .int w)]) hx hb dX0_writeTold_8 hl (by decide) rfl (fun ls hl => ?_)
  refine W.bk (cells' := 10 * 0) (slots' := 2 * (10 * 0)) (by omega) (by omega) ?_
  refine W.loopC (σ := Nat) (fun a => 10 * a) (fun a => 2 * (10 * a)) (fun a H locs ls => a ≤ 6 ∧ CM D t Z cb B H ∧ ND D t cb H ∧ va_S (fA (cA cb) s) s.heap H locs ∧ lv_has ls 11 [(6, .int (nI a)), (5, .int (moL (mxL f (-9, -9) (10 * a)).2 (10 * a))), (4, .int ((mxL f (-9, -9) (10 * a)).1)), (0, .ref cb), (1, .int len), (2, .int (nI n)), (3, .int w)]) (fun a => 6 - a) (fun a H locs ls hIa iha => ?_) 0 ⟨by omega, hC, hD, hS, lv_sub hl [0, 1, 2, 3, 4, 5, 6] rfl⟩
  obtain ⟨ha, hC, hD, hS, hl⟩ := hIa
  refine lv_iload hx hb dX0_writeTold_10 (lv_at hl 0 rfl) ?_
  refine lv_aload_n hx hb dX0_writeTold_12 rfl (lv_at hl 3 rfl) ?_
  refine c_xget (v := .ref (cb + 1)) hx hb hts hown hKK hC 0 (by decide) (Or.inl q282) rfl rfl dX0_writeTold_13 ?_
  refine va_alen hx hb hKK.1 hC.2.1 1 4 rfl rfl (v := 6) rfl dX0_writeTold_16 ?_
  refine lv_icmp_ge (tgt := 134) hx hb dX0_writeTold_17 (by decide) (fun c17 => ?_) (fun c17 => ?_)
  · obtain rfl : a = 6 := Nat.le_antisymm ha (lp_end (n := 6) rfl (by omega) (by omega) c17)
    refine W.join (fun vJ => F0 m 145 ls (.int vJ :: [])) (fun vJ => vJ = (if w = 0 then (mxL f (-9, -9) 60).1 else (mxL f (-9, -9) 60).2)) (fun vJ hJ => ?_) (fun J3 => ?_)
    · subst hJ
      exact x_iretC hx hb hr ⟨by rw [wt_eq hf], rfl⟩ ⟨hC, hD⟩ hS (by first | exact Nat.le_of_ble_eq_true rfl | (show _ ≤ 60; omega) | (show _ ≤ 120; omega)) (by first | exact Nat.le_of_ble_eq_true rfl | (show _ ≤ 60; omega) | (show _ ≤ 120; omega)) dX0_writeTold_145 hlk
    · refine lv_iload_n hx hb dX0_writeTold_134 rfl (lv_at hl 6 rfl) ?_
      refine lv_if_ne (tgt := 143) hx hb dX0_writeTold_135 (by decide) (fun c135 => ?_) (fun c135 => ?_)
      · refine lv_iload hx hb dX0_writeTold_143 (lv_at hl 1 rfl) ?_
        exact J3 _ (by rw [if_neg c135]; rfl)
      · refine lv_iload hx hb dX0_writeTold_138 (lv_at hl 2 rfl) ?_
        refine lv_goto (tgt := 145) hx hb dX0_writeTold_140 (by decide) ?_
        exact J3 _ (by rw [if_pos c135])
  · have ha2 : a < 6 := lp_go (n := 6) rfl (by omega) (by omega) c17
    refine lv_iconst (v := 0) hx hb dX0_writeTold_20 (by decide) ?_
    refine lv_istore (lv' := [(7, .int 0), (6, .int (nI a)), (5, .int (moL (mxL f (-9, -9) (10 * a)).2 (10 * a))), (4, .int ((mxL f (-9, -9) (10 * a)).1)), (0, .ref cb), (1, .int len), (2, .int (nI n)), (3, .int w)]) hx hb dX0_writeTold_21 hl (by decide) rfl (fun ls hl => ?_)
    have hl : lv_has ls 11 [(7, .int 0), (6, .int (nI a)), (5, .int (moL (mxL f (-9, -9) (10 * a + 0)).2 (10 * a + 0))), (4, .int ((mxL f (-9, -9) (10 * a + 0)).1)), (0, .ref cb), (1, .int len), (2, .int (nI n)), (3, .int w)] := hl
    refine W.bk (cells' := 10 * a + 0) (slots' := 2 * (10 * a + 0)) (by omega) (by omega) ?_
    refine W.loopC (σ := Nat) (fun o => 10 * a + o) (fun o => 2 * (10 * a + o)) (fun o H locs ls => o ≤ 10 ∧ CM D t Z cb B H ∧ ND D t cb H ∧ va_S (fA (cA cb) s) s.heap H locs ∧ lv_has ls 11 [(7, .int (nI o)), (6, .int (nI a)), (5, .int (moL (mxL f (-9, -9) (10 * a + o)).2 (10 * a + o))), (4, .int ((mxL f (-9, -9) (10 * a + o)).1)), (0, .ref cb), (1, .int len), (2, .int (nI n)), (3, .int w)]) (fun o => 10 - o) (fun o H locs ls hIo iho => ?_) 0 ⟨by omega, hC, hD, hS, lv_sub hl [0, 1, 2, 3, 4, 5, 6, 7] rfl⟩
    obtain ⟨ho, hC, hD, hS, hl⟩ := hIo
    refine lv_iload hx hb dX0_writeTold_23 (lv_at hl 0 rfl) ?_
    refine lv_bipush (v := 9) hx hb dX0_writeTold_25 (by decide) ?_
    refine lv_icmp_gt (tgt := 128) hx hb dX0_writeTold_27 (by decide) (fun c27 => ?_) (fun c27 => ?_)
    · obtain rfl : o = 10 := Nat.le_antisymm ho (lp_gt (n := 9) rfl (by omega) (by omega) c27)
      have hl : lv_has ls 11 [(7, .int (nI 10)), (6, .int (nI a)), (5, .int (moL (mxL f (-9, -9) (10 * (a + 1))).2 (10 * (a + 1)))), (4, .int ((mxL f (-9, -9) (10 * (a + 1))).1)), (0, .ref cb), (1, .int len), (2, .int (nI n)), (3, .int w)] := hl
      refine lv_iinc (v := nI (a + 1)) (lv' := [(6, .int (nI (a + 1))), (7, .int (nI 10)), (5, .int (moL (mxL f (-9, -9) (10 * (a + 1))).2 (10 * (a + 1)))), (4, .int ((mxL f (-9, -9) (10 * (a + 1))).1)), (0, .ref cb), (1, .int len), (2, .int (nI n)), (3, .int w)]) hx hb dX0_writeTold_128 hl (k := 1) rfl (nI_1 a) (by decide) rfl (fun ls hl => ?_)
      refine lv_goto (tgt := 10) hx hb dX0_writeTold_131 (by decide) ?_
      refine W.bk (cells' := 10 * (a + 1)) (slots' := 2 * (10 * (a + 1))) (by omega) (by omega) ?_
      exact iha (a + 1) H locs ls (by omega) ⟨by omega, hC, hD, hS, lv_sub hl [0, 2, 3, 4, 5, 6, 7] rfl⟩
    · have ho2 : o ≤ 9 := lp_ng (n := 9) rfl (by omega) (by omega) c27
      have hwg := Ok_wgR (k := 10 * a + o) hOk h5 hH (by omega) hl1 hl9
      have hws := Ok_wsR (k := 10 * a + o) hOk h5 (by omega) hl1 hl9
      have hwe : asR (B 2) (nI a) (nI o) len = wsR (B 2) len (10 * a + o) := by unfold wsR; rw [show (10 * a + o) / 10 = a by omega, show (10 * a + o) % 10 = o by omega]; rfl
      refine lv_aload_n hx hb dX0_writeTold_30 rfl (lv_at hl 4 rfl) ?_
      refine va_callr (gx_runV (As := []) (rest := []) S hK ⟨hC, hD⟩ (hC.recv hKK) (cx_openMind l htr D t Z cb B ) (cwV 0 hts (lw_V q971 q973 qs31 q95 q974) rfl rfl rfl (by decide +kernel) ⟨Nat.le_of_ble_eq_true rfl, Nat.le_of_ble_eq_true rfl⟩) rfl hl.1 rfl (Nat.le_of_ble_eq_true rfl) dX0_writeTold_31 ⟨by first | exact Nat.le_of_ble_eq_true rfl | (show _ ≤ 60; omega), by first | exact Nat.le_of_ble_eq_true rfl | (show _ ≤ 120; omega)⟩) hS (fun q _ h => Or.inl h) (fun q h => Or.inl h) (fun u31 a31 tt H locs ht _ _ hW _ _ hS => ?_)
      obtain ⟨sgN, kdN, AN⟩ := u31
      obtain ⟨rfl, hC, hN⟩ := hW
      rw [ht] at hC hN
      have hN : OV D t (cb + 23) (cb + 2) (cb + 70) sgN kdN (B 2) AN H := hN
      refine lv_astore (lv' := [(8, .ref (cb + 23)), (7, .int (nI o)), (6, .int (nI a)), (5, .int (moL (mxL f (-9, -9) (10 * a + o)).2 (10 * a + o))), (4, .int ((mxL f (-9, -9) (10 * a + o)).1)), (0, .ref cb), (1, .int len), (2, .int (nI n)), (3, .int w)]) hx hb dX0_writeTold_34 hl (by decide) rfl (fun ls hl => ?_)
      refine lv_aload hx hb dX0_writeTold_36 (lv_at hl 0 rfl) ?_
      refine n_get (v := .int ((B 2) 2)) hx hb hts hown hKK hN.1 4 (by decide) (Or.inr ⟨_, q204⟩) rfl rfl dX0_writeTold_38 ?_
      refine z_top (y := nI (nS (B 2))) hs2 ?_
      refine lv_istore (lv' := [(9, .int (nI (nS (B 2)))), (8, .ref (cb + 23)), (7, .int (nI o)), (6, .int (nI a)), (5, .int (moL (mxL f (-9, -9) (10 * a + o)).2 (10 * a + o))), (4, .int ((mxL f (-9, -9) (10 * a + o)).1)), (0, .ref cb), (1, .int len), (2, .int (nI n)), (3, .int w)]) hx hb dX0_writeTold_41 hl (by decide) rfl (fun ls hl => ?_)
      refine lv_aload hx hb dX0_writeTold_43 (lv_at hl 1 rfl) ?_
      refine n_get (v := .ref (cb + 23 + 3)) hx hb hts hown hKK hN.1 5 (by decide) (Or.inr ⟨_, q207⟩) rfl rfl dX0_writeTold_45 ?_
      refine lv_iload hx hb dX0_writeTold_48 (lv_at hl 0 rfl) ?_
      refine lv_iload hx hb dX0_writeTold_50 (lv_at hl 3 rfl) ?_
      refine lv_iload hx hb dX0_writeTold_52 (lv_at hl 2 rfl) ?_
      refine lv_iload_n hx hb dX0_writeTold_54 rfl (lv_at hl 7 rfl) ?_
      obtain ⟨n55, hn55⟩ : ∃ n, H.size = n := ⟨_, rfl⟩
      have hbig := hC.big
      refine va_callr (g_runS (As := [.int (nI a), .int (nI o), .int len]) (rest := [.int (nI (nS (B 2))), .ref (cb + 23 + 3)]) S hKK (P := fun H => H.size = n55) hn55 (cx_songOf l D t n55 a (by omega) (nI o) len) (va_cwS 3 hts (lw_S q1069 q668 q95 q669) rfl rfl rfl (by decide +kernel) ⟨Nat.le_of_ble_eq_true rfl, Nat.le_of_ble_eq_true rfl⟩) rfl hl.1 rfl (Nat.le_of_ble_eq_true rfl) dX0_writeTold_55 ⟨by first | exact Nat.le_of_ble_eq_true rfl | (show _ ≤ 60; omega), by first | exact Nat.le_of_ble_eq_true rfl | (show _ ≤ 120; omega)⟩) hS (fun q _ h => h.elim) (fun q h => h.elim) (fun u a55 tt H locs ht _ _ hO _ hq hS => ?_)
      obtain ⟨ea, hO⟩ := hO
      subst ea
      rw [ht] at hO
      have hlo55 : cb + 70 ≤ a55 := by omega
      have hC := hC.kept (fun q h _ => hq q h (fun z => z))
      have hN := hN.kept (fun q h _ => hq q h (fun z => z))
      obtain ⟨rc, hrc, hca⟩ := Song_cast hKK (show a < 6 by omega)
      refine z_astq hx hb hKK.1 hN.1 (oL_D (fun q h => fM h)) hS 3 3 _ rfl rfl hca hO.at hrc (k := nS (B 2)) rfl (by omega) (by decide) dX0_writeTold_58 (fun H locs hP1 _ hq hS => ?_)
      have hO := hO.kept (hq _ (by omega))
      have hq : ∀ q, ¬ oA (cb + 23) q → H[q]? = _ := fun q h => hq q (fun z => h (by unfold oA; omega))
      have hN := hN.sset (by omega) (by omega) (Nat.le_refl _) (hP1 : OR D t (cb + 23) (oC (B 2) AN) (va_up sgN (nS (B 2)) (some a55)) kdN H) (fun q _ h => hq q h) hlo55 (show a < 6 by omega) hO
      have hC := hC.kept (fun q _ h => hq q h)
      obtain ⟨sgN, hsg⟩ : ∃ z, z = va_up sgN (nS (B 2)) (some a55) := ⟨_, rfl⟩
      rw [← hsg] at hN
      refine lv_aload hx hb dX0_writeTold_59 (lv_at hl 1 rfl) ?_
      refine lv_dup hx hb dX0_writeTold_61 rfl ?_
      refine n_get (v := .int ((B 2) 2)) hx hb hts hown hKK hN.1 4 (by decide) (Or.inr ⟨_, q204⟩) rfl rfl dX0_writeTold_62 ?_
      refine lv_iconst (v := 1) hx hb dX0_writeTold_65 (by decide) ?_
      refine lv_iadd hx hb dX0_writeTold_66 ?_
      refine z_stk (st' := [.int (nI (nS (B 2) + 1)), .ref (cb + 23)]) (by rw [← show B 2 2 + 1 = nI (nS (B 2) + 1) by rw [hs2]; exact nI_1 _]) ?_
      refine o_putr hx hb hts hown hKK hN.1 (fun q h => fM h) hS 4 2 (by decide) (Or.inr ⟨_, q204⟩) rfl rfl (by decide +kernel) rfl dX0_writeTold_67 (fun H locs hP1 _ hq hS => ?_)
      have hN := hN.sadd (by omega) (by omega) (show nS (B 2) < 5 by omega) (by rw [hsg]; exact va_up_self _ _ _) hlo55 (show a < 6 by omega) hO hP1 (fun q _ h => hq q h)
      have hC := hC.kept (fun q _ h => hq q h)
      rw [hwe] at hN
      refine lv_aload hx hb dX0_writeTold_70 (lv_at hl 1 rfl) ?_
      refine lv_iconst (v := 0) hx hb dX0_writeTold_72 (by decide) ?_
      refine lv_iload hx hb dX0_writeTold_73 (lv_at hl 0 rfl) ?_
      refine va_callv (g_runV (As := [.int 0, .int (nI (nS (B 2)))]) (rest := []) S hKK hN (hN.recv hKK) (co_X8_get l D t (cb + 23) (cb + 2) (cb + 70) sgN kdN (wsR (B 2) len (10 * a + o)) AN 0 (nI (nS (B 2))) hws.1.X (by omega) (by omega) (by decide) (Or.inr ⟨nI_pos' (by omega), by rw [hws.1.hr2, hws.2.1]; exact nI_lt (by omega) (by omega)⟩)) (cwV 2 hts (lw_V q884 q632 q633 q103 q634) rfl rfl rfl (by decide +kernel) ⟨Nat.le_of_ble_eq_true rfl, Nat.le_of_ble_eq_true rfl⟩) rfl hl.1 rfl (Nat.le_of_ble_eq_true rfl) dX0_writeTold_75 ⟨by first | exact Nat.le_of_ble_eq_true rfl | (show _ ≤ 60; omega), by first | exact Nat.le_of_ble_eq_true rfl | (show _ ≤ 120; omega)⟩) hS (fun q _ h => fM h) (fun q h => fM h) (fun u75 tt H locs ht _ h75 hN _ hq hS => ?_)
      obtain ⟨R75, A75⟩ := u75
      rw [ht] at hN
      have hN : OV D t (cb + 23) (cb + 2) (cb + 70) sgN kdN R75 A75 H := hN
      have h75 : (R75, A75) = (geS (wsR (B 2) len (10 * a + o)) 0 (nI (nS (B 2))), AN) := h75
      obtain ⟨e1, e2⟩ := Prod.mk.inj h75
      rw [e1, e2] at hN
      have hC := hC.kept hq
      have hN : OV D t (cb + 23) (cb + 2) (cb + 70) sgN kdN (wgR (B 2) len (10 * a + o)) AN H := hN
      refine lv_aload hx hb dX0_writeTold_78 (lv_at hl 1 rfl) ?_
      refine lv_iload_n hx hb dX0_writeTold_80 rfl (lv_at hl 8 rfl) ?_
      refine va_callr (g_runV (As := [.int (nI n)]) (rest := []) S hKK hN (hN.recv hKK) (co_X8_hoursOn l D t (cb + 23) (cb + 2) (cb + 70) sgN kdN (wgR (B 2) len (10 * a + o)) AN n 999 hwg (by omega) (by omega) (by omega)) (cwV 1 hts (lw_V q975 q976 q977 q103 q978) rfl rfl rfl (by decide +kernel) ⟨Nat.le_of_ble_eq_true rfl, Nat.le_of_ble_eq_true rfl⟩) rfl hl.1 rfl (Nat.le_of_ble_eq_true rfl) dX0_writeTold_81 ⟨by first | exact Nat.le_of_ble_eq_true rfl | (show _ ≤ 60; omega), by first | exact Nat.le_of_ble_eq_true rfl | (show _ ≤ 120; omega)⟩) hS (fun q _ h => fM h) (fun q h => fM h) (fun u81 a81 tt H locs ht _ h81 hN _ hq hS => ?_)
      obtain ⟨R81, A81⟩ := u81
      obtain ⟨rfl, hN⟩ := hN
      rw [ht] at hN
      have hN : OV D t (cb + 23) (cb + 2) (cb + 70) sgN kdN R81 A81 H := hN
      obtain ⟨e2, hf12, hf13⟩ := h81
      have e2 : R81 = hrS (wgR (B 2) len (10 * a + o)) n := e2
      rw [e2] at hN
      have hC := hC.kept hq
      refine lv_iload hx hb dX0_writeTold_84 (lv_at hl 0 rfl) ?_
      refine g_r (g_runV (As := [.int (nI (nS (B 2)))]) (rest := []) S hKK hN (hN.recv hKK) (co_X8_have l D t (cb + 23) (cb + 2) (cb + 70) sgN kdN (hrS (wgR (B 2) len (10 * a + o)) n) A81 (nI (nS (B 2))) (999 + n) (Ok_hrS hwg (by omega))) (cwV 1 hts (lw_V q773 q774 q775 q103 q776) rfl rfl rfl (by decide +kernel) ⟨Nat.le_of_ble_eq_true rfl, Nat.le_of_ble_eq_true rfl⟩) rfl hl.1 rfl (Nat.le_of_ble_eq_true rfl) dX0_writeTold_86 ⟨by first | exact Nat.le_of_ble_eq_true rfl | (show _ ≤ 60; omega), by first | exact Nat.le_of_ble_eq_true rfl | (show _ ≤ 120; omega)⟩) ?_
      refine z_top (y := f (10 * a + o)) (hf (10 * a + o) (by omega)).symm ?_
      refine lv_istore (lv' := [(10, .int (f (10 * a + o))), (9, .int (nI (nS (B 2)))), (8, .ref (cb + 23)), (7, .int (nI o)), (6, .int (nI a)), (5, .int (moL (mxL f (-9, -9) (10 * a + o)).2 (10 * a + o))), (4, .int ((mxL f (-9, -9) (10 * a + o)).1)), (0, .ref cb), (1, .int len), (2, .int (nI n)), (3, .int w)]) hx hb dX0_writeTold_89 hl (by decide) rfl (fun ls hl => ?_)
      refine W.join (fun vJ => F0 m 111 ls (.int vJ :: [])) (fun vJ => vJ = (mxL f (-9, -9) (10 * a + o + 1)).1) (fun vJ hJ => ?_) (fun J2 => ?_)
      · subst hJ
        refine lv_istore (lv' := [(4, .int ((mxL f (-9, -9) (10 * a + o + 1)).1)), (10, .int (f (10 * a + o))), (9, .int (nI (nS (B 2)))), (8, .ref (cb + 23)), (7, .int (nI o)), (6, .int (nI a)), (5, .int (moL (mxL f (-9, -9) (10 * a + o)).2 (10 * a + o))), (0, .ref cb), (1, .int len), (2, .int (nI n)), (3, .int w)]) hx hb dX0_writeTold_111 hl (by decide) rfl (fun ls hl => ?_)
        refine lv_iload hx hb dX0_writeTold_113 (lv_at hl 6 rfl) ?_
        refine lv_iload hx hb dX0_writeTold_115 (lv_at hl 1 rfl) ?_
        refine va_mmax hx hb (hml.trans hl.1.symm) hown (hts _ q1004) (hts _ q903) (hts _ q119) (hts _ q904) (by first | exact Nat.le_of_ble_eq_true rfl | (show _ ≤ 60; omega) | (show _ ≤ 120; omega)) (by first | exact Nat.le_of_ble_eq_true rfl | (show _ ≤ 60; omega) | (show _ ≤ 120; omega)) (by first | exact Nat.le_of_ble_eq_true rfl | (show _ ≤ 60; omega) | (show _ ≤ 120; omega)) (by first | exact Nat.le_of_ble_eq_true rfl | (show _ ≤ 60; omega) | (show _ ≤ 120; omega)) dX0_writeTold_117 ?_
        refine z_top (y := moL (mxL f (-9, -9) (10 * a + o + 1)).2 (10 * a + o + 1)) (mo_max hf0) ?_
        refine lv_istore (lv' := [(5, .int (moL (mxL f (-9, -9) (10 * a + o + 1)).2 (10 * a + o + 1))), (4, .int ((mxL f (-9, -9) (10 * a + o + 1)).1)), (10, .int (f (10 * a + o))), (9, .int (nI (nS (B 2)))), (8, .ref (cb + 23)), (7, .int (nI o)), (6, .int (nI a)), (0, .ref cb), (1, .int len), (2, .int (nI n)), (3, .int w)]) hx hb dX0_writeTold_120 hl (by decide) rfl (fun ls hl => ?_)
        refine lv_iinc (v := nI (o + 1)) (lv' := [(7, .int (nI (o + 1))), (5, .int (moL (mxL f (-9, -9) (10 * a + o + 1)).2 (10 * a + o + 1))), (4, .int ((mxL f (-9, -9) (10 * a + o + 1)).1)), (10, .int (f (10 * a + o))), (9, .int (nI (nS (B 2)))), (8, .ref (cb + 23)), (6, .int (nI a)), (0, .ref cb), (1, .int len), (2, .int (nI n)), (3, .int w)]) hx hb dX0_writeTold_122 hl (k := 5) rfl (nI_1 o) (by decide) rfl (fun ls hl => ?_)
        refine lv_goto (tgt := 23) hx hb dX0_writeTold_125 (by decide) ?_
        refine W.bk (cells' := 10 * a + (o + 1)) (slots' := 2 * (10 * a + (o + 1))) (by omega) (by omega) ?_
        exact iho (o + 1) H locs ls (by omega) ⟨by omega, hC, ⟨_, _, _, hN.1⟩, hS, lv_sub hl [0, 6, 1, 2, 7, 8, 9, 10] rfl⟩
      · refine lv_iload hx hb dX0_writeTold_91 (lv_at hl 0 rfl) ?_
        refine lv_iload hx hb dX0_writeTold_93 (lv_at hl 5 rfl) ?_
        refine lv_icmp_le (tgt := 109) hx hb dX0_writeTold_95 (by decide) (fun c95 => ?_) (fun c95 => ?_)
        · refine lv_iload hx hb dX0_writeTold_109 (lv_at hl 6 rfl) ?_
          exact J2 _ (mo_t hf0 c95)
        · refine lv_bipush (v := 10) hx hb dX0_writeTold_98 (by decide) ?_
          refine lv_iload hx hb dX0_writeTold_100 (lv_at hl 4 rfl) ?_
          refine lv_imul hx hb dX0_writeTold_102 ?_
          refine lv_iload hx hb dX0_writeTold_103 (lv_at hl 3 rfl) ?_
          refine lv_iadd hx hb dX0_writeTold_105 ?_
          refine lv_goto (tgt := 111) hx hb dX0_writeTold_106 (by decide) ?_
          exact J2 _ ((nI_addO (nI_mulO (m := 10) rfl rfl) rfl).trans (mo_f hf0 c95))
