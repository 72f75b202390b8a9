/-! THE MODEL's HOUR: printed by wip/D-96246w/gen/gen_m5.py -/
set_option maxRecDepth 100000
set_option maxHeartbeats 4000000 in
theorem mm_lays_2_5 (l : Launch) (D : va_G) (t : Nat → ClassId) (mb : Nat) (B : BT) : Met l yX9_lays (ws_ yX9_lays cX9_lays 3 none) ({ frames := 0, cells := 0, slots := 0, locals := 0 }) (zPc [.ref (mb + 2), .ref (mb + 5)] (MW D t mb B) (KK D t)) (va_Qv (fun B' => B' = upc B 5 (B 2)) (fun B' U => MW D t mb B' U.heap) (mA mb)) 0 0 (mA mb) := by
  refine zOf (cc := cX9_lays) (maxL := 3) (ret := none) (by decide) (Nat.le_of_ble_eq_true rfl) (fun pg ev s m below meth cd ls F hP hKK hl hnm => ?_)
  obtain ⟨hx, hb, hml, hown, hts, hr, hlk⟩ := F
  have S : CallFix pg m cd cX9_lays 3 s _ lw_all RX9 := ⟨hx, hb, hml, hown, hts⟩
  have hl : lv_has ls 3 [(0, .ref (mb + 2)), (1, .ref (mb + 5))] := hl
  have hS : va_S (mA mb) s.heap s.heap [] := va_S.rf
  refine lv_iconst (v := 0) hx hb dX9_lays_0 (by decide) ?_
  refine lv_istore_n (lv' := [(2, .int 0), (0, .ref (mb + 2)), (1, .ref (mb + 5))]) hx hb dX9_lays_1 rfl hl (by decide) rfl (fun ls hl => ?_)
  refine W.loop (σ := Nat) (fun k H locs ls => k ≤ 73 ∧ (True) ∧ MW D t mb (lyB B 2 5 k) H ∧ va_S (mA mb) s.heap H locs ∧ lv_has ls 3 [(2, .int (nI k)), (0, .ref (mb + 2)), (1, .ref (mb + 5))]) (fun k => 73 - k) (fun k H locs ls hIk ihk => ?_) 0 ⟨by omega, trivial, (by rw [show lyB B 2 5 0 = B from (lyB_0 B 2 5)]; exact hP), hS, lv_sub hl [0, 1, 2] rfl⟩
  obtain ⟨hk, hEk, hP, hS, hl⟩ := hIk
  refine lv_iload_n hx hb dX9_lays_2 rfl (lv_at hl 0 rfl) ?_
  refine lv_bipush (v := 73) hx hb dX9_lays_3 (by decide) ?_
  refine lv_icmp_ge (tgt := 20) hx hb dX9_lays_5 (by decide) (fun c5 => ?_) (fun c5 => ?_)
  · obtain rfl : k = 73 := Nat.le_antisymm hk (lp_end (n := 73) rfl (by omega) (by omega) c5)
    have hP := lyB_end (by decide) (by decide) hP
    exact m_vret hx hb hr rfl hP hS dX9_lays_20 hlk
  · have hk2 : k < 73 := lp_go (n := 73) rfl (by omega) (by omega) c5
    refine lv_aload_n hx hb dX9_lays_8 rfl (lv_at hl 2 rfl) ?_
    refine lv_iload_n hx hb dX9_lays_9 rfl (lv_at hl 0 rfl) ?_
    refine lv_aload_n hx hb dX9_lays_10 rfl (lv_at hl 1 rfl) ?_
    refine lv_iload_n hx hb dX9_lays_11 rfl (lv_at hl 0 rfl) ?_
    refine m_ald hx hb hKK hP 2 rfl (k := k) (v := B 2 k) rfl (by omega) (by decide) rfl dX9_lays_12 ?_
    refine m_ast hx hb hKK hP hS 5 rfl (k := k) rfl (by omega) (by decide) rfl dX9_lays_13 (fun H locs hP hS => ?_)
    refine lv_iinc (v := nI (k + 1)) (lv' := [(2, .int (nI (k + 1))), (0, .ref (mb + 2)), (1, .ref (mb + 5))]) hx hb dX9_lays_14 hl (k := 0) rfl (nI_1 k) (by decide) rfl (fun ls hl => ?_)
    refine lv_goto (tgt := 2) hx hb dX9_lays_17 (by decide) ?_
    exact ihk (k + 1) H locs ls (by omega) ⟨by omega, trivial, (by rw [show lyB B 2 5 (k + 1) = up2 (lyB B 2 5 k) 5 k (B 2 k) from (lyB_step B 2 5 k)]; exact hP), hS, lv_sub hl [0, 1, 2] rfl⟩
set_option maxHeartbeats 4000000 in
theorem mm_lays_5_2 (l : Launch) (D : va_G) (t : Nat → ClassId) (mb : Nat) (B : BT) : Met l yX9_lays (ws_ yX9_lays cX9_lays 3 none) ({ frames := 0, cells := 0, slots := 0, locals := 0 }) (zPc [.ref (mb + 5), .ref (mb + 2)] (MW D t mb B) (KK D t)) (va_Qv (fun B' => B' = upc B 2 (B 5)) (fun B' U => MW D t mb B' U.heap) (mA mb)) 0 0 (mA mb) := by
  refine zOf (cc := cX9_lays) (maxL := 3) (ret := none) (by decide) (Nat.le_of_ble_eq_true rfl) (fun pg ev s m below meth cd ls F hP hKK hl hnm => ?_)
  obtain ⟨hx, hb, hml, hown, hts, hr, hlk⟩ := F
  have S : CallFix pg m cd cX9_lays 3 s _ lw_all RX9 := ⟨hx, hb, hml, hown, hts⟩
  have hl : lv_has ls 3 [(0, .ref (mb + 5)), (1, .ref (mb + 2))] := hl
  have hS : va_S (mA mb) s.heap s.heap [] := va_S.rf
  refine lv_iconst (v := 0) hx hb dX9_lays_0 (by decide) ?_
  refine lv_istore_n (lv' := [(2, .int 0), (0, .ref (mb + 5)), (1, .ref (mb + 2))]) hx hb dX9_lays_1 rfl hl (by decide) rfl (fun ls hl => ?_)
  refine W.loop (σ := Nat) (fun k H locs ls => k ≤ 73 ∧ (True) ∧ MW D t mb (lyB B 5 2 k) H ∧ va_S (mA mb) s.heap H locs ∧ lv_has ls 3 [(2, .int (nI k)), (0, .ref (mb + 5)), (1, .ref (mb + 2))]) (fun k => 73 - k) (fun k H locs ls hIk ihk => ?_) 0 ⟨by omega, trivial, (by rw [show lyB B 5 2 0 = B from (lyB_0 B 5 2)]; exact hP), hS, lv_sub hl [0, 1, 2] rfl⟩
  obtain ⟨hk, hEk, hP, hS, hl⟩ := hIk
  refine lv_iload_n hx hb dX9_lays_2 rfl (lv_at hl 0 rfl) ?_
  refine lv_bipush (v := 73) hx hb dX9_lays_3 (by decide) ?_
  refine lv_icmp_ge (tgt := 20) hx hb dX9_lays_5 (by decide) (fun c5 => ?_) (fun c5 => ?_)
  · obtain rfl : k = 73 := Nat.le_antisymm hk (lp_end (n := 73) rfl (by omega) (by omega) c5)
    have hP := lyB_end (by decide) (by decide) hP
    exact m_vret hx hb hr rfl hP hS dX9_lays_20 hlk
  · have hk2 : k < 73 := lp_go (n := 73) rfl (by omega) (by omega) c5
    refine lv_aload_n hx hb dX9_lays_8 rfl (lv_at hl 2 rfl) ?_
    refine lv_iload_n hx hb dX9_lays_9 rfl (lv_at hl 0 rfl) ?_
    refine lv_aload_n hx hb dX9_lays_10 rfl (lv_at hl 1 rfl) ?_
    refine lv_iload_n hx hb dX9_lays_11 rfl (lv_at hl 0 rfl) ?_
    refine m_ald hx hb hKK hP 5 rfl (k := k) (v := B 5 k) rfl (by omega) (by decide) rfl dX9_lays_12 ?_
    refine m_ast hx hb hKK hP hS 2 rfl (k := k) rfl (by omega) (by decide) rfl dX9_lays_13 (fun H locs hP hS => ?_)
    refine lv_iinc (v := nI (k + 1)) (lv' := [(2, .int (nI (k + 1))), (0, .ref (mb + 5)), (1, .ref (mb + 2))]) hx hb dX9_lays_14 hl (k := 0) rfl (nI_1 k) (by decide) rfl (fun ls hl => ?_)
    refine lv_goto (tgt := 2) hx hb dX9_lays_17 (by decide) ?_
    exact ihk (k + 1) H locs ls (by omega) ⟨by omega, trivial, (by rw [show lyB B 5 2 (k + 1) = up2 (lyB B 5 2 k) 2 k (B 5 k) from (lyB_step B 5 2 k)]; exact hP), hS, lv_sub hl [0, 1, 2] rfl⟩
set_option maxHeartbeats 4000000 in
theorem mm_lays_2_4 (l : Launch) (D : va_G) (t : Nat → ClassId) (mb : Nat) (B : BT) : Met l yX9_lays (ws_ yX9_lays cX9_lays 3 none) ({ frames := 0, cells := 0, slots := 0, locals := 0 }) (zPc [.ref (mb + 2), .ref (mb + 4)] (MW D t mb B) (KK D t)) (va_Qv (fun B' => B' = upc B 4 (B 2)) (fun B' U => MW D t mb B' U.heap) (mA mb)) 0 0 (mA mb) := by
  refine zOf (cc := cX9_lays) (maxL := 3) (ret := none) (by decide) (Nat.le_of_ble_eq_true rfl) (fun pg ev s m below meth cd ls F hP hKK hl hnm => ?_)
  obtain ⟨hx, hb, hml, hown, hts, hr, hlk⟩ := F
  have S : CallFix pg m cd cX9_lays 3 s _ lw_all RX9 := ⟨hx, hb, hml, hown, hts⟩
  have hl : lv_has ls 3 [(0, .ref (mb + 2)), (1, .ref (mb + 4))] := hl
  have hS : va_S (mA mb) s.heap s.heap [] := va_S.rf
  refine lv_iconst (v := 0) hx hb dX9_lays_0 (by decide) ?_
  refine lv_istore_n (lv' := [(2, .int 0), (0, .ref (mb + 2)), (1, .ref (mb + 4))]) hx hb dX9_lays_1 rfl hl (by decide) rfl (fun ls hl => ?_)
  refine W.loop (σ := Nat) (fun k H locs ls => k ≤ 73 ∧ (True) ∧ MW D t mb (lyB B 2 4 k) H ∧ va_S (mA mb) s.heap H locs ∧ lv_has ls 3 [(2, .int (nI k)), (0, .ref (mb + 2)), (1, .ref (mb + 4))]) (fun k => 73 - k) (fun k H locs ls hIk ihk => ?_) 0 ⟨by omega, trivial, (by rw [show lyB B 2 4 0 = B from (lyB_0 B 2 4)]; exact hP), hS, lv_sub hl [0, 1, 2] rfl⟩
  obtain ⟨hk, hEk, hP, hS, hl⟩ := hIk
  refine lv_iload_n hx hb dX9_lays_2 rfl (lv_at hl 0 rfl) ?_
  refine lv_bipush (v := 73) hx hb dX9_lays_3 (by decide) ?_
  refine lv_icmp_ge (tgt := 20) hx hb dX9_lays_5 (by decide) (fun c5 => ?_) (fun c5 => ?_)
  · obtain rfl : k = 73 := Nat.le_antisymm hk (lp_end (n := 73) rfl (by omega) (by omega) c5)
    have hP := lyB_end (by decide) (by decide) hP
    exact m_vret hx hb hr rfl hP hS dX9_lays_20 hlk
  · have hk2 : k < 73 := lp_go (n := 73) rfl (by omega) (by omega) c5
    refine lv_aload_n hx hb dX9_lays_8 rfl (lv_at hl 2 rfl) ?_
    refine lv_iload_n hx hb dX9_lays_9 rfl (lv_at hl 0 rfl) ?_
    refine lv_aload_n hx hb dX9_lays_10 rfl (lv_at hl 1 rfl) ?_
    refine lv_iload_n hx hb dX9_lays_11 rfl (lv_at hl 0 rfl) ?_
    refine m_ald hx hb hKK hP 2 rfl (k := k) (v := B 2 k) rfl (by omega) (by decide) rfl dX9_lays_12 ?_
    refine m_ast hx hb hKK hP hS 4 rfl (k := k) rfl (by omega) (by decide) rfl dX9_lays_13 (fun H locs hP hS => ?_)
    refine lv_iinc (v := nI (k + 1)) (lv' := [(2, .int (nI (k + 1))), (0, .ref (mb + 2)), (1, .ref (mb + 4))]) hx hb dX9_lays_14 hl (k := 0) rfl (nI_1 k) (by decide) rfl (fun ls hl => ?_)
    refine lv_goto (tgt := 2) hx hb dX9_lays_17 (by decide) ?_
    exact ihk (k + 1) H locs ls (by omega) ⟨by omega, trivial, (by rw [show lyB B 2 4 (k + 1) = up2 (lyB B 2 4 k) 4 k (B 2 k) from (lyB_step B 2 4 k)]; exact hP), hS, lv_sub hl [0, 1, 2] rfl⟩
set_option maxHeartbeats 4000000 in
theorem mm_lays_4_2 (l : Launch) (D : va_G) (t : Nat → ClassId) (mb : Nat) (B : BT) : Met l yX9_lays (ws_ yX9_lays cX9_lays 3 none) ({ frames := 0, cells := 0, slots := 0, locals := 0 }) (zPc [.ref (mb + 4), .ref (mb + 2)] (MW D t mb B) (KK D t)) (va_Qv (fun B' => B' = upc B 2 (B 4)) (fun B' U => MW D t mb B' U.heap) (mA mb)) 0 0 (mA mb) := by
  refine zOf (cc := cX9_lays) (maxL := 3) (ret := none) (by decide) (Nat.le_of_ble_eq_true rfl) (fun pg ev s m below meth cd ls F hP hKK hl hnm => ?_)
  obtain ⟨hx, hb, hml, hown, hts, hr, hlk⟩ := F
  have S : CallFix pg m cd cX9_lays 3 s _ lw_all RX9 := ⟨hx, hb, hml, hown, hts⟩
  have hl : lv_has ls 3 [(0, .ref (mb + 4)), (1, .ref (mb + 2))] := hl
  have hS : va_S (mA mb) s.heap s.heap [] := va_S.rf
  refine lv_iconst (v := 0) hx hb dX9_lays_0 (by decide) ?_
  refine lv_istore_n (lv' := [(2, .int 0), (0, .ref (mb + 4)), (1, .ref (mb + 2))]) hx hb dX9_lays_1 rfl hl (by decide) rfl (fun ls hl => ?_)
  refine W.loop (σ := Nat) (fun k H locs ls => k ≤ 73 ∧ (True) ∧ MW D t mb (lyB B 4 2 k) H ∧ va_S (mA mb) s.heap H locs ∧ lv_has ls 3 [(2, .int (nI k)), (0, .ref (mb + 4)), (1, .ref (mb + 2))]) (fun k => 73 - k) (fun k H locs ls hIk ihk => ?_) 0 ⟨by omega, trivial, (by rw [show lyB B 4 2 0 = B from (lyB_0 B 4 2)]; exact hP), hS, lv_sub hl [0, 1, 2] rfl⟩
  obtain ⟨hk, hEk, hP, hS, hl⟩ := hIk
  refine lv_iload_n hx hb dX9_lays_2 rfl (lv_at hl 0 rfl) ?_
  refine lv_bipush (v := 73) hx hb dX9_lays_3 (by decide) ?_
  refine lv_icmp_ge (tgt := 20) hx hb dX9_lays_5 (by decide) (fun c5 => ?_) (fun c5 => ?_)
  · obtain rfl : k = 73 := Nat.le_antisymm hk (lp_end (n := 73) rfl (by omega) (by omega) c5)
    have hP := lyB_end (by decide) (by decide) hP
    exact m_vret hx hb hr rfl hP hS dX9_lays_20 hlk
  · have hk2 : k < 73 := lp_go (n := 73) rfl (by omega) (by omega) c5
    refine lv_aload_n hx hb dX9_lays_8 rfl (lv_at hl 2 rfl) ?_
    refine lv_iload_n hx hb dX9_lays_9 rfl (lv_at hl 0 rfl) ?_
    refine lv_aload_n hx hb dX9_lays_10 rfl (lv_at hl 1 rfl) ?_
    refine lv_iload_n hx hb dX9_lays_11 rfl (lv_at hl 0 rfl) ?_
    refine m_ald hx hb hKK hP 4 rfl (k := k) (v := B 4 k) rfl (by omega) (by decide) rfl dX9_lays_12 ?_
    refine m_ast hx hb hKK hP hS 2 rfl (k := k) rfl (by omega) (by decide) rfl dX9_lays_13 (fun H locs hP hS => ?_)
    refine lv_iinc (v := nI (k + 1)) (lv' := [(2, .int (nI (k + 1))), (0, .ref (mb + 4)), (1, .ref (mb + 2))]) hx hb dX9_lays_14 hl (k := 0) rfl (nI_1 k) (by decide) rfl (fun ls hl => ?_)
    refine lv_goto (tgt := 2) hx hb dX9_lays_17 (by decide) ?_
    exact ihk (k + 1) H locs ls (by omega) ⟨by omega, trivial, (by rw [show lyB B 4 2 (k + 1) = up2 (lyB B 4 2 k) 2 k (B 4 k) from (lyB_step B 4 2 k)]; exact hP), hS, lv_sub hl [0, 1, 2] rfl⟩
set_option maxHeartbeats 4000000 in
theorem mm_lays_2_3 (l : Launch) (D : va_G) (t : Nat → ClassId) (mb : Nat) (B : BT) : Met l yX9_lays (ws_ yX9_lays cX9_lays 3 none) ({ frames := 0, cells := 0, slots := 0, locals := 0 }) (zPc [.ref (mb + 2), .ref (mb + 3)] (MW D t mb B) (KK D t)) (va_Qv (fun B' => B' = upc B 3 (B 2)) (fun B' U => MW D t mb B' U.heap) (mA mb)) 0 0 (mA mb) := by
  refine zOf (cc := cX9_lays) (maxL := 3) (ret := none) (by decide) (Nat.le_of_ble_eq_true rfl) (fun pg ev s m below meth cd ls F hP hKK hl hnm => ?_)
  obtain ⟨hx, hb, hml, hown, hts, hr, hlk⟩ := F
  have S : CallFix pg m cd cX9_lays 3 s _ lw_all RX9 := ⟨hx, hb, hml, hown, hts⟩
  have hl : lv_has ls 3 [(0, .ref (mb + 2)), (1, .ref (mb + 3))] := hl
  have hS : va_S (mA mb) s.heap s.heap [] := va_S.rf
  refine lv_iconst (v := 0) hx hb dX9_lays_0 (by decide) ?_
  refine lv_istore_n (lv' := [(2, .int 0), (0, .ref (mb + 2)), (1, .ref (mb + 3))]) hx hb dX9_lays_1 rfl hl (by decide) rfl (fun ls hl => ?_)
  refine W.loop (σ := Nat) (fun k H locs ls => k ≤ 73 ∧ (True) ∧ MW D t mb (lyB B 2 3 k) H ∧ va_S (mA mb) s.heap H locs ∧ lv_has ls 3 [(2, .int (nI k)), (0, .ref (mb + 2)), (1, .ref (mb + 3))]) (fun k => 73 - k) (fun k H locs ls hIk ihk => ?_) 0 ⟨by omega, trivial, (by rw [show lyB B 2 3 0 = B from (lyB_0 B 2 3)]; exact hP), hS, lv_sub hl [0, 1, 2] rfl⟩
  obtain ⟨hk, hEk, hP, hS, hl⟩ := hIk
  refine lv_iload_n hx hb dX9_lays_2 rfl (lv_at hl 0 rfl) ?_
  refine lv_bipush (v := 73) hx hb dX9_lays_3 (by decide) ?_
  refine lv_icmp_ge (tgt := 20) hx hb dX9_lays_5 (by decide) (fun c5 => ?_) (fun c5 => ?_)
  · obtain rfl : k = 73 := Nat.le_antisymm hk (lp_end (n := 73) rfl (by omega) (by omega) c5)
    have hP := lyB_end (by decide) (by decide) hP
    exact m_vret hx hb hr rfl hP hS dX9_lays_20 hlk
  · have hk2 : k < 73 := lp_go (n := 73) rfl (by omega) (by omega) c5
    refine lv_aload_n hx hb dX9_lays_8 rfl (lv_at hl 2 rfl) ?_
    refine lv_iload_n hx hb dX9_lays_9 rfl (lv_at hl 0 rfl) ?_
    refine lv_aload_n hx hb dX9_lays_10 rfl (lv_at hl 1 rfl) ?_
    refine lv_iload_n hx hb dX9_lays_11 rfl (lv_at hl 0 rfl) ?_
    refine m_ald hx hb hKK hP 2 rfl (k := k) (v := B 2 k) rfl (by omega) (by decide) rfl dX9_lays_12 ?_
    refine m_ast hx hb hKK hP hS 3 rfl (k := k) rfl (by omega) (by decide) rfl dX9_lays_13 (fun H locs hP hS => ?_)
    refine lv_iinc (v := nI (k + 1)) (lv' := [(2, .int (nI (k + 1))), (0, .ref (mb + 2)), (1, .ref (mb + 3))]) hx hb dX9_lays_14 hl (k := 0) rfl (nI_1 k) (by decide) rfl (fun ls hl => ?_)
    refine lv_goto (tgt := 2) hx hb dX9_lays_17 (by decide) ?_
    exact ihk (k + 1) H locs ls (by omega) ⟨by omega, trivial, (by rw [show lyB B 2 3 (k + 1) = up2 (lyB B 2 3 k) 3 k (B 2 k) from (lyB_step B 2 3 k)]; exact hP), hS, lv_sub hl [0, 1, 2] rfl⟩
set_option maxHeartbeats 4000000 in
theorem mm_lays_3_2 (l : Launch) (D : va_G) (t : Nat → ClassId) (mb : Nat) (B : BT) : Met l yX9_lays (ws_ yX9_lays cX9_lays 3 none) ({ frames := 0, cells := 0, slots := 0, locals := 0 }) (zPc [.ref (mb + 3), .ref (mb + 2)] (MW D t mb B) (KK D t)) (va_Qv (fun B' => B' = upc B 2 (B 3)) (fun B' U => MW D t mb B' U.heap) (mA mb)) 0 0 (mA mb) := by
  refine zOf (cc := cX9_lays) (maxL := 3) (ret := none) (by decide) (Nat.le_of_ble_eq_true rfl) (fun pg ev s m below meth cd ls F hP hKK hl hnm => ?_)
  obtain ⟨hx, hb, hml, hown, hts, hr, hlk⟩ := F
  have S : CallFix pg m cd cX9_lays 3 s _ lw_all RX9 := ⟨hx, hb, hml, hown, hts⟩
  have hl : lv_has ls 3 [(0, .ref (mb + 3)), (1, .ref (mb + 2))] := hl
  have hS : va_S (mA mb) s.heap s.heap [] := va_S.rf
  refine lv_iconst (v := 0) hx hb dX9_lays_0 (by decide) ?_
  refine lv_istore_n (lv' := [(2, .int 0), (0, .ref (mb + 3)), (1, .ref (mb + 2))]) hx hb dX9_lays_1 rfl hl (by decide) rfl (fun ls hl => ?_)
  refine W.loop (σ := Nat) (fun k H locs ls => k ≤ 73 ∧ (True) ∧ MW D t mb (lyB B 3 2 k) H ∧ va_S (mA mb) s.heap H locs ∧ lv_has ls 3 [(2, .int (nI k)), (0, .ref (mb + 3)), (1, .ref (mb + 2))]) (fun k => 73 - k) (fun k H locs ls hIk ihk => ?_) 0 ⟨by omega, trivial, (by rw [show lyB B 3 2 0 = B from (lyB_0 B 3 2)]; exact hP), hS, lv_sub hl [0, 1, 2] rfl⟩
  obtain ⟨hk, hEk, hP, hS, hl⟩ := hIk
  refine lv_iload_n hx hb dX9_lays_2 rfl (lv_at hl 0 rfl) ?_
  refine lv_bipush (v := 73) hx hb dX9_lays_3 (by decide) ?_
  refine lv_icmp_ge (tgt := 20) hx hb dX9_lays_5 (by decide) (fun c5 => ?_) (fun c5 => ?_)
  · obtain rfl : k = 73 := Nat.le_antisymm hk (lp_end (n := 73) rfl (by omega) (by omega) c5)
    have hP := lyB_end (by decide) (by decide) hP
    exact m_vret hx hb hr rfl hP hS dX9_lays_20 hlk
  · have hk2 : k < 73 := lp_go (n := 73) rfl (by omega) (by omega) c5
    refine lv_aload_n hx hb dX9_lays_8 rfl (lv_at hl 2 rfl) ?_
    refine lv_iload_n hx hb dX9_lays_9 rfl (lv_at hl 0 rfl) ?_
    refine lv_aload_n hx hb dX9_lays_10 rfl (lv_at hl 1 rfl) ?_
    refine lv_iload_n hx hb dX9_lays_11 rfl (lv_at hl 0 rfl) ?_
    refine m_ald hx hb hKK hP 3 rfl (k := k) (v := B 3 k) rfl (by omega) (by decide) rfl dX9_lays_12 ?_
    refine m_ast hx hb hKK hP hS 2 rfl (k := k) rfl (by omega) (by decide) rfl dX9_lays_13 (fun H locs hP hS => ?_)
    refine lv_iinc (v := nI (k + 1)) (lv' := [(2, .int (nI (k + 1))), (0, .ref (mb + 3)), (1, .ref (mb + 2))]) hx hb dX9_lays_14 hl (k := 0) rfl (nI_1 k) (by decide) rfl (fun ls hl => ?_)
    refine lv_goto (tgt := 2) hx hb dX9_lays_17 (by decide) ?_
    exact ihk (k + 1) H locs ls (by omega) ⟨by omega, trivial, (by rw [show lyB B 3 2 (k + 1) = up2 (lyB B 3 2 k) 2 k (B 3 k) from (lyB_step B 3 2 k)]; exact hP), hS, lv_sub hl [0, 1, 2] rfl⟩
set_option maxHeartbeats 4000000 in
theorem mm_begins (l : Launch) (D : va_G) (t : Nat → ClassId) (mb : Nat) (B : BT) : Met l yX9_begins (ws_ yX9_begins cX9_begins 1 none) ({ frames := 1, cells := 0, slots := 0, locals := 22 }) (zPc [.ref mb] (MW D t mb B) (KK D t)) (va_Qv (fun B' => B' = upc B 5 (B 2)) (fun B' U => MW D t mb B' U.heap) (mA mb)) 0 0 (mA mb) := by
  refine zOf (cc := cX9_begins) (maxL := 1) (ret := none) (by decide) (Nat.le_of_ble_eq_true rfl) (fun pg ev s m below meth cd ls F hP hKK hl hnm => ?_)
  obtain ⟨hx, hb, hml, hown, hts, hr, hlk⟩ := F
  have S : CallFix pg m cd cX9_begins 1 s _ lw_all RX9 := ⟨hx, hb, hml, hown, hts⟩
  have hl : lv_has ls 1 [(0, .ref mb)] := hl
  have hS : va_S (mA mb) s.heap s.heap [] := va_S.rf
  refine lv_aload_n hx hb dX9_begins_0 rfl (lv_at hl 0 rfl) ?_
  refine m_get hx hb hts hown hKK hP 1 (by decide) q1248 rfl rfl dX9_begins_1 ?_
  refine lv_aload_n hx hb dX9_begins_4 rfl (lv_at hl 0 rfl) ?_
  refine m_get hx hb hts hown hKK hP 4 (by decide) q1251 rfl rfl dX9_begins_5 ?_
  refine m_callSv (As := [.ref (mb + 2), .ref (mb + 5)]) (rest := []) S hKK hP hS (mm_lays_2_5 l D t mb B ) (va_cwS 2 hts (lw_S q1347 q1348 q104 q1349) rfl rfl rfl (by decide +kernel) ⟨Nat.le_of_ble_eq_true rfl, Nat.le_of_ble_eq_true rfl⟩) rfl hl.1 rfl (Nat.le_of_ble_eq_true rfl) dX9_begins_8 ⟨Nat.le_of_ble_eq_true rfl, Nat.le_of_ble_eq_true rfl⟩ (fun B8 H locs h8 hP hS => ?_)
  have h8 : B8 = upc B 5 (B 2) := h8
  subst h8
  exact m_vret hx hb hr rfl hP hS dX9_begins_11 hlk
set_option maxHeartbeats 4000000 in
theorem mm_ends (l : Launch) (D : va_G) (t : Nat → ClassId) (mb : Nat) (B : BT) : Met l yX9_ends (ws_ yX9_ends cX9_ends 1 none) ({ frames := 1, cells := 0, slots := 0, locals := 22 }) (zPc [.ref mb] (MW D t mb B) (KK D t)) (va_Qv (fun B' => B' = upc B 2 (B 5)) (fun B' U => MW D t mb B' U.heap) (mA mb)) 0 0 (mA mb) := by
  refine zOf (cc := cX9_ends) (maxL := 1) (ret := none) (by decide) (Nat.le_of_ble_eq_true rfl) (fun pg ev s m below meth cd ls F hP hKK hl hnm => ?_)
  obtain ⟨hx, hb, hml, hown, hts, hr, hlk⟩ := F
  have S : CallFix pg m cd cX9_ends 1 s _ lw_all RX9 := ⟨hx, hb, hml, hown, hts⟩
  have hl : lv_has ls 1 [(0, .ref mb)] := hl
  have hS : va_S (mA mb) s.heap s.heap [] := va_S.rf
  refine lv_aload_n hx hb dX9_ends_0 rfl (lv_at hl 0 rfl) ?_
  refine m_get hx hb hts hown hKK hP 4 (by decide) q1251 rfl rfl dX9_ends_1 ?_
  refine lv_aload_n hx hb dX9_ends_4 rfl (lv_at hl 0 rfl) ?_
  refine m_get hx hb hts hown hKK hP 1 (by decide) q1248 rfl rfl dX9_ends_5 ?_
  refine m_callSv (As := [.ref (mb + 5), .ref (mb + 2)]) (rest := []) S hKK hP hS (mm_lays_5_2 l D t mb B ) (va_cwS 2 hts (lw_S q1347 q1348 q104 q1349) rfl rfl rfl (by decide +kernel) ⟨Nat.le_of_ble_eq_true rfl, Nat.le_of_ble_eq_true rfl⟩) rfl hl.1 rfl (Nat.le_of_ble_eq_true rfl) dX9_ends_8 ⟨Nat.le_of_ble_eq_true rfl, Nat.le_of_ble_eq_true rfl⟩ (fun B8 H locs h8 hP hS => ?_)
  have h8 : B8 = upc B 2 (B 5) := h8
  subst h8
  exact m_vret hx hb hr rfl hP hS dX9_ends_11 hlk
set_option maxHeartbeats 4000000 in
theorem mm_starts (l : Launch) (D : va_G) (t : Nat → ClassId) (mb : Nat) (B : BT) : Met l yX9_starts (ws_ yX9_starts cX9_starts 2 none) ({ frames := 2, cells := 0, slots := 0, locals := 42 }) (zPc [.ref mb] (MW D t mb B) (KK D t)) (va_Qv (fun B' => B' = upc (upc (upc B 5 (B 2)) 8 (tk 6 nI (B 8))) 9 (tk 6 nI (B 9))) (fun B' U => MW D t mb B' U.heap) (mA mb)) 0 0 (mA mb) := by
  refine zOf (cc := cX9_starts) (maxL := 2) (ret := none) (by decide) (Nat.le_of_ble_eq_true rfl) (fun pg ev s m below meth cd ls F hP hKK hl hnm => ?_)
  obtain ⟨hx, hb, hml, hown, hts, hr, hlk⟩ := F
  have S : CallFix pg m cd cX9_starts 2 s _ lw_all RX9 := ⟨hx, hb, hml, hown, hts⟩
  have hl : lv_has ls 2 [(0, .ref mb)] := hl
  have hS : va_S (mA mb) s.heap s.heap [] := va_S.rf
  refine lv_aload_n hx hb dX9_starts_0 rfl (lv_at hl 0 rfl) ?_
  refine m_callv (As := []) (rest := []) S hKK hP hS (mm_begins l D t mb B ) (cwV 0 hts (lw_V q1462 q1464 qs85 q104 q1465) rfl rfl rfl (by decide +kernel) ⟨Nat.le_of_ble_eq_true rfl, Nat.le_of_ble_eq_true rfl⟩) rfl hl.1 rfl (Nat.le_of_ble_eq_true rfl) dX9_starts_1 ⟨Nat.le_of_ble_eq_true rfl, Nat.le_of_ble_eq_true rfl⟩ (fun B1 H locs h1 hP hS => ?_)
  have h1 : B1 = upc B 5 (B 2) := h1
  subst h1
  refine lv_iconst (v := 0) hx hb dX9_starts_4 (by decide) ?_
  refine lv_istore_n (lv' := [(1, .int 0), (0, .ref mb)]) hx hb dX9_starts_5 rfl hl (by decide) rfl (fun ls hl => ?_)
  refine W.loop (σ := Nat) (fun k H locs ls => k ≤ 6 ∧ (True) ∧ MW D t mb (stB B k) H ∧ va_S (mA mb) s.heap H locs ∧ lv_has ls 2 [(1, .int (nI k)), (0, .ref mb)]) (fun k => 6 - k) (fun k H locs ls hIk ihk => ?_) 0 ⟨by omega, trivial, (by rw [show stB B 0 = upc B 5 (B 2) from (stB_0 B)]; exact hP), hS, lv_sub hl [0, 1] rfl⟩
  obtain ⟨hk, hEk, hP, hS, hl⟩ := hIk
  refine lv_iload_n hx hb dX9_starts_6 rfl (lv_at hl 0 rfl) ?_
  refine lv_bipush (v := 6) hx hb dX9_starts_7 (by decide) ?_
  refine lv_icmp_ge (tgt := 32) hx hb dX9_starts_9 (by decide) (fun c9 => ?_) (fun c9 => ?_)
  · obtain rfl : k = 6 := Nat.le_antisymm hk (lp_end (n := 6) rfl (by omega) (by omega) c9)
    exact m_vret hx hb hr rfl hP hS dX9_starts_32 hlk
  · have hk2 : k < 6 := lp_go (n := 6) rfl (by omega) (by omega) c9
    refine lv_aload_n hx hb dX9_starts_12 rfl (lv_at hl 1 rfl) ?_
    refine m_get hx hb hts hown hKK hP 8 (by decide) q1255 rfl rfl dX9_starts_13 ?_
    refine lv_iload_n hx hb dX9_starts_16 rfl (lv_at hl 0 rfl) ?_
    refine lv_iload_n hx hb dX9_starts_17 rfl (lv_at hl 0 rfl) ?_
    refine m_ast hx hb hKK hP hS 8 rfl (k := k) rfl (by omega) (by decide) rfl dX9_starts_18 (fun H locs hP hS => ?_)
    refine lv_aload_n hx hb dX9_starts_19 rfl (lv_at hl 1 rfl) ?_
    refine m_get hx hb hts hown hKK hP 9 (by decide) q1256 rfl rfl dX9_starts_20 ?_
    refine lv_iload_n hx hb dX9_starts_23 rfl (lv_at hl 0 rfl) ?_
    refine lv_iload_n hx hb dX9_starts_24 rfl (lv_at hl 0 rfl) ?_
    refine m_ast hx hb hKK hP hS 9 rfl (k := k) rfl (by omega) (by decide) rfl dX9_starts_25 (fun H locs hP hS => ?_)
    refine lv_iinc (v := nI (k + 1)) (lv' := [(1, .int (nI (k + 1))), (0, .ref mb)]) hx hb dX9_starts_26 hl (k := 0) rfl (nI_1 k) (by decide) rfl (fun ls hl => ?_)
    refine lv_goto (tgt := 6) hx hb dX9_starts_29 (by decide) ?_
    exact ihk (k + 1) H locs ls (by omega) ⟨by omega, trivial, (by rw [show stB B (k + 1) = up2 (up2 (stB B k) 8 k (nI k)) 9 k (nI k) from (stB_step B k)]; exact hP), hS, lv_sub hl [0, 1] rfl⟩
set_option maxHeartbeats 4000000 in
theorem mm_goes (l : Launch) (D : va_G) (t : Nat → ClassId) (mb : Nat) (B : BT) (N : Nat) (ho : Ok (B 2) N) : Met l yX9_goes (ws_ yX9_goes cX9_goes 4 (some .int)) ({ frames := 4, cells := 0, slots := 0, locals := 90 }) (zPc [.ref mb] (MW D t mb B) (KK D t)) (va_Qi (fun r B' => r = gnS (B 2) ∧ B' = goE B) (fun B' U => MW D t mb B' U.heap) (mA mb)) 0 0 (mA mb) := by
  refine zOf (cc := cX9_goes) (maxL := 4) (ret := (some .int)) (by decide) (Nat.le_of_ble_eq_true rfl) (fun pg ev s m below meth cd ls F hP hKK hl hnm => ?_)
  obtain ⟨hx, hb, hml, hown, hts, hr, hlk⟩ := F
  have S : CallFix pg m cd cX9_goes 4 s _ lw_all RX9 := ⟨hx, hb, hml, hown, hts⟩
  have hl : lv_has ls 4 [(0, .ref mb)] := hl
  have hS : va_S (mA mb) s.heap s.heap [] := va_S.rf
  have hj6 := ho.h6
  have hs5 := ho.s5
  refine lv_iconst (v := 0) hx hb dX9_goes_0 (by decide) ?_
  refine lv_istore_n (lv' := [(1, .int 0), (0, .ref mb)]) hx hb dX9_goes_1 rfl hl (by decide) rfl (fun ls hl => ?_)
  refine lv_iconst (v := 0) hx hb dX9_goes_2 (by decide) ?_
  refine lv_istore_n (lv' := [(2, .int 0), (1, .int 0), (0, .ref mb)]) hx hb dX9_goes_3 rfl hl (by decide) rfl (fun ls hl => ?_)
  refine lv_iconst (v := 0) hx hb dX9_goes_4 (by decide) ?_
  refine lv_istore_n (lv' := [(3, .int 0), (2, .int 0), (1, .int 0), (0, .ref mb)]) hx hb dX9_goes_5 rfl hl (by decide) rfl (fun ls hl => ?_)
  refine W.loopR (fun (k : Nat) ls => k ≤ nH (B 2) ∧ (True) ∧ lv_has ls 4 [(3, .int (nI k)), (1, .int (huB (B 2) k)), (2, .int 0), (0, .ref mb)]) (fun k => nH (B 2) - k) (fun k ls hIk ihk => ?_) 0 ⟨by omega, trivial, lv_sub hl [0, 2, 1, 3] rfl⟩
  obtain ⟨hk, hEk, hl⟩ := hIk
  refine lv_iload_n hx hb dX9_goes_6 rfl (lv_at hl 0 rfl) ?_
  refine lv_aload_n hx hb dX9_goes_7 rfl (lv_at hl 3 rfl) ?_
  refine m_get hx hb hts hown hKK hP 1 (by decide) q1248 rfl rfl dX9_goes_8 ?_
  refine lv_iconst (v := 3) hx hb dX9_goes_11 (by decide) ?_
  refine m_ald hx hb hKK hP 2 rfl (k := 3) (v := B 2 3) rfl (by omega) (by decide) rfl dX9_goes_12 ?_
  refine lv_icmp_ge (tgt := 40) hx hb dX9_goes_13 (by decide) (fun c13 => ?_) (fun c13 => ?_)
  · obtain rfl : k = nH (B 2) := Nat.le_antisymm hk (lp_end ho.hr3 (by omega) (by omega) c13)
    refine lv_iconst (v := 0) hx hb dX9_goes_40 (by decide) ?_
    refine lv_istore_n (lv' := [(3, .int 0), (1, .int (huB (B 2) (nH (B 2)))), (2, .int 0), (0, .ref mb)]) hx hb dX9_goes_41 rfl hl (by decide) rfl (fun ls hl => ?_)
    refine W.loop (σ := Nat) (fun i H locs ls => i ≤ nH (B 2) ∧ (True) ∧ MW D t mb (go2 B i) H ∧ va_S (mA mb) s.heap H locs ∧ lv_has ls 4 [(3, .int (nI i)), (1, .int (huB (B 2) (nH (B 2)))), (2, .int 0), (0, .ref mb)]) (fun i => nH (B 2) - i) (fun i H locs ls hIi ihi => ?_) 0 ⟨by omega, trivial, (by rw [show go2 B 0 = B from (go2_0 B)]; exact hP), hS, lv_sub hl [0, 1, 2, 3] rfl⟩
    obtain ⟨hi, hEi, hP, hS, hl⟩ := hIi
    refine lv_iload_n hx hb dX9_goes_42 rfl (lv_at hl 0 rfl) ?_
    refine lv_aload_n hx hb dX9_goes_43 rfl (lv_at hl 3 rfl) ?_
    refine m_get hx hb hts hown hKK hP 1 (by decide) q1248 rfl rfl dX9_goes_44 ?_
    refine lv_iconst (v := 3) hx hb dX9_goes_47 (by decide) ?_
    refine m_ald hx hb hKK hP 2 rfl (k := 3) (v := B 2 3) rfl (by omega) (by decide) rfl dX9_goes_48 ?_
    refine lv_icmp_ge (tgt := 76) hx hb dX9_goes_49 (by decide) (fun c49 => ?_) (fun c49 => ?_)
    · obtain rfl : i = nH (B 2) := Nat.le_antisymm hi (lp_end ho.hr3 (by omega) (by omega) c49)
      refine lv_iconst (v := 0) hx hb dX9_goes_76 (by decide) ?_
      refine lv_istore_n (lv' := [(3, .int 0), (1, .int (huB (B 2) (nH (B 2)))), (2, .int 0), (0, .ref mb)]) hx hb dX9_goes_77 rfl hl (by decide) rfl (fun ls hl => ?_)
      refine W.loop (σ := Nat) (fun k H locs ls => k ≤ nH (B 2) ∧ MW D t mb (go3 B k) H ∧ va_S (mA mb) s.heap H locs ∧ lv_has ls 4 [(3, .int (nI k)), (2, .int (nI (gnL (B 2) k))), (0, .ref mb)]) (fun k => nH (B 2) - k) (fun k H locs ls hIk ihk => ?_) 0 ⟨by omega, (by rw [go3_0]; exact hP), hS, lv_sub hl [0, 2, 3] rfl⟩
      obtain ⟨hk, hP, hS, hl⟩ := hIk
      refine lv_iload_n hx hb dX9_goes_78 rfl (lv_at hl 0 rfl) ?_
      refine lv_aload_n hx hb dX9_goes_79 rfl (lv_at hl 2 rfl) ?_
      refine m_get hx hb hts hown hKK hP 1 (by decide) q1248 rfl rfl dX9_goes_80 ?_
      refine lv_iconst (v := 3) hx hb dX9_goes_83 (by decide) ?_
      refine m_ald hx hb hKK hP 2 rfl (k := 3) (v := B 2 3) rfl (by omega) (by decide) (hoL_off (by omega)) dX9_goes_84 ?_
      refine lv_icmp_ge (tgt := 177) hx hb dX9_goes_85 (by decide) (fun c85 => ?_) (fun c85 => ?_)
      · obtain rfl : k = nH (B 2) := Nat.le_antisymm hk (lp_end ho.hr3 (by omega) (by omega) c85)
        refine lv_aload_n hx hb dX9_goes_177 rfl (lv_at hl 2 rfl) ?_
        refine m_get hx hb hts hown hKK hP 1 (by decide) q1248 rfl rfl dX9_goes_178 ?_
        refine lv_iconst (v := 4) hx hb dX9_goes_181 (by decide) ?_
        refine lv_dup2_11 hx hb dX9_goes_182 rfl rfl ?_
        refine m_ald hx hb hKK hP 2 rfl (k := 4) (v := hoL (B 2) (nH (B 2)) 4) rfl (by omega) (by decide) rfl dX9_goes_183 ?_
        refine lv_iconst (v := 1) hx hb dX9_goes_184 (by decide) ?_
        refine lv_iadd hx hb dX9_goes_185 ?_
        refine m_ast hx hb hKK hP hS 2 rfl (k := 4) rfl (by omega) (by decide) rfl dX9_goes_186 (fun H locs hP hS => ?_)
        refine lv_iload_n hx hb dX9_goes_187 rfl (lv_at hl 1 rfl) ?_
        exact m_iret hx hb hr ⟨rfl, rfl⟩ hP hS dX9_goes_188 hlk
      · have hk2 : k < nH (B 2) := lp_go ho.hr3 (by omega) (by omega) c85
        refine lv_aload_n hx hb dX9_goes_88 rfl (lv_at hl 2 rfl) ?_
        refine m_get hx hb hts hown hKK hP 6 (by decide) q1253 rfl rfl dX9_goes_89 ?_
        refine lv_iload_n hx hb dX9_goes_92 rfl (lv_at hl 0 rfl) ?_
        refine m_ald hx hb hKK hP 6 rfl (k := k) (v := heS (B 2) k) rfl (by omega) (by decide) (tk_lt hk2) dX9_goes_93 ?_
        refine lv_if_lt (tgt := 143) hx hb dX9_goes_94 (by decide) (fun c94 => ?_) (fun c94 => ?_)
        · have hg0 : ¬ 0 ≤ heS (B 2) k := by grind
          have egn : gnL (B 2) (k + 1) = gnL (B 2) k := if_neg hg0
          have hwk : ¬ hd (hoL (B 2) k) k 3 < 0 → hd (hoL (B 2) k) k 3 = nI (ix (hd (hoL (B 2) k) k 3)) ∧ ix (hd (hoL (B 2) k) k 3) < 5 := by rw [show hd (hoL (B 2) k) k 3 = hd (B 2) k 3 from hoL_off (by omega)]; intro h; have h1 := ho.hasIx hk2 h; exact ⟨h1.1, by omega⟩
          refine lv_aload_n hx hb dX9_goes_143 rfl (lv_at hl 2 rfl) ?_
          refine lv_iload_n hx hb dX9_goes_144 rfl (lv_at hl 0 rfl) ?_
          refine m_callv (As := [.int (nI k)]) (rest := []) S hKK hP hS (mm_wanes l D t mb (go3 B k) k (by omega) (fun h => hwk h)) (cwV 1 hts (lw_V q1446 q1448 qs82 q104 q1449) rfl rfl rfl (by decide +kernel) ⟨Nat.le_of_ble_eq_true rfl, Nat.le_of_ble_eq_true rfl⟩) rfl hl.1 rfl (Nat.le_of_ble_eq_true rfl) dX9_goes_145 ⟨Nat.le_of_ble_eq_true rfl, Nat.le_of_ble_eq_true rfl⟩ (fun B145 H locs h145 hP hS => ?_)
          have h145 : B145 = upc (go3 B k) 2 (waS ((go3 B k) 2) k) := h145
          subst h145
          refine lv_aload_n hx hb dX9_goes_148 rfl (lv_at hl 2 rfl) ?_
          refine lv_iload_n hx hb dX9_goes_149 rfl (lv_at hl 0 rfl) ?_
          refine lv_iconst (v := 5) hx hb dX9_goes_150 (by decide) ?_
          refine m_callr (As := [.int (nI k), .int 5]) (rest := []) S hKK hP (mm_at l D t mb (upc (go3 B k) 2 (waS ((go3 B k) 2) k)) k 5 (by omega)) (cwV 2 hts (lw_V q1386 q1388 qs75 q104 q1389) rfl rfl rfl (by decide +kernel) ⟨Nat.le_of_ble_eq_true rfl, Nat.le_of_ble_eq_true rfl⟩) rfl hl.1 rfl (Nat.le_of_ble_eq_true rfl) dX9_goes_151 ⟨Nat.le_of_ble_eq_true rfl, Nat.le_of_ble_eq_true rfl⟩ ?_
          refine z_top (y := hd (waS (hoL (B 2) k) k) k 5) rfl ?_
          refine lv_if_le (tgt := 171) hx hb dX9_goes_154 (by decide) (fun c154 => ?_) (fun c154 => ?_)
          · have hgu : ¬ 0 < hd (waS (hoL (B 2) k) k) k 5 := by grind
            refine lv_iinc (v := nI (k + 1)) (lv' := [(3, .int (nI (k + 1))), (2, .int (nI (gnL (B 2) k))), (0, .ref mb)]) hx hb dX9_goes_171 hl (k := 0) rfl (nI_1 k) (by decide) rfl (fun ls hl => ?_)
            refine lv_goto (tgt := 78) hx hb dX9_goes_174 (by decide) ?_
            exact ihk (k + 1) H locs ls (by omega) ⟨by omega, (by rw [go3_w0 hg0 hgu]; exact hP), hS, (by rw [egn]; exact lv_sub hl [0, 1, 2] rfl)⟩
          · have hgu : 0 < hd (waS (hoL (B 2) k) k) k 5 := by grind
            refine lv_aload_n hx hb dX9_goes_157 rfl (lv_at hl 2 rfl) ?_
            refine lv_iload_n hx hb dX9_goes_158 rfl (lv_at hl 0 rfl) ?_
            refine lv_iconst (v := 5) hx hb dX9_goes_159 (by decide) ?_
            refine lv_aload_n hx hb dX9_goes_160 rfl (lv_at hl 2 rfl) ?_
            refine lv_iload_n hx hb dX9_goes_161 rfl (lv_at hl 0 rfl) ?_
            refine lv_iconst (v := 5) hx hb dX9_goes_162 (by decide) ?_
            refine m_callr (As := [.int (nI k), .int 5]) (rest := [.int 5, .int (nI k), .ref mb]) S hKK hP (mm_at l D t mb (upc (go3 B k) 2 (waS ((go3 B k) 2) k)) k 5 (by omega)) (cwV 2 hts (lw_V q1386 q1388 qs75 q104 q1389) rfl rfl rfl (by decide +kernel) ⟨Nat.le_of_ble_eq_true rfl, Nat.le_of_ble_eq_true rfl⟩) rfl hl.1 rfl (Nat.le_of_ble_eq_true rfl) dX9_goes_163 ⟨Nat.le_of_ble_eq_true rfl, Nat.le_of_ble_eq_true rfl⟩ ?_
            refine z_top (y := hd (waS (hoL (B 2) k) k) k 5) rfl ?_
            refine lv_iconst (v := 1) hx hb dX9_goes_166 (by decide) ?_
            refine lv_isub hx hb dX9_goes_167 ?_
            refine m_callv (As := [.int (nI k), .int 5, .int ((hd (waS (hoL (B 2) k) k) k 5) - 1)]) (rest := []) S hKK hP hS (mm_puts l D t mb (upc (go3 B k) 2 (waS ((go3 B k) 2) k)) k 5 ((hd (waS (hoL (B 2) k) k) k 5) - 1) (by omega)) (cwV 3 hts (lw_V q1354 q1356 qs68 q104 q1357) rfl rfl rfl (by decide +kernel) ⟨Nat.le_of_ble_eq_true rfl, Nat.le_of_ble_eq_true rfl⟩) rfl hl.1 rfl (Nat.le_of_ble_eq_true rfl) dX9_goes_168 ⟨Nat.le_of_ble_eq_true rfl, Nat.le_of_ble_eq_true rfl⟩ (fun B168 H locs h168 hP hS => ?_)
            have h168 : B168 = up2 (upc (go3 B k) 2 (waS ((go3 B k) 2) k)) 2 (37 + 6 * k + 5) ((hd (waS (hoL (B 2) k) k) k 5) - 1) := h168
            subst h168
            refine lv_iinc (v := nI (k + 1)) (lv' := [(3, .int (nI (k + 1))), (2, .int (nI (gnL (B 2) k))), (0, .ref mb)]) hx hb dX9_goes_171 hl (k := 0) rfl (nI_1 k) (by decide) rfl (fun ls hl => ?_)
            refine lv_goto (tgt := 78) hx hb dX9_goes_174 (by decide) ?_
            exact ihk (k + 1) H locs ls (by omega) ⟨by omega, (by rw [go3_w1 hg0 hgu]; exact hP), hS, (by rw [egn]; exact lv_sub hl [0, 1, 2] rfl)⟩
        · have hg0 : 0 ≤ heS (B 2) k := by grind
          obtain ⟨hgE, hg2, q, hq, hqb, -⟩ := heS_ok ho hg0
          have hgi := ho.ix hg0 hg2
          have egn : gnL (B 2) (k + 1) = gnL (B 2) k + 1 := if_pos hg0
          refine lv_aload_n hx hb dX9_goes_97 rfl (lv_at hl 2 rfl) ?_
          refine lv_iload_n hx hb dX9_goes_98 rfl (lv_at hl 0 rfl) ?_
          refine lv_aload_n hx hb dX9_goes_99 rfl (lv_at hl 2 rfl) ?_
          refine m_get hx hb hts hown hKK hP 6 (by decide) q1253 rfl rfl dX9_goes_100 ?_
          refine lv_iload_n hx hb dX9_goes_103 rfl (lv_at hl 0 rfl) ?_
          refine m_ald hx hb hKK hP 6 rfl (k := k) (v := heS (B 2) k) rfl (by omega) (by decide) (tk_lt hk2) dX9_goes_104 ?_
          refine m_callv (As := [.int (nI k), .int (heS (B 2) k)]) (rest := []) S hKK hP hS (mm_gets l D t mb (go3 B k) k (heS (B 2) k) (by omega) (fun _ => ⟨hgi.1, by omega⟩)) (cwV 2 hts (lw_V q1366 q1368 qs71 q104 q1369) rfl rfl rfl (by decide +kernel) ⟨Nat.le_of_ble_eq_true rfl, Nat.le_of_ble_eq_true rfl⟩) rfl hl.1 rfl (Nat.le_of_ble_eq_true rfl) dX9_goes_105 ⟨Nat.le_of_ble_eq_true rfl, Nat.le_of_ble_eq_true rfl⟩ (fun B105 H locs h105 hP hS => ?_)
          have h105 : B105 = upc (go3 B k) 2 (geS ((go3 B k) 2) k (heS (B 2) k)) := h105
          subst h105
          refine lv_aload_n hx hb dX9_goes_108 rfl (lv_at hl 2 rfl) ?_
          refine m_get hx hb hts hown hKK hP 8 (by decide) q1255 rfl rfl dX9_goes_109 ?_
          refine lv_iload_n hx hb dX9_goes_112 rfl (lv_at hl 0 rfl) ?_
          refine lv_aload_n hx hb dX9_goes_113 rfl (lv_at hl 2 rfl) ?_
          refine m_get hx hb hts hown hKK hP 7 (by decide) q1254 rfl rfl dX9_goes_114 ?_
          refine lv_iload_n hx hb dX9_goes_117 rfl (lv_at hl 0 rfl) ?_
          refine m_ald hx hb hKK hP 7 rfl (k := k) (v := byS (B 2) k) rfl (by omega) (by decide) (tk_lt hk2) dX9_goes_118 ?_
          refine m_ast hx hb hKK hP hS 8 rfl (k := k) rfl (by omega) (by decide) rfl dX9_goes_119 (fun H locs hP hS => ?_)
          refine lv_aload_n hx hb dX9_goes_120 rfl (lv_at hl 2 rfl) ?_
          refine m_get hx hb hts hown hKK hP 9 (by decide) q1256 rfl rfl dX9_goes_121 ?_
          refine lv_iload_n hx hb dX9_goes_124 rfl (lv_at hl 0 rfl) ?_
          refine lv_aload_n hx hb dX9_goes_125 rfl (lv_at hl 2 rfl) ?_
          refine m_get hx hb hts hown hKK hP 10 (by decide) q1257 rfl rfl dX9_goes_126 ?_
          refine lv_aload_n hx hb dX9_goes_129 rfl (lv_at hl 2 rfl) ?_
          refine m_get hx hb hts hown hKK hP 7 (by decide) q1254 rfl rfl dX9_goes_130 ?_
          refine lv_iload_n hx hb dX9_goes_133 rfl (lv_at hl 0 rfl) ?_
          refine m_ald hx hb hKK hP 7 rfl (k := k) (v := byS (B 2) k) rfl (by omega) (by decide) (tk_lt hk2) dX9_goes_134 ?_
          refine m_ald hx hb hKK hP 10 rfl (k := q) (v := B 9 q) hqb (by omega) (by decide) (tk_lt hq) dX9_goes_135 ?_
          refine m_ast hx hb hKK hP hS 9 rfl (k := k) rfl (by omega) (by decide) rfl dX9_goes_136 (fun H locs hP hS => ?_)
          refine lv_iinc (v := nI ((gnL (B 2) k) + 1)) (lv' := [(2, .int (nI ((gnL (B 2) k) + 1))), (3, .int (nI k)), (0, .ref mb)]) hx hb dX9_goes_137 hl (k := 1) rfl (nI_1 (gnL (B 2) k)) (by decide) rfl (fun ls hl => ?_)
          refine lv_goto (tgt := 148) hx hb dX9_goes_140 (by decide) ?_
          refine lv_aload_n hx hb dX9_goes_148 rfl (lv_at hl 2 rfl) ?_
          refine lv_iload_n hx hb dX9_goes_149 rfl (lv_at hl 1 rfl) ?_
          refine lv_iconst (v := 5) hx hb dX9_goes_150 (by decide) ?_
          refine m_callr (As := [.int (nI k), .int 5]) (rest := []) S hKK hP (mm_at l D t mb (up2 (up2 (upc (go3 B k) 2 (geS ((go3 B k) 2) k (heS (B 2) k))) 8 k (byS (B 2) k)) 9 k (B 9 q)) k 5 (by omega)) (cwV 2 hts (lw_V q1386 q1388 qs75 q104 q1389) rfl rfl rfl (by decide +kernel) ⟨Nat.le_of_ble_eq_true rfl, Nat.le_of_ble_eq_true rfl⟩) rfl hl.1 rfl (Nat.le_of_ble_eq_true rfl) dX9_goes_151 ⟨Nat.le_of_ble_eq_true rfl, Nat.le_of_ble_eq_true rfl⟩ ?_
          refine z_top (y := hd (geS (hoL (B 2) k) k (heS (B 2) k)) k 5) rfl ?_
          refine lv_if_le (tgt := 171) hx hb dX9_goes_154 (by decide) (fun c154 => ?_) (fun c154 => ?_)
          · have hgu : ¬ 0 < hd (geS (hoL (B 2) k) k (heS (B 2) k)) k 5 := by grind
            refine lv_iinc (v := nI (k + 1)) (lv' := [(3, .int (nI (k + 1))), (2, .int (nI ((gnL (B 2) k) + 1))), (0, .ref mb)]) hx hb dX9_goes_171 hl (k := 1) rfl (nI_1 k) (by decide) rfl (fun ls hl => ?_)
            refine lv_goto (tgt := 78) hx hb dX9_goes_174 (by decide) ?_
            have eq9 : B 9 q = B 9 (ix (byS (B 2) k)) := by rw [hqb, ix_nI (by omega)]
            rw [eq9] at hP
            exact ihk (k + 1) H locs ls (by omega) ⟨by omega, (by rw [go3_g0 hg0 hgu]; exact hP), hS, (by rw [egn]; exact lv_sub hl [0, 1, 2] rfl)⟩
          · have hgu : 0 < hd (geS (hoL (B 2) k) k (heS (B 2) k)) k 5 := by grind
            refine lv_aload_n hx hb dX9_goes_157 rfl (lv_at hl 2 rfl) ?_
            refine lv_iload_n hx hb dX9_goes_158 rfl (lv_at hl 1 rfl) ?_
            refine lv_iconst (v := 5) hx hb dX9_goes_159 (by decide) ?_
            refine lv_aload_n hx hb dX9_goes_160 rfl (lv_at hl 2 rfl) ?_
            refine lv_iload_n hx hb dX9_goes_161 rfl (lv_at hl 1 rfl) ?_
            refine lv_iconst (v := 5) hx hb dX9_goes_162 (by decide) ?_
            refine m_callr (As := [.int (nI k), .int 5]) (rest := [.int 5, .int (nI k), .ref mb]) S hKK hP (mm_at l D t mb (up2 (up2 (upc (go3 B k) 2 (geS ((go3 B k) 2) k (heS (B 2) k))) 8 k (byS (B 2) k)) 9 k (B 9 q)) k 5 (by omega)) (cwV 2 hts (lw_V q1386 q1388 qs75 q104 q1389) rfl rfl rfl (by decide +kernel) ⟨Nat.le_of_ble_eq_true rfl, Nat.le_of_ble_eq_true rfl⟩) rfl hl.1 rfl (Nat.le_of_ble_eq_true rfl) dX9_goes_163 ⟨Nat.le_of_ble_eq_true rfl, Nat.le_of_ble_eq_true rfl⟩ ?_
            refine z_top (y := hd (geS (hoL (B 2) k) k (heS (B 2) k)) k 5) rfl ?_
            refine lv_iconst (v := 1) hx hb dX9_goes_166 (by decide) ?_
            refine lv_isub hx hb dX9_goes_167 ?_
            refine m_callv (As := [.int (nI k), .int 5, .int ((hd (geS (hoL (B 2) k) k (heS (B 2) k)) k 5) - 1)]) (rest := []) S hKK hP hS (mm_puts l D t mb (up2 (up2 (upc (go3 B k) 2 (geS ((go3 B k) 2) k (heS (B 2) k))) 8 k (byS (B 2) k)) 9 k (B 9 q)) k 5 ((hd (geS (hoL (B 2) k) k (heS (B 2) k)) k 5) - 1) (by omega)) (cwV 3 hts (lw_V q1354 q1356 qs68 q104 q1357) rfl rfl rfl (by decide +kernel) ⟨Nat.le_of_ble_eq_true rfl, Nat.le_of_ble_eq_true rfl⟩) rfl hl.1 rfl (Nat.le_of_ble_eq_true rfl) dX9_goes_168 ⟨Nat.le_of_ble_eq_true rfl, Nat.le_of_ble_eq_true rfl⟩ (fun B168 H locs h168 hP hS => ?_)
            have h168 : B168 = up2 (up2 (up2 (upc (go3 B k) 2 (geS ((go3 B k) 2) k (heS (B 2) k))) 8 k (byS (B 2) k)) 9 k (B 9 q)) 2 (37 + 6 * k + 5) ((hd (geS (hoL (B 2) k) k (heS (B 2) k)) k 5) - 1) := h168
            subst h168
            refine lv_iinc (v := nI (k + 1)) (lv' := [(3, .int (nI (k + 1))), (2, .int (nI ((gnL (B 2) k) + 1))), (0, .ref mb)]) hx hb dX9_goes_171 hl (k := 1) rfl (nI_1 k) (by decide) rfl (fun ls hl => ?_)
            refine lv_goto (tgt := 78) hx hb dX9_goes_174 (by decide) ?_
            have eq9 : B 9 q = B 9 (ix (byS (B 2) k)) := by rw [hqb, ix_nI (by omega)]
            rw [eq9] at hP
            exact ihk (k + 1) H locs ls (by omega) ⟨by omega, (by rw [go3_g1 hg0 hgu]; exact hP), hS, (by rw [egn]; exact lv_sub hl [0, 1, 2] rfl)⟩
    · have hi2 : i < nH (B 2) := lp_go ho.hr3 (by omega) (by omega) c49
      refine lv_aload_n hx hb dX9_goes_52 rfl (lv_at hl 3 rfl) ?_
      refine lv_iload_n hx hb dX9_goes_53 rfl (lv_at hl 0 rfl) ?_
      refine lv_iload_n hx hb dX9_goes_54 rfl (lv_at hl 1 rfl) ?_
      refine m_callv (As := [.int (nI i), .int (huB (B 2) (nH (B 2)))]) (rest := []) S hKK hP hS (mm_hears l D t mb (go2 B i) N i (huB (B 2) (nH (B 2))) hi2 ho (fun o h => huB_bit hj6 h)) (cwV 2 hts (lw_V q1442 q1444 qs81 q104 q1445) rfl rfl rfl (by decide +kernel) ⟨Nat.le_of_ble_eq_true rfl, Nat.le_of_ble_eq_true rfl⟩) rfl hl.1 rfl (Nat.le_of_ble_eq_true rfl) dX9_goes_55 ⟨Nat.le_of_ble_eq_true rfl, Nat.le_of_ble_eq_true rfl⟩ (fun B55 H locs h55 hP hS => ?_)
      have h55 : B55 = heE (go2 B i) i := h55
      subst h55
      refine lv_aload_n hx hb dX9_goes_58 rfl (lv_at hl 3 rfl) ?_
      refine m_get hx hb hts hown hKK hP 10 (by decide) q1257 rfl rfl dX9_goes_59 ?_
      refine lv_iload_n hx hb dX9_goes_62 rfl (lv_at hl 0 rfl) ?_
      refine lv_aload_n hx hb dX9_goes_63 rfl (lv_at hl 3 rfl) ?_
      refine m_get hx hb hts hown hKK hP 9 (by decide) q1256 rfl rfl dX9_goes_64 ?_
      refine lv_iload_n hx hb dX9_goes_67 rfl (lv_at hl 0 rfl) ?_
      refine m_ald hx hb hKK hP 9 rfl (k := i) (v := B 9 i) rfl (by omega) (by decide) rfl dX9_goes_68 ?_
      refine m_ast hx hb hKK hP hS 10 rfl (k := i) rfl (by omega) (by decide) rfl dX9_goes_69 (fun H locs hP hS => ?_)
      refine lv_iinc (v := nI (i + 1)) (lv' := [(3, .int (nI (i + 1))), (1, .int (huB (B 2) (nH (B 2)))), (2, .int 0), (0, .ref mb)]) hx hb dX9_goes_70 hl (k := 0) rfl (nI_1 i) (by decide) rfl (fun ls hl => ?_)
      refine lv_goto (tgt := 42) hx hb dX9_goes_73 (by decide) ?_
      exact ihi (i + 1) H locs ls (by omega) ⟨by omega, trivial, (by rw [show go2 B (i + 1) = up2 (heE (go2 B i) i) 10 i (B 9 i) from (go2_step B i)]; exact hP), hS, lv_sub hl [0, 1, 2, 3] rfl⟩
  · have hk2 : k < nH (B 2) := lp_go ho.hr3 (by omega) (by omega) c13
    refine lv_iload_n hx hb dX9_goes_16 rfl (lv_at hl 1 rfl) ?_
    refine W.join (fun vJ => F0 m 32 ls (.int vJ :: [.int (huB (B 2) k)])) (fun vJ => vJ = (if huS (B 2) k = true then (1 <<< (nI k &&& 31)) else 0)) (fun vJ hJ => ?_) (fun J => ?_)
    · subst hJ
      refine lv_ior hx hb dX9_goes_32 ?_
      refine z_top (y := huB (B 2) (k + 1)) rfl ?_
      refine lv_istore_n (lv' := [(1, .int (huB (B 2) (k + 1))), (3, .int (nI k)), (2, .int 0), (0, .ref mb)]) hx hb dX9_goes_33 rfl hl (by decide) rfl (fun ls hl => ?_)
      refine lv_iinc (v := nI (k + 1)) (lv' := [(3, .int (nI (k + 1))), (1, .int (huB (B 2) (k + 1))), (2, .int 0), (0, .ref mb)]) hx hb dX9_goes_34 hl (k := 1) rfl (nI_1 k) (by decide) rfl (fun ls hl => ?_)
      refine lv_goto (tgt := 6) hx hb dX9_goes_37 (by decide) ?_
      exact ihk (k + 1) ls (by omega) ⟨by omega, trivial, lv_sub hl [0, 1, 2, 3] rfl⟩
    · refine lv_aload_n hx hb dX9_goes_17 rfl (lv_at hl 3 rfl) ?_
      refine lv_iload_n hx hb dX9_goes_18 rfl (lv_at hl 0 rfl) ?_
      refine m_callr (As := [.int (nI k)]) (rest := [.int (huB (B 2) k)]) S hKK hP (mm_hums l D t mb B k (by omega)) (cwV 1 hts (lw_V q1398 q1400 qs77 q104 q1401) rfl rfl rfl (by decide +kernel) ⟨Nat.le_of_ble_eq_true rfl, Nat.le_of_ble_eq_true rfl⟩) rfl hl.1 rfl (Nat.le_of_ble_eq_true rfl) dX9_goes_19 ⟨Nat.le_of_ble_eq_true rfl, Nat.le_of_ble_eq_true rfl⟩ ?_
      refine z_ifeq (tgt := 31) hx hb dX9_goes_22 (by decide) (fun c22 => ?_) (fun c22 => ?_)
      · refine lv_iconst (v := 0) hx hb dX9_goes_31 (by decide) ?_
        exact J _ (by grind)
      · refine lv_iconst (v := 1) hx hb dX9_goes_25 (by decide) ?_
        refine lv_iload_n hx hb dX9_goes_26 rfl (lv_at hl 0 rfl) ?_
        refine lv_ishl hx hb dX9_goes_27 ?_
        refine lv_goto (tgt := 32) hx hb dX9_goes_28 (by decide) ?_
        exact J _ (by grind)
set_option maxHeartbeats 4000000 in
theorem mm_goesFor (l : Launch) (D : va_G) (t : Nat → ClassId) (mb : Nat) (B : BT) (N n : Nat) (ho : Ok (B 2) N) (hN : N + n < 2 ^ 30) : Met l yX9_goesFor (ws_ yX9_goesFor cX9_goesFor 3 none) ({ frames := 5, cells := 0, slots := 0, locals := 113 }) (zPc [.ref mb, .int (nI n)] (MW D t mb B) (KK D t)) (va_Qv (fun B' => B' = grB B n) (fun B' U => MW D t mb B' U.heap) (mA mb)) 0 0 (mA mb) := by
  refine zOf (cc := cX9_goesFor) (maxL := 3) (ret := none) (by decide) (Nat.le_of_ble_eq_true rfl) (fun pg ev s m below meth cd ls F hP hKK hl hnm => ?_)
  obtain ⟨hx, hb, hml, hown, hts, hr, hlk⟩ := F
  have S : CallFix pg m cd cX9_goesFor 3 s _ lw_all RX9 := ⟨hx, hb, hml, hown, hts⟩
  have hl : lv_has ls 3 [(0, .ref mb), (1, .int (nI n))] := hl
  have hS : va_S (mA mb) s.heap s.heap [] := va_S.rf
  refine lv_iconst (v := 0) hx hb dX9_goesFor_0 (by decide) ?_
  refine lv_istore_n (lv' := [(2, .int 0), (0, .ref mb), (1, .int (nI n))]) hx hb dX9_goesFor_1 rfl hl (by decide) rfl (fun ls hl => ?_)
  refine W.loop (σ := Nat) (fun k H locs ls => k ≤ n ∧ (True) ∧ MW D t mb (grB B k) H ∧ va_S (mA mb) s.heap H locs ∧ lv_has ls 3 [(2, .int (nI k)), (0, .ref mb), (1, .int (nI n))]) (fun k => n - k) (fun k H locs ls hIk ihk => ?_) 0 ⟨by omega, trivial, (by rw [show grB B 0 = B from rfl]; exact hP), hS, lv_sub hl [0, 1, 2] rfl⟩
  obtain ⟨hk, hEk, hP, hS, hl⟩ := hIk
  refine lv_iload_n hx hb dX9_goesFor_2 rfl (lv_at hl 0 rfl) ?_
  refine lv_iload_n hx hb dX9_goesFor_3 rfl (lv_at hl 2 rfl) ?_
  refine lv_icmp_ge (tgt := 18) hx hb dX9_goesFor_4 (by decide) (fun c4 => ?_) (fun c4 => ?_)
  · obtain rfl : k = n := Nat.le_antisymm hk (lp_end (n := n) rfl (by omega) (by omega) c4)
    exact m_vret hx hb hr rfl hP hS dX9_goesFor_18 hlk
  · have hk2 : k < n := lp_go (n := n) rfl (by omega) (by omega) c4
    have hok : Ok (grB B k 2) (N + k) := by rw [grB_2]; exact Ok_hrS ho (by omega)
    refine lv_aload_n hx hb dX9_goesFor_7 rfl (lv_at hl 1 rfl) ?_
    refine m_calli (As := []) (rest := []) S hKK hP hS (mm_goes l D t mb (grB B k) (N + k) hok) (cwV 0 hts (lw_V q1438 q1440 qs80 q104 q1441) rfl rfl rfl (by decide +kernel) ⟨Nat.le_of_ble_eq_true rfl, Nat.le_of_ble_eq_true rfl⟩) rfl hl.1 rfl (Nat.le_of_ble_eq_true rfl) dX9_goesFor_8 ⟨Nat.le_of_ble_eq_true rfl, Nat.le_of_ble_eq_true rfl⟩ (fun r8 B8 H locs h8 hP hS => ?_)
    obtain ⟨-, hb8⟩ : _ ∧ B8 = goE (grB B k) := h8
    subst hb8
    refine lv_pop hx hb dX9_goesFor_11 rfl ?_
    refine lv_iinc (v := nI (k + 1)) (lv' := [(2, .int (nI (k + 1))), (0, .ref mb), (1, .int (nI n))]) hx hb dX9_goesFor_12 hl (k := 0) rfl (nI_1 k) (by decide) rfl (fun ls hl => ?_)
    refine lv_goto (tgt := 2) hx hb dX9_goesFor_15 (by decide) ?_
    exact ihk (k + 1) H locs ls (by omega) ⟨by omega, trivial, (by rw [show grB B (k + 1) = goE (grB B k) from rfl]; exact hP), hS, lv_sub hl [0, 1, 2] rfl⟩
set_option maxHeartbeats 4000000 in
theorem mm_haveBehind (l : Launch) (D : va_G) (t : Nat → ClassId) (mb : Nat) (B : BT) (N n : Nat) (x : Int32) (ho : Ok (B 2) N) (hN : N + n < 2 ^ 30) : Met l yX9_haveBehind (ws_ yX9_haveBehind cX9_haveBehind 4 (some .int)) ({ frames := 6, cells := 0, slots := 0, locals := 135 }) (zPc [.ref mb, .int x, .int (nI n)] (MW D t mb B) (KK D t)) (va_Qi (fun r B' => r = haS (hrS (B 2) n) x ∧ SC B B') (fun B' U => MW D t mb B' U.heap) (mA mb)) 0 0 (mA mb) := by
  refine zOf (cc := cX9_haveBehind) (maxL := 4) (ret := (some .int)) (by decide) (Nat.le_of_ble_eq_true rfl) (fun pg ev s m below meth cd ls F hP hKK hl hnm => ?_)
  obtain ⟨hx, hb, hml, hown, hts, hr, hlk⟩ := F
  have S : CallFix pg m cd cX9_haveBehind 4 s _ lw_all RX9 := ⟨hx, hb, hml, hown, hts⟩
  have hl : lv_has ls 4 [(0, .ref mb), (1, .int x), (2, .int (nI n))] := hl
  have hS : va_S (mA mb) s.heap s.heap [] := va_S.rf
  refine lv_aload_n hx hb dX9_haveBehind_0 rfl (lv_at hl 0 rfl) ?_
  refine lv_iload_n hx hb dX9_haveBehind_1 rfl (lv_at hl 2 rfl) ?_
  refine m_callv (As := [.int (nI n)]) (rest := []) S hKK hP hS (mm_goesFor l D t mb B N n ho hN) (cwV 1 hts (lw_V q1466 q1468 qs86 q104 q1469) rfl rfl rfl (by decide +kernel) ⟨Nat.le_of_ble_eq_true rfl, Nat.le_of_ble_eq_true rfl⟩) rfl hl.1 rfl (Nat.le_of_ble_eq_true rfl) dX9_haveBehind_2 ⟨Nat.le_of_ble_eq_true rfl, Nat.le_of_ble_eq_true rfl⟩ (fun B2 H locs h2 hP hS => ?_)
  have h2 : B2 = grB B n := h2
  subst h2
  have hok : Ok (grB B n 2) (N + n) := by rw [grB_2]; exact Ok_hrS ho hN
  have hh3 := hok.hr3
  have hh6 := hok.h6
  refine lv_aload_n hx hb dX9_haveBehind_5 rfl (lv_at hl 0 rfl) ?_
  refine lv_iload_n hx hb dX9_haveBehind_6 rfl (lv_at hl 1 rfl) ?_
  refine m_callr (As := [.int x]) (rest := []) S hKK hP (mm_haveIt l D t mb (grB B n) x hh3 hh6) (cwV 1 hts (lw_V q1382 q1384 qs74 q104 q1385) rfl rfl rfl (by decide +kernel) ⟨Nat.le_of_ble_eq_true rfl, Nat.le_of_ble_eq_true rfl⟩) rfl hl.1 rfl (Nat.le_of_ble_eq_true rfl) dX9_haveBehind_7 ⟨Nat.le_of_ble_eq_true rfl, Nat.le_of_ble_eq_true rfl⟩ ?_
  refine z_top (y := haS (hrS (B 2) n) x) (by rw [grB_2]) ?_
  refine lv_istore_n (lv' := [(3, .int (haS (hrS (B 2) n) x)), (0, .ref mb), (1, .int x), (2, .int (nI n))]) hx hb dX9_haveBehind_10 rfl hl (by decide) rfl (fun ls hl => ?_)
  refine lv_aload_n hx hb dX9_haveBehind_11 rfl (lv_at hl 1 rfl) ?_
  refine m_callv (As := []) (rest := []) S hKK hP hS (mm_ends l D t mb (grB B n) ) (cwV 0 hts (lw_V q1470 q1472 qs87 q104 q1473) rfl rfl rfl (by decide +kernel) ⟨Nat.le_of_ble_eq_true rfl, Nat.le_of_ble_eq_true rfl⟩) rfl hl.1 rfl (Nat.le_of_ble_eq_true rfl) dX9_haveBehind_12 ⟨Nat.le_of_ble_eq_true rfl, Nat.le_of_ble_eq_true rfl⟩ (fun B12 H locs h12 hP hS => ?_)
  have h12 : B12 = upc (grB B n) 2 ((grB B n) 5) := h12
  subst h12
  refine lv_iload_n hx hb dX9_haveBehind_15 rfl (lv_at hl 0 rfl) ?_
  exact m_iret hx hb hr ⟨rfl, by rw [grB_x B (by decide)]; exact SC_gr B n⟩ hP hS dX9_haveBehind_16 hlk
