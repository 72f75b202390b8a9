/-! THE MODEL's LEAVES: printed by wip/D-96246w/gen/gen_m1.py -/
set_option maxRecDepth 100000
set_option maxHeartbeats 4000000 in
theorem mm_isIn (l : Launch) (D : va_G) (t : Nat → ClassId) (x n : Int32) : Met l yX9_isIn (ws_ yX9_isIn cX9_isIn 2 (some .boolean)) ({ frames := 0, cells := 0, slots := 0, locals := 0 }) (zPc [.int x, .int n] (fun _ => True) (KK D t)) (QcRead (bI (decide (0 ≤ x ∧ x < n)))) 0 0 (fun _ => False) := by
  refine zOf (cc := cX9_isIn) (maxL := 2) (ret := (some .boolean)) (by decide) (Nat.le_of_ble_eq_true rfl) (fun pg ev s m below meth cd ls F hP hKK hl hnm => ?_)
  obtain ⟨hx, hb, hml, hown, hts, hr, hlk⟩ := F
  have S : CallFix pg m cd cX9_isIn 2 s _ lw_all RX9 := ⟨hx, hb, hml, hown, hts⟩
  have hl : lv_has ls 2 [(0, .int x), (1, .int n)] := hl
  refine lv_iload_n hx hb dX9_isIn_0 rfl (lv_at hl 0 rfl) ?_
  refine lv_if_lt (tgt := 13) hx hb dX9_isIn_1 (by decide) (fun c1 => ?_) (fun c1 => ?_)
  · refine lv_iconst (v := 0) hx hb dX9_isIn_13 (by decide) ?_
    exact z_bretR hx hb hr (by grind [bI]) (fun q h => by cases h) rfl dX9_isIn_14 hlk
  · refine lv_iload_n hx hb dX9_isIn_4 rfl (lv_at hl 0 rfl) ?_
    refine lv_iload_n hx hb dX9_isIn_5 rfl (lv_at hl 1 rfl) ?_
    refine lv_icmp_ge (tgt := 13) hx hb dX9_isIn_6 (by decide) (fun c6 => ?_) (fun c6 => ?_)
    · refine lv_iconst (v := 0) hx hb dX9_isIn_13 (by decide) ?_
      exact z_bretR hx hb hr (by grind [bI]) (fun q h => by cases h) rfl dX9_isIn_14 hlk
    · refine lv_iconst (v := 1) hx hb dX9_isIn_9 (by decide) ?_
      refine lv_goto (tgt := 14) hx hb dX9_isIn_10 (by decide) ?_
      exact z_bretR hx hb hr (by grind [bI]) (fun q h => by cases h) rfl dX9_isIn_14 hlk
set_option maxHeartbeats 4000000 in
theorem mm_within (l : Launch) (D : va_G) (t : Nat → ClassId) (x a b : Int32) : Met l yX9_within (ws_ yX9_within cX9_within 3 (some .int)) ({ frames := 0, cells := 0, slots := 0, locals := 0 }) (zPc [.int x, .int a, .int b] (fun _ => True) (KK D t)) (QcRead (wiS x a b)) 0 0 (fun _ => False) := by
  refine zOf (cc := cX9_within) (maxL := 3) (ret := (some .int)) (by decide) (Nat.le_of_ble_eq_true rfl) (fun pg ev s m below meth cd ls F hP hKK hl hnm => ?_)
  obtain ⟨hx, hb, hml, hown, hts, hr, hlk⟩ := F
  have S : CallFix pg m cd cX9_within 3 s _ lw_all RX9 := ⟨hx, hb, hml, hown, hts⟩
  have hl : lv_has ls 3 [(0, .int x), (1, .int a), (2, .int b)] := hl
  refine lv_iload_n hx hb dX9_within_0 rfl (lv_at hl 0 rfl) ?_
  refine lv_iload_n hx hb dX9_within_1 rfl (lv_at hl 1 rfl) ?_
  refine lv_icmp_ge (tgt := 10) hx hb dX9_within_2 (by decide) (fun c2 => ?_) (fun c2 => ?_)
  · refine lv_iload_n hx hb dX9_within_10 rfl (lv_at hl 0 rfl) ?_
    refine lv_iload_n hx hb dX9_within_11 rfl (lv_at hl 2 rfl) ?_
    refine lv_icmp_le (tgt := 20) hx hb dX9_within_12 (by decide) (fun c12 => ?_) (fun c12 => ?_)
    · refine lv_iconst (v := 0) hx hb dX9_within_20 (by decide) ?_
      exact z_iretR hx hb hr (by grind [wiS]) (fun q h => by cases h) rfl dX9_within_21 hlk
    · refine lv_bipush (v := (-6)) hx hb dX9_within_15 (by decide) ?_
      refine lv_goto (tgt := 21) hx hb dX9_within_17 (by decide) ?_
      exact z_iretR hx hb hr (by grind [wiS]) (fun q h => by cases h) rfl dX9_within_21 hlk
  · refine lv_bipush (v := (-4)) hx hb dX9_within_5 (by decide) ?_
    refine lv_goto (tgt := 21) hx hb dX9_within_7 (by decide) ?_
    exact z_iretR hx hb hr (by grind [wiS]) (fun q h => by cases h) rfl dX9_within_21 hlk
set_option maxHeartbeats 4000000 in
theorem mm_refuse (l : Launch) (D : va_G) (t : Nat → ClassId) (mb : Nat) (B : BT) (x : Int32) (k : Nat) (hk : -x = nI k) (h7 : k < 7) : Met l yX9_refuse (ws_ yX9_refuse cX9_refuse 2 (some .int)) ({ frames := 0, cells := 0, slots := 0, locals := 0 }) (zPc [.ref mb, .int x] (MW D t mb B) (KK D t)) (va_Qi (fun r B' => r = x ∧ B' = up2 B 1 k (B 1 k + 1)) (fun B' U => MW D t mb B' U.heap) (mA mb)) 0 0 (mA mb) := by
  refine zOf (cc := cX9_refuse) (maxL := 2) (ret := (some .int)) (by decide) (Nat.le_of_ble_eq_true rfl) (fun pg ev s m below meth cd ls F hP hKK hl hnm => ?_)
  obtain ⟨hx, hb, hml, hown, hts, hr, hlk⟩ := F
  have S : CallFix pg m cd cX9_refuse 2 s _ lw_all RX9 := ⟨hx, hb, hml, hown, hts⟩
  have hl : lv_has ls 2 [(0, .ref mb), (1, .int x)] := hl
  have hS : va_S (mA mb) s.heap s.heap [] := va_S.rf
  refine lv_aload_n hx hb dX9_refuse_0 rfl (lv_at hl 0 rfl) ?_
  refine m_get hx hb hts hown hKK hP 0 (by decide) q1247 rfl rfl dX9_refuse_1 ?_
  refine lv_iload_n hx hb dX9_refuse_4 rfl (lv_at hl 1 rfl) ?_
  refine lv_ineg hx hb dX9_refuse_5 ?_
  refine lv_dup2_11 hx hb dX9_refuse_6 rfl rfl ?_
  refine m_ald hx hb hKK hP 1 rfl (k := k) (v := B 1 k) hk (by omega) (by decide) rfl dX9_refuse_7 ?_
  refine lv_iconst (v := 1) hx hb dX9_refuse_8 (by decide) ?_
  refine lv_iadd hx hb dX9_refuse_9 ?_
  refine m_ast hx hb hKK hP hS 1 rfl (k := k) hk (by omega) (by decide) rfl dX9_refuse_10 (fun H locs hP hS => ?_)
  refine lv_iload_n hx hb dX9_refuse_11 rfl (lv_at hl 1 rfl) ?_
  exact m_iret hx hb hr ⟨rfl, rfl⟩ hP hS dX9_refuse_12 hlk
set_option maxHeartbeats 4000000 in
theorem mm_at (l : Launch) (D : va_G) (t : Nat → ClassId) (mb : Nat) (B : BT) (j k : Nat) (hk : 37 + 6 * j + k < 73) : Met l yX9_at (ws_ yX9_at cX9_at 3 (some .int)) ({ frames := 0, cells := 0, slots := 0, locals := 0 }) (zPc [.ref mb, .int (nI j), .int (nI k)] (MW D t mb B) (KK D t)) (QcRead (B 2 (37 + 6 * j + k))) 0 0 (fun _ => False) := by
  refine zOf (cc := cX9_at) (maxL := 3) (ret := (some .int)) (by decide) (Nat.le_of_ble_eq_true rfl) (fun pg ev s m below meth cd ls F hP hKK hl hnm => ?_)
  obtain ⟨hx, hb, hml, hown, hts, hr, hlk⟩ := F
  have S : CallFix pg m cd cX9_at 3 s _ lw_all RX9 := ⟨hx, hb, hml, hown, hts⟩
  have hl : lv_has ls 3 [(0, .ref mb), (1, .int (nI j)), (2, .int (nI k))] := hl
  refine lv_aload_n hx hb dX9_at_0 rfl (lv_at hl 0 rfl) ?_
  refine m_get hx hb hts hown hKK hP 1 (by decide) q1248 rfl rfl dX9_at_1 ?_
  refine lv_bipush (v := 37) hx hb dX9_at_4 (by decide) ?_
  refine lv_bipush (v := 6) hx hb dX9_at_6 (by decide) ?_
  refine lv_iload_n hx hb dX9_at_8 rfl (lv_at hl 1 rfl) ?_
  refine lv_imul hx hb dX9_at_9 ?_
  refine lv_iadd hx hb dX9_at_10 ?_
  refine lv_iload_n hx hb dX9_at_11 rfl (lv_at hl 2 rfl) ?_
  refine lv_iadd hx hb dX9_at_12 ?_
  refine m_ald hx hb hKK hP 2 rfl (k := 37 + 6 * j + k) (v := B 2 (37 + 6 * j + k)) (nI_addO (nI_addO rfl (nI_mulO rfl rfl)) rfl) (by omega) (by decide) rfl dX9_at_13 ?_
  exact z_iretR hx hb hr rfl (fun q h => by cases h) rfl dX9_at_14 hlk
set_option maxHeartbeats 4000000 in
theorem mm_of (l : Launch) (D : va_G) (t : Nat → ClassId) (mb : Nat) (B : BT) (i k : Nat) (hk : 22 + 3 * i + k < 73) : Met l yX9_of (ws_ yX9_of cX9_of 3 (some .int)) ({ frames := 0, cells := 0, slots := 0, locals := 0 }) (zPc [.ref mb, .int (nI i), .int (nI k)] (MW D t mb B) (KK D t)) (QcRead (B 2 (22 + 3 * i + k))) 0 0 (fun _ => False) := by
  refine zOf (cc := cX9_of) (maxL := 3) (ret := (some .int)) (by decide) (Nat.le_of_ble_eq_true rfl) (fun pg ev s m below meth cd ls F hP hKK hl hnm => ?_)
  obtain ⟨hx, hb, hml, hown, hts, hr, hlk⟩ := F
  have S : CallFix pg m cd cX9_of 3 s _ lw_all RX9 := ⟨hx, hb, hml, hown, hts⟩
  have hl : lv_has ls 3 [(0, .ref mb), (1, .int (nI i)), (2, .int (nI k))] := hl
  refine lv_aload_n hx hb dX9_of_0 rfl (lv_at hl 0 rfl) ?_
  refine m_get hx hb hts hown hKK hP 1 (by decide) q1248 rfl rfl dX9_of_1 ?_
  refine lv_bipush (v := 22) hx hb dX9_of_4 (by decide) ?_
  refine lv_iconst (v := 3) hx hb dX9_of_6 (by decide) ?_
  refine lv_iload_n hx hb dX9_of_7 rfl (lv_at hl 1 rfl) ?_
  refine lv_imul hx hb dX9_of_8 ?_
  refine lv_iadd hx hb dX9_of_9 ?_
  refine lv_iload_n hx hb dX9_of_10 rfl (lv_at hl 2 rfl) ?_
  refine lv_iadd hx hb dX9_of_11 ?_
  refine m_ald hx hb hKK hP 2 rfl (k := 22 + 3 * i + k) (v := B 2 (22 + 3 * i + k)) (nI_addO (nI_addO rfl (nI_mulO rfl rfl)) rfl) (by omega) (by decide) rfl dX9_of_12 ?_
  exact z_iretR hx hb hr rfl (fun q h => by cases h) rfl dX9_of_13 hlk
set_option maxHeartbeats 4000000 in
theorem mm_puts (l : Launch) (D : va_G) (t : Nat → ClassId) (mb : Nat) (B : BT) (j k : Nat) (x : Int32) (hk : 37 + 6 * j + k < 73) : Met l yX9_puts (ws_ yX9_puts cX9_puts 4 none) ({ frames := 0, cells := 0, slots := 0, locals := 0 }) (zPc [.ref mb, .int (nI j), .int (nI k), .int x] (MW D t mb B) (KK D t)) (va_Qv (fun B' => B' = up2 B 2 (37 + 6 * j + k) x) (fun B' U => MW D t mb B' U.heap) (mA mb)) 0 0 (mA mb) := by
  refine zOf (cc := cX9_puts) (maxL := 4) (ret := none) (by decide) (Nat.le_of_ble_eq_true rfl) (fun pg ev s m below meth cd ls F hP hKK hl hnm => ?_)
  obtain ⟨hx, hb, hml, hown, hts, hr, hlk⟩ := F
  have S : CallFix pg m cd cX9_puts 4 s _ lw_all RX9 := ⟨hx, hb, hml, hown, hts⟩
  have hl : lv_has ls 4 [(0, .ref mb), (1, .int (nI j)), (2, .int (nI k)), (3, .int x)] := hl
  have hS : va_S (mA mb) s.heap s.heap [] := va_S.rf
  refine lv_aload_n hx hb dX9_puts_0 rfl (lv_at hl 0 rfl) ?_
  refine m_get hx hb hts hown hKK hP 1 (by decide) q1248 rfl rfl dX9_puts_1 ?_
  refine lv_bipush (v := 37) hx hb dX9_puts_4 (by decide) ?_
  refine lv_bipush (v := 6) hx hb dX9_puts_6 (by decide) ?_
  refine lv_iload_n hx hb dX9_puts_8 rfl (lv_at hl 1 rfl) ?_
  refine lv_imul hx hb dX9_puts_9 ?_
  refine lv_iadd hx hb dX9_puts_10 ?_
  refine lv_iload_n hx hb dX9_puts_11 rfl (lv_at hl 2 rfl) ?_
  refine lv_iadd hx hb dX9_puts_12 ?_
  refine lv_iload_n hx hb dX9_puts_13 rfl (lv_at hl 3 rfl) ?_
  refine m_ast hx hb hKK hP hS 2 rfl (k := 37 + 6 * j + k) (nI_addO (nI_addO rfl (nI_mulO rfl rfl)) rfl) (by omega) (by decide) rfl dX9_puts_14 (fun H locs hP hS => ?_)
  exact m_vret hx hb hr rfl hP hS dX9_puts_15 hlk
set_option maxHeartbeats 4000000 in
theorem mm_isHead (l : Launch) (D : va_G) (t : Nat → ClassId) (mb : Nat) (B : BT) (x : Int32) : Met l yX9_isHead (ws_ yX9_isHead cX9_isHead 2 (some .boolean)) ({ frames := 1, cells := 0, slots := 0, locals := 21 }) (zPc [.ref mb, .int x] (MW D t mb B) (KK D t)) (QcRead (bI (decide (0 ≤ x ∧ x < B 2 3)))) 0 0 (fun _ => False) := by
  refine zOf (cc := cX9_isHead) (maxL := 2) (ret := (some .boolean)) (by decide) (Nat.le_of_ble_eq_true rfl) (fun pg ev s m below meth cd ls F hP hKK hl hnm => ?_)
  obtain ⟨hx, hb, hml, hown, hts, hr, hlk⟩ := F
  have S : CallFix pg m cd cX9_isHead 2 s _ lw_all RX9 := ⟨hx, hb, hml, hown, hts⟩
  have hl : lv_has ls 2 [(0, .ref mb), (1, .int x)] := hl
  refine lv_iload_n hx hb dX9_isHead_0 rfl (lv_at hl 1 rfl) ?_
  refine lv_aload_n hx hb dX9_isHead_1 rfl (lv_at hl 0 rfl) ?_
  refine m_get hx hb hts hown hKK hP 1 (by decide) q1248 rfl rfl dX9_isHead_2 ?_
  refine lv_iconst (v := 3) hx hb dX9_isHead_5 (by decide) ?_
  refine m_ald hx hb hKK hP 2 rfl (k := 3) (v := B 2 3) rfl (by omega) (by decide) rfl dX9_isHead_6 ?_
  refine m_callS (As := [.int x, .int (B 2 3)]) (rest := []) S hKK trivial (mm_isIn l D t x (B 2 3)) (va_cwS 2 hts (lw_S q1330 q1331 q104 q1332) rfl rfl rfl (by decide +kernel) ⟨Nat.le_of_ble_eq_true rfl, Nat.le_of_ble_eq_true rfl⟩) rfl hl.1 rfl (Nat.le_of_ble_eq_true rfl) dX9_isHead_7 ⟨Nat.le_of_ble_eq_true rfl, Nat.le_of_ble_eq_true rfl⟩ ?_
  exact z_bretR hx hb hr rfl (fun q h => by cases h) rfl dX9_isHead_10 hlk
set_option maxHeartbeats 4000000 in
theorem mm_isSong (l : Launch) (D : va_G) (t : Nat → ClassId) (mb : Nat) (B : BT) (x : Int32) : Met l yX9_isSong (ws_ yX9_isSong cX9_isSong 2 (some .boolean)) ({ frames := 1, cells := 0, slots := 0, locals := 21 }) (zPc [.ref mb, .int x] (MW D t mb B) (KK D t)) (QcRead (bI (decide (0 ≤ x ∧ x < B 2 2)))) 0 0 (fun _ => False) := by
  refine zOf (cc := cX9_isSong) (maxL := 2) (ret := (some .boolean)) (by decide) (Nat.le_of_ble_eq_true rfl) (fun pg ev s m below meth cd ls F hP hKK hl hnm => ?_)
  obtain ⟨hx, hb, hml, hown, hts, hr, hlk⟩ := F
  have S : CallFix pg m cd cX9_isSong 2 s _ lw_all RX9 := ⟨hx, hb, hml, hown, hts⟩
  have hl : lv_has ls 2 [(0, .ref mb), (1, .int x)] := hl
  refine lv_iload_n hx hb dX9_isSong_0 rfl (lv_at hl 1 rfl) ?_
  refine lv_aload_n hx hb dX9_isSong_1 rfl (lv_at hl 0 rfl) ?_
  refine m_get hx hb hts hown hKK hP 1 (by decide) q1248 rfl rfl dX9_isSong_2 ?_
  refine lv_iconst (v := 2) hx hb dX9_isSong_5 (by decide) ?_
  refine m_ald hx hb hKK hP 2 rfl (k := 2) (v := B 2 2) rfl (by omega) (by decide) rfl dX9_isSong_6 ?_
  refine m_callS (As := [.int x, .int (B 2 2)]) (rest := []) S hKK trivial (mm_isIn l D t x (B 2 2)) (va_cwS 2 hts (lw_S q1330 q1331 q104 q1332) rfl rfl rfl (by decide +kernel) ⟨Nat.le_of_ble_eq_true rfl, Nat.le_of_ble_eq_true rfl⟩) rfl hl.1 rfl (Nat.le_of_ble_eq_true rfl) dX9_isSong_7 ⟨Nat.le_of_ble_eq_true rfl, Nat.le_of_ble_eq_true rfl⟩ ?_
  exact z_bretR hx hb hr rfl (fun q h => by cases h) rfl dX9_isSong_10 hlk
