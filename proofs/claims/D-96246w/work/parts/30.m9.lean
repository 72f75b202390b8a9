/-! THE MODEL's READER: printed by wip/D-96246w/gen/gen_m9.py -/
set_option maxRecDepth 100000
set_option maxHeartbeats 4000000 in
theorem mm_sign (l : Launch) (D : va_G) (t : Nat → ClassId) (mb : Nat) (B : BT) (n p : Nat) (hn : B 0 1 = nI n) (h96 : n ≤ 96) (hp : B 0 2 = nI p) (hp2 : p < 2 ^ 30) : Met l yX9_sign (ws_ yX9_sign cX9_sign 1 (some .int)) ({ frames := 0, cells := 0, slots := 0, locals := 0 }) (zPc [.ref mb] (MW D t mb B) (KK D t)) (QcRead (sgS (B 11) n p)) 0 0 (fun _ => False) := by
  refine zOf (cc := cX9_sign) (maxL := 1) (ret := (some .int)) (by decide) (Nat.le_of_ble_eq_true rfl) (fun pg ev s m below meth cd ls F hP hKK hl hnm => ?_)
  obtain ⟨hx, hb, hml, hown, hts, hr, hlk⟩ := F
  have S : CallFix pg m cd cX9_sign 1 s _ lw_all RX9 := ⟨hx, hb, hml, hown, hts⟩
  have hl : lv_has ls 1 [(0, .ref mb)] := hl
  refine lv_aload_n hx hb dX9_sign_0 rfl (lv_at hl 0 rfl) ?_
  refine m_get hx hb hts hown hKK hP 14 (by decide) q1261 rfl rfl dX9_sign_1 ?_
  refine lv_aload_n hx hb dX9_sign_4 rfl (lv_at hl 0 rfl) ?_
  refine m_get hx hb hts hown hKK hP 13 (by decide) q1260 rfl rfl dX9_sign_5 ?_
  refine lv_icmp_ge (tgt := 23) hx hb dX9_sign_8 (by decide) (fun c8 => ?_) (fun c8 => ?_)
  · have hpn : n ≤ p := by rw [hn, hp] at c8; exact lp_end rfl (by omega) (by omega) c8
    refine lv_iconst (v := (-1)) hx hb dX9_sign_23 (by decide) ?_
    exact z_iretR hx hb hr (by unfold sgS; first | (rw [if_pos (show p < n by omega)]; done) | (rw [if_neg (show ¬ p < n by omega)]; done)) (fun q h => by cases h) rfl dX9_sign_24 hlk
  · have hpn : p < n := by rw [hn, hp] at c8; exact lp_go rfl (by omega) (by omega) c8
    refine lv_aload_n hx hb dX9_sign_11 rfl (lv_at hl 0 rfl) ?_
    refine m_get hx hb hts hown hKK hP 11 (by decide) q1258 rfl rfl dX9_sign_12 ?_
    refine lv_aload_n hx hb dX9_sign_15 rfl (lv_at hl 0 rfl) ?_
    refine m_get hx hb hts hown hKK hP 14 (by decide) q1261 rfl rfl dX9_sign_16 ?_
    refine m_ald hx hb hKK hP 11 rfl (k := p) (v := B 11 p) hp (by omega) (by decide) rfl dX9_sign_19 ?_
    refine lv_goto (tgt := 24) hx hb dX9_sign_20 (by decide) ?_
    exact z_iretR hx hb hr (by unfold sgS; first | (rw [if_pos (show p < n by omega)]; done) | (rw [if_neg (show ¬ p < n by omega)]; done)) (fun q h => by cases h) rfl dX9_sign_24 hlk
set_option maxHeartbeats 4000000 in
theorem mm_takes (l : Launch) (D : va_G) (t : Nat → ClassId) (mb : Nat) (B : BT) (n p : Nat) (hn : B 0 1 = nI n) (h96 : n ≤ 96) (hp : B 0 2 = nI p) (hp2 : p < 2 ^ 30) (x : Int32) : Met l yX9_takes (ws_ yX9_takes cX9_takes 2 (some .boolean)) ({ frames := 1, cells := 0, slots := 0, locals := 20 }) (zPc [.ref mb, .int x] (MW D t mb B) (KK D t)) (va_Qi (fun r B' => r = bI (decide (sgS (B 11) n p = x)) ∧ B' = if sgS (B 11) n p = x then up2 B 0 2 (nI (p + 1)) else B) (fun B' U => MW D t mb B' U.heap) (mA mb)) 0 0 (mA mb) := by
  refine zOf (cc := cX9_takes) (maxL := 2) (ret := (some .boolean)) (by decide) (Nat.le_of_ble_eq_true rfl) (fun pg ev s m below meth cd ls F hP hKK hl hnm => ?_)
  obtain ⟨hx, hb, hml, hown, hts, hr, hlk⟩ := F
  have S : CallFix pg m cd cX9_takes 2 s _ lw_all RX9 := ⟨hx, hb, hml, hown, hts⟩
  have hl : lv_has ls 2 [(0, .ref mb), (1, .int x)] := hl
  have hS : va_S (mA mb) s.heap s.heap [] := va_S.rf
  refine lv_aload_n hx hb dX9_takes_0 rfl (lv_at hl 0 rfl) ?_
  refine m_callr (As := []) (rest := []) S hKK hP (mm_sign l D t mb B n p hn h96 hp (by omega)) (cwV 0 hts (lw_V q1322 q1324 qs63 q104 q1325) rfl rfl rfl (by decide +kernel) ⟨Nat.le_of_ble_eq_true rfl, Nat.le_of_ble_eq_true rfl⟩) rfl hl.1 rfl (Nat.le_of_ble_eq_true rfl) dX9_takes_1 ⟨Nat.le_of_ble_eq_true rfl, Nat.le_of_ble_eq_true rfl⟩ ?_
  refine lv_iload_n hx hb dX9_takes_4 rfl (lv_at hl 1 rfl) ?_
  refine lv_icmp_eq (tgt := 10) hx hb dX9_takes_5 (by decide) (fun c5 => ?_) (fun c5 => ?_)
  · refine lv_aload_n hx hb dX9_takes_10 rfl (lv_at hl 0 rfl) ?_
    refine lv_dup hx hb dX9_takes_11 rfl ?_
    refine m_get hx hb hts hown hKK hP 14 (by decide) q1261 rfl rfl dX9_takes_12 ?_
    refine z_top (y := nI p) hp ?_
    refine lv_iconst (v := 1) hx hb dX9_takes_15 (by decide) ?_
    refine lv_iadd hx hb dX9_takes_16 ?_
    refine z_top (y := nI (p + 1)) (nI_1 p) ?_
    refine m_put (ty := .int) hx hb hts hown hKK hP hS 14 2 (by decide) q1261 rfl rfl (by decide +kernel) rfl rfl rfl dX9_takes_17 (fun H locs hP hS => ?_)
    refine lv_iconst (v := 1) hx hb dX9_takes_20 (by decide) ?_
    exact m_zret (b := true) hx hb hr rfl ⟨by rw [decide_eq_true c5], by rw [if_pos c5]⟩ hP hS dX9_takes_21 hlk
  · refine lv_iconst (v := 0) hx hb dX9_takes_8 (by decide) ?_
    exact m_zret (b := false) hx hb hr rfl ⟨by rw [decide_eq_false c5], by rw [if_neg c5]⟩ hP hS dX9_takes_9 hlk
set_option maxHeartbeats 4000000 in
theorem mm_readsNumber (l : Launch) (D : va_G) (t : Nat → ClassId) (mb : Nat) (B : BT) (n p : Nat) (hn : B 0 1 = nI n) (h96 : n ≤ 96) (hp : B 0 2 = nI p) (hp2 : p < 2 ^ 29) (k mo : Nat) (hk : k < 3) (hmo : mo ≤ 2) : Met l yX9_readsNumber (ws_ yX9_readsNumber cX9_readsNumber 4 (some .boolean)) ({ frames := 1, cells := 0, slots := 0, locals := 21 }) (zPc [.ref mb, .int (nI k), .int (nI mo)] (MW D t mb B) (KK D t)) (va_Qi (fun r B' => ∃ i, RN (B 11) n p mo i ∧ r = bI (decide (0 < i)) ∧ B' = rnB B n p k i) (fun B' U => MW D t mb B' U.heap) (mA mb)) 0 0 (mA mb) := by
  refine zOf (cc := cX9_readsNumber) (maxL := 4) (ret := (some .boolean)) (by decide) (Nat.le_of_ble_eq_true rfl) (fun pg ev s m below meth cd ls F hP hKK hl hnm => ?_)
  obtain ⟨hx, hb, hml, hown, hts, hr, hlk⟩ := F
  have S : CallFix pg m cd cX9_readsNumber 4 s _ lw_all RX9 := ⟨hx, hb, hml, hown, hts⟩
  have hl : lv_has ls 4 [(0, .ref mb), (1, .int (nI k)), (2, .int (nI mo))] := hl
  have hS : va_S (mA mb) s.heap s.heap [] := va_S.rf
  refine lv_aload_n hx hb dX9_readsNumber_0 rfl (lv_at hl 0 rfl) ?_
  refine m_get hx hb hts hown hKK hP 12 (by decide) q1259 rfl rfl dX9_readsNumber_1 ?_
  refine lv_iload_n hx hb dX9_readsNumber_4 rfl (lv_at hl 1 rfl) ?_
  refine lv_iconst (v := 0) hx hb dX9_readsNumber_5 (by decide) ?_
  refine m_ast hx hb hKK hP hS 12 rfl (k := k) rfl (by omega) (by decide) rfl dX9_readsNumber_6 (fun H locs hP hS => ?_)
  refine lv_iconst (v := 0) hx hb dX9_readsNumber_7 (by decide) ?_
  refine lv_istore_n (lv' := [(3, .int 0), (0, .ref mb), (1, .int (nI k)), (2, .int (nI mo))]) hx hb dX9_readsNumber_8 rfl hl (by decide) rfl (fun ls hl => ?_)
  refine W.loop (σ := Nat) (fun i H locs ls => i ≤ mo ∧ (∀ q, q < i → isD (B 11) n (p + q) = true) ∧ MW D t mb (rnB B n p k i) H ∧ va_S (mA mb) s.heap H locs ∧ lv_has ls 4 [(3, .int (nI i)), (0, .ref mb), (1, .int (nI k)), (2, .int (nI mo))]) (fun i => mo - i) (fun i H locs ls hIi ihi => ?_) 0 ⟨by omega, (fun q h => by omega), (by rw [show rnB B n p k 0 = up2 B 12 k 0 from (rnB_0 hp)]; exact hP), hS, lv_sub hl [0, 1, 2, 3] rfl⟩
  obtain ⟨hi, hEi, hP, hS, hl⟩ := hIi
  refine lv_iload_n hx hb dX9_readsNumber_9 rfl (lv_at hl 0 rfl) ?_
  refine lv_iload_n hx hb dX9_readsNumber_10 rfl (lv_at hl 3 rfl) ?_
  refine lv_icmp_ge (tgt := 68) hx hb dX9_readsNumber_11 (by decide) (fun c11 => ?_) (fun c11 => ?_)
  · have him : mo ≤ i := lp_end rfl (by omega) (by omega) c11
    have hor : i = mo ∨ isD (B 11) n (p + i) = false := Or.inl (by omega)
    refine lv_iload_n hx hb dX9_readsNumber_68 rfl (lv_at hl 0 rfl) ?_
    refine lv_if_le (tgt := 76) hx hb dX9_readsNumber_69 (by decide) (fun c69 => ?_) (fun c69 => ?_)
    · have hi0 : i = 0 := by have := lp_end (n := i) (k := 0) rfl (by omega) (by omega) c69; omega
      refine lv_iconst (v := 0) hx hb dX9_readsNumber_76 (by decide) ?_
      exact m_zret (b := decide (0 < i)) hx hb hr (by rw [decide_eq_false (by omega)]; rfl) ⟨i, ⟨by omega, hEi, hor⟩, rfl, rfl⟩ hP hS dX9_readsNumber_77 hlk
    · have hi0 : 0 < i := lp_go (n := i) (k := 0) rfl (by omega) (by omega) c69
      refine lv_iconst (v := 1) hx hb dX9_readsNumber_72 (by decide) ?_
      refine lv_goto (tgt := 77) hx hb dX9_readsNumber_73 (by decide) ?_
      exact m_zret (b := decide (0 < i)) hx hb hr (by rw [decide_eq_true hi0]; rfl) ⟨i, ⟨by omega, hEi, hor⟩, rfl, rfl⟩ hP hS dX9_readsNumber_77 hlk
  · have him : i < mo := lp_go rfl (by omega) (by omega) c11
    have hni : rnB B n p k i 0 1 = nI n := (rnB_RD (RD.rf B) n p k i).2.2.1.trans hn
    refine lv_aload_n hx hb dX9_readsNumber_14 rfl (lv_at hl 1 rfl) ?_
    refine m_callr (As := []) (rest := []) S hKK hP (mm_sign l D t mb (rnB B n p k i) n (p + i) hni h96 (rnB_p B n p k i) (by omega)) (cwV 0 hts (lw_V q1322 q1324 qs63 q104 q1325) rfl rfl rfl (by decide +kernel) ⟨Nat.le_of_ble_eq_true rfl, Nat.le_of_ble_eq_true rfl⟩) rfl hl.1 rfl (Nat.le_of_ble_eq_true rfl) dX9_readsNumber_15 ⟨Nat.le_of_ble_eq_true rfl, Nat.le_of_ble_eq_true rfl⟩ ?_
    refine z_top (y := sgS (B 11) n (p + i)) rfl ?_
    refine lv_bipush (v := 48) hx hb dX9_readsNumber_18 (by decide) ?_
    refine lv_isub hx hb dX9_readsNumber_20 ?_
    refine lv_bipush (v := 10) hx hb dX9_readsNumber_21 (by decide) ?_
    refine m_callS (As := [.int ((sgS (B 11) n (p + i)) - 48), .int 10]) (rest := []) S hKK trivial (mm_isIn l D t ((sgS (B 11) n (p + i)) - 48) 10) (va_cwS 2 hts (lw_S q1330 q1331 q104 q1332) rfl rfl rfl (by decide +kernel) ⟨Nat.le_of_ble_eq_true rfl, Nat.le_of_ble_eq_true rfl⟩) rfl hl.1 rfl (Nat.le_of_ble_eq_true rfl) dX9_readsNumber_23 ⟨Nat.le_of_ble_eq_true rfl, Nat.le_of_ble_eq_true rfl⟩ ?_
    refine z_top (y := bI (isD (B 11) n (p + i))) rfl ?_
    refine z_ifeq (tgt := 68) hx hb dX9_readsNumber_26 (by decide) (fun c26 => ?_) (fun c26 => ?_)
    · have hor : i = mo ∨ isD (B 11) n (p + i) = false := Or.inr c26
      refine lv_iload_n hx hb dX9_readsNumber_68 rfl (lv_at hl 0 rfl) ?_
      refine lv_if_le (tgt := 76) hx hb dX9_readsNumber_69 (by decide) (fun c69 => ?_) (fun c69 => ?_)
      · have hi0 : i = 0 := by have := lp_end (n := i) (k := 0) rfl (by omega) (by omega) c69; omega
        refine lv_iconst (v := 0) hx hb dX9_readsNumber_76 (by decide) ?_
        exact m_zret (b := decide (0 < i)) hx hb hr (by rw [decide_eq_false (by omega)]; rfl) ⟨i, ⟨by omega, hEi, hor⟩, rfl, rfl⟩ hP hS dX9_readsNumber_77 hlk
      · have hi0 : 0 < i := lp_go (n := i) (k := 0) rfl (by omega) (by omega) c69
        refine lv_iconst (v := 1) hx hb dX9_readsNumber_72 (by decide) ?_
        refine lv_goto (tgt := 77) hx hb dX9_readsNumber_73 (by decide) ?_
        exact m_zret (b := decide (0 < i)) hx hb hr (by rw [decide_eq_true hi0]; rfl) ⟨i, ⟨by omega, hEi, hor⟩, rfl, rfl⟩ hP hS dX9_readsNumber_77 hlk
    · refine lv_aload_n hx hb dX9_readsNumber_29 rfl (lv_at hl 1 rfl) ?_
      refine m_get hx hb hts hown hKK hP 12 (by decide) q1259 rfl rfl dX9_readsNumber_30 ?_
      refine lv_iload_n hx hb dX9_readsNumber_33 rfl (lv_at hl 2 rfl) ?_
      refine lv_bipush (v := 10) hx hb dX9_readsNumber_34 (by decide) ?_
      refine lv_aload_n hx hb dX9_readsNumber_36 rfl (lv_at hl 1 rfl) ?_
      refine m_get hx hb hts hown hKK hP 12 (by decide) q1259 rfl rfl dX9_readsNumber_37 ?_
      refine lv_iload_n hx hb dX9_readsNumber_40 rfl (lv_at hl 2 rfl) ?_
      refine m_ald hx hb hKK hP 12 rfl (k := k) (v := vL (B 11) n p i) rfl (by omega) (by decide) (rnB_t B n p k i) dX9_readsNumber_41 ?_
      refine lv_imul hx hb dX9_readsNumber_42 ?_
      refine lv_aload_n hx hb dX9_readsNumber_43 rfl (lv_at hl 1 rfl) ?_
      refine m_callr (As := []) (rest := [.int (10 * (vL (B 11) n p i)), .int (nI k), .ref (mb + 12)]) S hKK hP (mm_sign l D t mb (rnB B n p k i) n (p + i) hni h96 (rnB_p B n p k i) (by omega)) (cwV 0 hts (lw_V q1322 q1324 qs63 q104 q1325) rfl rfl rfl (by decide +kernel) ⟨Nat.le_of_ble_eq_true rfl, Nat.le_of_ble_eq_true rfl⟩) rfl hl.1 rfl (Nat.le_of_ble_eq_true rfl) dX9_readsNumber_44 ⟨Nat.le_of_ble_eq_true rfl, Nat.le_of_ble_eq_true rfl⟩ ?_
      refine z_top (y := sgS (B 11) n (p + i)) rfl ?_
      refine lv_iadd hx hb dX9_readsNumber_47 ?_
      refine lv_bipush (v := 48) hx hb dX9_readsNumber_48 (by decide) ?_
      refine lv_isub hx hb dX9_readsNumber_50 ?_
      refine m_ast hx hb hKK hP hS 12 rfl (k := k) rfl (by omega) (by decide) rfl dX9_readsNumber_51 (fun H locs hP hS => ?_)
      refine lv_aload_n hx hb dX9_readsNumber_52 rfl (lv_at hl 1 rfl) ?_
      refine lv_dup hx hb dX9_readsNumber_53 rfl ?_
      refine m_get hx hb hts hown hKK hP 14 (by decide) q1261 rfl rfl dX9_readsNumber_54 ?_
      refine z_top (y := nI (p + i)) (rnB_p B n p k i) ?_
      refine lv_iconst (v := 1) hx hb dX9_readsNumber_57 (by decide) ?_
      refine lv_iadd hx hb dX9_readsNumber_58 ?_
      refine z_top (y := nI (p + i + 1)) (nI_1 _) ?_
      refine m_put (ty := .int) hx hb hts hown hKK hP hS 14 2 (by decide) q1261 rfl rfl (by decide +kernel) rfl rfl rfl dX9_readsNumber_59 (fun H locs hP hS => ?_)
      refine lv_iinc (v := nI (i + 1)) (lv' := [(3, .int (nI (i + 1))), (0, .ref mb), (1, .int (nI k)), (2, .int (nI mo))]) hx hb dX9_readsNumber_62 hl (k := 0) rfl (nI_1 i) (by decide) rfl (fun ls hl => ?_)
      refine lv_goto (tgt := 9) hx hb dX9_readsNumber_65 (by decide) ?_
      exact ihi (i + 1) H locs ls (by omega) ⟨by omega, (fun q h => by rcases Nat.lt_or_ge q i with z | z; exact hEi q z; rw [show q = i by omega]; exact c26), (by rw [show rnB B n p k (i + 1) = up2 (up2 (rnB B n p k i) 12 k (((10 * (vL (B 11) n p i)) + (sgS (B 11) n (p + i))) - 48)) 0 2 (nI (p + i + 1)) from (rnB_step B n p k i)]; exact hP), hS, lv_sub hl [0, 1, 2, 3] rfl⟩
set_option maxHeartbeats 4000000 in
theorem mm_songOf (l : Launch) (D : va_G) (t : Nat → ClassId) (x : Int32) : Met l yX9_songOf (ws_ yX9_songOf cX9_songOf 1 (some .int)) ({ frames := 0, cells := 0, slots := 0, locals := 0 }) (zPc [.int x] (fun _ => True) (KK D t)) (QcRead (soO x)) 0 0 (fun _ => False) := by
  refine zOf (cc := cX9_songOf) (maxL := 1) (ret := (some .int)) (by decide) (Nat.le_of_ble_eq_true rfl) (fun pg ev s m below meth cd ls F hP hKK hl hnm => ?_)
  obtain ⟨hx, hb, hml, hown, hts, hr, hlk⟩ := F
  have S : CallFix pg m cd cX9_songOf 1 s _ lw_all RX9 := ⟨hx, hb, hml, hown, hts⟩
  have hl : lv_has ls 1 [(0, .int x)] := hl
  refine lv_iload_n hx hb dX9_songOf_0 rfl (lv_at hl 0 rfl) ?_
  refine lv_bipush (v := 115) hx hb dX9_songOf_1 (by decide) ?_
  refine lv_icmp_ne (tgt := 10) hx hb dX9_songOf_3 (by decide) (fun c3 => ?_) (fun c3 => ?_)
  · refine lv_iload_n hx hb dX9_songOf_10 rfl (lv_at hl 0 rfl) ?_
    refine lv_bipush (v := 108) hx hb dX9_songOf_11 (by decide) ?_
    refine lv_icmp_ne (tgt := 20) hx hb dX9_songOf_13 (by decide) (fun c13 => ?_) (fun c13 => ?_)
    · refine lv_iload_n hx hb dX9_songOf_20 rfl (lv_at hl 0 rfl) ?_
      refine lv_bipush (v := 113) hx hb dX9_songOf_21 (by decide) ?_
      refine lv_icmp_ne (tgt := 30) hx hb dX9_songOf_23 (by decide) (fun c23 => ?_) (fun c23 => ?_)
      · refine lv_iload_n hx hb dX9_songOf_30 rfl (lv_at hl 0 rfl) ?_
        refine lv_bipush (v := 99) hx hb dX9_songOf_31 (by decide) ?_
        refine lv_icmp_ne (tgt := 40) hx hb dX9_songOf_33 (by decide) (fun c33 => ?_) (fun c33 => ?_)
        · refine lv_iload_n hx hb dX9_songOf_40 rfl (lv_at hl 0 rfl) ?_
          refine lv_bipush (v := 106) hx hb dX9_songOf_41 (by decide) ?_
          refine lv_icmp_ne (tgt := 50) hx hb dX9_songOf_43 (by decide) (fun c43 => ?_) (fun c43 => ?_)
          · refine lv_iload_n hx hb dX9_songOf_50 rfl (lv_at hl 0 rfl) ?_
            refine lv_bipush (v := 104) hx hb dX9_songOf_51 (by decide) ?_
            refine lv_icmp_ne (tgt := 60) hx hb dX9_songOf_53 (by decide) (fun c53 => ?_) (fun c53 => ?_)
            · refine lv_bipush (v := (-9)) hx hb dX9_songOf_60 (by decide) ?_
              exact z_iretR hx hb hr (by grind [soO]) (fun q h => by cases h) rfl dX9_songOf_62 hlk
            · refine lv_iconst (v := 5) hx hb dX9_songOf_56 (by decide) ?_
              refine lv_goto (tgt := 62) hx hb dX9_songOf_57 (by decide) ?_
              exact z_iretR hx hb hr (by grind [soO]) (fun q h => by cases h) rfl dX9_songOf_62 hlk
          · refine lv_iconst (v := 4) hx hb dX9_songOf_46 (by decide) ?_
            refine lv_goto (tgt := 62) hx hb dX9_songOf_47 (by decide) ?_
            exact z_iretR hx hb hr (by grind [soO]) (fun q h => by cases h) rfl dX9_songOf_62 hlk
        · refine lv_iconst (v := 3) hx hb dX9_songOf_36 (by decide) ?_
          refine lv_goto (tgt := 62) hx hb dX9_songOf_37 (by decide) ?_
          exact z_iretR hx hb hr (by grind [soO]) (fun q h => by cases h) rfl dX9_songOf_62 hlk
      · refine lv_iconst (v := 2) hx hb dX9_songOf_26 (by decide) ?_
        refine lv_goto (tgt := 62) hx hb dX9_songOf_27 (by decide) ?_
        exact z_iretR hx hb hr (by grind [soO]) (fun q h => by cases h) rfl dX9_songOf_62 hlk
    · refine lv_iconst (v := 1) hx hb dX9_songOf_16 (by decide) ?_
      refine lv_goto (tgt := 62) hx hb dX9_songOf_17 (by decide) ?_
      exact z_iretR hx hb hr (by grind [soO]) (fun q h => by cases h) rfl dX9_songOf_62 hlk
  · refine lv_iconst (v := 0) hx hb dX9_songOf_6 (by decide) ?_
    refine lv_goto (tgt := 62) hx hb dX9_songOf_7 (by decide) ?_
    exact z_iretR hx hb hr (by grind [soO]) (fun q h => by cases h) rfl dX9_songOf_62 hlk
set_option maxHeartbeats 4000000 in
theorem mm_headOf (l : Launch) (D : va_G) (t : Nat → ClassId) (x : Int32) : Met l yX9_headOf (ws_ yX9_headOf cX9_headOf 1 (some .int)) ({ frames := 0, cells := 0, slots := 0, locals := 0 }) (zPc [.int x] (fun _ => True) (KK D t)) (QcRead (heO x)) 0 0 (fun _ => False) := by
  refine zOf (cc := cX9_headOf) (maxL := 1) (ret := (some .int)) (by decide) (Nat.le_of_ble_eq_true rfl) (fun pg ev s m below meth cd ls F hP hKK hl hnm => ?_)
  obtain ⟨hx, hb, hml, hown, hts, hr, hlk⟩ := F
  have S : CallFix pg m cd cX9_headOf 1 s _ lw_all RX9 := ⟨hx, hb, hml, hown, hts⟩
  have hl : lv_has ls 1 [(0, .int x)] := hl
  refine lv_iload_n hx hb dX9_headOf_0 rfl (lv_at hl 0 rfl) ?_
  refine lv_bipush (v := 104) hx hb dX9_headOf_1 (by decide) ?_
  refine lv_icmp_ne (tgt := 10) hx hb dX9_headOf_3 (by decide) (fun c3 => ?_) (fun c3 => ?_)
  · refine lv_iload_n hx hb dX9_headOf_10 rfl (lv_at hl 0 rfl) ?_
    refine lv_bipush (v := 119) hx hb dX9_headOf_11 (by decide) ?_
    refine lv_icmp_ne (tgt := 20) hx hb dX9_headOf_13 (by decide) (fun c13 => ?_) (fun c13 => ?_)
    · refine lv_iload_n hx hb dX9_headOf_20 rfl (lv_at hl 0 rfl) ?_
      refine lv_bipush (v := 100) hx hb dX9_headOf_21 (by decide) ?_
      refine lv_icmp_ne (tgt := 30) hx hb dX9_headOf_23 (by decide) (fun c23 => ?_) (fun c23 => ?_)
      · refine lv_iload_n hx hb dX9_headOf_30 rfl (lv_at hl 0 rfl) ?_
        refine lv_bipush (v := 116) hx hb dX9_headOf_31 (by decide) ?_
        refine lv_icmp_ne (tgt := 40) hx hb dX9_headOf_33 (by decide) (fun c33 => ?_) (fun c33 => ?_)
        · refine lv_iload_n hx hb dX9_headOf_40 rfl (lv_at hl 0 rfl) ?_
          refine lv_bipush (v := 98) hx hb dX9_headOf_41 (by decide) ?_
          refine lv_icmp_ne (tgt := 50) hx hb dX9_headOf_43 (by decide) (fun c43 => ?_) (fun c43 => ?_)
          · refine lv_iload_n hx hb dX9_headOf_50 rfl (lv_at hl 0 rfl) ?_
            refine lv_bipush (v := 121) hx hb dX9_headOf_51 (by decide) ?_
            refine lv_icmp_ne (tgt := 60) hx hb dX9_headOf_53 (by decide) (fun c53 => ?_) (fun c53 => ?_)
            · refine lv_bipush (v := (-9)) hx hb dX9_headOf_60 (by decide) ?_
              exact z_iretR hx hb hr (by grind [heO]) (fun q h => by cases h) rfl dX9_headOf_62 hlk
            · refine lv_iconst (v := 5) hx hb dX9_headOf_56 (by decide) ?_
              refine lv_goto (tgt := 62) hx hb dX9_headOf_57 (by decide) ?_
              exact z_iretR hx hb hr (by grind [heO]) (fun q h => by cases h) rfl dX9_headOf_62 hlk
          · refine lv_iconst (v := 4) hx hb dX9_headOf_46 (by decide) ?_
            refine lv_goto (tgt := 62) hx hb dX9_headOf_47 (by decide) ?_
            exact z_iretR hx hb hr (by grind [heO]) (fun q h => by cases h) rfl dX9_headOf_62 hlk
        · refine lv_iconst (v := 3) hx hb dX9_headOf_36 (by decide) ?_
          refine lv_goto (tgt := 62) hx hb dX9_headOf_37 (by decide) ?_
          exact z_iretR hx hb hr (by grind [heO]) (fun q h => by cases h) rfl dX9_headOf_62 hlk
      · refine lv_iconst (v := 2) hx hb dX9_headOf_26 (by decide) ?_
        refine lv_goto (tgt := 62) hx hb dX9_headOf_27 (by decide) ?_
        exact z_iretR hx hb hr (by grind [heO]) (fun q h => by cases h) rfl dX9_headOf_62 hlk
    · refine lv_iconst (v := 1) hx hb dX9_headOf_16 (by decide) ?_
      refine lv_goto (tgt := 62) hx hb dX9_headOf_17 (by decide) ?_
      exact z_iretR hx hb hr (by grind [heO]) (fun q h => by cases h) rfl dX9_headOf_62 hlk
  · refine lv_iconst (v := 0) hx hb dX9_headOf_6 (by decide) ?_
    refine lv_goto (tgt := 62) hx hb dX9_headOf_7 (by decide) ?_
    exact z_iretR hx hb hr (by grind [heO]) (fun q h => by cases h) rfl dX9_headOf_62 hlk
set_option maxHeartbeats 4000000 in
theorem mm_readsKind (l : Launch) (D : va_G) (t : Nat → ClassId) (mb : Nat) (B : BT) (n p : Nat) (hn : B 0 1 = nI n) (h96 : n ≤ 96) (hp : B 0 2 = nI p) (hp2 : p < 2 ^ 28) (x : Int32) : Met l yX9_readsKind (ws_ yX9_readsKind cX9_readsKind 2 (some .boolean)) ({ frames := 2, cells := 0, slots := 0, locals := 44 }) (zPc [.ref mb, .int x] (MW D t mb B) (KK D t)) (va_Qi (fun r B' => RK B B' n p x r) (fun B' U => MW D t mb B' U.heap) (mA mb)) 0 0 (mA mb) := by
  refine zOf (cc := cX9_readsKind) (maxL := 2) (ret := (some .boolean)) (by decide) (Nat.le_of_ble_eq_true rfl) (fun pg ev s m below meth cd ls F hP hKK hl hnm => ?_)
  obtain ⟨hx, hb, hml, hown, hts, hr, hlk⟩ := F
  have S : CallFix pg m cd cX9_readsKind 2 s _ lw_all RX9 := ⟨hx, hb, hml, hown, hts⟩
  have hl : lv_has ls 2 [(0, .ref mb), (1, .int x)] := hl
  have hS : va_S (mA mb) s.heap s.heap [] := va_S.rf
  refine lv_aload_n hx hb dX9_readsKind_0 rfl (lv_at hl 0 rfl) ?_
  refine m_get hx hb hts hown hKK hP 12 (by decide) q1259 rfl rfl dX9_readsKind_1 ?_
  refine lv_iconst (v := 0) hx hb dX9_readsKind_4 (by decide) ?_
  refine lv_iload_n hx hb dX9_readsKind_5 rfl (lv_at hl 1 rfl) ?_
  refine m_ast hx hb hKK hP hS 12 rfl (k := 0) rfl (by omega) (by decide) rfl dX9_readsKind_6 (fun H locs hP hS => ?_)
  obtain ⟨B1, hB1⟩ : ∃ z, z = up2 B 12 0 x := ⟨_, rfl⟩
  rw [← hB1] at hP
  have hR1 : RD B B1 := by rw [hB1]; exact (RD.rf B).told 0 x
  have hp1 : B1 0 2 = nI p := by rw [hB1, up2_ne _ _ _ (by decide)]; exact hp
  have ht1 : B1 12 0 = x := by rw [hB1, up2_same, upd_self]
  refine lv_iload_n hx hb dX9_readsKind_7 rfl (lv_at hl 1 rfl) ?_
  refine lv_if_ge (tgt := 13) hx hb dX9_readsKind_8 (by decide) (fun c8 => ?_) (fun c8 => ?_)
  · refine lv_aload_n hx hb dX9_readsKind_13 rfl (lv_at hl 0 rfl) ?_
    refine lv_dup hx hb dX9_readsKind_14 rfl ?_
    refine m_get hx hb hts hown hKK hP 14 (by decide) q1261 rfl rfl dX9_readsKind_15 ?_
    refine z_top (y := nI p) hp1 ?_
    refine lv_iconst (v := 1) hx hb dX9_readsKind_18 (by decide) ?_
    refine lv_iadd hx hb dX9_readsKind_19 ?_
    refine z_top (y := nI (p + 1)) (nI_1 p) ?_
    refine m_put (ty := .int) hx hb hts hown hKK hP hS 14 2 (by decide) q1261 rfl rfl (by decide +kernel) rfl rfl rfl dX9_readsKind_20 (fun H locs hP hS => ?_)
    obtain ⟨B2, hB2⟩ : ∃ z, z = up2 B1 0 2 (nI (p + 1)) := ⟨_, rfl⟩
    rw [← hB2] at hP
    have hR2 : RD B B2 := by rw [hB2]; exact hR1.place _
    have hp3 : B2 0 2 = nI (p + 1) := by rw [hB2, up2_same, upd_self]
    have ht2 : B2 12 0 = x := by rw [hB2, up2_ne _ _ _ (by decide)]; exact ht1
    have hn2 : B2 0 1 = nI n := hR2.2.2.1.trans hn
    refine lv_aload_n hx hb dX9_readsKind_23 rfl (lv_at hl 0 rfl) ?_
    refine lv_iconst (v := 1) hx hb dX9_readsKind_24 (by decide) ?_
    refine lv_iconst (v := 1) hx hb dX9_readsKind_25 (by decide) ?_
    refine m_calli (As := [.int 1, .int 1]) (rest := []) S hKK hP hS (mm_readsNumber l D t mb B2 n (p + 1) hn2 h96 hp3 (by omega) 1 1 (by omega) (by omega)) (cwV 2 hts (lw_V q1326 q1328 qs64 q104 q1329) rfl rfl rfl (by decide +kernel) ⟨Nat.le_of_ble_eq_true rfl, Nat.le_of_ble_eq_true rfl⟩) rfl hl.1 rfl (Nat.le_of_ble_eq_true rfl) dX9_readsKind_26 ⟨Nat.le_of_ble_eq_true rfl, Nat.le_of_ble_eq_true rfl⟩ (fun r26 B26 H locs h26 hP hS => ?_)
    obtain ⟨i26, hi26, hr26, hb26⟩ := h26
    rw [show B2 11 = B 11 from hR2.1 11 (by decide) (by decide)] at hi26
    have hR26 : RD B B26 := by rw [hb26]; exact rnB_RD hR2 n (p + 1) 1 i26
    have hp26 : B26 0 2 = nI (p + 1 + i26) := by rw [hb26]; exact rnB_p _ _ _ _ _
    have hn26 : B26 0 1 = nI n := hR26.2.2.1.trans hn
    have ht26 : B26 12 1 = vL (B 11) n (p + 1) i26 := by rw [hb26, rnB_t, show B2 11 = B 11 from hR2.1 11 (by decide) (by decide)]
    have ho26 : ∀ j, j ≠ 1 → B26 12 j = B2 12 j := fun j hj => by rw [hb26]; exact rnB_o _ _ _ _ _ hj
    refine z_top (y := bI (decide (0 < i26))) hr26 ?_
    refine z_ifeq (tgt := 45) hx hb dX9_readsKind_29 (by decide) (fun c29 => ?_) (fun c29 => ?_)
    · have hj26 := of_decide_eq_false c29
      have hd26 := RN1 hi26
      have hi26' : i26 = 0 := by omega
      subst hi26'
      refine lv_iconst (v := 0) hx hb dX9_readsKind_45 (by decide) ?_
      exact m_zret (b := false) hx hb hr rfl (by have e : rkP (B 11) n p x = (false, p + 1) := (by unfold rkP; rw [if_neg (show ¬ x < 0 by grind), if_neg (show ¬ isD (B 11) n (p + 1) = true by grind)]); show RK B B26 n p x (bI false); unfold RK; rw [e]; exact ⟨hR26, rfl, hp26, fun h => by cases h⟩) hP hS dX9_readsKind_46 hlk
    · have hj26 := of_decide_eq_true c29
      have hd26 := RN1 hi26
      have hi26' : i26 = 1 := by omega
      subst hi26'
      refine lv_aload_n hx hb dX9_readsKind_32 rfl (lv_at hl 0 rfl) ?_
      refine lv_iconst (v := 2) hx hb dX9_readsKind_33 (by decide) ?_
      refine lv_iconst (v := 1) hx hb dX9_readsKind_34 (by decide) ?_
      refine m_calli (As := [.int 2, .int 1]) (rest := []) S hKK hP hS (mm_readsNumber l D t mb B26 n (p + 1 + 1) hn26 h96 hp26 (by omega) 2 1 (by omega) (by omega)) (cwV 2 hts (lw_V q1326 q1328 qs64 q104 q1329) rfl rfl rfl (by decide +kernel) ⟨Nat.le_of_ble_eq_true rfl, Nat.le_of_ble_eq_true rfl⟩) rfl hl.1 rfl (Nat.le_of_ble_eq_true rfl) dX9_readsKind_35 ⟨Nat.le_of_ble_eq_true rfl, Nat.le_of_ble_eq_true rfl⟩ (fun r35 B35 H locs h35 hP hS => ?_)
      obtain ⟨i35, hi35, hr35, hb35⟩ := h35
      rw [show B26 11 = B 11 from hR26.1 11 (by decide) (by decide)] at hi35
      have hR35 : RD B B35 := by rw [hb35]; exact rnB_RD hR26 n (p + 1 + 1) 2 i35
      have hp35 : B35 0 2 = nI (p + 1 + 1 + i35) := by rw [hb35]; exact rnB_p _ _ _ _ _
      have hn35 : B35 0 1 = nI n := hR35.2.2.1.trans hn
      have ht35 : B35 12 2 = vL (B 11) n (p + 1 + 1) i35 := by rw [hb35, rnB_t, show B26 11 = B 11 from hR26.1 11 (by decide) (by decide)]
      have ho35 : ∀ j, j ≠ 2 → B35 12 j = B26 12 j := fun j hj => by rw [hb35]; exact rnB_o _ _ _ _ _ hj
      refine z_top (y := bI (decide (0 < i35))) hr35 ?_
      refine z_ifeq (tgt := 45) hx hb dX9_readsKind_38 (by decide) (fun c38 => ?_) (fun c38 => ?_)
      · have hj35 := of_decide_eq_false c38
        have hd35 := RN1 hi35
        have hi35' : i35 = 0 := by omega
        subst hi35'
        refine lv_iconst (v := 0) hx hb dX9_readsKind_45 (by decide) ?_
        exact m_zret (b := false) hx hb hr rfl (by have e : rkP (B 11) n p x = (false, p + 2) := (by unfold rkP; rw [if_neg (show ¬ x < 0 by grind), if_pos (show isD (B 11) n (p + 1) = true by grind), if_neg (show ¬ isD (B 11) n (p + 2) = true by grind)]); show RK B B35 n p x (bI false); unfold RK; rw [e]; exact ⟨hR35, rfl, hp35, fun h => by cases h⟩) hP hS dX9_readsKind_46 hlk
      · have hj35 := of_decide_eq_true c38
        have hd35 := RN1 hi35
        have hi35' : i35 = 1 := by omega
        subst hi35'
        refine lv_iconst (v := 1) hx hb dX9_readsKind_41 (by decide) ?_
        refine lv_goto (tgt := 46) hx hb dX9_readsKind_42 (by decide) ?_
        exact m_zret (b := true) hx hb hr rfl (by have e : rkP (B 11) n p x = (true, p + 3) := (by unfold rkP; rw [if_neg (show ¬ x < 0 by grind), if_pos (show isD (B 11) n (p + 1) = true by grind), if_pos (show isD (B 11) n (p + 2) = true by grind)]); show RK B B35 n p x (bI true); unfold RK; rw [e]; exact ⟨hR35, rfl, hp35, fun _ => ⟨by rw [ho35 0 (by decide), ho26 0 (by decide)]; exact ht2, by rw [ho35 1 (by decide), ht26]; exact vL1 _ _ _, by rw [ht35]; exact vL1 _ _ _⟩⟩) hP hS dX9_readsKind_46 hlk
  · refine lv_iconst (v := 0) hx hb dX9_readsKind_11 (by decide) ?_
    exact m_zret (b := false) hx hb hr rfl (by have e : rkP (B 11) n p x = (false, p) := (by unfold rkP; rw [if_pos (by grind)]); show RK B B1 n p x (bI false); unfold RK; rw [e]; exact ⟨hR1, rfl, hp1, fun h => by cases h⟩) hP hS dX9_readsKind_12 hlk
set_option maxHeartbeats 4000000 in
theorem mm_readsStatement (l : Launch) (D : va_G) (t : Nat → ClassId) (mb : Nat) (B : BT) (n p : Nat) (hn : B 0 1 = nI n) (h96 : n ≤ 96) (hp : B 0 2 = nI p) (hp2 : p < 2 ^ 27) : Met l yX9_readsStatement (ws_ yX9_readsStatement cX9_readsStatement 3 (some .boolean)) ({ frames := 3, cells := 0, slots := 0, locals := 65 }) (zPc [.ref mb] (MW D t mb B) (KK D t)) (va_Qi (fun r B' => RS B B' n p r) (fun B' U => MW D t mb B' U.heap) (mA mb)) 0 0 (mA mb) := by
  refine zOf (cc := cX9_readsStatement) (maxL := 3) (ret := (some .boolean)) (by decide) (Nat.le_of_ble_eq_true rfl) (fun pg ev s m below meth cd ls F hP hKK hl hnm => ?_)
  obtain ⟨hx, hb, hml, hown, hts, hr, hlk⟩ := F
  have S : CallFix pg m cd cX9_readsStatement 3 s _ lw_all RX9 := ⟨hx, hb, hml, hown, hts⟩
  have hl : lv_has ls 3 [(0, .ref mb)] := hl
  have hS : va_S (mA mb) s.heap s.heap [] := va_S.rf
  refine lv_aload_n hx hb dX9_readsStatement_0 rfl (lv_at hl 0 rfl) ?_
  refine m_callr (As := []) (rest := []) S hKK hP (mm_sign l D t mb B n p hn h96 hp (by omega)) (cwV 0 hts (lw_V q1322 q1324 qs63 q104 q1325) rfl rfl rfl (by decide +kernel) ⟨Nat.le_of_ble_eq_true rfl, Nat.le_of_ble_eq_true rfl⟩) rfl hl.1 rfl (Nat.le_of_ble_eq_true rfl) dX9_readsStatement_1 ⟨Nat.le_of_ble_eq_true rfl, Nat.le_of_ble_eq_true rfl⟩ ?_
  refine lv_istore_n (lv' := [(1, .int (sgS (B 11) n p)), (0, .ref mb)]) hx hb dX9_readsStatement_4 rfl hl (by decide) rfl (fun ls hl => ?_)
  refine lv_iconst (v := 0) hx hb dX9_readsStatement_5 (by decide) ?_
  refine lv_istore_n (lv' := [(2, .int 0), (1, .int (sgS (B 11) n p)), (0, .ref mb)]) hx hb dX9_readsStatement_6 rfl hl (by decide) rfl (fun ls hl => ?_)
  refine lv_aload_n hx hb dX9_readsStatement_7 rfl (lv_at hl 2 rfl) ?_
  refine lv_dup hx hb dX9_readsStatement_8 rfl ?_
  refine m_get hx hb hts hown hKK hP 14 (by decide) q1261 rfl rfl dX9_readsStatement_9 ?_
  refine z_top (y := nI p) hp ?_
  refine lv_iconst (v := 1) hx hb dX9_readsStatement_12 (by decide) ?_
  refine lv_iadd hx hb dX9_readsStatement_13 ?_
  refine z_top (y := nI (p + 1)) (nI_1 p) ?_
  refine m_put (ty := .int) hx hb hts hown hKK hP hS 14 2 (by decide) q1261 rfl rfl (by decide +kernel) rfl rfl rfl dX9_readsStatement_14 (fun H locs hP hS => ?_)
  obtain ⟨B1, hB1⟩ : ∃ z, z = up2 B 0 2 (nI (p + 1)) := ⟨_, rfl⟩
  rw [← hB1] at hP
  have hR1 : RD B B1 := by rw [hB1]; exact (RD.rf B).place _
  have hp1 : B1 0 2 = nI (p + 1) := by rw [hB1, up2_same, upd_self]
  have hn1 : B1 0 1 = nI n := hR1.2.2.1.trans hn
  have h111 : B1 11 = B 11 := hR1.1 11 (by decide) (by decide)
  refine lv_iload_n hx hb dX9_readsStatement_17 rfl (lv_at hl 1 rfl) ?_
  by_cases c18_100 : sgS (B 11) n p = 100
  · refine lv_lookup (off := 50) (tgt := 68) hx hb dX9_readsStatement_18 (by decide) (by rw [c18_100]; decide) (by decide) ?_
    refine lv_aload_n hx hb dX9_readsStatement_68 rfl (lv_at hl 2 rfl) ?_
    refine lv_iconst (v := 0) hx hb dX9_readsStatement_69 (by decide) ?_
    refine lv_iconst (v := 1) hx hb dX9_readsStatement_70 (by decide) ?_
    refine m_calli (As := [.int 0, .int 1]) (rest := []) S hKK hP hS (mm_readsNumber l D t mb B1 n (p + 1) hn1 h96 hp1 (by omega) 0 1 (by omega) (by omega)) (cwV 2 hts (lw_V q1326 q1328 qs64 q104 q1329) rfl rfl rfl (by decide +kernel) ⟨Nat.le_of_ble_eq_true rfl, Nat.le_of_ble_eq_true rfl⟩) rfl hl.1 rfl (Nat.le_of_ble_eq_true rfl) dX9_readsStatement_71 ⟨Nat.le_of_ble_eq_true rfl, Nat.le_of_ble_eq_true rfl⟩ (fun r71 B71 H locs h71 hP hS => ?_)
    obtain ⟨i71, hi71, hr71, hb71⟩ := h71
    rw [show B1 11 = B 11 from hR1.1 11 (by decide) (by decide)] at hi71
    have hR71 : RD B B71 := by rw [hb71]; exact rnB_RD hR1 n (p + 1) 0 i71
    have hp71 : B71 0 2 = nI (p + 1 + i71) := by rw [hb71]; exact rnB_p _ _ _ _ _
    have hn71 : B71 0 1 = nI n := hR71.2.2.1.trans hn
    have ht71 : B71 12 0 = vL (B 11) n (p + 1) i71 := by rw [hb71, rnB_t, show B1 11 = B 11 from hR1.1 11 (by decide) (by decide)]
    have ho71 : ∀ j, j ≠ 0 → B71 12 j = B1 12 j := fun j hj => by rw [hb71]; exact rnB_o _ _ _ _ _ hj
    refine z_top (y := bI (decide (0 < i71))) hr71 ?_
    refine z_ifeq (tgt := 90) hx hb dX9_readsStatement_74 (by decide) (fun c74 => ?_) (fun c74 => ?_)
    · have hj71 := of_decide_eq_false c74
      have hd71 := RN1 hi71
      have hi71' : i71 = 0 := by omega
      subst hi71'
      refine lv_iconst (v := 0) hx hb dX9_readsStatement_90 (by decide) ?_
      refine lv_istore_n (lv' := [(2, .int 0), (1, .int (sgS (B 11) n p)), (0, .ref mb)]) hx hb dX9_readsStatement_91 rfl hl (by decide) rfl (fun ls hl => ?_)
      refine lv_goto (tgt := 147) hx hb dX9_readsStatement_92 (by decide) ?_
      refine lv_iload_n hx hb dX9_readsStatement_147 rfl (lv_at hl 0 rfl) ?_
      refine lv_if_eq (tgt := 164) hx hb dX9_readsStatement_148 (by decide) (fun c148 => ?_) (fun c148 => ?_)
      · refine lv_iconst (v := 0) hx hb dX9_readsStatement_164 (by decide) ?_
        exact m_zret (b := false) hx hb hr rfl (RS_no (by rw [stP_d (Or.inl c18_100)]; unfold twP; rw [if_neg (show ¬ isD (B 11) n (p + 1) = true by grind)]) hR71 hp71) hP hS dX9_readsStatement_165 hlk
      · exact absurd rfl c148
    · have hj71 := of_decide_eq_true c74
      have hd71 := RN1 hi71
      have hi71' : i71 = 1 := by omega
      subst hi71'
      refine lv_aload_n hx hb dX9_readsStatement_77 rfl (lv_at hl 2 rfl) ?_
      refine lv_iconst (v := 1) hx hb dX9_readsStatement_78 (by decide) ?_
      refine lv_iconst (v := 1) hx hb dX9_readsStatement_79 (by decide) ?_
      refine m_calli (As := [.int 1, .int 1]) (rest := []) S hKK hP hS (mm_readsNumber l D t mb B71 n (p + 1 + 1) hn71 h96 hp71 (by omega) 1 1 (by omega) (by omega)) (cwV 2 hts (lw_V q1326 q1328 qs64 q104 q1329) rfl rfl rfl (by decide +kernel) ⟨Nat.le_of_ble_eq_true rfl, Nat.le_of_ble_eq_true rfl⟩) rfl hl.1 rfl (Nat.le_of_ble_eq_true rfl) dX9_readsStatement_80 ⟨Nat.le_of_ble_eq_true rfl, Nat.le_of_ble_eq_true rfl⟩ (fun r80 B80 H locs h80 hP hS => ?_)
      obtain ⟨i80, hi80, hr80, hb80⟩ := h80
      rw [show B71 11 = B 11 from hR71.1 11 (by decide) (by decide)] at hi80
      have hR80 : RD B B80 := by rw [hb80]; exact rnB_RD hR71 n (p + 1 + 1) 1 i80
      have hp80 : B80 0 2 = nI (p + 1 + 1 + i80) := by rw [hb80]; exact rnB_p _ _ _ _ _
      have hn80 : B80 0 1 = nI n := hR80.2.2.1.trans hn
      have ht80 : B80 12 1 = vL (B 11) n (p + 1 + 1) i80 := by rw [hb80, rnB_t, show B71 11 = B 11 from hR71.1 11 (by decide) (by decide)]
      have ho80 : ∀ j, j ≠ 1 → B80 12 j = B71 12 j := fun j hj => by rw [hb80]; exact rnB_o _ _ _ _ _ hj
      refine z_top (y := bI (decide (0 < i80))) hr80 ?_
      refine z_ifeq (tgt := 90) hx hb dX9_readsStatement_83 (by decide) (fun c83 => ?_) (fun c83 => ?_)
      · have hj80 := of_decide_eq_false c83
        have hd80 := RN1 hi80
        have hi80' : i80 = 0 := by omega
        subst hi80'
        refine lv_iconst (v := 0) hx hb dX9_readsStatement_90 (by decide) ?_
        refine lv_istore_n (lv' := [(2, .int 0), (1, .int (sgS (B 11) n p)), (0, .ref mb)]) hx hb dX9_readsStatement_91 rfl hl (by decide) rfl (fun ls hl => ?_)
        refine lv_goto (tgt := 147) hx hb dX9_readsStatement_92 (by decide) ?_
        refine lv_iload_n hx hb dX9_readsStatement_147 rfl (lv_at hl 0 rfl) ?_
        refine lv_if_eq (tgt := 164) hx hb dX9_readsStatement_148 (by decide) (fun c148 => ?_) (fun c148 => ?_)
        · refine lv_iconst (v := 0) hx hb dX9_readsStatement_164 (by decide) ?_
          exact m_zret (b := false) hx hb hr rfl (RS_no (by rw [stP_d (Or.inl c18_100)]; unfold twP; rw [if_pos (show isD (B 11) n (p + 1) = true by grind), if_neg (show ¬ isD (B 11) n (p + 2) = true by grind)]) hR80 hp80) hP hS dX9_readsStatement_165 hlk
        · exact absurd rfl c148
      · have hj80 := of_decide_eq_true c83
        have hd80 := RN1 hi80
        have hi80' : i80 = 1 := by omega
        subst hi80'
        refine lv_iconst (v := 1) hx hb dX9_readsStatement_86 (by decide) ?_
        refine lv_goto (tgt := 91) hx hb dX9_readsStatement_87 (by decide) ?_
        refine lv_istore_n (lv' := [(2, .int 1), (1, .int (sgS (B 11) n p)), (0, .ref mb)]) hx hb dX9_readsStatement_91 rfl hl (by decide) rfl (fun ls hl => ?_)
        refine lv_goto (tgt := 147) hx hb dX9_readsStatement_92 (by decide) ?_
        refine lv_iload_n hx hb dX9_readsStatement_147 rfl (lv_at hl 0 rfl) ?_
        refine lv_if_eq (tgt := 164) hx hb dX9_readsStatement_148 (by decide) (fun c148 => ?_) (fun c148 => ?_)
        · exact absurd c148 (by decide)
        · refine lv_aload_n hx hb dX9_readsStatement_151 rfl (lv_at hl 2 rfl) ?_
          refine lv_bipush (v := 59) hx hb dX9_readsStatement_152 (by decide) ?_
          refine m_calli (As := [.int 59]) (rest := []) S hKK hP hS (mm_takes l D t mb B80 n (p + 1 + 1 + 1) hn80 h96 hp80 (by omega) 59) (cwV 1 hts (lw_V q1343 q1345 qs66 q104 q1346) rfl rfl rfl (by decide +kernel) ⟨Nat.le_of_ble_eq_true rfl, Nat.le_of_ble_eq_true rfl⟩) rfl hl.1 rfl (Nat.le_of_ble_eq_true rfl) dX9_readsStatement_154 ⟨Nat.le_of_ble_eq_true rfl, Nat.le_of_ble_eq_true rfl⟩ (fun r154 B154 H locs h154 hP hS => ?_)
          obtain ⟨hr154, hb154⟩ := h154
          rw [show B80 11 = B 11 from hR80.1 11 (by decide) (by decide)] at hr154 hb154
          refine z_top (y := bI (decide (sgS (B 11) n (p + 1 + 1 + 1) = 59))) hr154 ?_
          refine z_ifeq (tgt := 164) hx hb dX9_readsStatement_157 (by decide) (fun c157 => ?_) (fun c157 => ?_)
          · have he := of_decide_eq_false c157
            rw [if_neg he] at hb154
            rw [hb154] at hP
            refine lv_iconst (v := 0) hx hb dX9_readsStatement_164 (by decide) ?_
            exact m_zret (b := false) hx hb hr rfl (RS_no (by rw [stP_d (Or.inl c18_100)]; unfold twP; rw [if_pos (show isD (B 11) n (p + 1) = true by grind), if_pos (show isD (B 11) n (p + 2) = true by grind)]; exact enP_no he) hR80 hp80) hP hS dX9_readsStatement_165 hlk
          · have he := of_decide_eq_true c157
            rw [if_pos he] at hb154
            rw [hb154] at hP
            refine lv_iconst (v := 1) hx hb dX9_readsStatement_160 (by decide) ?_
            refine lv_goto (tgt := 165) hx hb dX9_readsStatement_161 (by decide) ?_
            exact m_zret (b := true) hx hb hr rfl (RS_yes (q := p + 4) (by rw [stP_d (Or.inl c18_100)]; unfold twP; rw [if_pos (show isD (B 11) n (p + 1) = true by grind), if_pos (show isD (B 11) n (p + 2) = true by grind)]; exact enP_yes he) (hR80.place _) (by rw [up2_same, upd_self]) (by rw [up2_ne _ _ _ (by decide), ho80 0 (by decide), ht71]; exact vL1 _ _ _) (fun _ => by rw [up2_ne _ _ _ (by decide), ht80]; exact vL1 _ _ _) (fun z => absurd z (by rw [c18_100]; decide))) hP hS dX9_readsStatement_165 hlk
  by_cases c18_103 : sgS (B 11) n p = 103
  · refine lv_lookup (off := 50) (tgt := 68) hx hb dX9_readsStatement_18 (by decide) (by rw [c18_103]; decide) (by decide) ?_
    refine lv_aload_n hx hb dX9_readsStatement_68 rfl (lv_at hl 2 rfl) ?_
    refine lv_iconst (v := 0) hx hb dX9_readsStatement_69 (by decide) ?_
    refine lv_iconst (v := 1) hx hb dX9_readsStatement_70 (by decide) ?_
    refine m_calli (As := [.int 0, .int 1]) (rest := []) S hKK hP hS (mm_readsNumber l D t mb B1 n (p + 1) hn1 h96 hp1 (by omega) 0 1 (by omega) (by omega)) (cwV 2 hts (lw_V q1326 q1328 qs64 q104 q1329) rfl rfl rfl (by decide +kernel) ⟨Nat.le_of_ble_eq_true rfl, Nat.le_of_ble_eq_true rfl⟩) rfl hl.1 rfl (Nat.le_of_ble_eq_true rfl) dX9_readsStatement_71 ⟨Nat.le_of_ble_eq_true rfl, Nat.le_of_ble_eq_true rfl⟩ (fun r71 B71 H locs h71 hP hS => ?_)
    obtain ⟨i71, hi71, hr71, hb71⟩ := h71
    rw [show B1 11 = B 11 from hR1.1 11 (by decide) (by decide)] at hi71
    have hR71 : RD B B71 := by rw [hb71]; exact rnB_RD hR1 n (p + 1) 0 i71
    have hp71 : B71 0 2 = nI (p + 1 + i71) := by rw [hb71]; exact rnB_p _ _ _ _ _
    have hn71 : B71 0 1 = nI n := hR71.2.2.1.trans hn
    have ht71 : B71 12 0 = vL (B 11) n (p + 1) i71 := by rw [hb71, rnB_t, show B1 11 = B 11 from hR1.1 11 (by decide) (by decide)]
    have ho71 : ∀ j, j ≠ 0 → B71 12 j = B1 12 j := fun j hj => by rw [hb71]; exact rnB_o _ _ _ _ _ hj
    refine z_top (y := bI (decide (0 < i71))) hr71 ?_
    refine z_ifeq (tgt := 90) hx hb dX9_readsStatement_74 (by decide) (fun c74 => ?_) (fun c74 => ?_)
    · have hj71 := of_decide_eq_false c74
      have hd71 := RN1 hi71
      have hi71' : i71 = 0 := by omega
      subst hi71'
      refine lv_iconst (v := 0) hx hb dX9_readsStatement_90 (by decide) ?_
      refine lv_istore_n (lv' := [(2, .int 0), (1, .int (sgS (B 11) n p)), (0, .ref mb)]) hx hb dX9_readsStatement_91 rfl hl (by decide) rfl (fun ls hl => ?_)
      refine lv_goto (tgt := 147) hx hb dX9_readsStatement_92 (by decide) ?_
      refine lv_iload_n hx hb dX9_readsStatement_147 rfl (lv_at hl 0 rfl) ?_
      refine lv_if_eq (tgt := 164) hx hb dX9_readsStatement_148 (by decide) (fun c148 => ?_) (fun c148 => ?_)
      · refine lv_iconst (v := 0) hx hb dX9_readsStatement_164 (by decide) ?_
        exact m_zret (b := false) hx hb hr rfl (RS_no (by rw [stP_d (Or.inr c18_103)]; unfold twP; rw [if_neg (show ¬ isD (B 11) n (p + 1) = true by grind)]) hR71 hp71) hP hS dX9_readsStatement_165 hlk
      · exact absurd rfl c148
    · have hj71 := of_decide_eq_true c74
      have hd71 := RN1 hi71
      have hi71' : i71 = 1 := by omega
      subst hi71'
      refine lv_aload_n hx hb dX9_readsStatement_77 rfl (lv_at hl 2 rfl) ?_
      refine lv_iconst (v := 1) hx hb dX9_readsStatement_78 (by decide) ?_
      refine lv_iconst (v := 1) hx hb dX9_readsStatement_79 (by decide) ?_
      refine m_calli (As := [.int 1, .int 1]) (rest := []) S hKK hP hS (mm_readsNumber l D t mb B71 n (p + 1 + 1) hn71 h96 hp71 (by omega) 1 1 (by omega) (by omega)) (cwV 2 hts (lw_V q1326 q1328 qs64 q104 q1329) rfl rfl rfl (by decide +kernel) ⟨Nat.le_of_ble_eq_true rfl, Nat.le_of_ble_eq_true rfl⟩) rfl hl.1 rfl (Nat.le_of_ble_eq_true rfl) dX9_readsStatement_80 ⟨Nat.le_of_ble_eq_true rfl, Nat.le_of_ble_eq_true rfl⟩ (fun r80 B80 H locs h80 hP hS => ?_)
      obtain ⟨i80, hi80, hr80, hb80⟩ := h80
      rw [show B71 11 = B 11 from hR71.1 11 (by decide) (by decide)] at hi80
      have hR80 : RD B B80 := by rw [hb80]; exact rnB_RD hR71 n (p + 1 + 1) 1 i80
      have hp80 : B80 0 2 = nI (p + 1 + 1 + i80) := by rw [hb80]; exact rnB_p _ _ _ _ _
      have hn80 : B80 0 1 = nI n := hR80.2.2.1.trans hn
      have ht80 : B80 12 1 = vL (B 11) n (p + 1 + 1) i80 := by rw [hb80, rnB_t, show B71 11 = B 11 from hR71.1 11 (by decide) (by decide)]
      have ho80 : ∀ j, j ≠ 1 → B80 12 j = B71 12 j := fun j hj => by rw [hb80]; exact rnB_o _ _ _ _ _ hj
      refine z_top (y := bI (decide (0 < i80))) hr80 ?_
      refine z_ifeq (tgt := 90) hx hb dX9_readsStatement_83 (by decide) (fun c83 => ?_) (fun c83 => ?_)
      · have hj80 := of_decide_eq_false c83
        have hd80 := RN1 hi80
        have hi80' : i80 = 0 := by omega
        subst hi80'
        refine lv_iconst (v := 0) hx hb dX9_readsStatement_90 (by decide) ?_
        refine lv_istore_n (lv' := [(2, .int 0), (1, .int (sgS (B 11) n p)), (0, .ref mb)]) hx hb dX9_readsStatement_91 rfl hl (by decide) rfl (fun ls hl => ?_)
        refine lv_goto (tgt := 147) hx hb dX9_readsStatement_92 (by decide) ?_
        refine lv_iload_n hx hb dX9_readsStatement_147 rfl (lv_at hl 0 rfl) ?_
        refine lv_if_eq (tgt := 164) hx hb dX9_readsStatement_148 (by decide) (fun c148 => ?_) (fun c148 => ?_)
        · refine lv_iconst (v := 0) hx hb dX9_readsStatement_164 (by decide) ?_
          exact m_zret (b := false) hx hb hr rfl (RS_no (by rw [stP_d (Or.inr c18_103)]; unfold twP; rw [if_pos (show isD (B 11) n (p + 1) = true by grind), if_neg (show ¬ isD (B 11) n (p + 2) = true by grind)]) hR80 hp80) hP hS dX9_readsStatement_165 hlk
        · exact absurd rfl c148
      · have hj80 := of_decide_eq_true c83
        have hd80 := RN1 hi80
        have hi80' : i80 = 1 := by omega
        subst hi80'
        refine lv_iconst (v := 1) hx hb dX9_readsStatement_86 (by decide) ?_
        refine lv_goto (tgt := 91) hx hb dX9_readsStatement_87 (by decide) ?_
        refine lv_istore_n (lv' := [(2, .int 1), (1, .int (sgS (B 11) n p)), (0, .ref mb)]) hx hb dX9_readsStatement_91 rfl hl (by decide) rfl (fun ls hl => ?_)
        refine lv_goto (tgt := 147) hx hb dX9_readsStatement_92 (by decide) ?_
        refine lv_iload_n hx hb dX9_readsStatement_147 rfl (lv_at hl 0 rfl) ?_
        refine lv_if_eq (tgt := 164) hx hb dX9_readsStatement_148 (by decide) (fun c148 => ?_) (fun c148 => ?_)
        · exact absurd c148 (by decide)
        · refine lv_aload_n hx hb dX9_readsStatement_151 rfl (lv_at hl 2 rfl) ?_
          refine lv_bipush (v := 59) hx hb dX9_readsStatement_152 (by decide) ?_
          refine m_calli (As := [.int 59]) (rest := []) S hKK hP hS (mm_takes l D t mb B80 n (p + 1 + 1 + 1) hn80 h96 hp80 (by omega) 59) (cwV 1 hts (lw_V q1343 q1345 qs66 q104 q1346) rfl rfl rfl (by decide +kernel) ⟨Nat.le_of_ble_eq_true rfl, Nat.le_of_ble_eq_true rfl⟩) rfl hl.1 rfl (Nat.le_of_ble_eq_true rfl) dX9_readsStatement_154 ⟨Nat.le_of_ble_eq_true rfl, Nat.le_of_ble_eq_true rfl⟩ (fun r154 B154 H locs h154 hP hS => ?_)
          obtain ⟨hr154, hb154⟩ := h154
          rw [show B80 11 = B 11 from hR80.1 11 (by decide) (by decide)] at hr154 hb154
          refine z_top (y := bI (decide (sgS (B 11) n (p + 1 + 1 + 1) = 59))) hr154 ?_
          refine z_ifeq (tgt := 164) hx hb dX9_readsStatement_157 (by decide) (fun c157 => ?_) (fun c157 => ?_)
          · have he := of_decide_eq_false c157
            rw [if_neg he] at hb154
            rw [hb154] at hP
            refine lv_iconst (v := 0) hx hb dX9_readsStatement_164 (by decide) ?_
            exact m_zret (b := false) hx hb hr rfl (RS_no (by rw [stP_d (Or.inr c18_103)]; unfold twP; rw [if_pos (show isD (B 11) n (p + 1) = true by grind), if_pos (show isD (B 11) n (p + 2) = true by grind)]; exact enP_no he) hR80 hp80) hP hS dX9_readsStatement_165 hlk
          · have he := of_decide_eq_true c157
            rw [if_pos he] at hb154
            rw [hb154] at hP
            refine lv_iconst (v := 1) hx hb dX9_readsStatement_160 (by decide) ?_
            refine lv_goto (tgt := 165) hx hb dX9_readsStatement_161 (by decide) ?_
            exact m_zret (b := true) hx hb hr rfl (RS_yes (q := p + 4) (by rw [stP_d (Or.inr c18_103)]; unfold twP; rw [if_pos (show isD (B 11) n (p + 1) = true by grind), if_pos (show isD (B 11) n (p + 2) = true by grind)]; exact enP_yes he) (hR80.place _) (by rw [up2_same, upd_self]) (by rw [up2_ne _ _ _ (by decide), ho80 0 (by decide), ht71]; exact vL1 _ _ _) (fun _ => by rw [up2_ne _ _ _ (by decide), ht80]; exact vL1 _ _ _) (fun z => absurd z (by rw [c18_103]; decide))) hP hS dX9_readsStatement_165 hlk
  by_cases c18_104 : sgS (B 11) n p = 104
  · refine lv_lookup (off := 92) (tgt := 110) hx hb dX9_readsStatement_18 (by decide) (by rw [c18_104]; decide) (by decide) ?_
    refine lv_aload_n hx hb dX9_readsStatement_110 rfl (lv_at hl 2 rfl) ?_
    refine lv_aload_n hx hb dX9_readsStatement_111 rfl (lv_at hl 2 rfl) ?_
    refine m_callr (As := []) (rest := [.ref mb]) S hKK hP (mm_sign l D t mb B1 n (p + 1) hn1 h96 hp1 (by omega)) (cwV 0 hts (lw_V q1322 q1324 qs63 q104 q1325) rfl rfl rfl (by decide +kernel) ⟨Nat.le_of_ble_eq_true rfl, Nat.le_of_ble_eq_true rfl⟩) rfl hl.1 rfl (Nat.le_of_ble_eq_true rfl) dX9_readsStatement_112 ⟨Nat.le_of_ble_eq_true rfl, Nat.le_of_ble_eq_true rfl⟩ ?_
    refine z_top (y := sgS (B 11) n (p + 1)) (by rw [h111]) ?_
    refine m_callS (As := [.int (sgS (B 11) n (p + 1))]) (rest := [.ref mb]) S hKK trivial (mm_headOf l D t (sgS (B 11) n (p + 1))) (va_cwS 1 hts (lw_S q1340 q1341 q104 q1342) rfl rfl rfl (by decide +kernel) ⟨Nat.le_of_ble_eq_true rfl, Nat.le_of_ble_eq_true rfl⟩) rfl hl.1 rfl (Nat.le_of_ble_eq_true rfl) dX9_readsStatement_115 ⟨Nat.le_of_ble_eq_true rfl, Nat.le_of_ble_eq_true rfl⟩ ?_
    refine m_calli (As := [.int (heO (sgS (B 11) n (p + 1)))]) (rest := []) S hKK hP hS (mm_readsKind l D t mb B1 n (p + 1) hn1 h96 hp1 (by omega) (heO (sgS (B 11) n (p + 1)))) (cwV 1 hts (lw_V q1336 q1338 qs65 q104 q1339) rfl rfl rfl (by decide +kernel) ⟨Nat.le_of_ble_eq_true rfl, Nat.le_of_ble_eq_true rfl⟩) rfl hl.1 rfl (Nat.le_of_ble_eq_true rfl) dX9_readsStatement_118 ⟨Nat.le_of_ble_eq_true rfl, Nat.le_of_ble_eq_true rfl⟩ (fun r118 B118 H locs h118 hP hS => ?_)
    have h118 : RK B1 B118 n (p + 1) (heO (sgS (B 11) n (p + 1))) r118 := h118
    unfold RK at h118
    rw [h111] at h118
    obtain ⟨hRk, hrk, hpk, htk⟩ := h118
    have hRk := hR1.tr hRk
    have hnk : B118 0 1 = nI n := hRk.2.2.1.trans hn
    refine z_top (y := bI (rkP (B 11) n (p + 1) (heO (sgS (B 11) n (p + 1)))).1) hrk ?_
    refine lv_istore_n (lv' := [(2, .int (bI (rkP (B 11) n (p + 1) (heO (sgS (B 11) n (p + 1)))).1)), (1, .int (sgS (B 11) n p)), (0, .ref mb)]) hx hb dX9_readsStatement_121 rfl hl (by decide) rfl (fun ls hl => ?_)
    refine lv_goto (tgt := 147) hx hb dX9_readsStatement_122 (by decide) ?_
    refine lv_iload_n hx hb dX9_readsStatement_147 rfl (lv_at hl 0 rfl) ?_
    refine z_ifeq (tgt := 164) hx hb dX9_readsStatement_148 (by decide) (fun c148 => ?_) (fun c148 => ?_)
    · refine lv_iconst (v := 0) hx hb dX9_readsStatement_164 (by decide) ?_
      exact m_zret (b := false) hx hb hr rfl (RS_no (by rw [stP_h c18_104]; exact kdP_no c148) hRk hpk) hP hS dX9_readsStatement_165 hlk
    · have hky := kdP_yes c148
      have hpk' : B118 0 2 = nI (p + 4) := by rw [hpk, hky.1]
      have htk := htk c148
      refine lv_aload_n hx hb dX9_readsStatement_151 rfl (lv_at hl 2 rfl) ?_
      refine lv_bipush (v := 59) hx hb dX9_readsStatement_152 (by decide) ?_
      refine m_calli (As := [.int 59]) (rest := []) S hKK hP hS (mm_takes l D t mb B118 n (p + 4) hnk h96 hpk' (by omega) 59) (cwV 1 hts (lw_V q1343 q1345 qs66 q104 q1346) rfl rfl rfl (by decide +kernel) ⟨Nat.le_of_ble_eq_true rfl, Nat.le_of_ble_eq_true rfl⟩) rfl hl.1 rfl (Nat.le_of_ble_eq_true rfl) dX9_readsStatement_154 ⟨Nat.le_of_ble_eq_true rfl, Nat.le_of_ble_eq_true rfl⟩ (fun r154 B154 H locs h154 hP hS => ?_)
      obtain ⟨hr154, hb154⟩ := h154
      rw [show B118 11 = B 11 from hRk.1 11 (by decide) (by decide)] at hr154 hb154
      refine z_top (y := bI (decide (sgS (B 11) n (p + 4) = 59))) hr154 ?_
      refine z_ifeq (tgt := 164) hx hb dX9_readsStatement_157 (by decide) (fun c157 => ?_) (fun c157 => ?_)
      · have he := of_decide_eq_false c157
        rw [if_neg he] at hb154
        rw [hb154] at hP
        refine lv_iconst (v := 0) hx hb dX9_readsStatement_164 (by decide) ?_
        exact m_zret (b := false) hx hb hr rfl (RS_no (by rw [stP_h c18_104]; rw [hky.2]; exact enP_no he) hRk hpk') hP hS dX9_readsStatement_165 hlk
      · have he := of_decide_eq_true c157
        rw [if_pos he] at hb154
        rw [hb154] at hP
        refine lv_iconst (v := 1) hx hb dX9_readsStatement_160 (by decide) ?_
        refine lv_goto (tgt := 165) hx hb dX9_readsStatement_161 (by decide) ?_
        exact m_zret (b := true) hx hb hr rfl (RS_yes (q := p + 5) (by rw [stP_h c18_104]; rw [hky.2]; exact enP_yes he) (hRk.place _) (by rw [up2_same, upd_self]) (by rw [up2_ne _ _ _ (by decide)]; exact htk.1) (fun _ => by rw [up2_ne _ _ _ (by decide)]; exact htk.2.1) (fun _ => by rw [up2_ne _ _ _ (by decide)]; exact htk.2.2)) hP hS dX9_readsStatement_165 hlk
  by_cases c18_111 : sgS (B 11) n p = 111
  · refine lv_lookup (off := 107) (tgt := 125) hx hb dX9_readsStatement_18 (by decide) (by rw [c18_111]; decide) (by decide) ?_
    refine lv_aload_n hx hb dX9_readsStatement_125 rfl (lv_at hl 2 rfl) ?_
    refine lv_iconst (v := 0) hx hb dX9_readsStatement_126 (by decide) ?_
    refine lv_iconst (v := 2) hx hb dX9_readsStatement_127 (by decide) ?_
    refine m_calli (As := [.int 0, .int 2]) (rest := []) S hKK hP hS (mm_readsNumber l D t mb B1 n (p + 1) hn1 h96 hp1 (by omega) 0 2 (by omega) (by omega)) (cwV 2 hts (lw_V q1326 q1328 qs64 q104 q1329) rfl rfl rfl (by decide +kernel) ⟨Nat.le_of_ble_eq_true rfl, Nat.le_of_ble_eq_true rfl⟩) rfl hl.1 rfl (Nat.le_of_ble_eq_true rfl) dX9_readsStatement_128 ⟨Nat.le_of_ble_eq_true rfl, Nat.le_of_ble_eq_true rfl⟩ (fun r128 B128 H locs h128 hP hS => ?_)
    obtain ⟨i128, hi128, hr128, hb128⟩ := h128
    rw [show B1 11 = B 11 from hR1.1 11 (by decide) (by decide)] at hi128
    have hR128 : RD B B128 := by rw [hb128]; exact rnB_RD hR1 n (p + 1) 0 i128
    have hp128 : B128 0 2 = nI (p + 1 + i128) := by rw [hb128]; exact rnB_p _ _ _ _ _
    have hn128 : B128 0 1 = nI n := hR128.2.2.1.trans hn
    have ht128 : B128 12 0 = vL (B 11) n (p + 1) i128 := by rw [hb128, rnB_t, show B1 11 = B 11 from hR1.1 11 (by decide) (by decide)]
    have ho128 : ∀ j, j ≠ 0 → B128 12 j = B1 12 j := fun j hj => by rw [hb128]; exact rnB_o _ _ _ _ _ hj
    refine z_top (y := bI (decide (0 < i128))) hr128 ?_
    refine lv_istore_n (lv' := [(2, .int (bI (decide (0 < i128)))), (1, .int (sgS (B 11) n p)), (0, .ref mb)]) hx hb dX9_readsStatement_131 rfl hl (by decide) rfl (fun ls hl => ?_)
    refine lv_goto (tgt := 147) hx hb dX9_readsStatement_132 (by decide) ?_
    refine lv_iload_n hx hb dX9_readsStatement_147 rfl (lv_at hl 0 rfl) ?_
    refine z_ifeq (tgt := 164) hx hb dX9_readsStatement_148 (by decide) (fun c148 => ?_) (fun c148 => ?_)
    · have hj128 := of_decide_eq_false c148
      have hd128 := RN2 hi128
      refine lv_iconst (v := 0) hx hb dX9_readsStatement_164 (by decide) ?_
      exact m_zret (b := false) hx hb hr rfl (RS_no (by rw [stP_o c18_111]; unfold loP; rw [if_neg (show ¬ isD (B 11) n (p + 1) = true by grind)]) hR128 (by rw [hp128, show i128 = 0 by omega])) hP hS dX9_readsStatement_165 hlk
    · have hj128 := of_decide_eq_true c148
      have hil : i128 ≤ 2 := hi128.1
      refine lv_aload_n hx hb dX9_readsStatement_151 rfl (lv_at hl 2 rfl) ?_
      refine lv_bipush (v := 59) hx hb dX9_readsStatement_152 (by decide) ?_
      refine m_calli (As := [.int 59]) (rest := []) S hKK hP hS (mm_takes l D t mb B128 n (p + 1 + i128) hn128 h96 hp128 (by omega) 59) (cwV 1 hts (lw_V q1343 q1345 qs66 q104 q1346) rfl rfl rfl (by decide +kernel) ⟨Nat.le_of_ble_eq_true rfl, Nat.le_of_ble_eq_true rfl⟩) rfl hl.1 rfl (Nat.le_of_ble_eq_true rfl) dX9_readsStatement_154 ⟨Nat.le_of_ble_eq_true rfl, Nat.le_of_ble_eq_true rfl⟩ (fun r154 B154 H locs h154 hP hS => ?_)
      obtain ⟨hr154, hb154⟩ := h154
      rw [show B128 11 = B 11 from hR128.1 11 (by decide) (by decide)] at hr154 hb154
      refine z_top (y := bI (decide (sgS (B 11) n (p + 1 + i128) = 59))) hr154 ?_
      refine z_ifeq (tgt := 164) hx hb dX9_readsStatement_157 (by decide) (fun c157 => ?_) (fun c157 => ?_)
      · have he := of_decide_eq_false c157
        rw [if_neg he] at hb154
        rw [hb154] at hP
        refine lv_iconst (v := 0) hx hb dX9_readsStatement_164 (by decide) ?_
        exact m_zret (b := false) hx hb hr rfl (by rcases RN2 hi128 with ⟨q0, -⟩ | ⟨rfl, q1, q2⟩ | ⟨rfl, q1, q2⟩; omega; exact RS_no (by rw [stP_o c18_111]; unfold loP; rw [if_pos q1, if_neg (show ¬ isD (B 11) n (p + 2) = true by rw [show p + 2 = p + 1 + 1 from rfl, q2]; decide)]; exact enP_no he) hR128 hp128; exact RS_no (by rw [stP_o c18_111]; unfold loP; rw [if_pos q1, if_pos q2]; exact enP_no he) hR128 hp128) hP hS dX9_readsStatement_165 hlk
      · have he := of_decide_eq_true c157
        rw [if_pos he] at hb154
        rw [hb154] at hP
        refine lv_iconst (v := 1) hx hb dX9_readsStatement_160 (by decide) ?_
        refine lv_goto (tgt := 165) hx hb dX9_readsStatement_161 (by decide) ?_
        exact m_zret (b := true) hx hb hr rfl (by rcases RN2 hi128 with ⟨q0, -⟩ | ⟨rfl, q1, q2⟩ | ⟨rfl, q1, q2⟩; omega; exact RS_yes (q := p + 3) (by rw [stP_o c18_111]; unfold loP; rw [if_pos q1, if_neg (show ¬ isD (B 11) n (p + 2) = true by rw [show p + 2 = p + 1 + 1 from rfl, q2]; decide)]; exact enP_yes he) (hR128.place _) (by rw [up2_same, upd_self]) (by rw [up2_ne _ _ _ (by decide), ht128]; exact vL1 _ _ _) (fun z => absurd c18_111 z) (fun z => absurd z (by rw [c18_111]; decide)); exact RS_yes (q := p + 4) (by rw [stP_o c18_111]; unfold loP; rw [if_pos q1, if_pos q2]; exact enP_yes he) (hR128.place _) (by rw [up2_same, upd_self]) (by rw [up2_ne _ _ _ (by decide), ht128]; exact vL2 _ _ _) (fun z => absurd c18_111 z) (fun z => absurd z (by rw [c18_111]; decide))) hP hS dX9_readsStatement_165 hlk
  by_cases c18_115 : sgS (B 11) n p = 115
  · refine lv_lookup (off := 77) (tgt := 95) hx hb dX9_readsStatement_18 (by decide) (by rw [c18_115]; decide) (by decide) ?_
    refine lv_aload_n hx hb dX9_readsStatement_95 rfl (lv_at hl 2 rfl) ?_
    refine lv_aload_n hx hb dX9_readsStatement_96 rfl (lv_at hl 2 rfl) ?_
    refine m_callr (As := []) (rest := [.ref mb]) S hKK hP (mm_sign l D t mb B1 n (p + 1) hn1 h96 hp1 (by omega)) (cwV 0 hts (lw_V q1322 q1324 qs63 q104 q1325) rfl rfl rfl (by decide +kernel) ⟨Nat.le_of_ble_eq_true rfl, Nat.le_of_ble_eq_true rfl⟩) rfl hl.1 rfl (Nat.le_of_ble_eq_true rfl) dX9_readsStatement_97 ⟨Nat.le_of_ble_eq_true rfl, Nat.le_of_ble_eq_true rfl⟩ ?_
    refine z_top (y := sgS (B 11) n (p + 1)) (by rw [h111]) ?_
    refine m_callS (As := [.int (sgS (B 11) n (p + 1))]) (rest := [.ref mb]) S hKK trivial (mm_songOf l D t (sgS (B 11) n (p + 1))) (va_cwS 1 hts (lw_S q1333 q1334 q104 q1335) rfl rfl rfl (by decide +kernel) ⟨Nat.le_of_ble_eq_true rfl, Nat.le_of_ble_eq_true rfl⟩) rfl hl.1 rfl (Nat.le_of_ble_eq_true rfl) dX9_readsStatement_100 ⟨Nat.le_of_ble_eq_true rfl, Nat.le_of_ble_eq_true rfl⟩ ?_
    refine m_calli (As := [.int (soO (sgS (B 11) n (p + 1)))]) (rest := []) S hKK hP hS (mm_readsKind l D t mb B1 n (p + 1) hn1 h96 hp1 (by omega) (soO (sgS (B 11) n (p + 1)))) (cwV 1 hts (lw_V q1336 q1338 qs65 q104 q1339) rfl rfl rfl (by decide +kernel) ⟨Nat.le_of_ble_eq_true rfl, Nat.le_of_ble_eq_true rfl⟩) rfl hl.1 rfl (Nat.le_of_ble_eq_true rfl) dX9_readsStatement_103 ⟨Nat.le_of_ble_eq_true rfl, Nat.le_of_ble_eq_true rfl⟩ (fun r103 B103 H locs h103 hP hS => ?_)
    have h103 : RK B1 B103 n (p + 1) (soO (sgS (B 11) n (p + 1))) r103 := h103
    unfold RK at h103
    rw [h111] at h103
    obtain ⟨hRk, hrk, hpk, htk⟩ := h103
    have hRk := hR1.tr hRk
    have hnk : B103 0 1 = nI n := hRk.2.2.1.trans hn
    refine z_top (y := bI (rkP (B 11) n (p + 1) (soO (sgS (B 11) n (p + 1)))).1) hrk ?_
    refine lv_istore_n (lv' := [(2, .int (bI (rkP (B 11) n (p + 1) (soO (sgS (B 11) n (p + 1)))).1)), (1, .int (sgS (B 11) n p)), (0, .ref mb)]) hx hb dX9_readsStatement_106 rfl hl (by decide) rfl (fun ls hl => ?_)
    refine lv_goto (tgt := 147) hx hb dX9_readsStatement_107 (by decide) ?_
    refine lv_iload_n hx hb dX9_readsStatement_147 rfl (lv_at hl 0 rfl) ?_
    refine z_ifeq (tgt := 164) hx hb dX9_readsStatement_148 (by decide) (fun c148 => ?_) (fun c148 => ?_)
    · refine lv_iconst (v := 0) hx hb dX9_readsStatement_164 (by decide) ?_
      exact m_zret (b := false) hx hb hr rfl (RS_no (by rw [stP_s c18_115]; exact kdP_no c148) hRk hpk) hP hS dX9_readsStatement_165 hlk
    · have hky := kdP_yes c148
      have hpk' : B103 0 2 = nI (p + 4) := by rw [hpk, hky.1]
      have htk := htk c148
      refine lv_aload_n hx hb dX9_readsStatement_151 rfl (lv_at hl 2 rfl) ?_
      refine lv_bipush (v := 59) hx hb dX9_readsStatement_152 (by decide) ?_
      refine m_calli (As := [.int 59]) (rest := []) S hKK hP hS (mm_takes l D t mb B103 n (p + 4) hnk h96 hpk' (by omega) 59) (cwV 1 hts (lw_V q1343 q1345 qs66 q104 q1346) rfl rfl rfl (by decide +kernel) ⟨Nat.le_of_ble_eq_true rfl, Nat.le_of_ble_eq_true rfl⟩) rfl hl.1 rfl (Nat.le_of_ble_eq_true rfl) dX9_readsStatement_154 ⟨Nat.le_of_ble_eq_true rfl, Nat.le_of_ble_eq_true rfl⟩ (fun r154 B154 H locs h154 hP hS => ?_)
      obtain ⟨hr154, hb154⟩ := h154
      rw [show B103 11 = B 11 from hRk.1 11 (by decide) (by decide)] at hr154 hb154
      refine z_top (y := bI (decide (sgS (B 11) n (p + 4) = 59))) hr154 ?_
      refine z_ifeq (tgt := 164) hx hb dX9_readsStatement_157 (by decide) (fun c157 => ?_) (fun c157 => ?_)
      · have he := of_decide_eq_false c157
        rw [if_neg he] at hb154
        rw [hb154] at hP
        refine lv_iconst (v := 0) hx hb dX9_readsStatement_164 (by decide) ?_
        exact m_zret (b := false) hx hb hr rfl (RS_no (by rw [stP_s c18_115]; rw [hky.2]; exact enP_no he) hRk hpk') hP hS dX9_readsStatement_165 hlk
      · have he := of_decide_eq_true c157
        rw [if_pos he] at hb154
        rw [hb154] at hP
        refine lv_iconst (v := 1) hx hb dX9_readsStatement_160 (by decide) ?_
        refine lv_goto (tgt := 165) hx hb dX9_readsStatement_161 (by decide) ?_
        exact m_zret (b := true) hx hb hr rfl (RS_yes (q := p + 5) (by rw [stP_s c18_115]; rw [hky.2]; exact enP_yes he) (hRk.place _) (by rw [up2_same, upd_self]) (by rw [up2_ne _ _ _ (by decide)]; exact htk.1) (fun _ => by rw [up2_ne _ _ _ (by decide)]; exact htk.2.1) (fun _ => by rw [up2_ne _ _ _ (by decide)]; exact htk.2.2)) hP hS dX9_readsStatement_165 hlk
  refine lv_lookup (off := 117) (tgt := 135) hx hb dX9_readsStatement_18 (by decide) (z_lookOut [100, 103, 104, 111, 115] (by decide) ⟨c18_100, c18_103, c18_104, c18_111, c18_115, trivial⟩) (by decide) ?_
  refine lv_aload_n hx hb dX9_readsStatement_135 rfl (lv_at hl 2 rfl) ?_
  refine lv_dup hx hb dX9_readsStatement_136 rfl ?_
  refine m_get hx hb hts hown hKK hP 14 (by decide) q1261 rfl rfl dX9_readsStatement_137 ?_
  refine z_top (y := nI (p + 1)) hp1 ?_
  refine lv_iconst (v := 1) hx hb dX9_readsStatement_140 (by decide) ?_
  refine lv_isub hx hb dX9_readsStatement_141 ?_
  refine z_top (y := nI p) (nI_pred p) ?_
  refine m_put (ty := .int) hx hb hts hown hKK hP hS 14 2 (by decide) q1261 rfl rfl (by decide +kernel) rfl rfl rfl dX9_readsStatement_142 (fun H locs hP hS => ?_)
  refine lv_iconst (v := 0) hx hb dX9_readsStatement_145 (by decide) ?_
  exact m_zret (b := false) hx hb hr rfl (RS_no (stP_x c18_100 c18_103 c18_104 c18_111 c18_115) (hR1.place _) (by rw [up2_same, upd_self])) hP hS dX9_readsStatement_146 hlk
set_option maxHeartbeats 4000000 in
theorem mm_comes (l : Launch) (D : va_G) (t : Nat → ClassId) (mb : Nat) (B : BT) (N : Nat) (x : Int32) (ho : Ok (B 2) N) : Met l yX9_comes (ws_ yX9_comes cX9_comes 5 (some .boolean)) ({ frames := 3, cells := 0, slots := 0, locals := 67 }) (zPc [.ref mb, .int x] (MW D t mb B) (KK D t)) (va_Qi (fun r B' => r = bI (coS (B 2) x (B 12 0) (B 12 1) (B 12 2)).1 ∧ B' = upc B 2 (coS (B 2) x (B 12 0) (B 12 1) (B 12 2)).2) (fun B' U => MW D t mb B' U.heap) (mA mb)) 0 0 (mA mb) := by
  refine zOf (cc := cX9_comes) (maxL := 5) (ret := (some .boolean)) (by decide) (Nat.le_of_ble_eq_true rfl) (fun pg ev s m below meth cd ls F hP hKK hl hnm => ?_)
  obtain ⟨hx, hb, hml, hown, hts, hr, hlk⟩ := F
  have S : CallFix pg m cd cX9_comes 5 s _ lw_all RX9 := ⟨hx, hb, hml, hown, hts⟩
  have hl : lv_has ls 5 [(0, .ref mb), (1, .int x)] := hl
  have hS : va_S (mA mb) s.heap s.heap [] := va_S.rf
  have hj6 := ho.h6
  have hs5 := ho.s5
  have hd8 := ho.d8
  refine lv_aload_n hx hb dX9_comes_0 rfl (lv_at hl 0 rfl) ?_
  refine m_get hx hb hts hown hKK hP 12 (by decide) q1259 rfl rfl dX9_comes_1 ?_
  refine lv_iconst (v := 0) hx hb dX9_comes_4 (by decide) ?_
  refine m_ald hx hb hKK hP 12 rfl (k := 0) (v := B 12 0) rfl (by omega) (by decide) rfl dX9_comes_5 ?_
  refine lv_istore_n (lv' := [(2, .int (B 12 0)), (0, .ref mb), (1, .int x)]) hx hb dX9_comes_6 rfl hl (by decide) rfl (fun ls hl => ?_)
  refine lv_aload_n hx hb dX9_comes_7 rfl (lv_at hl 1 rfl) ?_
  refine m_get hx hb hts hown hKK hP 12 (by decide) q1259 rfl rfl dX9_comes_8 ?_
  refine lv_iconst (v := 1) hx hb dX9_comes_11 (by decide) ?_
  refine m_ald hx hb hKK hP 12 rfl (k := 1) (v := B 12 1) rfl (by omega) (by decide) rfl dX9_comes_12 ?_
  refine lv_istore_n (lv' := [(3, .int (B 12 1)), (2, .int (B 12 0)), (0, .ref mb), (1, .int x)]) hx hb dX9_comes_13 rfl hl (by decide) rfl (fun ls hl => ?_)
  refine lv_iload_n hx hb dX9_comes_14 rfl (lv_at hl 3 rfl) ?_
  by_cases c15_100 : x = 100
  · refine lv_lookup (off := 41) (tgt := 56) hx hb dX9_comes_15 (by decide) (by rw [c15_100]; decide) (by decide) ?_
    refine lv_iload_n hx hb dX9_comes_56 rfl (lv_at hl 1 rfl) ?_
    refine lv_iconst (v := 5) hx hb dX9_comes_57 (by decide) ?_
    refine lv_icmp_ge (tgt := 82) hx hb dX9_comes_58 (by decide) (fun c58 => ?_) (fun c58 => ?_)
    · refine lv_iconst (v := 0) hx hb dX9_comes_82 (by decide) ?_
      exact m_zret (b := false) hx hb hr rfl (co_close (by unfold coS; rw [if_pos c15_100]; unfold coD; rw [if_pos (by grind)]) (upc_self B 2).symm) hP hS dX9_comes_83 hlk
    · refine lv_iload_n hx hb dX9_comes_61 rfl (lv_at hl 0 rfl) ?_
      refine lv_iconst (v := 5) hx hb dX9_comes_62 (by decide) ?_
      refine lv_icmp_ge (tgt := 82) hx hb dX9_comes_63 (by decide) (fun c63 => ?_) (fun c63 => ?_)
      · refine lv_iconst (v := 0) hx hb dX9_comes_82 (by decide) ?_
        exact m_zret (b := false) hx hb hr rfl (co_close (by unfold coS; rw [if_pos c15_100]; unfold coD; rw [if_pos (by grind)]) (upc_self B 2).symm) hP hS dX9_comes_83 hlk
      · refine lv_iload_n hx hb dX9_comes_66 rfl (lv_at hl 1 rfl) ?_
        refine lv_iload_n hx hb dX9_comes_67 rfl (lv_at hl 0 rfl) ?_
        refine lv_icmp_eq (tgt := 82) hx hb dX9_comes_68 (by decide) (fun c68 => ?_) (fun c68 => ?_)
        · refine lv_iconst (v := 0) hx hb dX9_comes_82 (by decide) ?_
          exact m_zret (b := false) hx hb hr rfl (co_close (by unfold coS; rw [if_pos c15_100]; unfold coD; rw [if_pos (by grind)]) (upc_self B 2).symm) hP hS dX9_comes_83 hlk
        · refine lv_aload_n hx hb dX9_comes_71 rfl (lv_at hl 2 rfl) ?_
          refine m_get hx hb hts hown hKK hP 1 (by decide) q1248 rfl rfl dX9_comes_72 ?_
          refine lv_iconst (v := 0) hx hb dX9_comes_75 (by decide) ?_
          refine m_ald hx hb hKK hP 2 rfl (k := 0) (v := B 2 0) rfl (by omega) (by decide) rfl dX9_comes_76 ?_
          refine lv_bipush (v := 8) hx hb dX9_comes_77 (by decide) ?_
          refine lv_icmp_ne (tgt := 84) hx hb dX9_comes_79 (by decide) (fun c79 => ?_) (fun c79 => ?_)
          · refine lv_aload_n hx hb dX9_comes_84 rfl (lv_at hl 2 rfl) ?_
            refine m_get hx hb hts hown hKK hP 1 (by decide) q1248 rfl rfl dX9_comes_85 ?_
            refine lv_bipush (v := 6) hx hb dX9_comes_88 (by decide) ?_
            refine lv_iconst (v := 2) hx hb dX9_comes_90 (by decide) ?_
            refine lv_aload_n hx hb dX9_comes_91 rfl (lv_at hl 2 rfl) ?_
            refine m_get hx hb hts hown hKK hP 1 (by decide) q1248 rfl rfl dX9_comes_92 ?_
            refine lv_iconst (v := 0) hx hb dX9_comes_95 (by decide) ?_
            refine m_ald hx hb hKK hP 2 rfl (k := 0) (v := B 2 0) rfl (by omega) (by decide) rfl dX9_comes_96 ?_
            refine lv_imul hx hb dX9_comes_97 ?_
            refine lv_iadd hx hb dX9_comes_98 ?_
            refine lv_iload_n hx hb dX9_comes_99 rfl (lv_at hl 1 rfl) ?_
            refine m_ast hx hb hKK hP hS 2 rfl (k := 6 + 2 * (nD (B 2))) (nI_addO rfl (nI_mulO rfl ho.hr0)) (by omega) (by decide) rfl dX9_comes_100 (fun H locs hP hS => ?_)
            refine lv_aload_n hx hb dX9_comes_101 rfl (lv_at hl 2 rfl) ?_
            refine m_get hx hb hts hown hKK hP 1 (by decide) q1248 rfl rfl dX9_comes_102 ?_
            refine lv_bipush (v := 6) hx hb dX9_comes_105 (by decide) ?_
            refine lv_iconst (v := 2) hx hb dX9_comes_107 (by decide) ?_
            refine lv_aload_n hx hb dX9_comes_108 rfl (lv_at hl 2 rfl) ?_
            refine m_get hx hb hts hown hKK hP 1 (by decide) q1248 rfl rfl dX9_comes_109 ?_
            refine lv_iconst (v := 0) hx hb dX9_comes_112 (by decide) ?_
            refine m_ald hx hb hKK hP 2 rfl (k := 0) (v := B 2 0) rfl (by omega) (by decide) (by rw [up2_same, upd_ne _ _ (by omega)]) dX9_comes_113 ?_
            refine lv_imul hx hb dX9_comes_114 ?_
            refine lv_iadd hx hb dX9_comes_115 ?_
            refine lv_iconst (v := 1) hx hb dX9_comes_116 (by decide) ?_
            refine lv_iadd hx hb dX9_comes_117 ?_
            refine lv_iload_n hx hb dX9_comes_118 rfl (lv_at hl 0 rfl) ?_
            refine m_ast hx hb hKK hP hS 2 rfl (k := 6 + 2 * (nD (B 2)) + 1) (nI_addO (nI_addO rfl (nI_mulO rfl ho.hr0)) rfl) (by omega) (by decide) rfl dX9_comes_119 (fun H locs hP hS => ?_)
            refine lv_aload_n hx hb dX9_comes_120 rfl (lv_at hl 2 rfl) ?_
            refine m_get hx hb hts hown hKK hP 1 (by decide) q1248 rfl rfl dX9_comes_121 ?_
            refine lv_iconst (v := 1) hx hb dX9_comes_124 (by decide) ?_
            refine lv_dup2_11 hx hb dX9_comes_125 rfl rfl ?_
            refine m_ald hx hb hKK hP 2 rfl (k := 1) (v := B 2 1) rfl (by omega) (by decide) (by rw [up2_same, upd_ne _ _ (by omega), up2_same, upd_ne _ _ (by omega)]) dX9_comes_126 ?_
            refine lv_iconst (v := 1) hx hb dX9_comes_127 (by decide) ?_
            refine lv_aload_n hx hb dX9_comes_128 rfl (lv_at hl 2 rfl) ?_
            refine m_get hx hb hts hown hKK hP 1 (by decide) q1248 rfl rfl dX9_comes_129 ?_
            refine lv_iconst (v := 0) hx hb dX9_comes_132 (by decide) ?_
            refine m_ald hx hb hKK hP 2 rfl (k := 0) (v := B 2 0) rfl (by omega) (by decide) (by rw [up2_same, upd_ne _ _ (by omega), up2_same, upd_ne _ _ (by omega)]) dX9_comes_133 ?_
            refine lv_ishl hx hb dX9_comes_134 ?_
            refine lv_ior hx hb dX9_comes_135 ?_
            refine m_ast hx hb hKK hP hS 2 rfl (k := 1) rfl (by omega) (by decide) rfl dX9_comes_136 (fun H locs hP hS => ?_)
            refine lv_aload_n hx hb dX9_comes_137 rfl (lv_at hl 2 rfl) ?_
            refine m_get hx hb hts hown hKK hP 1 (by decide) q1248 rfl rfl dX9_comes_138 ?_
            refine lv_iconst (v := 0) hx hb dX9_comes_141 (by decide) ?_
            refine lv_dup2_11 hx hb dX9_comes_142 rfl rfl ?_
            refine m_ald hx hb hKK hP 2 rfl (k := 0) (v := B 2 0) rfl (by omega) (by decide) (by rw [up2_same, upd_ne _ _ (by omega), up2_same, upd_ne _ _ (by omega), up2_same, upd_ne _ _ (by omega)]) dX9_comes_143 ?_
            refine lv_iconst (v := 1) hx hb dX9_comes_144 (by decide) ?_
            refine lv_iadd hx hb dX9_comes_145 ?_
            refine m_ast hx hb hKK hP hS 2 rfl (k := 0) rfl (by omega) (by decide) rfl dX9_comes_146 (fun H locs hP hS => ?_)
            refine lv_iconst (v := 1) hx hb dX9_comes_147 (by decide) ?_
            exact m_zret (b := true) hx hb hr rfl (co_close (by unfold coS; rw [if_pos c15_100]; unfold coD; rw [if_neg (by grind)]) (by rw [up2_upc B 2 (6 + 2 * nD (B 2)), up2_2, up2_2, up2_2])) hP hS dX9_comes_148 hlk
          · refine lv_iconst (v := 0) hx hb dX9_comes_82 (by decide) ?_
            exact m_zret (b := false) hx hb hr rfl (co_close (by unfold coS; rw [if_pos c15_100]; unfold coD; rw [if_pos (by grind)]) (upc_self B 2).symm) hP hS dX9_comes_83 hlk
  by_cases c15_103 : x = 103
  · refine lv_lookup (off := 310) (tgt := 325) hx hb dX9_comes_15 (by decide) (by rw [c15_103]; decide) (by decide) ?_
    refine lv_aload_n hx hb dX9_comes_325 rfl (lv_at hl 2 rfl) ?_
    refine lv_iload_n hx hb dX9_comes_326 rfl (lv_at hl 1 rfl) ?_
    refine m_callr (As := [.int (B 12 0)]) (rest := []) S hKK hP (mm_isHead l D t mb B (B 12 0)) (cwV 1 hts (lw_V q1358 q1360 qs69 q104 q1361) rfl rfl rfl (by decide +kernel) ⟨Nat.le_of_ble_eq_true rfl, Nat.le_of_ble_eq_true rfl⟩) rfl hl.1 rfl (Nat.le_of_ble_eq_true rfl) dX9_comes_327 ⟨Nat.le_of_ble_eq_true rfl, Nat.le_of_ble_eq_true rfl⟩ ?_
    refine z_ifeq (tgt := 341) hx hb dX9_comes_330 (by decide) (fun c330 => ?_) (fun c330 => ?_)
    · refine lv_iconst (v := 0) hx hb dX9_comes_341 (by decide) ?_
      exact m_zret (b := false) hx hb hr rfl (co_close (by unfold coS; rw [if_neg (by rw [c15_103]; decide), if_pos c15_103]; unfold coG isH isS; rw [if_neg (by grind)]) (upc_self B 2).symm) hP hS dX9_comes_342 hlk
    · have hh := isH_ix ho c330
      refine lv_aload_n hx hb dX9_comes_333 rfl (lv_at hl 2 rfl) ?_
      refine lv_iload_n hx hb dX9_comes_334 rfl (lv_at hl 0 rfl) ?_
      refine m_callr (As := [.int (B 12 1)]) (rest := []) S hKK hP (mm_isSong l D t mb B (B 12 1)) (cwV 1 hts (lw_V q1362 q1364 qs70 q104 q1365) rfl rfl rfl (by decide +kernel) ⟨Nat.le_of_ble_eq_true rfl, Nat.le_of_ble_eq_true rfl⟩) rfl hl.1 rfl (Nat.le_of_ble_eq_true rfl) dX9_comes_335 ⟨Nat.le_of_ble_eq_true rfl, Nat.le_of_ble_eq_true rfl⟩ ?_
      refine z_ifne (tgt := 343) hx hb dX9_comes_338 (by decide) (fun c338 => ?_) (fun c338 => ?_)
      · have hv : ¬ B 12 1 < 0 → B 12 1 = nI (ix (B 12 1)) ∧ ix (B 12 1) < 5 := fun _ => ⟨(isS_ix ho c338).1, by have := (isS_ix ho c338).2; omega⟩
        refine lv_aload_n hx hb dX9_comes_343 rfl (lv_at hl 2 rfl) ?_
        refine lv_iload_n hx hb dX9_comes_344 rfl (lv_at hl 1 rfl) ?_
        refine lv_iload_n hx hb dX9_comes_345 rfl (lv_at hl 0 rfl) ?_
        refine z_stk (st' := [.int (B 12 1), .int (nI (ix (B 12 0))), .ref mb]) (by rw [← show B 12 0 = nI (ix (B 12 0)) from hh.1]) ?_
        refine m_callv (As := [.int (nI (ix (B 12 0))), .int (B 12 1)]) (rest := []) S hKK hP hS (mm_gets l D t mb B (ix (B 12 0)) (B 12 1) (by omega) (by assumption)) (cwV 2 hts (lw_V q1366 q1368 qs71 q104 q1369) rfl rfl rfl (by decide +kernel) ⟨Nat.le_of_ble_eq_true rfl, Nat.le_of_ble_eq_true rfl⟩) rfl hl.1 rfl (Nat.le_of_ble_eq_true rfl) dX9_comes_346 ⟨Nat.le_of_ble_eq_true rfl, Nat.le_of_ble_eq_true rfl⟩ (fun B346 H locs h346 hP hS => ?_)
        have h346 : B346 = upc B 2 (geS (B 2) (ix (B 12 0)) (B 12 1)) := h346
        subst h346
        refine lv_iconst (v := 1) hx hb dX9_comes_349 (by decide) ?_
        exact m_zret (b := true) hx hb hr rfl (co_close (by unfold coS; rw [if_neg (by rw [c15_103]; decide), if_pos c15_103]; unfold coG isH isS; rw [if_pos (by grind)]) rfl) hP hS dX9_comes_350 hlk
      · refine lv_iconst (v := 0) hx hb dX9_comes_341 (by decide) ?_
        exact m_zret (b := false) hx hb hr rfl (co_close (by unfold coS; rw [if_neg (by rw [c15_103]; decide), if_pos c15_103]; unfold coG isH isS; rw [if_neg (by grind)]) (upc_self B 2).symm) hP hS dX9_comes_342 hlk
  by_cases c15_104 : x = 104
  · refine lv_lookup (off := 209) (tgt := 224) hx hb dX9_comes_15 (by decide) (by rw [c15_104]; decide) (by decide) ?_
    refine lv_iload_n hx hb dX9_comes_224 rfl (lv_at hl 0 rfl) ?_
    refine lv_iconst (v := 5) hx hb dX9_comes_225 (by decide) ?_
    refine lv_icmp_ge (tgt := 240) hx hb dX9_comes_226 (by decide) (fun c226 => ?_) (fun c226 => ?_)
    · refine lv_iconst (v := 0) hx hb dX9_comes_240 (by decide) ?_
      exact m_zret (b := false) hx hb hr rfl (co_close (by unfold coS; rw [if_neg (by rw [c15_104]; decide), if_neg (by rw [c15_104]; decide), if_pos c15_104]; unfold coH; rw [if_pos (by grind)]) (upc_self B 2).symm) hP hS dX9_comes_241 hlk
    · refine lv_aload_n hx hb dX9_comes_229 rfl (lv_at hl 2 rfl) ?_
      refine m_get hx hb hts hown hKK hP 1 (by decide) q1248 rfl rfl dX9_comes_230 ?_
      refine lv_iconst (v := 3) hx hb dX9_comes_233 (by decide) ?_
      refine m_ald hx hb hKK hP 2 rfl (k := 3) (v := B 2 3) rfl (by omega) (by decide) rfl dX9_comes_234 ?_
      refine lv_bipush (v := 6) hx hb dX9_comes_235 (by decide) ?_
      refine lv_icmp_ne (tgt := 242) hx hb dX9_comes_237 (by decide) (fun c237 => ?_) (fun c237 => ?_)
      · have hH : nH (B 2) < 6 := by
          rcases Nat.lt_or_ge (nH (B 2)) 6 with z | z
          · exact z
          · exact absurd (by rw [ho.hr3, show nH (B 2) = 6 by omega]; rfl) c237
        refine lv_iconst (v := 0) hx hb dX9_comes_242 (by decide) ?_
        refine lv_istore (lv' := [(4, .int 0), (3, .int (B 12 1)), (2, .int (B 12 0)), (0, .ref mb), (1, .int x)]) hx hb dX9_comes_243 hl (by decide) rfl (fun ls hl => ?_)
        refine W.loop (σ := Nat) (fun k H locs ls => k ≤ 3 ∧ (True) ∧ MW D t mb (upc B 2 (tlL (37 + 6 * nH (B 2)) (B 2) (B 12) k)) H ∧ va_S (mA mb) s.heap H locs ∧ lv_has ls 5 [(4, .int (nI k)), (0, .ref mb), (1, .int x), (2, .int (B 12 0)), (3, .int (B 12 1))]) (fun k => 3 - k) (fun k H locs ls hIk ihk => ?_) 0 ⟨by omega, trivial, (by rw [show upc B 2 (tlL (37 + 6 * nH (B 2)) (B 2) (B 12) 0) = B from (upc_self B 2)]; exact hP), hS, lv_sub hl [0, 3, 4, 2, 1] rfl⟩
        obtain ⟨hk, hEk, hP, hS, hl⟩ := hIk
        refine lv_iload hx hb dX9_comes_245 (lv_at hl 0 rfl) ?_
        refine lv_iconst (v := 3) hx hb dX9_comes_247 (by decide) ?_
        refine lv_icmp_ge (tgt := 276) hx hb dX9_comes_248 (by decide) (fun c248 => ?_) (fun c248 => ?_)
        · obtain rfl : k = 3 := Nat.le_antisymm hk (lp_end (n := 3) rfl (by omega) (by omega) c248)
          refine lv_aload_n hx hb dX9_comes_276 rfl (lv_at hl 1 rfl) ?_
          refine lv_aload_n hx hb dX9_comes_277 rfl (lv_at hl 1 rfl) ?_
          refine m_get hx hb hts hown hKK hP 1 (by decide) q1248 rfl rfl dX9_comes_278 ?_
          refine lv_iconst (v := 3) hx hb dX9_comes_281 (by decide) ?_
          refine m_ald hx hb hKK hP 2 rfl (k := 3) (v := B 2 3) rfl (by omega) (by decide) (by rw [upc_same]; exact tlL_lo _ _ _ _ (by omega)) dX9_comes_282 ?_
          refine lv_iconst (v := 3) hx hb dX9_comes_283 (by decide) ?_
          refine lv_bipush (v := (-9)) hx hb dX9_comes_284 (by decide) ?_
          refine z_stk (st' := [.int (-9), .int 3, .int (nI (nH (B 2))), .ref mb]) (by rw [← show B 2 3 = nI (nH (B 2)) from ho.hr3]) ?_
          refine m_callv (As := [.int (nI (nH (B 2))), .int 3, .int (-9)]) (rest := []) S hKK hP hS (mm_puts l D t mb (upc B 2 (tlL (37 + 6 * nH (B 2)) (B 2) (B 12) 3)) (nH (B 2)) 3 (-9) (by omega)) (cwV 3 hts (lw_V q1354 q1356 qs68 q104 q1357) rfl rfl rfl (by decide +kernel) ⟨Nat.le_of_ble_eq_true rfl, Nat.le_of_ble_eq_true rfl⟩) rfl hl.1 rfl (Nat.le_of_ble_eq_true rfl) dX9_comes_286 ⟨Nat.le_of_ble_eq_true rfl, Nat.le_of_ble_eq_true rfl⟩ (fun B286 H locs h286 hP hS => ?_)
          have h286 : B286 = up2 (upc B 2 (tlL (37 + 6 * nH (B 2)) (B 2) (B 12) 3)) 2 (37 + 6 * (nH (B 2)) + 3) (-9) := h286
          subst h286
          refine lv_aload_n hx hb dX9_comes_289 rfl (lv_at hl 1 rfl) ?_
          refine lv_aload_n hx hb dX9_comes_290 rfl (lv_at hl 1 rfl) ?_
          refine m_get hx hb hts hown hKK hP 1 (by decide) q1248 rfl rfl dX9_comes_291 ?_
          refine lv_iconst (v := 3) hx hb dX9_comes_294 (by decide) ?_
          refine m_ald hx hb hKK hP 2 rfl (k := 3) (v := B 2 3) rfl (by omega) (by decide) (by rw [up2_same, upd_ne _ _ (by omega), upc_same]; exact tlL_lo _ _ _ _ (by omega)) dX9_comes_295 ?_
          refine lv_iconst (v := 4) hx hb dX9_comes_296 (by decide) ?_
          refine lv_iconst (v := 0) hx hb dX9_comes_297 (by decide) ?_
          refine z_stk (st' := [.int 0, .int 4, .int (nI (nH (B 2))), .ref mb]) (by rw [← show B 2 3 = nI (nH (B 2)) from ho.hr3]) ?_
          refine m_callv (As := [.int (nI (nH (B 2))), .int 4, .int 0]) (rest := []) S hKK hP hS (mm_puts l D t mb (up2 (upc B 2 (tlL (37 + 6 * nH (B 2)) (B 2) (B 12) 3)) 2 (37 + 6 * (nH (B 2)) + 3) (-9)) (nH (B 2)) 4 0 (by omega)) (cwV 3 hts (lw_V q1354 q1356 qs68 q104 q1357) rfl rfl rfl (by decide +kernel) ⟨Nat.le_of_ble_eq_true rfl, Nat.le_of_ble_eq_true rfl⟩) rfl hl.1 rfl (Nat.le_of_ble_eq_true rfl) dX9_comes_298 ⟨Nat.le_of_ble_eq_true rfl, Nat.le_of_ble_eq_true rfl⟩ (fun B298 H locs h298 hP hS => ?_)
          have h298 : B298 = up2 (up2 (upc B 2 (tlL (37 + 6 * nH (B 2)) (B 2) (B 12) 3)) 2 (37 + 6 * (nH (B 2)) + 3) (-9)) 2 (37 + 6 * (nH (B 2)) + 4) 0 := h298
          subst h298
          refine lv_aload_n hx hb dX9_comes_301 rfl (lv_at hl 1 rfl) ?_
          refine lv_aload_n hx hb dX9_comes_302 rfl (lv_at hl 1 rfl) ?_
          refine m_get hx hb hts hown hKK hP 1 (by decide) q1248 rfl rfl dX9_comes_303 ?_
          refine lv_iconst (v := 3) hx hb dX9_comes_306 (by decide) ?_
          refine m_ald hx hb hKK hP 2 rfl (k := 3) (v := B 2 3) rfl (by omega) (by decide) (by rw [up2_same, upd_ne _ _ (by omega), up2_same, upd_ne _ _ (by omega), upc_same]; exact tlL_lo _ _ _ _ (by omega)) dX9_comes_307 ?_
          refine lv_iconst (v := 5) hx hb dX9_comes_308 (by decide) ?_
          refine lv_iconst (v := 0) hx hb dX9_comes_309 (by decide) ?_
          refine z_stk (st' := [.int 0, .int 5, .int (nI (nH (B 2))), .ref mb]) (by rw [← show B 2 3 = nI (nH (B 2)) from ho.hr3]) ?_
          refine m_callv (As := [.int (nI (nH (B 2))), .int 5, .int 0]) (rest := []) S hKK hP hS (mm_puts l D t mb (up2 (up2 (upc B 2 (tlL (37 + 6 * nH (B 2)) (B 2) (B 12) 3)) 2 (37 + 6 * (nH (B 2)) + 3) (-9)) 2 (37 + 6 * (nH (B 2)) + 4) 0) (nH (B 2)) 5 0 (by omega)) (cwV 3 hts (lw_V q1354 q1356 qs68 q104 q1357) rfl rfl rfl (by decide +kernel) ⟨Nat.le_of_ble_eq_true rfl, Nat.le_of_ble_eq_true rfl⟩) rfl hl.1 rfl (Nat.le_of_ble_eq_true rfl) dX9_comes_310 ⟨Nat.le_of_ble_eq_true rfl, Nat.le_of_ble_eq_true rfl⟩ (fun B310 H locs h310 hP hS => ?_)
          have h310 : B310 = up2 (up2 (up2 (upc B 2 (tlL (37 + 6 * nH (B 2)) (B 2) (B 12) 3)) 2 (37 + 6 * (nH (B 2)) + 3) (-9)) 2 (37 + 6 * (nH (B 2)) + 4) 0) 2 (37 + 6 * (nH (B 2)) + 5) 0 := h310
          subst h310
          refine lv_aload_n hx hb dX9_comes_313 rfl (lv_at hl 1 rfl) ?_
          refine m_get hx hb hts hown hKK hP 1 (by decide) q1248 rfl rfl dX9_comes_314 ?_
          refine lv_iconst (v := 3) hx hb dX9_comes_317 (by decide) ?_
          refine lv_dup2_11 hx hb dX9_comes_318 rfl rfl ?_
          refine m_ald hx hb hKK hP 2 rfl (k := 3) (v := B 2 3) rfl (by omega) (by decide) (by rw [up2_same, upd_ne _ _ (by omega), up2_same, upd_ne _ _ (by omega), up2_same, upd_ne _ _ (by omega), upc_same]; exact tlL_lo _ _ _ _ (by omega)) dX9_comes_319 ?_
          refine lv_iconst (v := 1) hx hb dX9_comes_320 (by decide) ?_
          refine lv_iadd hx hb dX9_comes_321 ?_
          refine m_ast hx hb hKK hP hS 2 rfl (k := 3) rfl (by omega) (by decide) rfl dX9_comes_322 (fun H locs hP hS => ?_)
          refine lv_iconst (v := 1) hx hb dX9_comes_323 (by decide) ?_
          exact m_zret (b := true) hx hb hr rfl (co_close (by unfold coS; rw [if_neg (by rw [c15_104]; decide), if_neg (by rw [c15_104]; decide), if_pos c15_104]; unfold coH; rw [if_neg (by grind)]) (by rw [up2_2, up2_2, up2_2, up2_2]; rfl)) hP hS dX9_comes_324 hlk
        · have hk2 : k < 3 := lp_go (n := 3) rfl (by omega) (by omega) c248
          refine lv_aload_n hx hb dX9_comes_251 rfl (lv_at hl 1 rfl) ?_
          refine lv_aload_n hx hb dX9_comes_252 rfl (lv_at hl 1 rfl) ?_
          refine m_get hx hb hts hown hKK hP 1 (by decide) q1248 rfl rfl dX9_comes_253 ?_
          refine lv_iconst (v := 3) hx hb dX9_comes_256 (by decide) ?_
          refine m_ald hx hb hKK hP 2 rfl (k := 3) (v := B 2 3) rfl (by omega) (by decide) (by rw [upc_same]; exact tlL_lo _ _ _ _ (by omega)) dX9_comes_257 ?_
          refine lv_iload hx hb dX9_comes_258 (lv_at hl 0 rfl) ?_
          refine lv_aload_n hx hb dX9_comes_260 rfl (lv_at hl 1 rfl) ?_
          refine m_get hx hb hts hown hKK hP 12 (by decide) q1259 rfl rfl dX9_comes_261 ?_
          refine lv_iload hx hb dX9_comes_264 (lv_at hl 0 rfl) ?_
          refine m_ald hx hb hKK hP 12 rfl (k := k) (v := B 12 k) rfl (by omega) (by decide) rfl dX9_comes_266 ?_
          refine z_stk (st' := [.int (B 12 k), .int (nI k), .int (nI (nH (B 2))), .ref mb]) (by rw [← show B 2 3 = nI (nH (B 2)) from ho.hr3]) ?_
          refine m_callv (As := [.int (nI (nH (B 2))), .int (nI k), .int (B 12 k)]) (rest := []) S hKK hP hS (mm_puts l D t mb (upc B 2 (tlL (37 + 6 * nH (B 2)) (B 2) (B 12) k)) (nH (B 2)) k (B 12 k) (by omega)) (cwV 3 hts (lw_V q1354 q1356 qs68 q104 q1357) rfl rfl rfl (by decide +kernel) ⟨Nat.le_of_ble_eq_true rfl, Nat.le_of_ble_eq_true rfl⟩) rfl hl.1 rfl (Nat.le_of_ble_eq_true rfl) dX9_comes_267 ⟨Nat.le_of_ble_eq_true rfl, Nat.le_of_ble_eq_true rfl⟩ (fun B267 H locs h267 hP hS => ?_)
          have h267 : B267 = up2 (upc B 2 (tlL (37 + 6 * nH (B 2)) (B 2) (B 12) k)) 2 (37 + 6 * (nH (B 2)) + k) (B 12 k) := h267
          subst h267
          refine lv_iinc (v := nI (k + 1)) (lv' := [(4, .int (nI (k + 1))), (0, .ref mb), (1, .int x), (2, .int (B 12 0)), (3, .int (B 12 1))]) hx hb dX9_comes_270 hl (k := 0) rfl (nI_1 k) (by decide) rfl (fun ls hl => ?_)
          refine lv_goto (tgt := 245) hx hb dX9_comes_273 (by decide) ?_
          exact ihk (k + 1) H locs ls (by omega) ⟨by omega, trivial, (by rw [show upc B 2 (tlL (37 + 6 * nH (B 2)) (B 2) (B 12) (k + 1)) = up2 (upc B 2 (tlL (37 + 6 * nH (B 2)) (B 2) (B 12) k)) 2 (37 + 6 * (nH (B 2)) + k) (B 12 k) from (tlB_step B _ _ _ k)]; exact hP), hS, lv_sub hl [0, 1, 2, 3, 4] rfl⟩
      · refine lv_iconst (v := 0) hx hb dX9_comes_240 (by decide) ?_
        exact m_zret (b := false) hx hb hr rfl (co_close (by unfold coS; rw [if_neg (by rw [c15_104]; decide), if_neg (by rw [c15_104]; decide), if_pos c15_104]; unfold coH; rw [if_pos (by grind)]) (upc_self B 2).symm) hP hS dX9_comes_241 hlk
  by_cases c15_115 : x = 115
  · refine lv_lookup (off := 134) (tgt := 149) hx hb dX9_comes_15 (by decide) (by rw [c15_115]; decide) (by decide) ?_
    refine lv_aload_n hx hb dX9_comes_149 rfl (lv_at hl 2 rfl) ?_
    refine m_get hx hb hts hown hKK hP 12 (by decide) q1259 rfl rfl dX9_comes_150 ?_
    refine lv_iconst (v := 2) hx hb dX9_comes_153 (by decide) ?_
    refine m_ald hx hb hKK hP 12 rfl (k := 2) (v := B 12 2) rfl (by omega) (by decide) rfl dX9_comes_154 ?_
    refine lv_iconst (v := 1) hx hb dX9_comes_155 (by decide) ?_
    refine lv_icmp_lt (tgt := 169) hx hb dX9_comes_156 (by decide) (fun c156 => ?_) (fun c156 => ?_)
    · refine lv_iconst (v := 0) hx hb dX9_comes_169 (by decide) ?_
      exact m_zret (b := false) hx hb hr rfl (co_close (by unfold coS; rw [if_neg (by rw [c15_115]; decide), if_neg (by rw [c15_115]; decide), if_neg (by rw [c15_115]; decide), if_pos c15_115]; unfold coO; rw [if_pos (by grind)]) (upc_self B 2).symm) hP hS dX9_comes_170 hlk
    · refine lv_aload_n hx hb dX9_comes_159 rfl (lv_at hl 2 rfl) ?_
      refine m_get hx hb hts hown hKK hP 1 (by decide) q1248 rfl rfl dX9_comes_160 ?_
      refine lv_iconst (v := 2) hx hb dX9_comes_163 (by decide) ?_
      refine m_ald hx hb hKK hP 2 rfl (k := 2) (v := B 2 2) rfl (by omega) (by decide) rfl dX9_comes_164 ?_
      refine lv_iconst (v := 5) hx hb dX9_comes_165 (by decide) ?_
      refine lv_icmp_ne (tgt := 171) hx hb dX9_comes_166 (by decide) (fun c166 => ?_) (fun c166 => ?_)
      · refine lv_iconst (v := 0) hx hb dX9_comes_171 (by decide) ?_
        refine lv_istore (lv' := [(4, .int 0), (3, .int (B 12 1)), (2, .int (B 12 0)), (0, .ref mb), (1, .int x)]) hx hb dX9_comes_172 hl (by decide) rfl (fun ls hl => ?_)
        refine W.loop (σ := Nat) (fun k H locs ls => k ≤ 3 ∧ (True) ∧ MW D t mb (upc B 2 (tlL (22 + 3 * nS (B 2)) (B 2) (B 12) k)) H ∧ va_S (mA mb) s.heap H locs ∧ lv_has ls 5 [(4, .int (nI k)), (0, .ref mb), (1, .int x), (2, .int (B 12 0)), (3, .int (B 12 1))]) (fun k => 3 - k) (fun k H locs ls hIk ihk => ?_) 0 ⟨by omega, trivial, (by rw [show upc B 2 (tlL (22 + 3 * nS (B 2)) (B 2) (B 12) 0) = B from (upc_self B 2)]; exact hP), hS, lv_sub hl [0, 3, 4, 2, 1] rfl⟩
        obtain ⟨hk, hEk, hP, hS, hl⟩ := hIk
        refine lv_iload hx hb dX9_comes_174 (lv_at hl 0 rfl) ?_
        refine lv_iconst (v := 3) hx hb dX9_comes_176 (by decide) ?_
        refine lv_icmp_ge (tgt := 212) hx hb dX9_comes_177 (by decide) (fun c177 => ?_) (fun c177 => ?_)
        · obtain rfl : k = 3 := Nat.le_antisymm hk (lp_end (n := 3) rfl (by omega) (by omega) c177)
          refine lv_aload_n hx hb dX9_comes_212 rfl (lv_at hl 1 rfl) ?_
          refine m_get hx hb hts hown hKK hP 1 (by decide) q1248 rfl rfl dX9_comes_213 ?_
          refine lv_iconst (v := 2) hx hb dX9_comes_216 (by decide) ?_
          refine lv_dup2_11 hx hb dX9_comes_217 rfl rfl ?_
          refine m_ald hx hb hKK hP 2 rfl (k := 2) (v := B 2 2) rfl (by omega) (by decide) (by rw [upc_same]; exact tlL_lo _ _ _ _ (by omega)) dX9_comes_218 ?_
          refine lv_iconst (v := 1) hx hb dX9_comes_219 (by decide) ?_
          refine lv_iadd hx hb dX9_comes_220 ?_
          refine m_ast hx hb hKK hP hS 2 rfl (k := 2) rfl (by omega) (by decide) rfl dX9_comes_221 (fun H locs hP hS => ?_)
          refine lv_iconst (v := 1) hx hb dX9_comes_222 (by decide) ?_
          exact m_zret (b := true) hx hb hr rfl (co_close (by unfold coS; rw [if_neg (by rw [c15_115]; decide), if_neg (by rw [c15_115]; decide), if_neg (by rw [c15_115]; decide), if_pos c15_115]; unfold coO; rw [if_neg (by grind)]) (by rw [up2_2]; rfl)) hP hS dX9_comes_223 hlk
        · have hk2 : k < 3 := lp_go (n := 3) rfl (by omega) (by omega) c177
          refine lv_aload_n hx hb dX9_comes_180 rfl (lv_at hl 1 rfl) ?_
          refine m_get hx hb hts hown hKK hP 1 (by decide) q1248 rfl rfl dX9_comes_181 ?_
          refine lv_bipush (v := 22) hx hb dX9_comes_184 (by decide) ?_
          refine lv_iconst (v := 3) hx hb dX9_comes_186 (by decide) ?_
          refine lv_aload_n hx hb dX9_comes_187 rfl (lv_at hl 1 rfl) ?_
          refine m_get hx hb hts hown hKK hP 1 (by decide) q1248 rfl rfl dX9_comes_188 ?_
          refine lv_iconst (v := 2) hx hb dX9_comes_191 (by decide) ?_
          refine m_ald hx hb hKK hP 2 rfl (k := 2) (v := B 2 2) rfl (by omega) (by decide) (by rw [upc_same]; exact tlL_lo _ _ _ _ (by omega)) dX9_comes_192 ?_
          refine lv_imul hx hb dX9_comes_193 ?_
          refine lv_iadd hx hb dX9_comes_194 ?_
          refine lv_iload hx hb dX9_comes_195 (lv_at hl 0 rfl) ?_
          refine lv_iadd hx hb dX9_comes_197 ?_
          refine lv_aload_n hx hb dX9_comes_198 rfl (lv_at hl 1 rfl) ?_
          refine m_get hx hb hts hown hKK hP 12 (by decide) q1259 rfl rfl dX9_comes_199 ?_
          refine lv_iload hx hb dX9_comes_202 (lv_at hl 0 rfl) ?_
          refine m_ald hx hb hKK hP 12 rfl (k := k) (v := B 12 k) rfl (by omega) (by decide) rfl dX9_comes_204 ?_
          refine m_ast hx hb hKK hP hS 2 rfl (k := 22 + 3 * (nS (B 2)) + k) (nI_addO (nI_addO rfl (nI_mulO rfl ho.hr2)) rfl) (by omega) (by decide) rfl dX9_comes_205 (fun H locs hP hS => ?_)
          refine lv_iinc (v := nI (k + 1)) (lv' := [(4, .int (nI (k + 1))), (0, .ref mb), (1, .int x), (2, .int (B 12 0)), (3, .int (B 12 1))]) hx hb dX9_comes_206 hl (k := 0) rfl (nI_1 k) (by decide) rfl (fun ls hl => ?_)
          refine lv_goto (tgt := 174) hx hb dX9_comes_209 (by decide) ?_
          exact ihk (k + 1) H locs ls (by omega) ⟨by omega, trivial, (by rw [show upc B 2 (tlL (22 + 3 * nS (B 2)) (B 2) (B 12) (k + 1)) = up2 (upc B 2 (tlL (22 + 3 * nS (B 2)) (B 2) (B 12) k)) 2 (22 + 3 * (nS (B 2)) + k) (B 12 k) from (tlB_step B _ _ _ k)]; exact hP), hS, lv_sub hl [0, 1, 2, 3, 4] rfl⟩
      · refine lv_iconst (v := 0) hx hb dX9_comes_169 (by decide) ?_
        exact m_zret (b := false) hx hb hr rfl (co_close (by unfold coS; rw [if_neg (by rw [c15_115]; decide), if_neg (by rw [c15_115]; decide), if_neg (by rw [c15_115]; decide), if_pos c15_115]; unfold coO; rw [if_pos (by grind)]) (upc_self B 2).symm) hP hS dX9_comes_170 hlk
  refine lv_lookup (off := 336) (tgt := 351) hx hb dX9_comes_15 (by decide) (z_lookOut [100, 103, 104, 115] (by decide) ⟨c15_100, c15_103, c15_104, c15_115, trivial⟩) (by decide) ?_
  refine lv_iload_n hx hb dX9_comes_351 rfl (lv_at hl 1 rfl) ?_
  refine lv_iconst (v := 1) hx hb dX9_comes_352 (by decide) ?_
  refine lv_icmp_lt (tgt := 362) hx hb dX9_comes_353 (by decide) (fun c353 => ?_) (fun c353 => ?_)
  · refine lv_iconst (v := 0) hx hb dX9_comes_362 (by decide) ?_
    exact m_zret (b := false) hx hb hr rfl (co_close (by unfold coS; rw [if_neg c15_100, if_neg c15_103, if_neg c15_104, if_neg c15_115]; unfold coL; rw [if_pos (by grind)]) (upc_self B 2).symm) hP hS dX9_comes_363 hlk
  · refine lv_iload_n hx hb dX9_comes_356 rfl (lv_at hl 1 rfl) ?_
    refine lv_bipush (v := 20) hx hb dX9_comes_357 (by decide) ?_
    refine lv_icmp_le (tgt := 364) hx hb dX9_comes_359 (by decide) (fun c359 => ?_) (fun c359 => ?_)
    · refine lv_aload_n hx hb dX9_comes_364 rfl (lv_at hl 2 rfl) ?_
      refine m_get hx hb hts hown hKK hP 1 (by decide) q1248 rfl rfl dX9_comes_365 ?_
      refine lv_iconst (v := 5) hx hb dX9_comes_368 (by decide) ?_
      refine lv_iload_n hx hb dX9_comes_369 rfl (lv_at hl 1 rfl) ?_
      refine m_ast hx hb hKK hP hS 2 rfl (k := 5) rfl (by omega) (by decide) rfl dX9_comes_370 (fun H locs hP hS => ?_)
      refine lv_iconst (v := 1) hx hb dX9_comes_371 (by decide) ?_
      exact m_zret (b := true) hx hb hr rfl (co_close (by unfold coS; rw [if_neg c15_100, if_neg c15_103, if_neg c15_104, if_neg c15_115]; unfold coL; rw [if_neg (by grind)]) rfl) hP hS dX9_comes_372 hlk
    · refine lv_iconst (v := 0) hx hb dX9_comes_362 (by decide) ?_
      exact m_zret (b := false) hx hb hr rfl (co_close (by unfold coS; rw [if_neg c15_100, if_neg c15_103, if_neg c15_104, if_neg c15_115]; unfold coL; rw [if_pos (by grind)]) (upc_self B 2).symm) hP hS dX9_comes_363 hlk
set_option maxHeartbeats 4000000 in
theorem mm_reads (l : Launch) (D : va_G) (t : Nat → ClassId) (mb : Nat) (B : BT) (hB : OkB B) : Met l yX9_reads (ws_ yX9_reads cX9_reads 5 (some .int)) ({ frames := 4, cells := 0, slots := 0, locals := 91 }) (zPc [.ref mb] (MW D t mb B) (KK D t)) (va_Qi (fun r B' => r = (offS B).1 ∧ PE (offS B).2 (up2 B' 0 1 0)) (fun B' U => MW D t mb B' U.heap) (mA mb)) 0 0 (mA mb) := by
  refine zOf (cc := cX9_reads) (maxL := 5) (ret := (some .int)) (by decide) (Nat.le_of_ble_eq_true rfl) (fun pg ev s m below meth cd ls F hP hKK hl hnm => ?_)
  obtain ⟨hx, hb, hml, hown, hts, hr, hlk⟩ := F
  have S : CallFix pg m cd cX9_reads 5 s _ lw_all RX9 := ⟨hx, hb, hml, hown, hts⟩
  have hl : lv_has ls 5 [(0, .ref mb)] := hl
  have hS : va_S (mA mb) s.heap s.heap [] := va_S.rf
  have ho := hB.1
  obtain ⟨n, hnx⟩ : ∃ n, n = ix (B 0 1) := ⟨_, rfl⟩
  have hn : B 0 1 = nI n := by rw [hnx]; exact hB.2.2.1.1
  have h96 : n ≤ 96 := by rw [hnx]; exact hB.2.2.1.2
  refine lv_aload_n hx hb dX9_reads_0 rfl (lv_at hl 0 rfl) ?_
  refine lv_iconst (v := 0) hx hb dX9_reads_1 (by decide) ?_
  refine m_put (ty := .int) hx hb hts hown hKK hP hS 14 2 (by decide) q1261 rfl rfl (by decide +kernel) rfl rfl rfl dX9_reads_2 (fun H locs hP hS => ?_)
  refine lv_iconst (v := 0) hx hb dX9_reads_5 (by decide) ?_
  refine lv_istore_n (lv' := [(1, .int 0), (0, .ref mb)]) hx hb dX9_reads_6 rfl hl (by decide) rfl (fun ls hl => ?_)
  refine W.loop (σ := Nat × Nat × Nat × BT) (fun sv H locs ls => match sv with | (f, p, k, B1) => (RI1 B n f p k B1) ∧ MW D t mb B1 H ∧ va_S (mA mb) s.heap H locs ∧ lv_has ls 5 [(1, .int (nI k)), (0, .ref mb)]) (fun sv => match sv with | (f, p, k, B1) => f) (fun sv H locs ls hI ihg => ?_) (97, 0, 0, up2 B 0 2 0) ⟨⟨rfl, by omega, by omega, (RD.rf B).place _, by rw [up2_same, upd_self]; rfl⟩, hP, hS, lv_sub hl [0, 1] rfl⟩
  obtain ⟨f, p, k, B1⟩ := sv
  obtain ⟨hEg, hP, hS, hl⟩ := hI
  have hEg : RI1 B n f p k B1 := hEg
  have hP : MW D t mb B1 H := hP
  have hl : lv_has ls 5 [(1, .int (nI k)), (0, .ref mb)] := hl
  obtain ⟨hq1, hf, hp6, hR1, hp1⟩ := hEg
  obtain ⟨f1, rfl⟩ : ∃ f1, f = f1 + 1 := ⟨f - 1, by omega⟩
  have hn1 : B1 0 1 = nI n := hR1.2.2.1.trans hn
  have h11 : B1 11 = B 11 := hR1.1 11 (by decide) (by decide)
  refine lv_aload_n hx hb dX9_reads_7 rfl (lv_at hl 1 rfl) ?_
  refine m_calli (As := []) (rest := []) S hKK hP hS (mm_readsStatement l D t mb B1 n p hn1 h96 hp1 (by omega)) (cwV 0 hts (lw_V q1318 q1320 qs62 q104 q1321) rfl rfl rfl (by decide +kernel) ⟨Nat.le_of_ble_eq_true rfl, Nat.le_of_ble_eq_true rfl⟩) rfl hl.1 rfl (Nat.le_of_ble_eq_true rfl) dX9_reads_8 ⟨Nat.le_of_ble_eq_true rfl, Nat.le_of_ble_eq_true rfl⟩ (fun r8 B8 H locs h8 hP hS => ?_)
  have h8 : RS B1 B8 n p r8 := h8
  unfold RS at h8
  rw [h11] at h8
  obtain ⟨hR8, hr8, hp8, -⟩ := h8
  have hR8 := hR1.tr hR8
  have hn8 : B8 0 1 = nI n := hR8.2.2.1.trans hn
  have hgo := stP_go (B 11) n p
  refine z_top (y := bI (stP (B 11) n p).1) hr8 ?_
  refine z_ifne (tgt := 23) hx hb dX9_reads_11 (by decide) (fun c11 => ?_) (fun c11 => ?_)
  · have hg1 := hgo.1 c11
    have hg2 := hgo.2
    refine lv_iinc (v := nI (k + 1)) (lv' := [(1, .int (nI (k + 1))), (0, .ref mb)]) hx hb dX9_reads_23 hl (k := 0) rfl (nI_1 k) (by decide) rfl (fun ls hl => ?_)
    refine lv_aload_n hx hb dX9_reads_26 rfl (lv_at hl 1 rfl) ?_
    refine m_get hx hb hts hown hKK hP 14 (by decide) q1261 rfl rfl dX9_reads_27 ?_
    refine z_top (y := nI (stP (B 11) n p).2.1) hp8 ?_
    refine lv_aload_n hx hb dX9_reads_30 rfl (lv_at hl 1 rfl) ?_
    refine m_get hx hb hts hown hKK hP 13 (by decide) q1260 rfl rfl dX9_reads_31 ?_
    refine z_top (y := nI n) hn8 ?_
    refine lv_icmp_lt (tgt := 7) hx hb dX9_reads_34 (by decide) (fun c34 => ?_) (fun c34 => ?_)
    · have hlt : (stP (B 11) n p).2.1 < n := nI_ltB (by omega) (by omega) c34
      exact ihg (f1, (stP (B 11) n p).2.1, k + 1, B8) H locs ls (by show f1 < f1 + 1; omega) ⟨⟨hq1.trans (p1_go c11 hlt), by omega, by omega, hR8, hp8⟩, hP, hS, lv_sub hl [0, 1] rfl⟩
    · have hlt : ¬ (stP (B 11) n p).2.1 < n := fun q => c34 (nI_lt q (by omega))
      have hK := hq1.trans (p1_end c11 hlt)
      obtain ⟨K, hKe⟩ : ∃ K, K = k + 1 := ⟨_, rfl⟩
      rw [← hKe] at hK
      refine lv_aload_n hx hb dX9_reads_37 rfl (lv_at hl 1 rfl) ?_
      refine m_get hx hb hts hown hKK hP 1 (by decide) q1248 rfl rfl dX9_reads_38 ?_
      refine lv_aload_n hx hb dX9_reads_41 rfl (lv_at hl 1 rfl) ?_
      refine m_get hx hb hts hown hKK hP 3 (by decide) q1250 rfl rfl dX9_reads_42 ?_
      refine m_callSv (As := [.ref (mb + 2), .ref (mb + 4)]) (rest := []) S hKK hP hS (mm_lays_2_4 l D t mb B8 ) (va_cwS 2 hts (lw_S q1347 q1348 q104 q1349) rfl rfl rfl (by decide +kernel) ⟨Nat.le_of_ble_eq_true rfl, Nat.le_of_ble_eq_true rfl⟩) rfl hl.1 rfl (Nat.le_of_ble_eq_true rfl) dX9_reads_45 ⟨Nat.le_of_ble_eq_true rfl, Nat.le_of_ble_eq_true rfl⟩ (fun B45 H locs h45 hP hS => ?_)
      have h45 : B45 = upc B8 4 (B8 2) := h45
      subst h45
      refine lv_aload_n hx hb dX9_reads_48 rfl (lv_at hl 1 rfl) ?_
      refine lv_iconst (v := 0) hx hb dX9_reads_49 (by decide) ?_
      refine m_put (ty := .int) hx hb hts hown hKK hP hS 14 2 (by decide) q1261 rfl rfl (by decide +kernel) rfl rfl rfl dX9_reads_50 (fun H locs hP hS => ?_)
      refine W.loop (σ := Nat × Nat × RT × BT) (fun sv H locs ls => match sv with | (f, p2, r, B2) => (RI2 B n f p2 r B2) ∧ MW D t mb B2 H ∧ va_S (mA mb) s.heap H locs ∧ lv_has ls 5 [(1, .int (nI (k + 1))), (0, .ref mb)]) (fun sv => match sv with | (f, p2, r, B2) => f) (fun sv H locs ls hI ihx => ?_) (97, 0, B 2, up2 (upc B8 4 (B8 2)) 0 2 0) ⟨⟨rfl, by omega, by omega, fun _ => ⟨0, by rw [hK]⟩, RX.of hR8 _, ho, by rw [up2_same, upd_self]; rfl⟩, hP, hS, lv_sub hl [0, 1] rfl⟩
      obtain ⟨f, p2, r, B2⟩ := sv
      obtain ⟨hEx, hP, hS, hl⟩ := hI
      have hEx : RI2 B n f p2 r B2 := hEx
      have hP : MW D t mb B2 H := hP
      have hl : lv_has ls 5 [(1, .int (nI (k + 1))), (0, .ref mb)] := hl
      obtain ⟨hq2, hf2, hp101, hyes, hX2, hor, hp2⟩ := hEx
      have hn2 : B2 0 1 = nI n := hX2.2.2.2.2.1.trans hn
      have h112 : B2 11 = B 11 := hX2.1 11 (by decide) (by decide) (by decide) (by decide)
      refine lv_aload_n hx hb dX9_reads_53 rfl (lv_at hl 1 rfl) ?_
      refine m_get hx hb hts hown hKK hP 14 (by decide) q1261 rfl rfl dX9_reads_54 ?_
      refine z_top (y := nI p2) hp2 ?_
      refine lv_aload_n hx hb dX9_reads_57 rfl (lv_at hl 1 rfl) ?_
      refine m_get hx hb hts hown hKK hP 13 (by decide) q1260 rfl rfl dX9_reads_58 ?_
      refine z_top (y := nI n) hn2 ?_
      refine lv_icmp_ge (tgt := 108) hx hb dX9_reads_61 (by decide) (fun c61 => ?_) (fun c61 => ?_)
      · have hpn : ¬ p2 < n := fun q => absurd (nI_lt q (by omega)) (by grind)
        refine lv_iload_n hx hb dX9_reads_108 rfl (lv_at hl 0 rfl) ?_
        exact m_iret hx hb hr (by rw [← hKe]; exact off_3 hnx hK (hq2.trans (p2_end hpn)) hX2) hP hS dX9_reads_109 hlk
      · have hpn : p2 < n := nI_ltB (by omega) (by omega) (by grind)
        obtain ⟨f2, rfl⟩ : ∃ f2, f = f2 + 1 := ⟨f - 1, by omega⟩
        obtain ⟨k2, hk2⟩ := hyes hpn
        have hs := p1_yes hk2
        refine lv_aload_n hx hb dX9_reads_64 rfl (lv_at hl 1 rfl) ?_
        refine m_get hx hb hts hown hKK hP 14 (by decide) q1261 rfl rfl dX9_reads_65 ?_
        refine z_top (y := nI p2) hp2 ?_
        refine lv_istore_n (lv' := [(2, .int (nI p2)), (1, .int (nI (k + 1))), (0, .ref mb)]) hx hb dX9_reads_68 rfl hl (by decide) rfl (fun ls hl => ?_)
        refine lv_aload_n hx hb dX9_reads_69 rfl (lv_at hl 2 rfl) ?_
        refine m_callr (As := []) (rest := []) S hKK hP (mm_sign l D t mb B2 n p2 hn2 h96 hp2 (by omega)) (cwV 0 hts (lw_V q1322 q1324 qs63 q104 q1325) rfl rfl rfl (by decide +kernel) ⟨Nat.le_of_ble_eq_true rfl, Nat.le_of_ble_eq_true rfl⟩) rfl hl.1 rfl (Nat.le_of_ble_eq_true rfl) dX9_reads_70 ⟨Nat.le_of_ble_eq_true rfl, Nat.le_of_ble_eq_true rfl⟩ ?_
        refine z_top (y := sgS (B 11) n p2) (by rw [h112]) ?_
        refine lv_istore_n (lv' := [(3, .int (sgS (B 11) n p2)), (2, .int (nI p2)), (1, .int (nI (k + 1))), (0, .ref mb)]) hx hb dX9_reads_73 rfl hl (by decide) rfl (fun ls hl => ?_)
        refine lv_aload_n hx hb dX9_reads_74 rfl (lv_at hl 3 rfl) ?_
        refine m_calli (As := []) (rest := []) S hKK hP hS (mm_readsStatement l D t mb B2 n p2 hn2 h96 hp2 (by omega)) (cwV 0 hts (lw_V q1318 q1320 qs62 q104 q1321) rfl rfl rfl (by decide +kernel) ⟨Nat.le_of_ble_eq_true rfl, Nat.le_of_ble_eq_true rfl⟩) rfl hl.1 rfl (Nat.le_of_ble_eq_true rfl) dX9_reads_75 ⟨Nat.le_of_ble_eq_true rfl, Nat.le_of_ble_eq_true rfl⟩ (fun r75 B75 H locs h75 hP hS => ?_)
        have h75 : RS B2 B75 n p2 r75 := h75
        unfold RS at h75
        rw [h112] at h75
        obtain ⟨hR75, -, hp75, ht75⟩ := h75
        have hX75 := hX2.rd hR75
        have ht75 := ht75 hs
        have hgo := stP_go (B 11) n p2
        have hg1 := hgo.1 hs
        have hg2 := hgo.2
        refine lv_istore (lv' := [(4, .int r75), (3, .int (sgS (B 11) n p2)), (2, .int (nI p2)), (1, .int (nI (k + 1))), (0, .ref mb)]) hx hb dX9_reads_78 hl (by decide) rfl (fun ls hl => ?_)
        refine lv_aload_n hx hb dX9_reads_80 rfl (lv_at hl 4 rfl) ?_
        refine lv_iload_n hx hb dX9_reads_81 rfl (lv_at hl 1 rfl) ?_
        refine m_calli (As := [.int (sgS (B 11) n p2)]) (rest := []) S hKK hP hS (mm_comes l D t mb B75 999 (sgS (B 11) n p2) (by rw [hX75.2.1]; exact hor)) (cwV 1 hts (lw_V q1350 q1352 qs67 q104 q1353) rfl rfl rfl (by decide +kernel) ⟨Nat.le_of_ble_eq_true rfl, Nat.le_of_ble_eq_true rfl⟩) rfl hl.1 rfl (Nat.le_of_ble_eq_true rfl) dX9_reads_82 ⟨Nat.le_of_ble_eq_true rfl, Nat.le_of_ble_eq_true rfl⟩ (fun r82 B82 H locs h82 hP hS => ?_)
        rw [hX75.2.1, coS_told (a := (stP (B 11) n p2).2.2.1) (b := (stP (B 11) n p2).2.2.2.1) (d := (stP (B 11) n p2).2.2.2.2) ht75.1 ht75.2.1 ht75.2.2 (stP_c hs)] at h82
        obtain ⟨hr82, hb82⟩ := h82
        refine z_top (y := bI (coS r (sgS (B 11) n p2) (stP (B 11) n p2).2.2.1 (stP (B 11) n p2).2.2.2.1 (stP (B 11) n p2).2.2.2.2).1) hr82 ?_
        refine z_ifne (tgt := 105) hx hb dX9_reads_85 (by decide) (fun c85 => ?_) (fun c85 => ?_)
        · refine lv_goto (tgt := 53) hx hb dX9_reads_105 (by decide) ?_
          exact ihx (f2, (stP (B 11) n p2).2.1, (coS r (sgS (B 11) n p2) (stP (B 11) n p2).2.2.1 (stP (B 11) n p2).2.2.2.1 (stP (B 11) n p2).2.2.2.2).2, B82) H locs ls (by show f2 < f2 + 1; omega) ⟨⟨hq2.trans (p2_go hpn c85), by omega, by omega, fun q => ⟨k2 + 1, by rw [p1_go hs q] at hk2; exact hk2⟩, hb82 ▸ hX75.co _, Ok_coS hor (stP_ok hs), (by rw [hb82, upc_ne _ _ (by decide)]; exact hp75)⟩, hP, hS, lv_sub hl [3, 4] rfl⟩
        · have hX82 : RX B B82 _ := hb82 ▸ hX75.co _
          refine lv_aload_n hx hb dX9_reads_88 rfl (lv_at hl 4 rfl) ?_
          refine m_get hx hb hts hown hKK hP 3 (by decide) q1250 rfl rfl dX9_reads_89 ?_
          refine lv_aload_n hx hb dX9_reads_92 rfl (lv_at hl 4 rfl) ?_
          refine m_get hx hb hts hown hKK hP 1 (by decide) q1248 rfl rfl dX9_reads_93 ?_
          refine m_callSv (As := [.ref (mb + 4), .ref (mb + 2)]) (rest := []) S hKK hP hS (mm_lays_4_2 l D t mb B82 ) (va_cwS 2 hts (lw_S q1347 q1348 q104 q1349) rfl rfl rfl (by decide +kernel) ⟨Nat.le_of_ble_eq_true rfl, Nat.le_of_ble_eq_true rfl⟩) rfl hl.1 rfl (Nat.le_of_ble_eq_true rfl) dX9_reads_96 ⟨Nat.le_of_ble_eq_true rfl, Nat.le_of_ble_eq_true rfl⟩ (fun B96 H locs h96 hP hS => ?_)
          have h96 : B96 = upc B82 2 (B82 4) := h96
          subst h96
          refine lv_sipush (v := (-2000)) hx hb dX9_reads_99 (by decide) ?_
          refine lv_iload_n hx hb dX9_reads_102 rfl (lv_at hl 2 rfl) ?_
          refine lv_isub hx hb dX9_reads_103 ?_
          exact m_iret hx hb hr (off_2 hnx hK (hq2.trans (p2_no hpn c85)) hX82) hP hS dX9_reads_104 hlk
  · refine lv_sipush (v := (-1000)) hx hb dX9_reads_14 (by decide) ?_
    refine lv_aload_n hx hb dX9_reads_17 rfl (lv_at hl 1 rfl) ?_
    refine m_get hx hb hts hown hKK hP 14 (by decide) q1261 rfl rfl dX9_reads_18 ?_
    refine z_top (y := nI (stP (B 11) n p).2.1) hp8 ?_
    refine lv_isub hx hb dX9_reads_21 ?_
    exact m_iret hx hb hr (off_1 hnx (hq1.trans (p1_no c11)) hR8) hP hS dX9_reads_22 hlk
set_option maxHeartbeats 4000000 in
theorem mm_office (l : Launch) (D : va_G) (t : Nat → ClassId) (mb : Nat) (B : BT) (hB : OkB B) : Met l yX9_office (ws_ yX9_office cX9_office 2 (some .int)) ({ frames := 5, cells := 0, slots := 0, locals := 115 }) (zPc [.ref mb] (MW D t mb B) (KK D t)) (va_Qi (fun r B' => r = (offS B).1 ∧ PE (offS B).2 B') (fun B' U => MW D t mb B' U.heap) (mA mb)) 0 0 (mA mb) := by
  refine zOf (cc := cX9_office) (maxL := 2) (ret := (some .int)) (by decide) (Nat.le_of_ble_eq_true rfl) (fun pg ev s m below meth cd ls F hP hKK hl hnm => ?_)
  obtain ⟨hx, hb, hml, hown, hts, hr, hlk⟩ := F
  have S : CallFix pg m cd cX9_office 2 s _ lw_all RX9 := ⟨hx, hb, hml, hown, hts⟩
  have hl : lv_has ls 2 [(0, .ref mb)] := hl
  have hS : va_S (mA mb) s.heap s.heap [] := va_S.rf
  refine lv_aload_n hx hb dX9_office_0 rfl (lv_at hl 0 rfl) ?_
  refine m_calli (As := []) (rest := []) S hKK hP hS (mm_reads l D t mb B hB) (cwV 0 hts (lw_V q1314 q1316 qs61 q104 q1317) rfl rfl rfl (by decide +kernel) ⟨Nat.le_of_ble_eq_true rfl, Nat.le_of_ble_eq_true rfl⟩) rfl hl.1 rfl (Nat.le_of_ble_eq_true rfl) dX9_office_1 ⟨Nat.le_of_ble_eq_true rfl, Nat.le_of_ble_eq_true rfl⟩ (fun r1 B1 H locs h1 hP hS => ?_)
  refine lv_istore_n (lv' := [(1, .int r1), (0, .ref mb)]) hx hb dX9_office_4 rfl hl (by decide) rfl (fun ls hl => ?_)
  refine lv_aload_n hx hb dX9_office_5 rfl (lv_at hl 1 rfl) ?_
  refine lv_iconst (v := 0) hx hb dX9_office_6 (by decide) ?_
  refine m_put (ty := .int) hx hb hts hown hKK hP hS 13 1 (by decide) q1260 rfl rfl (by decide +kernel) rfl rfl rfl dX9_office_7 (fun H locs hP hS => ?_)
  refine lv_iload_n hx hb dX9_office_10 rfl (lv_at hl 0 rfl) ?_
  exact m_iret hx hb hr h1 hP hS dX9_office_11 hlk
