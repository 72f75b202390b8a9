/-! AN OFFICE's HOUR: printed by wip/D-96246w/gen/gen_o3.py -/
set_option maxRecDepth 100000
set_option maxHeartbeats 4000000 in
theorem co_X8_hourOn (l : Launch) (D : va_G) (t : Nat → ClassId) (ob kb lo : Nat) (sg kd : GT) (r : RT) (A : BT) (N : Nat) (hOk : Ok r N) (hN : N < 2 ^ 30) (hkb : kb + 6 ≤ ob) (hlo : ob + 15 ≤ lo) : Met l yX8_hourOn (ws_ yX8_hourOn cX8_hourOn 3 (some .int)) ({ frames := 5, cells := 0, slots := 0, locals := 110 }) (zPc [.ref ob] (OV D t ob kb lo sg kd r A) (KK D t)) (va_Qi (fun v (u : RT × BT) => v = gnS r ∧ u.1 = hoS r ∧ (∀ j, j < 6 → u.2 12 j = fmS r (A 12) j) ∧ (∀ j, j < 6 → u.2 13 j = orS r (A 13) j)) (fun u U => OV D t ob kb lo sg kd u.1 u.2 U.heap) (oA ob)) 0 0 (oA ob) := by
  refine zOf (cc := cX8_hourOn) (maxL := 3) (ret := (some .int)) (by decide) (Nat.le_of_ble_eq_true rfl) (fun pg ev s m below meth cd ls F hV hKK hl hnm => ?_)
  obtain ⟨hx, hb, hml, hown, hts, hr, hlk⟩ := F
  have S : CallFix pg m cd cX8_hourOn 3 s _ lw_all RX8 := ⟨hx, hb, hml, hown, hts⟩
  have hl : lv_has ls 3 [(0, .ref ob)] := hl
  have hS : va_S (oA ob) s.heap s.heap [] := va_S.rf
  have hd0 := hOk.hr0
  have hd8 := hOk.d8
  have hh3 := hOk.hr3
  have hh6 := hOk.h6
  have hs5 := hOk.s5
  have hX := hOk.X
  refine lv_iconst (v := 0) hx hb dX8_hourOn_0 (by decide) ?_
  refine lv_istore_n (lv' := [(1, .int 0), (0, .ref ob)]) hx hb dX8_hourOn_1 rfl hl (by decide) rfl (fun ls hl => ?_)
  refine W.loop (σ := Nat) (fun k H locs ls => k ≤ nH r ∧ (True) ∧ OV D t ob kb lo sg kd r (huA r A k) H ∧ va_S (oA ob) s.heap H locs ∧ lv_has ls 3 [(1, .int (nI k)), (0, .ref ob)]) (fun k => nH r - k) (fun k H locs ls hIk ihk => ?_) 0 ⟨by omega, trivial, (by rw [show r = r from rfl, show huA r A 0 = A from (huA_0 r A)]; exact hV), hS, lv_sub hl [0, 1] rfl⟩
  obtain ⟨hk, hEk, hV, hS, hl⟩ := hIk
  refine lv_iload_n hx hb dX8_hourOn_2 rfl (lv_at hl 0 rfl) ?_
  refine lv_aload_n hx hb dX8_hourOn_3 rfl (lv_at hl 1 rfl) ?_
  refine o_get (v := .int (r 3)) hx hb hts hown hKK hV.1 6 (by decide) q210 rfl rfl dX8_hourOn_4 ?_
  refine lv_icmp_ge (tgt := 41) hx hb dX8_hourOn_7 (by decide) (fun c7 => ?_) (fun c7 => ?_)
  · obtain rfl : k = nH r := Nat.le_antisymm hk (lp_end hh3 (by omega) (by omega) c7)
    obtain ⟨A1, hA1⟩ : ∃ z, z = huA r A (nH r) := ⟨_, rfl⟩
    rw [← hA1] at hV
    have hU : HU r A1 := by rw [hA1]; exact huA_U r A
    have h12 : A1 12 = A 12 := by rw [hA1]; rfl
    have h13 : A1 13 = A 13 := by rw [hA1]; rfl
    refine lv_iconst (v := 0) hx hb dX8_hourOn_41 (by decide) ?_
    refine lv_istore_n (lv' := [(1, .int 0), (0, .ref ob)]) hx hb dX8_hourOn_42 rfl hl (by decide) rfl (fun ls hl => ?_)
    refine lv_iconst (v := 0) hx hb dX8_hourOn_43 (by decide) ?_
    refine lv_istore_n (lv' := [(2, .int 0), (1, .int 0), (0, .ref ob)]) hx hb dX8_hourOn_44 rfl hl (by decide) rfl (fun ls hl => ?_)
    refine W.loop (σ := Nat) (fun k H locs ls => k ≤ nH r ∧ (True) ∧ OV D t ob kb lo sg kd r (gtA r A1 k) H ∧ va_S (oA ob) s.heap H locs ∧ lv_has ls 3 [(2, .int (nI k)), (1, .int (nI (gnL r k))), (0, .ref ob)]) (fun k => nH r - k) (fun k H locs ls hIk ihk => ?_) 0 ⟨by omega, trivial, (by rw [show r = r from rfl, show gtA r A1 0 = A1 from (gtA_0 r A1)]; exact hV), hS, lv_sub hl [0, 1, 2] rfl⟩
    obtain ⟨hk, hEk, hV, hS, hl⟩ := hIk
    refine lv_iload_n hx hb dX8_hourOn_45 rfl (lv_at hl 0 rfl) ?_
    refine lv_aload_n hx hb dX8_hourOn_46 rfl (lv_at hl 2 rfl) ?_
    refine o_get (v := .int (r 3)) hx hb hts hown hKK hV.1 6 (by decide) q210 rfl rfl dX8_hourOn_47 ?_
    refine lv_icmp_ge (tgt := 101) hx hb dX8_hourOn_50 (by decide) (fun c50 => ?_) (fun c50 => ?_)
    · obtain rfl : k = nH r := Nat.le_antisymm hk (lp_end hh3 (by omega) (by omega) c50)
      obtain ⟨A2, hA2⟩ : ∃ z, z = gtA r A1 (nH r) := ⟨_, rfl⟩
      rw [← hA2] at hV
      have hU2 : HU r A2 := hU.eq (by rw [hA2]; rfl)
      have k12 : A2 12 = A 12 := by rw [hA2, ← h12]; rfl
      have k13 : A2 13 = A 13 := by rw [hA2, ← h13]; rfl
      have k11 : ∀ j, j < nH r → A2 11 j = heS r j := fun j hj => by rw [hA2]; show tk _ _ _ j = _; rw [tk_lt hj]
      have k14 : ∀ j, j < nH r → A2 14 j = A 13 j := fun j hj => by rw [hA2, ← h13]; show tk _ _ _ j = _; rw [tk_lt hj]
      refine lv_iconst (v := 0) hx hb dX8_hourOn_101 (by decide) ?_
      refine lv_istore_n (lv' := [(2, .int 0), (1, .int (nI (gnL r (nH r)))), (0, .ref ob)]) hx hb dX8_hourOn_102 rfl hl (by decide) rfl (fun ls hl => ?_)
      refine W.loop (σ := Nat) (fun k H locs ls => k ≤ nH r ∧ (True) ∧ OV D t ob kb lo sg kd (hoL r k) (gvA r A2 k) H ∧ va_S (oA ob) s.heap H locs ∧ lv_has ls 3 [(2, .int (nI k)), (1, .int (nI (gnL r (nH r)))), (0, .ref ob)]) (fun k => nH r - k) (fun k H locs ls hIk ihk => ?_) 0 ⟨by omega, trivial, (by rw [show hoL r 0 = r from rfl, show gvA r A2 0 = A2 from (gvA_0 r A2)]; exact hV), hS, lv_sub hl [0, 1, 2] rfl⟩
      obtain ⟨hk, hEk, hV, hS, hl⟩ := hIk
      refine lv_iload_n hx hb dX8_hourOn_103 rfl (lv_at hl 0 rfl) ?_
      refine lv_aload_n hx hb dX8_hourOn_104 rfl (lv_at hl 2 rfl) ?_
      refine o_get (v := .int ((hoL r k) 3)) hx hb hts hown hKK hV.1 6 (by decide) q210 rfl rfl dX8_hourOn_105 ?_
      refine lv_icmp_ge (tgt := 204) hx hb dX8_hourOn_108 (by decide) (fun c108 => ?_) (fun c108 => ?_)
      · obtain rfl : k = nH r := Nat.le_antisymm hk (lp_end (n := nH r) (by rw [hoL_off (Or.inl (by omega))]; exact hh3) (by omega) (by omega) c108)
        refine lv_aload_n hx hb dX8_hourOn_204 rfl (lv_at hl 2 rfl) ?_
        refine lv_dup hx hb dX8_hourOn_205 rfl ?_
        refine o_get (v := .int ((hoL r (nH r)) 4)) hx hb hts hown hKK hV.1 13 (by decide) q228 rfl rfl dX8_hourOn_206 ?_
        refine lv_iconst (v := 1) hx hb dX8_hourOn_209 (by decide) ?_
        refine lv_iadd hx hb dX8_hourOn_210 ?_
        refine o_putr hx hb hts hown hKK hV.1 (fun q h => h) hS 13 4 (by decide) (Or.inl q228) rfl rfl (by decide +kernel) rfl dX8_hourOn_211 (fun H locs hP1 _ hq1 hS => ?_)
        have hV := hV.put hkb hlo (OR_congr oC_hr hP1) (fun q _ h => hq1 q h) SK_4
        refine lv_iload_n hx hb dX8_hourOn_214 rfl (lv_at hl 1 rfl) ?_
        exact o_iret hx hb hr (by refine ⟨rfl, rfl, fun j hj => ?_, fun j hj => ?_⟩; (show (if _ then _ else _) = fmS r (A 12) j; rw [k12]; rfl); (show (if j < nH r ∧ 0 ≤ heS r j then A2 14 (ix (byS r j)) else A2 13 j) = orS r (A 13) j; unfold orS; by_cases c : j < nH r ∧ 0 ≤ heS r j; (obtain ⟨q, hq, hbq, -⟩ := giv_q hOk c.2; rw [if_pos c, if_pos c, hbq, ix_nI (by omega), k14 q hq]); (rw [if_neg c, if_neg c, k13]))) hV hS dX8_hourOn_215 hlk
      · have hk2 : k < nH r := lp_go (n := nH r) (by rw [hoL_off (Or.inl (by omega))]; exact hh3) (by omega) (by omega) c108
        have hXk : OkX (hoL r k) := hX.lo (fun q hq => hoL_off (Or.inl hq))
        have hnk : nH (hoL r k) = nH r := nH_eq (hoL_off (Or.inl (by omega)))
        have hg3 : hd (hoL r k) k 3 = hd r k 3 := hoL_off (Or.inr (by omega))
        have hg5 : hd (hoL r k) k 5 = hd r k 5 := hoL_off (Or.inr (by omega))
        have hok5 : 0 ≤ hd r k 5 ∧ hd r k 5 ≤ 3 := (hOk.head hk2).2.2.2.2.2.2.2.2.2
        have hk3 := (hOk.head hk2).2.2.2.2.2.2.1
        refine lv_aload_n hx hb dX8_hourOn_111 rfl (lv_at hl 2 rfl) ?_
        refine o_get (v := .ref (ob + 11)) hx hb hts hown hKK hV.1 16 (by decide) q234 rfl rfl dX8_hourOn_112 ?_
        refine lv_iload_n hx hb dX8_hourOn_115 rfl (lv_at hl 0 rfl) ?_
        refine o_ald hx hb hKK hV.1 11 rfl (k := k) (v := heS r k) rfl (by omega) (by decide) (k11 k hk2) dX8_hourOn_116 ?_
        refine lv_bipush (v := (-9)) hx hb dX8_hourOn_117 (by decide) ?_
        refine lv_icmp_eq (tgt := 164) hx hb dX8_hourOn_119 (by decide) (fun c119 => ?_) (fun c119 => ?_)
        · have h0 : ¬ 0 ≤ heS r k := by rw [c119]; decide
          refine lv_aload_n hx hb dX8_hourOn_164 rfl (lv_at hl 2 rfl) ?_
          refine o_get (v := .ref (ob + 7)) hx hb hts hown hKK hV.1 10 (by decide) q221 rfl rfl dX8_hourOn_165 ?_
          refine lv_iload_n hx hb dX8_hourOn_168 rfl (lv_at hl 0 rfl) ?_
          refine o_ald hx hb hKK hV.1 7 rfl (k := k) (v := hd r k 3) rfl (by omega) (by decide) hg3 dX8_hourOn_169 ?_
          refine lv_bipush (v := (-9)) hx hb dX8_hourOn_170 (by decide) ?_
          refine lv_icmp_eq (tgt := 180) hx hb dX8_hourOn_172 (by decide) (fun c172 => ?_) (fun c172 => ?_)
          · refine lv_aload_n hx hb dX8_hourOn_180 rfl (lv_at hl 2 rfl) ?_
            refine o_get (v := .ref (ob + 9)) hx hb hts hown hKK hV.1 12 (by decide) q225 rfl rfl dX8_hourOn_181 ?_
            refine lv_iload_n hx hb dX8_hourOn_184 rfl (lv_at hl 0 rfl) ?_
            refine lv_iconst (v := 0) hx hb dX8_hourOn_185 (by decide) ?_
            refine lv_aload_n hx hb dX8_hourOn_186 rfl (lv_at hl 2 rfl) ?_
            refine o_get (v := .ref (ob + 9)) hx hb hts hown hKK hV.1 12 (by decide) q225 rfl rfl dX8_hourOn_187 ?_
            refine lv_iload_n hx hb dX8_hourOn_190 rfl (lv_at hl 0 rfl) ?_
            refine o_ald hx hb hKK hV.1 9 rfl (k := k) (v := hd r k 5) rfl (by omega) (by decide) hg5 dX8_hourOn_191 ?_
            refine lv_iconst (v := 1) hx hb dX8_hourOn_192 (by decide) ?_
            refine lv_isub hx hb dX8_hourOn_193 ?_
            refine va_mmax hx hb (hml.trans hl.1.symm) hown (hts _ q902) (hts _ q903) (hts _ q119) (hts _ q904) (Nat.le_of_ble_eq_true rfl) (Nat.le_of_ble_eq_true rfl) (Nat.le_of_ble_eq_true rfl) (Nat.le_of_ble_eq_true rfl) dX8_hourOn_194 ?_
            refine o_astH hx hb hKK hV hkb hlo (fun q h => h) hS 5 (by decide) rfl (k := k) rfl (by omega) rfl dX8_hourOn_197 (fun H locs hV _ _ hS => ?_)
            refine lv_iinc (v := nI (k + 1)) (lv' := [(2, .int (nI (k + 1))), (1, .int (nI (gnL r (nH r)))), (0, .ref ob)]) hx hb dX8_hourOn_198 hl (k := 0) rfl (nI_1 k) (by decide) rfl (fun ls hl => ?_)
            refine lv_goto (tgt := 103) hx hb dX8_hourOn_201 (by decide) ?_
            exact ihk (k + 1) H locs ls (by omega) ⟨by omega, trivial, (by rw [show hoL r (k + 1) = upd (hoL r k) (37 + 6 * k + 5) (if 0 < ((hd r k 5) - 1) then ((hd r k 5) - 1) else 0) from (by rw [hoL_not h0, gu_close hg5 hok5.1 hok5.2, show waS (hoL r k) k = hoL r k from by unfold waS; rw [if_pos (by rw [hg3, c172]; decide)]]), show gvA r A2 (k + 1) = gvA r A2 k from (gvA_not h0)]; exact hV), hS, lv_sub hl [0, 1, 2] rfl⟩
          · refine lv_aload_n hx hb dX8_hourOn_175 rfl (lv_at hl 2 rfl) ?_
            refine lv_iload_n hx hb dX8_hourOn_176 rfl (lv_at hl 0 rfl) ?_
            refine va_callv (g_runV (As := [.int (nI k)]) (rest := []) S hKK hV (hV.recv hKK) (co_X8_fade l D t ob kb lo sg kd (hoL r k) (gvA r A2 k) k (nT r) hXk (by rw [hoL_off (Or.inl (by omega))]; exact hOk.hr4) (by have := hOk.tN; omega) hkb hlo (by omega) (by rw [hg3, hoL_off (Or.inl (by omega))]; exact hk3.resolve_left c172)) (cwV 1 hts (lw_V q926 q928 qs28 q103 q929) rfl rfl rfl (by decide +kernel) ⟨Nat.le_of_ble_eq_true rfl, Nat.le_of_ble_eq_true rfl⟩) rfl hl.1 rfl (Nat.le_of_ble_eq_true rfl) dX8_hourOn_177 ⟨Nat.le_of_ble_eq_true rfl, Nat.le_of_ble_eq_true rfl⟩) hS (fun q _ h => h) (fun q h => h) (fun u177 tt H locs ht _ h177 hV _ _ hS => ?_)
            obtain ⟨R177, A177⟩ := u177
            rw [ht] at hV
            have hV : OV D t ob kb lo sg kd R177 A177 H := hV
            have h177 : (R177, A177) = (waS (hoL r k) k, gvA r A2 k) := h177
            obtain ⟨e1, e2⟩ := Prod.mk.inj h177
            rw [e1, e2] at hV
            refine lv_aload_n hx hb dX8_hourOn_180 rfl (lv_at hl 2 rfl) ?_
            refine o_get (v := .ref (ob + 9)) hx hb hts hown hKK hV.1 12 (by decide) q225 rfl rfl dX8_hourOn_181 ?_
            refine lv_iload_n hx hb dX8_hourOn_184 rfl (lv_at hl 0 rfl) ?_
            refine lv_iconst (v := 0) hx hb dX8_hourOn_185 (by decide) ?_
            refine lv_aload_n hx hb dX8_hourOn_186 rfl (lv_at hl 2 rfl) ?_
            refine o_get (v := .ref (ob + 9)) hx hb hts hown hKK hV.1 12 (by decide) q225 rfl rfl dX8_hourOn_187 ?_
            refine lv_iload_n hx hb dX8_hourOn_190 rfl (lv_at hl 0 rfl) ?_
            refine o_ald hx hb hKK hV.1 9 rfl (k := k) (v := hd r k 5) rfl (by omega) (by decide) (waS_5.trans hg5) dX8_hourOn_191 ?_
            refine lv_iconst (v := 1) hx hb dX8_hourOn_192 (by decide) ?_
            refine lv_isub hx hb dX8_hourOn_193 ?_
            refine va_mmax hx hb (hml.trans hl.1.symm) hown (hts _ q902) (hts _ q903) (hts _ q119) (hts _ q904) (Nat.le_of_ble_eq_true rfl) (Nat.le_of_ble_eq_true rfl) (Nat.le_of_ble_eq_true rfl) (Nat.le_of_ble_eq_true rfl) dX8_hourOn_194 ?_
            refine o_astH hx hb hKK hV hkb hlo (fun q h => h) hS 5 (by decide) rfl (k := k) rfl (by omega) rfl dX8_hourOn_197 (fun H locs hV _ _ hS => ?_)
            refine lv_iinc (v := nI (k + 1)) (lv' := [(2, .int (nI (k + 1))), (1, .int (nI (gnL r (nH r)))), (0, .ref ob)]) hx hb dX8_hourOn_198 hl (k := 0) rfl (nI_1 k) (by decide) rfl (fun ls hl => ?_)
            refine lv_goto (tgt := 103) hx hb dX8_hourOn_201 (by decide) ?_
            exact ihk (k + 1) H locs ls (by omega) ⟨by omega, trivial, (by rw [show hoL r (k + 1) = upd (waS (hoL r k) k) (37 + 6 * k + 5) (if 0 < ((hd r k 5) - 1) then ((hd r k 5) - 1) else 0) from (by rw [hoL_not h0, gu_close (by rw [waS_5]; exact hg5) hok5.1 hok5.2]), show gvA r A2 (k + 1) = gvA r A2 k from (gvA_not h0)]; exact hV), hS, lv_sub hl [0, 1, 2] rfl⟩
        · have h0 : 0 ≤ heS r k := by rcases Classical.em (0 ≤ heS r k) with q | q; (exact q); (exact absurd (heS_neg hOk q) c119)
          obtain ⟨q, hq, hbq, hnq, huq, heq, hfq⟩ := giv_q hOk h0
          have hne : ∀ a b, neS (hoL r k) a b = neS r a b := neS_eq (fun q hq => hoL_off (Or.inl hq)) (fun j => hoL_room k) hd8
          refine lv_aload_n hx hb dX8_hourOn_122 rfl (lv_at hl 2 rfl) ?_
          refine o_get (v := .ref (ob + 12)) hx hb hts hown hKK hV.1 17 (by decide) q235 rfl rfl dX8_hourOn_123 ?_
          refine lv_iload_n hx hb dX8_hourOn_126 rfl (lv_at hl 0 rfl) ?_
          refine lv_aload_n hx hb dX8_hourOn_127 rfl (lv_at hl 2 rfl) ?_
          refine lv_iload_n hx hb dX8_hourOn_128 rfl (lv_at hl 0 rfl) ?_
          refine g_r (g_runV (As := [.int (nI k)]) (rest := [.int (nI k), .ref (ob + 12)]) S hKK hV (hV.recv hKK) (co_X8_giverOf l D t ob kb lo sg kd (hoL r k) (gvA r A2 k) k q hXk (by omega) (by omega) (by rw [hne]; exact hnq) (by show A2 10 q = A2 11 k; rw [hU2 q hq, if_pos huq, k11 k hk2]; exact heq) (fun o ho hz => hfq o ho (by have h1 := hz.1; rw [hne] at h1; have h2 : A2 10 o = A2 11 k := hz.2; rw [hU2 o (by omega), k11 k hk2] at h2; cases hu : huS r o with | true => rw [hu, if_pos rfl] at h2; exact ⟨h1, rfl, h2⟩ | false => rw [hu, if_neg (by decide)] at h2; exact absurd h0 (by rw [← h2]; decide)))) (cwV 1 hts (lw_V q921 q923 qs27 q103 q924) rfl rfl rfl (by decide +kernel) ⟨Nat.le_of_ble_eq_true rfl, Nat.le_of_ble_eq_true rfl⟩) rfl hl.1 rfl (Nat.le_of_ble_eq_true rfl) dX8_hourOn_129 ⟨Nat.le_of_ble_eq_true rfl, Nat.le_of_ble_eq_true rfl⟩) ?_
          refine o_astA hx hb hKK hV hkb hlo (fun q h => h) hS 12 (by decide) rfl (k := k) rfl (by omega) rfl dX8_hourOn_132 (fun H locs hV _ _ hS => ?_)
          refine lv_aload_n hx hb dX8_hourOn_133 rfl (lv_at hl 2 rfl) ?_
          refine o_get (v := .ref (ob + 13)) hx hb hts hown hKK hV.1 18 (by decide) q237 rfl rfl dX8_hourOn_134 ?_
          refine lv_iload_n hx hb dX8_hourOn_137 rfl (lv_at hl 0 rfl) ?_
          refine lv_aload_n hx hb dX8_hourOn_138 rfl (lv_at hl 2 rfl) ?_
          refine o_get (v := .ref (ob + 14)) hx hb hts hown hKK hV.1 19 (by decide) q239 rfl rfl dX8_hourOn_139 ?_
          refine lv_aload_n hx hb dX8_hourOn_142 rfl (lv_at hl 2 rfl) ?_
          refine o_get (v := .ref (ob + 12)) hx hb hts hown hKK hV.1 17 (by decide) q235 rfl rfl dX8_hourOn_143 ?_
          refine lv_iload_n hx hb dX8_hourOn_146 rfl (lv_at hl 0 rfl) ?_
          refine o_ald hx hb hKK hV.1 12 rfl (k := k) (v := nI q) rfl (by omega) (by decide) (by show up2 _ 12 k _ 12 k = _; rw [up2_same, upd_self]) dX8_hourOn_147 ?_
          refine o_ald hx hb hKK hV.1 14 rfl (k := q) (v := A2 14 q) rfl (by omega) (by decide) (by show up2 _ 12 k _ 14 q = _; rw [up2_ne _ _ _ (by decide)]; rfl) dX8_hourOn_148 ?_
          refine o_astA hx hb hKK hV hkb hlo (fun q h => h) hS 13 (by decide) rfl (k := k) rfl (by omega) rfl dX8_hourOn_149 (fun H locs hV _ _ hS => ?_)
          refine lv_aload_n hx hb dX8_hourOn_150 rfl (lv_at hl 2 rfl) ?_
          refine lv_iload_n hx hb dX8_hourOn_151 rfl (lv_at hl 0 rfl) ?_
          refine lv_aload_n hx hb dX8_hourOn_152 rfl (lv_at hl 2 rfl) ?_
          refine o_get (v := .ref (ob + 11)) hx hb hts hown hKK hV.1 16 (by decide) q234 rfl rfl dX8_hourOn_153 ?_
          refine lv_iload_n hx hb dX8_hourOn_156 rfl (lv_at hl 0 rfl) ?_
          refine o_ald hx hb hKK hV.1 11 rfl (k := k) (v := heS r k) rfl (by omega) (by decide) (by show up2 (up2 _ 12 k _) 13 k _ 11 k = _; rw [up2_ne _ _ _ (by decide), up2_ne _ _ _ (by decide)]; exact k11 k hk2) dX8_hourOn_157 ?_
          refine va_callv (g_runV (As := [.int (nI k), .int (heS r k)]) (rest := []) S hKK hV (hV.recv hKK) (co_X8_get l D t ob kb lo sg kd (hoL r k) (up2 (up2 (gvA r A2 k) 12 k (nI q)) 13 k (A2 14 q)) k (heS r k) hXk hkb hlo (by omega) (Or.inr ⟨h0, by rw [hoL_off (Or.inl (by omega))]; exact (heS_ok hOk h0).2.1⟩)) (cwV 2 hts (lw_V q925 q632 q633 q103 q634) rfl rfl rfl (by decide +kernel) ⟨Nat.le_of_ble_eq_true rfl, Nat.le_of_ble_eq_true rfl⟩) rfl hl.1 rfl (Nat.le_of_ble_eq_true rfl) dX8_hourOn_158 ⟨Nat.le_of_ble_eq_true rfl, Nat.le_of_ble_eq_true rfl⟩) hS (fun q _ h => h) (fun q h => h) (fun u158 tt H locs ht _ h158 hV _ _ hS => ?_)
          obtain ⟨R158, A158⟩ := u158
          rw [ht] at hV
          have hV : OV D t ob kb lo sg kd R158 A158 H := hV
          have h158 : (R158, A158) = (geS (hoL r k) k (heS r k), up2 (up2 (gvA r A2 k) 12 k (nI q)) 13 k (A2 14 q)) := h158
          obtain ⟨e1, e2⟩ := Prod.mk.inj h158
          rw [e1, e2] at hV
          refine lv_goto (tgt := 180) hx hb dX8_hourOn_161 (by decide) ?_
          refine lv_aload_n hx hb dX8_hourOn_180 rfl (lv_at hl 2 rfl) ?_
          refine o_get (v := .ref (ob + 9)) hx hb hts hown hKK hV.1 12 (by decide) q225 rfl rfl dX8_hourOn_181 ?_
          refine lv_iload_n hx hb dX8_hourOn_184 rfl (lv_at hl 0 rfl) ?_
          refine lv_iconst (v := 0) hx hb dX8_hourOn_185 (by decide) ?_
          refine lv_aload_n hx hb dX8_hourOn_186 rfl (lv_at hl 2 rfl) ?_
          refine o_get (v := .ref (ob + 9)) hx hb hts hown hKK hV.1 12 (by decide) q225 rfl rfl dX8_hourOn_187 ?_
          refine lv_iload_n hx hb dX8_hourOn_190 rfl (lv_at hl 0 rfl) ?_
          refine o_ald hx hb hKK hV.1 9 rfl (k := k) (v := hd r k 5) rfl (by omega) (by decide) (geS_5.trans hg5) dX8_hourOn_191 ?_
          refine lv_iconst (v := 1) hx hb dX8_hourOn_192 (by decide) ?_
          refine lv_isub hx hb dX8_hourOn_193 ?_
          refine va_mmax hx hb (hml.trans hl.1.symm) hown (hts _ q902) (hts _ q903) (hts _ q119) (hts _ q904) (Nat.le_of_ble_eq_true rfl) (Nat.le_of_ble_eq_true rfl) (Nat.le_of_ble_eq_true rfl) (Nat.le_of_ble_eq_true rfl) dX8_hourOn_194 ?_
          refine o_astH hx hb hKK hV hkb hlo (fun q h => h) hS 5 (by decide) rfl (k := k) rfl (by omega) rfl dX8_hourOn_197 (fun H locs hV _ _ hS => ?_)
          refine lv_iinc (v := nI (k + 1)) (lv' := [(2, .int (nI (k + 1))), (1, .int (nI (gnL r (nH r)))), (0, .ref ob)]) hx hb dX8_hourOn_198 hl (k := 0) rfl (nI_1 k) (by decide) rfl (fun ls hl => ?_)
          refine lv_goto (tgt := 103) hx hb dX8_hourOn_201 (by decide) ?_
          exact ihk (k + 1) H locs ls (by omega) ⟨by omega, trivial, (by rw [show hoL r (k + 1) = upd (geS (hoL r k) k (heS r k)) (37 + 6 * k + 5) (if 0 < ((hd r k 5) - 1) then ((hd r k 5) - 1) else 0) from (by rw [hoL_got h0, gu_close (by rw [geS_5]; exact hg5) hok5.1 hok5.2]), show gvA r A2 (k + 1) = up2 (up2 (gvA r A2 k) 12 k (nI q)) 13 k (A2 14 q) from (by rw [gvA_got h0, hbq, ix_nI (by omega)])]; exact hV), hS, lv_sub hl [0, 1, 2] rfl⟩
    · have hk2 : k < nH r := lp_go hh3 (by omega) (by omega) c50
      have hUk : HU r (gtA r A1 k) := hU.eq rfl
      refine lv_aload_n hx hb dX8_hourOn_53 rfl (lv_at hl 2 rfl) ?_
      refine o_get (v := .ref (ob + 11)) hx hb hts hown hKK hV.1 16 (by decide) q234 rfl rfl dX8_hourOn_54 ?_
      refine lv_iload_n hx hb dX8_hourOn_57 rfl (lv_at hl 0 rfl) ?_
      refine lv_aload_n hx hb dX8_hourOn_58 rfl (lv_at hl 2 rfl) ?_
      refine lv_iload_n hx hb dX8_hourOn_59 rfl (lv_at hl 0 rfl) ?_
      refine g_r (g_runV (As := [.int (nI k)]) (rest := [.int (nI k), .ref (ob + 11)]) S hKK hV (hV.recv hKK) (co_X8_gotBy l D t ob kb lo sg kd r (gtA r A1 k) k N hOk (by omega) hUk) (cwV 1 hts (lw_V q915 q917 qs26 q103 q918) rfl rfl rfl (by decide +kernel) ⟨Nat.le_of_ble_eq_true rfl, Nat.le_of_ble_eq_true rfl⟩) rfl hl.1 rfl (Nat.le_of_ble_eq_true rfl) dX8_hourOn_60 ⟨Nat.le_of_ble_eq_true rfl, Nat.le_of_ble_eq_true rfl⟩) ?_
      refine o_astA hx hb hKK hV hkb hlo (fun q h => h) hS 11 (by decide) rfl (k := k) rfl (by omega) rfl dX8_hourOn_63 (fun H locs hV _ _ hS => ?_)
      refine lv_iload_n hx hb dX8_hourOn_64 rfl (lv_at hl 1 rfl) ?_
      refine W.join (fun vJ => F0 m 81 ls (.int vJ :: [.int (nI (gnL r k))])) (fun vJ => vJ = (if 0 ≤ heS r k then 1 else 0)) (fun vJ hJ => ?_) (fun J => ?_)
      · subst hJ
        refine lv_iadd hx hb dX8_hourOn_81 ?_
        refine z_top (y := nI (gnL r (k + 1))) (by rw [nI_inc]; rfl) ?_
        refine lv_istore_n (lv' := [(1, .int (nI (gnL r (k + 1)))), (2, .int (nI k)), (0, .ref ob)]) hx hb dX8_hourOn_82 rfl hl (by decide) rfl (fun ls hl => ?_)
        refine lv_aload_n hx hb dX8_hourOn_83 rfl (lv_at hl 2 rfl) ?_
        refine o_get (v := .ref (ob + 14)) hx hb hts hown hKK hV.1 19 (by decide) q239 rfl rfl dX8_hourOn_84 ?_
        refine lv_iload_n hx hb dX8_hourOn_87 rfl (lv_at hl 1 rfl) ?_
        refine lv_aload_n hx hb dX8_hourOn_88 rfl (lv_at hl 2 rfl) ?_
        refine o_get (v := .ref (ob + 13)) hx hb hts hown hKK hV.1 18 (by decide) q237 rfl rfl dX8_hourOn_89 ?_
        refine lv_iload_n hx hb dX8_hourOn_92 rfl (lv_at hl 1 rfl) ?_
        refine o_ald hx hb hKK hV.1 13 rfl (k := k) (v := A1 13 k) rfl (by omega) (by decide) (by show up2 _ 11 k _ 13 k = _; rw [up2_ne _ _ _ (by decide)]; rfl) dX8_hourOn_93 ?_
        refine o_astA hx hb hKK hV hkb hlo (fun q h => h) hS 14 (by decide) rfl (k := k) rfl (by omega) rfl dX8_hourOn_94 (fun H locs hV _ _ hS => ?_)
        refine lv_iinc (v := nI (k + 1)) (lv' := [(2, .int (nI (k + 1))), (1, .int (nI (gnL r (k + 1)))), (0, .ref ob)]) hx hb dX8_hourOn_95 hl (k := 1) rfl (nI_1 k) (by decide) rfl (fun ls hl => ?_)
        refine lv_goto (tgt := 45) hx hb dX8_hourOn_98 (by decide) ?_
        exact ihk (k + 1) H locs ls (by omega) ⟨by omega, trivial, (by rw [show r = r from rfl, show gtA r A1 (k + 1) = up2 (up2 (gtA r A1 k) 11 k (heS r k)) 14 k (A1 13 k) from (gtA_s r A1 k)]; exact hV), hS, lv_sub hl [0, 1, 2] rfl⟩
      · refine lv_aload_n hx hb dX8_hourOn_65 rfl (lv_at hl 2 rfl) ?_
        refine o_get (v := .ref (ob + 11)) hx hb hts hown hKK hV.1 16 (by decide) q234 rfl rfl dX8_hourOn_66 ?_
        refine lv_iload_n hx hb dX8_hourOn_69 rfl (lv_at hl 0 rfl) ?_
        refine o_ald hx hb hKK hV.1 11 rfl (k := k) (v := heS r k) rfl (by omega) (by decide) (by show up2 _ 11 k _ 11 k = _; rw [up2_same, upd_self]) dX8_hourOn_70 ?_
        refine lv_bipush (v := (-9)) hx hb dX8_hourOn_71 (by decide) ?_
        refine lv_icmp_ne (tgt := 80) hx hb dX8_hourOn_73 (by decide) (fun c73 => ?_) (fun c73 => ?_)
        · refine lv_iconst (v := 1) hx hb dX8_hourOn_80 (by decide) ?_
          exact J _ (by have := heS_neg hOk (j := k); grind)
        · refine lv_iconst (v := 0) hx hb dX8_hourOn_76 (by decide) ?_
          refine lv_goto (tgt := 81) hx hb dX8_hourOn_77 (by decide) ?_
          exact J _ (by have := heS_neg hOk (j := k); grind)
  · have hk2 : k < nH r := lp_go hh3 (by omega) (by omega) c7
    refine lv_aload_n hx hb dX8_hourOn_10 rfl (lv_at hl 1 rfl) ?_
    refine o_get (v := .ref (ob + 10)) hx hb hts hown hKK hV.1 15 (by decide) q233 rfl rfl dX8_hourOn_11 ?_
    refine lv_iload_n hx hb dX8_hourOn_14 rfl (lv_at hl 0 rfl) ?_
    refine W.join (fun vJ => F0 m 34 ls (.int vJ :: [.int (nI k), .ref (ob + 10)])) (fun vJ => vJ = hmV r k) (fun vJ hJ => ?_) (fun J => ?_)
    · subst hJ
      refine o_astA hx hb hKK hV hkb hlo (fun q h => h) hS 10 (by decide) rfl (k := k) rfl (by omega) rfl dX8_hourOn_34 (fun H locs hV _ _ hS => ?_)
      refine lv_iinc (v := nI (k + 1)) (lv' := [(1, .int (nI (k + 1))), (0, .ref ob)]) hx hb dX8_hourOn_35 hl (k := 0) rfl (nI_1 k) (by decide) rfl (fun ls hl => ?_)
      refine lv_goto (tgt := 2) hx hb dX8_hourOn_38 (by decide) ?_
      exact ihk (k + 1) H locs ls (by omega) ⟨by omega, trivial, (by rw [show r = r from rfl, show huA r A (k + 1) = up2 (huA r A k) 10 k (hmV r k) from (huA_s r A k)]; exact hV), hS, lv_sub hl [0, 1] rfl⟩
    · refine lv_aload_n hx hb dX8_hourOn_15 rfl (lv_at hl 1 rfl) ?_
      refine lv_iload_n hx hb dX8_hourOn_16 rfl (lv_at hl 0 rfl) ?_
      refine g_r (g_runV (As := [.int (nI k)]) (rest := [.int (nI k), .ref (ob + 10)]) S hKK hV (hV.recv hKK) (co_X8_hums l D t ob kb lo sg kd r (huA r A k) k N hOk (by omega)) (cwV 1 hts (lw_V q914 q833 q834 q103 q835) rfl rfl rfl (by decide +kernel) ⟨Nat.le_of_ble_eq_true rfl, Nat.le_of_ble_eq_true rfl⟩) rfl hl.1 rfl (Nat.le_of_ble_eq_true rfl) dX8_hourOn_17 ⟨Nat.le_of_ble_eq_true rfl, Nat.le_of_ble_eq_true rfl⟩) ?_
      refine z_ifeq (tgt := 32) hx hb dX8_hourOn_20 (by decide) (fun c20 => ?_) (fun c20 => ?_)
      · refine lv_bipush (v := (-9)) hx hb dX8_hourOn_32 (by decide) ?_
        exact J _ (by unfold hmV; grind)
      · refine lv_aload_n hx hb dX8_hourOn_23 rfl (lv_at hl 1 rfl) ?_
        refine o_get (v := .ref (ob + 7)) hx hb hts hown hKK hV.1 10 (by decide) q221 rfl rfl dX8_hourOn_24 ?_
        refine lv_iload_n hx hb dX8_hourOn_27 rfl (lv_at hl 0 rfl) ?_
        refine o_ald hx hb hKK hV.1 7 rfl (k := k) (v := hd r k 3) rfl (by omega) (by decide) rfl dX8_hourOn_28 ?_
        refine lv_goto (tgt := 34) hx hb dX8_hourOn_29 (by decide) ?_
        exact J _ (by unfold hmV; grind)
set_option maxHeartbeats 4000000 in
theorem co_X8_hoursOn (l : Launch) (D : va_G) (t : Nat → ClassId) (ob kb lo : Nat) (sg kd : GT) (r : RT) (A : BT) (n : Nat) (N : Nat) (hOk : Ok r N) (hN : N + n < 2 ^ 30) (hkb : kb + 6 ≤ ob) (hlo : ob + 15 ≤ lo) : Met l yX8_hoursOn (ws_ yX8_hoursOn cX8_hoursOn 3 (some (.object "SongThatStays$Office"))) ({ frames := 6, cells := 0, slots := 0, locals := 132 }) (zPc [.ref ob, .int (nI n)] (OV D t ob kb lo sg kd r A) (KK D t)) (va_Qr (fun (u : RT × BT) => u.1 = hrS r n ∧ (∀ j, j < 6 → u.2 12 j = (fgS r (A 12) (A 13) n).1 j) ∧ (∀ j, j < 6 → u.2 13 j = (fgS r (A 12) (A 13) n).2 j)) (fun u a U => a = ob ∧ OV D t ob kb lo sg kd u.1 u.2 U.heap) (oA ob)) 0 0 (oA ob) := by
  refine zOf (cc := cX8_hoursOn) (maxL := 3) (ret := (some (.object "SongThatStays$Office"))) (by decide) (Nat.le_of_ble_eq_true rfl) (fun pg ev s m below meth cd ls F hV hKK hl hnm => ?_)
  obtain ⟨hx, hb, hml, hown, hts, hr, hlk⟩ := F
  have S : CallFix pg m cd cX8_hoursOn 3 s _ lw_all RX8 := ⟨hx, hb, hml, hown, hts⟩
  have hl : lv_has ls 3 [(0, .ref ob), (1, .int (nI n))] := hl
  have hS : va_S (oA ob) s.heap s.heap [] := va_S.rf
  refine lv_iconst (v := 0) hx hb dX8_hoursOn_0 (by decide) ?_
  refine lv_istore_n (lv' := [(2, .int 0), (0, .ref ob), (1, .int (nI n))]) hx hb dX8_hoursOn_1 rfl hl (by decide) rfl (fun ls hl => ?_)
  refine W.loop (σ := Nat × RT × BT) (fun sv H locs ls => sv.1 ≤ n ∧ (sv.2.1 = hrS r sv.1 ∧ (∀ j, j < 6 → sv.2.2 12 j = (fgS r (A 12) (A 13) sv.1).1 j) ∧ (∀ j, j < 6 → sv.2.2 13 j = (fgS r (A 12) (A 13) sv.1).2 j)) ∧ OV D t ob kb lo sg kd sv.2.1 sv.2.2 H ∧ va_S (oA ob) s.heap H locs ∧ lv_has ls 3 [(2, .int (nI sv.1)), (0, .ref ob), (1, .int (nI n))]) (fun sv => n - sv.1) (fun sv H locs ls hI ihk => ?_) (0, r, A) ⟨Nat.zero_le _, ⟨rfl, fun _ _ => rfl, fun _ _ => rfl⟩, hV, hS, lv_sub hl [0, 1, 2] rfl⟩
  obtain ⟨k, r1, A1⟩ := sv
  obtain ⟨hk, hEk, hV, hS, hl⟩ := hI
  have hk : k ≤ n := hk
  have hEk : r1 = hrS r k ∧ (∀ j, j < 6 → A1 12 j = (fgS r (A 12) (A 13) k).1 j) ∧ (∀ j, j < 6 → A1 13 j = (fgS r (A 12) (A 13) k).2 j) := hEk
  have hV : OV D t ob kb lo sg kd r1 A1 H := hV
  have hl : lv_has ls 3 [(2, .int (nI k)), (0, .ref ob), (1, .int (nI n))] := hl
  refine lv_iload_n hx hb dX8_hoursOn_2 rfl (lv_at hl 0 rfl) ?_
  refine lv_iload_n hx hb dX8_hoursOn_3 rfl (lv_at hl 2 rfl) ?_
  refine lv_icmp_ge (tgt := 18) hx hb dX8_hoursOn_4 (by decide) (fun c4 => ?_) (fun c4 => ?_)
  · have hkn : k = n := Nat.le_antisymm hk (lp_end (n := n) rfl (by omega) (by omega) c4)
    refine lv_aload_n hx hb dX8_hoursOn_18 rfl (lv_at hl 1 rfl) ?_
    exact o_aret hx hb hr (by rw [hkn] at hEk; exact hEk) hV hS dX8_hoursOn_19 hlk
  · have hk2 : k < n := lp_go (n := n) rfl (by omega) (by omega) c4
    have hOk2 : Ok (hrS r k) (N + k) := Ok_hrS hOk (by omega)
    have hOk1 : Ok r1 (N + k) := by rw [hEk.1]; exact hOk2
    refine lv_aload_n hx hb dX8_hoursOn_7 rfl (lv_at hl 1 rfl) ?_
    refine va_calli (g_runV (As := []) (rest := []) S hKK hV (hV.recv hKK) (co_X8_hourOn l D t ob kb lo sg kd r1 A1 (N + k) hOk1 (by omega) hkb hlo) (cwV 0 hts (lw_V q979 q911 q912 q103 q913) rfl rfl rfl (by decide +kernel) ⟨Nat.le_of_ble_eq_true rfl, Nat.le_of_ble_eq_true rfl⟩) rfl hl.1 rfl (Nat.le_of_ble_eq_true rfl) dX8_hoursOn_8 ⟨Nat.le_of_ble_eq_true rfl, Nat.le_of_ble_eq_true rfl⟩) hS (fun q _ h => h) (fun q h => h) (fun r8 u8 tt H locs ht _ h8 hV _ _ hS => ?_)
    obtain ⟨R8, A8⟩ := u8
    rw [ht] at hV
    have hV : OV D t ob kb lo sg kd R8 A8 H := hV
    have h8 : r8 = gnS r1 ∧ R8 = hoS r1 ∧ (∀ j, j < 6 → A8 12 j = fmS r1 (A1 12) j) ∧ (∀ j, j < 6 → A8 13 j = orS r1 (A1 13) j) := h8
    refine lv_pop hx hb dX8_hoursOn_11 rfl ?_
    refine lv_iinc (v := nI (k + 1)) (lv' := [(2, .int (nI (k + 1))), (0, .ref ob), (1, .int (nI n))]) hx hb dX8_hoursOn_12 hl (k := 0) rfl (nI_1 k) (by decide) rfl (fun ls hl => ?_)
    refine lv_goto (tgt := 2) hx hb dX8_hoursOn_15 (by decide) ?_
    exact ihk (k + 1, R8, A8) H locs ls (by show n - (k + 1) < n - k; omega) ⟨by show k + 1 ≤ n; omega, ⟨by show R8 = _; rw [h8.2.1, hEk.1]; rfl, fun j hj => by show A8 12 j = _; rw [h8.2.2.1 j hj, hEk.1]; exact fm_ext (hEk.2.1) j hj, fun j hj => by show A8 13 j = _; rw [h8.2.2.2 j hj, hEk.1]; exact or_ext hOk2 hEk.2.2 j hj⟩, hV, hS, lv_sub hl [0, 1, 2] rfl⟩
set_option maxHeartbeats 4000000 in
theorem co_X8_beginTrace (l : Launch) (D : va_G) (t : Nat → ClassId) (ob kb lo : Nat) (sg kd : GT) (r : RT) (A : BT) (hX : OkX r) (hkb : kb + 6 ≤ ob) (hlo : ob + 15 ≤ lo) : Met l yX8_beginTrace (ws_ yX8_beginTrace cX8_beginTrace 2 (some (.object "SongThatStays$Office"))) ({ frames := 0, cells := 0, slots := 0, locals := 0 }) (zPc [.ref ob] (OV D t ob kb lo sg kd r A) (KK D t)) (va_Qr (fun (u : RT × BT) => u.1 = r ∧ (∀ j, j < nH r → u.2 12 j = nI j ∧ u.2 13 j = nI j)) (fun u a U => a = ob ∧ OV D t ob kb lo sg kd u.1 u.2 U.heap) (oA ob)) 0 0 (oA ob) := by
  refine zOf (cc := cX8_beginTrace) (maxL := 2) (ret := (some (.object "SongThatStays$Office"))) (by decide) (Nat.le_of_ble_eq_true rfl) (fun pg ev s m below meth cd ls F hV hKK hl hnm => ?_)
  obtain ⟨hx, hb, hml, hown, hts, hr, hlk⟩ := F
  have S : CallFix pg m cd cX8_beginTrace 2 s _ lw_all RX8 := ⟨hx, hb, hml, hown, hts⟩
  have hl : lv_has ls 2 [(0, .ref ob)] := hl
  have hS : va_S (oA ob) s.heap s.heap [] := va_S.rf
  have hd0 := hX.1.1
  have hd8 := hX.1.2
  have hh3 := hX.2.2.1.1
  have hh6 := hX.2.2.1.2
  have hs5 := hX.2.1.2
  refine lv_iconst (v := 0) hx hb dX8_beginTrace_0 (by decide) ?_
  refine lv_istore_n (lv' := [(1, .int 0), (0, .ref ob)]) hx hb dX8_beginTrace_1 rfl hl (by decide) rfl (fun ls hl => ?_)
  refine W.loop (σ := Nat × RT × BT) (fun sv H locs ls => sv.1 ≤ nH r ∧ (sv.2.1 = r ∧ (∀ j, j < sv.1 → sv.2.2 12 j = nI j ∧ sv.2.2 13 j = nI j)) ∧ OV D t ob kb lo sg kd sv.2.1 sv.2.2 H ∧ va_S (oA ob) s.heap H locs ∧ lv_has ls 2 [(1, .int (nI sv.1)), (0, .ref ob)]) (fun sv => nH r - sv.1) (fun sv H locs ls hI ihk => ?_) (0, r, A) ⟨Nat.zero_le _, ⟨rfl, fun j hj => absurd hj (Nat.not_lt_zero _)⟩, hV, hS, lv_sub hl [0, 1] rfl⟩
  obtain ⟨k, r1, A1⟩ := sv
  obtain ⟨hk, hEk, hV, hS, hl⟩ := hI
  have hk : k ≤ nH r := hk
  have hEk : r1 = r ∧ (∀ j, j < k → A1 12 j = nI j ∧ A1 13 j = nI j) := hEk
  have hV : OV D t ob kb lo sg kd r1 A1 H := hV
  have hl : lv_has ls 2 [(1, .int (nI k)), (0, .ref ob)] := hl
  rw [show r1 = r from hEk.1] at hV
  refine lv_iload_n hx hb dX8_beginTrace_2 rfl (lv_at hl 0 rfl) ?_
  refine lv_aload_n hx hb dX8_beginTrace_3 rfl (lv_at hl 1 rfl) ?_
  refine o_get (v := .int (r 3)) hx hb hts hown hKK hV.1 6 (by decide) q210 rfl rfl dX8_beginTrace_4 ?_
  refine lv_icmp_ge (tgt := 30) hx hb dX8_beginTrace_7 (by decide) (fun c7 => ?_) (fun c7 => ?_)
  · have hkn : k = nH r := Nat.le_antisymm hk (lp_end hh3 (by omega) (by omega) c7)
    refine lv_aload_n hx hb dX8_beginTrace_30 rfl (lv_at hl 1 rfl) ?_
    exact o_aret hx hb hr ⟨rfl, by rw [← hkn]; exact hEk.2⟩ hV hS dX8_beginTrace_31 hlk
  · have hk2 : k < nH r := lp_go hh3 (by omega) (by omega) c7
    refine lv_aload_n hx hb dX8_beginTrace_10 rfl (lv_at hl 1 rfl) ?_
    refine o_get (v := .ref (ob + 12)) hx hb hts hown hKK hV.1 17 (by decide) q235 rfl rfl dX8_beginTrace_11 ?_
    refine lv_iload_n hx hb dX8_beginTrace_14 rfl (lv_at hl 0 rfl) ?_
    refine lv_iload_n hx hb dX8_beginTrace_15 rfl (lv_at hl 0 rfl) ?_
    refine o_astA hx hb hKK hV hkb hlo (fun q h => h) hS 12 (by decide) rfl (k := k) rfl (by omega) rfl dX8_beginTrace_16 (fun H locs hV _ _ hS => ?_)
    refine lv_aload_n hx hb dX8_beginTrace_17 rfl (lv_at hl 1 rfl) ?_
    refine o_get (v := .ref (ob + 13)) hx hb hts hown hKK hV.1 18 (by decide) q237 rfl rfl dX8_beginTrace_18 ?_
    refine lv_iload_n hx hb dX8_beginTrace_21 rfl (lv_at hl 0 rfl) ?_
    refine lv_iload_n hx hb dX8_beginTrace_22 rfl (lv_at hl 0 rfl) ?_
    refine o_astA hx hb hKK hV hkb hlo (fun q h => h) hS 13 (by decide) rfl (k := k) rfl (by omega) rfl dX8_beginTrace_23 (fun H locs hV _ _ hS => ?_)
    refine lv_iinc (v := nI (k + 1)) (lv' := [(1, .int (nI (k + 1))), (0, .ref ob)]) hx hb dX8_beginTrace_24 hl (k := 0) rfl (nI_1 k) (by decide) rfl (fun ls hl => ?_)
    refine lv_goto (tgt := 2) hx hb dX8_beginTrace_27 (by decide) ?_
    exact ihk (k + 1, r, up2 (up2 A1 12 k (nI k)) 13 k (nI k)) H locs ls (by show nH r - (k + 1) < nH r - k; omega) ⟨by show k + 1 ≤ nH r; omega, ⟨rfl, fun j hj => by have hj : j < k + 1 := hj; rcases Nat.lt_or_ge j k with z | z; (show up2 (up2 A1 12 k (nI k)) 13 k (nI k) 12 j = nI j ∧ up2 (up2 A1 12 k (nI k)) 13 k (nI k) 13 j = nI j; rw [up2_ne _ _ _ (by decide), up2_same, up2_same, up2_ne _ _ _ (by decide), upd_ne _ _ (by omega), upd_ne _ _ (by omega)]; exact hEk.2 j z); (show up2 (up2 A1 12 k (nI k)) 13 k (nI k) 12 j = nI j ∧ up2 (up2 A1 12 k (nI k)) 13 k (nI k) 13 j = nI j; rw [show j = k by omega, up2_ne _ _ _ (by decide), up2_same, up2_same, upd_self, upd_self]; exact ⟨rfl, rfl⟩)⟩, hV, hS, lv_sub hl [0, 1] rfl⟩
