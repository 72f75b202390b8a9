/-! THE MODEL HEARS: printed by wip/D-96246w/gen/gen_m4.py -/
set_option maxRecDepth 100000
set_option maxHeartbeats 4000000 in
theorem mm_hears (l : Launch) (D : va_G) (t : Nat → ClassId) (mb : Nat) (B : BT) (N j : Nat) (hm : Int32) (hj : j < nH (B 2)) (ho : Ok (B 2) N) (hhm : ∀ o, o < nH (B 2) → ((hm >>> (nI o &&& 31)) &&& 1 = 0 ↔ huS (B 2) o = false)) : Met l yX9_hears (ws_ yX9_hears cX9_hears 6 none) ({ frames := 2, cells := 0, slots := 0, locals := 49 }) (zPc [.ref mb, .int (nI j), .int hm] (MW D t mb B) (KK D t)) (va_Qv (fun B' => B' = heE B j) (fun B' U => MW D t mb B' U.heap) (mA mb)) 0 0 (mA mb) := by
  refine zOf (cc := cX9_hears) (maxL := 6) (ret := none) (by decide) (Nat.le_of_ble_eq_true rfl) (fun pg ev s m below meth cd ls F hP hKK hl hnm => ?_)
  obtain ⟨hx, hb, hml, hown, hts, hr, hlk⟩ := F
  have S : CallFix pg m cd cX9_hears 6 s _ lw_all RX9 := ⟨hx, hb, hml, hown, hts⟩
  have hl : lv_has ls 6 [(0, .ref mb), (1, .int (nI j)), (2, .int hm)] := hl
  have hS : va_S (mA mb) s.heap s.heap [] := va_S.rf
  have hj6 := ho.h6
  have hs5 := ho.s5
  refine lv_aload_n hx hb dX9_hears_0 rfl (lv_at hl 0 rfl) ?_
  refine m_get hx hb hts hown hKK hP 6 (by decide) q1253 rfl rfl dX9_hears_1 ?_
  refine lv_iload_n hx hb dX9_hears_4 rfl (lv_at hl 1 rfl) ?_
  refine lv_bipush (v := (-9)) hx hb dX9_hears_5 (by decide) ?_
  refine m_ast hx hb hKK hP hS 6 rfl (k := j) rfl (by omega) (by decide) rfl dX9_hears_7 (fun H locs hP hS => ?_)
  refine lv_aload_n hx hb dX9_hears_8 rfl (lv_at hl 0 rfl) ?_
  refine m_get hx hb hts hown hKK hP 7 (by decide) q1254 rfl rfl dX9_hears_9 ?_
  refine lv_iload_n hx hb dX9_hears_12 rfl (lv_at hl 1 rfl) ?_
  refine lv_bipush (v := (-9)) hx hb dX9_hears_13 (by decide) ?_
  refine m_ast hx hb hKK hP hS 7 rfl (k := j) rfl (by omega) (by decide) rfl dX9_hears_15 (fun H locs hP hS => ?_)
  refine lv_iconst (v := 0) hx hb dX9_hears_16 (by decide) ?_
  refine lv_istore_n (lv' := [(3, .int 0), (0, .ref mb), (1, .int (nI j)), (2, .int hm)]) hx hb dX9_hears_17 rfl hl (by decide) rfl (fun ls hl => ?_)
  refine W.loop (σ := Nat) (fun o H locs ls => o ≤ nH (B 2) ∧ (True) ∧ MW D t mb (heB B j o) H ∧ va_S (mA mb) s.heap H locs ∧ lv_has ls 6 [(3, .int (nI o)), (0, .ref mb), (1, .int (nI j)), (2, .int hm)]) (fun o => nH (B 2) - o) (fun o H locs ls hIo iho => ?_) 0 ⟨by omega, trivial, (by rw [show heB B j 0 = up2 (up2 B 6 j (-9)) 7 j (-9) from rfl]; exact hP), hS, lv_sub hl [0, 1, 2, 3] rfl⟩
  obtain ⟨ho2, hEo, hP, hS, hl⟩ := hIo
  refine lv_iload_n hx hb dX9_hears_18 rfl (lv_at hl 0 rfl) ?_
  refine lv_aload_n hx hb dX9_hears_19 rfl (lv_at hl 1 rfl) ?_
  refine m_get hx hb hts hown hKK hP 1 (by decide) q1248 rfl rfl dX9_hears_20 ?_
  refine lv_iconst (v := 3) hx hb dX9_hears_23 (by decide) ?_
  refine m_ald hx hb hKK hP 2 rfl (k := 3) (v := B 2 3) rfl (by omega) (by decide) rfl dX9_hears_24 ?_
  refine lv_icmp_ge (tgt := 189) hx hb dX9_hears_25 (by decide) (fun c25 => ?_) (fun c25 => ?_)
  · obtain rfl : o = nH (B 2) := Nat.le_antisymm ho2 (lp_end ho.hr3 (by omega) (by omega) c25)
    refine lv_aload_n hx hb dX9_hears_189 rfl (lv_at hl 1 rfl) ?_
    refine m_get hx hb hts hown hKK hP 6 (by decide) q1253 rfl rfl dX9_hears_190 ?_
    refine lv_iload_n hx hb dX9_hears_193 rfl (lv_at hl 2 rfl) ?_
    refine m_ald hx hb hKK hP 6 rfl (k := j) (v := (heL (B 2) j (nH (B 2))).1) rfl (by omega) (by decide) (heB_6 B j (nH (B 2))) dX9_hears_194 ?_
    refine lv_if_lt (tgt := 244) hx hb dX9_hears_195 (by decide) (fun c195 => ?_) (fun c195 => ?_)
    · exact m_vret hx hb hr (by first | exact heE_lo c195 | exact heE_drop c195 (by grind) | exact heE_keep c214 (by grind)) hP hS dX9_hears_244 hlk
    · have hh := heL_ix ho (j := j) (Nat.le_refl _) c195
      refine lv_aload_n hx hb dX9_hears_198 rfl (lv_at hl 1 rfl) ?_
      refine lv_aload_n hx hb dX9_hears_199 rfl (lv_at hl 1 rfl) ?_
      refine m_get hx hb hts hown hKK hP 6 (by decide) q1253 rfl rfl dX9_hears_200 ?_
      refine lv_iload_n hx hb dX9_hears_203 rfl (lv_at hl 2 rfl) ?_
      refine m_ald hx hb hKK hP 6 rfl (k := j) (v := (heL (B 2) j (nH (B 2))).1) rfl (by omega) (by decide) (heB_6 B j (nH (B 2))) dX9_hears_204 ?_
      refine lv_iconst (v := 1) hx hb dX9_hears_205 (by decide) ?_
      refine z_stk (st' := [.int 1, .int (nI (ix (heL (B 2) j (nH (B 2))).1)), .ref mb]) (by rw [← show (heL (B 2) j (nH (B 2))).1 = nI (ix (heL (B 2) j (nH (B 2))).1) from hh.1]) ?_
      refine m_callr (As := [.int (nI (ix (heL (B 2) j (nH (B 2))).1)), .int 1]) (rest := []) S hKK hP (mm_of l D t mb (heB B j (nH (B 2))) (ix (heL (B 2) j (nH (B 2))).1) 1 (by omega)) (cwV 2 hts (lw_V q1374 q1376 qs73 q104 q1377) rfl rfl rfl (by decide +kernel) ⟨Nat.le_of_ble_eq_true rfl, Nat.le_of_ble_eq_true rfl⟩) rfl hl.1 rfl (Nat.le_of_ble_eq_true rfl) dX9_hears_206 ⟨Nat.le_of_ble_eq_true rfl, Nat.le_of_ble_eq_true rfl⟩ ?_
      refine z_top (y := B 2 (22 + 3 * ix (heL (B 2) j (nH (B 2))).1 + 1)) rfl ?_
      refine lv_aload_n hx hb dX9_hears_209 rfl (lv_at hl 1 rfl) ?_
      refine lv_iload_n hx hb dX9_hears_210 rfl (lv_at hl 2 rfl) ?_
      refine m_callr (As := [.int (nI j)]) (rest := [.int (B 2 (22 + 3 * ix (heL (B 2) j (nH (B 2))).1 + 1))]) S hKK hP (mm_bar l D t mb (heB B j (nH (B 2))) j (by omega)) (cwV 1 hts (lw_V q1394 q1396 qs76 q104 q1397) rfl rfl rfl (by decide +kernel) ⟨Nat.le_of_ble_eq_true rfl, Nat.le_of_ble_eq_true rfl⟩) rfl hl.1 rfl (Nat.le_of_ble_eq_true rfl) dX9_hears_211 ⟨Nat.le_of_ble_eq_true rfl, Nat.le_of_ble_eq_true rfl⟩ ?_
      refine z_top (y := baS (B 2) j) rfl ?_
      refine lv_icmp_le (tgt := 236) hx hb dX9_hears_214 (by decide) (fun c214 => ?_) (fun c214 => ?_)
      · refine lv_aload_n hx hb dX9_hears_236 rfl (lv_at hl 1 rfl) ?_
        refine m_get hx hb hts hown hKK hP 6 (by decide) q1253 rfl rfl dX9_hears_237 ?_
        refine lv_iload_n hx hb dX9_hears_240 rfl (lv_at hl 2 rfl) ?_
        refine lv_bipush (v := (-9)) hx hb dX9_hears_241 (by decide) ?_
        refine m_ast hx hb hKK hP hS 6 rfl (k := j) rfl (by omega) (by decide) rfl dX9_hears_243 (fun H locs hP hS => ?_)
        exact m_vret hx hb hr (by first | exact heE_lo c195 | exact heE_drop c195 (by grind) | exact heE_keep c214 (by grind)) hP hS dX9_hears_244 hlk
      · refine lv_aload_n hx hb dX9_hears_217 rfl (lv_at hl 1 rfl) ?_
        refine lv_aload_n hx hb dX9_hears_218 rfl (lv_at hl 1 rfl) ?_
        refine m_get hx hb hts hown hKK hP 6 (by decide) q1253 rfl rfl dX9_hears_219 ?_
        refine lv_iload_n hx hb dX9_hears_222 rfl (lv_at hl 2 rfl) ?_
        refine m_ald hx hb hKK hP 6 rfl (k := j) (v := (heL (B 2) j (nH (B 2))).1) rfl (by omega) (by decide) (heB_6 B j (nH (B 2))) dX9_hears_223 ?_
        refine z_stk (st' := [.int (nI (ix (heL (B 2) j (nH (B 2))).1)), .ref mb]) (by rw [← show (heL (B 2) j (nH (B 2))).1 = nI (ix (heL (B 2) j (nH (B 2))).1) from hh.1]) ?_
        refine m_callr (As := [.int (nI (ix (heL (B 2) j (nH (B 2))).1))]) (rest := []) S hKK hP (mm_fresh l D t mb (heB B j (nH (B 2))) (ix (heL (B 2) j (nH (B 2))).1) (by omega)) (cwV 1 hts (lw_V q1370 q1372 qs72 q104 q1373) rfl rfl rfl (by decide +kernel) ⟨Nat.le_of_ble_eq_true rfl, Nat.le_of_ble_eq_true rfl⟩) rfl hl.1 rfl (Nat.le_of_ble_eq_true rfl) dX9_hears_224 ⟨Nat.le_of_ble_eq_true rfl, Nat.le_of_ble_eq_true rfl⟩ ?_
        refine z_top (y := frS (B 2) (ix (heL (B 2) j (nH (B 2))).1)) rfl ?_
        refine lv_aload_n hx hb dX9_hears_227 rfl (lv_at hl 1 rfl) ?_
        refine lv_iload_n hx hb dX9_hears_228 rfl (lv_at hl 2 rfl) ?_
        refine lv_iconst (v := 4) hx hb dX9_hears_229 (by decide) ?_
        refine m_callr (As := [.int (nI j), .int 4]) (rest := [.int (frS (B 2) (ix (heL (B 2) j (nH (B 2))).1))]) S hKK hP (mm_at l D t mb (heB B j (nH (B 2))) j 4 (by omega)) (cwV 2 hts (lw_V q1386 q1388 qs75 q104 q1389) rfl rfl rfl (by decide +kernel) ⟨Nat.le_of_ble_eq_true rfl, Nat.le_of_ble_eq_true rfl⟩) rfl hl.1 rfl (Nat.le_of_ble_eq_true rfl) dX9_hears_230 ⟨Nat.le_of_ble_eq_true rfl, Nat.le_of_ble_eq_true rfl⟩ ?_
        refine z_top (y := B 2 (37 + 6 * j + 4)) rfl ?_
        refine lv_icmp_gt (tgt := 244) hx hb dX9_hears_233 (by decide) (fun c233 => ?_) (fun c233 => ?_)
        · exact m_vret hx hb hr (by first | exact heE_lo c195 | exact heE_drop c195 (by grind) | exact heE_keep c214 (by grind)) hP hS dX9_hears_244 hlk
        · refine lv_aload_n hx hb dX9_hears_236 rfl (lv_at hl 1 rfl) ?_
          refine m_get hx hb hts hown hKK hP 6 (by decide) q1253 rfl rfl dX9_hears_237 ?_
          refine lv_iload_n hx hb dX9_hears_240 rfl (lv_at hl 2 rfl) ?_
          refine lv_bipush (v := (-9)) hx hb dX9_hears_241 (by decide) ?_
          refine m_ast hx hb hKK hP hS 6 rfl (k := j) rfl (by omega) (by decide) rfl dX9_hears_243 (fun H locs hP hS => ?_)
          exact m_vret hx hb hr (by first | exact heE_lo c195 | exact heE_drop c195 (by grind) | exact heE_keep c214 (by grind)) hP hS dX9_hears_244 hlk
  · have ho3 : o < nH (B 2) := lp_go ho.hr3 (by omega) (by omega) c25
    refine lv_iload_n hx hb dX9_hears_28 rfl (lv_at hl 3 rfl) ?_
    refine lv_iload_n hx hb dX9_hears_29 rfl (lv_at hl 0 rfl) ?_
    refine lv_ishr hx hb dX9_hears_30 ?_
    refine lv_iconst (v := 1) hx hb dX9_hears_31 (by decide) ?_
    refine lv_iand hx hb dX9_hears_32 ?_
    refine lv_if_eq (tgt := 183) hx hb dX9_hears_33 (by decide) (fun c33 => ?_) (fun c33 => ?_)
    · have hu := (hhm o ho3).mp c33
      refine lv_iinc (v := nI (o + 1)) (lv' := [(3, .int (nI (o + 1))), (0, .ref mb), (1, .int (nI j)), (2, .int hm)]) hx hb dX9_hears_183 hl (k := 0) rfl (nI_1 o) (by decide) rfl (fun ls hl => ?_)
      refine lv_goto (tgt := 18) hx hb dX9_hears_186 (by decide) ?_
      exact iho (o + 1) H locs ls (by omega) ⟨by omega, trivial, (by rw [show heB B j (o + 1) = heB B j o from (heB_skip (by first | (rw [hu]; simp; done) | (rw [c42]; simp; done) | (simp only [c57]; simp; done)))]; exact hP), hS, lv_sub hl [0, 1, 2, 3] rfl⟩
    · have hu : huS (B 2) o = true := by cases q : huS (B 2) o with | true => rfl | false => exact absurd ((hhm o ho3).mpr q) c33
      refine lv_aload_n hx hb dX9_hears_36 rfl (lv_at hl 1 rfl) ?_
      refine lv_iload_n hx hb dX9_hears_37 rfl (lv_at hl 2 rfl) ?_
      refine lv_iload_n hx hb dX9_hears_38 rfl (lv_at hl 0 rfl) ?_
      refine m_callr (As := [.int (nI j), .int (nI o)]) (rest := []) S hKK hP (mm_areNear l D t mb (heB B j o) j o (by omega) (by omega) ho.hr0 ho.d8) (cwV 2 hts (lw_V q1406 q1408 qs78 q104 q1409) rfl rfl rfl (by decide +kernel) ⟨Nat.le_of_ble_eq_true rfl, Nat.le_of_ble_eq_true rfl⟩) rfl hl.1 rfl (Nat.le_of_ble_eq_true rfl) dX9_hears_39 ⟨Nat.le_of_ble_eq_true rfl, Nat.le_of_ble_eq_true rfl⟩ ?_
      refine z_top (y := bI (neS (B 2) j o)) rfl ?_
      refine z_ifeq (tgt := 183) hx hb dX9_hears_42 (by decide) (fun c42 => ?_) (fun c42 => ?_)
      · refine lv_iinc (v := nI (o + 1)) (lv' := [(3, .int (nI (o + 1))), (0, .ref mb), (1, .int (nI j)), (2, .int hm)]) hx hb dX9_hears_183 hl (k := 0) rfl (nI_1 o) (by decide) rfl (fun ls hl => ?_)
        refine lv_goto (tgt := 18) hx hb dX9_hears_186 (by decide) ?_
        exact iho (o + 1) H locs ls (by omega) ⟨by omega, trivial, (by rw [show heB B j (o + 1) = heB B j o from (heB_skip (by first | (rw [hu]; simp; done) | (rw [c42]; simp; done) | (simp only [c57]; simp; done)))]; exact hP), hS, lv_sub hl [0, 1, 2, 3] rfl⟩
      · refine lv_aload_n hx hb dX9_hears_45 rfl (lv_at hl 1 rfl) ?_
        refine lv_iload_n hx hb dX9_hears_46 rfl (lv_at hl 0 rfl) ?_
        refine lv_iconst (v := 3) hx hb dX9_hears_47 (by decide) ?_
        refine m_callr (As := [.int (nI o), .int 3]) (rest := []) S hKK hP (mm_at l D t mb (heB B j o) o 3 (by omega)) (cwV 2 hts (lw_V q1386 q1388 qs75 q104 q1389) rfl rfl rfl (by decide +kernel) ⟨Nat.le_of_ble_eq_true rfl, Nat.le_of_ble_eq_true rfl⟩) rfl hl.1 rfl (Nat.le_of_ble_eq_true rfl) dX9_hears_48 ⟨Nat.le_of_ble_eq_true rfl, Nat.le_of_ble_eq_true rfl⟩ ?_
        refine z_top (y := B 2 (37 + 6 * o + 3)) rfl ?_
        refine lv_aload_n hx hb dX9_hears_51 rfl (lv_at hl 1 rfl) ?_
        refine lv_iload_n hx hb dX9_hears_52 rfl (lv_at hl 2 rfl) ?_
        refine lv_iconst (v := 3) hx hb dX9_hears_53 (by decide) ?_
        refine m_callr (As := [.int (nI j), .int 3]) (rest := [.int (B 2 (37 + 6 * o + 3))]) S hKK hP (mm_at l D t mb (heB B j o) j 3 (by omega)) (cwV 2 hts (lw_V q1386 q1388 qs75 q104 q1389) rfl rfl rfl (by decide +kernel) ⟨Nat.le_of_ble_eq_true rfl, Nat.le_of_ble_eq_true rfl⟩) rfl hl.1 rfl (Nat.le_of_ble_eq_true rfl) dX9_hears_54 ⟨Nat.le_of_ble_eq_true rfl, Nat.le_of_ble_eq_true rfl⟩ ?_
        refine z_top (y := B 2 (37 + 6 * j + 3)) rfl ?_
        refine lv_icmp_ne (tgt := 63) hx hb dX9_hears_57 (by decide) (fun c57 => ?_) (fun c57 => ?_)
        · have hs : B 2 (37 + 6 * o + 3) = nI (ix (B 2 (37 + 6 * o + 3))) ∧ ix (B 2 (37 + 6 * o + 3)) < nS (B 2) := ho.hasIx ho3 (huS_has hu)
          refine lv_aload_n hx hb dX9_hears_63 rfl (lv_at hl 1 rfl) ?_
          refine lv_iload_n hx hb dX9_hears_64 rfl (lv_at hl 0 rfl) ?_
          refine lv_iconst (v := 3) hx hb dX9_hears_65 (by decide) ?_
          refine m_callr (As := [.int (nI o), .int 3]) (rest := []) S hKK hP (mm_at l D t mb (heB B j o) o 3 (by omega)) (cwV 2 hts (lw_V q1386 q1388 qs75 q104 q1389) rfl rfl rfl (by decide +kernel) ⟨Nat.le_of_ble_eq_true rfl, Nat.le_of_ble_eq_true rfl⟩) rfl hl.1 rfl (Nat.le_of_ble_eq_true rfl) dX9_hears_66 ⟨Nat.le_of_ble_eq_true rfl, Nat.le_of_ble_eq_true rfl⟩ ?_
          refine z_top (y := B 2 (37 + 6 * o + 3)) rfl ?_
          refine lv_istore (lv' := [(4, .int (B 2 (37 + 6 * o + 3))), (3, .int (nI o)), (0, .ref mb), (1, .int (nI j)), (2, .int hm)]) hx hb dX9_hears_69 hl (by decide) rfl (fun ls hl => ?_)
          refine W.join (fun vJ => F0 m 138 ls (.int vJ :: [])) (fun vJ => vJ = bI (betB (B 2) j o)) (fun vJ hJ => ?_) (fun J => ?_)
          · subst hJ
            refine lv_istore (lv' := [(5, .int (bI (betB (B 2) j o))), (4, .int (B 2 (37 + 6 * o + 3))), (3, .int (nI o)), (0, .ref mb), (1, .int (nI j)), (2, .int hm)]) hx hb dX9_hears_138 hl (by decide) rfl (fun ls hl => ?_)
            refine lv_aload_n hx hb dX9_hears_140 rfl (lv_at hl 3 rfl) ?_
            refine m_get hx hb hts hown hKK hP 7 (by decide) q1254 rfl rfl dX9_hears_141 ?_
            refine lv_iload_n hx hb dX9_hears_144 rfl (lv_at hl 4 rfl) ?_
            refine W.join (fun vJ => F0 m 160 ls (.int vJ :: [.int (nI j), .ref (mb + 7)])) (fun vJ => vJ = (if betB (B 2) j o = true then nI o else (heL (B 2) j o).2)) (fun vJ hJ => ?_) (fun J2 => ?_)
            · subst hJ
              refine m_ast hx hb hKK hP hS 7 rfl (k := j) rfl (by omega) (by decide) rfl dX9_hears_160 (fun H locs hP hS => ?_)
              refine lv_aload_n hx hb dX9_hears_161 rfl (lv_at hl 3 rfl) ?_
              refine m_get hx hb hts hown hKK hP 6 (by decide) q1253 rfl rfl dX9_hears_162 ?_
              refine lv_iload_n hx hb dX9_hears_165 rfl (lv_at hl 4 rfl) ?_
              refine W.join (fun vJ => F0 m 182 ls (.int vJ :: [.int (nI j), .ref (mb + 6)])) (fun vJ => vJ = (if betB (B 2) j o = true then B 2 (37 + 6 * o + 3) else (heL (B 2) j o).1)) (fun vJ hJ => ?_) (fun J3 => ?_)
              · subst hJ
                refine m_ast hx hb hKK hP hS 6 rfl (k := j) rfl (by omega) (by decide) rfl dX9_hears_182 (fun H locs hP hS => ?_)
                refine lv_iinc (v := nI (o + 1)) (lv' := [(3, .int (nI (o + 1))), (5, .int (bI (betB (B 2) j o))), (4, .int (B 2 (37 + 6 * o + 3))), (0, .ref mb), (1, .int (nI j)), (2, .int hm)]) hx hb dX9_hears_183 hl (k := 2) rfl (nI_1 o) (by decide) rfl (fun ls hl => ?_)
                refine lv_goto (tgt := 18) hx hb dX9_hears_186 (by decide) ?_
                exact iho (o + 1) H locs ls (by omega) ⟨by omega, trivial, (by rw [show heB B j (o + 1) = up2 (up2 (heB B j o) 7 j (if betB (B 2) j o = true then nI o else (heL (B 2) j o).2)) 6 j (if betB (B 2) j o = true then B 2 (37 + 6 * o + 3) else (heL (B 2) j o).1) from (heB_step hu c42 c57)]; exact hP), hS, lv_sub hl [0, 3, 4, 5] rfl⟩
              · refine lv_iload hx hb dX9_hears_166 (lv_at hl 0 rfl) ?_
                refine z_ifeq (tgt := 176) hx hb dX9_hears_168 (by decide) (fun c168 => ?_) (fun c168 => ?_)
                · refine lv_aload_n hx hb dX9_hears_176 rfl (lv_at hl 3 rfl) ?_
                  refine m_get hx hb hts hown hKK hP 6 (by decide) q1253 rfl rfl dX9_hears_177 ?_
                  refine lv_iload_n hx hb dX9_hears_180 rfl (lv_at hl 4 rfl) ?_
                  refine m_ald hx hb hKK hP 6 rfl (k := j) (v := (heL (B 2) j o).1) rfl (by omega) (by decide) (heB_6 B j o) dX9_hears_181 ?_
                  exact J3 _ (by grind)
                · refine lv_iload hx hb dX9_hears_171 (lv_at hl 1 rfl) ?_
                  refine lv_goto (tgt := 182) hx hb dX9_hears_173 (by decide) ?_
                  exact J3 _ (by grind)
            · refine lv_iload hx hb dX9_hears_145 (lv_at hl 0 rfl) ?_
              refine z_ifeq (tgt := 154) hx hb dX9_hears_147 (by decide) (fun c147 => ?_) (fun c147 => ?_)
              · refine lv_aload_n hx hb dX9_hears_154 rfl (lv_at hl 3 rfl) ?_
                refine m_get hx hb hts hown hKK hP 7 (by decide) q1254 rfl rfl dX9_hears_155 ?_
                refine lv_iload_n hx hb dX9_hears_158 rfl (lv_at hl 4 rfl) ?_
                refine m_ald hx hb hKK hP 7 rfl (k := j) (v := (heL (B 2) j o).2) rfl (by omega) (by decide) (heB_7 B j o) dX9_hears_159 ?_
                exact J2 _ (by grind)
              · refine lv_iload_n hx hb dX9_hears_150 rfl (lv_at hl 2 rfl) ?_
                refine lv_goto (tgt := 160) hx hb dX9_hears_151 (by decide) ?_
                exact J2 _ (by grind)
          · refine lv_aload_n hx hb dX9_hears_71 rfl (lv_at hl 2 rfl) ?_
            refine m_get hx hb hts hown hKK hP 6 (by decide) q1253 rfl rfl dX9_hears_72 ?_
            refine lv_iload_n hx hb dX9_hears_75 rfl (lv_at hl 3 rfl) ?_
            refine m_ald hx hb hKK hP 6 rfl (k := j) (v := (heL (B 2) j o).1) rfl (by omega) (by decide) (heB_6 B j o) dX9_hears_76 ?_
            refine lv_if_lt (tgt := 133) hx hb dX9_hears_77 (by decide) (fun c77 => ?_) (fun c77 => ?_)
            · refine lv_iconst (v := 1) hx hb dX9_hears_133 (by decide) ?_
              refine lv_goto (tgt := 138) hx hb dX9_hears_134 (by decide) ?_
              exact J _ (by simp only [betB, hd, so]; grind [bI])
            · have hh := heL_ix ho (j := j) ho2 c77
              refine lv_aload_n hx hb dX9_hears_80 rfl (lv_at hl 2 rfl) ?_
              refine lv_iload hx hb dX9_hears_81 (lv_at hl 0 rfl) ?_
              refine lv_iconst (v := 1) hx hb dX9_hears_83 (by decide) ?_
              refine z_stk (st' := [.int 1, .int (nI (ix (B 2 (37 + 6 * o + 3)))), .ref mb]) (by rw [← show B 2 (37 + 6 * o + 3) = nI (ix (B 2 (37 + 6 * o + 3))) from hs.1]) ?_
              refine m_callr (As := [.int (nI (ix (B 2 (37 + 6 * o + 3)))), .int 1]) (rest := []) S hKK hP (mm_of l D t mb (heB B j o) (ix (B 2 (37 + 6 * o + 3))) 1 (by omega)) (cwV 2 hts (lw_V q1374 q1376 qs73 q104 q1377) rfl rfl rfl (by decide +kernel) ⟨Nat.le_of_ble_eq_true rfl, Nat.le_of_ble_eq_true rfl⟩) rfl hl.1 rfl (Nat.le_of_ble_eq_true rfl) dX9_hears_84 ⟨Nat.le_of_ble_eq_true rfl, Nat.le_of_ble_eq_true rfl⟩ ?_
              refine z_top (y := B 2 (22 + 3 * ix (B 2 (37 + 6 * o + 3)) + 1)) rfl ?_
              refine lv_aload_n hx hb dX9_hears_87 rfl (lv_at hl 2 rfl) ?_
              refine lv_aload_n hx hb dX9_hears_88 rfl (lv_at hl 2 rfl) ?_
              refine m_get hx hb hts hown hKK hP 6 (by decide) q1253 rfl rfl dX9_hears_89 ?_
              refine lv_iload_n hx hb dX9_hears_92 rfl (lv_at hl 3 rfl) ?_
              refine m_ald hx hb hKK hP 6 rfl (k := j) (v := (heL (B 2) j o).1) rfl (by omega) (by decide) (heB_6 B j o) dX9_hears_93 ?_
              refine lv_iconst (v := 1) hx hb dX9_hears_94 (by decide) ?_
              refine z_stk (st' := [.int 1, .int (nI (ix (heL (B 2) j o).1)), .ref mb, .int (B 2 (22 + 3 * ix (B 2 (37 + 6 * o + 3)) + 1))]) (by rw [← show (heL (B 2) j o).1 = nI (ix (heL (B 2) j o).1) from hh.1]) ?_
              refine m_callr (As := [.int (nI (ix (heL (B 2) j o).1)), .int 1]) (rest := [.int (B 2 (22 + 3 * ix (B 2 (37 + 6 * o + 3)) + 1))]) S hKK hP (mm_of l D t mb (heB B j o) (ix (heL (B 2) j o).1) 1 (by omega)) (cwV 2 hts (lw_V q1374 q1376 qs73 q104 q1377) rfl rfl rfl (by decide +kernel) ⟨Nat.le_of_ble_eq_true rfl, Nat.le_of_ble_eq_true rfl⟩) rfl hl.1 rfl (Nat.le_of_ble_eq_true rfl) dX9_hears_95 ⟨Nat.le_of_ble_eq_true rfl, Nat.le_of_ble_eq_true rfl⟩ ?_
              refine z_top (y := B 2 (22 + 3 * ix (heL (B 2) j o).1 + 1)) rfl ?_
              refine lv_icmp_gt (tgt := 133) hx hb dX9_hears_98 (by decide) (fun c98 => ?_) (fun c98 => ?_)
              · refine lv_iconst (v := 1) hx hb dX9_hears_133 (by decide) ?_
                refine lv_goto (tgt := 138) hx hb dX9_hears_134 (by decide) ?_
                exact J _ (by simp only [betB, hd, so]; grind [bI])
              · refine lv_aload_n hx hb dX9_hears_101 rfl (lv_at hl 2 rfl) ?_
                refine lv_iload hx hb dX9_hears_102 (lv_at hl 0 rfl) ?_
                refine lv_iconst (v := 1) hx hb dX9_hears_104 (by decide) ?_
                refine z_stk (st' := [.int 1, .int (nI (ix (B 2 (37 + 6 * o + 3)))), .ref mb]) (by rw [← show B 2 (37 + 6 * o + 3) = nI (ix (B 2 (37 + 6 * o + 3))) from hs.1]) ?_
                refine m_callr (As := [.int (nI (ix (B 2 (37 + 6 * o + 3)))), .int 1]) (rest := []) S hKK hP (mm_of l D t mb (heB B j o) (ix (B 2 (37 + 6 * o + 3))) 1 (by omega)) (cwV 2 hts (lw_V q1374 q1376 qs73 q104 q1377) rfl rfl rfl (by decide +kernel) ⟨Nat.le_of_ble_eq_true rfl, Nat.le_of_ble_eq_true rfl⟩) rfl hl.1 rfl (Nat.le_of_ble_eq_true rfl) dX9_hears_105 ⟨Nat.le_of_ble_eq_true rfl, Nat.le_of_ble_eq_true rfl⟩ ?_
                refine z_top (y := B 2 (22 + 3 * ix (B 2 (37 + 6 * o + 3)) + 1)) rfl ?_
                refine lv_aload_n hx hb dX9_hears_108 rfl (lv_at hl 2 rfl) ?_
                refine lv_aload_n hx hb dX9_hears_109 rfl (lv_at hl 2 rfl) ?_
                refine m_get hx hb hts hown hKK hP 6 (by decide) q1253 rfl rfl dX9_hears_110 ?_
                refine lv_iload_n hx hb dX9_hears_113 rfl (lv_at hl 3 rfl) ?_
                refine m_ald hx hb hKK hP 6 rfl (k := j) (v := (heL (B 2) j o).1) rfl (by omega) (by decide) (heB_6 B j o) dX9_hears_114 ?_
                refine lv_iconst (v := 1) hx hb dX9_hears_115 (by decide) ?_
                refine z_stk (st' := [.int 1, .int (nI (ix (heL (B 2) j o).1)), .ref mb, .int (B 2 (22 + 3 * ix (B 2 (37 + 6 * o + 3)) + 1))]) (by rw [← show (heL (B 2) j o).1 = nI (ix (heL (B 2) j o).1) from hh.1]) ?_
                refine m_callr (As := [.int (nI (ix (heL (B 2) j o).1)), .int 1]) (rest := [.int (B 2 (22 + 3 * ix (B 2 (37 + 6 * o + 3)) + 1))]) S hKK hP (mm_of l D t mb (heB B j o) (ix (heL (B 2) j o).1) 1 (by omega)) (cwV 2 hts (lw_V q1374 q1376 qs73 q104 q1377) rfl rfl rfl (by decide +kernel) ⟨Nat.le_of_ble_eq_true rfl, Nat.le_of_ble_eq_true rfl⟩) rfl hl.1 rfl (Nat.le_of_ble_eq_true rfl) dX9_hears_116 ⟨Nat.le_of_ble_eq_true rfl, Nat.le_of_ble_eq_true rfl⟩ ?_
                refine z_top (y := B 2 (22 + 3 * ix (heL (B 2) j o).1 + 1)) rfl ?_
                refine lv_icmp_ne (tgt := 137) hx hb dX9_hears_119 (by decide) (fun c119 => ?_) (fun c119 => ?_)
                · refine lv_iconst (v := 0) hx hb dX9_hears_137 (by decide) ?_
                  exact J _ (by simp only [betB, hd, so]; grind [bI])
                · refine lv_iload hx hb dX9_hears_122 (lv_at hl 0 rfl) ?_
                  refine lv_aload_n hx hb dX9_hears_124 rfl (lv_at hl 2 rfl) ?_
                  refine m_get hx hb hts hown hKK hP 6 (by decide) q1253 rfl rfl dX9_hears_125 ?_
                  refine lv_iload_n hx hb dX9_hears_128 rfl (lv_at hl 3 rfl) ?_
                  refine m_ald hx hb hKK hP 6 rfl (k := j) (v := (heL (B 2) j o).1) rfl (by omega) (by decide) (heB_6 B j o) dX9_hears_129 ?_
                  refine lv_icmp_ge (tgt := 137) hx hb dX9_hears_130 (by decide) (fun c130 => ?_) (fun c130 => ?_)
                  · refine lv_iconst (v := 0) hx hb dX9_hears_137 (by decide) ?_
                    exact J _ (by simp only [betB, hd, so]; grind [bI])
                  · refine lv_iconst (v := 1) hx hb dX9_hears_133 (by decide) ?_
                    refine lv_goto (tgt := 138) hx hb dX9_hears_134 (by decide) ?_
                    exact J _ (by simp only [betB, hd, so]; grind [bI])
        · refine lv_goto (tgt := 183) hx hb dX9_hears_60 (by decide) ?_
          refine lv_iinc (v := nI (o + 1)) (lv' := [(3, .int (nI (o + 1))), (0, .ref mb), (1, .int (nI j)), (2, .int hm)]) hx hb dX9_hears_183 hl (k := 0) rfl (nI_1 o) (by decide) rfl (fun ls hl => ?_)
          refine lv_goto (tgt := 18) hx hb dX9_hears_186 (by decide) ?_
          exact iho (o + 1) H locs ls (by omega) ⟨by omega, trivial, (by rw [show heB B j (o + 1) = heB B j o from (heB_skip (by first | (rw [hu]; simp; done) | (rw [c42]; simp; done) | (simp only [c57]; simp; done)))]; exact hP), hS, lv_sub hl [0, 1, 2, 3] rfl⟩
